set_option maxRecDepth 100000
section ZSITE
variable {d : Nat} {st : List Value} {z : ZH} {Q : ZQ}
/-- X1_init ()V -/
theorem e59 {r0 : Nat} : ZC zG d 59 [.ref r0] z Q = ZW zG d 59 0 [.ref r0] [] z Q := rfl
theorem s59_0 {x0 : Value} : ZW zG d 59 0 [x0] st z Q = (zir x0 = true ∧ ZW zG d 59 1 [x0] (x0 :: st) z Q) := zw_cond (f := z_aload 0 1) rfl rfl
theorem s59_1 {ls : List Value} {r : Nat} : ZW zG d 59 1 ls (.ref r :: st) z Q = ((zcs st = true) ∧ ZW zG d 59 4 ls (st) (z) Q) := zw_oinit rfl
theorem s59_4 {x0 : Value} : ZW zG d 59 4 [x0] st z Q = (zir x0 = true ∧ ZW zG d 59 5 [x0] (x0 :: st) z Q) := zw_cond (f := z_aload 0 5) rfl rfl
theorem s59_5 {ls : List Value}  : ZW zG d 59 5 ls (st) z Q = ZW zG d 59 8 ls (.ref (zn z) :: st) (snew z 2 5) Q := zw_new rfl
theorem s59_8 {ls : List Value} {r : Nat} : ZW zG d 59 8 ls (.ref r :: st) z Q = ZW zG d 59 9 ls (.ref r :: .ref r :: st) z Q := zw_dupr rfl
theorem s59_9 {ls : List Value}  {r : Nat} : ZW zG (d + 1) 59 9 ls (.ref r :: st) z Q = (zcs st = true ∧ ZC zG d 62 [.ref r] z (zk zG (d + 1) 59 (none) 12 ls st Q)) := zc_I0 rfl (Nat.le_of_ble_eq_true rfl)
theorem s59_12 {ls : List Value} {v : Value} {r : Nat} : ZW zG d 59 12 ls (v :: .ref r :: st) z Q = ((zcls z r = 1 ∧ zir v = true) ∧ ZW zG d 59 15 ls (st) (sfr z r 0 v) Q) := zw_putR rfl
theorem s59_15 {x0 : Value} : ZW zG d 59 15 [x0] st z Q = (zir x0 = true ∧ ZW zG d 59 16 [x0] (x0 :: st) z Q) := zw_cond (f := z_aload 0 16) rfl rfl
theorem s59_16 {ls : List Value}  : ZW zG d 59 16 ls (st) z Q = ZW zG d 59 19 ls (.ref (zn z) :: st) (snew z 3 6) Q := zw_new rfl
theorem s59_19 {ls : List Value} {r : Nat} : ZW zG d 59 19 ls (.ref r :: st) z Q = ZW zG d 59 20 ls (.ref r :: .ref r :: st) z Q := zw_dupr rfl
theorem s59_20 {ls : List Value}  {r : Nat} : ZW zG (d + 1) 59 20 ls (.ref r :: st) z Q = (zcs st = true ∧ ZC zG d 66 [.ref r] z (zk zG (d + 1) 59 (none) 23 ls st Q)) := zc_I0 rfl (Nat.le_of_ble_eq_true rfl)
theorem s59_23 {ls : List Value} {v : Value} {r : Nat} : ZW zG d 59 23 ls (v :: .ref r :: st) z Q = ((zcls z r = 1 ∧ zir v = true) ∧ ZW zG d 59 26 ls (st) (sfr z r 1 v) Q) := zw_putR rfl
theorem s59_26 {x0 : Value} : ZW zG d 59 26 [x0] st z Q = (zir x0 = true ∧ ZW zG d 59 27 [x0] (x0 :: st) z Q) := zw_cond (f := z_aload 0 27) rfl rfl
theorem s59_27 {ls : List Value}  : ZW zG d 59 27 ls (st) z Q = ZW zG d 59 30 ls (.ref (zn z) :: st) (snew z 24 3) Q := zw_new rfl
theorem s59_30 {ls : List Value} {r : Nat} : ZW zG d 59 30 ls (.ref r :: st) z Q = ZW zG d 59 31 ls (.ref r :: .ref r :: st) z Q := zw_dupr rfl
theorem s59_31 {ls : List Value}  : ZW zG d 59 31 ls (st) z Q = ZW zG d 59 33 ls ((.int (nI 8)) :: st) z Q := zw_push rfl
theorem s59_33 {ls : List Value} {a : Int32} {r : Nat} : ZW zG d 59 33 ls (.int a :: .ref r :: st) z Q = ((zcs st = true ∧ zcls z r = 24 ∧ (zin a 1000 = true ∧ ¬ a = 0) ∧ zfi z r 2 = 0) ∧ ZW zG d 59 36 ls (st) (slin z r (zx a)) Q) := zw_linit rfl
theorem s59_36 {ls : List Value} {v : Value} {r : Nat} : ZW zG d 59 36 ls (v :: .ref r :: st) z Q = ((zcls z r = 1 ∧ zir v = true) ∧ ZW zG d 59 39 ls (st) (sfr z r 2 v) Q) := zw_putR rfl
theorem s59_39 {x0 : Value} : ZW zG d 59 39 [x0] st z Q = (zir x0 = true ∧ ZW zG d 59 40 [x0] (x0 :: st) z Q) := zw_cond (f := z_aload 0 40) rfl rfl
theorem s59_40 {x0 : Value} : ZW zG d 59 40 [x0] st z Q = (zir x0 = true ∧ ZW zG d 59 41 [x0] (x0 :: st) z Q) := zw_cond (f := z_aload 0 41) rfl rfl
theorem s59_41 {ls : List Value} {r : Nat} : ZW zG d 59 41 ls (.ref r :: st) z Q = ((zcls z r = 1 ∧ zir (zfr z r 0) = true) ∧ ZW zG d 59 44 ls (zfr z r 0 :: st) (z) Q) := zw_getR rfl
theorem s59_44 {ls : List Value} {w0 : Nat} {r : Nat} : ZW zG (d + 1) 59 44 ls (.ref w0 :: .ref r :: st) z Q = (zcls z r = 1 ∧ zcs st = true ∧ ZC zG d 60 [.ref r, .ref w0] z (zk zG (d + 1) 59 (none) 47 ls st Q)) := zc_V1 rfl (Nat.le_of_ble_eq_true rfl)
theorem s59_47 {ls : List Value}  : ZW zG d 59 47 ls ([]) z Q = Q (.inl none) z := zw_ret rfl
/-- X1_begins (LCardBowl$Town;)V -/
theorem e60 {r0 : Nat} {v0 : Nat} : ZC zG d 60 [.ref r0, .ref v0] z Q = ZW zG d 60 0 [.ref r0, .ref v0] [] z Q := rfl
theorem s60_0 {x0 x1 : Value} : ZW zG d 60 0 [x0, x1] st z Q = (zir x0 = true ∧ ZW zG d 60 1 [x0, x1] (x0 :: st) z Q) := zw_cond (f := z_aload 0 1) rfl rfl
theorem s60_1 {x0 x1 : Value} : ZW zG d 60 1 [x0, x1] st z Q = (zir x1 = true ∧ ZW zG d 60 2 [x0, x1] (x1 :: st) z Q) := zw_cond (f := z_aload 1 2) rfl rfl
theorem s60_2 {ls : List Value} {v : Value} {r : Nat} : ZW zG d 60 2 ls (v :: .ref r :: st) z Q = ((zcls z r = 1 ∧ zir v = true) ∧ ZW zG d 60 5 ls (st) (sfr z r 0 v) Q) := zw_putR rfl
theorem s60_5 {x0 x1 : Value} : ZW zG d 60 5 [x0, x1] st z Q = (zir x0 = true ∧ ZW zG d 60 6 [x0, x1] (x0 :: st) z Q) := zw_cond (f := z_aload 0 6) rfl rfl
theorem s60_6 {ls : List Value} {r : Nat} : ZW zG d 60 6 ls (.ref r :: st) z Q = ((zcls z r = 1 ∧ zir (zfr z r 1) = true) ∧ ZW zG d 60 9 ls (zfr z r 1 :: st) (z) Q) := zw_getR rfl
theorem s60_9 {x0 x1 : Value} : ZW zG d 60 9 [x0, x1] st z Q = (zir x1 = true ∧ ZW zG d 60 10 [x0, x1] (x1 :: st) z Q) := zw_cond (f := z_aload 1 10) rfl rfl
theorem s60_10 {x0 x1 : Value} : ZW zG d 60 10 [x0, x1] st z Q = (zir x1 = true ∧ ZW zG d 60 11 [x0, x1] (x1 :: st) z Q) := zw_cond (f := z_aload 1 11) rfl rfl
theorem s60_11 {ls : List Value} {r : Nat} : ZW zG d 60 11 ls (.ref r :: st) z Q = ((zcls z r = 2 ∧ zir (zfr z r 2) = true) ∧ ZW zG d 60 14 ls (zfr z r 2 :: st) (z) Q) := zw_getR rfl
theorem s60_14 {ls : List Value} {w0 : Nat} {w1 : Nat} {r : Nat} : ZW zG (d + 1) 60 14 ls (.ref w1 :: .ref w0 :: .ref r :: st) z Q = (zcls z r = 3 ∧ zcs st = true ∧ ZC zG d 67 [.ref r, .ref w0, .ref w1] z (zk zG (d + 1) 60 (none) 17 ls st Q)) := zc_V2 rfl (Nat.le_of_ble_eq_true rfl)
theorem s60_17 {x0 x1 : Value} : ZW zG d 60 17 [x0, x1] st z Q = (zir x0 = true ∧ ZW zG d 60 18 [x0, x1] (x0 :: st) z Q) := zw_cond (f := z_aload 0 18) rfl rfl
theorem s60_18 {ls : List Value} {r : Nat} : ZW zG d 60 18 ls (.ref r :: st) z Q = ((zcls z r = 1 ∧ zir (zfr z r 2) = true) ∧ ZW zG d 60 21 ls (zfr z r 2 :: st) (z) Q) := zw_getR rfl
theorem s60_21 {ls : List Value} {r : Nat} : ZW zG d 60 21 ls (.ref r :: st) z Q = ((zcs st = true ∧ zcls z r = 90) ∧ ZW zG d 60 26 ls (st) (sls z r []) Q) := zw_lclr rfl
theorem s60_26 {x0 x1 : Value} : ZW zG d 60 26 [x0, x1] st z Q = (zir x0 = true ∧ ZW zG d 60 27 [x0, x1] (x0 :: st) z Q) := zw_cond (f := z_aload 0 27) rfl rfl
theorem s60_27 {ls : List Value}  : ZW zG d 60 27 ls (st) z Q = ZW zG d 60 28 ls ((.int (nI 0)) :: st) z Q := zw_push rfl
theorem s60_28 {ls : List Value} {a : Int32} {r : Nat} : ZW zG d 60 28 ls (.int a :: .ref r :: st) z Q = ((zcls z r = 1) ∧ ZW zG d 60 31 ls (st) (sfi z r 3 a) Q) := zw_putI rfl
theorem s60_31 {ls : List Value}  : ZW zG d 60 31 ls ([]) z Q = Q (.inl none) z := zw_ret rfl
/-- X1_becomes (LCardBowl$State;)V -/
theorem e61 {r0 : Nat} {v0 : Nat} : ZC zG d 61 [.ref r0, .ref v0] z Q = ZW zG d 61 0 [.ref r0, .ref v0, zdum] [] z Q := rfl
theorem s61_0 {x0 x1 x2 : Value} : ZW zG d 61 0 [x0, x1, x2] st z Q = (zir x0 = true ∧ ZW zG d 61 1 [x0, x1, x2] (x0 :: st) z Q) := zw_cond (f := z_aload 0 1) rfl rfl
theorem s61_1 {x0 x1 x2 : Value} : ZW zG d 61 1 [x0, x1, x2] st z Q = (zir x1 = true ∧ ZW zG d 61 2 [x0, x1, x2] (x1 :: st) z Q) := zw_cond (f := z_aload 1 2) rfl rfl
theorem s61_2 {ls : List Value} {r : Nat} : ZW zG d 61 2 ls (.ref r :: st) z Q = ((zcls z r = 1 ∧ zir (zfr z r 0) = true) ∧ ZW zG d 61 5 ls (zfr z r 0 :: st) (z) Q) := zw_getR rfl
theorem s61_5 {ls : List Value} {v : Value} {r : Nat} : ZW zG d 61 5 ls (v :: .ref r :: st) z Q = ((zcls z r = 1 ∧ zir v = true) ∧ ZW zG d 61 8 ls (st) (sfr z r 0 v) Q) := zw_putR rfl
theorem s61_8 {x0 x1 x2 : Value} : ZW zG d 61 8 [x0, x1, x2] st z Q = (zir x0 = true ∧ ZW zG d 61 9 [x0, x1, x2] (x0 :: st) z Q) := zw_cond (f := z_aload 0 9) rfl rfl
theorem s61_9 {ls : List Value} {r : Nat} : ZW zG d 61 9 ls (.ref r :: st) z Q = ((zcls z r = 1 ∧ zir (zfr z r 1) = true) ∧ ZW zG d 61 12 ls (zfr z r 1 :: st) (z) Q) := zw_getR rfl
theorem s61_12 {x0 x1 x2 : Value} : ZW zG d 61 12 [x0, x1, x2] st z Q = (zir x1 = true ∧ ZW zG d 61 13 [x0, x1, x2] (x1 :: st) z Q) := zw_cond (f := z_aload 1 13) rfl rfl
theorem s61_13 {ls : List Value} {r : Nat} : ZW zG d 61 13 ls (.ref r :: st) z Q = ((zcls z r = 1 ∧ zir (zfr z r 1) = true) ∧ ZW zG d 61 16 ls (zfr z r 1 :: st) (z) Q) := zw_getR rfl
theorem s61_16 {ls : List Value} {w0 : Nat} {r : Nat} : ZW zG (d + 1) 61 16 ls (.ref w0 :: .ref r :: st) z Q = (zcls z r = 3 ∧ zcs st = true ∧ ZC zG d 78 [.ref r, .ref w0] z (zk zG (d + 1) 61 (none) 19 ls st Q)) := zc_V1 rfl (Nat.le_of_ble_eq_true rfl)
theorem s61_19 {x0 x1 x2 : Value} : ZW zG d 61 19 [x0, x1, x2] st z Q = (zir x0 = true ∧ ZW zG d 61 20 [x0, x1, x2] (x0 :: st) z Q) := zw_cond (f := z_aload 0 20) rfl rfl
theorem s61_20 {ls : List Value} {r : Nat} : ZW zG d 61 20 ls (.ref r :: st) z Q = ((zcls z r = 1 ∧ zir (zfr z r 2) = true) ∧ ZW zG d 61 23 ls (zfr z r 2 :: st) (z) Q) := zw_getR rfl
theorem s61_23 {ls : List Value} {r : Nat} : ZW zG d 61 23 ls (.ref r :: st) z Q = ((zcs st = true ∧ zcls z r = 90) ∧ ZW zG d 61 28 ls (st) (sls z r []) Q) := zw_lclr rfl
theorem s61_28 {ls : List Value}  : ZW zG d 61 28 ls (st) z Q = ZW zG d 61 29 ls ((.int (nI 0)) :: st) z Q := zw_push rfl
theorem s61_29 {x0 x1 x2 : Value} {a : Int32} : ZW zG d 61 29 [x0, x1, x2] (.int a :: st) z Q = ZW zG d 61 30 [x0, zclr x1, .int a] st z Q := zw_next (f := z_istore 2 30) rfl rfl
theorem s61_30 {x0 x1 : Value} {a : Int32} : ZW zG d 61 30 [x0, x1, .int a] st z Q = ZW zG d 61 31 [x0, x1, .int a] (.int a :: st) z Q := zw_next (f := z_iload 2 31) rfl rfl
theorem s61_31 {x0 x1 x2 : Value} : ZW zG d 61 31 [x0, x1, x2] st z Q = (zir x1 = true ∧ ZW zG d 61 32 [x0, x1, x2] (x1 :: st) z Q) := zw_cond (f := z_aload 1 32) rfl rfl
theorem s61_32 {ls : List Value} {r : Nat} : ZW zG d 61 32 ls (.ref r :: st) z Q = ((zcls z r = 1 ∧ zir (zfr z r 2) = true) ∧ ZW zG d 61 35 ls (zfr z r 2 :: st) (z) Q) := zw_getR rfl
theorem s61_35 {ls : List Value} {r : Nat} : ZW zG d 61 35 ls (.ref r :: st) z Q = ((zcs st = true ∧ zcls z r = 90) ∧ ZW zG d 61 40 ls (.int (nI (zls z r).length) :: st) (z) Q) := zw_lsize rfl
theorem s61_40 {ls : List Value} {a b : Int32} : ZW zG d 61 40 ls (.int b :: .int a :: st) z Q = if b ≤ a then ZW zG d 61 72 ls st z Q else ZW zG d 61 43 ls st z Q := zw_icge rfl
theorem s61_43 {x0 x1 x2 : Value} : ZW zG d 61 43 [x0, x1, x2] st z Q = (zir x0 = true ∧ ZW zG d 61 44 [x0, x1, x2] (x0 :: st) z Q) := zw_cond (f := z_aload 0 44) rfl rfl
theorem s61_44 {ls : List Value} {r : Nat} : ZW zG d 61 44 ls (.ref r :: st) z Q = ((zcls z r = 1 ∧ zir (zfr z r 2) = true) ∧ ZW zG d 61 47 ls (zfr z r 2 :: st) (z) Q) := zw_getR rfl
theorem s61_47 {x0 x1 x2 : Value} : ZW zG d 61 47 [x0, x1, x2] st z Q = (zir x1 = true ∧ ZW zG d 61 48 [x0, x1, x2] (x1 :: st) z Q) := zw_cond (f := z_aload 1 48) rfl rfl
theorem s61_48 {ls : List Value} {r : Nat} : ZW zG d 61 48 ls (.ref r :: st) z Q = ((zcls z r = 1 ∧ zir (zfr z r 2) = true) ∧ ZW zG d 61 51 ls (zfr z r 2 :: st) (z) Q) := zw_getR rfl
theorem s61_51 {x0 x1 : Value} {a : Int32} : ZW zG d 61 51 [x0, x1, .int a] st z Q = ZW zG d 61 52 [x0, x1, .int a] (.int a :: st) z Q := zw_next (f := z_iload 2 52) rfl rfl
theorem s61_52 {ls : List Value} {a : Int32} {r : Nat} : ZW zG d 61 52 ls (.int a :: .ref r :: st) z Q = ((zcs st = true ∧ zcls z r = 90 ∧ zin a (zls z r).length = true) ∧ ZW zG d 61 57 ls ((zls z r).getD (zx a) .null :: st) (z) Q) := zw_lget rfl
theorem s61_57 {ls : List Value} {r : Nat} : ZW zG d 61 57 ls (.ref r :: st) z Q = ((zcls z r = 22) ∧ ZW zG d 61 60 ls (.ref r :: st) (z) Q) := zw_cast rfl
theorem s61_60 {ls : List Value} {v : Value} {r : Nat} : ZW zG d 61 60 ls (v :: .ref r :: st) z Q = ((zcs st = true ∧ zcls z r = 90 ∧ (zlel z v = true ∧ (zls z r).all (zlel z) = true ∧ (zls z r).length < 100000)) ∧ ZW zG d 61 65 ls (.int 1 :: st) (sladd z r v) Q) := zw_ladd1 rfl
theorem s61_65 {ls : List Value} {a : Int32} : ZW zG d 61 65 ls (.int a :: st) z Q = ZW zG d 61 66 ls (st) z Q := zw_popi rfl
theorem s61_66 {x0 x1 : Value} {a : Int32} : ZW zG d 61 66 [x0, x1, .int a] st z Q = ZW zG d 61 69 [x0, zclr x1, .int (a + (nI 1))] st z Q := zw_next (f := z_iinc 2 (nI 1) 69) rfl rfl
theorem s61_69 {ls : List Value}  : ZW zG d 61 69 ls (st) z Q = ZW zG d 61 30 ls st z Q := zw_goto rfl
theorem s61_72 {x0 x1 x2 : Value} : ZW zG d 61 72 [x0, x1, x2] st z Q = (zir x0 = true ∧ ZW zG d 61 73 [x0, x1, x2] (x0 :: st) z Q) := zw_cond (f := z_aload 0 73) rfl rfl
theorem s61_73 {x0 x1 x2 : Value} : ZW zG d 61 73 [x0, x1, x2] st z Q = (zir x1 = true ∧ ZW zG d 61 74 [x0, x1, x2] (x1 :: st) z Q) := zw_cond (f := z_aload 1 74) rfl rfl
theorem s61_74 {ls : List Value} {r : Nat} : ZW zG d 61 74 ls (.ref r :: st) z Q = ((zcls z r = 1) ∧ ZW zG d 61 77 ls (.int (zfi z r 3) :: st) (z) Q) := zw_getI rfl
theorem s61_77 {ls : List Value} {a : Int32} {r : Nat} : ZW zG d 61 77 ls (.int a :: .ref r :: st) z Q = ((zcls z r = 1) ∧ ZW zG d 61 80 ls (st) (sfi z r 3 a) Q) := zw_putI rfl
theorem s61_80 {ls : List Value}  : ZW zG d 61 80 ls ([]) z Q = Q (.inl none) z := zw_ret rfl
/-- X2_init ()V -/
theorem e62 {r0 : Nat} : ZC zG d 62 [.ref r0] z Q = ZW zG d 62 0 [.ref r0] [] z Q := rfl
theorem s62_0 {x0 : Value} : ZW zG d 62 0 [x0] st z Q = (zir x0 = true ∧ ZW zG d 62 1 [x0] (x0 :: st) z Q) := zw_cond (f := z_aload 0 1) rfl rfl
theorem s62_1 {ls : List Value} {r : Nat} : ZW zG d 62 1 ls (.ref r :: st) z Q = ((zcs st = true) ∧ ZW zG d 62 4 ls (st) (z) Q) := zw_oinit rfl
theorem s62_4 {x0 : Value} : ZW zG d 62 4 [x0] st z Q = (zir x0 = true ∧ ZW zG d 62 5 [x0] (x0 :: st) z Q) := zw_cond (f := z_aload 0 5) rfl rfl
theorem s62_5 {ls : List Value}  : ZW zG d 62 5 ls (st) z Q = ZW zG d 62 8 ls (.ref (zn z) :: st) (snew z 24 3) Q := zw_new rfl
theorem s62_8 {ls : List Value} {r : Nat} : ZW zG d 62 8 ls (.ref r :: st) z Q = ZW zG d 62 9 ls (.ref r :: .ref r :: st) z Q := zw_dupr rfl
theorem s62_9 {ls : List Value}  : ZW zG d 62 9 ls (st) z Q = ZW zG d 62 10 ls ((.int (nI 4)) :: st) z Q := zw_push rfl
theorem s62_10 {ls : List Value} {a : Int32} {r : Nat} : ZW zG d 62 10 ls (.int a :: .ref r :: st) z Q = ((zcs st = true ∧ zcls z r = 24 ∧ (zin a 1000 = true ∧ ¬ a = 0) ∧ zfi z r 2 = 0) ∧ ZW zG d 62 13 ls (st) (slin z r (zx a)) Q) := zw_linit rfl
theorem s62_13 {ls : List Value} {v : Value} {r : Nat} : ZW zG d 62 13 ls (v :: .ref r :: st) z Q = ((zcls z r = 2 ∧ zir v = true) ∧ ZW zG d 62 16 ls (st) (sfr z r 0 v) Q) := zw_putR rfl
theorem s62_16 {x0 : Value} : ZW zG d 62 16 [x0] st z Q = (zir x0 = true ∧ ZW zG d 62 17 [x0] (x0 :: st) z Q) := zw_cond (f := z_aload 0 17) rfl rfl
theorem s62_17 {ls : List Value}  : ZW zG d 62 17 ls (st) z Q = ZW zG d 62 19 ls ((.int (nI 16)) :: st) z Q := zw_push rfl
theorem s62_19 {ls : List Value} {a : Int32} : ZW zG d 62 19 ls (.int a :: st) z Q = ((zin a 1000000 = true) ∧ ZW zG d 62 21 ls (.ref (zn z) :: st) (sarr z 50 (zx a)) Q) := zw_newa rfl
theorem s62_21 {ls : List Value} {v : Value} {r : Nat} : ZW zG d 62 21 ls (v :: .ref r :: st) z Q = ((zcls z r = 2 ∧ zir v = true) ∧ ZW zG d 62 24 ls (st) (sfr z r 1 v) Q) := zw_putR rfl
theorem s62_24 {x0 : Value} : ZW zG d 62 24 [x0] st z Q = (zir x0 = true ∧ ZW zG d 62 25 [x0] (x0 :: st) z Q) := zw_cond (f := z_aload 0 25) rfl rfl
theorem s62_25 {ls : List Value}  : ZW zG d 62 25 ls (st) z Q = ZW zG d 62 28 ls (.ref (zn z) :: st) (snew z 24 3) Q := zw_new rfl
theorem s62_28 {ls : List Value} {r : Nat} : ZW zG d 62 28 ls (.ref r :: st) z Q = ZW zG d 62 29 ls (.ref r :: .ref r :: st) z Q := zw_dupr rfl
theorem s62_29 {ls : List Value}  : ZW zG d 62 29 ls (st) z Q = ZW zG d 62 30 ls ((.int (nI 4)) :: st) z Q := zw_push rfl
theorem s62_30 {ls : List Value} {a : Int32} {r : Nat} : ZW zG d 62 30 ls (.int a :: .ref r :: st) z Q = ((zcs st = true ∧ zcls z r = 24 ∧ (zin a 1000 = true ∧ ¬ a = 0) ∧ zfi z r 2 = 0) ∧ ZW zG d 62 33 ls (st) (slin z r (zx a)) Q) := zw_linit rfl
theorem s62_33 {ls : List Value} {v : Value} {r : Nat} : ZW zG d 62 33 ls (v :: .ref r :: st) z Q = ((zcls z r = 2 ∧ zir v = true) ∧ ZW zG d 62 36 ls (st) (sfr z r 2 v) Q) := zw_putR rfl
theorem s62_36 {x0 : Value} : ZW zG d 62 36 [x0] st z Q = (zir x0 = true ∧ ZW zG d 62 37 [x0] (x0 :: st) z Q) := zw_cond (f := z_aload 0 37) rfl rfl
theorem s62_37 {ls : List Value}  : ZW zG d 62 37 ls (st) z Q = ZW zG d 62 38 ls ((.int (nI 3)) :: st) z Q := zw_push rfl
theorem s62_38 {ls : List Value} {a : Int32} {r : Nat} : ZW zG d 62 38 ls (.int a :: .ref r :: st) z Q = ((zcls z r = 2) ∧ ZW zG d 62 41 ls (st) (sfi z r 4 a) Q) := zw_putI rfl
theorem s62_41 {ls : List Value}  : ZW zG d 62 41 ls ([]) z Q = Q (.inl none) z := zw_ret rfl
/-- X2_many ()I -/
theorem e63 {r0 : Nat} : ZC zG d 63 [.ref r0] z Q = ZW zG d 63 0 [.ref r0] [] z Q := rfl
theorem s63_0 {x0 : Value} : ZW zG d 63 0 [x0] st z Q = (zir x0 = true ∧ ZW zG d 63 1 [x0] (x0 :: st) z Q) := zw_cond (f := z_aload 0 1) rfl rfl
theorem s63_1 {ls : List Value} {r : Nat} : ZW zG d 63 1 ls (.ref r :: st) z Q = ((zcls z r = 2 ∧ zir (zfr z r 0) = true) ∧ ZW zG d 63 4 ls (zfr z r 0 :: st) (z) Q) := zw_getR rfl
theorem s63_4 {ls : List Value} {r : Nat} : ZW zG d 63 4 ls (.ref r :: st) z Q = ((zcs st = true ∧ zcls z r = 90) ∧ ZW zG d 63 9 ls (.int (nI (zls z r).length) :: st) (z) Q) := zw_lsize rfl
theorem s63_9 {ls : List Value} {a : Int32} : ZW zG d 63 9 ls ([.int a]) z Q = Q (.inl (some (.int a))) z := zw_reti rfl
/-- X2_has (I)Z -/
theorem e64 {r0 : Nat} {v0 : Int32} : ZC zG d 64 [.ref r0, .int v0] z Q = ZW zG d 64 0 [.ref r0, .int v0] [] z Q := rfl
theorem s64_0 {x0 : Value} {a : Int32} : ZW zG d 64 0 [x0, .int a] st z Q = ZW zG d 64 1 [x0, .int a] (.int a :: st) z Q := zw_next (f := z_iload 1 1) rfl rfl
theorem s64_1 {ls : List Value} {a : Int32} : ZW zG d 64 1 ls (.int a :: st) z Q = ZW zG d 64 2 ls (.long a.toInt64 :: st) z Q := zw_i2l rfl
theorem s64_2 {ls : List Value}  : ZW zG d 64 2 ls (st) z Q = ZW zG d 64 3 ls ((.long (lN 0)) :: st) z Q := zw_push rfl
theorem s64_3 {x0 x1 : Value} : ZW zG d 64 3 [x0, x1] st z Q = (zir x0 = true ∧ ZW zG d 64 4 [x0, x1] (x0 :: st) z Q) := zw_cond (f := z_aload 0 4) rfl rfl
theorem s64_4 {ls : List Value} {r : Nat} : ZW zG d 64 4 ls (.ref r :: st) z Q = ((zcls z r = 2 ∧ zir (zfr z r 0) = true) ∧ ZW zG d 64 7 ls (zfr z r 0 :: st) (z) Q) := zw_getR rfl
theorem s64_7 {ls : List Value} {r : Nat} : ZW zG d 64 7 ls (.ref r :: st) z Q = ((zcs st = true ∧ zcls z r = 90) ∧ ZW zG d 64 12 ls (.int (nI (zls z r).length) :: st) (z) Q) := zw_lsize rfl
theorem s64_12 {ls : List Value}  : ZW zG d 64 12 ls (st) z Q = ZW zG d 64 13 ls ((.int (nI 1)) :: st) z Q := zw_push rfl
theorem s64_13 {ls : List Value} {a b : Int32} : ZW zG d 64 13 ls (.int b :: .int a :: st) z Q = ZW zG d 64 14 ls (.int (a - b) :: st) z Q := zw_isub rfl
theorem s64_14 {ls : List Value} {a : Int32} : ZW zG d 64 14 ls (.int a :: st) z Q = ZW zG d 64 15 ls (.long a.toInt64 :: st) z Q := zw_i2l rfl
theorem s64_15 {ls : List Value} {w0 : Int64} {w1 : Int64} {w2 : Int64} : ZW zG (d + 1) 64 15 ls (.long w2 :: .long w1 :: .long w0 :: st) z Q = (zcs st = true ∧ ZC zG d 2 [.long w0, .long w1, .long w2] z (zk zG (d + 1) 64 (none) 18 ls st Q)) := zc_S3 rfl (Nat.le_of_ble_eq_true rfl)
theorem s64_18 {ls : List Value} {a : Int32} : ZW zG d 64 18 ls ([.int a]) z Q = ((a = 0 ∨ a = 1) ∧ Q (.inl (some (.int a))) z) := zw_retz rfl
/-- X2_house (I)LCardBowl$House; -/
theorem e65 {r0 : Nat} {v0 : Int32} : ZC zG d 65 [.ref r0, .int v0] z Q = ZW zG d 65 0 [.ref r0, .int v0] [] z Q := rfl
theorem s65_0 {x0 x1 : Value} : ZW zG d 65 0 [x0, x1] st z Q = (zir x0 = true ∧ ZW zG d 65 1 [x0, x1] (x0 :: st) z Q) := zw_cond (f := z_aload 0 1) rfl rfl
theorem s65_1 {ls : List Value} {r : Nat} : ZW zG d 65 1 ls (.ref r :: st) z Q = ((zcls z r = 2 ∧ zir (zfr z r 0) = true) ∧ ZW zG d 65 4 ls (zfr z r 0 :: st) (z) Q) := zw_getR rfl
theorem s65_4 {x0 : Value} {a : Int32} : ZW zG d 65 4 [x0, .int a] st z Q = ZW zG d 65 5 [x0, .int a] (.int a :: st) z Q := zw_next (f := z_iload 1 5) rfl rfl
theorem s65_5 {ls : List Value} {a : Int32} {r : Nat} : ZW zG d 65 5 ls (.int a :: .ref r :: st) z Q = ((zcs st = true ∧ zcls z r = 90 ∧ zin a (zls z r).length = true) ∧ ZW zG d 65 10 ls ((zls z r).getD (zx a) .null :: st) (z) Q) := zw_lget rfl
theorem s65_10 {ls : List Value} {r : Nat} : ZW zG d 65 10 ls (.ref r :: st) z Q = ((zcls z r = 21) ∧ ZW zG d 65 13 ls (.ref r :: st) (z) Q) := zw_cast rfl
theorem s65_13 {ls : List Value} {q : Nat} : ZW zG d 65 13 ls ([.ref q]) z Q = Q (.inl (some (.ref q))) z := zw_reta rfl
theorem s65_13r {ls : List Value}  : ZW zG d 65 13 ls ([.null]) z Q = Q (.inl (some .null)) z := zw_retn rfl
/-- X3_init ()V -/
theorem e66 {r0 : Nat} : ZC zG d 66 [.ref r0] z Q = ZW zG d 66 0 [.ref r0] [] z Q := rfl
theorem s66_0 {x0 : Value} : ZW zG d 66 0 [x0] st z Q = (zir x0 = true ∧ ZW zG d 66 1 [x0] (x0 :: st) z Q) := zw_cond (f := z_aload 0 1) rfl rfl
theorem s66_1 {ls : List Value} {r : Nat} : ZW zG d 66 1 ls (.ref r :: st) z Q = ((zcs st = true) ∧ ZW zG d 66 4 ls (st) (z) Q) := zw_oinit rfl
theorem s66_4 {x0 : Value} : ZW zG d 66 4 [x0] st z Q = (zir x0 = true ∧ ZW zG d 66 5 [x0] (x0 :: st) z Q) := zw_cond (f := z_aload 0 5) rfl rfl
theorem s66_5 {ls : List Value}  : ZW zG d 66 5 ls (st) z Q = ZW zG d 66 7 ls ((.int (nI 16)) :: st) z Q := zw_push rfl
theorem s66_7 {ls : List Value} {a : Int32} : ZW zG d 66 7 ls (.int a :: st) z Q = ((zin a 1000000 = true) ∧ ZW zG d 66 9 ls (.ref (zn z) :: st) (sarr z 50 (zx a)) Q) := zw_newa rfl
theorem s66_9 {ls : List Value} {v : Value} {r : Nat} : ZW zG d 66 9 ls (v :: .ref r :: st) z Q = ((zcls z r = 3 ∧ zir v = true) ∧ ZW zG d 66 12 ls (st) (sfr z r 2 v) Q) := zw_putR rfl
theorem s66_12 {x0 : Value} : ZW zG d 66 12 [x0] st z Q = (zir x0 = true ∧ ZW zG d 66 13 [x0] (x0 :: st) z Q) := zw_cond (f := z_aload 0 13) rfl rfl
theorem s66_13 {ls : List Value}  : ZW zG d 66 13 ls (st) z Q = ZW zG d 66 16 ls (.ref (zn z) :: st) (snew z 24 3) Q := zw_new rfl
theorem s66_16 {ls : List Value} {r : Nat} : ZW zG d 66 16 ls (.ref r :: st) z Q = ZW zG d 66 17 ls (.ref r :: .ref r :: st) z Q := zw_dupr rfl
theorem s66_17 {ls : List Value}  : ZW zG d 66 17 ls (st) z Q = ZW zG d 66 19 ls ((.int (nI 8)) :: st) z Q := zw_push rfl
theorem s66_19 {ls : List Value} {a : Int32} {r : Nat} : ZW zG d 66 19 ls (.int a :: .ref r :: st) z Q = ((zcs st = true ∧ zcls z r = 24 ∧ (zin a 1000 = true ∧ ¬ a = 0) ∧ zfi z r 2 = 0) ∧ ZW zG d 66 22 ls (st) (slin z r (zx a)) Q) := zw_linit rfl
theorem s66_22 {ls : List Value} {v : Value} {r : Nat} : ZW zG d 66 22 ls (v :: .ref r :: st) z Q = ((zcls z r = 3 ∧ zir v = true) ∧ ZW zG d 66 25 ls (st) (sfr z r 3 v) Q) := zw_putR rfl
theorem s66_25 {x0 : Value} : ZW zG d 66 25 [x0] st z Q = (zir x0 = true ∧ ZW zG d 66 26 [x0] (x0 :: st) z Q) := zw_cond (f := z_aload 0 26) rfl rfl
theorem s66_26 {ls : List Value}  : ZW zG d 66 26 ls (st) z Q = ZW zG d 66 29 ls (.ref (zn z) :: st) (snew z 4 6) Q := zw_new rfl
theorem s66_29 {ls : List Value} {r : Nat} : ZW zG d 66 29 ls (.ref r :: st) z Q = ZW zG d 66 30 ls (.ref r :: .ref r :: st) z Q := zw_dupr rfl
theorem s66_30 {ls : List Value}  {r : Nat} : ZW zG (d + 1) 66 30 ls (.ref r :: st) z Q = (zcs st = true ∧ ZC zG d 79 [.ref r] z (zk zG (d + 1) 66 (none) 33 ls st Q)) := zc_I0 rfl (Nat.le_of_ble_eq_true rfl)
theorem s66_33 {ls : List Value} {v : Value} {r : Nat} : ZW zG d 66 33 ls (v :: .ref r :: st) z Q = ((zcls z r = 3 ∧ zir v = true) ∧ ZW zG d 66 36 ls (st) (sfr z r 4 v) Q) := zw_putR rfl
theorem s66_36 {ls : List Value}  : ZW zG d 66 36 ls ([]) z Q = Q (.inl none) z := zw_ret rfl
/-- X3_begins (LCardBowl$Town;Ljava/util/List;)V -/
theorem e67 {r0 : Nat} {v0 : Nat} {v1 : Nat} : ZC zG d 67 [.ref r0, .ref v0, .ref v1] z Q = ZW zG d 67 0 [.ref r0, .ref v0, .ref v1] [] z Q := rfl
theorem s67_0 {x0 x1 x2 : Value} : ZW zG d 67 0 [x0, x1, x2] st z Q = (zir x0 = true ∧ ZW zG d 67 1 [x0, x1, x2] (x0 :: st) z Q) := zw_cond (f := z_aload 0 1) rfl rfl
theorem s67_1 {x0 x1 x2 : Value} : ZW zG d 67 1 [x0, x1, x2] st z Q = (zir x1 = true ∧ ZW zG d 67 2 [x0, x1, x2] (x1 :: st) z Q) := zw_cond (f := z_aload 1 2) rfl rfl
theorem s67_2 {ls : List Value} {v : Value} {r : Nat} : ZW zG d 67 2 ls (v :: .ref r :: st) z Q = ((zcls z r = 3 ∧ zir v = true) ∧ ZW zG d 67 5 ls (st) (sfr z r 0 v) Q) := zw_putR rfl
theorem s67_5 {x0 x1 x2 : Value} : ZW zG d 67 5 [x0, x1, x2] st z Q = (zir x0 = true ∧ ZW zG d 67 6 [x0, x1, x2] (x0 :: st) z Q) := zw_cond (f := z_aload 0 6) rfl rfl
theorem s67_6 {x0 x1 x2 : Value} : ZW zG d 67 6 [x0, x1, x2] st z Q = (zir x2 = true ∧ ZW zG d 67 7 [x0, x1, x2] (x2 :: st) z Q) := zw_cond (f := z_aload 2 7) rfl rfl
theorem s67_7 {ls : List Value} {v : Value} {r : Nat} : ZW zG d 67 7 ls (v :: .ref r :: st) z Q = ((zcls z r = 3 ∧ zir v = true) ∧ ZW zG d 67 10 ls (st) (sfr z r 1 v) Q) := zw_putR rfl
theorem s67_10 {x0 x1 x2 : Value} : ZW zG d 67 10 [x0, x1, x2] st z Q = (zir x1 = true ∧ ZW zG d 67 11 [x0, x1, x2] (x1 :: st) z Q) := zw_cond (f := z_aload 1 11) rfl rfl
theorem s67_11 {ls : List Value} {r : Nat} : ZW zG d 67 11 ls (.ref r :: st) z Q = ((zcls z r = 2 ∧ zir (zfr z r 1) = true) ∧ ZW zG d 67 14 ls (zfr z r 1 :: st) (z) Q) := zw_getR rfl
theorem s67_14 {ls : List Value}  : ZW zG d 67 14 ls (st) z Q = ZW zG d 67 15 ls ((.int (nI 0)) :: st) z Q := zw_push rfl
theorem s67_15 {x0 x1 x2 : Value} : ZW zG d 67 15 [x0, x1, x2] st z Q = (zir x0 = true ∧ ZW zG d 67 16 [x0, x1, x2] (x0 :: st) z Q) := zw_cond (f := z_aload 0 16) rfl rfl
theorem s67_16 {ls : List Value} {r : Nat} : ZW zG d 67 16 ls (.ref r :: st) z Q = ((zcls z r = 3 ∧ zir (zfr z r 2) = true) ∧ ZW zG d 67 19 ls (zfr z r 2 :: st) (z) Q) := zw_getR rfl
theorem s67_19 {ls : List Value}  : ZW zG d 67 19 ls (st) z Q = ZW zG d 67 20 ls ((.int (nI 0)) :: st) z Q := zw_push rfl
theorem s67_20 {ls : List Value}  : ZW zG d 67 20 ls (st) z Q = ZW zG d 67 22 ls ((.int (nI 16)) :: st) z Q := zw_push rfl
theorem s67_22 {ls : List Value} {n1 a b : Int32} {r s : Nat} : ZW zG d 67 22 ls (.int n1 :: .int b :: .ref s :: .int a :: .ref r :: st) z Q = (((zcs st = true ∧ zcls z r = 50 ∧ zcls z s = 50 ∧ ¬ r = s) ∧ (zin a (zlen z r + 1) = true ∧ zin b (zlen z s + 1) = true ∧ zin n1 1000000 = true) ∧ zx a + zx n1 ≤ zlen z r ∧ zx b + zx n1 ≤ zlen z s) ∧ ZW zG d 67 25 ls (st) (sIA z s (va_cpy (zia z r) (zia z s) (zx a) (zx b) (zx n1))) Q) := zw_acpy rfl
theorem s67_25 {x0 x1 x2 : Value} : ZW zG d 67 25 [x0, x1, x2] st z Q = (zir x0 = true ∧ ZW zG d 67 26 [x0, x1, x2] (x0 :: st) z Q) := zw_cond (f := z_aload 0 26) rfl rfl
theorem s67_26 {ls : List Value} {r : Nat} : ZW zG d 67 26 ls (.ref r :: st) z Q = ((zcls z r = 3 ∧ zir (zfr z r 3) = true) ∧ ZW zG d 67 29 ls (zfr z r 3 :: st) (z) Q) := zw_getR rfl
theorem s67_29 {ls : List Value} {r : Nat} : ZW zG d 67 29 ls (.ref r :: st) z Q = ((zcs st = true ∧ zcls z r = 90) ∧ ZW zG d 67 34 ls (st) (sls z r []) Q) := zw_lclr rfl
theorem s67_34 {x0 x1 x2 : Value} : ZW zG d 67 34 [x0, x1, x2] st z Q = (zir x0 = true ∧ ZW zG d 67 35 [x0, x1, x2] (x0 :: st) z Q) := zw_cond (f := z_aload 0 35) rfl rfl
theorem s67_35 {ls : List Value}  : ZW zG d 67 35 ls (st) z Q = ZW zG d 67 36 ls ((.int (nI 0)) :: st) z Q := zw_push rfl
theorem s67_36 {ls : List Value} {a : Int32} {r : Nat} : ZW zG d 67 36 ls (.int a :: .ref r :: st) z Q = ((zcls z r = 3) ∧ ZW zG d 67 39 ls (st) (sfi z r 5 a) Q) := zw_putI rfl
theorem s67_39 {ls : List Value}  : ZW zG d 67 39 ls ([]) z Q = Q (.inl none) z := zw_ret rfl
/-- X3_areKnown (II)Z -/
theorem e68 {r0 : Nat} {v0 : Int32} {v1 : Int32} : ZC zG d 68 [.ref r0, .int v0, .int v1] z Q = ZW zG d 68 0 [.ref r0, .int v0, .int v1] [] z Q := rfl
theorem s68_0 {x0 x1 x2 : Value} : ZW zG d 68 0 [x0, x1, x2] st z Q = (zir x0 = true ∧ ZW zG d 68 1 [x0, x1, x2] (x0 :: st) z Q) := zw_cond (f := z_aload 0 1) rfl rfl
theorem s68_1 {ls : List Value} {r : Nat} : ZW zG d 68 1 ls (.ref r :: st) z Q = ((zcls z r = 3 ∧ zir (zfr z r 2) = true) ∧ ZW zG d 68 4 ls (zfr z r 2 :: st) (z) Q) := zw_getR rfl
theorem s68_4 {x0 x2 : Value} {a : Int32} : ZW zG d 68 4 [x0, .int a, x2] st z Q = ZW zG d 68 5 [x0, .int a, x2] (.int a :: st) z Q := zw_next (f := z_iload 1 5) rfl rfl
theorem s68_5 {ls : List Value} {a : Int32} {r : Nat} : ZW zG d 68 5 ls (.int a :: .ref r :: st) z Q = ((zcls z r = 50 ∧ zin a (zlen z r) = true) ∧ ZW zG d 68 6 ls (.int (zia z r (zx a)) :: st) (z) Q) := zw_iald rfl
theorem s68_6 {x0 x1 : Value} {a : Int32} : ZW zG d 68 6 [x0, x1, .int a] st z Q = ZW zG d 68 7 [x0, x1, .int a] (.int a :: st) z Q := zw_next (f := z_iload 2 7) rfl rfl
theorem s68_7 {ls : List Value} {w0 : Int32} {w1 : Int32} : ZW zG (d + 1) 68 7 ls (.int w1 :: .int w0 :: st) z Q = (zcs st = true ∧ ZC zG d 18 [.int w0, .int w1] z (zk zG (d + 1) 68 (none) 10 ls st Q)) := zc_S2 rfl (Nat.le_of_ble_eq_true rfl)
theorem s68_10 {ls : List Value} {a : Int32} : ZW zG d 68 10 ls ([.int a]) z Q = ((a = 0 ∨ a = 1) ∧ Q (.inl (some (.int a))) z) := zw_retz rfl
/-- X3_does (IILCardBowl$Paying;I)I -/
theorem e69 {r0 : Nat} {v0 : Int32} {v1 : Int32} {v2 : Nat} {v3 : Int32} : ZC zG d 69 [.ref r0, .int v0, .int v1, .ref v2, .int v3] z Q = ZW zG d 69 0 [.ref r0, .int v0, .int v1, .ref v2, .int v3, zdum, zdum, zdum] [] z Q := rfl
theorem s69_0 {ls : List Value}  : ZW zG d 69 0 ls (st) z Q = ZW zG d 69 1 ls ((.int (nI 0)) :: st) z Q := zw_push rfl
theorem s69_1 {x0 x1 x2 x3 x4 x5 x6 x7 : Value} {a : Int32} : ZW zG d 69 1 [x0, x1, x2, x3, x4, x5, x6, x7] (.int a :: st) z Q = ZW zG d 69 3 [x0, x1, x2, x3, zclr x4, .int a, x6, x7] st z Q := zw_next (f := z_istore 5 3) rfl rfl
theorem s69_3 {x0 x1 x2 x3 x4 x5 x6 x7 : Value} : ZW zG d 69 3 [x0, x1, x2, x3, x4, x5, x6, x7] st z Q = (zir x0 = true ∧ ZW zG d 69 4 [x0, x1, x2, x3, x4, x5, x6, x7] (x0 :: st) z Q) := zw_cond (f := z_aload 0 4) rfl rfl
theorem s69_4 {ls : List Value} {r : Nat} : ZW zG d 69 4 ls (.ref r :: st) z Q = ((zcls z r = 3 ∧ zir (zfr z r 3) = true) ∧ ZW zG d 69 7 ls (zfr z r 3 :: st) (z) Q) := zw_getR rfl
theorem s69_7 {ls : List Value} {r : Nat} : ZW zG d 69 7 ls (.ref r :: st) z Q = ((zcs st = true ∧ zcls z r = 90) ∧ ZW zG d 69 12 ls (.int (nI (zls z r).length) :: st) (z) Q) := zw_lsize rfl
theorem s69_12 {ls : List Value}  : ZW zG d 69 12 ls (st) z Q = ZW zG d 69 13 ls ((.int (nI 1)) :: st) z Q := zw_push rfl
theorem s69_13 {ls : List Value} {a b : Int32} : ZW zG d 69 13 ls (.int b :: .int a :: st) z Q = ZW zG d 69 14 ls (.int (a - b) :: st) z Q := zw_isub rfl
theorem s69_14 {x0 x1 x2 x3 x4 x5 x6 x7 : Value} {a : Int32} : ZW zG d 69 14 [x0, x1, x2, x3, x4, x5, x6, x7] (.int a :: st) z Q = ZW zG d 69 16 [x0, x1, x2, x3, x4, zclr x5, .int a, x7] st z Q := zw_next (f := z_istore 6 16) rfl rfl
theorem s69_16 {x0 x1 x2 x3 x4 x5 x7 : Value} {a : Int32} : ZW zG d 69 16 [x0, x1, x2, x3, x4, x5, .int a, x7] st z Q = ZW zG d 69 18 [x0, x1, x2, x3, x4, x5, .int a, x7] (.int a :: st) z Q := zw_next (f := z_iload 6 18) rfl rfl
theorem s69_18 {ls : List Value} {a : Int32} : ZW zG d 69 18 ls (.int a :: st) z Q = if a < 0 then ZW zG d 69 88 ls st z Q else ZW zG d 69 21 ls st z Q := zw_iflt rfl
theorem s69_21 {x0 x1 x2 x3 x4 x5 x6 x7 : Value} : ZW zG d 69 21 [x0, x1, x2, x3, x4, x5, x6, x7] st z Q = (zir x0 = true ∧ ZW zG d 69 22 [x0, x1, x2, x3, x4, x5, x6, x7] (x0 :: st) z Q) := zw_cond (f := z_aload 0 22) rfl rfl
theorem s69_22 {ls : List Value} {r : Nat} : ZW zG d 69 22 ls (.ref r :: st) z Q = ((zcls z r = 3 ∧ zir (zfr z r 3) = true) ∧ ZW zG d 69 25 ls (zfr z r 3 :: st) (z) Q) := zw_getR rfl
theorem s69_25 {x0 x1 x2 x3 x4 x5 x7 : Value} {a : Int32} : ZW zG d 69 25 [x0, x1, x2, x3, x4, x5, .int a, x7] st z Q = ZW zG d 69 27 [x0, x1, x2, x3, x4, x5, .int a, x7] (.int a :: st) z Q := zw_next (f := z_iload 6 27) rfl rfl
theorem s69_27 {ls : List Value} {a : Int32} {r : Nat} : ZW zG d 69 27 ls (.int a :: .ref r :: st) z Q = ((zcs st = true ∧ zcls z r = 90 ∧ zin a (zls z r).length = true) ∧ ZW zG d 69 32 ls ((zls z r).getD (zx a) .null :: st) (z) Q) := zw_lget rfl
theorem s69_32 {ls : List Value} {r : Nat} : ZW zG d 69 32 ls (.ref r :: st) z Q = ((zcls z r = 23) ∧ ZW zG d 69 35 ls (.ref r :: st) (z) Q) := zw_cast rfl
theorem s69_35 {x0 x1 x2 x3 x4 x5 x6 x7 : Value} {v : Value} : ZW zG d 69 35 [x0, x1, x2, x3, x4, x5, x6, x7] (v :: st) z Q = (zir v = true ∧ ZW zG d 69 37 [x0, x1, x2, x3, x4, x5, zclr x6, v] st z Q) := by rw [zw_cond (f := z_astore 7 37) (G := zG) rfl rfl]; exact propext ⟨fun h => ⟨h.1.1, h.2⟩, fun h => ⟨⟨h.1, Nat.le_of_ble_eq_true rfl⟩, h.2⟩⟩
theorem s69_37 {x0 x1 x2 x3 x4 x5 x6 x7 : Value} : ZW zG d 69 37 [x0, x1, x2, x3, x4, x5, x6, x7] st z Q = (zir x7 = true ∧ ZW zG d 69 39 [x0, x1, x2, x3, x4, x5, x6, x7] (x7 :: st) z Q) := zw_cond (f := z_aload 7 39) rfl rfl
theorem s69_39 {ls : List Value} {r : Nat} : ZW zG d 69 39 ls (.ref r :: st) z Q = ((zcls z r = 23) ∧ ZW zG d 69 42 ls (.int (zfi z r 0) :: st) (z) Q) := zw_getI rfl
theorem s69_42 {x0 x2 x3 x4 x5 x6 x7 : Value} {a : Int32} : ZW zG d 69 42 [x0, .int a, x2, x3, x4, x5, x6, x7] st z Q = ZW zG d 69 43 [x0, .int a, x2, x3, x4, x5, x6, x7] (.int a :: st) z Q := zw_next (f := z_iload 1 43) rfl rfl
theorem s69_43 {ls : List Value} {a b : Int32} : ZW zG d 69 43 ls (.int b :: .int a :: st) z Q = if ¬ a = b then ZW zG d 69 82 ls st z Q else ZW zG d 69 46 ls st z Q := zw_icne rfl
theorem s69_46 {x0 x1 x2 x3 x4 x5 x6 x7 : Value} : ZW zG d 69 46 [x0, x1, x2, x3, x4, x5, x6, x7] st z Q = (zir x7 = true ∧ ZW zG d 69 48 [x0, x1, x2, x3, x4, x5, x6, x7] (x7 :: st) z Q) := zw_cond (f := z_aload 7 48) rfl rfl
theorem s69_48 {ls : List Value} {r : Nat} : ZW zG d 69 48 ls (.ref r :: st) z Q = ((zcls z r = 23) ∧ ZW zG d 69 51 ls (.int (zfi z r 1) :: st) (z) Q) := zw_getI rfl
theorem s69_51 {x0 x1 x3 x4 x5 x6 x7 : Value} {a : Int32} : ZW zG d 69 51 [x0, x1, .int a, x3, x4, x5, x6, x7] st z Q = ZW zG d 69 52 [x0, x1, .int a, x3, x4, x5, x6, x7] (.int a :: st) z Q := zw_next (f := z_iload 2 52) rfl rfl
theorem s69_52 {ls : List Value} {a b : Int32} : ZW zG d 69 52 ls (.int b :: .int a :: st) z Q = if ¬ a = b then ZW zG d 69 82 ls st z Q else ZW zG d 69 55 ls st z Q := zw_icne rfl
theorem s69_55 {x0 x1 x2 x3 x4 x5 x6 x7 : Value} : ZW zG d 69 55 [x0, x1, x2, x3, x4, x5, x6, x7] st z Q = (zir x3 = true ∧ ZW zG d 69 56 [x0, x1, x2, x3, x4, x5, x6, x7] (x3 :: st) z Q) := zw_cond (f := z_aload 3 56) rfl rfl
theorem s69_56 {x0 x1 x2 x3 x4 x5 x6 x7 : Value} : ZW zG d 69 56 [x0, x1, x2, x3, x4, x5, x6, x7] st z Q = (zir x7 = true ∧ ZW zG d 69 58 [x0, x1, x2, x3, x4, x5, x6, x7] (x7 :: st) z Q) := zw_cond (f := z_aload 7 58) rfl rfl
theorem s69_58 {ls : List Value} {w0 : Nat} {r k1 : Nat} (hk : [(6, 83), (7, 83), (8, 83), (9, 83)].lookup (zcls z r) = some k1) (hfit : (zent [.ref r, .ref w0]).length ≤ zMl k1) : ZW zG (d + 1) 69 58 ls (.ref w0 :: .ref r :: st) z Q = (zcs st = true ∧ ZC zG d k1 [.ref r, .ref w0] z (zk zG (d + 1) 69 none 61 ls st Q)) := zc_U1 rfl hk hfit
theorem s69_61 {ls : List Value} {a : Int32} : ZW zG d 69 61 ls (.int a :: st) z Q = if ¬ a = 0 then ZW zG d 69 67 ls st z Q else ZW zG d 69 64 ls st z Q := zw_ifne rfl
theorem s69_64 {ls : List Value}  : ZW zG d 69 64 ls (st) z Q = ZW zG d 69 82 ls st z Q := zw_goto rfl
theorem s69_67 {x0 x1 x2 x3 x4 x5 x6 x7 : Value} : ZW zG d 69 67 [x0, x1, x2, x3, x4, x5, x6, x7] st z Q = (zir x0 = true ∧ ZW zG d 69 68 [x0, x1, x2, x3, x4, x5, x6, x7] (x0 :: st) z Q) := zw_cond (f := z_aload 0 68) rfl rfl
theorem s69_68 {ls : List Value} {r : Nat} : ZW zG d 69 68 ls (.ref r :: st) z Q = ((zcls z r = 3 ∧ zir (zfr z r 3) = true) ∧ ZW zG d 69 71 ls (zfr z r 3 :: st) (z) Q) := zw_getR rfl
theorem s69_71 {x0 x1 x2 x3 x4 x5 x7 : Value} {a : Int32} : ZW zG d 69 71 [x0, x1, x2, x3, x4, x5, .int a, x7] st z Q = ZW zG d 69 73 [x0, x1, x2, x3, x4, x5, .int a, x7] (.int a :: st) z Q := zw_next (f := z_iload 6 73) rfl rfl
theorem s69_73 {ls : List Value} {a : Int32} {r : Nat} : ZW zG d 69 73 ls (.int a :: .ref r :: st) z Q = ((zcs st = true ∧ zcls z r = 90 ∧ zin a (zls z r).length = true ∧ (zls z r).all (zlel z) = true) ∧ ZW zG d 69 78 ls ((zls z r).getD (zx a) .null :: st) (sls z r ((zls z r).eraseIdx (zx a))) Q) := zw_lrem rfl
theorem s69_78 {ls : List Value} {r : Nat} : ZW zG d 69 78 ls (.ref r :: st) z Q = ZW zG d 69 79 ls (st) z Q := zw_popr rfl
theorem s69_79 {x0 x1 x2 x3 x4 x6 x7 : Value} {a : Int32} : ZW zG d 69 79 [x0, x1, x2, x3, x4, .int a, x6, x7] st z Q = ZW zG d 69 82 [x0, x1, x2, x3, zclr x4, .int (a + (nI 1)), x6, x7] st z Q := zw_next (f := z_iinc 5 (nI 1) 82) rfl rfl
theorem s69_82 {x0 x1 x2 x3 x4 x5 x7 : Value} {a : Int32} : ZW zG d 69 82 [x0, x1, x2, x3, x4, x5, .int a, x7] st z Q = ZW zG d 69 85 [x0, x1, x2, x3, x4, zclr x5, .int (a + (-1)), x7] st z Q := zw_next (f := z_iinc 6 (-1) 85) rfl rfl
theorem s69_85 {ls : List Value}  : ZW zG d 69 85 ls (st) z Q = ZW zG d 69 16 ls st z Q := zw_goto rfl
theorem s69_88 {x0 x1 x2 x3 x4 x5 x6 x7 : Value} : ZW zG d 69 88 [x0, x1, x2, x3, x4, x5, x6, x7] st z Q = (zir x0 = true ∧ ZW zG d 69 89 [x0, x1, x2, x3, x4, x5, x6, x7] (x0 :: st) z Q) := zw_cond (f := z_aload 0 89) rfl rfl
theorem s69_89 {ls : List Value} {r : Nat} : ZW zG d 69 89 ls (.ref r :: st) z Q = ZW zG d 69 90 ls (.ref r :: .ref r :: st) z Q := zw_dupr rfl
theorem s69_90 {ls : List Value} {r : Nat} : ZW zG d 69 90 ls (.ref r :: st) z Q = ((zcls z r = 3) ∧ ZW zG d 69 93 ls (.int (zfi z r 5) :: st) (z) Q) := zw_getI rfl
theorem s69_93 {x0 x1 x2 x3 x4 x6 x7 : Value} {a : Int32} : ZW zG d 69 93 [x0, x1, x2, x3, x4, .int a, x6, x7] st z Q = ZW zG d 69 95 [x0, x1, x2, x3, x4, .int a, x6, x7] (.int a :: st) z Q := zw_next (f := z_iload 5 95) rfl rfl
theorem s69_95 {ls : List Value} {a b : Int32} : ZW zG d 69 95 ls (.int b :: .int a :: st) z Q = ZW zG d 69 96 ls (.int (a + b) :: st) z Q := zw_iadd rfl
theorem s69_96 {ls : List Value} {a : Int32} {r : Nat} : ZW zG d 69 96 ls (.int a :: .ref r :: st) z Q = ((zcls z r = 3) ∧ ZW zG d 69 99 ls (st) (sfi z r 5 a) Q) := zw_putI rfl
theorem s69_99 {x0 x1 x2 x3 x4 x5 x6 x7 : Value} : ZW zG d 69 99 [x0, x1, x2, x3, x4, x5, x6, x7] st z Q = (zir x0 = true ∧ ZW zG d 69 100 [x0, x1, x2, x3, x4, x5, x6, x7] (x0 :: st) z Q) := zw_cond (f := z_aload 0 100) rfl rfl
theorem s69_100 {x0 x2 x3 x4 x5 x6 x7 : Value} {a : Int32} : ZW zG d 69 100 [x0, .int a, x2, x3, x4, x5, x6, x7] st z Q = ZW zG d 69 101 [x0, .int a, x2, x3, x4, x5, x6, x7] (.int a :: st) z Q := zw_next (f := z_iload 1 101) rfl rfl
theorem s69_101 {x0 x1 x3 x4 x5 x6 x7 : Value} {a : Int32} : ZW zG d 69 101 [x0, x1, .int a, x3, x4, x5, x6, x7] st z Q = ZW zG d 69 102 [x0, x1, .int a, x3, x4, x5, x6, x7] (.int a :: st) z Q := zw_next (f := z_iload 2 102) rfl rfl
theorem s69_102 {x0 x1 x2 x3 x4 x5 x6 x7 : Value} : ZW zG d 69 102 [x0, x1, x2, x3, x4, x5, x6, x7] st z Q = (zir x3 = true ∧ ZW zG d 69 103 [x0, x1, x2, x3, x4, x5, x6, x7] (x3 :: st) z Q) := zw_cond (f := z_aload 3 103) rfl rfl
theorem s69_103 {ls : List Value}  {r k1 : Nat} (hk : [(6, 86), (7, 88), (8, 91), (9, 94)].lookup (zcls z r) = some k1) (hfit : (zent [.ref r]).length ≤ zMl k1) : ZW zG (d + 1) 69 103 ls (.ref r :: st) z Q = (zcs st = true ∧ ZC zG d k1 [.ref r] z (zk zG (d + 1) 69 none 106 ls st Q)) := zc_U0 rfl hk hfit
theorem s69_106 {x0 x1 x2 x3 x5 x6 x7 : Value} {a : Int32} : ZW zG d 69 106 [x0, x1, x2, x3, .int a, x5, x6, x7] st z Q = ZW zG d 69 108 [x0, x1, x2, x3, .int a, x5, x6, x7] (.int a :: st) z Q := zw_next (f := z_iload 4 108) rfl rfl
theorem s69_108 {ls : List Value} {w0 : Int32} {w1 : Int32} {w2 : Int32} {w3 : Int32} {r : Nat} : ZW zG (d + 1) 69 108 ls (.int w3 :: .int w2 :: .int w1 :: .int w0 :: .ref r :: st) z Q = (zcls z r = 3 ∧ zcs st = true ∧ ZC zG d 70 [.ref r, .int w0, .int w1, .int w2, .int w3] z (zk zG (d + 1) 69 (none) 111 ls st Q)) := zc_V4 rfl (Nat.le_of_ble_eq_true rfl)
theorem s69_111 {x0 x1 x2 x3 x4 x5 x6 x7 : Value} {v : Value} : ZW zG d 69 111 [x0, x1, x2, x3, x4, x5, x6, x7] (v :: st) z Q = (zir v = true ∧ ZW zG d 69 113 [x0, x1, x2, x3, x4, zclr x5, v, x7] st z Q) := by rw [zw_cond (f := z_astore 6 113) (G := zG) rfl rfl]; exact propext ⟨fun h => ⟨h.1.1, h.2⟩, fun h => ⟨⟨h.1, Nat.le_of_ble_eq_true rfl⟩, h.2⟩⟩
theorem s69_113 {x0 x1 x2 x3 x4 x5 x6 x7 : Value} : ZW zG d 69 113 [x0, x1, x2, x3, x4, x5, x6, x7] st z Q = (zir x6 = true ∧ ZW zG d 69 115 [x0, x1, x2, x3, x4, x5, x6, x7] (x6 :: st) z Q) := zw_cond (f := z_aload 6 115) rfl rfl
theorem s69_115 {ls : List Value} : ZW zG d 69 115 ls (.null :: st) z Q = ZW zG d 69 172 ls st z Q := zw_ifnull0 rfl
theorem s69_115r {ls : List Value} {r : Nat} : ZW zG d 69 115 ls (.ref r :: st) z Q = ZW zG d 69 118 ls st z Q := zw_ifnull1 rfl
theorem s69_118 {x0 x1 x2 x3 x4 x5 x6 x7 : Value} : ZW zG d 69 118 [x0, x1, x2, x3, x4, x5, x6, x7] st z Q = (zir x0 = true ∧ ZW zG d 69 119 [x0, x1, x2, x3, x4, x5, x6, x7] (x0 :: st) z Q) := zw_cond (f := z_aload 0 119) rfl rfl
theorem s69_119 {x0 x1 x3 x4 x5 x6 x7 : Value} {a : Int32} : ZW zG d 69 119 [x0, x1, .int a, x3, x4, x5, x6, x7] st z Q = ZW zG d 69 120 [x0, x1, .int a, x3, x4, x5, x6, x7] (.int a :: st) z Q := zw_next (f := z_iload 2 120) rfl rfl
theorem s69_120 {x0 x2 x3 x4 x5 x6 x7 : Value} {a : Int32} : ZW zG d 69 120 [x0, .int a, x2, x3, x4, x5, x6, x7] st z Q = ZW zG d 69 121 [x0, .int a, x2, x3, x4, x5, x6, x7] (.int a :: st) z Q := zw_next (f := z_iload 1 121) rfl rfl
theorem s69_121 {x0 x1 x2 x3 x4 x5 x6 x7 : Value} : ZW zG d 69 121 [x0, x1, x2, x3, x4, x5, x6, x7] st z Q = (zir x6 = true ∧ ZW zG d 69 123 [x0, x1, x2, x3, x4, x5, x6, x7] (x6 :: st) z Q) := zw_cond (f := z_aload 6 123) rfl rfl
theorem s69_123 {ls : List Value} {r : Nat} : ZW zG d 69 123 ls (.ref r :: st) z Q = ((zcls z r = 15) ∧ ZW zG d 69 126 ls (.int (zfi z r 1) :: st) (z) Q) := zw_getI rfl
theorem s69_126 {ls : List Value} {w0 : Int32} {w1 : Int32} {w2 : Int32} {r : Nat} : ZW zG (d + 1) 69 126 ls (.int w2 :: .int w1 :: .int w0 :: .ref r :: st) z Q = (zcls z r = 3 ∧ zcs st = true ∧ ZC zG d 72 [.ref r, .int w0, .int w1, .int w2] z (zk zG (d + 1) 69 (none) 129 ls st Q)) := zc_V3 rfl (Nat.le_of_ble_eq_true rfl)
theorem s69_129 {ls : List Value} {a : Int32} : ZW zG d 69 129 ls (.int a :: st) z Q = if ¬ a = 0 then ZW zG d 69 172 ls st z Q else ZW zG d 69 132 ls st z Q := zw_ifne rfl
theorem s69_132 {x0 x1 x2 x3 x4 x5 x6 x7 : Value} : ZW zG d 69 132 [x0, x1, x2, x3, x4, x5, x6, x7] st z Q = (zir x0 = true ∧ ZW zG d 69 133 [x0, x1, x2, x3, x4, x5, x6, x7] (x0 :: st) z Q) := zw_cond (f := z_aload 0 133) rfl rfl
theorem s69_133 {ls : List Value} {r : Nat} : ZW zG d 69 133 ls (.ref r :: st) z Q = ((zcls z r = 3 ∧ zir (zfr z r 3) = true) ∧ ZW zG d 69 136 ls (zfr z r 3 :: st) (z) Q) := zw_getR rfl
theorem s69_136 {ls : List Value}  : ZW zG d 69 136 ls (st) z Q = ZW zG d 69 139 ls (.ref (zn z) :: st) (snew z 23 5) Q := zw_new rfl
theorem s69_139 {ls : List Value} {r : Nat} : ZW zG d 69 139 ls (.ref r :: st) z Q = ZW zG d 69 140 ls (.ref r :: .ref r :: st) z Q := zw_dupr rfl
theorem s69_140 {x0 x1 x3 x4 x5 x6 x7 : Value} {a : Int32} : ZW zG d 69 140 [x0, x1, .int a, x3, x4, x5, x6, x7] st z Q = ZW zG d 69 141 [x0, x1, .int a, x3, x4, x5, x6, x7] (.int a :: st) z Q := zw_next (f := z_iload 2 141) rfl rfl
theorem s69_141 {x0 x2 x3 x4 x5 x6 x7 : Value} {a : Int32} : ZW zG d 69 141 [x0, .int a, x2, x3, x4, x5, x6, x7] st z Q = ZW zG d 69 142 [x0, .int a, x2, x3, x4, x5, x6, x7] (.int a :: st) z Q := zw_next (f := z_iload 1 142) rfl rfl
theorem s69_142 {x0 x1 x2 x3 x4 x5 x6 x7 : Value} : ZW zG d 69 142 [x0, x1, x2, x3, x4, x5, x6, x7] st z Q = (zir x6 = true ∧ ZW zG d 69 144 [x0, x1, x2, x3, x4, x5, x6, x7] (x6 :: st) z Q) := zw_cond (f := z_aload 6 144) rfl rfl
theorem s69_144 {ls : List Value} {r : Nat} : ZW zG d 69 144 ls (.ref r :: st) z Q = ((zcls z r = 15) ∧ ZW zG d 69 147 ls (.int (zfi z r 1) :: st) (z) Q) := zw_getI rfl
theorem s69_147 {ls : List Value}  : ZW zG d 69 147 ls (st) z Q = ZW zG d 69 150 ls ((.int (nI 399)) :: st) z Q := zw_push rfl
theorem s69_150 {x0 x1 x2 x3 x5 x6 x7 : Value} {a : Int32} : ZW zG d 69 150 [x0, x1, x2, x3, .int a, x5, x6, x7] st z Q = ZW zG d 69 152 [x0, x1, x2, x3, .int a, x5, x6, x7] (.int a :: st) z Q := zw_next (f := z_iload 4 152) rfl rfl
theorem s69_152 {x0 x1 x2 x3 x4 x5 x6 x7 : Value} : ZW zG d 69 152 [x0, x1, x2, x3, x4, x5, x6, x7] st z Q = (zir x6 = true ∧ ZW zG d 69 154 [x0, x1, x2, x3, x4, x5, x6, x7] (x6 :: st) z Q) := zw_cond (f := z_aload 6 154) rfl rfl
theorem s69_154 {ls : List Value} {r : Nat} : ZW zG d 69 154 ls (.ref r :: st) z Q = ((zcls z r = 15) ∧ ZW zG d 69 157 ls (.int (zfi z r 2) :: st) (z) Q) := zw_getI rfl
theorem s69_157 {ls : List Value} {a b : Int32} : ZW zG d 69 157 ls (.int b :: .int a :: st) z Q = ZW zG d 69 158 ls (.int (a + b) :: st) z Q := zw_iadd rfl
theorem s69_158 {ls : List Value} {a b : Int32} : ZW zG d 69 158 ls (.int b :: .int a :: st) z Q = ((zcs st = true) ∧ ZW zG d 69 161 ls (.int (zmin a b) :: st) (z) Q) := zw_mmin rfl
theorem s69_161 {x0 x1 x2 x3 x5 x6 x7 : Value} {a : Int32} : ZW zG d 69 161 [x0, x1, x2, x3, .int a, x5, x6, x7] st z Q = ZW zG d 69 163 [x0, x1, x2, x3, .int a, x5, x6, x7] (.int a :: st) z Q := zw_next (f := z_iload 4 163) rfl rfl
theorem s69_163 {ls : List Value} {w0 : Int32} {w1 : Int32} {w2 : Int32} {w3 : Int32} {w4 : Int32} {r : Nat} : ZW zG (d + 1) 69 163 ls (.int w4 :: .int w3 :: .int w2 :: .int w1 :: .int w0 :: .ref r :: st) z Q = (zcs st = true ∧ ZC zG d 250 [.ref r, .int w0, .int w1, .int w2, .int w3, .int w4] z (zk zG (d + 1) 69 (none) 166 ls st Q)) := zc_I5 rfl (Nat.le_of_ble_eq_true rfl)
theorem s69_166 {ls : List Value} {v : Value} {r : Nat} : ZW zG d 69 166 ls (v :: .ref r :: st) z Q = ((zcs st = true ∧ zcls z r = 90 ∧ (zlel z v = true ∧ (zls z r).all (zlel z) = true ∧ (zls z r).length < 100000)) ∧ ZW zG d 69 171 ls (.int 1 :: st) (sladd z r v) Q) := zw_ladd1 rfl
theorem s69_171 {ls : List Value} {a : Int32} : ZW zG d 69 171 ls (.int a :: st) z Q = ZW zG d 69 172 ls (st) z Q := zw_popi rfl
theorem s69_172 {x0 x1 x2 x3 x4 x5 x6 x7 : Value} : ZW zG d 69 172 [x0, x1, x2, x3, x4, x5, x6, x7] st z Q = (zir x3 = true ∧ ZW zG d 69 173 [x0, x1, x2, x3, x4, x5, x6, x7] (x3 :: st) z Q) := zw_cond (f := z_aload 3 173) rfl rfl
theorem s69_173 {ls : List Value}  {r k1 : Nat} (hk : [(6, 84), (7, 84), (8, 92), (9, 92)].lookup (zcls z r) = some k1) (hfit : (zent [.ref r]).length ≤ zMl k1) : ZW zG (d + 1) 69 173 ls (.ref r :: st) z Q = (zcs st = true ∧ ZC zG d k1 [.ref r] z (zk zG (d + 1) 69 none 176 ls st Q)) := zc_U0 rfl hk hfit
theorem s69_176 {ls : List Value} {a : Int32} : ZW zG d 69 176 ls (.int a :: st) z Q = if a = 0 then ZW zG d 69 185 ls st z Q else ZW zG d 69 179 ls st z Q := zw_ifeq rfl
theorem s69_179 {x0 x1 x2 x3 x4 x5 x6 x7 : Value} : ZW zG d 69 179 [x0, x1, x2, x3, x4, x5, x6, x7] st z Q = (zir x0 = true ∧ ZW zG d 69 180 [x0, x1, x2, x3, x4, x5, x6, x7] (x0 :: st) z Q) := zw_cond (f := z_aload 0 180) rfl rfl
theorem s69_180 {x0 x2 x3 x4 x5 x6 x7 : Value} {a : Int32} : ZW zG d 69 180 [x0, .int a, x2, x3, x4, x5, x6, x7] st z Q = ZW zG d 69 181 [x0, .int a, x2, x3, x4, x5, x6, x7] (.int a :: st) z Q := zw_next (f := z_iload 1 181) rfl rfl
theorem s69_181 {x0 x1 x3 x4 x5 x6 x7 : Value} {a : Int32} : ZW zG d 69 181 [x0, x1, .int a, x3, x4, x5, x6, x7] st z Q = ZW zG d 69 182 [x0, x1, .int a, x3, x4, x5, x6, x7] (.int a :: st) z Q := zw_next (f := z_iload 2 182) rfl rfl
theorem s69_182 {ls : List Value} {w0 : Int32} {w1 : Int32} {r : Nat} : ZW zG (d + 1) 69 182 ls (.int w1 :: .int w0 :: .ref r :: st) z Q = (zcls z r = 3 ∧ zcs st = true ∧ ZC zG d 73 [.ref r, .int w0, .int w1] z (zk zG (d + 1) 69 (none) 185 ls st Q)) := zc_V2 rfl (Nat.le_of_ble_eq_true rfl)
theorem s69_185 {x0 x1 x2 x3 x4 x6 x7 : Value} {a : Int32} : ZW zG d 69 185 [x0, x1, x2, x3, x4, .int a, x6, x7] st z Q = ZW zG d 69 187 [x0, x1, x2, x3, x4, .int a, x6, x7] (.int a :: st) z Q := zw_next (f := z_iload 5 187) rfl rfl
theorem s69_187 {ls : List Value} {a : Int32} : ZW zG d 69 187 ls ([.int a]) z Q = Q (.inl (some (.int a))) z := zw_reti rfl
/-- X3_rule (IIII)LCardBowl$Rule; -/
theorem e70 {r0 : Nat} {v0 : Int32} {v1 : Int32} {v2 : Int32} {v3 : Int32} : ZC zG d 70 [.ref r0, .int v0, .int v1, .int v2, .int v3] z Q = ZW zG d 70 0 [.ref r0, .int v0, .int v1, .int v2, .int v3, zdum] [] z Q := rfl
theorem s70_0 {x0 x1 x2 x3 x4 x5 : Value} : ZW zG d 70 0 [x0, x1, x2, x3, x4, x5] st z Q = (zir x0 = true ∧ ZW zG d 70 1 [x0, x1, x2, x3, x4, x5] (x0 :: st) z Q) := zw_cond (f := z_aload 0 1) rfl rfl
theorem s70_1 {ls : List Value} {r : Nat} : ZW zG d 70 1 ls (.ref r :: st) z Q = ((zcls z r = 3 ∧ zir (zfr z r 4) = true) ∧ ZW zG d 70 4 ls (zfr z r 4 :: st) (z) Q) := zw_getR rfl
theorem s70_4 {x0 x1 x2 x3 x4 x5 : Value} : ZW zG d 70 4 [x0, x1, x2, x3, x4, x5] st z Q = (zir x0 = true ∧ ZW zG d 70 5 [x0, x1, x2, x3, x4, x5] (x0 :: st) z Q) := zw_cond (f := z_aload 0 5) rfl rfl
theorem s70_5 {ls : List Value} {r : Nat} : ZW zG d 70 5 ls (.ref r :: st) z Q = ((zcls z r = 3 ∧ zir (zfr z r 0) = true) ∧ ZW zG d 70 8 ls (zfr z r 0 :: st) (z) Q) := zw_getR rfl
theorem s70_8 {x0 x2 x3 x4 x5 : Value} {a : Int32} : ZW zG d 70 8 [x0, .int a, x2, x3, x4, x5] st z Q = ZW zG d 70 9 [x0, .int a, x2, x3, x4, x5] (.int a :: st) z Q := zw_next (f := z_iload 1 9) rfl rfl
theorem s70_9 {ls : List Value} {w0 : Int32} {r : Nat} : ZW zG (d + 1) 70 9 ls (.int w0 :: .ref r :: st) z Q = (zcls z r = 2 ∧ zcs st = true ∧ ZC zG d 65 [.ref r, .int w0] z (zk zG (d + 1) 70 (none) 12 ls st Q)) := zc_V1 rfl (Nat.le_of_ble_eq_true rfl)
theorem s70_12 {ls : List Value} {r : Nat} : ZW zG d 70 12 ls (.ref r :: st) z Q = ((zcls z r = 21) ∧ ZW zG d 70 15 ls (.int (zfi z r 2) :: st) (z) Q) := zw_getI rfl
theorem s70_15 {ls : List Value} {a : Int32} {r : Nat} : ZW zG d 70 15 ls (.int a :: .ref r :: st) z Q = ((zcls z r = 4) ∧ ZW zG d 70 18 ls (st) (sfi z r 0 a) Q) := zw_putI rfl
theorem s70_18 {x0 x1 x2 x3 x4 x5 : Value} : ZW zG d 70 18 [x0, x1, x2, x3, x4, x5] st z Q = (zir x0 = true ∧ ZW zG d 70 19 [x0, x1, x2, x3, x4, x5] (x0 :: st) z Q) := zw_cond (f := z_aload 0 19) rfl rfl
theorem s70_19 {ls : List Value} {r : Nat} : ZW zG d 70 19 ls (.ref r :: st) z Q = ((zcls z r = 3 ∧ zir (zfr z r 4) = true) ∧ ZW zG d 70 22 ls (zfr z r 4 :: st) (z) Q) := zw_getR rfl
theorem s70_22 {x0 x1 x2 x3 x4 x5 : Value} : ZW zG d 70 22 [x0, x1, x2, x3, x4, x5] st z Q = (zir x0 = true ∧ ZW zG d 70 23 [x0, x1, x2, x3, x4, x5] (x0 :: st) z Q) := zw_cond (f := z_aload 0 23) rfl rfl
theorem s70_23 {ls : List Value} {r : Nat} : ZW zG d 70 23 ls (.ref r :: st) z Q = ((zcls z r = 3 ∧ zir (zfr z r 0) = true) ∧ ZW zG d 70 26 ls (zfr z r 0 :: st) (z) Q) := zw_getR rfl
theorem s70_26 {x0 x1 x3 x4 x5 : Value} {a : Int32} : ZW zG d 70 26 [x0, x1, .int a, x3, x4, x5] st z Q = ZW zG d 70 27 [x0, x1, .int a, x3, x4, x5] (.int a :: st) z Q := zw_next (f := z_iload 2 27) rfl rfl
theorem s70_27 {ls : List Value} {w0 : Int32} {r : Nat} : ZW zG (d + 1) 70 27 ls (.int w0 :: .ref r :: st) z Q = (zcls z r = 2 ∧ zcs st = true ∧ ZC zG d 65 [.ref r, .int w0] z (zk zG (d + 1) 70 (none) 30 ls st Q)) := zc_V1 rfl (Nat.le_of_ble_eq_true rfl)
theorem s70_30 {ls : List Value} {r : Nat} : ZW zG d 70 30 ls (.ref r :: st) z Q = ((zcls z r = 21) ∧ ZW zG d 70 33 ls (.int (zfi z r 2) :: st) (z) Q) := zw_getI rfl
theorem s70_33 {ls : List Value} {a : Int32} {r : Nat} : ZW zG d 70 33 ls (.int a :: .ref r :: st) z Q = ((zcls z r = 4) ∧ ZW zG d 70 36 ls (st) (sfi z r 1 a) Q) := zw_putI rfl
theorem s70_36 {x0 x1 x2 x3 x4 x5 : Value} : ZW zG d 70 36 [x0, x1, x2, x3, x4, x5] st z Q = (zir x0 = true ∧ ZW zG d 70 37 [x0, x1, x2, x3, x4, x5] (x0 :: st) z Q) := zw_cond (f := z_aload 0 37) rfl rfl
theorem s70_37 {ls : List Value} {r : Nat} : ZW zG d 70 37 ls (.ref r :: st) z Q = ((zcls z r = 3 ∧ zir (zfr z r 4) = true) ∧ ZW zG d 70 40 ls (zfr z r 4 :: st) (z) Q) := zw_getR rfl
theorem s70_40 {x0 x1 x2 x3 x4 x5 : Value} : ZW zG d 70 40 [x0, x1, x2, x3, x4, x5] st z Q = (zir x0 = true ∧ ZW zG d 70 41 [x0, x1, x2, x3, x4, x5] (x0 :: st) z Q) := zw_cond (f := z_aload 0 41) rfl rfl
theorem s70_41 {x0 x1 x3 x4 x5 : Value} {a : Int32} : ZW zG d 70 41 [x0, x1, .int a, x3, x4, x5] st z Q = ZW zG d 70 42 [x0, x1, .int a, x3, x4, x5] (.int a :: st) z Q := zw_next (f := z_iload 2 42) rfl rfl
theorem s70_42 {ls : List Value} {w0 : Int32} {r : Nat} : ZW zG (d + 1) 70 42 ls (.int w0 :: .ref r :: st) z Q = (zcls z r = 3 ∧ zcs st = true ∧ ZC zG d 71 [.ref r, .int w0] z (zk zG (d + 1) 70 (none) 45 ls st Q)) := zc_V1 rfl (Nat.le_of_ble_eq_true rfl)
theorem s70_45 {ls : List Value} {a : Int32} {r : Nat} : ZW zG d 70 45 ls (.int a :: .ref r :: st) z Q = ((zcls z r = 4) ∧ ZW zG d 70 48 ls (st) (sfi z r 2 a) Q) := zw_putI rfl
theorem s70_48 {x0 x1 x2 x3 x4 x5 : Value} : ZW zG d 70 48 [x0, x1, x2, x3, x4, x5] st z Q = (zir x0 = true ∧ ZW zG d 70 49 [x0, x1, x2, x3, x4, x5] (x0 :: st) z Q) := zw_cond (f := z_aload 0 49) rfl rfl
theorem s70_49 {ls : List Value} {r : Nat} : ZW zG d 70 49 ls (.ref r :: st) z Q = ((zcls z r = 3 ∧ zir (zfr z r 4) = true) ∧ ZW zG d 70 52 ls (zfr z r 4 :: st) (z) Q) := zw_getR rfl
theorem s70_52 {x0 x1 x2 x3 x5 : Value} {a : Int32} : ZW zG d 70 52 [x0, x1, x2, x3, .int a, x5] st z Q = ZW zG d 70 54 [x0, x1, x2, x3, .int a, x5] (.int a :: st) z Q := zw_next (f := z_iload 4 54) rfl rfl
theorem s70_54 {ls : List Value} {a : Int32} {r : Nat} : ZW zG d 70 54 ls (.int a :: .ref r :: st) z Q = ((zcls z r = 4) ∧ ZW zG d 70 57 ls (st) (sfi z r 3 a) Q) := zw_putI rfl
theorem s70_57 {x0 x1 x2 x3 x4 x5 : Value} : ZW zG d 70 57 [x0, x1, x2, x3, x4, x5] st z Q = (zir x0 = true ∧ ZW zG d 70 58 [x0, x1, x2, x3, x4, x5] (x0 :: st) z Q) := zw_cond (f := z_aload 0 58) rfl rfl
theorem s70_58 {ls : List Value} {r : Nat} : ZW zG d 70 58 ls (.ref r :: st) z Q = ((zcls z r = 3 ∧ zir (zfr z r 4) = true) ∧ ZW zG d 70 61 ls (zfr z r 4 :: st) (z) Q) := zw_getR rfl
theorem s70_61 {x0 x1 x2 x3 x4 x5 : Value} : ZW zG d 70 61 [x0, x1, x2, x3, x4, x5] st z Q = (zir x0 = true ∧ ZW zG d 70 62 [x0, x1, x2, x3, x4, x5] (x0 :: st) z Q) := zw_cond (f := z_aload 0 62) rfl rfl
theorem s70_62 {x0 x2 x3 x4 x5 : Value} {a : Int32} : ZW zG d 70 62 [x0, .int a, x2, x3, x4, x5] st z Q = ZW zG d 70 63 [x0, .int a, x2, x3, x4, x5] (.int a :: st) z Q := zw_next (f := z_iload 1 63) rfl rfl
theorem s70_63 {x0 x1 x3 x4 x5 : Value} {a : Int32} : ZW zG d 70 63 [x0, x1, .int a, x3, x4, x5] st z Q = ZW zG d 70 64 [x0, x1, .int a, x3, x4, x5] (.int a :: st) z Q := zw_next (f := z_iload 2 64) rfl rfl
theorem s70_64 {ls : List Value} {w0 : Int32} {w1 : Int32} {r : Nat} : ZW zG (d + 1) 70 64 ls (.int w1 :: .int w0 :: .ref r :: st) z Q = (zcls z r = 3 ∧ zcs st = true ∧ ZC zG d 68 [.ref r, .int w0, .int w1] z (zk zG (d + 1) 70 (none) 67 ls st Q)) := zc_V2 rfl (Nat.le_of_ble_eq_true rfl)
theorem s70_67 {ls : List Value} {a : Int32} : ZW zG d 70 67 ls (.int a :: st) z Q = if a = 0 then ZW zG d 70 74 ls st z Q else ZW zG d 70 70 ls st z Q := zw_ifeq rfl
theorem s70_70 {ls : List Value}  : ZW zG d 70 70 ls (st) z Q = ZW zG d 70 71 ls ((.int (nI 1)) :: st) z Q := zw_push rfl
theorem s70_71 {ls : List Value}  : ZW zG d 70 71 ls (st) z Q = ZW zG d 70 75 ls st z Q := zw_goto rfl
theorem s70_74 {ls : List Value}  : ZW zG d 70 74 ls (st) z Q = ZW zG d 70 75 ls ((.int (nI 0)) :: st) z Q := zw_push rfl
theorem s70_75 {ls : List Value} {a : Int32} {r : Nat} : ZW zG d 70 75 ls (.int a :: .ref r :: st) z Q = ((zcls z r = 4) ∧ ZW zG d 70 78 ls (st) (sfi z r 4 a) Q) := zw_putI rfl
theorem s70_78 {ls : List Value}  : ZW zG d 70 78 ls (st) z Q = ZW zG d 70 79 ls ((.int (nI 0)) :: st) z Q := zw_push rfl
theorem s70_79 {x0 x1 x2 x3 x4 x5 : Value} {a : Int32} : ZW zG d 70 79 [x0, x1, x2, x3, x4, x5] (.int a :: st) z Q = ZW zG d 70 81 [x0, x1, x2, x3, zclr x4, .int a] st z Q := zw_next (f := z_istore 5 81) rfl rfl
theorem s70_81 {x0 x1 x2 x3 x4 : Value} {a : Int32} : ZW zG d 70 81 [x0, x1, x2, x3, x4, .int a] st z Q = ZW zG d 70 83 [x0, x1, x2, x3, x4, .int a] (.int a :: st) z Q := zw_next (f := z_iload 5 83) rfl rfl
theorem s70_83 {x0 x1 x2 x3 x4 x5 : Value} : ZW zG d 70 83 [x0, x1, x2, x3, x4, x5] st z Q = (zir x0 = true ∧ ZW zG d 70 84 [x0, x1, x2, x3, x4, x5] (x0 :: st) z Q) := zw_cond (f := z_aload 0 84) rfl rfl
theorem s70_84 {ls : List Value} {r : Nat} : ZW zG d 70 84 ls (.ref r :: st) z Q = ((zcls z r = 3 ∧ zir (zfr z r 1) = true) ∧ ZW zG d 70 87 ls (zfr z r 1 :: st) (z) Q) := zw_getR rfl
theorem s70_87 {ls : List Value} {r : Nat} : ZW zG d 70 87 ls (.ref r :: st) z Q = ((zcs st = true ∧ zcls z r = 90) ∧ ZW zG d 70 92 ls (.int (nI (zls z r).length) :: st) (z) Q) := zw_lsize rfl
theorem s70_92 {ls : List Value} {a b : Int32} : ZW zG d 70 92 ls (.int b :: .int a :: st) z Q = if b ≤ a then ZW zG d 70 141 ls st z Q else ZW zG d 70 95 ls st z Q := zw_icge rfl
theorem s70_95 {x0 x1 x2 x3 x4 x5 : Value} : ZW zG d 70 95 [x0, x1, x2, x3, x4, x5] st z Q = (zir x0 = true ∧ ZW zG d 70 96 [x0, x1, x2, x3, x4, x5] (x0 :: st) z Q) := zw_cond (f := z_aload 0 96) rfl rfl
theorem s70_96 {ls : List Value} {r : Nat} : ZW zG d 70 96 ls (.ref r :: st) z Q = ((zcls z r = 3 ∧ zir (zfr z r 1) = true) ∧ ZW zG d 70 99 ls (zfr z r 1 :: st) (z) Q) := zw_getR rfl
theorem s70_99 {x0 x1 x2 x3 x4 : Value} {a : Int32} : ZW zG d 70 99 [x0, x1, x2, x3, x4, .int a] st z Q = ZW zG d 70 101 [x0, x1, x2, x3, x4, .int a] (.int a :: st) z Q := zw_next (f := z_iload 5 101) rfl rfl
theorem s70_101 {ls : List Value} {a : Int32} {r : Nat} : ZW zG d 70 101 ls (.int a :: .ref r :: st) z Q = ((zcs st = true ∧ zcls z r = 90 ∧ zin a (zls z r).length = true) ∧ ZW zG d 70 106 ls ((zls z r).getD (zx a) .null :: st) (z) Q) := zw_lget rfl
theorem s70_106 {ls : List Value} {r : Nat} : ZW zG d 70 106 ls (.ref r :: st) z Q = ((zcls z r = 15) ∧ ZW zG d 70 109 ls (.ref r :: st) (z) Q) := zw_cast rfl
theorem s70_109 {x0 x1 x2 x4 x5 : Value} {a : Int32} : ZW zG d 70 109 [x0, x1, x2, .int a, x4, x5] st z Q = ZW zG d 70 110 [x0, x1, x2, .int a, x4, x5] (.int a :: st) z Q := zw_next (f := z_iload 3 110) rfl rfl
theorem s70_110 {x0 x1 x2 x3 x4 x5 : Value} : ZW zG d 70 110 [x0, x1, x2, x3, x4, x5] st z Q = (zir x0 = true ∧ ZW zG d 70 111 [x0, x1, x2, x3, x4, x5] (x0 :: st) z Q) := zw_cond (f := z_aload 0 111) rfl rfl
theorem s70_111 {ls : List Value} {r : Nat} : ZW zG d 70 111 ls (.ref r :: st) z Q = ((zcls z r = 3 ∧ zir (zfr z r 4) = true) ∧ ZW zG d 70 114 ls (zfr z r 4 :: st) (z) Q) := zw_getR rfl
theorem s70_114 {ls : List Value} {w0 : Int32} {w1 : Nat} {r : Nat} : ZW zG (d + 1) 70 114 ls (.ref w1 :: .int w0 :: .ref r :: st) z Q = (zcls z r = 15 ∧ zcs st = true ∧ ZC zG d 235 [.ref r, .int w0, .ref w1] z (zk zG (d + 1) 70 (none) 117 ls st Q)) := zc_V2 rfl (Nat.le_of_ble_eq_true rfl)
theorem s70_117 {ls : List Value} {a : Int32} : ZW zG d 70 117 ls (.int a :: st) z Q = if a = 0 then ZW zG d 70 135 ls st z Q else ZW zG d 70 120 ls st z Q := zw_ifeq rfl
theorem s70_120 {x0 x1 x2 x3 x4 x5 : Value} : ZW zG d 70 120 [x0, x1, x2, x3, x4, x5] st z Q = (zir x0 = true ∧ ZW zG d 70 121 [x0, x1, x2, x3, x4, x5] (x0 :: st) z Q) := zw_cond (f := z_aload 0 121) rfl rfl
theorem s70_121 {ls : List Value} {r : Nat} : ZW zG d 70 121 ls (.ref r :: st) z Q = ((zcls z r = 3 ∧ zir (zfr z r 1) = true) ∧ ZW zG d 70 124 ls (zfr z r 1 :: st) (z) Q) := zw_getR rfl
theorem s70_124 {x0 x1 x2 x3 x4 : Value} {a : Int32} : ZW zG d 70 124 [x0, x1, x2, x3, x4, .int a] st z Q = ZW zG d 70 126 [x0, x1, x2, x3, x4, .int a] (.int a :: st) z Q := zw_next (f := z_iload 5 126) rfl rfl
theorem s70_126 {ls : List Value} {a : Int32} {r : Nat} : ZW zG d 70 126 ls (.int a :: .ref r :: st) z Q = ((zcs st = true ∧ zcls z r = 90 ∧ zin a (zls z r).length = true) ∧ ZW zG d 70 131 ls ((zls z r).getD (zx a) .null :: st) (z) Q) := zw_lget rfl
theorem s70_131 {ls : List Value} {r : Nat} : ZW zG d 70 131 ls (.ref r :: st) z Q = ((zcls z r = 15) ∧ ZW zG d 70 134 ls (.ref r :: st) (z) Q) := zw_cast rfl
theorem s70_134 {ls : List Value} {q : Nat} : ZW zG d 70 134 ls ([.ref q]) z Q = Q (.inl (some (.ref q))) z := zw_reta rfl
theorem s70_134r {ls : List Value}  : ZW zG d 70 134 ls ([.null]) z Q = Q (.inl (some .null)) z := zw_retn rfl
theorem s70_135 {x0 x1 x2 x3 x4 : Value} {a : Int32} : ZW zG d 70 135 [x0, x1, x2, x3, x4, .int a] st z Q = ZW zG d 70 138 [x0, x1, x2, x3, zclr x4, .int (a + (nI 1))] st z Q := zw_next (f := z_iinc 5 (nI 1) 138) rfl rfl
theorem s70_138 {ls : List Value}  : ZW zG d 70 138 ls (st) z Q = ZW zG d 70 81 ls st z Q := zw_goto rfl
theorem s70_141 {ls : List Value}  : ZW zG d 70 141 ls (st) z Q = ZW zG d 70 142 ls (.null :: st) z Q := zw_push rfl
theorem s70_142 {ls : List Value} {q : Nat} : ZW zG d 70 142 ls ([.ref q]) z Q = Q (.inl (some (.ref q))) z := zw_reta rfl
theorem s70_142r {ls : List Value}  : ZW zG d 70 142 ls ([.null]) z Q = Q (.inl (some .null)) z := zw_retn rfl
/-- X3_debtsOf (I)I -/
theorem e71 {r0 : Nat} {v0 : Int32} : ZC zG d 71 [.ref r0, .int v0] z Q = ZW zG d 71 0 [.ref r0, .int v0, zdum, zdum] [] z Q := rfl
theorem s71_0 {ls : List Value}  : ZW zG d 71 0 ls (st) z Q = ZW zG d 71 1 ls ((.int (nI 0)) :: st) z Q := zw_push rfl
theorem s71_1 {x0 x1 x2 x3 : Value} {a : Int32} : ZW zG d 71 1 [x0, x1, x2, x3] (.int a :: st) z Q = ZW zG d 71 2 [x0, zclr x1, .int a, x3] st z Q := zw_next (f := z_istore 2 2) rfl rfl
theorem s71_2 {ls : List Value}  : ZW zG d 71 2 ls (st) z Q = ZW zG d 71 3 ls ((.int (nI 0)) :: st) z Q := zw_push rfl
theorem s71_3 {x0 x1 x2 x3 : Value} {a : Int32} : ZW zG d 71 3 [x0, x1, x2, x3] (.int a :: st) z Q = ZW zG d 71 4 [x0, x1, zclr x2, .int a] st z Q := zw_next (f := z_istore 3 4) rfl rfl
theorem s71_4 {x0 x1 x2 : Value} {a : Int32} : ZW zG d 71 4 [x0, x1, x2, .int a] st z Q = ZW zG d 71 5 [x0, x1, x2, .int a] (.int a :: st) z Q := zw_next (f := z_iload 3 5) rfl rfl
theorem s71_5 {x0 x1 x2 x3 : Value} : ZW zG d 71 5 [x0, x1, x2, x3] st z Q = (zir x0 = true ∧ ZW zG d 71 6 [x0, x1, x2, x3] (x0 :: st) z Q) := zw_cond (f := z_aload 0 6) rfl rfl
theorem s71_6 {ls : List Value} {r : Nat} : ZW zG d 71 6 ls (.ref r :: st) z Q = ((zcls z r = 3 ∧ zir (zfr z r 3) = true) ∧ ZW zG d 71 9 ls (zfr z r 3 :: st) (z) Q) := zw_getR rfl
theorem s71_9 {ls : List Value} {r : Nat} : ZW zG d 71 9 ls (.ref r :: st) z Q = ((zcs st = true ∧ zcls z r = 90) ∧ ZW zG d 71 14 ls (.int (nI (zls z r).length) :: st) (z) Q) := zw_lsize rfl
theorem s71_14 {ls : List Value} {a b : Int32} : ZW zG d 71 14 ls (.int b :: .int a :: st) z Q = if b ≤ a then ZW zG d 71 51 ls st z Q else ZW zG d 71 17 ls st z Q := zw_icge rfl
theorem s71_17 {x0 x1 x3 : Value} {a : Int32} : ZW zG d 71 17 [x0, x1, .int a, x3] st z Q = ZW zG d 71 18 [x0, x1, .int a, x3] (.int a :: st) z Q := zw_next (f := z_iload 2 18) rfl rfl
theorem s71_18 {x0 x1 x2 x3 : Value} : ZW zG d 71 18 [x0, x1, x2, x3] st z Q = (zir x0 = true ∧ ZW zG d 71 19 [x0, x1, x2, x3] (x0 :: st) z Q) := zw_cond (f := z_aload 0 19) rfl rfl
theorem s71_19 {ls : List Value} {r : Nat} : ZW zG d 71 19 ls (.ref r :: st) z Q = ((zcls z r = 3 ∧ zir (zfr z r 3) = true) ∧ ZW zG d 71 22 ls (zfr z r 3 :: st) (z) Q) := zw_getR rfl
theorem s71_22 {x0 x1 x2 : Value} {a : Int32} : ZW zG d 71 22 [x0, x1, x2, .int a] st z Q = ZW zG d 71 23 [x0, x1, x2, .int a] (.int a :: st) z Q := zw_next (f := z_iload 3 23) rfl rfl
theorem s71_23 {ls : List Value} {a : Int32} {r : Nat} : ZW zG d 71 23 ls (.int a :: .ref r :: st) z Q = ((zcs st = true ∧ zcls z r = 90 ∧ zin a (zls z r).length = true) ∧ ZW zG d 71 28 ls ((zls z r).getD (zx a) .null :: st) (z) Q) := zw_lget rfl
theorem s71_28 {ls : List Value} {r : Nat} : ZW zG d 71 28 ls (.ref r :: st) z Q = ((zcls z r = 23) ∧ ZW zG d 71 31 ls (.ref r :: st) (z) Q) := zw_cast rfl
theorem s71_31 {ls : List Value} {r : Nat} : ZW zG d 71 31 ls (.ref r :: st) z Q = ((zcls z r = 23) ∧ ZW zG d 71 34 ls (.int (zfi z r 0) :: st) (z) Q) := zw_getI rfl
theorem s71_34 {x0 x2 x3 : Value} {a : Int32} : ZW zG d 71 34 [x0, .int a, x2, x3] st z Q = ZW zG d 71 35 [x0, .int a, x2, x3] (.int a :: st) z Q := zw_next (f := z_iload 1 35) rfl rfl
theorem s71_35 {ls : List Value} {a b : Int32} : ZW zG d 71 35 ls (.int b :: .int a :: st) z Q = if ¬ a = b then ZW zG d 71 42 ls st z Q else ZW zG d 71 38 ls st z Q := zw_icne rfl
theorem s71_38 {ls : List Value}  : ZW zG d 71 38 ls (st) z Q = ZW zG d 71 39 ls ((.int (nI 1)) :: st) z Q := zw_push rfl
theorem s71_39 {ls : List Value}  : ZW zG d 71 39 ls (st) z Q = ZW zG d 71 43 ls st z Q := zw_goto rfl
theorem s71_42 {ls : List Value}  : ZW zG d 71 42 ls (st) z Q = ZW zG d 71 43 ls ((.int (nI 0)) :: st) z Q := zw_push rfl
theorem s71_43 {ls : List Value} {a b : Int32} : ZW zG d 71 43 ls (.int b :: .int a :: st) z Q = ZW zG d 71 44 ls (.int (a + b) :: st) z Q := zw_iadd rfl
theorem s71_44 {x0 x1 x2 x3 : Value} {a : Int32} : ZW zG d 71 44 [x0, x1, x2, x3] (.int a :: st) z Q = ZW zG d 71 45 [x0, zclr x1, .int a, x3] st z Q := zw_next (f := z_istore 2 45) rfl rfl
theorem s71_45 {x0 x1 x2 : Value} {a : Int32} : ZW zG d 71 45 [x0, x1, x2, .int a] st z Q = ZW zG d 71 48 [x0, x1, zclr x2, .int (a + (nI 1))] st z Q := zw_next (f := z_iinc 3 (nI 1) 48) rfl rfl
theorem s71_48 {ls : List Value}  : ZW zG d 71 48 ls (st) z Q = ZW zG d 71 4 ls st z Q := zw_goto rfl
theorem s71_51 {x0 x1 x3 : Value} {a : Int32} : ZW zG d 71 51 [x0, x1, .int a, x3] st z Q = ZW zG d 71 52 [x0, x1, .int a, x3] (.int a :: st) z Q := zw_next (f := z_iload 2 52) rfl rfl
theorem s71_52 {ls : List Value} {a : Int32} : ZW zG d 71 52 ls ([.int a]) z Q = Q (.inl (some (.int a))) z := zw_reti rfl
/-- X3_hasOpen (III)Z -/
theorem e72 {r0 : Nat} {v0 : Int32} {v1 : Int32} {v2 : Int32} : ZC zG d 72 [.ref r0, .int v0, .int v1, .int v2] z Q = ZW zG d 72 0 [.ref r0, .int v0, .int v1, .int v2, zdum, zdum] [] z Q := rfl
theorem s72_0 {ls : List Value}  : ZW zG d 72 0 ls (st) z Q = ZW zG d 72 1 ls ((.int (nI 0)) :: st) z Q := zw_push rfl
theorem s72_1 {x0 x1 x2 x3 x4 x5 : Value} {a : Int32} : ZW zG d 72 1 [x0, x1, x2, x3, x4, x5] (.int a :: st) z Q = ZW zG d 72 3 [x0, x1, x2, zclr x3, .int a, x5] st z Q := zw_next (f := z_istore 4 3) rfl rfl
theorem s72_3 {ls : List Value}  : ZW zG d 72 3 ls (st) z Q = ZW zG d 72 4 ls ((.int (nI 0)) :: st) z Q := zw_push rfl
theorem s72_4 {x0 x1 x2 x3 x4 x5 : Value} {a : Int32} : ZW zG d 72 4 [x0, x1, x2, x3, x4, x5] (.int a :: st) z Q = ZW zG d 72 6 [x0, x1, x2, x3, zclr x4, .int a] st z Q := zw_next (f := z_istore 5 6) rfl rfl
theorem s72_6 {x0 x1 x2 x3 x4 : Value} {a : Int32} : ZW zG d 72 6 [x0, x1, x2, x3, x4, .int a] st z Q = ZW zG d 72 8 [x0, x1, x2, x3, x4, .int a] (.int a :: st) z Q := zw_next (f := z_iload 5 8) rfl rfl
theorem s72_8 {x0 x1 x2 x3 x4 x5 : Value} : ZW zG d 72 8 [x0, x1, x2, x3, x4, x5] st z Q = (zir x0 = true ∧ ZW zG d 72 9 [x0, x1, x2, x3, x4, x5] (x0 :: st) z Q) := zw_cond (f := z_aload 0 9) rfl rfl
theorem s72_9 {ls : List Value} {r : Nat} : ZW zG d 72 9 ls (.ref r :: st) z Q = ((zcls z r = 3 ∧ zir (zfr z r 3) = true) ∧ ZW zG d 72 12 ls (zfr z r 3 :: st) (z) Q) := zw_getR rfl
theorem s72_12 {ls : List Value} {r : Nat} : ZW zG d 72 12 ls (.ref r :: st) z Q = ((zcs st = true ∧ zcls z r = 90) ∧ ZW zG d 72 17 ls (.int (nI (zls z r).length) :: st) (z) Q) := zw_lsize rfl
theorem s72_17 {ls : List Value} {a b : Int32} : ZW zG d 72 17 ls (.int b :: .int a :: st) z Q = if b ≤ a then ZW zG d 72 101 ls st z Q else ZW zG d 72 20 ls st z Q := zw_icge rfl
theorem s72_20 {x0 x1 x2 x3 x5 : Value} {a : Int32} : ZW zG d 72 20 [x0, x1, x2, x3, .int a, x5] st z Q = ZW zG d 72 22 [x0, x1, x2, x3, .int a, x5] (.int a :: st) z Q := zw_next (f := z_iload 4 22) rfl rfl
theorem s72_22 {ls : List Value} {a : Int32} : ZW zG d 72 22 ls (.int a :: st) z Q = if ¬ a = 0 then ZW zG d 72 88 ls st z Q else ZW zG d 72 25 ls st z Q := zw_ifne rfl
theorem s72_25 {x0 x1 x2 x3 x4 x5 : Value} : ZW zG d 72 25 [x0, x1, x2, x3, x4, x5] st z Q = (zir x0 = true ∧ ZW zG d 72 26 [x0, x1, x2, x3, x4, x5] (x0 :: st) z Q) := zw_cond (f := z_aload 0 26) rfl rfl
theorem s72_26 {ls : List Value} {r : Nat} : ZW zG d 72 26 ls (.ref r :: st) z Q = ((zcls z r = 3 ∧ zir (zfr z r 3) = true) ∧ ZW zG d 72 29 ls (zfr z r 3 :: st) (z) Q) := zw_getR rfl
theorem s72_29 {x0 x1 x2 x3 x4 : Value} {a : Int32} : ZW zG d 72 29 [x0, x1, x2, x3, x4, .int a] st z Q = ZW zG d 72 31 [x0, x1, x2, x3, x4, .int a] (.int a :: st) z Q := zw_next (f := z_iload 5 31) rfl rfl
theorem s72_31 {ls : List Value} {a : Int32} {r : Nat} : ZW zG d 72 31 ls (.int a :: .ref r :: st) z Q = ((zcs st = true ∧ zcls z r = 90 ∧ zin a (zls z r).length = true) ∧ ZW zG d 72 36 ls ((zls z r).getD (zx a) .null :: st) (z) Q) := zw_lget rfl
theorem s72_36 {ls : List Value} {r : Nat} : ZW zG d 72 36 ls (.ref r :: st) z Q = ((zcls z r = 23) ∧ ZW zG d 72 39 ls (.ref r :: st) (z) Q) := zw_cast rfl
theorem s72_39 {ls : List Value} {r : Nat} : ZW zG d 72 39 ls (.ref r :: st) z Q = ((zcls z r = 23) ∧ ZW zG d 72 42 ls (.int (zfi z r 0) :: st) (z) Q) := zw_getI rfl
theorem s72_42 {x0 x2 x3 x4 x5 : Value} {a : Int32} : ZW zG d 72 42 [x0, .int a, x2, x3, x4, x5] st z Q = ZW zG d 72 43 [x0, .int a, x2, x3, x4, x5] (.int a :: st) z Q := zw_next (f := z_iload 1 43) rfl rfl
theorem s72_43 {ls : List Value} {a b : Int32} : ZW zG d 72 43 ls (.int b :: .int a :: st) z Q = if ¬ a = b then ZW zG d 72 92 ls st z Q else ZW zG d 72 46 ls st z Q := zw_icne rfl
theorem s72_46 {x0 x1 x2 x3 x4 x5 : Value} : ZW zG d 72 46 [x0, x1, x2, x3, x4, x5] st z Q = (zir x0 = true ∧ ZW zG d 72 47 [x0, x1, x2, x3, x4, x5] (x0 :: st) z Q) := zw_cond (f := z_aload 0 47) rfl rfl
theorem s72_47 {ls : List Value} {r : Nat} : ZW zG d 72 47 ls (.ref r :: st) z Q = ((zcls z r = 3 ∧ zir (zfr z r 3) = true) ∧ ZW zG d 72 50 ls (zfr z r 3 :: st) (z) Q) := zw_getR rfl
theorem s72_50 {x0 x1 x2 x3 x4 : Value} {a : Int32} : ZW zG d 72 50 [x0, x1, x2, x3, x4, .int a] st z Q = ZW zG d 72 52 [x0, x1, x2, x3, x4, .int a] (.int a :: st) z Q := zw_next (f := z_iload 5 52) rfl rfl
theorem s72_52 {ls : List Value} {a : Int32} {r : Nat} : ZW zG d 72 52 ls (.int a :: .ref r :: st) z Q = ((zcs st = true ∧ zcls z r = 90 ∧ zin a (zls z r).length = true) ∧ ZW zG d 72 57 ls ((zls z r).getD (zx a) .null :: st) (z) Q) := zw_lget rfl
theorem s72_57 {ls : List Value} {r : Nat} : ZW zG d 72 57 ls (.ref r :: st) z Q = ((zcls z r = 23) ∧ ZW zG d 72 60 ls (.ref r :: st) (z) Q) := zw_cast rfl
theorem s72_60 {ls : List Value} {r : Nat} : ZW zG d 72 60 ls (.ref r :: st) z Q = ((zcls z r = 23) ∧ ZW zG d 72 63 ls (.int (zfi z r 1) :: st) (z) Q) := zw_getI rfl
theorem s72_63 {x0 x1 x3 x4 x5 : Value} {a : Int32} : ZW zG d 72 63 [x0, x1, .int a, x3, x4, x5] st z Q = ZW zG d 72 64 [x0, x1, .int a, x3, x4, x5] (.int a :: st) z Q := zw_next (f := z_iload 2 64) rfl rfl
theorem s72_64 {ls : List Value} {a b : Int32} : ZW zG d 72 64 ls (.int b :: .int a :: st) z Q = if ¬ a = b then ZW zG d 72 92 ls st z Q else ZW zG d 72 67 ls st z Q := zw_icne rfl
theorem s72_67 {x0 x1 x2 x3 x4 x5 : Value} : ZW zG d 72 67 [x0, x1, x2, x3, x4, x5] st z Q = (zir x0 = true ∧ ZW zG d 72 68 [x0, x1, x2, x3, x4, x5] (x0 :: st) z Q) := zw_cond (f := z_aload 0 68) rfl rfl
theorem s72_68 {ls : List Value} {r : Nat} : ZW zG d 72 68 ls (.ref r :: st) z Q = ((zcls z r = 3 ∧ zir (zfr z r 3) = true) ∧ ZW zG d 72 71 ls (zfr z r 3 :: st) (z) Q) := zw_getR rfl
theorem s72_71 {x0 x1 x2 x3 x4 : Value} {a : Int32} : ZW zG d 72 71 [x0, x1, x2, x3, x4, .int a] st z Q = ZW zG d 72 73 [x0, x1, x2, x3, x4, .int a] (.int a :: st) z Q := zw_next (f := z_iload 5 73) rfl rfl
theorem s72_73 {ls : List Value} {a : Int32} {r : Nat} : ZW zG d 72 73 ls (.int a :: .ref r :: st) z Q = ((zcs st = true ∧ zcls z r = 90 ∧ zin a (zls z r).length = true) ∧ ZW zG d 72 78 ls ((zls z r).getD (zx a) .null :: st) (z) Q) := zw_lget rfl
theorem s72_78 {ls : List Value} {r : Nat} : ZW zG d 72 78 ls (.ref r :: st) z Q = ((zcls z r = 23) ∧ ZW zG d 72 81 ls (.ref r :: st) (z) Q) := zw_cast rfl
theorem s72_81 {ls : List Value} {r : Nat} : ZW zG d 72 81 ls (.ref r :: st) z Q = ((zcls z r = 23) ∧ ZW zG d 72 84 ls (.int (zfi z r 2) :: st) (z) Q) := zw_getI rfl
theorem s72_84 {x0 x1 x2 x4 x5 : Value} {a : Int32} : ZW zG d 72 84 [x0, x1, x2, .int a, x4, x5] st z Q = ZW zG d 72 85 [x0, x1, x2, .int a, x4, x5] (.int a :: st) z Q := zw_next (f := z_iload 3 85) rfl rfl
theorem s72_85 {ls : List Value} {a b : Int32} : ZW zG d 72 85 ls (.int b :: .int a :: st) z Q = if ¬ a = b then ZW zG d 72 92 ls st z Q else ZW zG d 72 88 ls st z Q := zw_icne rfl
theorem s72_88 {ls : List Value}  : ZW zG d 72 88 ls (st) z Q = ZW zG d 72 89 ls ((.int (nI 1)) :: st) z Q := zw_push rfl
theorem s72_89 {ls : List Value}  : ZW zG d 72 89 ls (st) z Q = ZW zG d 72 93 ls st z Q := zw_goto rfl
theorem s72_92 {ls : List Value}  : ZW zG d 72 92 ls (st) z Q = ZW zG d 72 93 ls ((.int (nI 0)) :: st) z Q := zw_push rfl
theorem s72_93 {x0 x1 x2 x3 x4 x5 : Value} {a : Int32} : ZW zG d 72 93 [x0, x1, x2, x3, x4, x5] (.int a :: st) z Q = ZW zG d 72 95 [x0, x1, x2, zclr x3, .int a, x5] st z Q := zw_next (f := z_istore 4 95) rfl rfl
theorem s72_95 {x0 x1 x2 x3 x4 : Value} {a : Int32} : ZW zG d 72 95 [x0, x1, x2, x3, x4, .int a] st z Q = ZW zG d 72 98 [x0, x1, x2, x3, zclr x4, .int (a + (nI 1))] st z Q := zw_next (f := z_iinc 5 (nI 1) 98) rfl rfl
theorem s72_98 {ls : List Value}  : ZW zG d 72 98 ls (st) z Q = ZW zG d 72 6 ls st z Q := zw_goto rfl
theorem s72_101 {x0 x1 x2 x3 x5 : Value} {a : Int32} : ZW zG d 72 101 [x0, x1, x2, x3, .int a, x5] st z Q = ZW zG d 72 103 [x0, x1, x2, x3, .int a, x5] (.int a :: st) z Q := zw_next (f := z_iload 4 103) rfl rfl
theorem s72_103 {ls : List Value} {a : Int32} : ZW zG d 72 103 ls ([.int a]) z Q = ((a = 0 ∨ a = 1) ∧ Q (.inl (some (.int a))) z) := zw_retz rfl
/-- X3_meets (II)V -/
theorem e73 {r0 : Nat} {v0 : Int32} {v1 : Int32} : ZC zG d 73 [.ref r0, .int v0, .int v1] z Q = ZW zG d 73 0 [.ref r0, .int v0, .int v1] [] z Q := rfl
theorem s73_0 {x0 x1 x2 : Value} : ZW zG d 73 0 [x0, x1, x2] st z Q = (zir x0 = true ∧ ZW zG d 73 1 [x0, x1, x2] (x0 :: st) z Q) := zw_cond (f := z_aload 0 1) rfl rfl
theorem s73_1 {ls : List Value} {r : Nat} : ZW zG d 73 1 ls (.ref r :: st) z Q = ((zcls z r = 3 ∧ zir (zfr z r 2) = true) ∧ ZW zG d 73 4 ls (zfr z r 2 :: st) (z) Q) := zw_getR rfl
theorem s73_4 {x0 x2 : Value} {a : Int32} : ZW zG d 73 4 [x0, .int a, x2] st z Q = ZW zG d 73 5 [x0, .int a, x2] (.int a :: st) z Q := zw_next (f := z_iload 1 5) rfl rfl
theorem s73_5 {ls : List Value} {a : Int32} {r : Nat} : ZW zG d 73 5 ls (.int a :: .ref r :: st) z Q = ZW zG d 73 6 ls (.int a :: .ref r :: .int a :: .ref r :: st) z Q := zw_dup2 rfl
theorem s73_6 {ls : List Value} {a : Int32} {r : Nat} : ZW zG d 73 6 ls (.int a :: .ref r :: st) z Q = ((zcls z r = 50 ∧ zin a (zlen z r) = true) ∧ ZW zG d 73 7 ls (.int (zia z r (zx a)) :: st) (z) Q) := zw_iald rfl
theorem s73_7 {ls : List Value}  : ZW zG d 73 7 ls (st) z Q = ZW zG d 73 8 ls ((.int (nI 1)) :: st) z Q := zw_push rfl
theorem s73_8 {x0 x1 : Value} {a : Int32} : ZW zG d 73 8 [x0, x1, .int a] st z Q = ZW zG d 73 9 [x0, x1, .int a] (.int a :: st) z Q := zw_next (f := z_iload 2 9) rfl rfl
theorem s73_9 {ls : List Value} {a b : Int32} : ZW zG d 73 9 ls (.int b :: .int a :: st) z Q = ZW zG d 73 10 ls (.int (a <<< (b &&& 31)) :: st) z Q := zw_ishl rfl
theorem s73_10 {ls : List Value} {a b : Int32} : ZW zG d 73 10 ls (.int b :: .int a :: st) z Q = ZW zG d 73 11 ls (.int (a ||| b) :: st) z Q := zw_ior rfl
theorem s73_11 {ls : List Value} {a b : Int32} {r : Nat} : ZW zG d 73 11 ls (.int b :: .int a :: .ref r :: st) z Q = ((zcls z r = 50 ∧ zin a (zlen z r) = true) ∧ ZW zG d 73 12 ls (st) (sia z r (zx a) (znar 50 b)) Q) := zw_iast rfl
theorem s73_12 {x0 x1 x2 : Value} : ZW zG d 73 12 [x0, x1, x2] st z Q = (zir x0 = true ∧ ZW zG d 73 13 [x0, x1, x2] (x0 :: st) z Q) := zw_cond (f := z_aload 0 13) rfl rfl
theorem s73_13 {ls : List Value} {r : Nat} : ZW zG d 73 13 ls (.ref r :: st) z Q = ((zcls z r = 3 ∧ zir (zfr z r 2) = true) ∧ ZW zG d 73 16 ls (zfr z r 2 :: st) (z) Q) := zw_getR rfl
theorem s73_16 {x0 x1 : Value} {a : Int32} : ZW zG d 73 16 [x0, x1, .int a] st z Q = ZW zG d 73 17 [x0, x1, .int a] (.int a :: st) z Q := zw_next (f := z_iload 2 17) rfl rfl
theorem s73_17 {ls : List Value} {a : Int32} {r : Nat} : ZW zG d 73 17 ls (.int a :: .ref r :: st) z Q = ZW zG d 73 18 ls (.int a :: .ref r :: .int a :: .ref r :: st) z Q := zw_dup2 rfl
theorem s73_18 {ls : List Value} {a : Int32} {r : Nat} : ZW zG d 73 18 ls (.int a :: .ref r :: st) z Q = ((zcls z r = 50 ∧ zin a (zlen z r) = true) ∧ ZW zG d 73 19 ls (.int (zia z r (zx a)) :: st) (z) Q) := zw_iald rfl
theorem s73_19 {ls : List Value}  : ZW zG d 73 19 ls (st) z Q = ZW zG d 73 20 ls ((.int (nI 1)) :: st) z Q := zw_push rfl
theorem s73_20 {x0 x2 : Value} {a : Int32} : ZW zG d 73 20 [x0, .int a, x2] st z Q = ZW zG d 73 21 [x0, .int a, x2] (.int a :: st) z Q := zw_next (f := z_iload 1 21) rfl rfl
theorem s73_21 {ls : List Value} {a b : Int32} : ZW zG d 73 21 ls (.int b :: .int a :: st) z Q = ZW zG d 73 22 ls (.int (a <<< (b &&& 31)) :: st) z Q := zw_ishl rfl
theorem s73_22 {ls : List Value} {a b : Int32} : ZW zG d 73 22 ls (.int b :: .int a :: st) z Q = ZW zG d 73 23 ls (.int (a ||| b) :: st) z Q := zw_ior rfl
theorem s73_23 {ls : List Value} {a b : Int32} {r : Nat} : ZW zG d 73 23 ls (.int b :: .int a :: .ref r :: st) z Q = ((zcls z r = 50 ∧ zin a (zlen z r) = true) ∧ ZW zG d 73 24 ls (st) (sia z r (zx a) (znar 50 b)) Q) := zw_iast rfl
theorem s73_24 {ls : List Value}  : ZW zG d 73 24 ls ([]) z Q = Q (.inl none) z := zw_ret rfl
/-- X3_debt (II)LCardBowl$Debt; -/
theorem e74 {r0 : Nat} {v0 : Int32} {v1 : Int32} : ZC zG d 74 [.ref r0, .int v0, .int v1] z Q = ZW zG d 74 0 [.ref r0, .int v0, .int v1, zdum, zdum] [] z Q := rfl
theorem s74_0 {x0 x1 x3 x4 : Value} {a : Int32} : ZW zG d 74 0 [x0, x1, .int a, x3, x4] st z Q = ZW zG d 74 1 [x0, x1, .int a, x3, x4] (.int a :: st) z Q := zw_next (f := z_iload 2 1) rfl rfl
theorem s74_1 {x0 x1 x2 x3 x4 : Value} {a : Int32} : ZW zG d 74 1 [x0, x1, x2, x3, x4] (.int a :: st) z Q = ZW zG d 74 2 [x0, x1, zclr x2, .int a, x4] st z Q := zw_next (f := z_istore 3 2) rfl rfl
theorem s74_2 {ls : List Value}  : ZW zG d 74 2 ls (st) z Q = ZW zG d 74 3 ls ((.int (nI 0)) :: st) z Q := zw_push rfl
theorem s74_3 {x0 x1 x2 x3 x4 : Value} {a : Int32} : ZW zG d 74 3 [x0, x1, x2, x3, x4] (.int a :: st) z Q = ZW zG d 74 5 [x0, x1, x2, zclr x3, .int a] st z Q := zw_next (f := z_istore 4 5) rfl rfl
theorem s74_5 {x0 x1 x2 x3 : Value} {a : Int32} : ZW zG d 74 5 [x0, x1, x2, x3, .int a] st z Q = ZW zG d 74 7 [x0, x1, x2, x3, .int a] (.int a :: st) z Q := zw_next (f := z_iload 4 7) rfl rfl
theorem s74_7 {x0 x1 x2 x3 x4 : Value} : ZW zG d 74 7 [x0, x1, x2, x3, x4] st z Q = (zir x0 = true ∧ ZW zG d 74 8 [x0, x1, x2, x3, x4] (x0 :: st) z Q) := zw_cond (f := z_aload 0 8) rfl rfl
theorem s74_8 {ls : List Value} {r : Nat} : ZW zG d 74 8 ls (.ref r :: st) z Q = ((zcls z r = 3 ∧ zir (zfr z r 3) = true) ∧ ZW zG d 74 11 ls (zfr z r 3 :: st) (z) Q) := zw_getR rfl
theorem s74_11 {ls : List Value} {r : Nat} : ZW zG d 74 11 ls (.ref r :: st) z Q = ((zcs st = true ∧ zcls z r = 90) ∧ ZW zG d 74 16 ls (.int (nI (zls z r).length) :: st) (z) Q) := zw_lsize rfl
theorem s74_16 {ls : List Value} {a b : Int32} : ZW zG d 74 16 ls (.int b :: .int a :: st) z Q = if b ≤ a then ZW zG d 74 71 ls st z Q else ZW zG d 74 19 ls st z Q := zw_icge rfl
theorem s74_19 {x0 x1 x2 x3 x4 : Value} : ZW zG d 74 19 [x0, x1, x2, x3, x4] st z Q = (zir x0 = true ∧ ZW zG d 74 20 [x0, x1, x2, x3, x4] (x0 :: st) z Q) := zw_cond (f := z_aload 0 20) rfl rfl
theorem s74_20 {ls : List Value} {r : Nat} : ZW zG d 74 20 ls (.ref r :: st) z Q = ((zcls z r = 3 ∧ zir (zfr z r 3) = true) ∧ ZW zG d 74 23 ls (zfr z r 3 :: st) (z) Q) := zw_getR rfl
theorem s74_23 {x0 x1 x2 x3 : Value} {a : Int32} : ZW zG d 74 23 [x0, x1, x2, x3, .int a] st z Q = ZW zG d 74 25 [x0, x1, x2, x3, .int a] (.int a :: st) z Q := zw_next (f := z_iload 4 25) rfl rfl
theorem s74_25 {ls : List Value} {a : Int32} {r : Nat} : ZW zG d 74 25 ls (.int a :: .ref r :: st) z Q = ((zcs st = true ∧ zcls z r = 90 ∧ zin a (zls z r).length = true) ∧ ZW zG d 74 30 ls ((zls z r).getD (zx a) .null :: st) (z) Q) := zw_lget rfl
theorem s74_30 {ls : List Value} {r : Nat} : ZW zG d 74 30 ls (.ref r :: st) z Q = ((zcls z r = 23) ∧ ZW zG d 74 33 ls (.ref r :: st) (z) Q) := zw_cast rfl
theorem s74_33 {ls : List Value} {r : Nat} : ZW zG d 74 33 ls (.ref r :: st) z Q = ((zcls z r = 23) ∧ ZW zG d 74 36 ls (.int (zfi z r 0) :: st) (z) Q) := zw_getI rfl
theorem s74_36 {x0 x2 x3 x4 : Value} {a : Int32} : ZW zG d 74 36 [x0, .int a, x2, x3, x4] st z Q = ZW zG d 74 37 [x0, .int a, x2, x3, x4] (.int a :: st) z Q := zw_next (f := z_iload 1 37) rfl rfl
theorem s74_37 {ls : List Value} {a b : Int32} : ZW zG d 74 37 ls (.int b :: .int a :: st) z Q = if a = b then ZW zG d 74 43 ls st z Q else ZW zG d 74 40 ls st z Q := zw_iceq rfl
theorem s74_40 {ls : List Value}  : ZW zG d 74 40 ls (st) z Q = ZW zG d 74 65 ls st z Q := zw_goto rfl
theorem s74_43 {x0 x1 x2 x4 : Value} {a : Int32} : ZW zG d 74 43 [x0, x1, x2, .int a, x4] st z Q = ZW zG d 74 44 [x0, x1, x2, .int a, x4] (.int a :: st) z Q := zw_next (f := z_iload 3 44) rfl rfl
theorem s74_44 {ls : List Value} {a : Int32} : ZW zG d 74 44 ls (.int a :: st) z Q = if ¬ a = 0 then ZW zG d 74 62 ls st z Q else ZW zG d 74 47 ls st z Q := zw_ifne rfl
theorem s74_47 {x0 x1 x2 x3 x4 : Value} : ZW zG d 74 47 [x0, x1, x2, x3, x4] st z Q = (zir x0 = true ∧ ZW zG d 74 48 [x0, x1, x2, x3, x4] (x0 :: st) z Q) := zw_cond (f := z_aload 0 48) rfl rfl
theorem s74_48 {ls : List Value} {r : Nat} : ZW zG d 74 48 ls (.ref r :: st) z Q = ((zcls z r = 3 ∧ zir (zfr z r 3) = true) ∧ ZW zG d 74 51 ls (zfr z r 3 :: st) (z) Q) := zw_getR rfl
theorem s74_51 {x0 x1 x2 x3 : Value} {a : Int32} : ZW zG d 74 51 [x0, x1, x2, x3, .int a] st z Q = ZW zG d 74 53 [x0, x1, x2, x3, .int a] (.int a :: st) z Q := zw_next (f := z_iload 4 53) rfl rfl
theorem s74_53 {ls : List Value} {a : Int32} {r : Nat} : ZW zG d 74 53 ls (.int a :: .ref r :: st) z Q = ((zcs st = true ∧ zcls z r = 90 ∧ zin a (zls z r).length = true) ∧ ZW zG d 74 58 ls ((zls z r).getD (zx a) .null :: st) (z) Q) := zw_lget rfl
theorem s74_58 {ls : List Value} {r : Nat} : ZW zG d 74 58 ls (.ref r :: st) z Q = ((zcls z r = 23) ∧ ZW zG d 74 61 ls (.ref r :: st) (z) Q) := zw_cast rfl
theorem s74_61 {ls : List Value} {q : Nat} : ZW zG d 74 61 ls ([.ref q]) z Q = Q (.inl (some (.ref q))) z := zw_reta rfl
theorem s74_61r {ls : List Value}  : ZW zG d 74 61 ls ([.null]) z Q = Q (.inl (some .null)) z := zw_retn rfl
theorem s74_62 {x0 x1 x2 x4 : Value} {a : Int32} : ZW zG d 74 62 [x0, x1, x2, .int a, x4] st z Q = ZW zG d 74 65 [x0, x1, zclr x2, .int (a + (-1)), x4] st z Q := zw_next (f := z_iinc 3 (-1) 65) rfl rfl
theorem s74_65 {x0 x1 x2 x3 : Value} {a : Int32} : ZW zG d 74 65 [x0, x1, x2, x3, .int a] st z Q = ZW zG d 74 68 [x0, x1, x2, zclr x3, .int (a + (nI 1))] st z Q := zw_next (f := z_iinc 4 (nI 1) 68) rfl rfl
theorem s74_68 {ls : List Value}  : ZW zG d 74 68 ls (st) z Q = ZW zG d 74 5 ls st z Q := zw_goto rfl
theorem s74_71 {ls : List Value}  : ZW zG d 74 71 ls (st) z Q = ZW zG d 74 72 ls (.null :: st) z Q := zw_push rfl
theorem s74_72 {ls : List Value} {q : Nat} : ZW zG d 74 72 ls ([.ref q]) z Q = Q (.inl (some (.ref q))) z := zw_reta rfl
theorem s74_72r {ls : List Value}  : ZW zG d 74 72 ls ([.null]) z Q = Q (.inl (some .null)) z := zw_retn rfl
/-- X3_greatest (II)I -/
theorem e75 {r0 : Nat} {v0 : Int32} {v1 : Int32} : ZC zG d 75 [.ref r0, .int v0, .int v1] z Q = ZW zG d 75 0 [.ref r0, .int v0, .int v1, zdum, zdum] [] z Q := rfl
theorem s75_0 {ls : List Value}  : ZW zG d 75 0 ls (st) z Q = ZW zG d 75 1 ls ((.int (-1)) :: st) z Q := zw_push rfl
theorem s75_1 {x0 x1 x2 x3 x4 : Value} {a : Int32} : ZW zG d 75 1 [x0, x1, x2, x3, x4] (.int a :: st) z Q = ZW zG d 75 2 [x0, x1, zclr x2, .int a, x4] st z Q := zw_next (f := z_istore 3 2) rfl rfl
theorem s75_2 {ls : List Value}  : ZW zG d 75 2 ls (st) z Q = ZW zG d 75 3 ls ((.int (nI 0)) :: st) z Q := zw_push rfl
theorem s75_3 {x0 x1 x2 x3 x4 : Value} {a : Int32} : ZW zG d 75 3 [x0, x1, x2, x3, x4] (.int a :: st) z Q = ZW zG d 75 5 [x0, x1, x2, zclr x3, .int a] st z Q := zw_next (f := z_istore 4 5) rfl rfl
theorem s75_5 {x0 x1 x2 x3 : Value} {a : Int32} : ZW zG d 75 5 [x0, x1, x2, x3, .int a] st z Q = ZW zG d 75 7 [x0, x1, x2, x3, .int a] (.int a :: st) z Q := zw_next (f := z_iload 4 7) rfl rfl
theorem s75_7 {x0 x1 x2 x3 x4 : Value} : ZW zG d 75 7 [x0, x1, x2, x3, x4] st z Q = (zir x0 = true ∧ ZW zG d 75 8 [x0, x1, x2, x3, x4] (x0 :: st) z Q) := zw_cond (f := z_aload 0 8) rfl rfl
theorem s75_8 {ls : List Value} {r : Nat} : ZW zG d 75 8 ls (.ref r :: st) z Q = ((zcls z r = 3 ∧ zir (zfr z r 3) = true) ∧ ZW zG d 75 11 ls (zfr z r 3 :: st) (z) Q) := zw_getR rfl
theorem s75_11 {ls : List Value} {r : Nat} : ZW zG d 75 11 ls (.ref r :: st) z Q = ((zcs st = true ∧ zcls z r = 90) ∧ ZW zG d 75 16 ls (.int (nI (zls z r).length) :: st) (z) Q) := zw_lsize rfl
theorem s75_16 {ls : List Value} {a b : Int32} : ZW zG d 75 16 ls (.int b :: .int a :: st) z Q = if b ≤ a then ZW zG d 75 89 ls st z Q else ZW zG d 75 19 ls st z Q := zw_icge rfl
theorem s75_19 {x0 x1 x2 x3 x4 : Value} : ZW zG d 75 19 [x0, x1, x2, x3, x4] st z Q = (zir x0 = true ∧ ZW zG d 75 20 [x0, x1, x2, x3, x4] (x0 :: st) z Q) := zw_cond (f := z_aload 0 20) rfl rfl
theorem s75_20 {ls : List Value} {r : Nat} : ZW zG d 75 20 ls (.ref r :: st) z Q = ((zcls z r = 3 ∧ zir (zfr z r 3) = true) ∧ ZW zG d 75 23 ls (zfr z r 3 :: st) (z) Q) := zw_getR rfl
theorem s75_23 {x0 x1 x2 x3 : Value} {a : Int32} : ZW zG d 75 23 [x0, x1, x2, x3, .int a] st z Q = ZW zG d 75 25 [x0, x1, x2, x3, .int a] (.int a :: st) z Q := zw_next (f := z_iload 4 25) rfl rfl
theorem s75_25 {ls : List Value} {a : Int32} {r : Nat} : ZW zG d 75 25 ls (.int a :: .ref r :: st) z Q = ((zcs st = true ∧ zcls z r = 90 ∧ zin a (zls z r).length = true) ∧ ZW zG d 75 30 ls ((zls z r).getD (zx a) .null :: st) (z) Q) := zw_lget rfl
theorem s75_30 {ls : List Value} {r : Nat} : ZW zG d 75 30 ls (.ref r :: st) z Q = ((zcls z r = 23) ∧ ZW zG d 75 33 ls (.ref r :: st) (z) Q) := zw_cast rfl
theorem s75_33 {ls : List Value} {r : Nat} : ZW zG d 75 33 ls (.ref r :: st) z Q = ((zcls z r = 23) ∧ ZW zG d 75 36 ls (.int (zfi z r 0) :: st) (z) Q) := zw_getI rfl
theorem s75_36 {x0 x2 x3 x4 : Value} {a : Int32} : ZW zG d 75 36 [x0, .int a, x2, x3, x4] st z Q = ZW zG d 75 37 [x0, .int a, x2, x3, x4] (.int a :: st) z Q := zw_next (f := z_iload 1 37) rfl rfl
theorem s75_37 {ls : List Value} {a b : Int32} : ZW zG d 75 37 ls (.int b :: .int a :: st) z Q = if ¬ a = b then ZW zG d 75 83 ls st z Q else ZW zG d 75 40 ls st z Q := zw_icne rfl
theorem s75_40 {x0 x1 x2 x3 x4 : Value} : ZW zG d 75 40 [x0, x1, x2, x3, x4] st z Q = (zir x0 = true ∧ ZW zG d 75 41 [x0, x1, x2, x3, x4] (x0 :: st) z Q) := zw_cond (f := z_aload 0 41) rfl rfl
theorem s75_41 {ls : List Value} {r : Nat} : ZW zG d 75 41 ls (.ref r :: st) z Q = ((zcls z r = 3 ∧ zir (zfr z r 3) = true) ∧ ZW zG d 75 44 ls (zfr z r 3 :: st) (z) Q) := zw_getR rfl
theorem s75_44 {x0 x1 x2 x3 : Value} {a : Int32} : ZW zG d 75 44 [x0, x1, x2, x3, .int a] st z Q = ZW zG d 75 46 [x0, x1, x2, x3, .int a] (.int a :: st) z Q := zw_next (f := z_iload 4 46) rfl rfl
theorem s75_46 {ls : List Value} {a : Int32} {r : Nat} : ZW zG d 75 46 ls (.int a :: .ref r :: st) z Q = ((zcs st = true ∧ zcls z r = 90 ∧ zin a (zls z r).length = true) ∧ ZW zG d 75 51 ls ((zls z r).getD (zx a) .null :: st) (z) Q) := zw_lget rfl
theorem s75_51 {ls : List Value} {r : Nat} : ZW zG d 75 51 ls (.ref r :: st) z Q = ((zcls z r = 23) ∧ ZW zG d 75 54 ls (.ref r :: st) (z) Q) := zw_cast rfl
theorem s75_54 {ls : List Value} {r : Nat} : ZW zG d 75 54 ls (.ref r :: st) z Q = ((zcls z r = 23) ∧ ZW zG d 75 57 ls (.int (zfi z r 1) :: st) (z) Q) := zw_getI rfl
theorem s75_57 {x0 x1 x3 x4 : Value} {a : Int32} : ZW zG d 75 57 [x0, x1, .int a, x3, x4] st z Q = ZW zG d 75 58 [x0, x1, .int a, x3, x4] (.int a :: st) z Q := zw_next (f := z_iload 2 58) rfl rfl
theorem s75_58 {ls : List Value} {a b : Int32} : ZW zG d 75 58 ls (.int b :: .int a :: st) z Q = if ¬ a = b then ZW zG d 75 83 ls st z Q else ZW zG d 75 61 ls st z Q := zw_icne rfl
theorem s75_61 {x0 x1 x2 x4 : Value} {a : Int32} : ZW zG d 75 61 [x0, x1, x2, .int a, x4] st z Q = ZW zG d 75 62 [x0, x1, x2, .int a, x4] (.int a :: st) z Q := zw_next (f := z_iload 3 62) rfl rfl
theorem s75_62 {x0 x1 x2 x3 x4 : Value} : ZW zG d 75 62 [x0, x1, x2, x3, x4] st z Q = (zir x0 = true ∧ ZW zG d 75 63 [x0, x1, x2, x3, x4] (x0 :: st) z Q) := zw_cond (f := z_aload 0 63) rfl rfl
theorem s75_63 {ls : List Value} {r : Nat} : ZW zG d 75 63 ls (.ref r :: st) z Q = ((zcls z r = 3 ∧ zir (zfr z r 3) = true) ∧ ZW zG d 75 66 ls (zfr z r 3 :: st) (z) Q) := zw_getR rfl
theorem s75_66 {x0 x1 x2 x3 : Value} {a : Int32} : ZW zG d 75 66 [x0, x1, x2, x3, .int a] st z Q = ZW zG d 75 68 [x0, x1, x2, x3, .int a] (.int a :: st) z Q := zw_next (f := z_iload 4 68) rfl rfl
theorem s75_68 {ls : List Value} {a : Int32} {r : Nat} : ZW zG d 75 68 ls (.int a :: .ref r :: st) z Q = ((zcs st = true ∧ zcls z r = 90 ∧ zin a (zls z r).length = true) ∧ ZW zG d 75 73 ls ((zls z r).getD (zx a) .null :: st) (z) Q) := zw_lget rfl
theorem s75_73 {ls : List Value} {r : Nat} : ZW zG d 75 73 ls (.ref r :: st) z Q = ((zcls z r = 23) ∧ ZW zG d 75 76 ls (.ref r :: st) (z) Q) := zw_cast rfl
theorem s75_76 {ls : List Value} {r : Nat} : ZW zG d 75 76 ls (.ref r :: st) z Q = ((zcls z r = 23) ∧ ZW zG d 75 79 ls (.int (zfi z r 2) :: st) (z) Q) := zw_getI rfl
theorem s75_79 {ls : List Value} {a b : Int32} : ZW zG d 75 79 ls (.int b :: .int a :: st) z Q = ((zcs st = true) ∧ ZW zG d 75 82 ls (.int (zmax a b) :: st) (z) Q) := zw_mmax rfl
theorem s75_82 {x0 x1 x2 x3 x4 : Value} {a : Int32} : ZW zG d 75 82 [x0, x1, x2, x3, x4] (.int a :: st) z Q = ZW zG d 75 83 [x0, x1, zclr x2, .int a, x4] st z Q := zw_next (f := z_istore 3 83) rfl rfl
theorem s75_83 {x0 x1 x2 x3 : Value} {a : Int32} : ZW zG d 75 83 [x0, x1, x2, x3, .int a] st z Q = ZW zG d 75 86 [x0, x1, x2, zclr x3, .int (a + (nI 1))] st z Q := zw_next (f := z_iinc 4 (nI 1) 86) rfl rfl
theorem s75_86 {ls : List Value}  : ZW zG d 75 86 ls (st) z Q = ZW zG d 75 5 ls st z Q := zw_goto rfl
theorem s75_89 {x0 x1 x2 x4 : Value} {a : Int32} : ZW zG d 75 89 [x0, x1, x2, .int a, x4] st z Q = ZW zG d 75 90 [x0, x1, x2, .int a, x4] (.int a :: st) z Q := zw_next (f := z_iload 3 90) rfl rfl
theorem s75_90 {ls : List Value} {a : Int32} : ZW zG d 75 90 ls ([.int a]) z Q = Q (.inl (some (.int a))) z := zw_reti rfl
/-- X3_worth (II)I -/
theorem e76 {r0 : Nat} {v0 : Int32} {v1 : Int32} : ZC zG d 76 [.ref r0, .int v0, .int v1] z Q = ZW zG d 76 0 [.ref r0, .int v0, .int v1, zdum, zdum] [] z Q := rfl
theorem s76_0 {ls : List Value}  : ZW zG d 76 0 ls (st) z Q = ZW zG d 76 1 ls ((.int (nI 0)) :: st) z Q := zw_push rfl
theorem s76_1 {x0 x1 x2 x3 x4 : Value} {a : Int32} : ZW zG d 76 1 [x0, x1, x2, x3, x4] (.int a :: st) z Q = ZW zG d 76 2 [x0, x1, zclr x2, .int a, x4] st z Q := zw_next (f := z_istore 3 2) rfl rfl
theorem s76_2 {ls : List Value}  : ZW zG d 76 2 ls (st) z Q = ZW zG d 76 3 ls ((.int (nI 0)) :: st) z Q := zw_push rfl
theorem s76_3 {x0 x1 x2 x3 x4 : Value} {a : Int32} : ZW zG d 76 3 [x0, x1, x2, x3, x4] (.int a :: st) z Q = ZW zG d 76 5 [x0, x1, x2, zclr x3, .int a] st z Q := zw_next (f := z_istore 4 5) rfl rfl
theorem s76_5 {x0 x1 x2 x3 : Value} {a : Int32} : ZW zG d 76 5 [x0, x1, x2, x3, .int a] st z Q = ZW zG d 76 7 [x0, x1, x2, x3, .int a] (.int a :: st) z Q := zw_next (f := z_iload 4 7) rfl rfl
theorem s76_7 {x0 x1 x2 x3 x4 : Value} : ZW zG d 76 7 [x0, x1, x2, x3, x4] st z Q = (zir x0 = true ∧ ZW zG d 76 8 [x0, x1, x2, x3, x4] (x0 :: st) z Q) := zw_cond (f := z_aload 0 8) rfl rfl
theorem s76_8 {ls : List Value} {r : Nat} : ZW zG d 76 8 ls (.ref r :: st) z Q = ((zcls z r = 3 ∧ zir (zfr z r 3) = true) ∧ ZW zG d 76 11 ls (zfr z r 3 :: st) (z) Q) := zw_getR rfl
theorem s76_11 {ls : List Value} {r : Nat} : ZW zG d 76 11 ls (.ref r :: st) z Q = ((zcs st = true ∧ zcls z r = 90) ∧ ZW zG d 76 16 ls (.int (nI (zls z r).length) :: st) (z) Q) := zw_lsize rfl
theorem s76_16 {ls : List Value} {a b : Int32} : ZW zG d 76 16 ls (.int b :: .int a :: st) z Q = if b ≤ a then ZW zG d 76 93 ls st z Q else ZW zG d 76 19 ls st z Q := zw_icge rfl
theorem s76_19 {x0 x1 x2 x4 : Value} {a : Int32} : ZW zG d 76 19 [x0, x1, x2, .int a, x4] st z Q = ZW zG d 76 20 [x0, x1, x2, .int a, x4] (.int a :: st) z Q := zw_next (f := z_iload 3 20) rfl rfl
theorem s76_20 {x0 x1 x2 x3 x4 : Value} : ZW zG d 76 20 [x0, x1, x2, x3, x4] st z Q = (zir x0 = true ∧ ZW zG d 76 21 [x0, x1, x2, x3, x4] (x0 :: st) z Q) := zw_cond (f := z_aload 0 21) rfl rfl
theorem s76_21 {ls : List Value} {r : Nat} : ZW zG d 76 21 ls (.ref r :: st) z Q = ((zcls z r = 3 ∧ zir (zfr z r 3) = true) ∧ ZW zG d 76 24 ls (zfr z r 3 :: st) (z) Q) := zw_getR rfl
theorem s76_24 {x0 x1 x2 x3 : Value} {a : Int32} : ZW zG d 76 24 [x0, x1, x2, x3, .int a] st z Q = ZW zG d 76 26 [x0, x1, x2, x3, .int a] (.int a :: st) z Q := zw_next (f := z_iload 4 26) rfl rfl
theorem s76_26 {ls : List Value} {a : Int32} {r : Nat} : ZW zG d 76 26 ls (.int a :: .ref r :: st) z Q = ((zcs st = true ∧ zcls z r = 90 ∧ zin a (zls z r).length = true) ∧ ZW zG d 76 31 ls ((zls z r).getD (zx a) .null :: st) (z) Q) := zw_lget rfl
theorem s76_31 {ls : List Value} {r : Nat} : ZW zG d 76 31 ls (.ref r :: st) z Q = ((zcls z r = 23) ∧ ZW zG d 76 34 ls (.ref r :: st) (z) Q) := zw_cast rfl
theorem s76_34 {ls : List Value} {r : Nat} : ZW zG d 76 34 ls (.ref r :: st) z Q = ((zcls z r = 23) ∧ ZW zG d 76 37 ls (.int (zfi z r 0) :: st) (z) Q) := zw_getI rfl
theorem s76_37 {x0 x2 x3 x4 : Value} {a : Int32} : ZW zG d 76 37 [x0, .int a, x2, x3, x4] st z Q = ZW zG d 76 38 [x0, .int a, x2, x3, x4] (.int a :: st) z Q := zw_next (f := z_iload 1 38) rfl rfl
theorem s76_38 {ls : List Value} {a b : Int32} : ZW zG d 76 38 ls (.int b :: .int a :: st) z Q = if ¬ a = b then ZW zG d 76 84 ls st z Q else ZW zG d 76 41 ls st z Q := zw_icne rfl
theorem s76_41 {x0 x1 x2 x3 x4 : Value} : ZW zG d 76 41 [x0, x1, x2, x3, x4] st z Q = (zir x0 = true ∧ ZW zG d 76 42 [x0, x1, x2, x3, x4] (x0 :: st) z Q) := zw_cond (f := z_aload 0 42) rfl rfl
theorem s76_42 {ls : List Value} {r : Nat} : ZW zG d 76 42 ls (.ref r :: st) z Q = ((zcls z r = 3 ∧ zir (zfr z r 3) = true) ∧ ZW zG d 76 45 ls (zfr z r 3 :: st) (z) Q) := zw_getR rfl
theorem s76_45 {x0 x1 x2 x3 : Value} {a : Int32} : ZW zG d 76 45 [x0, x1, x2, x3, .int a] st z Q = ZW zG d 76 47 [x0, x1, x2, x3, .int a] (.int a :: st) z Q := zw_next (f := z_iload 4 47) rfl rfl
theorem s76_47 {ls : List Value} {a : Int32} {r : Nat} : ZW zG d 76 47 ls (.int a :: .ref r :: st) z Q = ((zcs st = true ∧ zcls z r = 90 ∧ zin a (zls z r).length = true) ∧ ZW zG d 76 52 ls ((zls z r).getD (zx a) .null :: st) (z) Q) := zw_lget rfl
theorem s76_52 {ls : List Value} {r : Nat} : ZW zG d 76 52 ls (.ref r :: st) z Q = ((zcls z r = 23) ∧ ZW zG d 76 55 ls (.ref r :: st) (z) Q) := zw_cast rfl
theorem s76_55 {ls : List Value} {r : Nat} : ZW zG d 76 55 ls (.ref r :: st) z Q = ((zcls z r = 23) ∧ ZW zG d 76 58 ls (.int (zfi z r 1) :: st) (z) Q) := zw_getI rfl
theorem s76_58 {x0 x1 x3 x4 : Value} {a : Int32} : ZW zG d 76 58 [x0, x1, .int a, x3, x4] st z Q = ZW zG d 76 59 [x0, x1, .int a, x3, x4] (.int a :: st) z Q := zw_next (f := z_iload 2 59) rfl rfl
theorem s76_59 {ls : List Value} {a b : Int32} : ZW zG d 76 59 ls (.int b :: .int a :: st) z Q = if ¬ a = b then ZW zG d 76 84 ls st z Q else ZW zG d 76 62 ls st z Q := zw_icne rfl
theorem s76_62 {x0 x1 x2 x3 x4 : Value} : ZW zG d 76 62 [x0, x1, x2, x3, x4] st z Q = (zir x0 = true ∧ ZW zG d 76 63 [x0, x1, x2, x3, x4] (x0 :: st) z Q) := zw_cond (f := z_aload 0 63) rfl rfl
theorem s76_63 {ls : List Value} {r : Nat} : ZW zG d 76 63 ls (.ref r :: st) z Q = ((zcls z r = 3 ∧ zir (zfr z r 3) = true) ∧ ZW zG d 76 66 ls (zfr z r 3 :: st) (z) Q) := zw_getR rfl
theorem s76_66 {x0 x1 x2 x3 : Value} {a : Int32} : ZW zG d 76 66 [x0, x1, x2, x3, .int a] st z Q = ZW zG d 76 68 [x0, x1, x2, x3, .int a] (.int a :: st) z Q := zw_next (f := z_iload 4 68) rfl rfl
theorem s76_68 {ls : List Value} {a : Int32} {r : Nat} : ZW zG d 76 68 ls (.int a :: .ref r :: st) z Q = ((zcs st = true ∧ zcls z r = 90 ∧ zin a (zls z r).length = true) ∧ ZW zG d 76 73 ls ((zls z r).getD (zx a) .null :: st) (z) Q) := zw_lget rfl
theorem s76_73 {ls : List Value} {r : Nat} : ZW zG d 76 73 ls (.ref r :: st) z Q = ((zcls z r = 23) ∧ ZW zG d 76 76 ls (.ref r :: st) (z) Q) := zw_cast rfl
theorem s76_76 {ls : List Value} {r : Nat} : ZW zG d 76 76 ls (.ref r :: st) z Q = ((zcls z r = 23) ∧ ZW zG d 76 79 ls (.int (zfi z r 2) :: st) (z) Q) := zw_getI rfl
theorem s76_79 {ls : List Value}  : ZW zG d 76 79 ls (st) z Q = ZW zG d 76 80 ls ((.int (nI 1)) :: st) z Q := zw_push rfl
theorem s76_80 {ls : List Value} {a b : Int32} : ZW zG d 76 80 ls (.int b :: .int a :: st) z Q = ZW zG d 76 81 ls (.int (a + b) :: st) z Q := zw_iadd rfl
theorem s76_81 {ls : List Value}  : ZW zG d 76 81 ls (st) z Q = ZW zG d 76 85 ls st z Q := zw_goto rfl
theorem s76_84 {ls : List Value}  : ZW zG d 76 84 ls (st) z Q = ZW zG d 76 85 ls ((.int (nI 0)) :: st) z Q := zw_push rfl
theorem s76_85 {ls : List Value} {a b : Int32} : ZW zG d 76 85 ls (.int b :: .int a :: st) z Q = ZW zG d 76 86 ls (.int (a + b) :: st) z Q := zw_iadd rfl
theorem s76_86 {x0 x1 x2 x3 x4 : Value} {a : Int32} : ZW zG d 76 86 [x0, x1, x2, x3, x4] (.int a :: st) z Q = ZW zG d 76 87 [x0, x1, zclr x2, .int a, x4] st z Q := zw_next (f := z_istore 3 87) rfl rfl
theorem s76_87 {x0 x1 x2 x3 : Value} {a : Int32} : ZW zG d 76 87 [x0, x1, x2, x3, .int a] st z Q = ZW zG d 76 90 [x0, x1, x2, zclr x3, .int (a + (nI 1))] st z Q := zw_next (f := z_iinc 4 (nI 1) 90) rfl rfl
theorem s76_90 {ls : List Value}  : ZW zG d 76 90 ls (st) z Q = ZW zG d 76 5 ls st z Q := zw_goto rfl
theorem s76_93 {x0 x1 x2 x4 : Value} {a : Int32} : ZW zG d 76 93 [x0, x1, x2, .int a, x4] st z Q = ZW zG d 76 94 [x0, x1, x2, .int a, x4] (.int a :: st) z Q := zw_next (f := z_iload 3 94) rfl rfl
theorem s76_94 {ls : List Value} {a : Int32} : ZW zG d 76 94 ls ([.int a]) z Q = Q (.inl (some (.int a))) z := zw_reti rfl
/-- X3_reach (III)I -/
theorem e77 {r0 : Nat} {v0 : Int32} {v1 : Int32} {v2 : Int32} : ZC zG d 77 [.ref r0, .int v0, .int v1, .int v2] z Q = ZW zG d 77 0 [.ref r0, .int v0, .int v1, .int v2, zdum, zdum, zdum, zdum] [] z Q := rfl
theorem s77_0 {ls : List Value}  : ZW zG d 77 0 ls (st) z Q = ZW zG d 77 1 ls ((.int (nI 1)) :: st) z Q := zw_push rfl
theorem s77_1 {x0 x2 x3 x4 x5 x6 x7 : Value} {a : Int32} : ZW zG d 77 1 [x0, .int a, x2, x3, x4, x5, x6, x7] st z Q = ZW zG d 77 2 [x0, .int a, x2, x3, x4, x5, x6, x7] (.int a :: st) z Q := zw_next (f := z_iload 1 2) rfl rfl
theorem s77_2 {ls : List Value} {a b : Int32} : ZW zG d 77 2 ls (.int b :: .int a :: st) z Q = ZW zG d 77 3 ls (.int (a <<< (b &&& 31)) :: st) z Q := zw_ishl rfl
theorem s77_3 {x0 x1 x2 x3 x4 x5 x6 x7 : Value} {a : Int32} : ZW zG d 77 3 [x0, x1, x2, x3, x4, x5, x6, x7] (.int a :: st) z Q = ZW zG d 77 5 [x0, x1, x2, zclr x3, .int a, x5, x6, x7] st z Q := zw_next (f := z_istore 4 5) rfl rfl
theorem s77_5 {ls : List Value}  : ZW zG d 77 5 ls (st) z Q = ZW zG d 77 6 ls ((.int (nI 0)) :: st) z Q := zw_push rfl
theorem s77_6 {x0 x1 x2 x3 x4 x5 x6 x7 : Value} {a : Int32} : ZW zG d 77 6 [x0, x1, x2, x3, x4, x5, x6, x7] (.int a :: st) z Q = ZW zG d 77 8 [x0, x1, x2, x3, zclr x4, .int a, x6, x7] st z Q := zw_next (f := z_istore 5 8) rfl rfl
theorem s77_8 {x0 x1 x2 x3 x4 x6 x7 : Value} {a : Int32} : ZW zG d 77 8 [x0, x1, x2, x3, x4, .int a, x6, x7] st z Q = ZW zG d 77 10 [x0, x1, x2, x3, x4, .int a, x6, x7] (.int a :: st) z Q := zw_next (f := z_iload 5 10) rfl rfl
theorem s77_10 {x0 x1 x2 x3 x5 x6 x7 : Value} {a : Int32} : ZW zG d 77 10 [x0, x1, x2, x3, .int a, x5, x6, x7] st z Q = ZW zG d 77 12 [x0, x1, x2, x3, .int a, x5, x6, x7] (.int a :: st) z Q := zw_next (f := z_iload 4 12) rfl rfl
theorem s77_12 {ls : List Value} {a b : Int32} : ZW zG d 77 12 ls (.int b :: .int a :: st) z Q = if a = b then ZW zG d 77 99 ls st z Q else ZW zG d 77 15 ls st z Q := zw_iceq rfl
theorem s77_15 {x0 x1 x2 x3 x5 x6 x7 : Value} {a : Int32} : ZW zG d 77 15 [x0, x1, x2, x3, .int a, x5, x6, x7] st z Q = ZW zG d 77 17 [x0, x1, x2, x3, .int a, x5, x6, x7] (.int a :: st) z Q := zw_next (f := z_iload 4 17) rfl rfl
theorem s77_17 {x0 x1 x2 x3 x4 x5 x6 x7 : Value} {a : Int32} : ZW zG d 77 17 [x0, x1, x2, x3, x4, x5, x6, x7] (.int a :: st) z Q = ZW zG d 77 19 [x0, x1, x2, x3, zclr x4, .int a, x6, x7] st z Q := zw_next (f := z_istore 5 19) rfl rfl
theorem s77_19 {ls : List Value}  : ZW zG d 77 19 ls (st) z Q = ZW zG d 77 20 ls ((.int (nI 0)) :: st) z Q := zw_push rfl
theorem s77_20 {x0 x1 x2 x3 x4 x5 x6 x7 : Value} {a : Int32} : ZW zG d 77 20 [x0, x1, x2, x3, x4, x5, x6, x7] (.int a :: st) z Q = ZW zG d 77 22 [x0, x1, x2, x3, x4, zclr x5, .int a, x7] st z Q := zw_next (f := z_istore 6 22) rfl rfl
theorem s77_22 {x0 x1 x2 x3 x4 x5 x7 : Value} {a : Int32} : ZW zG d 77 22 [x0, x1, x2, x3, x4, x5, .int a, x7] st z Q = ZW zG d 77 24 [x0, x1, x2, x3, x4, x5, .int a, x7] (.int a :: st) z Q := zw_next (f := z_iload 6 24) rfl rfl
theorem s77_24 {ls : List Value}  : ZW zG d 77 24 ls (st) z Q = ZW zG d 77 26 ls ((.int (nI 16)) :: st) z Q := zw_push rfl
theorem s77_26 {ls : List Value} {a b : Int32} : ZW zG d 77 26 ls (.int b :: .int a :: st) z Q = if b ≤ a then ZW zG d 77 96 ls st z Q else ZW zG d 77 29 ls st z Q := zw_icge rfl
theorem s77_29 {x0 x1 x2 x3 x4 x6 x7 : Value} {a : Int32} : ZW zG d 77 29 [x0, x1, x2, x3, x4, .int a, x6, x7] st z Q = ZW zG d 77 31 [x0, x1, x2, x3, x4, .int a, x6, x7] (.int a :: st) z Q := zw_next (f := z_iload 5 31) rfl rfl
theorem s77_31 {x0 x1 x2 x3 x4 x5 x7 : Value} {a : Int32} : ZW zG d 77 31 [x0, x1, x2, x3, x4, x5, .int a, x7] st z Q = ZW zG d 77 33 [x0, x1, x2, x3, x4, x5, .int a, x7] (.int a :: st) z Q := zw_next (f := z_iload 6 33) rfl rfl
theorem s77_33 {ls : List Value} {w0 : Int32} {w1 : Int32} : ZW zG (d + 1) 77 33 ls (.int w1 :: .int w0 :: st) z Q = (zcs st = true ∧ ZC zG d 18 [.int w0, .int w1] z (zk zG (d + 1) 77 (none) 36 ls st Q)) := zc_S2 rfl (Nat.le_of_ble_eq_true rfl)
theorem s77_36 {ls : List Value} {a : Int32} : ZW zG d 77 36 ls (.int a :: st) z Q = if ¬ a = 0 then ZW zG d 77 42 ls st z Q else ZW zG d 77 39 ls st z Q := zw_ifne rfl
theorem s77_39 {ls : List Value}  : ZW zG d 77 39 ls (st) z Q = ZW zG d 77 90 ls st z Q := zw_goto rfl
theorem s77_42 {x0 x1 x2 x3 x4 x5 x6 x7 : Value} : ZW zG d 77 42 [x0, x1, x2, x3, x4, x5, x6, x7] st z Q = (zir x0 = true ∧ ZW zG d 77 43 [x0, x1, x2, x3, x4, x5, x6, x7] (x0 :: st) z Q) := zw_cond (f := z_aload 0 43) rfl rfl
theorem s77_43 {ls : List Value} {r : Nat} : ZW zG d 77 43 ls (.ref r :: st) z Q = ((zcls z r = 3 ∧ zir (zfr z r 2) = true) ∧ ZW zG d 77 46 ls (zfr z r 2 :: st) (z) Q) := zw_getR rfl
theorem s77_46 {x0 x1 x2 x3 x4 x5 x7 : Value} {a : Int32} : ZW zG d 77 46 [x0, x1, x2, x3, x4, x5, .int a, x7] st z Q = ZW zG d 77 48 [x0, x1, x2, x3, x4, x5, .int a, x7] (.int a :: st) z Q := zw_next (f := z_iload 6 48) rfl rfl
theorem s77_48 {ls : List Value} {a : Int32} {r : Nat} : ZW zG d 77 48 ls (.int a :: .ref r :: st) z Q = ((zcls z r = 50 ∧ zin a (zlen z r) = true) ∧ ZW zG d 77 49 ls (.int (zia z r (zx a)) :: st) (z) Q) := zw_iald rfl
theorem s77_49 {x0 x1 x2 x3 x4 x5 x6 x7 : Value} {a : Int32} : ZW zG d 77 49 [x0, x1, x2, x3, x4, x5, x6, x7] (.int a :: st) z Q = ZW zG d 77 51 [x0, x1, x2, x3, x4, x5, zclr x6, .int a] st z Q := zw_next (f := z_istore 7 51) rfl rfl
theorem s77_51 {x0 x1 x2 x3 x4 x5 x7 : Value} {a : Int32} : ZW zG d 77 51 [x0, x1, x2, x3, x4, x5, .int a, x7] st z Q = ZW zG d 77 53 [x0, x1, x2, x3, x4, x5, .int a, x7] (.int a :: st) z Q := zw_next (f := z_iload 6 53) rfl rfl
theorem s77_53 {x0 x1 x3 x4 x5 x6 x7 : Value} {a : Int32} : ZW zG d 77 53 [x0, x1, .int a, x3, x4, x5, x6, x7] st z Q = ZW zG d 77 54 [x0, x1, .int a, x3, x4, x5, x6, x7] (.int a :: st) z Q := zw_next (f := z_iload 2 54) rfl rfl
theorem s77_54 {ls : List Value} {a b : Int32} : ZW zG d 77 54 ls (.int b :: .int a :: st) z Q = if ¬ a = b then ZW zG d 77 67 ls st z Q else ZW zG d 77 57 ls st z Q := zw_icne rfl
theorem s77_57 {x0 x1 x2 x3 x4 x5 x6 : Value} {a : Int32} : ZW zG d 77 57 [x0, x1, x2, x3, x4, x5, x6, .int a] st z Q = ZW zG d 77 59 [x0, x1, x2, x3, x4, x5, x6, .int a] (.int a :: st) z Q := zw_next (f := z_iload 7 59) rfl rfl
theorem s77_59 {ls : List Value}  : ZW zG d 77 59 ls (st) z Q = ZW zG d 77 60 ls ((.int (nI 1)) :: st) z Q := zw_push rfl
theorem s77_60 {x0 x1 x2 x4 x5 x6 x7 : Value} {a : Int32} : ZW zG d 77 60 [x0, x1, x2, .int a, x4, x5, x6, x7] st z Q = ZW zG d 77 61 [x0, x1, x2, .int a, x4, x5, x6, x7] (.int a :: st) z Q := zw_next (f := z_iload 3 61) rfl rfl
theorem s77_61 {ls : List Value} {a b : Int32} : ZW zG d 77 61 ls (.int b :: .int a :: st) z Q = ZW zG d 77 62 ls (.int (a <<< (b &&& 31)) :: st) z Q := zw_ishl rfl
theorem s77_62 {ls : List Value}  : ZW zG d 77 62 ls (st) z Q = ZW zG d 77 63 ls ((.int (-1)) :: st) z Q := zw_push rfl
theorem s77_63 {ls : List Value} {a b : Int32} : ZW zG d 77 63 ls (.int b :: .int a :: st) z Q = ZW zG d 77 64 ls (.int (a ^^^ b) :: st) z Q := zw_ixor rfl
theorem s77_64 {ls : List Value} {a b : Int32} : ZW zG d 77 64 ls (.int b :: .int a :: st) z Q = ZW zG d 77 65 ls (.int (a &&& b) :: st) z Q := zw_iand rfl
theorem s77_65 {x0 x1 x2 x3 x4 x5 x6 x7 : Value} {a : Int32} : ZW zG d 77 65 [x0, x1, x2, x3, x4, x5, x6, x7] (.int a :: st) z Q = ZW zG d 77 67 [x0, x1, x2, x3, x4, x5, zclr x6, .int a] st z Q := zw_next (f := z_istore 7 67) rfl rfl
theorem s77_67 {x0 x1 x2 x3 x4 x5 x7 : Value} {a : Int32} : ZW zG d 77 67 [x0, x1, x2, x3, x4, x5, .int a, x7] st z Q = ZW zG d 77 69 [x0, x1, x2, x3, x4, x5, .int a, x7] (.int a :: st) z Q := zw_next (f := z_iload 6 69) rfl rfl
theorem s77_69 {x0 x1 x2 x4 x5 x6 x7 : Value} {a : Int32} : ZW zG d 77 69 [x0, x1, x2, .int a, x4, x5, x6, x7] st z Q = ZW zG d 77 70 [x0, x1, x2, .int a, x4, x5, x6, x7] (.int a :: st) z Q := zw_next (f := z_iload 3 70) rfl rfl
theorem s77_70 {ls : List Value} {a b : Int32} : ZW zG d 77 70 ls (.int b :: .int a :: st) z Q = if ¬ a = b then ZW zG d 77 83 ls st z Q else ZW zG d 77 73 ls st z Q := zw_icne rfl
theorem s77_73 {x0 x1 x2 x3 x4 x5 x6 : Value} {a : Int32} : ZW zG d 77 73 [x0, x1, x2, x3, x4, x5, x6, .int a] st z Q = ZW zG d 77 75 [x0, x1, x2, x3, x4, x5, x6, .int a] (.int a :: st) z Q := zw_next (f := z_iload 7 75) rfl rfl
theorem s77_75 {ls : List Value}  : ZW zG d 77 75 ls (st) z Q = ZW zG d 77 76 ls ((.int (nI 1)) :: st) z Q := zw_push rfl
theorem s77_76 {x0 x1 x3 x4 x5 x6 x7 : Value} {a : Int32} : ZW zG d 77 76 [x0, x1, .int a, x3, x4, x5, x6, x7] st z Q = ZW zG d 77 77 [x0, x1, .int a, x3, x4, x5, x6, x7] (.int a :: st) z Q := zw_next (f := z_iload 2 77) rfl rfl
theorem s77_77 {ls : List Value} {a b : Int32} : ZW zG d 77 77 ls (.int b :: .int a :: st) z Q = ZW zG d 77 78 ls (.int (a <<< (b &&& 31)) :: st) z Q := zw_ishl rfl
theorem s77_78 {ls : List Value}  : ZW zG d 77 78 ls (st) z Q = ZW zG d 77 79 ls ((.int (-1)) :: st) z Q := zw_push rfl
theorem s77_79 {ls : List Value} {a b : Int32} : ZW zG d 77 79 ls (.int b :: .int a :: st) z Q = ZW zG d 77 80 ls (.int (a ^^^ b) :: st) z Q := zw_ixor rfl
theorem s77_80 {ls : List Value} {a b : Int32} : ZW zG d 77 80 ls (.int b :: .int a :: st) z Q = ZW zG d 77 81 ls (.int (a &&& b) :: st) z Q := zw_iand rfl
theorem s77_81 {x0 x1 x2 x3 x4 x5 x6 x7 : Value} {a : Int32} : ZW zG d 77 81 [x0, x1, x2, x3, x4, x5, x6, x7] (.int a :: st) z Q = ZW zG d 77 83 [x0, x1, x2, x3, x4, x5, zclr x6, .int a] st z Q := zw_next (f := z_istore 7 83) rfl rfl
theorem s77_83 {x0 x1 x2 x3 x5 x6 x7 : Value} {a : Int32} : ZW zG d 77 83 [x0, x1, x2, x3, .int a, x5, x6, x7] st z Q = ZW zG d 77 85 [x0, x1, x2, x3, .int a, x5, x6, x7] (.int a :: st) z Q := zw_next (f := z_iload 4 85) rfl rfl
theorem s77_85 {x0 x1 x2 x3 x4 x5 x6 : Value} {a : Int32} : ZW zG d 77 85 [x0, x1, x2, x3, x4, x5, x6, .int a] st z Q = ZW zG d 77 87 [x0, x1, x2, x3, x4, x5, x6, .int a] (.int a :: st) z Q := zw_next (f := z_iload 7 87) rfl rfl
theorem s77_87 {ls : List Value} {a b : Int32} : ZW zG d 77 87 ls (.int b :: .int a :: st) z Q = ZW zG d 77 88 ls (.int (a ||| b) :: st) z Q := zw_ior rfl
theorem s77_88 {x0 x1 x2 x3 x4 x5 x6 x7 : Value} {a : Int32} : ZW zG d 77 88 [x0, x1, x2, x3, x4, x5, x6, x7] (.int a :: st) z Q = ZW zG d 77 90 [x0, x1, x2, zclr x3, .int a, x5, x6, x7] st z Q := zw_next (f := z_istore 4 90) rfl rfl
theorem s77_90 {x0 x1 x2 x3 x4 x5 x7 : Value} {a : Int32} : ZW zG d 77 90 [x0, x1, x2, x3, x4, x5, .int a, x7] st z Q = ZW zG d 77 93 [x0, x1, x2, x3, x4, zclr x5, .int (a + (nI 1)), x7] st z Q := zw_next (f := z_iinc 6 (nI 1) 93) rfl rfl
theorem s77_93 {ls : List Value}  : ZW zG d 77 93 ls (st) z Q = ZW zG d 77 22 ls st z Q := zw_goto rfl
theorem s77_96 {ls : List Value}  : ZW zG d 77 96 ls (st) z Q = ZW zG d 77 8 ls st z Q := zw_goto rfl
theorem s77_99 {x0 x1 x2 x3 x5 x6 x7 : Value} {a : Int32} : ZW zG d 77 99 [x0, x1, x2, x3, .int a, x5, x6, x7] st z Q = ZW zG d 77 101 [x0, x1, x2, x3, .int a, x5, x6, x7] (.int a :: st) z Q := zw_next (f := z_iload 4 101) rfl rfl
theorem s77_101 {ls : List Value} {a : Int32} : ZW zG d 77 101 ls ([.int a]) z Q = Q (.inl (some (.int a))) z := zw_reti rfl
/-- X3_becomes (LCardBowl$Ledger;)V -/
theorem e78 {r0 : Nat} {v0 : Nat} : ZC zG d 78 [.ref r0, .ref v0] z Q = ZW zG d 78 0 [.ref r0, .ref v0, zdum] [] z Q := rfl
theorem s78_0 {x0 x1 x2 : Value} : ZW zG d 78 0 [x0, x1, x2] st z Q = (zir x0 = true ∧ ZW zG d 78 1 [x0, x1, x2] (x0 :: st) z Q) := zw_cond (f := z_aload 0 1) rfl rfl
theorem s78_1 {x0 x1 x2 : Value} : ZW zG d 78 1 [x0, x1, x2] st z Q = (zir x1 = true ∧ ZW zG d 78 2 [x0, x1, x2] (x1 :: st) z Q) := zw_cond (f := z_aload 1 2) rfl rfl
theorem s78_2 {ls : List Value} {r : Nat} : ZW zG d 78 2 ls (.ref r :: st) z Q = ((zcls z r = 3 ∧ zir (zfr z r 0) = true) ∧ ZW zG d 78 5 ls (zfr z r 0 :: st) (z) Q) := zw_getR rfl
theorem s78_5 {ls : List Value} {v : Value} {r : Nat} : ZW zG d 78 5 ls (v :: .ref r :: st) z Q = ((zcls z r = 3 ∧ zir v = true) ∧ ZW zG d 78 8 ls (st) (sfr z r 0 v) Q) := zw_putR rfl
theorem s78_8 {x0 x1 x2 : Value} : ZW zG d 78 8 [x0, x1, x2] st z Q = (zir x0 = true ∧ ZW zG d 78 9 [x0, x1, x2] (x0 :: st) z Q) := zw_cond (f := z_aload 0 9) rfl rfl
theorem s78_9 {x0 x1 x2 : Value} : ZW zG d 78 9 [x0, x1, x2] st z Q = (zir x1 = true ∧ ZW zG d 78 10 [x0, x1, x2] (x1 :: st) z Q) := zw_cond (f := z_aload 1 10) rfl rfl
theorem s78_10 {ls : List Value} {r : Nat} : ZW zG d 78 10 ls (.ref r :: st) z Q = ((zcls z r = 3 ∧ zir (zfr z r 1) = true) ∧ ZW zG d 78 13 ls (zfr z r 1 :: st) (z) Q) := zw_getR rfl
theorem s78_13 {ls : List Value} {v : Value} {r : Nat} : ZW zG d 78 13 ls (v :: .ref r :: st) z Q = ((zcls z r = 3 ∧ zir v = true) ∧ ZW zG d 78 16 ls (st) (sfr z r 1 v) Q) := zw_putR rfl
theorem s78_16 {x0 x1 x2 : Value} : ZW zG d 78 16 [x0, x1, x2] st z Q = (zir x1 = true ∧ ZW zG d 78 17 [x0, x1, x2] (x1 :: st) z Q) := zw_cond (f := z_aload 1 17) rfl rfl
theorem s78_17 {ls : List Value} {r : Nat} : ZW zG d 78 17 ls (.ref r :: st) z Q = ((zcls z r = 3 ∧ zir (zfr z r 2) = true) ∧ ZW zG d 78 20 ls (zfr z r 2 :: st) (z) Q) := zw_getR rfl
theorem s78_20 {ls : List Value}  : ZW zG d 78 20 ls (st) z Q = ZW zG d 78 21 ls ((.int (nI 0)) :: st) z Q := zw_push rfl
theorem s78_21 {x0 x1 x2 : Value} : ZW zG d 78 21 [x0, x1, x2] st z Q = (zir x0 = true ∧ ZW zG d 78 22 [x0, x1, x2] (x0 :: st) z Q) := zw_cond (f := z_aload 0 22) rfl rfl
theorem s78_22 {ls : List Value} {r : Nat} : ZW zG d 78 22 ls (.ref r :: st) z Q = ((zcls z r = 3 ∧ zir (zfr z r 2) = true) ∧ ZW zG d 78 25 ls (zfr z r 2 :: st) (z) Q) := zw_getR rfl
theorem s78_25 {ls : List Value}  : ZW zG d 78 25 ls (st) z Q = ZW zG d 78 26 ls ((.int (nI 0)) :: st) z Q := zw_push rfl
theorem s78_26 {ls : List Value}  : ZW zG d 78 26 ls (st) z Q = ZW zG d 78 28 ls ((.int (nI 16)) :: st) z Q := zw_push rfl
theorem s78_28 {ls : List Value} {n1 a b : Int32} {r s : Nat} : ZW zG d 78 28 ls (.int n1 :: .int b :: .ref s :: .int a :: .ref r :: st) z Q = (((zcs st = true ∧ zcls z r = 50 ∧ zcls z s = 50 ∧ ¬ r = s) ∧ (zin a (zlen z r + 1) = true ∧ zin b (zlen z s + 1) = true ∧ zin n1 1000000 = true) ∧ zx a + zx n1 ≤ zlen z r ∧ zx b + zx n1 ≤ zlen z s) ∧ ZW zG d 78 31 ls (st) (sIA z s (va_cpy (zia z r) (zia z s) (zx a) (zx b) (zx n1))) Q) := zw_acpy rfl
theorem s78_31 {x0 x1 x2 : Value} : ZW zG d 78 31 [x0, x1, x2] st z Q = (zir x0 = true ∧ ZW zG d 78 32 [x0, x1, x2] (x0 :: st) z Q) := zw_cond (f := z_aload 0 32) rfl rfl
theorem s78_32 {ls : List Value} {r : Nat} : ZW zG d 78 32 ls (.ref r :: st) z Q = ((zcls z r = 3 ∧ zir (zfr z r 3) = true) ∧ ZW zG d 78 35 ls (zfr z r 3 :: st) (z) Q) := zw_getR rfl
theorem s78_35 {ls : List Value} {r : Nat} : ZW zG d 78 35 ls (.ref r :: st) z Q = ((zcs st = true ∧ zcls z r = 90) ∧ ZW zG d 78 40 ls (st) (sls z r []) Q) := zw_lclr rfl
theorem s78_40 {ls : List Value}  : ZW zG d 78 40 ls (st) z Q = ZW zG d 78 41 ls ((.int (nI 0)) :: st) z Q := zw_push rfl
theorem s78_41 {x0 x1 x2 : Value} {a : Int32} : ZW zG d 78 41 [x0, x1, x2] (.int a :: st) z Q = ZW zG d 78 42 [x0, zclr x1, .int a] st z Q := zw_next (f := z_istore 2 42) rfl rfl
theorem s78_42 {x0 x1 : Value} {a : Int32} : ZW zG d 78 42 [x0, x1, .int a] st z Q = ZW zG d 78 43 [x0, x1, .int a] (.int a :: st) z Q := zw_next (f := z_iload 2 43) rfl rfl
theorem s78_43 {x0 x1 x2 : Value} : ZW zG d 78 43 [x0, x1, x2] st z Q = (zir x1 = true ∧ ZW zG d 78 44 [x0, x1, x2] (x1 :: st) z Q) := zw_cond (f := z_aload 1 44) rfl rfl
theorem s78_44 {ls : List Value} {r : Nat} : ZW zG d 78 44 ls (.ref r :: st) z Q = ((zcls z r = 3 ∧ zir (zfr z r 3) = true) ∧ ZW zG d 78 47 ls (zfr z r 3 :: st) (z) Q) := zw_getR rfl
theorem s78_47 {ls : List Value} {r : Nat} : ZW zG d 78 47 ls (.ref r :: st) z Q = ((zcs st = true ∧ zcls z r = 90) ∧ ZW zG d 78 52 ls (.int (nI (zls z r).length) :: st) (z) Q) := zw_lsize rfl
theorem s78_52 {ls : List Value} {a b : Int32} : ZW zG d 78 52 ls (.int b :: .int a :: st) z Q = if b ≤ a then ZW zG d 78 84 ls st z Q else ZW zG d 78 55 ls st z Q := zw_icge rfl
theorem s78_55 {x0 x1 x2 : Value} : ZW zG d 78 55 [x0, x1, x2] st z Q = (zir x0 = true ∧ ZW zG d 78 56 [x0, x1, x2] (x0 :: st) z Q) := zw_cond (f := z_aload 0 56) rfl rfl
theorem s78_56 {ls : List Value} {r : Nat} : ZW zG d 78 56 ls (.ref r :: st) z Q = ((zcls z r = 3 ∧ zir (zfr z r 3) = true) ∧ ZW zG d 78 59 ls (zfr z r 3 :: st) (z) Q) := zw_getR rfl
theorem s78_59 {x0 x1 x2 : Value} : ZW zG d 78 59 [x0, x1, x2] st z Q = (zir x1 = true ∧ ZW zG d 78 60 [x0, x1, x2] (x1 :: st) z Q) := zw_cond (f := z_aload 1 60) rfl rfl
theorem s78_60 {ls : List Value} {r : Nat} : ZW zG d 78 60 ls (.ref r :: st) z Q = ((zcls z r = 3 ∧ zir (zfr z r 3) = true) ∧ ZW zG d 78 63 ls (zfr z r 3 :: st) (z) Q) := zw_getR rfl
theorem s78_63 {x0 x1 : Value} {a : Int32} : ZW zG d 78 63 [x0, x1, .int a] st z Q = ZW zG d 78 64 [x0, x1, .int a] (.int a :: st) z Q := zw_next (f := z_iload 2 64) rfl rfl
theorem s78_64 {ls : List Value} {a : Int32} {r : Nat} : ZW zG d 78 64 ls (.int a :: .ref r :: st) z Q = ((zcs st = true ∧ zcls z r = 90 ∧ zin a (zls z r).length = true) ∧ ZW zG d 78 69 ls ((zls z r).getD (zx a) .null :: st) (z) Q) := zw_lget rfl
theorem s78_69 {ls : List Value} {r : Nat} : ZW zG d 78 69 ls (.ref r :: st) z Q = ((zcls z r = 23) ∧ ZW zG d 78 72 ls (.ref r :: st) (z) Q) := zw_cast rfl
theorem s78_72 {ls : List Value} {v : Value} {r : Nat} : ZW zG d 78 72 ls (v :: .ref r :: st) z Q = ((zcs st = true ∧ zcls z r = 90 ∧ (zlel z v = true ∧ (zls z r).all (zlel z) = true ∧ (zls z r).length < 100000)) ∧ ZW zG d 78 77 ls (.int 1 :: st) (sladd z r v) Q) := zw_ladd1 rfl
theorem s78_77 {ls : List Value} {a : Int32} : ZW zG d 78 77 ls (.int a :: st) z Q = ZW zG d 78 78 ls (st) z Q := zw_popi rfl
theorem s78_78 {x0 x1 : Value} {a : Int32} : ZW zG d 78 78 [x0, x1, .int a] st z Q = ZW zG d 78 81 [x0, zclr x1, .int (a + (nI 1))] st z Q := zw_next (f := z_iinc 2 (nI 1) 81) rfl rfl
theorem s78_81 {ls : List Value}  : ZW zG d 78 81 ls (st) z Q = ZW zG d 78 42 ls st z Q := zw_goto rfl
theorem s78_84 {x0 x1 x2 : Value} : ZW zG d 78 84 [x0, x1, x2] st z Q = (zir x0 = true ∧ ZW zG d 78 85 [x0, x1, x2] (x0 :: st) z Q) := zw_cond (f := z_aload 0 85) rfl rfl
theorem s78_85 {x0 x1 x2 : Value} : ZW zG d 78 85 [x0, x1, x2] st z Q = (zir x1 = true ∧ ZW zG d 78 86 [x0, x1, x2] (x1 :: st) z Q) := zw_cond (f := z_aload 1 86) rfl rfl
theorem s78_86 {ls : List Value} {r : Nat} : ZW zG d 78 86 ls (.ref r :: st) z Q = ((zcls z r = 3) ∧ ZW zG d 78 89 ls (.int (zfi z r 5) :: st) (z) Q) := zw_getI rfl
theorem s78_89 {ls : List Value} {a : Int32} {r : Nat} : ZW zG d 78 89 ls (.int a :: .ref r :: st) z Q = ((zcls z r = 3) ∧ ZW zG d 78 92 ls (st) (sfi z r 5 a) Q) := zw_putI rfl
theorem s78_92 {ls : List Value}  : ZW zG d 78 92 ls ([]) z Q = Q (.inl none) z := zw_ret rfl
/-- X4_init ()V -/
theorem e79 {r0 : Nat} : ZC zG d 79 [.ref r0] z Q = ZW zG d 79 0 [.ref r0] [] z Q := rfl
theorem s79_0 {x0 : Value} : ZW zG d 79 0 [x0] st z Q = (zir x0 = true ∧ ZW zG d 79 1 [x0] (x0 :: st) z Q) := zw_cond (f := z_aload 0 1) rfl rfl
theorem s79_1 {ls : List Value} {r : Nat} : ZW zG d 79 1 ls (.ref r :: st) z Q = ((zcs st = true) ∧ ZW zG d 79 4 ls (st) (z) Q) := zw_oinit rfl
theorem s79_4 {ls : List Value}  : ZW zG d 79 4 ls ([]) z Q = Q (.inl none) z := zw_ret rfl
/-- X4_within (J)J -/
theorem e80 {r0 : Nat} {v0 : Int64} : ZC zG d 80 [.ref r0, .long v0] z Q = ZW zG d 80 0 [.ref r0, .long v0, zdum] [] z Q := rfl
theorem s80_0 {x0 x1 x2 : Value} : ZW zG d 80 0 [x0, x1, x2] st z Q = (zir x0 = true ∧ ZW zG d 80 1 [x0, x1, x2] (x0 :: st) z Q) := zw_cond (f := z_aload 0 1) rfl rfl
theorem s80_1 {x0 x1 x2 : Value} : ZW zG d 80 1 [x0, x1, x2] st z Q = (zir x0 = true ∧ ZW zG d 80 2 [x0, x1, x2] (x0 :: st) z Q) := zw_cond (f := z_aload 0 2) rfl rfl
theorem s80_2 {ls : List Value} {r : Nat} : ZW zG d 80 2 ls (.ref r :: st) z Q = ((zcls z r = 4) ∧ ZW zG d 80 5 ls (.int (zfi z r 5) :: st) (z) Q) := zw_getI rfl
theorem s80_5 {ls : List Value} {a : Int32} : ZW zG d 80 5 ls (.int a :: st) z Q = if ¬ a = 0 then ZW zG d 80 24 ls st z Q else ZW zG d 80 8 ls st z Q := zw_ifne rfl
theorem s80_8 {x0 x2 : Value} {a : Int64} : ZW zG d 80 8 [x0, .long a, x2] st z Q = ZW zG d 80 9 [x0, .long a, x2] (.long a :: st) z Q := zw_next (f := z_lload 1 9) rfl rfl
theorem s80_9 {ls : List Value}  : ZW zG d 80 9 ls (st) z Q = ZW zG d 80 12 ls ((.long (lN 1000000000)) :: st) z Q := zw_push rfl
theorem s80_12 {ls : List Value} {x y : Int64} : ZW zG d 80 12 ls (.long y :: .long x :: st) z Q = ZW zG d 80 13 ls (.int (lg_cmp x y) :: st) z Q := zw_lcmp rfl
theorem s80_13 {ls : List Value} {a : Int32} : ZW zG d 80 13 ls (.int a :: st) z Q = if 0 < a then ZW zG d 80 24 ls st z Q else ZW zG d 80 16 ls st z Q := zw_ifgt rfl
theorem s80_16 {x0 x2 : Value} {a : Int64} : ZW zG d 80 16 [x0, .long a, x2] st z Q = ZW zG d 80 17 [x0, .long a, x2] (.long a :: st) z Q := zw_next (f := z_lload 1 17) rfl rfl
theorem s80_17 {ls : List Value}  : ZW zG d 80 17 ls (st) z Q = ZW zG d 80 20 ls ((.long (-1000000000)) :: st) z Q := zw_push rfl
theorem s80_20 {ls : List Value} {x y : Int64} : ZW zG d 80 20 ls (.long y :: .long x :: st) z Q = ZW zG d 80 21 ls (.int (lg_cmp x y) :: st) z Q := zw_lcmp rfl
theorem s80_21 {ls : List Value} {a : Int32} : ZW zG d 80 21 ls (.int a :: st) z Q = if 0 ≤ a then ZW zG d 80 28 ls st z Q else ZW zG d 80 24 ls st z Q := zw_ifge rfl
theorem s80_24 {ls : List Value}  : ZW zG d 80 24 ls (st) z Q = ZW zG d 80 25 ls ((.int (nI 1)) :: st) z Q := zw_push rfl
theorem s80_25 {ls : List Value}  : ZW zG d 80 25 ls (st) z Q = ZW zG d 80 29 ls st z Q := zw_goto rfl
theorem s80_28 {ls : List Value}  : ZW zG d 80 28 ls (st) z Q = ZW zG d 80 29 ls ((.int (nI 0)) :: st) z Q := zw_push rfl
theorem s80_29 {ls : List Value} {a : Int32} {r : Nat} : ZW zG d 80 29 ls (.int a :: .ref r :: st) z Q = ((zcls z r = 4 ∧ (a = 0 ∨ a = 1)) ∧ ZW zG d 80 32 ls (st) (sfi z r 5 a) Q) := zw_putZ rfl
theorem s80_32 {x0 x1 x2 : Value} : ZW zG d 80 32 [x0, x1, x2] st z Q = (zir x0 = true ∧ ZW zG d 80 33 [x0, x1, x2] (x0 :: st) z Q) := zw_cond (f := z_aload 0 33) rfl rfl
theorem s80_33 {ls : List Value} {r : Nat} : ZW zG d 80 33 ls (.ref r :: st) z Q = ((zcls z r = 4) ∧ ZW zG d 80 36 ls (.int (zfi z r 5) :: st) (z) Q) := zw_getI rfl
theorem s80_36 {ls : List Value} {a : Int32} : ZW zG d 80 36 ls (.int a :: st) z Q = if a = 0 then ZW zG d 80 43 ls st z Q else ZW zG d 80 39 ls st z Q := zw_ifeq rfl
theorem s80_39 {ls : List Value}  : ZW zG d 80 39 ls (st) z Q = ZW zG d 80 40 ls ((.long (lN 0)) :: st) z Q := zw_push rfl
theorem s80_40 {ls : List Value}  : ZW zG d 80 40 ls (st) z Q = ZW zG d 80 44 ls st z Q := zw_goto rfl
theorem s80_43 {x0 x2 : Value} {a : Int64} : ZW zG d 80 43 [x0, .long a, x2] st z Q = ZW zG d 80 44 [x0, .long a, x2] (.long a :: st) z Q := zw_next (f := z_lload 1 44) rfl rfl
theorem s80_44 {ls : List Value} {a : Int64} : ZW zG d 80 44 ls ([.long a]) z Q = Q (.inl (some (.long a))) z := zw_retl rfl
/-- X5_init ()V -/
theorem e81 {r0 : Nat} : ZC zG d 81 [.ref r0] z Q = ZW zG d 81 0 [.ref r0] [] z Q := rfl
theorem s81_0 {x0 : Value} : ZW zG d 81 0 [x0] st z Q = (zir x0 = true ∧ ZW zG d 81 1 [x0] (x0 :: st) z Q) := zw_cond (f := z_aload 0 1) rfl rfl
theorem s81_1 {ls : List Value} {r : Nat} : ZW zG d 81 1 ls (.ref r :: st) z Q = ((zcs st = true) ∧ ZW zG d 81 4 ls (st) (z) Q) := zw_oinit rfl
theorem s81_4 {ls : List Value}  : ZW zG d 81 4 ls ([]) z Q = Q (.inl none) z := zw_ret rfl
/-- X5_bars (LCardBowl$House;LCardBowl$House;I)I -/
theorem e82 {r0 : Nat} {v0 : Nat} {v1 : Nat} {v2 : Int32} : ZC zG d 82 [.ref r0, .ref v0, .ref v1, .int v2] z Q = ZW zG d 82 0 [.ref r0, .ref v0, .ref v1, .int v2] [] z Q := rfl
theorem s82_0 {ls : List Value}  : ZW zG d 82 0 ls (st) z Q = ZW zG d 82 1 ls ((.int (nI 0)) :: st) z Q := zw_push rfl
theorem s82_1 {ls : List Value} {a : Int32} : ZW zG d 82 1 ls ([.int a]) z Q = Q (.inl (some (.int a))) z := zw_reti rfl
/-- X5_pays (LCardBowl$Debt;)Z -/
theorem e83 {r0 : Nat} {v0 : Nat} : ZC zG d 83 [.ref r0, .ref v0] z Q = ZW zG d 83 0 [.ref r0, .ref v0] [] z Q := rfl
theorem s83_0 {x0 x1 : Value} : ZW zG d 83 0 [x0, x1] st z Q = (zir x1 = true ∧ ZW zG d 83 1 [x0, x1] (x1 :: st) z Q) := zw_cond (f := z_aload 1 1) rfl rfl
theorem s83_1 {ls : List Value} {r : Nat} : ZW zG d 83 1 ls (.ref r :: st) z Q = ((zcls z r = 23) ∧ ZW zG d 83 4 ls (.int (zfi z r 2) :: st) (z) Q) := zw_getI rfl
theorem s83_4 {x0 x1 : Value} : ZW zG d 83 4 [x0, x1] st z Q = (zir x0 = true ∧ ZW zG d 83 5 [x0, x1] (x0 :: st) z Q) := zw_cond (f := z_aload 0 5) rfl rfl
theorem s83_5 {ls : List Value}  {r k1 : Nat} (hk : [(6, 86), (7, 88), (8, 91), (9, 94)].lookup (zcls z r) = some k1) (hfit : (zent [.ref r]).length ≤ zMl k1) : ZW zG (d + 1) 83 5 ls (.ref r :: st) z Q = (zcs st = true ∧ ZC zG d k1 [.ref r] z (zk zG (d + 1) 83 none 8 ls st Q)) := zc_U0 rfl hk hfit
theorem s83_8 {ls : List Value} {a b : Int32} : ZW zG d 83 8 ls (.int b :: .int a :: st) z Q = if b < a then ZW zG d 83 15 ls st z Q else ZW zG d 83 11 ls st z Q := zw_icgt rfl
theorem s83_11 {ls : List Value}  : ZW zG d 83 11 ls (st) z Q = ZW zG d 83 12 ls ((.int (nI 1)) :: st) z Q := zw_push rfl
theorem s83_12 {ls : List Value}  : ZW zG d 83 12 ls (st) z Q = ZW zG d 83 16 ls st z Q := zw_goto rfl
theorem s83_15 {ls : List Value}  : ZW zG d 83 15 ls (st) z Q = ZW zG d 83 16 ls ((.int (nI 0)) :: st) z Q := zw_push rfl
theorem s83_16 {ls : List Value} {a : Int32} : ZW zG d 83 16 ls ([.int a]) z Q = ((a = 0 ∨ a = 1) ∧ Q (.inl (some (.int a))) z) := zw_retz rfl
/-- X5_makesKnown ()Z -/
theorem e84 {r0 : Nat} : ZC zG d 84 [.ref r0] z Q = ZW zG d 84 0 [.ref r0] [] z Q := rfl
theorem s84_0 {ls : List Value}  : ZW zG d 84 0 ls (st) z Q = ZW zG d 84 1 ls ((.int (nI 0)) :: st) z Q := zw_push rfl
theorem s84_1 {ls : List Value} {a : Int32} : ZW zG d 84 1 ls ([.int a]) z Q = ((a = 0 ∨ a = 1) ∧ Q (.inl (some (.int a))) z) := zw_retz rfl
/-- X6_init ()V -/
theorem e85 {r0 : Nat} : ZC zG d 85 [.ref r0] z Q = ZW zG d 85 0 [.ref r0] [] z Q := rfl
theorem s85_0 {x0 : Value} : ZW zG d 85 0 [x0] st z Q = (zir x0 = true ∧ ZW zG d 85 1 [x0] (x0 :: st) z Q) := zw_cond (f := z_aload 0 1) rfl rfl
theorem s85_1 {ls : List Value}  {r : Nat} : ZW zG (d + 1) 85 1 ls (.ref r :: st) z Q = (zcs st = true ∧ ZC zG d 81 [.ref r] z (zk zG (d + 1) 85 (none) 4 ls st Q)) := zc_I0 rfl (Nat.le_of_ble_eq_true rfl)
theorem s85_4 {ls : List Value}  : ZW zG d 85 4 ls ([]) z Q = Q (.inl none) z := zw_ret rfl
/-- X6_kind ()I -/
theorem e86 {r0 : Nat} : ZC zG d 86 [.ref r0] z Q = ZW zG d 86 0 [.ref r0] [] z Q := rfl
theorem s86_0 {ls : List Value}  : ZW zG d 86 0 ls (st) z Q = ZW zG d 86 1 ls ((.int (nI 0)) :: st) z Q := zw_push rfl
theorem s86_1 {ls : List Value} {a : Int32} : ZW zG d 86 1 ls ([.int a]) z Q = Q (.inl (some (.int a))) z := zw_reti rfl
/-- X7_init ()V -/
theorem e87 {r0 : Nat} : ZC zG d 87 [.ref r0] z Q = ZW zG d 87 0 [.ref r0] [] z Q := rfl
theorem s87_0 {x0 : Value} : ZW zG d 87 0 [x0] st z Q = (zir x0 = true ∧ ZW zG d 87 1 [x0] (x0 :: st) z Q) := zw_cond (f := z_aload 0 1) rfl rfl
theorem s87_1 {ls : List Value}  {r : Nat} : ZW zG (d + 1) 87 1 ls (.ref r :: st) z Q = (zcs st = true ∧ ZC zG d 85 [.ref r] z (zk zG (d + 1) 87 (none) 4 ls st Q)) := zc_I0 rfl (Nat.le_of_ble_eq_true rfl)
theorem s87_4 {ls : List Value}  : ZW zG d 87 4 ls ([]) z Q = Q (.inl none) z := zw_ret rfl
/-- X7_kind ()I -/
theorem e88 {r0 : Nat} : ZC zG d 88 [.ref r0] z Q = ZW zG d 88 0 [.ref r0] [] z Q := rfl
theorem s88_0 {ls : List Value}  : ZW zG d 88 0 ls (st) z Q = ZW zG d 88 1 ls ((.int (nI 1)) :: st) z Q := zw_push rfl
theorem s88_1 {ls : List Value} {a : Int32} : ZW zG d 88 1 ls ([.int a]) z Q = Q (.inl (some (.int a))) z := zw_reti rfl
/-- X8_init ()V -/
theorem e89 {r0 : Nat} : ZC zG d 89 [.ref r0] z Q = ZW zG d 89 0 [.ref r0] [] z Q := rfl
theorem s89_0 {x0 : Value} : ZW zG d 89 0 [x0] st z Q = (zir x0 = true ∧ ZW zG d 89 1 [x0] (x0 :: st) z Q) := zw_cond (f := z_aload 0 1) rfl rfl
theorem s89_1 {ls : List Value}  {r : Nat} : ZW zG (d + 1) 89 1 ls (.ref r :: st) z Q = (zcs st = true ∧ ZC zG d 81 [.ref r] z (zk zG (d + 1) 89 (none) 4 ls st Q)) := zc_I0 rfl (Nat.le_of_ble_eq_true rfl)
theorem s89_4 {ls : List Value}  : ZW zG d 89 4 ls ([]) z Q = Q (.inl none) z := zw_ret rfl
/-- X8_bars (LCardBowl$House;LCardBowl$House;I)I -/
theorem e90 {r0 : Nat} {v0 : Nat} {v1 : Nat} {v2 : Int32} : ZC zG d 90 [.ref r0, .ref v0, .ref v1, .int v2] z Q = ZW zG d 90 0 [.ref r0, .ref v0, .ref v1, .int v2] [] z Q := rfl
theorem s90_0 {x0 x1 x2 : Value} {a : Int32} : ZW zG d 90 0 [x0, x1, x2, .int a] st z Q = ZW zG d 90 1 [x0, x1, x2, .int a] (.int a :: st) z Q := zw_next (f := z_iload 3 1) rfl rfl
theorem s90_1 {ls : List Value}  : ZW zG d 90 1 ls (st) z Q = ZW zG d 90 3 ls ((.int (nI 7)) :: st) z Q := zw_push rfl
theorem s90_3 {ls : List Value} {a b : Int32} : ZW zG d 90 3 ls (.int b :: .int a :: st) z Q = ((¬ b = 0) ∧ ZW zG d 90 4 ls (.int (a - a / b * b) :: st) (z) Q) := zw_irem rfl
theorem s90_4 {x0 x1 x2 x3 : Value} : ZW zG d 90 4 [x0, x1, x2, x3] st z Q = (zir x2 = true ∧ ZW zG d 90 5 [x0, x1, x2, x3] (x2 :: st) z Q) := zw_cond (f := z_aload 2 5) rfl rfl
theorem s90_5 {ls : List Value} {r : Nat} : ZW zG d 90 5 ls (.ref r :: st) z Q = ((zcls z r = 21) ∧ ZW zG d 90 8 ls (.int (zfi z r 3) :: st) (z) Q) := zw_getI rfl
theorem s90_8 {ls : List Value} {a b : Int32} : ZW zG d 90 8 ls (.int b :: .int a :: st) z Q = if a = b then ZW zG d 90 15 ls st z Q else ZW zG d 90 11 ls st z Q := zw_iceq rfl
theorem s90_11 {ls : List Value}  : ZW zG d 90 11 ls (st) z Q = ZW zG d 90 12 ls ((.int (nI 2)) :: st) z Q := zw_push rfl
theorem s90_12 {ls : List Value}  : ZW zG d 90 12 ls (st) z Q = ZW zG d 90 28 ls st z Q := zw_goto rfl
theorem s90_15 {x0 x1 x2 x3 : Value} : ZW zG d 90 15 [x0, x1, x2, x3] st z Q = (zir x1 = true ∧ ZW zG d 90 16 [x0, x1, x2, x3] (x1 :: st) z Q) := zw_cond (f := z_aload 1 16) rfl rfl
theorem s90_16 {x0 x1 x2 : Value} {a : Int32} : ZW zG d 90 16 [x0, x1, x2, .int a] st z Q = ZW zG d 90 17 [x0, x1, x2, .int a] (.int a :: st) z Q := zw_next (f := z_iload 3 17) rfl rfl
theorem s90_17 {ls : List Value} {w0 : Int32} {r : Nat} : ZW zG (d + 1) 90 17 ls (.int w0 :: .ref r :: st) z Q = (zcls z r = 21 ∧ zcs st = true ∧ ZC zG d 247 [.ref r, .int w0] z (zk zG (d + 1) 90 (none) 20 ls st Q)) := zc_V1 rfl (Nat.le_of_ble_eq_true rfl)
theorem s90_20 {ls : List Value} {a : Int32} : ZW zG d 90 20 ls (.int a :: st) z Q = if a = 0 then ZW zG d 90 27 ls st z Q else ZW zG d 90 23 ls st z Q := zw_ifeq rfl
theorem s90_23 {ls : List Value}  : ZW zG d 90 23 ls (st) z Q = ZW zG d 90 24 ls ((.int (nI 3)) :: st) z Q := zw_push rfl
theorem s90_24 {ls : List Value}  : ZW zG d 90 24 ls (st) z Q = ZW zG d 90 28 ls st z Q := zw_goto rfl
theorem s90_27 {ls : List Value}  : ZW zG d 90 27 ls (st) z Q = ZW zG d 90 28 ls ((.int (nI 0)) :: st) z Q := zw_push rfl
theorem s90_28 {ls : List Value} {a : Int32} : ZW zG d 90 28 ls ([.int a]) z Q = Q (.inl (some (.int a))) z := zw_reti rfl
/-- X8_kind ()I -/
theorem e91 {r0 : Nat} : ZC zG d 91 [.ref r0] z Q = ZW zG d 91 0 [.ref r0] [] z Q := rfl
theorem s91_0 {ls : List Value}  : ZW zG d 91 0 ls (st) z Q = ZW zG d 91 1 ls ((.int (nI 2)) :: st) z Q := zw_push rfl
theorem s91_1 {ls : List Value} {a : Int32} : ZW zG d 91 1 ls ([.int a]) z Q = Q (.inl (some (.int a))) z := zw_reti rfl
/-- X8_makesKnown ()Z -/
theorem e92 {r0 : Nat} : ZC zG d 92 [.ref r0] z Q = ZW zG d 92 0 [.ref r0] [] z Q := rfl
theorem s92_0 {ls : List Value}  : ZW zG d 92 0 ls (st) z Q = ZW zG d 92 1 ls ((.int (nI 1)) :: st) z Q := zw_push rfl
theorem s92_1 {ls : List Value} {a : Int32} : ZW zG d 92 1 ls ([.int a]) z Q = ((a = 0 ∨ a = 1) ∧ Q (.inl (some (.int a))) z) := zw_retz rfl
/-- X9_init ()V -/
theorem e93 {r0 : Nat} : ZC zG d 93 [.ref r0] z Q = ZW zG d 93 0 [.ref r0] [] z Q := rfl
theorem s93_0 {x0 : Value} : ZW zG d 93 0 [x0] st z Q = (zir x0 = true ∧ ZW zG d 93 1 [x0] (x0 :: st) z Q) := zw_cond (f := z_aload 0 1) rfl rfl
theorem s93_1 {ls : List Value}  {r : Nat} : ZW zG (d + 1) 93 1 ls (.ref r :: st) z Q = (zcs st = true ∧ ZC zG d 89 [.ref r] z (zk zG (d + 1) 93 (none) 4 ls st Q)) := zc_I0 rfl (Nat.le_of_ble_eq_true rfl)
theorem s93_4 {ls : List Value}  : ZW zG d 93 4 ls ([]) z Q = Q (.inl none) z := zw_ret rfl
/-- X9_kind ()I -/
theorem e94 {r0 : Nat} : ZC zG d 94 [.ref r0] z Q = ZW zG d 94 0 [.ref r0] [] z Q := rfl
theorem s94_0 {x0 : Value} : ZW zG d 94 0 [x0] st z Q = (zir x0 = true ∧ ZW zG d 94 1 [x0] (x0 :: st) z Q) := zw_cond (f := z_aload 0 1) rfl rfl
theorem s94_1 {ls : List Value}  {r : Nat} : ZW zG (d + 1) 94 1 ls (.ref r :: st) z Q = (zcls z r = 9 ∧ zcs st = true ∧ ZC zG d 91 [.ref r] z (zk zG (d + 1) 94 (none) 4 ls st Q)) := zc_V0 rfl (Nat.le_of_ble_eq_true rfl)
theorem s94_4 {ls : List Value}  : ZW zG d 94 4 ls (st) z Q = ZW zG d 94 5 ls ((.int (nI 1)) :: st) z Q := zw_push rfl
theorem s94_5 {ls : List Value} {a b : Int32} : ZW zG d 94 5 ls (.int b :: .int a :: st) z Q = ZW zG d 94 6 ls (.int (a + b) :: st) z Q := zw_iadd rfl
theorem s94_6 {ls : List Value} {a : Int32} : ZW zG d 94 6 ls ([.int a]) z Q = Q (.inl (some (.int a))) z := zw_reti rfl
/-- X10_init (LCardBowl;)V -/
theorem e95 {r0 : Nat} {v0 : Nat} : ZC zG d 95 [.ref r0, .ref v0] z Q = ZW zG d 95 0 [.ref r0, .ref v0] [] z Q := rfl
theorem s95_0 {x0 x1 : Value} : ZW zG d 95 0 [x0, x1] st z Q = (zir x0 = true ∧ ZW zG d 95 1 [x0, x1] (x0 :: st) z Q) := zw_cond (f := z_aload 0 1) rfl rfl
theorem s95_1 {x0 x1 : Value} : ZW zG d 95 1 [x0, x1] st z Q = (zir x1 = true ∧ ZW zG d 95 2 [x0, x1] (x1 :: st) z Q) := zw_cond (f := z_aload 1 2) rfl rfl
theorem s95_2 {ls : List Value} {v : Value} {r : Nat} : ZW zG d 95 2 ls (v :: .ref r :: st) z Q = ((zcls z r = 10 ∧ zir v = true) ∧ ZW zG d 95 5 ls (st) (sfr z r 11 v) Q) := zw_putR rfl
theorem s95_5 {x0 x1 : Value} : ZW zG d 95 5 [x0, x1] st z Q = (zir x0 = true ∧ ZW zG d 95 6 [x0, x1] (x0 :: st) z Q) := zw_cond (f := z_aload 0 6) rfl rfl
theorem s95_6 {ls : List Value} {r : Nat} : ZW zG d 95 6 ls (.ref r :: st) z Q = ((zcs st = true) ∧ ZW zG d 95 9 ls (st) (z) Q) := zw_oinit rfl
theorem s95_9 {x0 x1 : Value} : ZW zG d 95 9 [x0, x1] st z Q = (zir x0 = true ∧ ZW zG d 95 10 [x0, x1] (x0 :: st) z Q) := zw_cond (f := z_aload 0 10) rfl rfl
theorem s95_10 {ls : List Value}  : ZW zG d 95 10 ls (st) z Q = ZW zG d 95 12 ls ((.int (nI 10)) :: st) z Q := zw_push rfl
theorem s95_12 {ls : List Value} {a : Int32} : ZW zG d 95 12 ls (.int a :: st) z Q = ((zin a 1000000 = true) ∧ ZW zG d 95 14 ls (.ref (zn z) :: st) (sarr z 50 (zx a)) Q) := zw_newa rfl
theorem s95_14 {ls : List Value} {v : Value} {r : Nat} : ZW zG d 95 14 ls (v :: .ref r :: st) z Q = ((zcls z r = 10 ∧ zir v = true) ∧ ZW zG d 95 17 ls (st) (sfr z r 0 v) Q) := zw_putR rfl
theorem s95_17 {x0 x1 : Value} : ZW zG d 95 17 [x0, x1] st z Q = (zir x0 = true ∧ ZW zG d 95 18 [x0, x1] (x0 :: st) z Q) := zw_cond (f := z_aload 0 18) rfl rfl
theorem s95_18 {ls : List Value}  : ZW zG d 95 18 ls (st) z Q = ZW zG d 95 21 ls ((.int (nI 10240)) :: st) z Q := zw_push rfl
theorem s95_21 {ls : List Value} {a : Int32} : ZW zG d 95 21 ls (.int a :: st) z Q = ((zin a 1000000 = true) ∧ ZW zG d 95 23 ls (.ref (zn z) :: st) (sarr z 50 (zx a)) Q) := zw_newa rfl
theorem s95_23 {ls : List Value} {v : Value} {r : Nat} : ZW zG d 95 23 ls (v :: .ref r :: st) z Q = ((zcls z r = 10 ∧ zir v = true) ∧ ZW zG d 95 26 ls (st) (sfr z r 1 v) Q) := zw_putR rfl
theorem s95_26 {x0 x1 : Value} : ZW zG d 95 26 [x0, x1] st z Q = (zir x0 = true ∧ ZW zG d 95 27 [x0, x1] (x0 :: st) z Q) := zw_cond (f := z_aload 0 27) rfl rfl
theorem s95_27 {ls : List Value}  : ZW zG d 95 27 ls (st) z Q = ZW zG d 95 30 ls ((.int (nI 10240)) :: st) z Q := zw_push rfl
theorem s95_30 {ls : List Value} {a : Int32} : ZW zG d 95 30 ls (.int a :: st) z Q = ((zin a 1000000 = true) ∧ ZW zG d 95 32 ls (.ref (zn z) :: st) (sarr z 50 (zx a)) Q) := zw_newa rfl
theorem s95_32 {ls : List Value} {v : Value} {r : Nat} : ZW zG d 95 32 ls (v :: .ref r :: st) z Q = ((zcls z r = 10 ∧ zir v = true) ∧ ZW zG d 95 35 ls (st) (sfr z r 2 v) Q) := zw_putR rfl
theorem s95_35 {x0 x1 : Value} : ZW zG d 95 35 [x0, x1] st z Q = (zir x0 = true ∧ ZW zG d 95 36 [x0, x1] (x0 :: st) z Q) := zw_cond (f := z_aload 0 36) rfl rfl
theorem s95_36 {ls : List Value}  : ZW zG d 95 36 ls (st) z Q = ZW zG d 95 38 ls ((.int (nI 10)) :: st) z Q := zw_push rfl
theorem s95_38 {ls : List Value} {a : Int32} : ZW zG d 95 38 ls (.int a :: st) z Q = ((zin a 1000000 = true) ∧ ZW zG d 95 40 ls (.ref (zn z) :: st) (sarr z 50 (zx a)) Q) := zw_newa rfl
theorem s95_40 {ls : List Value} {v : Value} {r : Nat} : ZW zG d 95 40 ls (v :: .ref r :: st) z Q = ((zcls z r = 10 ∧ zir v = true) ∧ ZW zG d 95 43 ls (st) (sfr z r 3 v) Q) := zw_putR rfl
theorem s95_43 {ls : List Value}  : ZW zG d 95 43 ls ([]) z Q = Q (.inl none) z := zw_ret rfl
/-- X10_begins (II)V -/
theorem e96 {r0 : Nat} {v0 : Int32} {v1 : Int32} : ZC zG d 96 [.ref r0, .int v0, .int v1] z Q = ZW zG d 96 0 [.ref r0, .int v0, .int v1] [] z Q := rfl
theorem s96_0 {x0 x1 x2 : Value} : ZW zG d 96 0 [x0, x1, x2] st z Q = (zir x0 = true ∧ ZW zG d 96 1 [x0, x1, x2] (x0 :: st) z Q) := zw_cond (f := z_aload 0 1) rfl rfl
theorem s96_1 {x0 x2 : Value} {a : Int32} : ZW zG d 96 1 [x0, .int a, x2] st z Q = ZW zG d 96 2 [x0, .int a, x2] (.int a :: st) z Q := zw_next (f := z_iload 1 2) rfl rfl
theorem s96_2 {ls : List Value} {a : Int32} {r : Nat} : ZW zG d 96 2 ls (.int a :: .ref r :: st) z Q = ((zcls z r = 10) ∧ ZW zG d 96 5 ls (st) (sfi z r 10 a) Q) := zw_putI rfl
theorem s96_5 {x0 x1 x2 : Value} : ZW zG d 96 5 [x0, x1, x2] st z Q = (zir x0 = true ∧ ZW zG d 96 6 [x0, x1, x2] (x0 :: st) z Q) := zw_cond (f := z_aload 0 6) rfl rfl
theorem s96_6 {x0 x1 x2 : Value} : ZW zG d 96 6 [x0, x1, x2] st z Q = (zir x0 = true ∧ ZW zG d 96 7 [x0, x1, x2] (x0 :: st) z Q) := zw_cond (f := z_aload 0 7) rfl rfl
theorem s96_7 {ls : List Value} {r : Nat} : ZW zG d 96 7 ls (.ref r :: st) z Q = ((zcls z r = 10 ∧ zir (zfr z r 11) = true) ∧ ZW zG d 96 10 ls (zfr z r 11 :: st) (z) Q) := zw_getR rfl
theorem s96_10 {ls : List Value} {r : Nat} : ZW zG d 96 10 ls (.ref r :: st) z Q = ((zcls z r = 0 ∧ zir (zfr z r 1) = true) ∧ ZW zG d 96 13 ls (zfr z r 1 :: st) (z) Q) := zw_getR rfl
theorem s96_13 {ls : List Value} {r : Nat} : ZW zG d 96 13 ls (.ref r :: st) z Q = ((zcls z r = 1 ∧ zir (zfr z r 0) = true) ∧ ZW zG d 96 16 ls (zfr z r 0 :: st) (z) Q) := zw_getR rfl
theorem s96_16 {x0 x2 : Value} {a : Int32} : ZW zG d 96 16 [x0, .int a, x2] st z Q = ZW zG d 96 17 [x0, .int a, x2] (.int a :: st) z Q := zw_next (f := z_iload 1 17) rfl rfl
theorem s96_17 {ls : List Value} {w0 : Int32} {r : Nat} : ZW zG (d + 1) 96 17 ls (.int w0 :: .ref r :: st) z Q = (zcls z r = 2 ∧ zcs st = true ∧ ZC zG d 65 [.ref r, .int w0] z (zk zG (d + 1) 96 (none) 20 ls st Q)) := zc_V1 rfl (Nat.le_of_ble_eq_true rfl)
theorem s96_20 {ls : List Value} {v : Value} {r : Nat} : ZW zG d 96 20 ls (v :: .ref r :: st) z Q = ((zcls z r = 10 ∧ zir v = true) ∧ ZW zG d 96 23 ls (st) (sfr z r 9 v) Q) := zw_putR rfl
theorem s96_23 {x0 x1 x2 : Value} : ZW zG d 96 23 [x0, x1, x2] st z Q = (zir x0 = true ∧ ZW zG d 96 24 [x0, x1, x2] (x0 :: st) z Q) := zw_cond (f := z_aload 0 24) rfl rfl
theorem s96_24 {x0 x1 : Value} {a : Int32} : ZW zG d 96 24 [x0, x1, .int a] st z Q = ZW zG d 96 25 [x0, x1, .int a] (.int a :: st) z Q := zw_next (f := z_iload 2 25) rfl rfl
theorem s96_25 {ls : List Value} {a : Int32} {r : Nat} : ZW zG d 96 25 ls (.int a :: .ref r :: st) z Q = ((zcls z r = 10) ∧ ZW zG d 96 28 ls (st) (sfi z r 5 a) Q) := zw_putI rfl
theorem s96_28 {x0 x1 x2 : Value} : ZW zG d 96 28 [x0, x1, x2] st z Q = (zir x0 = true ∧ ZW zG d 96 29 [x0, x1, x2] (x0 :: st) z Q) := zw_cond (f := z_aload 0 29) rfl rfl
theorem s96_29 {ls : List Value}  : ZW zG d 96 29 ls (st) z Q = ZW zG d 96 30 ls ((.int (nI 0)) :: st) z Q := zw_push rfl
theorem s96_30 {ls : List Value} {a : Int32} {r : Nat} : ZW zG d 96 30 ls (.int a :: .ref r :: st) z Q = ((zcls z r = 10) ∧ ZW zG d 96 33 ls (st) (sfi z r 4 a) Q) := zw_putI rfl
theorem s96_33 {ls : List Value}  : ZW zG d 96 33 ls ([]) z Q = Q (.inl none) z := zw_ret rfl
/-- X10_owed ()V -/
theorem e97 {r0 : Nat} : ZC zG d 97 [.ref r0] z Q = ZW zG d 97 0 [.ref r0, zdum] [] z Q := rfl
theorem s97_0 {ls : List Value}  : ZW zG d 97 0 ls (st) z Q = ZW zG d 97 1 ls ((.int (nI 0)) :: st) z Q := zw_push rfl
theorem s97_1 {x0 x1 : Value} {a : Int32} : ZW zG d 97 1 [x0, x1] (.int a :: st) z Q = ZW zG d 97 2 [zclr x0, .int a] st z Q := zw_next (f := z_istore 1 2) rfl rfl
theorem s97_2 {x0 : Value} {a : Int32} : ZW zG d 97 2 [x0, .int a] st z Q = ZW zG d 97 3 [x0, .int a] (.int a :: st) z Q := zw_next (f := z_iload 1 3) rfl rfl
theorem s97_3 {x0 x1 : Value} : ZW zG d 97 3 [x0, x1] st z Q = (zir x0 = true ∧ ZW zG d 97 4 [x0, x1] (x0 :: st) z Q) := zw_cond (f := z_aload 0 4) rfl rfl
theorem s97_4 {ls : List Value} {r : Nat} : ZW zG d 97 4 ls (.ref r :: st) z Q = ((zcls z r = 10 ∧ zir (zfr z r 11) = true) ∧ ZW zG d 97 7 ls (zfr z r 11 :: st) (z) Q) := zw_getR rfl
theorem s97_7 {ls : List Value} {r : Nat} : ZW zG d 97 7 ls (.ref r :: st) z Q = ((zcls z r = 0 ∧ zir (zfr z r 1) = true) ∧ ZW zG d 97 10 ls (zfr z r 1 :: st) (z) Q) := zw_getR rfl
theorem s97_10 {ls : List Value} {r : Nat} : ZW zG d 97 10 ls (.ref r :: st) z Q = ((zcls z r = 1 ∧ zir (zfr z r 0) = true) ∧ ZW zG d 97 13 ls (zfr z r 0 :: st) (z) Q) := zw_getR rfl
theorem s97_13 {ls : List Value}  {r : Nat} : ZW zG (d + 1) 97 13 ls (.ref r :: st) z Q = (zcls z r = 2 ∧ zcs st = true ∧ ZC zG d 63 [.ref r] z (zk zG (d + 1) 97 (none) 16 ls st Q)) := zc_V0 rfl (Nat.le_of_ble_eq_true rfl)
theorem s97_16 {ls : List Value} {a b : Int32} : ZW zG d 97 16 ls (.int b :: .int a :: st) z Q = if b ≤ a then ZW zG d 97 79 ls st z Q else ZW zG d 97 19 ls st z Q := zw_icge rfl
theorem s97_19 {x0 x1 : Value} : ZW zG d 97 19 [x0, x1] st z Q = (zir x0 = true ∧ ZW zG d 97 20 [x0, x1] (x0 :: st) z Q) := zw_cond (f := z_aload 0 20) rfl rfl
theorem s97_20 {ls : List Value} {r : Nat} : ZW zG d 97 20 ls (.ref r :: st) z Q = ((zcls z r = 10) ∧ ZW zG d 97 23 ls (.int (zfi z r 4) :: st) (z) Q) := zw_getI rfl
theorem s97_23 {ls : List Value}  : ZW zG d 97 23 ls (st) z Q = ZW zG d 97 25 ls ((.int (nI 10)) :: st) z Q := zw_push rfl
theorem s97_25 {ls : List Value} {a b : Int32} : ZW zG d 97 25 ls (.int b :: .int a :: st) z Q = if b ≤ a then ZW zG d 97 79 ls st z Q else ZW zG d 97 28 ls st z Q := zw_icge rfl
theorem s97_28 {x0 x1 : Value} : ZW zG d 97 28 [x0, x1] st z Q = (zir x0 = true ∧ ZW zG d 97 29 [x0, x1] (x0 :: st) z Q) := zw_cond (f := z_aload 0 29) rfl rfl
theorem s97_29 {ls : List Value} {r : Nat} : ZW zG d 97 29 ls (.ref r :: st) z Q = ((zcls z r = 10 ∧ zir (zfr z r 11) = true) ∧ ZW zG d 97 32 ls (zfr z r 11 :: st) (z) Q) := zw_getR rfl
theorem s97_32 {ls : List Value} {r : Nat} : ZW zG d 97 32 ls (.ref r :: st) z Q = ((zcls z r = 0 ∧ zir (zfr z r 1) = true) ∧ ZW zG d 97 35 ls (zfr z r 1 :: st) (z) Q) := zw_getR rfl
theorem s97_35 {ls : List Value} {r : Nat} : ZW zG d 97 35 ls (.ref r :: st) z Q = ((zcls z r = 1 ∧ zir (zfr z r 1) = true) ∧ ZW zG d 97 38 ls (zfr z r 1 :: st) (z) Q) := zw_getR rfl
theorem s97_38 {x0 x1 : Value} : ZW zG d 97 38 [x0, x1] st z Q = (zir x0 = true ∧ ZW zG d 97 39 [x0, x1] (x0 :: st) z Q) := zw_cond (f := z_aload 0 39) rfl rfl
theorem s97_39 {ls : List Value} {r : Nat} : ZW zG d 97 39 ls (.ref r :: st) z Q = ((zcls z r = 10) ∧ ZW zG d 97 42 ls (.int (zfi z r 10) :: st) (z) Q) := zw_getI rfl
theorem s97_42 {x0 : Value} {a : Int32} : ZW zG d 97 42 [x0, .int a] st z Q = ZW zG d 97 43 [x0, .int a] (.int a :: st) z Q := zw_next (f := z_iload 1 43) rfl rfl
theorem s97_43 {ls : List Value} {w0 : Int32} {w1 : Int32} {r : Nat} : ZW zG (d + 1) 97 43 ls (.int w1 :: .int w0 :: .ref r :: st) z Q = (zcls z r = 3 ∧ zcs st = true ∧ ZC zG d 75 [.ref r, .int w0, .int w1] z (zk zG (d + 1) 97 (none) 46 ls st Q)) := zc_V2 rfl (Nat.le_of_ble_eq_true rfl)
theorem s97_46 {ls : List Value}  : ZW zG d 97 46 ls (st) z Q = ZW zG d 97 47 ls ((.int (-1)) :: st) z Q := zw_push rfl
theorem s97_47 {ls : List Value} {a b : Int32} : ZW zG d 97 47 ls (.int b :: .int a :: st) z Q = if ¬ a = b then ZW zG d 97 53 ls st z Q else ZW zG d 97 50 ls st z Q := zw_icne rfl
theorem s97_50 {ls : List Value}  : ZW zG d 97 50 ls (st) z Q = ZW zG d 97 73 ls st z Q := zw_goto rfl
theorem s97_53 {x0 x1 : Value} : ZW zG d 97 53 [x0, x1] st z Q = (zir x0 = true ∧ ZW zG d 97 54 [x0, x1] (x0 :: st) z Q) := zw_cond (f := z_aload 0 54) rfl rfl
theorem s97_54 {ls : List Value} {r : Nat} : ZW zG d 97 54 ls (.ref r :: st) z Q = ((zcls z r = 10 ∧ zir (zfr z r 0) = true) ∧ ZW zG d 97 57 ls (zfr z r 0 :: st) (z) Q) := zw_getR rfl
theorem s97_57 {x0 x1 : Value} : ZW zG d 97 57 [x0, x1] st z Q = (zir x0 = true ∧ ZW zG d 97 58 [x0, x1] (x0 :: st) z Q) := zw_cond (f := z_aload 0 58) rfl rfl
theorem s97_58 {ls : List Value} {r : Nat} : ZW zG d 97 58 ls (.ref r :: st) z Q = ((zcls z r = 10) ∧ ZW zG d 97 61 ls (.int (zfi z r 4) :: st) (z) Q) := zw_getI rfl
theorem s97_61 {x0 : Value} {a : Int32} : ZW zG d 97 61 [x0, .int a] st z Q = ZW zG d 97 62 [x0, .int a] (.int a :: st) z Q := zw_next (f := z_iload 1 62) rfl rfl
theorem s97_62 {ls : List Value} {a b : Int32} {r : Nat} : ZW zG d 97 62 ls (.int b :: .int a :: .ref r :: st) z Q = ((zcls z r = 50 ∧ zin a (zlen z r) = true) ∧ ZW zG d 97 63 ls (st) (sia z r (zx a) (znar 50 b)) Q) := zw_iast rfl
theorem s97_63 {x0 x1 : Value} : ZW zG d 97 63 [x0, x1] st z Q = (zir x0 = true ∧ ZW zG d 97 64 [x0, x1] (x0 :: st) z Q) := zw_cond (f := z_aload 0 64) rfl rfl
theorem s97_64 {ls : List Value} {r : Nat} : ZW zG d 97 64 ls (.ref r :: st) z Q = ZW zG d 97 65 ls (.ref r :: .ref r :: st) z Q := zw_dupr rfl
theorem s97_65 {ls : List Value} {r : Nat} : ZW zG d 97 65 ls (.ref r :: st) z Q = ((zcls z r = 10) ∧ ZW zG d 97 68 ls (.int (zfi z r 4) :: st) (z) Q) := zw_getI rfl
theorem s97_68 {ls : List Value}  : ZW zG d 97 68 ls (st) z Q = ZW zG d 97 69 ls ((.int (nI 1)) :: st) z Q := zw_push rfl
theorem s97_69 {ls : List Value} {a b : Int32} : ZW zG d 97 69 ls (.int b :: .int a :: st) z Q = ZW zG d 97 70 ls (.int (a + b) :: st) z Q := zw_iadd rfl
theorem s97_70 {ls : List Value} {a : Int32} {r : Nat} : ZW zG d 97 70 ls (.int a :: .ref r :: st) z Q = ((zcls z r = 10) ∧ ZW zG d 97 73 ls (st) (sfi z r 4 a) Q) := zw_putI rfl
theorem s97_73 {x0 : Value} {a : Int32} : ZW zG d 97 73 [x0, .int a] st z Q = ZW zG d 97 76 [zclr x0, .int (a + (nI 1))] st z Q := zw_next (f := z_iinc 1 (nI 1) 76) rfl rfl
theorem s97_76 {ls : List Value}  : ZW zG d 97 76 ls (st) z Q = ZW zG d 97 2 ls st z Q := zw_goto rfl
theorem s97_79 {ls : List Value}  : ZW zG d 97 79 ls ([]) z Q = Q (.inl none) z := zw_ret rfl
/-- X10_goes ()V -/
theorem e98 {r0 : Nat} : ZC zG d 98 [.ref r0] z Q = ZW zG d 98 0 [.ref r0, zdum, zdum, zdum, zdum, zdum] [] z Q := rfl
theorem s98_0 {ls : List Value}  : ZW zG d 98 0 ls (st) z Q = ZW zG d 98 1 ls ((.int (nI 0)) :: st) z Q := zw_push rfl
theorem s98_1 {x0 x1 x2 x3 x4 x5 : Value} {a : Int32} : ZW zG d 98 1 [x0, x1, x2, x3, x4, x5] (.int a :: st) z Q = ZW zG d 98 2 [zclr x0, .int a, x2, x3, x4, x5] st z Q := zw_next (f := z_istore 1 2) rfl rfl
theorem s98_2 {x0 x2 x3 x4 x5 : Value} {a : Int32} : ZW zG d 98 2 [x0, .int a, x2, x3, x4, x5] st z Q = ZW zG d 98 3 [x0, .int a, x2, x3, x4, x5] (.int a :: st) z Q := zw_next (f := z_iload 1 3) rfl rfl
theorem s98_3 {ls : List Value}  : ZW zG d 98 3 ls (st) z Q = ZW zG d 98 4 ls ((.int (nI 1)) :: st) z Q := zw_push rfl
theorem s98_4 {x0 x1 x2 x3 x4 x5 : Value} : ZW zG d 98 4 [x0, x1, x2, x3, x4, x5] st z Q = (zir x0 = true ∧ ZW zG d 98 5 [x0, x1, x2, x3, x4, x5] (x0 :: st) z Q) := zw_cond (f := z_aload 0 5) rfl rfl
theorem s98_5 {ls : List Value} {r : Nat} : ZW zG d 98 5 ls (.ref r :: st) z Q = ((zcls z r = 10) ∧ ZW zG d 98 8 ls (.int (zfi z r 4) :: st) (z) Q) := zw_getI rfl
theorem s98_8 {ls : List Value} {a b : Int32} : ZW zG d 98 8 ls (.int b :: .int a :: st) z Q = ZW zG d 98 9 ls (.int (a <<< (b &&& 31)) :: st) z Q := zw_ishl rfl
theorem s98_9 {ls : List Value} {a b : Int32} : ZW zG d 98 9 ls (.int b :: .int a :: st) z Q = if b ≤ a then ZW zG d 98 47 ls st z Q else ZW zG d 98 12 ls st z Q := zw_icge rfl
theorem s98_12 {ls : List Value}  : ZW zG d 98 12 ls (st) z Q = ZW zG d 98 13 ls ((.int (nI 0)) :: st) z Q := zw_push rfl
theorem s98_13 {x0 x1 x2 x3 x4 x5 : Value} {a : Int32} : ZW zG d 98 13 [x0, x1, x2, x3, x4, x5] (.int a :: st) z Q = ZW zG d 98 14 [x0, zclr x1, .int a, x3, x4, x5] st z Q := zw_next (f := z_istore 2 14) rfl rfl
theorem s98_14 {x0 x1 x3 x4 x5 : Value} {a : Int32} : ZW zG d 98 14 [x0, x1, .int a, x3, x4, x5] st z Q = ZW zG d 98 15 [x0, x1, .int a, x3, x4, x5] (.int a :: st) z Q := zw_next (f := z_iload 2 15) rfl rfl
theorem s98_15 {x0 x1 x2 x3 x4 x5 : Value} : ZW zG d 98 15 [x0, x1, x2, x3, x4, x5] st z Q = (zir x0 = true ∧ ZW zG d 98 16 [x0, x1, x2, x3, x4, x5] (x0 :: st) z Q) := zw_cond (f := z_aload 0 16) rfl rfl
theorem s98_16 {ls : List Value} {r : Nat} : ZW zG d 98 16 ls (.ref r :: st) z Q = ((zcls z r = 10) ∧ ZW zG d 98 19 ls (.int (zfi z r 4) :: st) (z) Q) := zw_getI rfl
theorem s98_19 {ls : List Value} {a b : Int32} : ZW zG d 98 19 ls (.int b :: .int a :: st) z Q = if b ≤ a then ZW zG d 98 41 ls st z Q else ZW zG d 98 22 ls st z Q := zw_icge rfl
theorem s98_22 {x0 x1 x2 x3 x4 x5 : Value} : ZW zG d 98 22 [x0, x1, x2, x3, x4, x5] st z Q = (zir x0 = true ∧ ZW zG d 98 23 [x0, x1, x2, x3, x4, x5] (x0 :: st) z Q) := zw_cond (f := z_aload 0 23) rfl rfl
theorem s98_23 {ls : List Value} {r : Nat} : ZW zG d 98 23 ls (.ref r :: st) z Q = ((zcls z r = 10 ∧ zir (zfr z r 1) = true) ∧ ZW zG d 98 26 ls (zfr z r 1 :: st) (z) Q) := zw_getR rfl
theorem s98_26 {ls : List Value}  : ZW zG d 98 26 ls (st) z Q = ZW zG d 98 28 ls ((.int (nI 10)) :: st) z Q := zw_push rfl
theorem s98_28 {x0 x2 x3 x4 x5 : Value} {a : Int32} : ZW zG d 98 28 [x0, .int a, x2, x3, x4, x5] st z Q = ZW zG d 98 29 [x0, .int a, x2, x3, x4, x5] (.int a :: st) z Q := zw_next (f := z_iload 1 29) rfl rfl
theorem s98_29 {ls : List Value} {a b : Int32} : ZW zG d 98 29 ls (.int b :: .int a :: st) z Q = ZW zG d 98 30 ls (.int (a * b) :: st) z Q := zw_imul rfl
theorem s98_30 {x0 x1 x3 x4 x5 : Value} {a : Int32} : ZW zG d 98 30 [x0, x1, .int a, x3, x4, x5] st z Q = ZW zG d 98 31 [x0, x1, .int a, x3, x4, x5] (.int a :: st) z Q := zw_next (f := z_iload 2 31) rfl rfl
theorem s98_31 {ls : List Value} {a b : Int32} : ZW zG d 98 31 ls (.int b :: .int a :: st) z Q = ZW zG d 98 32 ls (.int (a + b) :: st) z Q := zw_iadd rfl
theorem s98_32 {ls : List Value}  : ZW zG d 98 32 ls (st) z Q = ZW zG d 98 34 ls ((.int (nI 100000)) :: st) z Q := zw_push rfl
theorem s98_34 {ls : List Value} {a b : Int32} {r : Nat} : ZW zG d 98 34 ls (.int b :: .int a :: .ref r :: st) z Q = ((zcls z r = 50 ∧ zin a (zlen z r) = true) ∧ ZW zG d 98 35 ls (st) (sia z r (zx a) (znar 50 b)) Q) := zw_iast rfl
theorem s98_35 {x0 x1 x3 x4 x5 : Value} {a : Int32} : ZW zG d 98 35 [x0, x1, .int a, x3, x4, x5] st z Q = ZW zG d 98 38 [x0, zclr x1, .int (a + (nI 1)), x3, x4, x5] st z Q := zw_next (f := z_iinc 2 (nI 1) 38) rfl rfl
theorem s98_38 {ls : List Value}  : ZW zG d 98 38 ls (st) z Q = ZW zG d 98 14 ls st z Q := zw_goto rfl
theorem s98_41 {x0 x2 x3 x4 x5 : Value} {a : Int32} : ZW zG d 98 41 [x0, .int a, x2, x3, x4, x5] st z Q = ZW zG d 98 44 [zclr x0, .int (a + (nI 1)), x2, x3, x4, x5] st z Q := zw_next (f := z_iinc 1 (nI 1) 44) rfl rfl
theorem s98_44 {ls : List Value}  : ZW zG d 98 44 ls (st) z Q = ZW zG d 98 2 ls st z Q := zw_goto rfl
theorem s98_47 {ls : List Value}  : ZW zG d 98 47 ls (st) z Q = ZW zG d 98 48 ls ((.int (nI 0)) :: st) z Q := zw_push rfl
theorem s98_48 {x0 x1 x2 x3 x4 x5 : Value} {a : Int32} : ZW zG d 98 48 [x0, x1, x2, x3, x4, x5] (.int a :: st) z Q = ZW zG d 98 49 [zclr x0, .int a, x2, x3, x4, x5] st z Q := zw_next (f := z_istore 1 49) rfl rfl
theorem s98_49 {x0 x2 x3 x4 x5 : Value} {a : Int32} : ZW zG d 98 49 [x0, .int a, x2, x3, x4, x5] st z Q = ZW zG d 98 50 [x0, .int a, x2, x3, x4, x5] (.int a :: st) z Q := zw_next (f := z_iload 1 50) rfl rfl
theorem s98_50 {x0 x1 x2 x3 x4 x5 : Value} : ZW zG d 98 50 [x0, x1, x2, x3, x4, x5] st z Q = (zir x0 = true ∧ ZW zG d 98 51 [x0, x1, x2, x3, x4, x5] (x0 :: st) z Q) := zw_cond (f := z_aload 0 51) rfl rfl
theorem s98_51 {ls : List Value} {r : Nat} : ZW zG d 98 51 ls (.ref r :: st) z Q = ((zcls z r = 10) ∧ ZW zG d 98 54 ls (.int (zfi z r 4) :: st) (z) Q) := zw_getI rfl
theorem s98_54 {ls : List Value} {a b : Int32} : ZW zG d 98 54 ls (.int b :: .int a :: st) z Q = if b ≤ a then ZW zG d 98 99 ls st z Q else ZW zG d 98 57 ls st z Q := zw_icge rfl
theorem s98_57 {x0 x1 x2 x3 x4 x5 : Value} : ZW zG d 98 57 [x0, x1, x2, x3, x4, x5] st z Q = (zir x0 = true ∧ ZW zG d 98 58 [x0, x1, x2, x3, x4, x5] (x0 :: st) z Q) := zw_cond (f := z_aload 0 58) rfl rfl
theorem s98_58 {ls : List Value} {r : Nat} : ZW zG d 98 58 ls (.ref r :: st) z Q = ((zcls z r = 10 ∧ zir (zfr z r 1) = true) ∧ ZW zG d 98 61 ls (zfr z r 1 :: st) (z) Q) := zw_getR rfl
theorem s98_61 {ls : List Value}  : ZW zG d 98 61 ls (st) z Q = ZW zG d 98 63 ls ((.int (nI 10)) :: st) z Q := zw_push rfl
theorem s98_63 {ls : List Value}  : ZW zG d 98 63 ls (st) z Q = ZW zG d 98 64 ls ((.int (nI 1)) :: st) z Q := zw_push rfl
theorem s98_64 {x0 x2 x3 x4 x5 : Value} {a : Int32} : ZW zG d 98 64 [x0, .int a, x2, x3, x4, x5] st z Q = ZW zG d 98 65 [x0, .int a, x2, x3, x4, x5] (.int a :: st) z Q := zw_next (f := z_iload 1 65) rfl rfl
theorem s98_65 {ls : List Value} {a b : Int32} : ZW zG d 98 65 ls (.int b :: .int a :: st) z Q = ZW zG d 98 66 ls (.int (a <<< (b &&& 31)) :: st) z Q := zw_ishl rfl
theorem s98_66 {ls : List Value} {a b : Int32} : ZW zG d 98 66 ls (.int b :: .int a :: st) z Q = ZW zG d 98 67 ls (.int (a * b) :: st) z Q := zw_imul rfl
theorem s98_67 {x0 x2 x3 x4 x5 : Value} {a : Int32} : ZW zG d 98 67 [x0, .int a, x2, x3, x4, x5] st z Q = ZW zG d 98 68 [x0, .int a, x2, x3, x4, x5] (.int a :: st) z Q := zw_next (f := z_iload 1 68) rfl rfl
theorem s98_68 {ls : List Value} {a b : Int32} : ZW zG d 98 68 ls (.int b :: .int a :: st) z Q = ZW zG d 98 69 ls (.int (a + b) :: st) z Q := zw_iadd rfl
theorem s98_69 {x0 x1 x2 x3 x4 x5 : Value} : ZW zG d 98 69 [x0, x1, x2, x3, x4, x5] st z Q = (zir x0 = true ∧ ZW zG d 98 70 [x0, x1, x2, x3, x4, x5] (x0 :: st) z Q) := zw_cond (f := z_aload 0 70) rfl rfl
theorem s98_70 {ls : List Value}  : ZW zG d 98 70 ls (st) z Q = ZW zG d 98 71 ls ((.int (nI 0)) :: st) z Q := zw_push rfl
theorem s98_71 {x0 x1 x2 x3 x4 x5 : Value} : ZW zG d 98 71 [x0, x1, x2, x3, x4, x5] st z Q = (zir x0 = true ∧ ZW zG d 98 72 [x0, x1, x2, x3, x4, x5] (x0 :: st) z Q) := zw_cond (f := z_aload 0 72) rfl rfl
theorem s98_72 {ls : List Value} {r : Nat} : ZW zG d 98 72 ls (.ref r :: st) z Q = ((zcls z r = 10 ∧ zir (zfr z r 9) = true) ∧ ZW zG d 98 75 ls (zfr z r 9 :: st) (z) Q) := zw_getR rfl
theorem s98_75 {x0 x1 x2 x3 x4 x5 : Value} : ZW zG d 98 75 [x0, x1, x2, x3, x4, x5] st z Q = (zir x0 = true ∧ ZW zG d 98 76 [x0, x1, x2, x3, x4, x5] (x0 :: st) z Q) := zw_cond (f := z_aload 0 76) rfl rfl
theorem s98_76 {x0 x2 x3 x4 x5 : Value} {a : Int32} : ZW zG d 98 76 [x0, .int a, x2, x3, x4, x5] st z Q = ZW zG d 98 77 [x0, .int a, x2, x3, x4, x5] (.int a :: st) z Q := zw_next (f := z_iload 1 77) rfl rfl
theorem s98_77 {ls : List Value} {w0 : Int32} {r : Nat} : ZW zG (d + 1) 98 77 ls (.int w0 :: .ref r :: st) z Q = (zcls z r = 10 ∧ zcs st = true ∧ ZC zG d 99 [.ref r, .int w0] z (zk zG (d + 1) 98 (none) 80 ls st Q)) := zc_V1 rfl (Nat.le_of_ble_eq_true rfl)
theorem s98_80 {ls : List Value} {w0 : Nat} {r : Nat} : ZW zG (d + 1) 98 80 ls (.ref w0 :: .ref r :: st) z Q = (zcls z r = 21 ∧ zcs st = true ∧ ZC zG d 248 [.ref r, .ref w0] z (zk zG (d + 1) 98 (none) 83 ls st Q)) := zc_V1 rfl (Nat.le_of_ble_eq_true rfl)
theorem s98_83 {x0 x1 x2 x3 x4 x5 : Value} : ZW zG d 98 83 [x0, x1, x2, x3, x4, x5] st z Q = (zir x0 = true ∧ ZW zG d 98 84 [x0, x1, x2, x3, x4, x5] (x0 :: st) z Q) := zw_cond (f := z_aload 0 84) rfl rfl
theorem s98_84 {ls : List Value} {r : Nat} : ZW zG d 98 84 ls (.ref r :: st) z Q = ((zcls z r = 10 ∧ zir (zfr z r 0) = true) ∧ ZW zG d 98 87 ls (zfr z r 0 :: st) (z) Q) := zw_getR rfl
theorem s98_87 {x0 x2 x3 x4 x5 : Value} {a : Int32} : ZW zG d 98 87 [x0, .int a, x2, x3, x4, x5] st z Q = ZW zG d 98 88 [x0, .int a, x2, x3, x4, x5] (.int a :: st) z Q := zw_next (f := z_iload 1 88) rfl rfl
theorem s98_88 {ls : List Value} {a : Int32} {r : Nat} : ZW zG d 98 88 ls (.int a :: .ref r :: st) z Q = ((zcls z r = 50 ∧ zin a (zlen z r) = true) ∧ ZW zG d 98 89 ls (.int (zia z r (zx a)) :: st) (z) Q) := zw_iald rfl
theorem s98_89 {ls : List Value} {w0 : Int32} {w1 : Int32} {w2 : Int32} {r : Nat} : ZW zG (d + 1) 98 89 ls (.int w2 :: .int w1 :: .int w0 :: .ref r :: st) z Q = (zcls z r = 10 ∧ zcs st = true ∧ ZC zG d 100 [.ref r, .int w0, .int w1, .int w2] z (zk zG (d + 1) 98 (none) 92 ls st Q)) := zc_V3 rfl (Nat.le_of_ble_eq_true rfl)
theorem s98_92 {ls : List Value} {a b : Int32} {r : Nat} : ZW zG d 98 92 ls (.int b :: .int a :: .ref r :: st) z Q = ((zcls z r = 50 ∧ zin a (zlen z r) = true) ∧ ZW zG d 98 93 ls (st) (sia z r (zx a) (znar 50 b)) Q) := zw_iast rfl
theorem s98_93 {x0 x2 x3 x4 x5 : Value} {a : Int32} : ZW zG d 98 93 [x0, .int a, x2, x3, x4, x5] st z Q = ZW zG d 98 96 [zclr x0, .int (a + (nI 1)), x2, x3, x4, x5] st z Q := zw_next (f := z_iinc 1 (nI 1) 96) rfl rfl
theorem s98_96 {ls : List Value}  : ZW zG d 98 96 ls (st) z Q = ZW zG d 98 49 ls st z Q := zw_goto rfl
theorem s98_99 {ls : List Value}  : ZW zG d 98 99 ls (st) z Q = ZW zG d 98 100 ls ((.int (nI 1)) :: st) z Q := zw_push rfl
theorem s98_100 {x0 x1 x2 x3 x4 x5 : Value} {a : Int32} : ZW zG d 98 100 [x0, x1, x2, x3, x4, x5] (.int a :: st) z Q = ZW zG d 98 101 [zclr x0, .int a, x2, x3, x4, x5] st z Q := zw_next (f := z_istore 1 101) rfl rfl
theorem s98_101 {x0 x2 x3 x4 x5 : Value} {a : Int32} : ZW zG d 98 101 [x0, .int a, x2, x3, x4, x5] st z Q = ZW zG d 98 102 [x0, .int a, x2, x3, x4, x5] (.int a :: st) z Q := zw_next (f := z_iload 1 102) rfl rfl
theorem s98_102 {ls : List Value}  : ZW zG d 98 102 ls (st) z Q = ZW zG d 98 103 ls ((.int (nI 1)) :: st) z Q := zw_push rfl
theorem s98_103 {x0 x1 x2 x3 x4 x5 : Value} : ZW zG d 98 103 [x0, x1, x2, x3, x4, x5] st z Q = (zir x0 = true ∧ ZW zG d 98 104 [x0, x1, x2, x3, x4, x5] (x0 :: st) z Q) := zw_cond (f := z_aload 0 104) rfl rfl
theorem s98_104 {ls : List Value} {r : Nat} : ZW zG d 98 104 ls (.ref r :: st) z Q = ((zcls z r = 10) ∧ ZW zG d 98 107 ls (.int (zfi z r 4) :: st) (z) Q) := zw_getI rfl
theorem s98_107 {ls : List Value} {a b : Int32} : ZW zG d 98 107 ls (.int b :: .int a :: st) z Q = ZW zG d 98 108 ls (.int (a <<< (b &&& 31)) :: st) z Q := zw_ishl rfl
theorem s98_108 {ls : List Value} {a b : Int32} : ZW zG d 98 108 ls (.int b :: .int a :: st) z Q = if b ≤ a then ZW zG d 98 241 ls st z Q else ZW zG d 98 111 ls st z Q := zw_icge rfl
theorem s98_111 {ls : List Value}  : ZW zG d 98 111 ls (st) z Q = ZW zG d 98 112 ls ((.int (nI 0)) :: st) z Q := zw_push rfl
theorem s98_112 {x0 x1 x2 x3 x4 x5 : Value} {a : Int32} : ZW zG d 98 112 [x0, x1, x2, x3, x4, x5] (.int a :: st) z Q = ZW zG d 98 113 [x0, zclr x1, .int a, x3, x4, x5] st z Q := zw_next (f := z_istore 2 113) rfl rfl
theorem s98_113 {x0 x1 x3 x4 x5 : Value} {a : Int32} : ZW zG d 98 113 [x0, x1, .int a, x3, x4, x5] st z Q = ZW zG d 98 114 [x0, x1, .int a, x3, x4, x5] (.int a :: st) z Q := zw_next (f := z_iload 2 114) rfl rfl
theorem s98_114 {x0 x1 x2 x3 x4 x5 : Value} : ZW zG d 98 114 [x0, x1, x2, x3, x4, x5] st z Q = (zir x0 = true ∧ ZW zG d 98 115 [x0, x1, x2, x3, x4, x5] (x0 :: st) z Q) := zw_cond (f := z_aload 0 115) rfl rfl
theorem s98_115 {ls : List Value} {r : Nat} : ZW zG d 98 115 ls (.ref r :: st) z Q = ((zcls z r = 10) ∧ ZW zG d 98 118 ls (.int (zfi z r 4) :: st) (z) Q) := zw_getI rfl
theorem s98_118 {ls : List Value} {a b : Int32} : ZW zG d 98 118 ls (.int b :: .int a :: st) z Q = if b ≤ a then ZW zG d 98 235 ls st z Q else ZW zG d 98 121 ls st z Q := zw_icge rfl
theorem s98_121 {x0 x1 x2 x3 x4 x5 : Value} : ZW zG d 98 121 [x0, x1, x2, x3, x4, x5] st z Q = (zir x0 = true ∧ ZW zG d 98 122 [x0, x1, x2, x3, x4, x5] (x0 :: st) z Q) := zw_cond (f := z_aload 0 122) rfl rfl
theorem s98_122 {ls : List Value} {r : Nat} : ZW zG d 98 122 ls (.ref r :: st) z Q = ((zcls z r = 10 ∧ zir (zfr z r 1) = true) ∧ ZW zG d 98 125 ls (zfr z r 1 :: st) (z) Q) := zw_getR rfl
theorem s98_125 {ls : List Value}  : ZW zG d 98 125 ls (st) z Q = ZW zG d 98 127 ls ((.int (nI 10)) :: st) z Q := zw_push rfl
theorem s98_127 {x0 x2 x3 x4 x5 : Value} {a : Int32} : ZW zG d 98 127 [x0, .int a, x2, x3, x4, x5] st z Q = ZW zG d 98 128 [x0, .int a, x2, x3, x4, x5] (.int a :: st) z Q := zw_next (f := z_iload 1 128) rfl rfl
theorem s98_128 {ls : List Value} {a b : Int32} : ZW zG d 98 128 ls (.int b :: .int a :: st) z Q = ZW zG d 98 129 ls (.int (a * b) :: st) z Q := zw_imul rfl
theorem s98_129 {x0 x1 x3 x4 x5 : Value} {a : Int32} : ZW zG d 98 129 [x0, x1, .int a, x3, x4, x5] st z Q = ZW zG d 98 130 [x0, x1, .int a, x3, x4, x5] (.int a :: st) z Q := zw_next (f := z_iload 2 130) rfl rfl
theorem s98_130 {ls : List Value} {a b : Int32} : ZW zG d 98 130 ls (.int b :: .int a :: st) z Q = ZW zG d 98 131 ls (.int (a + b) :: st) z Q := zw_iadd rfl
theorem s98_131 {ls : List Value} {a : Int32} {r : Nat} : ZW zG d 98 131 ls (.int a :: .ref r :: st) z Q = ((zcls z r = 50 ∧ zin a (zlen z r) = true) ∧ ZW zG d 98 132 ls (.int (zia z r (zx a)) :: st) (z) Q) := zw_iald rfl
theorem s98_132 {x0 x1 x2 x3 x4 x5 : Value} {a : Int32} : ZW zG d 98 132 [x0, x1, x2, x3, x4, x5] (.int a :: st) z Q = ZW zG d 98 133 [x0, x1, zclr x2, .int a, x4, x5] st z Q := zw_next (f := z_istore 3 133) rfl rfl
theorem s98_133 {x0 x1 x2 x4 x5 : Value} {a : Int32} : ZW zG d 98 133 [x0, x1, x2, .int a, x4, x5] st z Q = ZW zG d 98 134 [x0, x1, x2, .int a, x4, x5] (.int a :: st) z Q := zw_next (f := z_iload 3 134) rfl rfl
theorem s98_134 {ls : List Value}  : ZW zG d 98 134 ls (st) z Q = ZW zG d 98 136 ls ((.int (nI 100000)) :: st) z Q := zw_push rfl
theorem s98_136 {ls : List Value} {a b : Int32} : ZW zG d 98 136 ls (.int b :: .int a :: st) z Q = if ¬ a = b then ZW zG d 98 142 ls st z Q else ZW zG d 98 139 ls st z Q := zw_icne rfl
theorem s98_139 {ls : List Value}  : ZW zG d 98 139 ls (st) z Q = ZW zG d 98 229 ls st z Q := zw_goto rfl
theorem s98_142 {ls : List Value}  : ZW zG d 98 142 ls (st) z Q = ZW zG d 98 143 ls ((.int (nI 0)) :: st) z Q := zw_push rfl
theorem s98_143 {x0 x1 x2 x3 x4 x5 : Value} {a : Int32} : ZW zG d 98 143 [x0, x1, x2, x3, x4, x5] (.int a :: st) z Q = ZW zG d 98 145 [x0, x1, x2, zclr x3, .int a, x5] st z Q := zw_next (f := z_istore 4 145) rfl rfl
theorem s98_145 {x0 x1 x2 x3 x5 : Value} {a : Int32} : ZW zG d 98 145 [x0, x1, x2, x3, .int a, x5] st z Q = ZW zG d 98 147 [x0, x1, x2, x3, .int a, x5] (.int a :: st) z Q := zw_next (f := z_iload 4 147) rfl rfl
theorem s98_147 {x0 x1 x2 x3 x4 x5 : Value} : ZW zG d 98 147 [x0, x1, x2, x3, x4, x5] st z Q = (zir x0 = true ∧ ZW zG d 98 148 [x0, x1, x2, x3, x4, x5] (x0 :: st) z Q) := zw_cond (f := z_aload 0 148) rfl rfl
theorem s98_148 {ls : List Value} {r : Nat} : ZW zG d 98 148 ls (.ref r :: st) z Q = ((zcls z r = 10) ∧ ZW zG d 98 151 ls (.int (zfi z r 4) :: st) (z) Q) := zw_getI rfl
theorem s98_151 {ls : List Value} {a b : Int32} : ZW zG d 98 151 ls (.int b :: .int a :: st) z Q = if b ≤ a then ZW zG d 98 229 ls st z Q else ZW zG d 98 154 ls st z Q := zw_icge rfl
theorem s98_154 {x0 x2 x3 x4 x5 : Value} {a : Int32} : ZW zG d 98 154 [x0, .int a, x2, x3, x4, x5] st z Q = ZW zG d 98 155 [x0, .int a, x2, x3, x4, x5] (.int a :: st) z Q := zw_next (f := z_iload 1 155) rfl rfl
theorem s98_155 {x0 x1 x2 x3 x5 : Value} {a : Int32} : ZW zG d 98 155 [x0, x1, x2, x3, .int a, x5] st z Q = ZW zG d 98 157 [x0, x1, x2, x3, .int a, x5] (.int a :: st) z Q := zw_next (f := z_iload 4 157) rfl rfl
theorem s98_157 {ls : List Value} {w0 : Int32} {w1 : Int32} : ZW zG (d + 1) 98 157 ls (.int w1 :: .int w0 :: st) z Q = (zcs st = true ∧ ZC zG d 18 [.int w0, .int w1] z (zk zG (d + 1) 98 (none) 160 ls st Q)) := zc_S2 rfl (Nat.le_of_ble_eq_true rfl)
theorem s98_160 {ls : List Value} {a : Int32} : ZW zG d 98 160 ls (.int a :: st) z Q = if a = 0 then ZW zG d 98 166 ls st z Q else ZW zG d 98 163 ls st z Q := zw_ifeq rfl
theorem s98_163 {ls : List Value}  : ZW zG d 98 163 ls (st) z Q = ZW zG d 98 223 ls st z Q := zw_goto rfl
theorem s98_166 {ls : List Value}  : ZW zG d 98 166 ls (st) z Q = ZW zG d 98 168 ls ((.int (nI 10)) :: st) z Q := zw_push rfl
theorem s98_168 {x0 x2 x3 x4 x5 : Value} {a : Int32} : ZW zG d 98 168 [x0, .int a, x2, x3, x4, x5] st z Q = ZW zG d 98 169 [x0, .int a, x2, x3, x4, x5] (.int a :: st) z Q := zw_next (f := z_iload 1 169) rfl rfl
theorem s98_169 {ls : List Value}  : ZW zG d 98 169 ls (st) z Q = ZW zG d 98 170 ls ((.int (nI 1)) :: st) z Q := zw_push rfl
theorem s98_170 {x0 x1 x2 x3 x5 : Value} {a : Int32} : ZW zG d 98 170 [x0, x1, x2, x3, .int a, x5] st z Q = ZW zG d 98 172 [x0, x1, x2, x3, .int a, x5] (.int a :: st) z Q := zw_next (f := z_iload 4 172) rfl rfl
theorem s98_172 {ls : List Value} {a b : Int32} : ZW zG d 98 172 ls (.int b :: .int a :: st) z Q = ZW zG d 98 173 ls (.int (a <<< (b &&& 31)) :: st) z Q := zw_ishl rfl
theorem s98_173 {ls : List Value} {a b : Int32} : ZW zG d 98 173 ls (.int b :: .int a :: st) z Q = ZW zG d 98 174 ls (.int (a ||| b) :: st) z Q := zw_ior rfl
theorem s98_174 {ls : List Value} {a b : Int32} : ZW zG d 98 174 ls (.int b :: .int a :: st) z Q = ZW zG d 98 175 ls (.int (a * b) :: st) z Q := zw_imul rfl
theorem s98_175 {x0 x1 x2 x3 x5 : Value} {a : Int32} : ZW zG d 98 175 [x0, x1, x2, x3, .int a, x5] st z Q = ZW zG d 98 177 [x0, x1, x2, x3, .int a, x5] (.int a :: st) z Q := zw_next (f := z_iload 4 177) rfl rfl
theorem s98_177 {ls : List Value} {a b : Int32} : ZW zG d 98 177 ls (.int b :: .int a :: st) z Q = ZW zG d 98 178 ls (.int (a + b) :: st) z Q := zw_iadd rfl
theorem s98_178 {x0 x1 x2 x3 x4 x5 : Value} {a : Int32} : ZW zG d 98 178 [x0, x1, x2, x3, x4, x5] (.int a :: st) z Q = ZW zG d 98 180 [x0, x1, x2, x3, zclr x4, .int a] st z Q := zw_next (f := z_istore 5 180) rfl rfl
theorem s98_180 {x0 x1 x2 x3 x4 x5 : Value} : ZW zG d 98 180 [x0, x1, x2, x3, x4, x5] st z Q = (zir x0 = true ∧ ZW zG d 98 181 [x0, x1, x2, x3, x4, x5] (x0 :: st) z Q) := zw_cond (f := z_aload 0 181) rfl rfl
theorem s98_181 {ls : List Value} {r : Nat} : ZW zG d 98 181 ls (.ref r :: st) z Q = ((zcls z r = 10 ∧ zir (zfr z r 1) = true) ∧ ZW zG d 98 184 ls (zfr z r 1 :: st) (z) Q) := zw_getR rfl
theorem s98_184 {x0 x1 x2 x3 x4 : Value} {a : Int32} : ZW zG d 98 184 [x0, x1, x2, x3, x4, .int a] st z Q = ZW zG d 98 186 [x0, x1, x2, x3, x4, .int a] (.int a :: st) z Q := zw_next (f := z_iload 5 186) rfl rfl
theorem s98_186 {x0 x1 x2 x3 x4 x5 : Value} : ZW zG d 98 186 [x0, x1, x2, x3, x4, x5] st z Q = (zir x0 = true ∧ ZW zG d 98 187 [x0, x1, x2, x3, x4, x5] (x0 :: st) z Q) := zw_cond (f := z_aload 0 187) rfl rfl
theorem s98_187 {ls : List Value} {r : Nat} : ZW zG d 98 187 ls (.ref r :: st) z Q = ((zcls z r = 10 ∧ zir (zfr z r 1) = true) ∧ ZW zG d 98 190 ls (zfr z r 1 :: st) (z) Q) := zw_getR rfl
theorem s98_190 {x0 x1 x2 x3 x4 : Value} {a : Int32} : ZW zG d 98 190 [x0, x1, x2, x3, x4, .int a] st z Q = ZW zG d 98 192 [x0, x1, x2, x3, x4, .int a] (.int a :: st) z Q := zw_next (f := z_iload 5 192) rfl rfl
theorem s98_192 {ls : List Value} {a : Int32} {r : Nat} : ZW zG d 98 192 ls (.int a :: .ref r :: st) z Q = ((zcls z r = 50 ∧ zin a (zlen z r) = true) ∧ ZW zG d 98 193 ls (.int (zia z r (zx a)) :: st) (z) Q) := zw_iald rfl
theorem s98_193 {x0 x1 x2 x3 x4 x5 : Value} : ZW zG d 98 193 [x0, x1, x2, x3, x4, x5] st z Q = (zir x0 = true ∧ ZW zG d 98 194 [x0, x1, x2, x3, x4, x5] (x0 :: st) z Q) := zw_cond (f := z_aload 0 194) rfl rfl
theorem s98_194 {x0 x1 x2 x4 x5 : Value} {a : Int32} : ZW zG d 98 194 [x0, x1, x2, .int a, x4, x5] st z Q = ZW zG d 98 195 [x0, x1, x2, .int a, x4, x5] (.int a :: st) z Q := zw_next (f := z_iload 3 195) rfl rfl
theorem s98_195 {x0 x1 x2 x3 x4 x5 : Value} : ZW zG d 98 195 [x0, x1, x2, x3, x4, x5] st z Q = (zir x0 = true ∧ ZW zG d 98 196 [x0, x1, x2, x3, x4, x5] (x0 :: st) z Q) := zw_cond (f := z_aload 0 196) rfl rfl
theorem s98_196 {x0 x1 x3 x4 x5 : Value} {a : Int32} : ZW zG d 98 196 [x0, x1, .int a, x3, x4, x5] st z Q = ZW zG d 98 197 [x0, x1, .int a, x3, x4, x5] (.int a :: st) z Q := zw_next (f := z_iload 2 197) rfl rfl
theorem s98_197 {ls : List Value} {w0 : Int32} {r : Nat} : ZW zG (d + 1) 98 197 ls (.int w0 :: .ref r :: st) z Q = (zcls z r = 10 ∧ zcs st = true ∧ ZC zG d 99 [.ref r, .int w0] z (zk zG (d + 1) 98 (none) 200 ls st Q)) := zc_V1 rfl (Nat.le_of_ble_eq_true rfl)
theorem s98_200 {x0 x1 x2 x3 x4 x5 : Value} : ZW zG d 98 200 [x0, x1, x2, x3, x4, x5] st z Q = (zir x0 = true ∧ ZW zG d 98 201 [x0, x1, x2, x3, x4, x5] (x0 :: st) z Q) := zw_cond (f := z_aload 0 201) rfl rfl
theorem s98_201 {x0 x1 x2 x3 x5 : Value} {a : Int32} : ZW zG d 98 201 [x0, x1, x2, x3, .int a, x5] st z Q = ZW zG d 98 203 [x0, x1, x2, x3, .int a, x5] (.int a :: st) z Q := zw_next (f := z_iload 4 203) rfl rfl
theorem s98_203 {ls : List Value} {w0 : Int32} {r : Nat} : ZW zG (d + 1) 98 203 ls (.int w0 :: .ref r :: st) z Q = (zcls z r = 10 ∧ zcs st = true ∧ ZC zG d 99 [.ref r, .int w0] z (zk zG (d + 1) 98 (none) 206 ls st Q)) := zc_V1 rfl (Nat.le_of_ble_eq_true rfl)
theorem s98_206 {ls : List Value} {w0 : Nat} {r : Nat} : ZW zG (d + 1) 98 206 ls (.ref w0 :: .ref r :: st) z Q = (zcls z r = 21 ∧ zcs st = true ∧ ZC zG d 248 [.ref r, .ref w0] z (zk zG (d + 1) 98 (none) 209 ls st Q)) := zc_V1 rfl (Nat.le_of_ble_eq_true rfl)
theorem s98_209 {x0 x1 x2 x3 x4 x5 : Value} : ZW zG d 98 209 [x0, x1, x2, x3, x4, x5] st z Q = (zir x0 = true ∧ ZW zG d 98 210 [x0, x1, x2, x3, x4, x5] (x0 :: st) z Q) := zw_cond (f := z_aload 0 210) rfl rfl
theorem s98_210 {ls : List Value} {r : Nat} : ZW zG d 98 210 ls (.ref r :: st) z Q = ((zcls z r = 10 ∧ zir (zfr z r 0) = true) ∧ ZW zG d 98 213 ls (zfr z r 0 :: st) (z) Q) := zw_getR rfl
theorem s98_213 {x0 x1 x2 x3 x5 : Value} {a : Int32} : ZW zG d 98 213 [x0, x1, x2, x3, .int a, x5] st z Q = ZW zG d 98 215 [x0, x1, x2, x3, .int a, x5] (.int a :: st) z Q := zw_next (f := z_iload 4 215) rfl rfl
theorem s98_215 {ls : List Value} {a : Int32} {r : Nat} : ZW zG d 98 215 ls (.int a :: .ref r :: st) z Q = ((zcls z r = 50 ∧ zin a (zlen z r) = true) ∧ ZW zG d 98 216 ls (.int (zia z r (zx a)) :: st) (z) Q) := zw_iald rfl
theorem s98_216 {ls : List Value} {w0 : Int32} {w1 : Int32} {w2 : Int32} {r : Nat} : ZW zG (d + 1) 98 216 ls (.int w2 :: .int w1 :: .int w0 :: .ref r :: st) z Q = (zcls z r = 10 ∧ zcs st = true ∧ ZC zG d 100 [.ref r, .int w0, .int w1, .int w2] z (zk zG (d + 1) 98 (none) 219 ls st Q)) := zc_V3 rfl (Nat.le_of_ble_eq_true rfl)
theorem s98_219 {ls : List Value} {a b : Int32} : ZW zG d 98 219 ls (.int b :: .int a :: st) z Q = ((zcs st = true) ∧ ZW zG d 98 222 ls (.int (zmin a b) :: st) (z) Q) := zw_mmin rfl
theorem s98_222 {ls : List Value} {a b : Int32} {r : Nat} : ZW zG d 98 222 ls (.int b :: .int a :: .ref r :: st) z Q = ((zcls z r = 50 ∧ zin a (zlen z r) = true) ∧ ZW zG d 98 223 ls (st) (sia z r (zx a) (znar 50 b)) Q) := zw_iast rfl
theorem s98_223 {x0 x1 x2 x3 x5 : Value} {a : Int32} : ZW zG d 98 223 [x0, x1, x2, x3, .int a, x5] st z Q = ZW zG d 98 226 [x0, x1, x2, zclr x3, .int (a + (nI 1)), x5] st z Q := zw_next (f := z_iinc 4 (nI 1) 226) rfl rfl
theorem s98_226 {ls : List Value}  : ZW zG d 98 226 ls (st) z Q = ZW zG d 98 145 ls st z Q := zw_goto rfl
theorem s98_229 {x0 x1 x3 x4 x5 : Value} {a : Int32} : ZW zG d 98 229 [x0, x1, .int a, x3, x4, x5] st z Q = ZW zG d 98 232 [x0, zclr x1, .int (a + (nI 1)), x3, x4, x5] st z Q := zw_next (f := z_iinc 2 (nI 1) 232) rfl rfl
theorem s98_232 {ls : List Value}  : ZW zG d 98 232 ls (st) z Q = ZW zG d 98 113 ls st z Q := zw_goto rfl
theorem s98_235 {x0 x2 x3 x4 x5 : Value} {a : Int32} : ZW zG d 98 235 [x0, .int a, x2, x3, x4, x5] st z Q = ZW zG d 98 238 [zclr x0, .int (a + (nI 1)), x2, x3, x4, x5] st z Q := zw_next (f := z_iinc 1 (nI 1) 238) rfl rfl
theorem s98_238 {ls : List Value}  : ZW zG d 98 238 ls (st) z Q = ZW zG d 98 101 ls st z Q := zw_goto rfl
theorem s98_241 {ls : List Value}  : ZW zG d 98 241 ls ([]) z Q = Q (.inl none) z := zw_ret rfl
/-- X10_at (I)LCardBowl$House; -/
theorem e99 {r0 : Nat} {v0 : Int32} : ZC zG d 99 [.ref r0, .int v0] z Q = ZW zG d 99 0 [.ref r0, .int v0] [] z Q := rfl
theorem s99_0 {x0 x1 : Value} : ZW zG d 99 0 [x0, x1] st z Q = (zir x0 = true ∧ ZW zG d 99 1 [x0, x1] (x0 :: st) z Q) := zw_cond (f := z_aload 0 1) rfl rfl
theorem s99_1 {ls : List Value} {r : Nat} : ZW zG d 99 1 ls (.ref r :: st) z Q = ((zcls z r = 10 ∧ zir (zfr z r 11) = true) ∧ ZW zG d 99 4 ls (zfr z r 11 :: st) (z) Q) := zw_getR rfl
theorem s99_4 {ls : List Value} {r : Nat} : ZW zG d 99 4 ls (.ref r :: st) z Q = ((zcls z r = 0 ∧ zir (zfr z r 1) = true) ∧ ZW zG d 99 7 ls (zfr z r 1 :: st) (z) Q) := zw_getR rfl
theorem s99_7 {ls : List Value} {r : Nat} : ZW zG d 99 7 ls (.ref r :: st) z Q = ((zcls z r = 1 ∧ zir (zfr z r 0) = true) ∧ ZW zG d 99 10 ls (zfr z r 0 :: st) (z) Q) := zw_getR rfl
theorem s99_10 {x0 x1 : Value} : ZW zG d 99 10 [x0, x1] st z Q = (zir x0 = true ∧ ZW zG d 99 11 [x0, x1] (x0 :: st) z Q) := zw_cond (f := z_aload 0 11) rfl rfl
theorem s99_11 {ls : List Value} {r : Nat} : ZW zG d 99 11 ls (.ref r :: st) z Q = ((zcls z r = 10 ∧ zir (zfr z r 0) = true) ∧ ZW zG d 99 14 ls (zfr z r 0 :: st) (z) Q) := zw_getR rfl
theorem s99_14 {x0 : Value} {a : Int32} : ZW zG d 99 14 [x0, .int a] st z Q = ZW zG d 99 15 [x0, .int a] (.int a :: st) z Q := zw_next (f := z_iload 1 15) rfl rfl
theorem s99_15 {ls : List Value} {a : Int32} {r : Nat} : ZW zG d 99 15 ls (.int a :: .ref r :: st) z Q = ((zcls z r = 50 ∧ zin a (zlen z r) = true) ∧ ZW zG d 99 16 ls (.int (zia z r (zx a)) :: st) (z) Q) := zw_iald rfl
theorem s99_16 {ls : List Value} {w0 : Int32} {r : Nat} : ZW zG (d + 1) 99 16 ls (.int w0 :: .ref r :: st) z Q = (zcls z r = 2 ∧ zcs st = true ∧ ZC zG d 65 [.ref r, .int w0] z (zk zG (d + 1) 99 (none) 19 ls st Q)) := zc_V1 rfl (Nat.le_of_ble_eq_true rfl)
theorem s99_19 {ls : List Value} {q : Nat} : ZW zG d 99 19 ls ([.ref q]) z Q = Q (.inl (some (.ref q))) z := zw_reta rfl
theorem s99_19r {ls : List Value}  : ZW zG d 99 19 ls ([.null]) z Q = Q (.inl (some .null)) z := zw_retn rfl
/-- X10_after (III)I -/
theorem e100 {r0 : Nat} {v0 : Int32} {v1 : Int32} {v2 : Int32} : ZC zG d 100 [.ref r0, .int v0, .int v1, .int v2] z Q = ZW zG d 100 0 [.ref r0, .int v0, .int v1, .int v2, zdum, zdum, zdum] [] z Q := rfl
theorem s100_0 {x0 x1 x2 x3 x4 x5 x6 : Value} : ZW zG d 100 0 [x0, x1, x2, x3, x4, x5, x6] st z Q = (zir x0 = true ∧ ZW zG d 100 1 [x0, x1, x2, x3, x4, x5, x6] (x0 :: st) z Q) := zw_cond (f := z_aload 0 1) rfl rfl
theorem s100_1 {ls : List Value} {r : Nat} : ZW zG d 100 1 ls (.ref r :: st) z Q = ((zcls z r = 10 ∧ zir (zfr z r 11) = true) ∧ ZW zG d 100 4 ls (zfr z r 11 :: st) (z) Q) := zw_getR rfl
theorem s100_4 {ls : List Value} {r : Nat} : ZW zG d 100 4 ls (.ref r :: st) z Q = ((zcls z r = 0 ∧ zir (zfr z r 1) = true) ∧ ZW zG d 100 7 ls (zfr z r 1 :: st) (z) Q) := zw_getR rfl
theorem s100_7 {ls : List Value} {r : Nat} : ZW zG d 100 7 ls (.ref r :: st) z Q = ((zcls z r = 1 ∧ zir (zfr z r 0) = true) ∧ ZW zG d 100 10 ls (zfr z r 0 :: st) (z) Q) := zw_getR rfl
theorem s100_10 {x0 x1 x2 x4 x5 x6 : Value} {a : Int32} : ZW zG d 100 10 [x0, x1, x2, .int a, x4, x5, x6] st z Q = ZW zG d 100 11 [x0, x1, x2, .int a, x4, x5, x6] (.int a :: st) z Q := zw_next (f := z_iload 3 11) rfl rfl
theorem s100_11 {ls : List Value} {w0 : Int32} {r : Nat} : ZW zG (d + 1) 100 11 ls (.int w0 :: .ref r :: st) z Q = (zcls z r = 2 ∧ zcs st = true ∧ ZC zG d 65 [.ref r, .int w0] z (zk zG (d + 1) 100 (none) 14 ls st Q)) := zc_V1 rfl (Nat.le_of_ble_eq_true rfl)
theorem s100_14 {x0 x1 x2 x3 x4 x5 x6 : Value} {v : Value} : ZW zG d 100 14 [x0, x1, x2, x3, x4, x5, x6] (v :: st) z Q = (zir v = true ∧ ZW zG d 100 16 [x0, x1, x2, zclr x3, v, x5, x6] st z Q) := by rw [zw_cond (f := z_astore 4 16) (G := zG) rfl rfl]; exact propext ⟨fun h => ⟨h.1.1, h.2⟩, fun h => ⟨⟨h.1, Nat.le_of_ble_eq_true rfl⟩, h.2⟩⟩
theorem s100_16 {x0 x2 x3 x4 x5 x6 : Value} {a : Int32} : ZW zG d 100 16 [x0, .int a, x2, x3, x4, x5, x6] st z Q = ZW zG d 100 17 [x0, .int a, x2, x3, x4, x5, x6] (.int a :: st) z Q := zw_next (f := z_iload 1 17) rfl rfl
theorem s100_17 {x0 x1 x3 x4 x5 x6 : Value} {a : Int32} : ZW zG d 100 17 [x0, x1, .int a, x3, x4, x5, x6] st z Q = ZW zG d 100 18 [x0, x1, .int a, x3, x4, x5, x6] (.int a :: st) z Q := zw_next (f := z_iload 2 18) rfl rfl
theorem s100_18 {ls : List Value} {a b : Int32} : ZW zG d 100 18 ls (.int b :: .int a :: st) z Q = ZW zG d 100 19 ls (.int (a + b) :: st) z Q := zw_iadd rfl
theorem s100_19 {x0 x1 x2 x3 x4 x5 x6 : Value} {a : Int32} : ZW zG d 100 19 [x0, x1, x2, x3, x4, x5, x6] (.int a :: st) z Q = ZW zG d 100 21 [x0, x1, x2, x3, zclr x4, .int a, x6] st z Q := zw_next (f := z_istore 5 21) rfl rfl
theorem s100_21 {x0 x1 x2 x3 x4 x5 x6 : Value} : ZW zG d 100 21 [x0, x1, x2, x3, x4, x5, x6] st z Q = (zir x0 = true ∧ ZW zG d 100 22 [x0, x1, x2, x3, x4, x5, x6] (x0 :: st) z Q) := zw_cond (f := z_aload 0 22) rfl rfl
theorem s100_22 {x0 x1 x2 x4 x5 x6 : Value} {a : Int32} : ZW zG d 100 22 [x0, x1, x2, .int a, x4, x5, x6] st z Q = ZW zG d 100 23 [x0, x1, x2, .int a, x4, x5, x6] (.int a :: st) z Q := zw_next (f := z_iload 3 23) rfl rfl
theorem s100_23 {ls : List Value} {w0 : Int32} {r : Nat} : ZW zG (d + 1) 100 23 ls (.int w0 :: .ref r :: st) z Q = (zcls z r = 10 ∧ zcs st = true ∧ ZC zG d 101 [.ref r, .int w0] z (zk zG (d + 1) 100 (none) 26 ls st Q)) := zc_V1 rfl (Nat.le_of_ble_eq_true rfl)
theorem s100_26 {ls : List Value} {a : Int32} : ZW zG d 100 26 ls (.int a :: st) z Q = if ¬ a = 0 then ZW zG d 100 45 ls st z Q else ZW zG d 100 29 ls st z Q := zw_ifne rfl
theorem s100_29 {x0 x1 x2 x3 x4 x6 : Value} {a : Int32} : ZW zG d 100 29 [x0, x1, x2, x3, x4, .int a, x6] st z Q = ZW zG d 100 31 [x0, x1, x2, x3, x4, .int a, x6] (.int a :: st) z Q := zw_next (f := z_iload 5 31) rfl rfl
theorem s100_31 {ls : List Value}  : ZW zG d 100 31 ls (st) z Q = ZW zG d 100 34 ls ((.int (nI 180)) :: st) z Q := zw_push rfl
theorem s100_34 {ls : List Value} {a b : Int32} : ZW zG d 100 34 ls (.int b :: .int a :: st) z Q = if b < a then ZW zG d 100 42 ls st z Q else ZW zG d 100 37 ls st z Q := zw_icgt rfl
theorem s100_37 {x0 x1 x2 x3 x4 x6 : Value} {a : Int32} : ZW zG d 100 37 [x0, x1, x2, x3, x4, .int a, x6] st z Q = ZW zG d 100 39 [x0, x1, x2, x3, x4, .int a, x6] (.int a :: st) z Q := zw_next (f := z_iload 5 39) rfl rfl
theorem s100_39 {ls : List Value}  : ZW zG d 100 39 ls (st) z Q = ZW zG d 100 44 ls st z Q := zw_goto rfl
theorem s100_42 {ls : List Value}  : ZW zG d 100 42 ls (st) z Q = ZW zG d 100 44 ls ((.int (nI 100000)) :: st) z Q := zw_push rfl
theorem s100_44 {ls : List Value} {a : Int32} : ZW zG d 100 44 ls ([.int a]) z Q = Q (.inl (some (.int a))) z := zw_reti rfl
theorem s100_45 {x0 x1 x2 x3 x4 x5 x6 : Value} : ZW zG d 100 45 [x0, x1, x2, x3, x4, x5, x6] st z Q = (zir x0 = true ∧ ZW zG d 100 46 [x0, x1, x2, x3, x4, x5, x6] (x0 :: st) z Q) := zw_cond (f := z_aload 0 46) rfl rfl
theorem s100_46 {ls : List Value} {r : Nat} : ZW zG d 100 46 ls (.ref r :: st) z Q = ((zcls z r = 10) ∧ ZW zG d 100 49 ls (.int (zfi z r 5) :: st) (z) Q) := zw_getI rfl
theorem s100_49 {ls : List Value}  : ZW zG d 100 49 ls (st) z Q = ZW zG d 100 51 ls ((.int (nI 7)) :: st) z Q := zw_push rfl
theorem s100_51 {ls : List Value} {a b : Int32} : ZW zG d 100 51 ls (.int b :: .int a :: st) z Q = ((¬ b = 0) ∧ ZW zG d 100 52 ls (.int (a - a / b * b) :: st) (z) Q) := zw_irem rfl
theorem s100_52 {x0 x1 x2 x3 x4 x5 x6 : Value} : ZW zG d 100 52 [x0, x1, x2, x3, x4, x5, x6] st z Q = (zir x4 = true ∧ ZW zG d 100 54 [x0, x1, x2, x3, x4, x5, x6] (x4 :: st) z Q) := zw_cond (f := z_aload 4 54) rfl rfl
theorem s100_54 {ls : List Value} {r : Nat} : ZW zG d 100 54 ls (.ref r :: st) z Q = ((zcls z r = 21) ∧ ZW zG d 100 57 ls (.int (zfi z r 3) :: st) (z) Q) := zw_getI rfl
theorem s100_57 {ls : List Value} {a b : Int32} : ZW zG d 100 57 ls (.int b :: .int a :: st) z Q = if a = b then ZW zG d 100 63 ls st z Q else ZW zG d 100 60 ls st z Q := zw_iceq rfl
theorem s100_60 {ls : List Value}  : ZW zG d 100 60 ls (st) z Q = ZW zG d 100 62 ls ((.int (nI 100000)) :: st) z Q := zw_push rfl
theorem s100_62 {ls : List Value} {a : Int32} : ZW zG d 100 62 ls ([.int a]) z Q = Q (.inl (some (.int a))) z := zw_reti rfl
theorem s100_63 {x0 x1 x2 x3 x4 x6 : Value} {a : Int32} : ZW zG d 100 63 [x0, x1, x2, x3, x4, .int a, x6] st z Q = ZW zG d 100 65 [x0, x1, x2, x3, x4, .int a, x6] (.int a :: st) z Q := zw_next (f := z_iload 5 65) rfl rfl
theorem s100_65 {x0 x1 x2 x3 x4 x5 x6 : Value} : ZW zG d 100 65 [x0, x1, x2, x3, x4, x5, x6] st z Q = (zir x4 = true ∧ ZW zG d 100 67 [x0, x1, x2, x3, x4, x5, x6] (x4 :: st) z Q) := zw_cond (f := z_aload 4 67) rfl rfl
theorem s100_67 {ls : List Value} {r : Nat} : ZW zG d 100 67 ls (.ref r :: st) z Q = ((zcls z r = 21) ∧ ZW zG d 100 70 ls (.int (zfi z r 4) :: st) (z) Q) := zw_getI rfl
theorem s100_70 {ls : List Value} {a b : Int32} : ZW zG d 100 70 ls (.int b :: .int a :: st) z Q = ((zcs st = true) ∧ ZW zG d 100 73 ls (.int (zmax a b) :: st) (z) Q) := zw_mmax rfl
theorem s100_73 {ls : List Value}  : ZW zG d 100 73 ls (st) z Q = ZW zG d 100 75 ls ((.int (nI 15)) :: st) z Q := zw_push rfl
theorem s100_75 {ls : List Value} {a b : Int32} : ZW zG d 100 75 ls (.int b :: .int a :: st) z Q = ZW zG d 100 76 ls (.int (a + b) :: st) z Q := zw_iadd rfl
theorem s100_76 {x0 x1 x2 x3 x4 x5 x6 : Value} {a : Int32} : ZW zG d 100 76 [x0, x1, x2, x3, x4, x5, x6] (.int a :: st) z Q = ZW zG d 100 78 [x0, x1, x2, x3, x4, zclr x5, .int a] st z Q := zw_next (f := z_istore 6 78) rfl rfl
theorem s100_78 {x0 x1 x2 x3 x4 x5 : Value} {a : Int32} : ZW zG d 100 78 [x0, x1, x2, x3, x4, x5, .int a] st z Q = ZW zG d 100 80 [x0, x1, x2, x3, x4, x5, .int a] (.int a :: st) z Q := zw_next (f := z_iload 6 80) rfl rfl
theorem s100_80 {x0 x1 x2 x3 x4 x5 x6 : Value} : ZW zG d 100 80 [x0, x1, x2, x3, x4, x5, x6] st z Q = (zir x4 = true ∧ ZW zG d 100 82 [x0, x1, x2, x3, x4, x5, x6] (x4 :: st) z Q) := zw_cond (f := z_aload 4 82) rfl rfl
theorem s100_82 {ls : List Value} {r : Nat} : ZW zG d 100 82 ls (.ref r :: st) z Q = ((zcls z r = 21) ∧ ZW zG d 100 85 ls (.int (zfi z r 5) :: st) (z) Q) := zw_getI rfl
theorem s100_85 {ls : List Value}  : ZW zG d 100 85 ls (st) z Q = ZW zG d 100 88 ls ((.int (nI 180)) :: st) z Q := zw_push rfl
theorem s100_88 {ls : List Value} {a b : Int32} : ZW zG d 100 88 ls (.int b :: .int a :: st) z Q = ((zcs st = true) ∧ ZW zG d 100 91 ls (.int (zmin a b) :: st) (z) Q) := zw_mmin rfl
theorem s100_91 {ls : List Value} {a b : Int32} : ZW zG d 100 91 ls (.int b :: .int a :: st) z Q = if b < a then ZW zG d 100 99 ls st z Q else ZW zG d 100 94 ls st z Q := zw_icgt rfl
theorem s100_94 {x0 x1 x2 x3 x4 x5 : Value} {a : Int32} : ZW zG d 100 94 [x0, x1, x2, x3, x4, x5, .int a] st z Q = ZW zG d 100 96 [x0, x1, x2, x3, x4, x5, .int a] (.int a :: st) z Q := zw_next (f := z_iload 6 96) rfl rfl
theorem s100_96 {ls : List Value}  : ZW zG d 100 96 ls (st) z Q = ZW zG d 100 101 ls st z Q := zw_goto rfl
theorem s100_99 {ls : List Value}  : ZW zG d 100 99 ls (st) z Q = ZW zG d 100 101 ls ((.int (nI 100000)) :: st) z Q := zw_push rfl
theorem s100_101 {ls : List Value} {a : Int32} : ZW zG d 100 101 ls ([.int a]) z Q = Q (.inl (some (.int a))) z := zw_reti rfl
/-- X10_isCall (I)Z -/
theorem e101 {r0 : Nat} {v0 : Int32} : ZC zG d 101 [.ref r0, .int v0] z Q = ZW zG d 101 0 [.ref r0, .int v0] [] z Q := rfl
theorem s101_0 {x0 x1 : Value} : ZW zG d 101 0 [x0, x1] st z Q = (zir x0 = true ∧ ZW zG d 101 1 [x0, x1] (x0 :: st) z Q) := zw_cond (f := z_aload 0 1) rfl rfl
theorem s101_1 {ls : List Value} {r : Nat} : ZW zG d 101 1 ls (.ref r :: st) z Q = ((zcls z r = 10 ∧ zir (zfr z r 11) = true) ∧ ZW zG d 101 4 ls (zfr z r 11 :: st) (z) Q) := zw_getR rfl
theorem s101_4 {ls : List Value} {r : Nat} : ZW zG d 101 4 ls (.ref r :: st) z Q = ((zcls z r = 0 ∧ zir (zfr z r 1) = true) ∧ ZW zG d 101 7 ls (zfr z r 1 :: st) (z) Q) := zw_getR rfl
theorem s101_7 {ls : List Value} {r : Nat} : ZW zG d 101 7 ls (.ref r :: st) z Q = ((zcls z r = 1 ∧ zir (zfr z r 1) = true) ∧ ZW zG d 101 10 ls (zfr z r 1 :: st) (z) Q) := zw_getR rfl
theorem s101_10 {x0 x1 : Value} : ZW zG d 101 10 [x0, x1] st z Q = (zir x0 = true ∧ ZW zG d 101 11 [x0, x1] (x0 :: st) z Q) := zw_cond (f := z_aload 0 11) rfl rfl
theorem s101_11 {ls : List Value} {r : Nat} : ZW zG d 101 11 ls (.ref r :: st) z Q = ((zcls z r = 10) ∧ ZW zG d 101 14 ls (.int (zfi z r 10) :: st) (z) Q) := zw_getI rfl
theorem s101_14 {x0 : Value} {a : Int32} : ZW zG d 101 14 [x0, .int a] st z Q = ZW zG d 101 15 [x0, .int a] (.int a :: st) z Q := zw_next (f := z_iload 1 15) rfl rfl
theorem s101_15 {ls : List Value} {w0 : Int32} {w1 : Int32} {r : Nat} : ZW zG (d + 1) 101 15 ls (.int w1 :: .int w0 :: .ref r :: st) z Q = (zcls z r = 3 ∧ zcs st = true ∧ ZC zG d 75 [.ref r, .int w0, .int w1] z (zk zG (d + 1) 101 (none) 18 ls st Q)) := zc_V2 rfl (Nat.le_of_ble_eq_true rfl)
theorem s101_18 {ls : List Value}  : ZW zG d 101 18 ls (st) z Q = ZW zG d 101 19 ls ((.int (nI 2)) :: st) z Q := zw_push rfl
theorem s101_19 {ls : List Value} {a b : Int32} : ZW zG d 101 19 ls (.int b :: .int a :: st) z Q = if a < b then ZW zG d 101 26 ls st z Q else ZW zG d 101 22 ls st z Q := zw_iclt rfl
theorem s101_22 {ls : List Value}  : ZW zG d 101 22 ls (st) z Q = ZW zG d 101 23 ls ((.int (nI 1)) :: st) z Q := zw_push rfl
theorem s101_23 {ls : List Value}  : ZW zG d 101 23 ls (st) z Q = ZW zG d 101 27 ls st z Q := zw_goto rfl
theorem s101_26 {ls : List Value}  : ZW zG d 101 26 ls (st) z Q = ZW zG d 101 27 ls ((.int (nI 0)) :: st) z Q := zw_push rfl
theorem s101_27 {ls : List Value} {a : Int32} : ZW zG d 101 27 ls ([.int a]) z Q = ((a = 0 ∨ a = 1) ∧ Q (.inl (some (.int a))) z) := zw_retz rfl
/-- X10_best ()V -/
theorem e102 {r0 : Nat} : ZC zG d 102 [.ref r0] z Q = ZW zG d 102 0 [.ref r0, zdum, zdum, zdum, zdum] [] z Q := rfl
theorem s102_0 {x0 x1 x2 x3 x4 : Value} : ZW zG d 102 0 [x0, x1, x2, x3, x4] st z Q = (zir x0 = true ∧ ZW zG d 102 1 [x0, x1, x2, x3, x4] (x0 :: st) z Q) := zw_cond (f := z_aload 0 1) rfl rfl
theorem s102_1 {ls : List Value}  : ZW zG d 102 1 ls (st) z Q = ZW zG d 102 2 ls ((.int (nI 0)) :: st) z Q := zw_push rfl
theorem s102_2 {ls : List Value} {a : Int32} {r : Nat} : ZW zG d 102 2 ls (.int a :: .ref r :: st) z Q = ((zcls z r = 10) ∧ ZW zG d 102 5 ls (st) (sfi z r 6 a) Q) := zw_putI rfl
theorem s102_5 {x0 x1 x2 x3 x4 : Value} : ZW zG d 102 5 [x0, x1, x2, x3, x4] st z Q = (zir x0 = true ∧ ZW zG d 102 6 [x0, x1, x2, x3, x4] (x0 :: st) z Q) := zw_cond (f := z_aload 0 6) rfl rfl
theorem s102_6 {ls : List Value}  : ZW zG d 102 6 ls (st) z Q = ZW zG d 102 7 ls ((.int (nI 0)) :: st) z Q := zw_push rfl
theorem s102_7 {ls : List Value} {a : Int32} {r : Nat} : ZW zG d 102 7 ls (.int a :: .ref r :: st) z Q = ((zcls z r = 10) ∧ ZW zG d 102 10 ls (st) (sfi z r 7 a) Q) := zw_putI rfl
theorem s102_10 {x0 x1 x2 x3 x4 : Value} : ZW zG d 102 10 [x0, x1, x2, x3, x4] st z Q = (zir x0 = true ∧ ZW zG d 102 11 [x0, x1, x2, x3, x4] (x0 :: st) z Q) := zw_cond (f := z_aload 0 11) rfl rfl
theorem s102_11 {ls : List Value}  : ZW zG d 102 11 ls (st) z Q = ZW zG d 102 12 ls ((.int (nI 0)) :: st) z Q := zw_push rfl
theorem s102_12 {ls : List Value} {a : Int32} {r : Nat} : ZW zG d 102 12 ls (.int a :: .ref r :: st) z Q = ((zcls z r = 10) ∧ ZW zG d 102 15 ls (st) (sfi z r 8 a) Q) := zw_putI rfl
theorem s102_15 {ls : List Value}  : ZW zG d 102 15 ls (st) z Q = ZW zG d 102 16 ls ((.int (nI 1)) :: st) z Q := zw_push rfl
theorem s102_16 {x0 x1 x2 x3 x4 : Value} {a : Int32} : ZW zG d 102 16 [x0, x1, x2, x3, x4] (.int a :: st) z Q = ZW zG d 102 17 [zclr x0, .int a, x2, x3, x4] st z Q := zw_next (f := z_istore 1 17) rfl rfl
theorem s102_17 {x0 x2 x3 x4 : Value} {a : Int32} : ZW zG d 102 17 [x0, .int a, x2, x3, x4] st z Q = ZW zG d 102 18 [x0, .int a, x2, x3, x4] (.int a :: st) z Q := zw_next (f := z_iload 1 18) rfl rfl
theorem s102_18 {ls : List Value}  : ZW zG d 102 18 ls (st) z Q = ZW zG d 102 19 ls ((.int (nI 1)) :: st) z Q := zw_push rfl
theorem s102_19 {x0 x1 x2 x3 x4 : Value} : ZW zG d 102 19 [x0, x1, x2, x3, x4] st z Q = (zir x0 = true ∧ ZW zG d 102 20 [x0, x1, x2, x3, x4] (x0 :: st) z Q) := zw_cond (f := z_aload 0 20) rfl rfl
theorem s102_20 {ls : List Value} {r : Nat} : ZW zG d 102 20 ls (.ref r :: st) z Q = ((zcls z r = 10) ∧ ZW zG d 102 23 ls (.int (zfi z r 4) :: st) (z) Q) := zw_getI rfl
theorem s102_23 {ls : List Value} {a b : Int32} : ZW zG d 102 23 ls (.int b :: .int a :: st) z Q = ZW zG d 102 24 ls (.int (a <<< (b &&& 31)) :: st) z Q := zw_ishl rfl
theorem s102_24 {ls : List Value} {a b : Int32} : ZW zG d 102 24 ls (.int b :: .int a :: st) z Q = if b ≤ a then ZW zG d 102 132 ls st z Q else ZW zG d 102 27 ls st z Q := zw_icge rfl
theorem s102_27 {x0 x1 x2 x3 x4 : Value} : ZW zG d 102 27 [x0, x1, x2, x3, x4] st z Q = (zir x0 = true ∧ ZW zG d 102 28 [x0, x1, x2, x3, x4] (x0 :: st) z Q) := zw_cond (f := z_aload 0 28) rfl rfl
theorem s102_28 {x0 x2 x3 x4 : Value} {a : Int32} : ZW zG d 102 28 [x0, .int a, x2, x3, x4] st z Q = ZW zG d 102 29 [x0, .int a, x2, x3, x4] (.int a :: st) z Q := zw_next (f := z_iload 1 29) rfl rfl
theorem s102_29 {ls : List Value} {w0 : Int32} {r : Nat} : ZW zG (d + 1) 102 29 ls (.int w0 :: .ref r :: st) z Q = (zcls z r = 10 ∧ zcs st = true ∧ ZC zG d 103 [.ref r, .int w0] z (zk zG (d + 1) 102 (none) 32 ls st Q)) := zc_V1 rfl (Nat.le_of_ble_eq_true rfl)
theorem s102_32 {x0 x1 x2 x3 x4 : Value} {a : Int32} : ZW zG d 102 32 [x0, x1, x2, x3, x4] (.int a :: st) z Q = ZW zG d 102 33 [x0, zclr x1, .int a, x3, x4] st z Q := zw_next (f := z_istore 2 33) rfl rfl
theorem s102_33 {x0 x1 x3 x4 : Value} {a : Int32} : ZW zG d 102 33 [x0, x1, .int a, x3, x4] st z Q = ZW zG d 102 34 [x0, x1, .int a, x3, x4] (.int a :: st) z Q := zw_next (f := z_iload 2 34) rfl rfl
theorem s102_34 {ls : List Value}  : ZW zG d 102 34 ls (st) z Q = ZW zG d 102 36 ls ((.int (nI 100000)) :: st) z Q := zw_push rfl
theorem s102_36 {ls : List Value} {a b : Int32} : ZW zG d 102 36 ls (.int b :: .int a :: st) z Q = if ¬ a = b then ZW zG d 102 42 ls st z Q else ZW zG d 102 39 ls st z Q := zw_icne rfl
theorem s102_39 {ls : List Value}  : ZW zG d 102 39 ls (st) z Q = ZW zG d 102 126 ls st z Q := zw_goto rfl
theorem s102_42 {x0 x1 x2 x3 x4 : Value} : ZW zG d 102 42 [x0, x1, x2, x3, x4] st z Q = (zir x0 = true ∧ ZW zG d 102 43 [x0, x1, x2, x3, x4] (x0 :: st) z Q) := zw_cond (f := z_aload 0 43) rfl rfl
theorem s102_43 {x0 x2 x3 x4 : Value} {a : Int32} : ZW zG d 102 43 [x0, .int a, x2, x3, x4] st z Q = ZW zG d 102 44 [x0, .int a, x2, x3, x4] (.int a :: st) z Q := zw_next (f := z_iload 1 44) rfl rfl
theorem s102_44 {ls : List Value} {w0 : Int32} {r : Nat} : ZW zG (d + 1) 102 44 ls (.int w0 :: .ref r :: st) z Q = (zcls z r = 10 ∧ zcs st = true ∧ ZC zG d 104 [.ref r, .int w0] z (zk zG (d + 1) 102 (none) 47 ls st Q)) := zc_V1 rfl (Nat.le_of_ble_eq_true rfl)
theorem s102_47 {x0 x1 x2 x3 x4 : Value} {a : Int32} : ZW zG d 102 47 [x0, x1, x2, x3, x4] (.int a :: st) z Q = ZW zG d 102 48 [x0, x1, zclr x2, .int a, x4] st z Q := zw_next (f := z_istore 3 48) rfl rfl
theorem s102_48 {x0 x1 x2 x4 : Value} {a : Int32} : ZW zG d 102 48 [x0, x1, x2, .int a, x4] st z Q = ZW zG d 102 49 [x0, x1, x2, .int a, x4] (.int a :: st) z Q := zw_next (f := z_iload 3 49) rfl rfl
theorem s102_49 {x0 x1 x2 x3 x4 : Value} : ZW zG d 102 49 [x0, x1, x2, x3, x4] st z Q = (zir x0 = true ∧ ZW zG d 102 50 [x0, x1, x2, x3, x4] (x0 :: st) z Q) := zw_cond (f := z_aload 0 50) rfl rfl
theorem s102_50 {ls : List Value} {r : Nat} : ZW zG d 102 50 ls (.ref r :: st) z Q = ((zcls z r = 10) ∧ ZW zG d 102 53 ls (.int (zfi z r 8) :: st) (z) Q) := zw_getI rfl
theorem s102_53 {ls : List Value} {a b : Int32} : ZW zG d 102 53 ls (.int b :: .int a :: st) z Q = if b < a then ZW zG d 102 96 ls st z Q else ZW zG d 102 56 ls st z Q := zw_icgt rfl
theorem s102_56 {x0 x1 x2 x4 : Value} {a : Int32} : ZW zG d 102 56 [x0, x1, x2, .int a, x4] st z Q = ZW zG d 102 57 [x0, x1, x2, .int a, x4] (.int a :: st) z Q := zw_next (f := z_iload 3 57) rfl rfl
theorem s102_57 {x0 x1 x2 x3 x4 : Value} : ZW zG d 102 57 [x0, x1, x2, x3, x4] st z Q = (zir x0 = true ∧ ZW zG d 102 58 [x0, x1, x2, x3, x4] (x0 :: st) z Q) := zw_cond (f := z_aload 0 58) rfl rfl
theorem s102_58 {ls : List Value} {r : Nat} : ZW zG d 102 58 ls (.ref r :: st) z Q = ((zcls z r = 10) ∧ ZW zG d 102 61 ls (.int (zfi z r 8) :: st) (z) Q) := zw_getI rfl
theorem s102_61 {ls : List Value} {a b : Int32} : ZW zG d 102 61 ls (.int b :: .int a :: st) z Q = if ¬ a = b then ZW zG d 102 100 ls st z Q else ZW zG d 102 64 ls st z Q := zw_icne rfl
theorem s102_64 {x0 x1 x3 x4 : Value} {a : Int32} : ZW zG d 102 64 [x0, x1, .int a, x3, x4] st z Q = ZW zG d 102 65 [x0, x1, .int a, x3, x4] (.int a :: st) z Q := zw_next (f := z_iload 2 65) rfl rfl
theorem s102_65 {x0 x1 x2 x3 x4 : Value} : ZW zG d 102 65 [x0, x1, x2, x3, x4] st z Q = (zir x0 = true ∧ ZW zG d 102 66 [x0, x1, x2, x3, x4] (x0 :: st) z Q) := zw_cond (f := z_aload 0 66) rfl rfl
theorem s102_66 {ls : List Value} {r : Nat} : ZW zG d 102 66 ls (.ref r :: st) z Q = ((zcls z r = 10) ∧ ZW zG d 102 69 ls (.int (zfi z r 7) :: st) (z) Q) := zw_getI rfl
theorem s102_69 {ls : List Value} {a b : Int32} : ZW zG d 102 69 ls (.int b :: .int a :: st) z Q = if a < b then ZW zG d 102 96 ls st z Q else ZW zG d 102 72 ls st z Q := zw_iclt rfl
theorem s102_72 {x0 x1 x3 x4 : Value} {a : Int32} : ZW zG d 102 72 [x0, x1, .int a, x3, x4] st z Q = ZW zG d 102 73 [x0, x1, .int a, x3, x4] (.int a :: st) z Q := zw_next (f := z_iload 2 73) rfl rfl
theorem s102_73 {x0 x1 x2 x3 x4 : Value} : ZW zG d 102 73 [x0, x1, x2, x3, x4] st z Q = (zir x0 = true ∧ ZW zG d 102 74 [x0, x1, x2, x3, x4] (x0 :: st) z Q) := zw_cond (f := z_aload 0 74) rfl rfl
theorem s102_74 {ls : List Value} {r : Nat} : ZW zG d 102 74 ls (.ref r :: st) z Q = ((zcls z r = 10) ∧ ZW zG d 102 77 ls (.int (zfi z r 7) :: st) (z) Q) := zw_getI rfl
theorem s102_77 {ls : List Value} {a b : Int32} : ZW zG d 102 77 ls (.int b :: .int a :: st) z Q = if ¬ a = b then ZW zG d 102 100 ls st z Q else ZW zG d 102 80 ls st z Q := zw_icne rfl
theorem s102_80 {x0 x1 x2 x3 x4 : Value} : ZW zG d 102 80 [x0, x1, x2, x3, x4] st z Q = (zir x0 = true ∧ ZW zG d 102 81 [x0, x1, x2, x3, x4] (x0 :: st) z Q) := zw_cond (f := z_aload 0 81) rfl rfl
theorem s102_81 {x0 x2 x3 x4 : Value} {a : Int32} : ZW zG d 102 81 [x0, .int a, x2, x3, x4] st z Q = ZW zG d 102 82 [x0, .int a, x2, x3, x4] (.int a :: st) z Q := zw_next (f := z_iload 1 82) rfl rfl
theorem s102_82 {ls : List Value} {w0 : Int32} {r : Nat} : ZW zG (d + 1) 102 82 ls (.int w0 :: .ref r :: st) z Q = (zcls z r = 10 ∧ zcs st = true ∧ ZC zG d 105 [.ref r, .int w0] z (zk zG (d + 1) 102 (none) 85 ls st Q)) := zc_V1 rfl (Nat.le_of_ble_eq_true rfl)
theorem s102_85 {x0 x1 x2 x3 x4 : Value} : ZW zG d 102 85 [x0, x1, x2, x3, x4] st z Q = (zir x0 = true ∧ ZW zG d 102 86 [x0, x1, x2, x3, x4] (x0 :: st) z Q) := zw_cond (f := z_aload 0 86) rfl rfl
theorem s102_86 {x0 x1 x2 x3 x4 : Value} : ZW zG d 102 86 [x0, x1, x2, x3, x4] st z Q = (zir x0 = true ∧ ZW zG d 102 87 [x0, x1, x2, x3, x4] (x0 :: st) z Q) := zw_cond (f := z_aload 0 87) rfl rfl
theorem s102_87 {ls : List Value} {r : Nat} : ZW zG d 102 87 ls (.ref r :: st) z Q = ((zcls z r = 10) ∧ ZW zG d 102 90 ls (.int (zfi z r 6) :: st) (z) Q) := zw_getI rfl
theorem s102_90 {ls : List Value} {w0 : Int32} {r : Nat} : ZW zG (d + 1) 102 90 ls (.int w0 :: .ref r :: st) z Q = (zcls z r = 10 ∧ zcs st = true ∧ ZC zG d 105 [.ref r, .int w0] z (zk zG (d + 1) 102 (none) 93 ls st Q)) := zc_V1 rfl (Nat.le_of_ble_eq_true rfl)
theorem s102_93 {ls : List Value} {a b : Int32} : ZW zG d 102 93 ls (.int b :: .int a :: st) z Q = if b ≤ a then ZW zG d 102 100 ls st z Q else ZW zG d 102 96 ls st z Q := zw_icge rfl
theorem s102_96 {ls : List Value}  : ZW zG d 102 96 ls (st) z Q = ZW zG d 102 97 ls ((.int (nI 1)) :: st) z Q := zw_push rfl
theorem s102_97 {ls : List Value}  : ZW zG d 102 97 ls (st) z Q = ZW zG d 102 101 ls st z Q := zw_goto rfl
theorem s102_100 {ls : List Value}  : ZW zG d 102 100 ls (st) z Q = ZW zG d 102 101 ls ((.int (nI 0)) :: st) z Q := zw_push rfl
theorem s102_101 {x0 x1 x2 x3 x4 : Value} {a : Int32} : ZW zG d 102 101 [x0, x1, x2, x3, x4] (.int a :: st) z Q = ZW zG d 102 103 [x0, x1, x2, zclr x3, .int a] st z Q := zw_next (f := z_istore 4 103) rfl rfl
theorem s102_103 {x0 x1 x2 x3 : Value} {a : Int32} : ZW zG d 102 103 [x0, x1, x2, x3, .int a] st z Q = ZW zG d 102 105 [x0, x1, x2, x3, .int a] (.int a :: st) z Q := zw_next (f := z_iload 4 105) rfl rfl
theorem s102_105 {ls : List Value} {a : Int32} : ZW zG d 102 105 ls (.int a :: st) z Q = if ¬ a = 0 then ZW zG d 102 111 ls st z Q else ZW zG d 102 108 ls st z Q := zw_ifne rfl
theorem s102_108 {ls : List Value}  : ZW zG d 102 108 ls (st) z Q = ZW zG d 102 126 ls st z Q := zw_goto rfl
theorem s102_111 {x0 x1 x2 x3 x4 : Value} : ZW zG d 102 111 [x0, x1, x2, x3, x4] st z Q = (zir x0 = true ∧ ZW zG d 102 112 [x0, x1, x2, x3, x4] (x0 :: st) z Q) := zw_cond (f := z_aload 0 112) rfl rfl
theorem s102_112 {x0 x2 x3 x4 : Value} {a : Int32} : ZW zG d 102 112 [x0, .int a, x2, x3, x4] st z Q = ZW zG d 102 113 [x0, .int a, x2, x3, x4] (.int a :: st) z Q := zw_next (f := z_iload 1 113) rfl rfl
theorem s102_113 {ls : List Value} {a : Int32} {r : Nat} : ZW zG d 102 113 ls (.int a :: .ref r :: st) z Q = ((zcls z r = 10) ∧ ZW zG d 102 116 ls (st) (sfi z r 6 a) Q) := zw_putI rfl
theorem s102_116 {x0 x1 x2 x3 x4 : Value} : ZW zG d 102 116 [x0, x1, x2, x3, x4] st z Q = (zir x0 = true ∧ ZW zG d 102 117 [x0, x1, x2, x3, x4] (x0 :: st) z Q) := zw_cond (f := z_aload 0 117) rfl rfl
theorem s102_117 {x0 x1 x3 x4 : Value} {a : Int32} : ZW zG d 102 117 [x0, x1, .int a, x3, x4] st z Q = ZW zG d 102 118 [x0, x1, .int a, x3, x4] (.int a :: st) z Q := zw_next (f := z_iload 2 118) rfl rfl
theorem s102_118 {ls : List Value} {a : Int32} {r : Nat} : ZW zG d 102 118 ls (.int a :: .ref r :: st) z Q = ((zcls z r = 10) ∧ ZW zG d 102 121 ls (st) (sfi z r 7 a) Q) := zw_putI rfl
theorem s102_121 {x0 x1 x2 x3 x4 : Value} : ZW zG d 102 121 [x0, x1, x2, x3, x4] st z Q = (zir x0 = true ∧ ZW zG d 102 122 [x0, x1, x2, x3, x4] (x0 :: st) z Q) := zw_cond (f := z_aload 0 122) rfl rfl
theorem s102_122 {x0 x1 x2 x4 : Value} {a : Int32} : ZW zG d 102 122 [x0, x1, x2, .int a, x4] st z Q = ZW zG d 102 123 [x0, x1, x2, .int a, x4] (.int a :: st) z Q := zw_next (f := z_iload 3 123) rfl rfl
theorem s102_123 {ls : List Value} {a : Int32} {r : Nat} : ZW zG d 102 123 ls (.int a :: .ref r :: st) z Q = ((zcls z r = 10) ∧ ZW zG d 102 126 ls (st) (sfi z r 8 a) Q) := zw_putI rfl
theorem s102_126 {x0 x2 x3 x4 : Value} {a : Int32} : ZW zG d 102 126 [x0, .int a, x2, x3, x4] st z Q = ZW zG d 102 129 [zclr x0, .int (a + (nI 1)), x2, x3, x4] st z Q := zw_next (f := z_iinc 1 (nI 1) 129) rfl rfl
theorem s102_129 {ls : List Value}  : ZW zG d 102 129 ls (st) z Q = ZW zG d 102 17 ls st z Q := zw_goto rfl
theorem s102_132 {ls : List Value}  : ZW zG d 102 132 ls ([]) z Q = Q (.inl none) z := zw_ret rfl
/-- X10_over (I)I -/
theorem e103 {r0 : Nat} {v0 : Int32} : ZC zG d 103 [.ref r0, .int v0] z Q = ZW zG d 103 0 [.ref r0, .int v0, zdum, zdum] [] z Q := rfl
theorem s103_0 {x0 x2 x3 : Value} {a : Int32} : ZW zG d 103 0 [x0, .int a, x2, x3] st z Q = ZW zG d 103 1 [x0, .int a, x2, x3] (.int a :: st) z Q := zw_next (f := z_iload 1 1) rfl rfl
theorem s103_1 {ls : List Value} {a : Int32} : ZW zG d 103 1 ls (.int a :: st) z Q = if ¬ a = 0 then ZW zG d 103 6 ls st z Q else ZW zG d 103 4 ls st z Q := zw_ifne rfl
theorem s103_4 {ls : List Value}  : ZW zG d 103 4 ls (st) z Q = ZW zG d 103 5 ls ((.int (nI 0)) :: st) z Q := zw_push rfl
theorem s103_5 {ls : List Value} {a : Int32} : ZW zG d 103 5 ls ([.int a]) z Q = Q (.inl (some (.int a))) z := zw_reti rfl
theorem s103_6 {ls : List Value}  : ZW zG d 103 6 ls (st) z Q = ZW zG d 103 8 ls ((.int (nI 100000)) :: st) z Q := zw_push rfl
theorem s103_8 {x0 x1 x2 x3 : Value} {a : Int32} : ZW zG d 103 8 [x0, x1, x2, x3] (.int a :: st) z Q = ZW zG d 103 9 [x0, zclr x1, .int a, x3] st z Q := zw_next (f := z_istore 2 9) rfl rfl
theorem s103_9 {ls : List Value}  : ZW zG d 103 9 ls (st) z Q = ZW zG d 103 10 ls ((.int (nI 0)) :: st) z Q := zw_push rfl
theorem s103_10 {x0 x1 x2 x3 : Value} {a : Int32} : ZW zG d 103 10 [x0, x1, x2, x3] (.int a :: st) z Q = ZW zG d 103 11 [x0, x1, zclr x2, .int a] st z Q := zw_next (f := z_istore 3 11) rfl rfl
theorem s103_11 {x0 x1 x2 : Value} {a : Int32} : ZW zG d 103 11 [x0, x1, x2, .int a] st z Q = ZW zG d 103 12 [x0, x1, x2, .int a] (.int a :: st) z Q := zw_next (f := z_iload 3 12) rfl rfl
theorem s103_12 {x0 x1 x2 x3 : Value} : ZW zG d 103 12 [x0, x1, x2, x3] st z Q = (zir x0 = true ∧ ZW zG d 103 13 [x0, x1, x2, x3] (x0 :: st) z Q) := zw_cond (f := z_aload 0 13) rfl rfl
theorem s103_13 {ls : List Value} {r : Nat} : ZW zG d 103 13 ls (.ref r :: st) z Q = ((zcls z r = 10) ∧ ZW zG d 103 16 ls (.int (zfi z r 4) :: st) (z) Q) := zw_getI rfl
theorem s103_16 {ls : List Value} {a b : Int32} : ZW zG d 103 16 ls (.int b :: .int a :: st) z Q = if b ≤ a then ZW zG d 103 41 ls st z Q else ZW zG d 103 19 ls st z Q := zw_icge rfl
theorem s103_19 {x0 x1 x3 : Value} {a : Int32} : ZW zG d 103 19 [x0, x1, .int a, x3] st z Q = ZW zG d 103 20 [x0, x1, .int a, x3] (.int a :: st) z Q := zw_next (f := z_iload 2 20) rfl rfl
theorem s103_20 {x0 x1 x2 x3 : Value} : ZW zG d 103 20 [x0, x1, x2, x3] st z Q = (zir x0 = true ∧ ZW zG d 103 21 [x0, x1, x2, x3] (x0 :: st) z Q) := zw_cond (f := z_aload 0 21) rfl rfl
theorem s103_21 {ls : List Value} {r : Nat} : ZW zG d 103 21 ls (.ref r :: st) z Q = ((zcls z r = 10 ∧ zir (zfr z r 1) = true) ∧ ZW zG d 103 24 ls (zfr z r 1 :: st) (z) Q) := zw_getR rfl
theorem s103_24 {ls : List Value}  : ZW zG d 103 24 ls (st) z Q = ZW zG d 103 26 ls ((.int (nI 10)) :: st) z Q := zw_push rfl
theorem s103_26 {x0 x2 x3 : Value} {a : Int32} : ZW zG d 103 26 [x0, .int a, x2, x3] st z Q = ZW zG d 103 27 [x0, .int a, x2, x3] (.int a :: st) z Q := zw_next (f := z_iload 1 27) rfl rfl
theorem s103_27 {ls : List Value} {a b : Int32} : ZW zG d 103 27 ls (.int b :: .int a :: st) z Q = ZW zG d 103 28 ls (.int (a * b) :: st) z Q := zw_imul rfl
theorem s103_28 {x0 x1 x2 : Value} {a : Int32} : ZW zG d 103 28 [x0, x1, x2, .int a] st z Q = ZW zG d 103 29 [x0, x1, x2, .int a] (.int a :: st) z Q := zw_next (f := z_iload 3 29) rfl rfl
theorem s103_29 {ls : List Value} {a b : Int32} : ZW zG d 103 29 ls (.int b :: .int a :: st) z Q = ZW zG d 103 30 ls (.int (a + b) :: st) z Q := zw_iadd rfl
theorem s103_30 {ls : List Value} {a : Int32} {r : Nat} : ZW zG d 103 30 ls (.int a :: .ref r :: st) z Q = ((zcls z r = 50 ∧ zin a (zlen z r) = true) ∧ ZW zG d 103 31 ls (.int (zia z r (zx a)) :: st) (z) Q) := zw_iald rfl
theorem s103_31 {ls : List Value} {a b : Int32} : ZW zG d 103 31 ls (.int b :: .int a :: st) z Q = ((zcs st = true) ∧ ZW zG d 103 34 ls (.int (zmin a b) :: st) (z) Q) := zw_mmin rfl
theorem s103_34 {x0 x1 x2 x3 : Value} {a : Int32} : ZW zG d 103 34 [x0, x1, x2, x3] (.int a :: st) z Q = ZW zG d 103 35 [x0, zclr x1, .int a, x3] st z Q := zw_next (f := z_istore 2 35) rfl rfl
theorem s103_35 {x0 x1 x2 : Value} {a : Int32} : ZW zG d 103 35 [x0, x1, x2, .int a] st z Q = ZW zG d 103 38 [x0, x1, zclr x2, .int (a + (nI 1))] st z Q := zw_next (f := z_iinc 3 (nI 1) 38) rfl rfl
theorem s103_38 {ls : List Value}  : ZW zG d 103 38 ls (st) z Q = ZW zG d 103 11 ls st z Q := zw_goto rfl
theorem s103_41 {x0 x1 x3 : Value} {a : Int32} : ZW zG d 103 41 [x0, x1, .int a, x3] st z Q = ZW zG d 103 42 [x0, x1, .int a, x3] (.int a :: st) z Q := zw_next (f := z_iload 2 42) rfl rfl
theorem s103_42 {ls : List Value} {a : Int32} : ZW zG d 103 42 ls ([.int a]) z Q = Q (.inl (some (.int a))) z := zw_reti rfl
/-- X10_worth (I)I -/
theorem e104 {r0 : Nat} {v0 : Int32} : ZC zG d 104 [.ref r0, .int v0] z Q = ZW zG d 104 0 [.ref r0, .int v0, zdum, zdum] [] z Q := rfl
theorem s104_0 {ls : List Value}  : ZW zG d 104 0 ls (st) z Q = ZW zG d 104 1 ls ((.int (nI 0)) :: st) z Q := zw_push rfl
theorem s104_1 {x0 x1 x2 x3 : Value} {a : Int32} : ZW zG d 104 1 [x0, x1, x2, x3] (.int a :: st) z Q = ZW zG d 104 2 [x0, zclr x1, .int a, x3] st z Q := zw_next (f := z_istore 2 2) rfl rfl
theorem s104_2 {ls : List Value}  : ZW zG d 104 2 ls (st) z Q = ZW zG d 104 3 ls ((.int (nI 0)) :: st) z Q := zw_push rfl
theorem s104_3 {x0 x1 x2 x3 : Value} {a : Int32} : ZW zG d 104 3 [x0, x1, x2, x3] (.int a :: st) z Q = ZW zG d 104 4 [x0, x1, zclr x2, .int a] st z Q := zw_next (f := z_istore 3 4) rfl rfl
theorem s104_4 {x0 x1 x2 : Value} {a : Int32} : ZW zG d 104 4 [x0, x1, x2, .int a] st z Q = ZW zG d 104 5 [x0, x1, x2, .int a] (.int a :: st) z Q := zw_next (f := z_iload 3 5) rfl rfl
theorem s104_5 {x0 x1 x2 x3 : Value} : ZW zG d 104 5 [x0, x1, x2, x3] st z Q = (zir x0 = true ∧ ZW zG d 104 6 [x0, x1, x2, x3] (x0 :: st) z Q) := zw_cond (f := z_aload 0 6) rfl rfl
theorem s104_6 {ls : List Value} {r : Nat} : ZW zG d 104 6 ls (.ref r :: st) z Q = ((zcls z r = 10) ∧ ZW zG d 104 9 ls (.int (zfi z r 4) :: st) (z) Q) := zw_getI rfl
theorem s104_9 {ls : List Value} {a b : Int32} : ZW zG d 104 9 ls (.int b :: .int a :: st) z Q = if b ≤ a then ZW zG d 104 56 ls st z Q else ZW zG d 104 12 ls st z Q := zw_icge rfl
theorem s104_12 {x0 x1 x3 : Value} {a : Int32} : ZW zG d 104 12 [x0, x1, .int a, x3] st z Q = ZW zG d 104 13 [x0, x1, .int a, x3] (.int a :: st) z Q := zw_next (f := z_iload 2 13) rfl rfl
theorem s104_13 {x0 x2 x3 : Value} {a : Int32} : ZW zG d 104 13 [x0, .int a, x2, x3] st z Q = ZW zG d 104 14 [x0, .int a, x2, x3] (.int a :: st) z Q := zw_next (f := z_iload 1 14) rfl rfl
theorem s104_14 {x0 x1 x2 : Value} {a : Int32} : ZW zG d 104 14 [x0, x1, x2, .int a] st z Q = ZW zG d 104 15 [x0, x1, x2, .int a] (.int a :: st) z Q := zw_next (f := z_iload 3 15) rfl rfl
theorem s104_15 {ls : List Value} {w0 : Int32} {w1 : Int32} : ZW zG (d + 1) 104 15 ls (.int w1 :: .int w0 :: st) z Q = (zcs st = true ∧ ZC zG d 18 [.int w0, .int w1] z (zk zG (d + 1) 104 (none) 18 ls st Q)) := zc_S2 rfl (Nat.le_of_ble_eq_true rfl)
theorem s104_18 {ls : List Value} {a : Int32} : ZW zG d 104 18 ls (.int a :: st) z Q = if a = 0 then ZW zG d 104 47 ls st z Q else ZW zG d 104 21 ls st z Q := zw_ifeq rfl
theorem s104_21 {x0 x1 x2 x3 : Value} : ZW zG d 104 21 [x0, x1, x2, x3] st z Q = (zir x0 = true ∧ ZW zG d 104 22 [x0, x1, x2, x3] (x0 :: st) z Q) := zw_cond (f := z_aload 0 22) rfl rfl
theorem s104_22 {ls : List Value} {r : Nat} : ZW zG d 104 22 ls (.ref r :: st) z Q = ((zcls z r = 10 ∧ zir (zfr z r 11) = true) ∧ ZW zG d 104 25 ls (zfr z r 11 :: st) (z) Q) := zw_getR rfl
theorem s104_25 {ls : List Value} {r : Nat} : ZW zG d 104 25 ls (.ref r :: st) z Q = ((zcls z r = 0 ∧ zir (zfr z r 1) = true) ∧ ZW zG d 104 28 ls (zfr z r 1 :: st) (z) Q) := zw_getR rfl
theorem s104_28 {ls : List Value} {r : Nat} : ZW zG d 104 28 ls (.ref r :: st) z Q = ((zcls z r = 1 ∧ zir (zfr z r 1) = true) ∧ ZW zG d 104 31 ls (zfr z r 1 :: st) (z) Q) := zw_getR rfl
theorem s104_31 {x0 x1 x2 x3 : Value} : ZW zG d 104 31 [x0, x1, x2, x3] st z Q = (zir x0 = true ∧ ZW zG d 104 32 [x0, x1, x2, x3] (x0 :: st) z Q) := zw_cond (f := z_aload 0 32) rfl rfl
theorem s104_32 {ls : List Value} {r : Nat} : ZW zG d 104 32 ls (.ref r :: st) z Q = ((zcls z r = 10) ∧ ZW zG d 104 35 ls (.int (zfi z r 10) :: st) (z) Q) := zw_getI rfl
theorem s104_35 {x0 x1 x2 x3 : Value} : ZW zG d 104 35 [x0, x1, x2, x3] st z Q = (zir x0 = true ∧ ZW zG d 104 36 [x0, x1, x2, x3] (x0 :: st) z Q) := zw_cond (f := z_aload 0 36) rfl rfl
theorem s104_36 {ls : List Value} {r : Nat} : ZW zG d 104 36 ls (.ref r :: st) z Q = ((zcls z r = 10 ∧ zir (zfr z r 0) = true) ∧ ZW zG d 104 39 ls (zfr z r 0 :: st) (z) Q) := zw_getR rfl
theorem s104_39 {x0 x1 x2 : Value} {a : Int32} : ZW zG d 104 39 [x0, x1, x2, .int a] st z Q = ZW zG d 104 40 [x0, x1, x2, .int a] (.int a :: st) z Q := zw_next (f := z_iload 3 40) rfl rfl
theorem s104_40 {ls : List Value} {a : Int32} {r : Nat} : ZW zG d 104 40 ls (.int a :: .ref r :: st) z Q = ((zcls z r = 50 ∧ zin a (zlen z r) = true) ∧ ZW zG d 104 41 ls (.int (zia z r (zx a)) :: st) (z) Q) := zw_iald rfl
theorem s104_41 {ls : List Value} {w0 : Int32} {w1 : Int32} {r : Nat} : ZW zG (d + 1) 104 41 ls (.int w1 :: .int w0 :: .ref r :: st) z Q = (zcls z r = 3 ∧ zcs st = true ∧ ZC zG d 76 [.ref r, .int w0, .int w1] z (zk zG (d + 1) 104 (none) 44 ls st Q)) := zc_V2 rfl (Nat.le_of_ble_eq_true rfl)
theorem s104_44 {ls : List Value}  : ZW zG d 104 44 ls (st) z Q = ZW zG d 104 48 ls st z Q := zw_goto rfl
theorem s104_47 {ls : List Value}  : ZW zG d 104 47 ls (st) z Q = ZW zG d 104 48 ls ((.int (nI 0)) :: st) z Q := zw_push rfl
theorem s104_48 {ls : List Value} {a b : Int32} : ZW zG d 104 48 ls (.int b :: .int a :: st) z Q = ZW zG d 104 49 ls (.int (a + b) :: st) z Q := zw_iadd rfl
theorem s104_49 {x0 x1 x2 x3 : Value} {a : Int32} : ZW zG d 104 49 [x0, x1, x2, x3] (.int a :: st) z Q = ZW zG d 104 50 [x0, zclr x1, .int a, x3] st z Q := zw_next (f := z_istore 2 50) rfl rfl
theorem s104_50 {x0 x1 x2 : Value} {a : Int32} : ZW zG d 104 50 [x0, x1, x2, .int a] st z Q = ZW zG d 104 53 [x0, x1, zclr x2, .int (a + (nI 1))] st z Q := zw_next (f := z_iinc 3 (nI 1) 53) rfl rfl
theorem s104_53 {ls : List Value}  : ZW zG d 104 53 ls (st) z Q = ZW zG d 104 4 ls st z Q := zw_goto rfl
theorem s104_56 {x0 x1 x3 : Value} {a : Int32} : ZW zG d 104 56 [x0, x1, .int a, x3] st z Q = ZW zG d 104 57 [x0, x1, .int a, x3] (.int a :: st) z Q := zw_next (f := z_iload 2 57) rfl rfl
theorem s104_57 {ls : List Value} {a : Int32} : ZW zG d 104 57 ls ([.int a]) z Q = Q (.inl (some (.int a))) z := zw_reti rfl
/-- X10_bits (I)I -/
theorem e105 {r0 : Nat} {v0 : Int32} : ZC zG d 105 [.ref r0, .int v0] z Q = ZW zG d 105 0 [.ref r0, .int v0, zdum, zdum] [] z Q := rfl
theorem s105_0 {ls : List Value}  : ZW zG d 105 0 ls (st) z Q = ZW zG d 105 1 ls ((.int (nI 0)) :: st) z Q := zw_push rfl
theorem s105_1 {x0 x1 x2 x3 : Value} {a : Int32} : ZW zG d 105 1 [x0, x1, x2, x3] (.int a :: st) z Q = ZW zG d 105 2 [x0, zclr x1, .int a, x3] st z Q := zw_next (f := z_istore 2 2) rfl rfl
theorem s105_2 {ls : List Value}  : ZW zG d 105 2 ls (st) z Q = ZW zG d 105 3 ls ((.int (nI 0)) :: st) z Q := zw_push rfl
theorem s105_3 {x0 x1 x2 x3 : Value} {a : Int32} : ZW zG d 105 3 [x0, x1, x2, x3] (.int a :: st) z Q = ZW zG d 105 4 [x0, x1, zclr x2, .int a] st z Q := zw_next (f := z_istore 3 4) rfl rfl
theorem s105_4 {x0 x1 x2 : Value} {a : Int32} : ZW zG d 105 4 [x0, x1, x2, .int a] st z Q = ZW zG d 105 5 [x0, x1, x2, .int a] (.int a :: st) z Q := zw_next (f := z_iload 3 5) rfl rfl
theorem s105_5 {x0 x1 x2 x3 : Value} : ZW zG d 105 5 [x0, x1, x2, x3] st z Q = (zir x0 = true ∧ ZW zG d 105 6 [x0, x1, x2, x3] (x0 :: st) z Q) := zw_cond (f := z_aload 0 6) rfl rfl
theorem s105_6 {ls : List Value} {r : Nat} : ZW zG d 105 6 ls (.ref r :: st) z Q = ((zcls z r = 10) ∧ ZW zG d 105 9 ls (.int (zfi z r 4) :: st) (z) Q) := zw_getI rfl
theorem s105_9 {ls : List Value} {a b : Int32} : ZW zG d 105 9 ls (.int b :: .int a :: st) z Q = if b ≤ a then ZW zG d 105 41 ls st z Q else ZW zG d 105 12 ls st z Q := zw_icge rfl
theorem s105_12 {x0 x1 x3 : Value} {a : Int32} : ZW zG d 105 12 [x0, x1, .int a, x3] st z Q = ZW zG d 105 13 [x0, x1, .int a, x3] (.int a :: st) z Q := zw_next (f := z_iload 2 13) rfl rfl
theorem s105_13 {x0 x2 x3 : Value} {a : Int32} : ZW zG d 105 13 [x0, .int a, x2, x3] st z Q = ZW zG d 105 14 [x0, .int a, x2, x3] (.int a :: st) z Q := zw_next (f := z_iload 1 14) rfl rfl
theorem s105_14 {x0 x1 x2 : Value} {a : Int32} : ZW zG d 105 14 [x0, x1, x2, .int a] st z Q = ZW zG d 105 15 [x0, x1, x2, .int a] (.int a :: st) z Q := zw_next (f := z_iload 3 15) rfl rfl
theorem s105_15 {ls : List Value} {w0 : Int32} {w1 : Int32} : ZW zG (d + 1) 105 15 ls (.int w1 :: .int w0 :: st) z Q = (zcs st = true ∧ ZC zG d 18 [.int w0, .int w1] z (zk zG (d + 1) 105 (none) 18 ls st Q)) := zc_S2 rfl (Nat.le_of_ble_eq_true rfl)
theorem s105_18 {ls : List Value} {a : Int32} : ZW zG d 105 18 ls (.int a :: st) z Q = if a = 0 then ZW zG d 105 32 ls st z Q else ZW zG d 105 21 ls st z Q := zw_ifeq rfl
theorem s105_21 {ls : List Value}  : ZW zG d 105 21 ls (st) z Q = ZW zG d 105 22 ls ((.int (nI 1)) :: st) z Q := zw_push rfl
theorem s105_22 {x0 x1 x2 x3 : Value} : ZW zG d 105 22 [x0, x1, x2, x3] st z Q = (zir x0 = true ∧ ZW zG d 105 23 [x0, x1, x2, x3] (x0 :: st) z Q) := zw_cond (f := z_aload 0 23) rfl rfl
theorem s105_23 {ls : List Value} {r : Nat} : ZW zG d 105 23 ls (.ref r :: st) z Q = ((zcls z r = 10 ∧ zir (zfr z r 0) = true) ∧ ZW zG d 105 26 ls (zfr z r 0 :: st) (z) Q) := zw_getR rfl
theorem s105_26 {x0 x1 x2 : Value} {a : Int32} : ZW zG d 105 26 [x0, x1, x2, .int a] st z Q = ZW zG d 105 27 [x0, x1, x2, .int a] (.int a :: st) z Q := zw_next (f := z_iload 3 27) rfl rfl
theorem s105_27 {ls : List Value} {a : Int32} {r : Nat} : ZW zG d 105 27 ls (.int a :: .ref r :: st) z Q = ((zcls z r = 50 ∧ zin a (zlen z r) = true) ∧ ZW zG d 105 28 ls (.int (zia z r (zx a)) :: st) (z) Q) := zw_iald rfl
theorem s105_28 {ls : List Value} {a b : Int32} : ZW zG d 105 28 ls (.int b :: .int a :: st) z Q = ZW zG d 105 29 ls (.int (a <<< (b &&& 31)) :: st) z Q := zw_ishl rfl
theorem s105_29 {ls : List Value}  : ZW zG d 105 29 ls (st) z Q = ZW zG d 105 33 ls st z Q := zw_goto rfl
theorem s105_32 {ls : List Value}  : ZW zG d 105 32 ls (st) z Q = ZW zG d 105 33 ls ((.int (nI 0)) :: st) z Q := zw_push rfl
theorem s105_33 {ls : List Value} {a b : Int32} : ZW zG d 105 33 ls (.int b :: .int a :: st) z Q = ZW zG d 105 34 ls (.int (a ||| b) :: st) z Q := zw_ior rfl
theorem s105_34 {x0 x1 x2 x3 : Value} {a : Int32} : ZW zG d 105 34 [x0, x1, x2, x3] (.int a :: st) z Q = ZW zG d 105 35 [x0, zclr x1, .int a, x3] st z Q := zw_next (f := z_istore 2 35) rfl rfl
theorem s105_35 {x0 x1 x2 : Value} {a : Int32} : ZW zG d 105 35 [x0, x1, x2, .int a] st z Q = ZW zG d 105 38 [x0, x1, zclr x2, .int (a + (nI 1))] st z Q := zw_next (f := z_iinc 3 (nI 1) 38) rfl rfl
theorem s105_38 {ls : List Value}  : ZW zG d 105 38 ls (st) z Q = ZW zG d 105 4 ls st z Q := zw_goto rfl
theorem s105_41 {x0 x1 x3 : Value} {a : Int32} : ZW zG d 105 41 [x0, x1, .int a, x3] st z Q = ZW zG d 105 42 [x0, x1, .int a, x3] (.int a :: st) z Q := zw_next (f := z_iload 2 42) rfl rfl
theorem s105_42 {ls : List Value} {a : Int32} : ZW zG d 105 42 ls ([.int a]) z Q = Q (.inl (some (.int a))) z := zw_reti rfl
/-- X10_rows ()V -/
theorem e106 {r0 : Nat} : ZC zG d 106 [.ref r0] z Q = ZW zG d 106 0 [.ref r0, zdum, zdum, zdum, zdum, zdum, zdum, zdum, zdum] [] z Q := rfl
theorem s106_0 {x0 x1 x2 x3 x4 x5 x6 x7 x8 : Value} : ZW zG d 106 0 [x0, x1, x2, x3, x4, x5, x6, x7, x8] st z Q = (zir x0 = true ∧ ZW zG d 106 1 [x0, x1, x2, x3, x4, x5, x6, x7, x8] (x0 :: st) z Q) := zw_cond (f := z_aload 0 1) rfl rfl
theorem s106_1 {ls : List Value} {r : Nat} : ZW zG d 106 1 ls (.ref r :: st) z Q = ((zcls z r = 10) ∧ ZW zG d 106 4 ls (.int (zfi z r 6) :: st) (z) Q) := zw_getI rfl
theorem s106_4 {x0 x1 x2 x3 x4 x5 x6 x7 x8 : Value} {a : Int32} : ZW zG d 106 4 [x0, x1, x2, x3, x4, x5, x6, x7, x8] (.int a :: st) z Q = ZW zG d 106 5 [zclr x0, .int a, x2, x3, x4, x5, x6, x7, x8] st z Q := zw_next (f := z_istore 1 5) rfl rfl
theorem s106_5 {ls : List Value}  : ZW zG d 106 5 ls (st) z Q = ZW zG d 106 6 ls ((.int (nI 1)) :: st) z Q := zw_push rfl
theorem s106_6 {x0 x1 x2 x3 x4 x5 x6 x7 x8 : Value} : ZW zG d 106 6 [x0, x1, x2, x3, x4, x5, x6, x7, x8] st z Q = (zir x0 = true ∧ ZW zG d 106 7 [x0, x1, x2, x3, x4, x5, x6, x7, x8] (x0 :: st) z Q) := zw_cond (f := z_aload 0 7) rfl rfl
theorem s106_7 {ls : List Value} {r : Nat} : ZW zG d 106 7 ls (.ref r :: st) z Q = ((zcls z r = 10) ∧ ZW zG d 106 10 ls (.int (zfi z r 4) :: st) (z) Q) := zw_getI rfl
theorem s106_10 {ls : List Value} {a b : Int32} : ZW zG d 106 10 ls (.int b :: .int a :: st) z Q = ZW zG d 106 11 ls (.int (a <<< (b &&& 31)) :: st) z Q := zw_ishl rfl
theorem s106_11 {ls : List Value}  : ZW zG d 106 11 ls (st) z Q = ZW zG d 106 12 ls ((.int (nI 1)) :: st) z Q := zw_push rfl
theorem s106_12 {ls : List Value} {a b : Int32} : ZW zG d 106 12 ls (.int b :: .int a :: st) z Q = ZW zG d 106 13 ls (.int (a - b) :: st) z Q := zw_isub rfl
theorem s106_13 {x0 x1 x2 x3 x4 x5 x6 x7 x8 : Value} {a : Int32} : ZW zG d 106 13 [x0, x1, x2, x3, x4, x5, x6, x7, x8] (.int a :: st) z Q = ZW zG d 106 14 [x0, zclr x1, .int a, x3, x4, x5, x6, x7, x8] st z Q := zw_next (f := z_istore 2 14) rfl rfl
theorem s106_14 {x0 x1 x3 x4 x5 x6 x7 x8 : Value} {a : Int32} : ZW zG d 106 14 [x0, x1, .int a, x3, x4, x5, x6, x7, x8] st z Q = ZW zG d 106 15 [x0, x1, .int a, x3, x4, x5, x6, x7, x8] (.int a :: st) z Q := zw_next (f := z_iload 2 15) rfl rfl
theorem s106_15 {ls : List Value} {a : Int32} : ZW zG d 106 15 ls (.int a :: st) z Q = if a ≤ 0 then ZW zG d 106 187 ls st z Q else ZW zG d 106 18 ls st z Q := zw_ifle rfl
theorem s106_18 {x0 x1 x3 x4 x5 x6 x7 x8 : Value} {a : Int32} : ZW zG d 106 18 [x0, x1, .int a, x3, x4, x5, x6, x7, x8] st z Q = ZW zG d 106 19 [x0, x1, .int a, x3, x4, x5, x6, x7, x8] (.int a :: st) z Q := zw_next (f := z_iload 2 19) rfl rfl
theorem s106_19 {x0 x2 x3 x4 x5 x6 x7 x8 : Value} {a : Int32} : ZW zG d 106 19 [x0, .int a, x2, x3, x4, x5, x6, x7, x8] st z Q = ZW zG d 106 20 [x0, .int a, x2, x3, x4, x5, x6, x7, x8] (.int a :: st) z Q := zw_next (f := z_iload 1 20) rfl rfl
theorem s106_20 {ls : List Value}  : ZW zG d 106 20 ls (st) z Q = ZW zG d 106 21 ls ((.int (-1)) :: st) z Q := zw_push rfl
theorem s106_21 {ls : List Value} {a b : Int32} : ZW zG d 106 21 ls (.int b :: .int a :: st) z Q = ZW zG d 106 22 ls (.int (a ^^^ b) :: st) z Q := zw_ixor rfl
theorem s106_22 {ls : List Value} {a b : Int32} : ZW zG d 106 22 ls (.int b :: .int a :: st) z Q = ZW zG d 106 23 ls (.int (a &&& b) :: st) z Q := zw_iand rfl
theorem s106_23 {ls : List Value} {a : Int32} : ZW zG d 106 23 ls (.int a :: st) z Q = if a = 0 then ZW zG d 106 29 ls st z Q else ZW zG d 106 26 ls st z Q := zw_ifeq rfl
theorem s106_26 {ls : List Value}  : ZW zG d 106 26 ls (st) z Q = ZW zG d 106 181 ls st z Q := zw_goto rfl
theorem s106_29 {ls : List Value}  : ZW zG d 106 29 ls (st) z Q = ZW zG d 106 30 ls ((.int (nI 0)) :: st) z Q := zw_push rfl
theorem s106_30 {x0 x1 x2 x3 x4 x5 x6 x7 x8 : Value} {a : Int32} : ZW zG d 106 30 [x0, x1, x2, x3, x4, x5, x6, x7, x8] (.int a :: st) z Q = ZW zG d 106 31 [x0, x1, zclr x2, .int a, x4, x5, x6, x7, x8] st z Q := zw_next (f := z_istore 3 31) rfl rfl
theorem s106_31 {x0 x1 x2 x4 x5 x6 x7 x8 : Value} {a : Int32} : ZW zG d 106 31 [x0, x1, x2, .int a, x4, x5, x6, x7, x8] st z Q = ZW zG d 106 32 [x0, x1, x2, .int a, x4, x5, x6, x7, x8] (.int a :: st) z Q := zw_next (f := z_iload 3 32) rfl rfl
theorem s106_32 {x0 x1 x2 x3 x4 x5 x6 x7 x8 : Value} : ZW zG d 106 32 [x0, x1, x2, x3, x4, x5, x6, x7, x8] st z Q = (zir x0 = true ∧ ZW zG d 106 33 [x0, x1, x2, x3, x4, x5, x6, x7, x8] (x0 :: st) z Q) := zw_cond (f := z_aload 0 33) rfl rfl
theorem s106_33 {ls : List Value} {r : Nat} : ZW zG d 106 33 ls (.ref r :: st) z Q = ((zcls z r = 10) ∧ ZW zG d 106 36 ls (.int (zfi z r 4) :: st) (z) Q) := zw_getI rfl
theorem s106_36 {ls : List Value} {a b : Int32} : ZW zG d 106 36 ls (.int b :: .int a :: st) z Q = if b ≤ a then ZW zG d 106 181 ls st z Q else ZW zG d 106 39 ls st z Q := zw_icge rfl
theorem s106_39 {x0 x1 x3 x4 x5 x6 x7 x8 : Value} {a : Int32} : ZW zG d 106 39 [x0, x1, .int a, x3, x4, x5, x6, x7, x8] st z Q = ZW zG d 106 40 [x0, x1, .int a, x3, x4, x5, x6, x7, x8] (.int a :: st) z Q := zw_next (f := z_iload 2 40) rfl rfl
theorem s106_40 {x0 x2 x3 x4 x5 x6 x7 x8 : Value} {a : Int32} : ZW zG d 106 40 [x0, .int a, x2, x3, x4, x5, x6, x7, x8] st z Q = ZW zG d 106 41 [x0, .int a, x2, x3, x4, x5, x6, x7, x8] (.int a :: st) z Q := zw_next (f := z_iload 1 41) rfl rfl
theorem s106_41 {ls : List Value} {a b : Int32} : ZW zG d 106 41 ls (.int b :: .int a :: st) z Q = if ¬ a = b then ZW zG d 106 51 ls st z Q else ZW zG d 106 44 ls st z Q := zw_icne rfl
theorem s106_44 {x0 x1 x2 x3 x4 x5 x6 x7 x8 : Value} : ZW zG d 106 44 [x0, x1, x2, x3, x4, x5, x6, x7, x8] st z Q = (zir x0 = true ∧ ZW zG d 106 45 [x0, x1, x2, x3, x4, x5, x6, x7, x8] (x0 :: st) z Q) := zw_cond (f := z_aload 0 45) rfl rfl
theorem s106_45 {ls : List Value} {r : Nat} : ZW zG d 106 45 ls (.ref r :: st) z Q = ((zcls z r = 10) ∧ ZW zG d 106 48 ls (.int (zfi z r 7) :: st) (z) Q) := zw_getI rfl
theorem s106_48 {ls : List Value}  : ZW zG d 106 48 ls (st) z Q = ZW zG d 106 52 ls st z Q := zw_goto rfl
theorem s106_51 {ls : List Value}  : ZW zG d 106 51 ls (st) z Q = ZW zG d 106 52 ls ((.int (-1)) :: st) z Q := zw_push rfl
theorem s106_52 {x0 x1 x2 x3 x4 x5 x6 x7 x8 : Value} {a : Int32} : ZW zG d 106 52 [x0, x1, x2, x3, x4, x5, x6, x7, x8] (.int a :: st) z Q = ZW zG d 106 54 [x0, x1, x2, zclr x3, .int a, x5, x6, x7, x8] st z Q := zw_next (f := z_istore 4 54) rfl rfl
theorem s106_54 {ls : List Value}  : ZW zG d 106 54 ls (st) z Q = ZW zG d 106 55 ls ((.int (nI 0)) :: st) z Q := zw_push rfl
theorem s106_55 {x0 x1 x2 x3 x4 x5 x6 x7 x8 : Value} {a : Int32} : ZW zG d 106 55 [x0, x1, x2, x3, x4, x5, x6, x7, x8] (.int a :: st) z Q = ZW zG d 106 57 [x0, x1, x2, x3, zclr x4, .int a, x6, x7, x8] st z Q := zw_next (f := z_istore 5 57) rfl rfl
theorem s106_57 {x0 x1 x2 x3 x4 x6 x7 x8 : Value} {a : Int32} : ZW zG d 106 57 [x0, x1, x2, x3, x4, .int a, x6, x7, x8] st z Q = ZW zG d 106 59 [x0, x1, x2, x3, x4, .int a, x6, x7, x8] (.int a :: st) z Q := zw_next (f := z_iload 5 59) rfl rfl
theorem s106_59 {x0 x1 x2 x3 x4 x5 x6 x7 x8 : Value} : ZW zG d 106 59 [x0, x1, x2, x3, x4, x5, x6, x7, x8] st z Q = (zir x0 = true ∧ ZW zG d 106 60 [x0, x1, x2, x3, x4, x5, x6, x7, x8] (x0 :: st) z Q) := zw_cond (f := z_aload 0 60) rfl rfl
theorem s106_60 {ls : List Value} {r : Nat} : ZW zG d 106 60 ls (.ref r :: st) z Q = ((zcls z r = 10) ∧ ZW zG d 106 63 ls (.int (zfi z r 4) :: st) (z) Q) := zw_getI rfl
theorem s106_63 {ls : List Value} {a b : Int32} : ZW zG d 106 63 ls (.int b :: .int a :: st) z Q = if b ≤ a then ZW zG d 106 162 ls st z Q else ZW zG d 106 66 ls st z Q := zw_icge rfl
theorem s106_66 {x0 x2 x3 x4 x5 x6 x7 x8 : Value} {a : Int32} : ZW zG d 106 66 [x0, .int a, x2, x3, x4, x5, x6, x7, x8] st z Q = ZW zG d 106 67 [x0, .int a, x2, x3, x4, x5, x6, x7, x8] (.int a :: st) z Q := zw_next (f := z_iload 1 67) rfl rfl
theorem s106_67 {x0 x1 x2 x3 x4 x6 x7 x8 : Value} {a : Int32} : ZW zG d 106 67 [x0, x1, x2, x3, x4, .int a, x6, x7, x8] st z Q = ZW zG d 106 69 [x0, x1, x2, x3, x4, .int a, x6, x7, x8] (.int a :: st) z Q := zw_next (f := z_iload 5 69) rfl rfl
theorem s106_69 {ls : List Value} {w0 : Int32} {w1 : Int32} : ZW zG (d + 1) 106 69 ls (.int w1 :: .int w0 :: st) z Q = (zcs st = true ∧ ZC zG d 18 [.int w0, .int w1] z (zk zG (d + 1) 106 (none) 72 ls st Q)) := zc_S2 rfl (Nat.le_of_ble_eq_true rfl)
theorem s106_72 {ls : List Value} {a : Int32} : ZW zG d 106 72 ls (.int a :: st) z Q = if a = 0 then ZW zG d 106 156 ls st z Q else ZW zG d 106 75 ls st z Q := zw_ifeq rfl
theorem s106_75 {x0 x1 x3 x4 x5 x6 x7 x8 : Value} {a : Int32} : ZW zG d 106 75 [x0, x1, .int a, x3, x4, x5, x6, x7, x8] st z Q = ZW zG d 106 76 [x0, x1, .int a, x3, x4, x5, x6, x7, x8] (.int a :: st) z Q := zw_next (f := z_iload 2 76) rfl rfl
theorem s106_76 {x0 x1 x2 x3 x4 x6 x7 x8 : Value} {a : Int32} : ZW zG d 106 76 [x0, x1, x2, x3, x4, .int a, x6, x7, x8] st z Q = ZW zG d 106 78 [x0, x1, x2, x3, x4, .int a, x6, x7, x8] (.int a :: st) z Q := zw_next (f := z_iload 5 78) rfl rfl
theorem s106_78 {ls : List Value} {w0 : Int32} {w1 : Int32} : ZW zG (d + 1) 106 78 ls (.int w1 :: .int w0 :: st) z Q = (zcs st = true ∧ ZC zG d 18 [.int w0, .int w1] z (zk zG (d + 1) 106 (none) 81 ls st Q)) := zc_S2 rfl (Nat.le_of_ble_eq_true rfl)
theorem s106_81 {ls : List Value} {a : Int32} : ZW zG d 106 81 ls (.int a :: st) z Q = if ¬ a = 0 then ZW zG d 106 156 ls st z Q else ZW zG d 106 84 ls st z Q := zw_ifne rfl
theorem s106_84 {x0 x1 x2 x3 x4 x5 x6 x7 x8 : Value} : ZW zG d 106 84 [x0, x1, x2, x3, x4, x5, x6, x7, x8] st z Q = (zir x0 = true ∧ ZW zG d 106 85 [x0, x1, x2, x3, x4, x5, x6, x7, x8] (x0 :: st) z Q) := zw_cond (f := z_aload 0 85) rfl rfl
theorem s106_85 {ls : List Value} {r : Nat} : ZW zG d 106 85 ls (.ref r :: st) z Q = ((zcls z r = 10 ∧ zir (zfr z r 2) = true) ∧ ZW zG d 106 88 ls (zfr z r 2 :: st) (z) Q) := zw_getR rfl
theorem s106_88 {ls : List Value}  : ZW zG d 106 88 ls (st) z Q = ZW zG d 106 90 ls ((.int (nI 10)) :: st) z Q := zw_push rfl
theorem s106_90 {x0 x1 x3 x4 x5 x6 x7 x8 : Value} {a : Int32} : ZW zG d 106 90 [x0, x1, .int a, x3, x4, x5, x6, x7, x8] st z Q = ZW zG d 106 91 [x0, x1, .int a, x3, x4, x5, x6, x7, x8] (.int a :: st) z Q := zw_next (f := z_iload 2 91) rfl rfl
theorem s106_91 {ls : List Value}  : ZW zG d 106 91 ls (st) z Q = ZW zG d 106 92 ls ((.int (nI 1)) :: st) z Q := zw_push rfl
theorem s106_92 {x0 x1 x2 x3 x4 x6 x7 x8 : Value} {a : Int32} : ZW zG d 106 92 [x0, x1, x2, x3, x4, .int a, x6, x7, x8] st z Q = ZW zG d 106 94 [x0, x1, x2, x3, x4, .int a, x6, x7, x8] (.int a :: st) z Q := zw_next (f := z_iload 5 94) rfl rfl
theorem s106_94 {ls : List Value} {a b : Int32} : ZW zG d 106 94 ls (.int b :: .int a :: st) z Q = ZW zG d 106 95 ls (.int (a <<< (b &&& 31)) :: st) z Q := zw_ishl rfl
theorem s106_95 {ls : List Value} {a b : Int32} : ZW zG d 106 95 ls (.int b :: .int a :: st) z Q = ZW zG d 106 96 ls (.int (a ||| b) :: st) z Q := zw_ior rfl
theorem s106_96 {ls : List Value} {a b : Int32} : ZW zG d 106 96 ls (.int b :: .int a :: st) z Q = ZW zG d 106 97 ls (.int (a * b) :: st) z Q := zw_imul rfl
theorem s106_97 {x0 x1 x2 x3 x4 x6 x7 x8 : Value} {a : Int32} : ZW zG d 106 97 [x0, x1, x2, x3, x4, .int a, x6, x7, x8] st z Q = ZW zG d 106 99 [x0, x1, x2, x3, x4, .int a, x6, x7, x8] (.int a :: st) z Q := zw_next (f := z_iload 5 99) rfl rfl
theorem s106_99 {ls : List Value} {a b : Int32} : ZW zG d 106 99 ls (.int b :: .int a :: st) z Q = ZW zG d 106 100 ls (.int (a + b) :: st) z Q := zw_iadd rfl
theorem s106_100 {ls : List Value} {a : Int32} {r : Nat} : ZW zG d 106 100 ls (.int a :: .ref r :: st) z Q = ((zcls z r = 50 ∧ zin a (zlen z r) = true) ∧ ZW zG d 106 101 ls (.int (zia z r (zx a)) :: st) (z) Q) := zw_iald rfl
theorem s106_101 {ls : List Value} {a : Int32} : ZW zG d 106 101 ls (.int a :: st) z Q = if 0 ≤ a then ZW zG d 106 107 ls st z Q else ZW zG d 106 104 ls st z Q := zw_ifge rfl
theorem s106_104 {ls : List Value}  : ZW zG d 106 104 ls (st) z Q = ZW zG d 106 156 ls st z Q := zw_goto rfl
theorem s106_107 {x0 x1 x2 x3 x5 x6 x7 x8 : Value} {a : Int32} : ZW zG d 106 107 [x0, x1, x2, x3, .int a, x5, x6, x7, x8] st z Q = ZW zG d 106 109 [x0, x1, x2, x3, .int a, x5, x6, x7, x8] (.int a :: st) z Q := zw_next (f := z_iload 4 109) rfl rfl
theorem s106_109 {x0 x1 x2 x3 x4 x5 x6 x7 x8 : Value} : ZW zG d 106 109 [x0, x1, x2, x3, x4, x5, x6, x7, x8] st z Q = (zir x0 = true ∧ ZW zG d 106 110 [x0, x1, x2, x3, x4, x5, x6, x7, x8] (x0 :: st) z Q) := zw_cond (f := z_aload 0 110) rfl rfl
theorem s106_110 {x0 x1 x2 x3 x4 x5 x6 x7 x8 : Value} : ZW zG d 106 110 [x0, x1, x2, x3, x4, x5, x6, x7, x8] st z Q = (zir x0 = true ∧ ZW zG d 106 111 [x0, x1, x2, x3, x4, x5, x6, x7, x8] (x0 :: st) z Q) := zw_cond (f := z_aload 0 111) rfl rfl
theorem s106_111 {ls : List Value} {r : Nat} : ZW zG d 106 111 ls (.ref r :: st) z Q = ((zcls z r = 10 ∧ zir (zfr z r 2) = true) ∧ ZW zG d 106 114 ls (zfr z r 2 :: st) (z) Q) := zw_getR rfl
theorem s106_114 {ls : List Value}  : ZW zG d 106 114 ls (st) z Q = ZW zG d 106 116 ls ((.int (nI 10)) :: st) z Q := zw_push rfl
theorem s106_116 {x0 x1 x3 x4 x5 x6 x7 x8 : Value} {a : Int32} : ZW zG d 106 116 [x0, x1, .int a, x3, x4, x5, x6, x7, x8] st z Q = ZW zG d 106 117 [x0, x1, .int a, x3, x4, x5, x6, x7, x8] (.int a :: st) z Q := zw_next (f := z_iload 2 117) rfl rfl
theorem s106_117 {ls : List Value}  : ZW zG d 106 117 ls (st) z Q = ZW zG d 106 118 ls ((.int (nI 1)) :: st) z Q := zw_push rfl
theorem s106_118 {x0 x1 x2 x3 x4 x6 x7 x8 : Value} {a : Int32} : ZW zG d 106 118 [x0, x1, x2, x3, x4, .int a, x6, x7, x8] st z Q = ZW zG d 106 120 [x0, x1, x2, x3, x4, .int a, x6, x7, x8] (.int a :: st) z Q := zw_next (f := z_iload 5 120) rfl rfl
theorem s106_120 {ls : List Value} {a b : Int32} : ZW zG d 106 120 ls (.int b :: .int a :: st) z Q = ZW zG d 106 121 ls (.int (a <<< (b &&& 31)) :: st) z Q := zw_ishl rfl
theorem s106_121 {ls : List Value} {a b : Int32} : ZW zG d 106 121 ls (.int b :: .int a :: st) z Q = ZW zG d 106 122 ls (.int (a ||| b) :: st) z Q := zw_ior rfl
theorem s106_122 {ls : List Value} {a b : Int32} : ZW zG d 106 122 ls (.int b :: .int a :: st) z Q = ZW zG d 106 123 ls (.int (a * b) :: st) z Q := zw_imul rfl
theorem s106_123 {x0 x1 x2 x3 x4 x6 x7 x8 : Value} {a : Int32} : ZW zG d 106 123 [x0, x1, x2, x3, x4, .int a, x6, x7, x8] st z Q = ZW zG d 106 125 [x0, x1, x2, x3, x4, .int a, x6, x7, x8] (.int a :: st) z Q := zw_next (f := z_iload 5 125) rfl rfl
theorem s106_125 {ls : List Value} {a b : Int32} : ZW zG d 106 125 ls (.int b :: .int a :: st) z Q = ZW zG d 106 126 ls (.int (a + b) :: st) z Q := zw_iadd rfl
theorem s106_126 {ls : List Value} {a : Int32} {r : Nat} : ZW zG d 106 126 ls (.int a :: .ref r :: st) z Q = ((zcls z r = 50 ∧ zin a (zlen z r) = true) ∧ ZW zG d 106 127 ls (.int (zia z r (zx a)) :: st) (z) Q) := zw_iald rfl
theorem s106_127 {x0 x1 x2 x3 x4 x5 x6 x7 x8 : Value} : ZW zG d 106 127 [x0, x1, x2, x3, x4, x5, x6, x7, x8] st z Q = (zir x0 = true ∧ ZW zG d 106 128 [x0, x1, x2, x3, x4, x5, x6, x7, x8] (x0 :: st) z Q) := zw_cond (f := z_aload 0 128) rfl rfl
theorem s106_128 {x0 x1 x2 x4 x5 x6 x7 x8 : Value} {a : Int32} : ZW zG d 106 128 [x0, x1, x2, .int a, x4, x5, x6, x7, x8] st z Q = ZW zG d 106 129 [x0, x1, x2, .int a, x4, x5, x6, x7, x8] (.int a :: st) z Q := zw_next (f := z_iload 3 129) rfl rfl
theorem s106_129 {ls : List Value} {w0 : Int32} {r : Nat} : ZW zG (d + 1) 106 129 ls (.int w0 :: .ref r :: st) z Q = (zcls z r = 10 ∧ zcs st = true ∧ ZC zG d 99 [.ref r, .int w0] z (zk zG (d + 1) 106 (none) 132 ls st Q)) := zc_V1 rfl (Nat.le_of_ble_eq_true rfl)
theorem s106_132 {x0 x1 x2 x3 x4 x5 x6 x7 x8 : Value} : ZW zG d 106 132 [x0, x1, x2, x3, x4, x5, x6, x7, x8] st z Q = (zir x0 = true ∧ ZW zG d 106 133 [x0, x1, x2, x3, x4, x5, x6, x7, x8] (x0 :: st) z Q) := zw_cond (f := z_aload 0 133) rfl rfl
theorem s106_133 {x0 x1 x2 x3 x4 x6 x7 x8 : Value} {a : Int32} : ZW zG d 106 133 [x0, x1, x2, x3, x4, .int a, x6, x7, x8] st z Q = ZW zG d 106 135 [x0, x1, x2, x3, x4, .int a, x6, x7, x8] (.int a :: st) z Q := zw_next (f := z_iload 5 135) rfl rfl
theorem s106_135 {ls : List Value} {w0 : Int32} {r : Nat} : ZW zG (d + 1) 106 135 ls (.int w0 :: .ref r :: st) z Q = (zcls z r = 10 ∧ zcs st = true ∧ ZC zG d 99 [.ref r, .int w0] z (zk zG (d + 1) 106 (none) 138 ls st Q)) := zc_V1 rfl (Nat.le_of_ble_eq_true rfl)
theorem s106_138 {ls : List Value} {w0 : Nat} {r : Nat} : ZW zG (d + 1) 106 138 ls (.ref w0 :: .ref r :: st) z Q = (zcls z r = 21 ∧ zcs st = true ∧ ZC zG d 248 [.ref r, .ref w0] z (zk zG (d + 1) 106 (none) 141 ls st Q)) := zc_V1 rfl (Nat.le_of_ble_eq_true rfl)
theorem s106_141 {x0 x1 x2 x3 x4 x5 x6 x7 x8 : Value} : ZW zG d 106 141 [x0, x1, x2, x3, x4, x5, x6, x7, x8] st z Q = (zir x0 = true ∧ ZW zG d 106 142 [x0, x1, x2, x3, x4, x5, x6, x7, x8] (x0 :: st) z Q) := zw_cond (f := z_aload 0 142) rfl rfl
theorem s106_142 {ls : List Value} {r : Nat} : ZW zG d 106 142 ls (.ref r :: st) z Q = ((zcls z r = 10 ∧ zir (zfr z r 0) = true) ∧ ZW zG d 106 145 ls (zfr z r 0 :: st) (z) Q) := zw_getR rfl
theorem s106_145 {x0 x1 x2 x3 x4 x6 x7 x8 : Value} {a : Int32} : ZW zG d 106 145 [x0, x1, x2, x3, x4, .int a, x6, x7, x8] st z Q = ZW zG d 106 147 [x0, x1, x2, x3, x4, .int a, x6, x7, x8] (.int a :: st) z Q := zw_next (f := z_iload 5 147) rfl rfl
theorem s106_147 {ls : List Value} {a : Int32} {r : Nat} : ZW zG d 106 147 ls (.int a :: .ref r :: st) z Q = ((zcls z r = 50 ∧ zin a (zlen z r) = true) ∧ ZW zG d 106 148 ls (.int (zia z r (zx a)) :: st) (z) Q) := zw_iald rfl
theorem s106_148 {ls : List Value} {w0 : Int32} {w1 : Int32} {w2 : Int32} {r : Nat} : ZW zG (d + 1) 106 148 ls (.int w2 :: .int w1 :: .int w0 :: .ref r :: st) z Q = (zcls z r = 10 ∧ zcs st = true ∧ ZC zG d 107 [.ref r, .int w0, .int w1, .int w2] z (zk zG (d + 1) 106 (none) 151 ls st Q)) := zc_V3 rfl (Nat.le_of_ble_eq_true rfl)
theorem s106_151 {ls : List Value} {a b : Int32} : ZW zG d 106 151 ls (.int b :: .int a :: st) z Q = ((zcs st = true) ∧ ZW zG d 106 154 ls (.int (zmax a b) :: st) (z) Q) := zw_mmax rfl
theorem s106_154 {x0 x1 x2 x3 x4 x5 x6 x7 x8 : Value} {a : Int32} : ZW zG d 106 154 [x0, x1, x2, x3, x4, x5, x6, x7, x8] (.int a :: st) z Q = ZW zG d 106 156 [x0, x1, x2, zclr x3, .int a, x5, x6, x7, x8] st z Q := zw_next (f := z_istore 4 156) rfl rfl
theorem s106_156 {x0 x1 x2 x3 x4 x6 x7 x8 : Value} {a : Int32} : ZW zG d 106 156 [x0, x1, x2, x3, x4, .int a, x6, x7, x8] st z Q = ZW zG d 106 159 [x0, x1, x2, x3, zclr x4, .int (a + (nI 1)), x6, x7, x8] st z Q := zw_next (f := z_iinc 5 (nI 1) 159) rfl rfl
theorem s106_159 {ls : List Value}  : ZW zG d 106 159 ls (st) z Q = ZW zG d 106 57 ls st z Q := zw_goto rfl
theorem s106_162 {x0 x1 x2 x3 x4 x5 x6 x7 x8 : Value} : ZW zG d 106 162 [x0, x1, x2, x3, x4, x5, x6, x7, x8] st z Q = (zir x0 = true ∧ ZW zG d 106 163 [x0, x1, x2, x3, x4, x5, x6, x7, x8] (x0 :: st) z Q) := zw_cond (f := z_aload 0 163) rfl rfl
theorem s106_163 {ls : List Value} {r : Nat} : ZW zG d 106 163 ls (.ref r :: st) z Q = ((zcls z r = 10 ∧ zir (zfr z r 2) = true) ∧ ZW zG d 106 166 ls (zfr z r 2 :: st) (z) Q) := zw_getR rfl
theorem s106_166 {ls : List Value}  : ZW zG d 106 166 ls (st) z Q = ZW zG d 106 168 ls ((.int (nI 10)) :: st) z Q := zw_push rfl
theorem s106_168 {x0 x1 x3 x4 x5 x6 x7 x8 : Value} {a : Int32} : ZW zG d 106 168 [x0, x1, .int a, x3, x4, x5, x6, x7, x8] st z Q = ZW zG d 106 169 [x0, x1, .int a, x3, x4, x5, x6, x7, x8] (.int a :: st) z Q := zw_next (f := z_iload 2 169) rfl rfl
theorem s106_169 {ls : List Value} {a b : Int32} : ZW zG d 106 169 ls (.int b :: .int a :: st) z Q = ZW zG d 106 170 ls (.int (a * b) :: st) z Q := zw_imul rfl
theorem s106_170 {x0 x1 x2 x4 x5 x6 x7 x8 : Value} {a : Int32} : ZW zG d 106 170 [x0, x1, x2, .int a, x4, x5, x6, x7, x8] st z Q = ZW zG d 106 171 [x0, x1, x2, .int a, x4, x5, x6, x7, x8] (.int a :: st) z Q := zw_next (f := z_iload 3 171) rfl rfl
theorem s106_171 {ls : List Value} {a b : Int32} : ZW zG d 106 171 ls (.int b :: .int a :: st) z Q = ZW zG d 106 172 ls (.int (a + b) :: st) z Q := zw_iadd rfl
theorem s106_172 {x0 x1 x2 x3 x5 x6 x7 x8 : Value} {a : Int32} : ZW zG d 106 172 [x0, x1, x2, x3, .int a, x5, x6, x7, x8] st z Q = ZW zG d 106 174 [x0, x1, x2, x3, .int a, x5, x6, x7, x8] (.int a :: st) z Q := zw_next (f := z_iload 4 174) rfl rfl
theorem s106_174 {ls : List Value} {a b : Int32} {r : Nat} : ZW zG d 106 174 ls (.int b :: .int a :: .ref r :: st) z Q = ((zcls z r = 50 ∧ zin a (zlen z r) = true) ∧ ZW zG d 106 175 ls (st) (sia z r (zx a) (znar 50 b)) Q) := zw_iast rfl
theorem s106_175 {x0 x1 x2 x4 x5 x6 x7 x8 : Value} {a : Int32} : ZW zG d 106 175 [x0, x1, x2, .int a, x4, x5, x6, x7, x8] st z Q = ZW zG d 106 178 [x0, x1, zclr x2, .int (a + (nI 1)), x4, x5, x6, x7, x8] st z Q := zw_next (f := z_iinc 3 (nI 1) 178) rfl rfl
theorem s106_178 {ls : List Value}  : ZW zG d 106 178 ls (st) z Q = ZW zG d 106 31 ls st z Q := zw_goto rfl
theorem s106_181 {x0 x1 x3 x4 x5 x6 x7 x8 : Value} {a : Int32} : ZW zG d 106 181 [x0, x1, .int a, x3, x4, x5, x6, x7, x8] st z Q = ZW zG d 106 184 [x0, zclr x1, .int (a + (-1)), x3, x4, x5, x6, x7, x8] st z Q := zw_next (f := z_iinc 2 (-1) 184) rfl rfl
theorem s106_184 {ls : List Value}  : ZW zG d 106 184 ls (st) z Q = ZW zG d 106 14 ls st z Q := zw_goto rfl
theorem s106_187 {ls : List Value}  : ZW zG d 106 187 ls (st) z Q = ZW zG d 106 188 ls ((.int (nI 0)) :: st) z Q := zw_push rfl
theorem s106_188 {x0 x1 x2 x3 x4 x5 x6 x7 x8 : Value} {a : Int32} : ZW zG d 106 188 [x0, x1, x2, x3, x4, x5, x6, x7, x8] (.int a :: st) z Q = ZW zG d 106 189 [x0, zclr x1, .int a, x3, x4, x5, x6, x7, x8] st z Q := zw_next (f := z_istore 2 189) rfl rfl
theorem s106_189 {ls : List Value}  : ZW zG d 106 189 ls (st) z Q = ZW zG d 106 190 ls ((.int (nI 0)) :: st) z Q := zw_push rfl
theorem s106_190 {x0 x1 x2 x3 x4 x5 x6 x7 x8 : Value} {a : Int32} : ZW zG d 106 190 [x0, x1, x2, x3, x4, x5, x6, x7, x8] (.int a :: st) z Q = ZW zG d 106 191 [x0, x1, zclr x2, .int a, x4, x5, x6, x7, x8] st z Q := zw_next (f := z_istore 3 191) rfl rfl
theorem s106_191 {ls : List Value}  : ZW zG d 106 191 ls (st) z Q = ZW zG d 106 192 ls ((.int (-1)) :: st) z Q := zw_push rfl
theorem s106_192 {x0 x1 x2 x3 x4 x5 x6 x7 x8 : Value} {a : Int32} : ZW zG d 106 192 [x0, x1, x2, x3, x4, x5, x6, x7, x8] (.int a :: st) z Q = ZW zG d 106 194 [x0, x1, x2, zclr x3, .int a, x5, x6, x7, x8] st z Q := zw_next (f := z_istore 4 194) rfl rfl
theorem s106_194 {ls : List Value}  : ZW zG d 106 194 ls (st) z Q = ZW zG d 106 195 ls ((.int (nI 0)) :: st) z Q := zw_push rfl
theorem s106_195 {x0 x1 x2 x3 x4 x5 x6 x7 x8 : Value} {a : Int32} : ZW zG d 106 195 [x0, x1, x2, x3, x4, x5, x6, x7, x8] (.int a :: st) z Q = ZW zG d 106 197 [x0, x1, x2, x3, zclr x4, .int a, x6, x7, x8] st z Q := zw_next (f := z_istore 5 197) rfl rfl
theorem s106_197 {x0 x1 x3 x4 x5 x6 x7 x8 : Value} {a : Int32} : ZW zG d 106 197 [x0, x1, .int a, x3, x4, x5, x6, x7, x8] st z Q = ZW zG d 106 198 [x0, x1, .int a, x3, x4, x5, x6, x7, x8] (.int a :: st) z Q := zw_next (f := z_iload 2 198) rfl rfl
theorem s106_198 {x0 x2 x3 x4 x5 x6 x7 x8 : Value} {a : Int32} : ZW zG d 106 198 [x0, .int a, x2, x3, x4, x5, x6, x7, x8] st z Q = ZW zG d 106 199 [x0, .int a, x2, x3, x4, x5, x6, x7, x8] (.int a :: st) z Q := zw_next (f := z_iload 1 199) rfl rfl
theorem s106_199 {ls : List Value} {a b : Int32} : ZW zG d 106 199 ls (.int b :: .int a :: st) z Q = if a = b then ZW zG d 106 360 ls st z Q else ZW zG d 106 202 ls st z Q := zw_iceq rfl
theorem s106_202 {ls : List Value}  : ZW zG d 106 202 ls (st) z Q = ZW zG d 106 203 ls ((.int (nI 0)) :: st) z Q := zw_push rfl
theorem s106_203 {x0 x1 x2 x3 x4 x5 x6 x7 x8 : Value} {a : Int32} : ZW zG d 106 203 [x0, x1, x2, x3, x4, x5, x6, x7, x8] (.int a :: st) z Q = ZW zG d 106 205 [x0, x1, x2, x3, x4, zclr x5, .int a, x7, x8] st z Q := zw_next (f := z_istore 6 205) rfl rfl
theorem s106_205 {ls : List Value}  : ZW zG d 106 205 ls (st) z Q = ZW zG d 106 207 ls ((.int (nI 100000)) :: st) z Q := zw_push rfl
theorem s106_207 {x0 x1 x2 x3 x4 x5 x6 x7 x8 : Value} {a : Int32} : ZW zG d 106 207 [x0, x1, x2, x3, x4, x5, x6, x7, x8] (.int a :: st) z Q = ZW zG d 106 209 [x0, x1, x2, x3, x4, x5, zclr x6, .int a, x8] st z Q := zw_next (f := z_istore 7 209) rfl rfl
theorem s106_209 {ls : List Value}  : ZW zG d 106 209 ls (st) z Q = ZW zG d 106 210 ls ((.int (nI 0)) :: st) z Q := zw_push rfl
theorem s106_210 {x0 x1 x2 x3 x4 x5 x6 x7 x8 : Value} {a : Int32} : ZW zG d 106 210 [x0, x1, x2, x3, x4, x5, x6, x7, x8] (.int a :: st) z Q = ZW zG d 106 212 [x0, x1, x2, x3, x4, x5, x6, zclr x7, .int a] st z Q := zw_next (f := z_istore 8 212) rfl rfl
theorem s106_212 {x0 x1 x2 x3 x4 x5 x6 x7 : Value} {a : Int32} : ZW zG d 106 212 [x0, x1, x2, x3, x4, x5, x6, x7, .int a] st z Q = ZW zG d 106 214 [x0, x1, x2, x3, x4, x5, x6, x7, .int a] (.int a :: st) z Q := zw_next (f := z_iload 8 214) rfl rfl
theorem s106_214 {ls : List Value} {a : Int32} : ZW zG d 106 214 ls (.int a :: st) z Q = if ¬ a = 0 then ZW zG d 106 324 ls st z Q else ZW zG d 106 217 ls st z Q := zw_ifne rfl
theorem s106_217 {x0 x2 x3 x4 x5 x6 x7 x8 : Value} {a : Int32} : ZW zG d 106 217 [x0, .int a, x2, x3, x4, x5, x6, x7, x8] st z Q = ZW zG d 106 218 [x0, .int a, x2, x3, x4, x5, x6, x7, x8] (.int a :: st) z Q := zw_next (f := z_iload 1 218) rfl rfl
theorem s106_218 {x0 x1 x2 x3 x4 x5 x7 x8 : Value} {a : Int32} : ZW zG d 106 218 [x0, x1, x2, x3, x4, x5, .int a, x7, x8] st z Q = ZW zG d 106 220 [x0, x1, x2, x3, x4, x5, .int a, x7, x8] (.int a :: st) z Q := zw_next (f := z_iload 6 220) rfl rfl
theorem s106_220 {ls : List Value} {w0 : Int32} {w1 : Int32} : ZW zG (d + 1) 106 220 ls (.int w1 :: .int w0 :: st) z Q = (zcs st = true ∧ ZC zG d 18 [.int w0, .int w1] z (zk zG (d + 1) 106 (none) 223 ls st Q)) := zc_S2 rfl (Nat.le_of_ble_eq_true rfl)
theorem s106_223 {ls : List Value} {a : Int32} : ZW zG d 106 223 ls (.int a :: st) z Q = if a = 0 then ZW zG d 106 318 ls st z Q else ZW zG d 106 226 ls st z Q := zw_ifeq rfl
theorem s106_226 {x0 x1 x3 x4 x5 x6 x7 x8 : Value} {a : Int32} : ZW zG d 106 226 [x0, x1, .int a, x3, x4, x5, x6, x7, x8] st z Q = ZW zG d 106 227 [x0, x1, .int a, x3, x4, x5, x6, x7, x8] (.int a :: st) z Q := zw_next (f := z_iload 2 227) rfl rfl
theorem s106_227 {x0 x1 x2 x3 x4 x5 x7 x8 : Value} {a : Int32} : ZW zG d 106 227 [x0, x1, x2, x3, x4, x5, .int a, x7, x8] st z Q = ZW zG d 106 229 [x0, x1, x2, x3, x4, x5, .int a, x7, x8] (.int a :: st) z Q := zw_next (f := z_iload 6 229) rfl rfl
theorem s106_229 {ls : List Value} {w0 : Int32} {w1 : Int32} : ZW zG (d + 1) 106 229 ls (.int w1 :: .int w0 :: st) z Q = (zcs st = true ∧ ZC zG d 18 [.int w0, .int w1] z (zk zG (d + 1) 106 (none) 232 ls st Q)) := zc_S2 rfl (Nat.le_of_ble_eq_true rfl)
theorem s106_232 {ls : List Value} {a : Int32} : ZW zG d 106 232 ls (.int a :: st) z Q = if a = 0 then ZW zG d 106 238 ls st z Q else ZW zG d 106 235 ls st z Q := zw_ifeq rfl
theorem s106_235 {ls : List Value}  : ZW zG d 106 235 ls (st) z Q = ZW zG d 106 318 ls st z Q := zw_goto rfl
theorem s106_238 {x0 x1 x2 x3 x4 x5 x6 x7 x8 : Value} : ZW zG d 106 238 [x0, x1, x2, x3, x4, x5, x6, x7, x8] st z Q = (zir x0 = true ∧ ZW zG d 106 239 [x0, x1, x2, x3, x4, x5, x6, x7, x8] (x0 :: st) z Q) := zw_cond (f := z_aload 0 239) rfl rfl
theorem s106_239 {x0 x1 x2 x4 x5 x6 x7 x8 : Value} {a : Int32} : ZW zG d 106 239 [x0, x1, x2, .int a, x4, x5, x6, x7, x8] st z Q = ZW zG d 106 240 [x0, x1, x2, .int a, x4, x5, x6, x7, x8] (.int a :: st) z Q := zw_next (f := z_iload 3 240) rfl rfl
theorem s106_240 {x0 x1 x2 x3 x5 x6 x7 x8 : Value} {a : Int32} : ZW zG d 106 240 [x0, x1, x2, x3, .int a, x5, x6, x7, x8] st z Q = ZW zG d 106 242 [x0, x1, x2, x3, .int a, x5, x6, x7, x8] (.int a :: st) z Q := zw_next (f := z_iload 4 242) rfl rfl
theorem s106_242 {ls : List Value}  : ZW zG d 106 242 ls (st) z Q = ZW zG d 106 243 ls ((.int (-1)) :: st) z Q := zw_push rfl
theorem s106_243 {ls : List Value} {a b : Int32} : ZW zG d 106 243 ls (.int b :: .int a :: st) z Q = if ¬ a = b then ZW zG d 106 262 ls st z Q else ZW zG d 106 246 ls st z Q := zw_icne rfl
theorem s106_246 {x0 x1 x2 x3 x4 x5 x6 x7 x8 : Value} : ZW zG d 106 246 [x0, x1, x2, x3, x4, x5, x6, x7, x8] st z Q = (zir x0 = true ∧ ZW zG d 106 247 [x0, x1, x2, x3, x4, x5, x6, x7, x8] (x0 :: st) z Q) := zw_cond (f := z_aload 0 247) rfl rfl
theorem s106_247 {ls : List Value} {r : Nat} : ZW zG d 106 247 ls (.ref r :: st) z Q = ((zcls z r = 10 ∧ zir (zfr z r 9) = true) ∧ ZW zG d 106 250 ls (zfr z r 9 :: st) (z) Q) := zw_getR rfl
theorem s106_250 {x0 x1 x2 x3 x4 x5 x6 x7 x8 : Value} : ZW zG d 106 250 [x0, x1, x2, x3, x4, x5, x6, x7, x8] st z Q = (zir x0 = true ∧ ZW zG d 106 251 [x0, x1, x2, x3, x4, x5, x6, x7, x8] (x0 :: st) z Q) := zw_cond (f := z_aload 0 251) rfl rfl
theorem s106_251 {x0 x1 x2 x3 x4 x5 x7 x8 : Value} {a : Int32} : ZW zG d 106 251 [x0, x1, x2, x3, x4, x5, .int a, x7, x8] st z Q = ZW zG d 106 253 [x0, x1, x2, x3, x4, x5, .int a, x7, x8] (.int a :: st) z Q := zw_next (f := z_iload 6 253) rfl rfl
theorem s106_253 {ls : List Value} {w0 : Int32} {r : Nat} : ZW zG (d + 1) 106 253 ls (.int w0 :: .ref r :: st) z Q = (zcls z r = 10 ∧ zcs st = true ∧ ZC zG d 99 [.ref r, .int w0] z (zk zG (d + 1) 106 (none) 256 ls st Q)) := zc_V1 rfl (Nat.le_of_ble_eq_true rfl)
theorem s106_256 {ls : List Value} {w0 : Nat} {r : Nat} : ZW zG (d + 1) 106 256 ls (.ref w0 :: .ref r :: st) z Q = (zcls z r = 21 ∧ zcs st = true ∧ ZC zG d 248 [.ref r, .ref w0] z (zk zG (d + 1) 106 (none) 259 ls st Q)) := zc_V1 rfl (Nat.le_of_ble_eq_true rfl)
theorem s106_259 {ls : List Value}  : ZW zG d 106 259 ls (st) z Q = ZW zG d 106 277 ls st z Q := zw_goto rfl
theorem s106_262 {x0 x1 x2 x3 x4 x5 x6 x7 x8 : Value} : ZW zG d 106 262 [x0, x1, x2, x3, x4, x5, x6, x7, x8] st z Q = (zir x0 = true ∧ ZW zG d 106 263 [x0, x1, x2, x3, x4, x5, x6, x7, x8] (x0 :: st) z Q) := zw_cond (f := z_aload 0 263) rfl rfl
theorem s106_263 {x0 x1 x2 x3 x5 x6 x7 x8 : Value} {a : Int32} : ZW zG d 106 263 [x0, x1, x2, x3, .int a, x5, x6, x7, x8] st z Q = ZW zG d 106 265 [x0, x1, x2, x3, .int a, x5, x6, x7, x8] (.int a :: st) z Q := zw_next (f := z_iload 4 265) rfl rfl
theorem s106_265 {ls : List Value} {w0 : Int32} {r : Nat} : ZW zG (d + 1) 106 265 ls (.int w0 :: .ref r :: st) z Q = (zcls z r = 10 ∧ zcs st = true ∧ ZC zG d 99 [.ref r, .int w0] z (zk zG (d + 1) 106 (none) 268 ls st Q)) := zc_V1 rfl (Nat.le_of_ble_eq_true rfl)
theorem s106_268 {x0 x1 x2 x3 x4 x5 x6 x7 x8 : Value} : ZW zG d 106 268 [x0, x1, x2, x3, x4, x5, x6, x7, x8] st z Q = (zir x0 = true ∧ ZW zG d 106 269 [x0, x1, x2, x3, x4, x5, x6, x7, x8] (x0 :: st) z Q) := zw_cond (f := z_aload 0 269) rfl rfl
theorem s106_269 {x0 x1 x2 x3 x4 x5 x7 x8 : Value} {a : Int32} : ZW zG d 106 269 [x0, x1, x2, x3, x4, x5, .int a, x7, x8] st z Q = ZW zG d 106 271 [x0, x1, x2, x3, x4, x5, .int a, x7, x8] (.int a :: st) z Q := zw_next (f := z_iload 6 271) rfl rfl
theorem s106_271 {ls : List Value} {w0 : Int32} {r : Nat} : ZW zG (d + 1) 106 271 ls (.int w0 :: .ref r :: st) z Q = (zcls z r = 10 ∧ zcs st = true ∧ ZC zG d 99 [.ref r, .int w0] z (zk zG (d + 1) 106 (none) 274 ls st Q)) := zc_V1 rfl (Nat.le_of_ble_eq_true rfl)
theorem s106_274 {ls : List Value} {w0 : Nat} {r : Nat} : ZW zG (d + 1) 106 274 ls (.ref w0 :: .ref r :: st) z Q = (zcls z r = 21 ∧ zcs st = true ∧ ZC zG d 248 [.ref r, .ref w0] z (zk zG (d + 1) 106 (none) 277 ls st Q)) := zc_V1 rfl (Nat.le_of_ble_eq_true rfl)
theorem s106_277 {x0 x1 x2 x3 x4 x5 x6 x7 x8 : Value} : ZW zG d 106 277 [x0, x1, x2, x3, x4, x5, x6, x7, x8] st z Q = (zir x0 = true ∧ ZW zG d 106 278 [x0, x1, x2, x3, x4, x5, x6, x7, x8] (x0 :: st) z Q) := zw_cond (f := z_aload 0 278) rfl rfl
theorem s106_278 {ls : List Value} {r : Nat} : ZW zG d 106 278 ls (.ref r :: st) z Q = ((zcls z r = 10 ∧ zir (zfr z r 0) = true) ∧ ZW zG d 106 281 ls (zfr z r 0 :: st) (z) Q) := zw_getR rfl
theorem s106_281 {x0 x1 x2 x3 x4 x5 x7 x8 : Value} {a : Int32} : ZW zG d 106 281 [x0, x1, x2, x3, x4, x5, .int a, x7, x8] st z Q = ZW zG d 106 283 [x0, x1, x2, x3, x4, x5, .int a, x7, x8] (.int a :: st) z Q := zw_next (f := z_iload 6 283) rfl rfl
theorem s106_283 {ls : List Value} {a : Int32} {r : Nat} : ZW zG d 106 283 ls (.int a :: .ref r :: st) z Q = ((zcls z r = 50 ∧ zin a (zlen z r) = true) ∧ ZW zG d 106 284 ls (.int (zia z r (zx a)) :: st) (z) Q) := zw_iald rfl
theorem s106_284 {ls : List Value} {w0 : Int32} {w1 : Int32} {w2 : Int32} {r : Nat} : ZW zG (d + 1) 106 284 ls (.int w2 :: .int w1 :: .int w0 :: .ref r :: st) z Q = (zcls z r = 10 ∧ zcs st = true ∧ ZC zG d 100 [.ref r, .int w0, .int w1, .int w2] z (zk zG (d + 1) 106 (none) 287 ls st Q)) := zc_V3 rfl (Nat.le_of_ble_eq_true rfl)
theorem s106_287 {x0 x1 x2 x3 x4 x5 x6 x7 x8 : Value} {a : Int32} : ZW zG d 106 287 [x0, x1, x2, x3, x4, x5, x6, x7, x8] (.int a :: st) z Q = ZW zG d 106 289 [x0, x1, x2, x3, x4, x5, zclr x6, .int a, x8] st z Q := zw_next (f := z_istore 7 289) rfl rfl
theorem s106_289 {x0 x1 x2 x3 x4 x5 x6 x8 : Value} {a : Int32} : ZW zG d 106 289 [x0, x1, x2, x3, x4, x5, x6, .int a, x8] st z Q = ZW zG d 106 291 [x0, x1, x2, x3, x4, x5, x6, .int a, x8] (.int a :: st) z Q := zw_next (f := z_iload 7 291) rfl rfl
theorem s106_291 {x0 x1 x2 x3 x4 x5 x6 x7 x8 : Value} : ZW zG d 106 291 [x0, x1, x2, x3, x4, x5, x6, x7, x8] st z Q = (zir x0 = true ∧ ZW zG d 106 292 [x0, x1, x2, x3, x4, x5, x6, x7, x8] (x0 :: st) z Q) := zw_cond (f := z_aload 0 292) rfl rfl
theorem s106_292 {ls : List Value} {r : Nat} : ZW zG d 106 292 ls (.ref r :: st) z Q = ((zcls z r = 10 ∧ zir (zfr z r 2) = true) ∧ ZW zG d 106 295 ls (zfr z r 2 :: st) (z) Q) := zw_getR rfl
theorem s106_295 {ls : List Value}  : ZW zG d 106 295 ls (st) z Q = ZW zG d 106 297 ls ((.int (nI 10)) :: st) z Q := zw_push rfl
theorem s106_297 {x0 x1 x3 x4 x5 x6 x7 x8 : Value} {a : Int32} : ZW zG d 106 297 [x0, x1, .int a, x3, x4, x5, x6, x7, x8] st z Q = ZW zG d 106 298 [x0, x1, .int a, x3, x4, x5, x6, x7, x8] (.int a :: st) z Q := zw_next (f := z_iload 2 298) rfl rfl
theorem s106_298 {ls : List Value}  : ZW zG d 106 298 ls (st) z Q = ZW zG d 106 299 ls ((.int (nI 1)) :: st) z Q := zw_push rfl
theorem s106_299 {x0 x1 x2 x3 x4 x5 x7 x8 : Value} {a : Int32} : ZW zG d 106 299 [x0, x1, x2, x3, x4, x5, .int a, x7, x8] st z Q = ZW zG d 106 301 [x0, x1, x2, x3, x4, x5, .int a, x7, x8] (.int a :: st) z Q := zw_next (f := z_iload 6 301) rfl rfl
theorem s106_301 {ls : List Value} {a b : Int32} : ZW zG d 106 301 ls (.int b :: .int a :: st) z Q = ZW zG d 106 302 ls (.int (a <<< (b &&& 31)) :: st) z Q := zw_ishl rfl
theorem s106_302 {ls : List Value} {a b : Int32} : ZW zG d 106 302 ls (.int b :: .int a :: st) z Q = ZW zG d 106 303 ls (.int (a ||| b) :: st) z Q := zw_ior rfl
theorem s106_303 {ls : List Value} {a b : Int32} : ZW zG d 106 303 ls (.int b :: .int a :: st) z Q = ZW zG d 106 304 ls (.int (a * b) :: st) z Q := zw_imul rfl
theorem s106_304 {x0 x1 x2 x3 x4 x5 x7 x8 : Value} {a : Int32} : ZW zG d 106 304 [x0, x1, x2, x3, x4, x5, .int a, x7, x8] st z Q = ZW zG d 106 306 [x0, x1, x2, x3, x4, x5, .int a, x7, x8] (.int a :: st) z Q := zw_next (f := z_iload 6 306) rfl rfl
theorem s106_306 {ls : List Value} {a b : Int32} : ZW zG d 106 306 ls (.int b :: .int a :: st) z Q = ZW zG d 106 307 ls (.int (a + b) :: st) z Q := zw_iadd rfl
theorem s106_307 {ls : List Value} {a : Int32} {r : Nat} : ZW zG d 106 307 ls (.int a :: .ref r :: st) z Q = ((zcls z r = 50 ∧ zin a (zlen z r) = true) ∧ ZW zG d 106 308 ls (.int (zia z r (zx a)) :: st) (z) Q) := zw_iald rfl
theorem s106_308 {ls : List Value} {a b : Int32} : ZW zG d 106 308 ls (.int b :: .int a :: st) z Q = if b < a then ZW zG d 106 315 ls st z Q else ZW zG d 106 311 ls st z Q := zw_icgt rfl
theorem s106_311 {ls : List Value}  : ZW zG d 106 311 ls (st) z Q = ZW zG d 106 312 ls ((.int (nI 1)) :: st) z Q := zw_push rfl
theorem s106_312 {ls : List Value}  : ZW zG d 106 312 ls (st) z Q = ZW zG d 106 316 ls st z Q := zw_goto rfl
theorem s106_315 {ls : List Value}  : ZW zG d 106 315 ls (st) z Q = ZW zG d 106 316 ls ((.int (nI 0)) :: st) z Q := zw_push rfl
theorem s106_316 {x0 x1 x2 x3 x4 x5 x6 x7 x8 : Value} {a : Int32} : ZW zG d 106 316 [x0, x1, x2, x3, x4, x5, x6, x7, x8] (.int a :: st) z Q = ZW zG d 106 318 [x0, x1, x2, x3, x4, x5, x6, zclr x7, .int a] st z Q := zw_next (f := z_istore 8 318) rfl rfl
theorem s106_318 {x0 x1 x2 x3 x4 x5 x7 x8 : Value} {a : Int32} : ZW zG d 106 318 [x0, x1, x2, x3, x4, x5, .int a, x7, x8] st z Q = ZW zG d 106 321 [x0, x1, x2, x3, x4, zclr x5, .int (a + (nI 1)), x7, x8] st z Q := zw_next (f := z_iinc 6 (nI 1) 321) rfl rfl
theorem s106_321 {ls : List Value}  : ZW zG d 106 321 ls (st) z Q = ZW zG d 106 212 ls st z Q := zw_goto rfl
theorem s106_324 {x0 x1 x2 x3 x4 x5 x7 x8 : Value} {a : Int32} : ZW zG d 106 324 [x0, x1, x2, x3, x4, x5, .int a, x7, x8] st z Q = ZW zG d 106 326 [x0, x1, x2, x3, x4, x5, .int a, x7, x8] (.int a :: st) z Q := zw_next (f := z_iload 6 326) rfl rfl
theorem s106_326 {ls : List Value}  : ZW zG d 106 326 ls (st) z Q = ZW zG d 106 327 ls ((.int (nI 1)) :: st) z Q := zw_push rfl
theorem s106_327 {ls : List Value} {a b : Int32} : ZW zG d 106 327 ls (.int b :: .int a :: st) z Q = ZW zG d 106 328 ls (.int (a - b) :: st) z Q := zw_isub rfl
theorem s106_328 {x0 x1 x2 x3 x4 x5 x6 x7 x8 : Value} {a : Int32} : ZW zG d 106 328 [x0, x1, x2, x3, x4, x5, x6, x7, x8] (.int a :: st) z Q = ZW zG d 106 330 [x0, x1, x2, zclr x3, .int a, x5, x6, x7, x8] st z Q := zw_next (f := z_istore 4 330) rfl rfl
theorem s106_330 {x0 x1 x2 x3 x4 x5 x6 x7 x8 : Value} : ZW zG d 106 330 [x0, x1, x2, x3, x4, x5, x6, x7, x8] st z Q = (zir x0 = true ∧ ZW zG d 106 331 [x0, x1, x2, x3, x4, x5, x6, x7, x8] (x0 :: st) z Q) := zw_cond (f := z_aload 0 331) rfl rfl
theorem s106_331 {ls : List Value} {r : Nat} : ZW zG d 106 331 ls (.ref r :: st) z Q = ((zcls z r = 10 ∧ zir (zfr z r 3) = true) ∧ ZW zG d 106 334 ls (zfr z r 3 :: st) (z) Q) := zw_getR rfl
theorem s106_334 {x0 x1 x2 x3 x4 x6 x7 x8 : Value} {a : Int32} : ZW zG d 106 334 [x0, x1, x2, x3, x4, .int a, x6, x7, x8] st z Q = ZW zG d 106 336 [x0, x1, x2, x3, x4, .int a, x6, x7, x8] (.int a :: st) z Q := zw_next (f := z_iload 5 336) rfl rfl
theorem s106_336 {x0 x1 x2 x3 x4 x5 x6 x7 x8 : Value} : ZW zG d 106 336 [x0, x1, x2, x3, x4, x5, x6, x7, x8] st z Q = (zir x0 = true ∧ ZW zG d 106 337 [x0, x1, x2, x3, x4, x5, x6, x7, x8] (x0 :: st) z Q) := zw_cond (f := z_aload 0 337) rfl rfl
theorem s106_337 {ls : List Value} {r : Nat} : ZW zG d 106 337 ls (.ref r :: st) z Q = ((zcls z r = 10 ∧ zir (zfr z r 0) = true) ∧ ZW zG d 106 340 ls (zfr z r 0 :: st) (z) Q) := zw_getR rfl
theorem s106_340 {x0 x1 x2 x3 x5 x6 x7 x8 : Value} {a : Int32} : ZW zG d 106 340 [x0, x1, x2, x3, .int a, x5, x6, x7, x8] st z Q = ZW zG d 106 342 [x0, x1, x2, x3, .int a, x5, x6, x7, x8] (.int a :: st) z Q := zw_next (f := z_iload 4 342) rfl rfl
theorem s106_342 {ls : List Value} {a : Int32} {r : Nat} : ZW zG d 106 342 ls (.int a :: .ref r :: st) z Q = ((zcls z r = 50 ∧ zin a (zlen z r) = true) ∧ ZW zG d 106 343 ls (.int (zia z r (zx a)) :: st) (z) Q) := zw_iald rfl
theorem s106_343 {ls : List Value} {a b : Int32} {r : Nat} : ZW zG d 106 343 ls (.int b :: .int a :: .ref r :: st) z Q = ((zcls z r = 50 ∧ zin a (zlen z r) = true) ∧ ZW zG d 106 344 ls (st) (sia z r (zx a) (znar 50 b)) Q) := zw_iast rfl
theorem s106_344 {x0 x1 x3 x4 x5 x6 x7 x8 : Value} {a : Int32} : ZW zG d 106 344 [x0, x1, .int a, x3, x4, x5, x6, x7, x8] st z Q = ZW zG d 106 345 [x0, x1, .int a, x3, x4, x5, x6, x7, x8] (.int a :: st) z Q := zw_next (f := z_iload 2 345) rfl rfl
theorem s106_345 {ls : List Value}  : ZW zG d 106 345 ls (st) z Q = ZW zG d 106 346 ls ((.int (nI 1)) :: st) z Q := zw_push rfl
theorem s106_346 {x0 x1 x2 x3 x5 x6 x7 x8 : Value} {a : Int32} : ZW zG d 106 346 [x0, x1, x2, x3, .int a, x5, x6, x7, x8] st z Q = ZW zG d 106 348 [x0, x1, x2, x3, .int a, x5, x6, x7, x8] (.int a :: st) z Q := zw_next (f := z_iload 4 348) rfl rfl
theorem s106_348 {ls : List Value} {a b : Int32} : ZW zG d 106 348 ls (.int b :: .int a :: st) z Q = ZW zG d 106 349 ls (.int (a <<< (b &&& 31)) :: st) z Q := zw_ishl rfl
theorem s106_349 {ls : List Value} {a b : Int32} : ZW zG d 106 349 ls (.int b :: .int a :: st) z Q = ZW zG d 106 350 ls (.int (a ||| b) :: st) z Q := zw_ior rfl
theorem s106_350 {x0 x1 x2 x3 x4 x5 x6 x7 x8 : Value} {a : Int32} : ZW zG d 106 350 [x0, x1, x2, x3, x4, x5, x6, x7, x8] (.int a :: st) z Q = ZW zG d 106 351 [x0, zclr x1, .int a, x3, x4, x5, x6, x7, x8] st z Q := zw_next (f := z_istore 2 351) rfl rfl
theorem s106_351 {x0 x1 x2 x3 x4 x5 x6 x8 : Value} {a : Int32} : ZW zG d 106 351 [x0, x1, x2, x3, x4, x5, x6, .int a, x8] st z Q = ZW zG d 106 353 [x0, x1, x2, x3, x4, x5, x6, .int a, x8] (.int a :: st) z Q := zw_next (f := z_iload 7 353) rfl rfl
theorem s106_353 {x0 x1 x2 x3 x4 x5 x6 x7 x8 : Value} {a : Int32} : ZW zG d 106 353 [x0, x1, x2, x3, x4, x5, x6, x7, x8] (.int a :: st) z Q = ZW zG d 106 354 [x0, x1, zclr x2, .int a, x4, x5, x6, x7, x8] st z Q := zw_next (f := z_istore 3 354) rfl rfl
theorem s106_354 {x0 x1 x2 x3 x4 x6 x7 x8 : Value} {a : Int32} : ZW zG d 106 354 [x0, x1, x2, x3, x4, .int a, x6, x7, x8] st z Q = ZW zG d 106 357 [x0, x1, x2, x3, zclr x4, .int (a + (nI 1)), x6, x7, x8] st z Q := zw_next (f := z_iinc 5 (nI 1) 357) rfl rfl
theorem s106_357 {ls : List Value}  : ZW zG d 106 357 ls (st) z Q = ZW zG d 106 197 ls st z Q := zw_goto rfl
theorem s106_360 {ls : List Value}  : ZW zG d 106 360 ls ([]) z Q = Q (.inl none) z := zw_ret rfl
/-- X10_ahead (III)I -/
theorem e107 {r0 : Nat} {v0 : Int32} {v1 : Int32} {v2 : Int32} : ZC zG d 107 [.ref r0, .int v0, .int v1, .int v2] z Q = ZW zG d 107 0 [.ref r0, .int v0, .int v1, .int v2, zdum, zdum] [] z Q := rfl
theorem s107_0 {x0 x1 x2 x3 x4 x5 : Value} : ZW zG d 107 0 [x0, x1, x2, x3, x4, x5] st z Q = (zir x0 = true ∧ ZW zG d 107 1 [x0, x1, x2, x3, x4, x5] (x0 :: st) z Q) := zw_cond (f := z_aload 0 1) rfl rfl
theorem s107_1 {ls : List Value} {r : Nat} : ZW zG d 107 1 ls (.ref r :: st) z Q = ((zcls z r = 10 ∧ zir (zfr z r 11) = true) ∧ ZW zG d 107 4 ls (zfr z r 11 :: st) (z) Q) := zw_getR rfl
theorem s107_4 {ls : List Value} {r : Nat} : ZW zG d 107 4 ls (.ref r :: st) z Q = ((zcls z r = 0 ∧ zir (zfr z r 1) = true) ∧ ZW zG d 107 7 ls (zfr z r 1 :: st) (z) Q) := zw_getR rfl
theorem s107_7 {ls : List Value} {r : Nat} : ZW zG d 107 7 ls (.ref r :: st) z Q = ((zcls z r = 1 ∧ zir (zfr z r 0) = true) ∧ ZW zG d 107 10 ls (zfr z r 0 :: st) (z) Q) := zw_getR rfl
theorem s107_10 {x0 x1 x2 x4 x5 : Value} {a : Int32} : ZW zG d 107 10 [x0, x1, x2, .int a, x4, x5] st z Q = ZW zG d 107 11 [x0, x1, x2, .int a, x4, x5] (.int a :: st) z Q := zw_next (f := z_iload 3 11) rfl rfl
theorem s107_11 {ls : List Value} {w0 : Int32} {r : Nat} : ZW zG (d + 1) 107 11 ls (.int w0 :: .ref r :: st) z Q = (zcls z r = 2 ∧ zcs st = true ∧ ZC zG d 65 [.ref r, .int w0] z (zk zG (d + 1) 107 (none) 14 ls st Q)) := zc_V1 rfl (Nat.le_of_ble_eq_true rfl)
theorem s107_14 {x0 x1 x2 x3 x4 x5 : Value} {v : Value} : ZW zG d 107 14 [x0, x1, x2, x3, x4, x5] (v :: st) z Q = (zir v = true ∧ ZW zG d 107 16 [x0, x1, x2, zclr x3, v, x5] st z Q) := by rw [zw_cond (f := z_astore 4 16) (G := zG) rfl rfl]; exact propext ⟨fun h => ⟨h.1.1, h.2⟩, fun h => ⟨⟨h.1, Nat.le_of_ble_eq_true rfl⟩, h.2⟩⟩
theorem s107_16 {x0 x1 x2 x3 x4 x5 : Value} : ZW zG d 107 16 [x0, x1, x2, x3, x4, x5] st z Q = (zir x0 = true ∧ ZW zG d 107 17 [x0, x1, x2, x3, x4, x5] (x0 :: st) z Q) := zw_cond (f := z_aload 0 17) rfl rfl
theorem s107_17 {x0 x1 x2 x4 x5 : Value} {a : Int32} : ZW zG d 107 17 [x0, x1, x2, .int a, x4, x5] st z Q = ZW zG d 107 18 [x0, x1, x2, .int a, x4, x5] (.int a :: st) z Q := zw_next (f := z_iload 3 18) rfl rfl
theorem s107_18 {ls : List Value} {w0 : Int32} {r : Nat} : ZW zG (d + 1) 107 18 ls (.int w0 :: .ref r :: st) z Q = (zcls z r = 10 ∧ zcs st = true ∧ ZC zG d 101 [.ref r, .int w0] z (zk zG (d + 1) 107 (none) 21 ls st Q)) := zc_V1 rfl (Nat.le_of_ble_eq_true rfl)
theorem s107_21 {ls : List Value} {a : Int32} : ZW zG d 107 21 ls (.int a :: st) z Q = if ¬ a = 0 then ZW zG d 107 34 ls st z Q else ZW zG d 107 24 ls st z Q := zw_ifne rfl
theorem s107_24 {x0 x2 x3 x4 x5 : Value} {a : Int32} : ZW zG d 107 24 [x0, .int a, x2, x3, x4, x5] st z Q = ZW zG d 107 25 [x0, .int a, x2, x3, x4, x5] (.int a :: st) z Q := zw_next (f := z_iload 1 25) rfl rfl
theorem s107_25 {ls : List Value}  : ZW zG d 107 25 ls (st) z Q = ZW zG d 107 28 ls ((.int (nI 180)) :: st) z Q := zw_push rfl
theorem s107_28 {ls : List Value} {a b : Int32} : ZW zG d 107 28 ls (.int b :: .int a :: st) z Q = ((zcs st = true) ∧ ZW zG d 107 31 ls (.int (zmin a b) :: st) (z) Q) := zw_mmin rfl
theorem s107_31 {x0 x1 x3 x4 x5 : Value} {a : Int32} : ZW zG d 107 31 [x0, x1, .int a, x3, x4, x5] st z Q = ZW zG d 107 32 [x0, x1, .int a, x3, x4, x5] (.int a :: st) z Q := zw_next (f := z_iload 2 32) rfl rfl
theorem s107_32 {ls : List Value} {a b : Int32} : ZW zG d 107 32 ls (.int b :: .int a :: st) z Q = ZW zG d 107 33 ls (.int (a - b) :: st) z Q := zw_isub rfl
theorem s107_33 {ls : List Value} {a : Int32} : ZW zG d 107 33 ls ([.int a]) z Q = Q (.inl (some (.int a))) z := zw_reti rfl
theorem s107_34 {x0 x1 x2 x3 x4 x5 : Value} : ZW zG d 107 34 [x0, x1, x2, x3, x4, x5] st z Q = (zir x0 = true ∧ ZW zG d 107 35 [x0, x1, x2, x3, x4, x5] (x0 :: st) z Q) := zw_cond (f := z_aload 0 35) rfl rfl
theorem s107_35 {ls : List Value} {r : Nat} : ZW zG d 107 35 ls (.ref r :: st) z Q = ((zcls z r = 10) ∧ ZW zG d 107 38 ls (.int (zfi z r 5) :: st) (z) Q) := zw_getI rfl
theorem s107_38 {ls : List Value}  : ZW zG d 107 38 ls (st) z Q = ZW zG d 107 40 ls ((.int (nI 7)) :: st) z Q := zw_push rfl
theorem s107_40 {ls : List Value} {a b : Int32} : ZW zG d 107 40 ls (.int b :: .int a :: st) z Q = ((¬ b = 0) ∧ ZW zG d 107 41 ls (.int (a - a / b * b) :: st) (z) Q) := zw_irem rfl
theorem s107_41 {x0 x1 x2 x3 x4 x5 : Value} : ZW zG d 107 41 [x0, x1, x2, x3, x4, x5] st z Q = (zir x4 = true ∧ ZW zG d 107 43 [x0, x1, x2, x3, x4, x5] (x4 :: st) z Q) := zw_cond (f := z_aload 4 43) rfl rfl
theorem s107_43 {ls : List Value} {r : Nat} : ZW zG d 107 43 ls (.ref r :: st) z Q = ((zcls z r = 21) ∧ ZW zG d 107 46 ls (.int (zfi z r 3) :: st) (z) Q) := zw_getI rfl
theorem s107_46 {ls : List Value} {a b : Int32} : ZW zG d 107 46 ls (.int b :: .int a :: st) z Q = if a = b then ZW zG d 107 51 ls st z Q else ZW zG d 107 49 ls st z Q := zw_iceq rfl
theorem s107_49 {ls : List Value}  : ZW zG d 107 49 ls (st) z Q = ZW zG d 107 50 ls ((.int (-1)) :: st) z Q := zw_push rfl
theorem s107_50 {ls : List Value} {a : Int32} : ZW zG d 107 50 ls ([.int a]) z Q = Q (.inl (some (.int a))) z := zw_reti rfl
theorem s107_51 {x0 x2 x3 x4 x5 : Value} {a : Int32} : ZW zG d 107 51 [x0, .int a, x2, x3, x4, x5] st z Q = ZW zG d 107 52 [x0, .int a, x2, x3, x4, x5] (.int a :: st) z Q := zw_next (f := z_iload 1 52) rfl rfl
theorem s107_52 {x0 x1 x2 x3 x4 x5 : Value} : ZW zG d 107 52 [x0, x1, x2, x3, x4, x5] st z Q = (zir x4 = true ∧ ZW zG d 107 54 [x0, x1, x2, x3, x4, x5] (x4 :: st) z Q) := zw_cond (f := z_aload 4 54) rfl rfl
theorem s107_54 {ls : List Value} {r : Nat} : ZW zG d 107 54 ls (.ref r :: st) z Q = ((zcls z r = 21) ∧ ZW zG d 107 57 ls (.int (zfi z r 5) :: st) (z) Q) := zw_getI rfl
theorem s107_57 {ls : List Value}  : ZW zG d 107 57 ls (st) z Q = ZW zG d 107 60 ls ((.int (nI 180)) :: st) z Q := zw_push rfl
theorem s107_60 {ls : List Value} {a b : Int32} : ZW zG d 107 60 ls (.int b :: .int a :: st) z Q = ((zcs st = true) ∧ ZW zG d 107 63 ls (.int (zmin a b) :: st) (z) Q) := zw_mmin rfl
theorem s107_63 {ls : List Value} {a b : Int32} : ZW zG d 107 63 ls (.int b :: .int a :: st) z Q = ((zcs st = true) ∧ ZW zG d 107 66 ls (.int (zmin a b) :: st) (z) Q) := zw_mmin rfl
theorem s107_66 {x0 x1 x2 x3 x4 x5 : Value} {a : Int32} : ZW zG d 107 66 [x0, x1, x2, x3, x4, x5] (.int a :: st) z Q = ZW zG d 107 68 [x0, x1, x2, x3, zclr x4, .int a] st z Q := zw_next (f := z_istore 5 68) rfl rfl
theorem s107_68 {x0 x1 x2 x3 x4 : Value} {a : Int32} : ZW zG d 107 68 [x0, x1, x2, x3, x4, .int a] st z Q = ZW zG d 107 70 [x0, x1, x2, x3, x4, .int a] (.int a :: st) z Q := zw_next (f := z_iload 5 70) rfl rfl
theorem s107_70 {ls : List Value}  : ZW zG d 107 70 ls (st) z Q = ZW zG d 107 72 ls ((.int (nI 15)) :: st) z Q := zw_push rfl
theorem s107_72 {ls : List Value} {a b : Int32} : ZW zG d 107 72 ls (.int b :: .int a :: st) z Q = ZW zG d 107 73 ls (.int (a - b) :: st) z Q := zw_isub rfl
theorem s107_73 {x0 x1 x2 x3 x4 x5 : Value} : ZW zG d 107 73 [x0, x1, x2, x3, x4, x5] st z Q = (zir x4 = true ∧ ZW zG d 107 75 [x0, x1, x2, x3, x4, x5] (x4 :: st) z Q) := zw_cond (f := z_aload 4 75) rfl rfl
theorem s107_75 {ls : List Value} {r : Nat} : ZW zG d 107 75 ls (.ref r :: st) z Q = ((zcls z r = 21) ∧ ZW zG d 107 78 ls (.int (zfi z r 4) :: st) (z) Q) := zw_getI rfl
theorem s107_78 {ls : List Value} {a b : Int32} : ZW zG d 107 78 ls (.int b :: .int a :: st) z Q = if b ≤ a then ZW zG d 107 85 ls st z Q else ZW zG d 107 81 ls st z Q := zw_icge rfl
theorem s107_81 {ls : List Value}  : ZW zG d 107 81 ls (st) z Q = ZW zG d 107 82 ls ((.int (-1)) :: st) z Q := zw_push rfl
theorem s107_82 {ls : List Value}  : ZW zG d 107 82 ls (st) z Q = ZW zG d 107 92 ls st z Q := zw_goto rfl
theorem s107_85 {x0 x1 x2 x3 x4 : Value} {a : Int32} : ZW zG d 107 85 [x0, x1, x2, x3, x4, .int a] st z Q = ZW zG d 107 87 [x0, x1, x2, x3, x4, .int a] (.int a :: st) z Q := zw_next (f := z_iload 5 87) rfl rfl
theorem s107_87 {ls : List Value}  : ZW zG d 107 87 ls (st) z Q = ZW zG d 107 89 ls ((.int (nI 15)) :: st) z Q := zw_push rfl
theorem s107_89 {ls : List Value} {a b : Int32} : ZW zG d 107 89 ls (.int b :: .int a :: st) z Q = ZW zG d 107 90 ls (.int (a - b) :: st) z Q := zw_isub rfl
theorem s107_90 {x0 x1 x3 x4 x5 : Value} {a : Int32} : ZW zG d 107 90 [x0, x1, .int a, x3, x4, x5] st z Q = ZW zG d 107 91 [x0, x1, .int a, x3, x4, x5] (.int a :: st) z Q := zw_next (f := z_iload 2 91) rfl rfl
theorem s107_91 {ls : List Value} {a b : Int32} : ZW zG d 107 91 ls (.int b :: .int a :: st) z Q = ZW zG d 107 92 ls (.int (a - b) :: st) z Q := zw_isub rfl
theorem s107_92 {ls : List Value} {a : Int32} : ZW zG d 107 92 ls ([.int a]) z Q = Q (.inl (some (.int a))) z := zw_reti rfl
/-- X11_width ()I -/
theorem e108 {r0 : Nat} : ZC zG d 108 [.ref r0] z Q = ZW zG d 108 0 [.ref r0] [] z Q := rfl
theorem s108_0 {x0 : Value} : ZW zG d 108 0 [x0] st z Q = (zir x0 = true ∧ ZW zG d 108 1 [x0] (x0 :: st) z Q) := zw_cond (f := z_aload 0 1) rfl rfl
theorem s108_1 {ls : List Value} {r : Nat} : ZW zG d 108 1 ls (.ref r :: st) z Q = ((zcls z r = 11 ∧ zir (zfr z r 0) = true) ∧ ZW zG d 108 4 ls (zfr z r 0 :: st) (z) Q) := zw_getR rfl
theorem s108_4 {ls : List Value} : ZW zG d 108 4 ls (.null :: st) z Q = ZW zG d 108 7 ls (.int 0 :: st) z Q := zw_inst0 rfl
theorem s108_4r {ls : List Value} {r : Nat} : ZW zG d 108 4 ls (.ref r :: st) z Q = ((50 ≤ zcls z r ∧ zcls z r < 54) ∧ ZW zG d 108 7 ls (.int (if zcls z r = 52 then 1 else 0) :: st) z Q) := zw_inst1 rfl
theorem s108_7 {ls : List Value} {a : Int32} : ZW zG d 108 7 ls (.int a :: st) z Q = if a = 0 then ZW zG d 108 14 ls st z Q else ZW zG d 108 10 ls st z Q := zw_ifeq rfl
theorem s108_10 {ls : List Value}  : ZW zG d 108 10 ls (st) z Q = ZW zG d 108 11 ls ((.int (nI 0)) :: st) z Q := zw_push rfl
theorem s108_11 {ls : List Value}  : ZW zG d 108 11 ls (st) z Q = ZW zG d 108 43 ls st z Q := zw_goto rfl
theorem s108_14 {x0 : Value} : ZW zG d 108 14 [x0] st z Q = (zir x0 = true ∧ ZW zG d 108 15 [x0] (x0 :: st) z Q) := zw_cond (f := z_aload 0 15) rfl rfl
theorem s108_15 {ls : List Value} {r : Nat} : ZW zG d 108 15 ls (.ref r :: st) z Q = ((zcls z r = 11 ∧ zir (zfr z r 0) = true) ∧ ZW zG d 108 18 ls (zfr z r 0 :: st) (z) Q) := zw_getR rfl
theorem s108_18 {ls : List Value} : ZW zG d 108 18 ls (.null :: st) z Q = ZW zG d 108 21 ls (.int 0 :: st) z Q := zw_inst0 rfl
theorem s108_18r {ls : List Value} {r : Nat} : ZW zG d 108 18 ls (.ref r :: st) z Q = ((50 ≤ zcls z r ∧ zcls z r < 54) ∧ ZW zG d 108 21 ls (.int (if zcls z r = 53 then 1 else 0) :: st) z Q) := zw_inst1 rfl
theorem s108_21 {ls : List Value} {a : Int32} : ZW zG d 108 21 ls (.int a :: st) z Q = if a = 0 then ZW zG d 108 28 ls st z Q else ZW zG d 108 24 ls st z Q := zw_ifeq rfl
theorem s108_24 {ls : List Value}  : ZW zG d 108 24 ls (st) z Q = ZW zG d 108 25 ls ((.int (nI 1)) :: st) z Q := zw_push rfl
theorem s108_25 {ls : List Value}  : ZW zG d 108 25 ls (st) z Q = ZW zG d 108 43 ls st z Q := zw_goto rfl
theorem s108_28 {x0 : Value} : ZW zG d 108 28 [x0] st z Q = (zir x0 = true ∧ ZW zG d 108 29 [x0] (x0 :: st) z Q) := zw_cond (f := z_aload 0 29) rfl rfl
theorem s108_29 {ls : List Value} {r : Nat} : ZW zG d 108 29 ls (.ref r :: st) z Q = ((zcls z r = 11 ∧ zir (zfr z r 0) = true) ∧ ZW zG d 108 32 ls (zfr z r 0 :: st) (z) Q) := zw_getR rfl
theorem s108_32 {ls : List Value} : ZW zG d 108 32 ls (.null :: st) z Q = ZW zG d 108 35 ls (.int 0 :: st) z Q := zw_inst0 rfl
theorem s108_32r {ls : List Value} {r : Nat} : ZW zG d 108 32 ls (.ref r :: st) z Q = ((50 ≤ zcls z r ∧ zcls z r < 54) ∧ ZW zG d 108 35 ls (.int (if zcls z r = 50 then 1 else 0) :: st) z Q) := zw_inst1 rfl
theorem s108_35 {ls : List Value} {a : Int32} : ZW zG d 108 35 ls (.int a :: st) z Q = if a = 0 then ZW zG d 108 42 ls st z Q else ZW zG d 108 38 ls st z Q := zw_ifeq rfl
theorem s108_38 {ls : List Value}  : ZW zG d 108 38 ls (st) z Q = ZW zG d 108 39 ls ((.int (nI 2)) :: st) z Q := zw_push rfl
theorem s108_39 {ls : List Value}  : ZW zG d 108 39 ls (st) z Q = ZW zG d 108 43 ls st z Q := zw_goto rfl
theorem s108_42 {ls : List Value}  : ZW zG d 108 42 ls (st) z Q = ZW zG d 108 43 ls ((.int (nI 3)) :: st) z Q := zw_push rfl
theorem s108_43 {ls : List Value} {a : Int32} : ZW zG d 108 43 ls ([.int a]) z Q = Q (.inl (some (.int a))) z := zw_reti rfl
/-- X11_init ()V -/
theorem e109 {r0 : Nat} : ZC zG d 109 [.ref r0] z Q = ZW zG d 109 0 [.ref r0] [] z Q := rfl
theorem s109_0 {x0 : Value} : ZW zG d 109 0 [x0] st z Q = (zir x0 = true ∧ ZW zG d 109 1 [x0] (x0 :: st) z Q) := zw_cond (f := z_aload 0 1) rfl rfl
theorem s109_1 {ls : List Value} {r : Nat} : ZW zG d 109 1 ls (.ref r :: st) z Q = ((zcs st = true) ∧ ZW zG d 109 4 ls (st) (z) Q) := zw_oinit rfl
theorem s109_4 {ls : List Value}  : ZW zG d 109 4 ls ([]) z Q = Q (.inl none) z := zw_ret rfl
/-- X11_many ()I -/
theorem e110 {r0 : Nat} : ZC zG d 110 [.ref r0] z Q = ZW zG d 110 0 [.ref r0] [] z Q := rfl
theorem s110_0 {x0 : Value} : ZW zG d 110 0 [x0] st z Q = (zir x0 = true ∧ ZW zG d 110 1 [x0] (x0 :: st) z Q) := zw_cond (f := z_aload 0 1) rfl rfl
theorem s110_1 {ls : List Value} {r : Nat} : ZW zG d 110 1 ls (.ref r :: st) z Q = ((zcls z r = 11 ∧ zir (zfr z r 0) = true) ∧ ZW zG d 110 4 ls (zfr z r 0 :: st) (z) Q) := zw_getR rfl
theorem s110_4 {ls : List Value} : ZW zG d 110 4 ls (.null :: st) z Q = ZW zG d 110 7 ls (.int 0 :: st) z Q := zw_inst0 rfl
theorem s110_4r {ls : List Value} {r : Nat} : ZW zG d 110 4 ls (.ref r :: st) z Q = ((50 ≤ zcls z r ∧ zcls z r < 54) ∧ ZW zG d 110 7 ls (.int (if zcls z r = 52 then 1 else 0) :: st) z Q) := zw_inst1 rfl
theorem s110_7 {ls : List Value} {a : Int32} : ZW zG d 110 7 ls (.int a :: st) z Q = if a = 0 then ZW zG d 110 19 ls st z Q else ZW zG d 110 10 ls st z Q := zw_ifeq rfl
theorem s110_10 {x0 : Value} : ZW zG d 110 10 [x0] st z Q = (zir x0 = true ∧ ZW zG d 110 11 [x0] (x0 :: st) z Q) := zw_cond (f := z_aload 0 11) rfl rfl
theorem s110_11 {ls : List Value} {r : Nat} : ZW zG d 110 11 ls (.ref r :: st) z Q = ((zcls z r = 11 ∧ zir (zfr z r 0) = true) ∧ ZW zG d 110 14 ls (zfr z r 0 :: st) (z) Q) := zw_getR rfl
theorem s110_14 {ls : List Value} {r : Nat} : ZW zG d 110 14 ls (.ref r :: st) z Q = ((zcls z r = 52) ∧ ZW zG d 110 17 ls (.ref r :: st) (z) Q) := zw_cast rfl
theorem s110_17 {ls : List Value} {r : Nat} : ZW zG d 110 17 ls (.ref r :: st) z Q = ((zcls z r = 52) ∧ ZW zG d 110 18 ls (.int (nI (zlen z r)) :: st) (z) Q) := zw_alen rfl
theorem s110_18 {ls : List Value} {a : Int32} : ZW zG d 110 18 ls ([.int a]) z Q = Q (.inl (some (.int a))) z := zw_reti rfl
theorem s110_19 {x0 : Value} : ZW zG d 110 19 [x0] st z Q = (zir x0 = true ∧ ZW zG d 110 20 [x0] (x0 :: st) z Q) := zw_cond (f := z_aload 0 20) rfl rfl
theorem s110_20 {ls : List Value} {r : Nat} : ZW zG d 110 20 ls (.ref r :: st) z Q = ((zcls z r = 11 ∧ zir (zfr z r 0) = true) ∧ ZW zG d 110 23 ls (zfr z r 0 :: st) (z) Q) := zw_getR rfl
theorem s110_23 {ls : List Value} : ZW zG d 110 23 ls (.null :: st) z Q = ZW zG d 110 26 ls (.int 0 :: st) z Q := zw_inst0 rfl
theorem s110_23r {ls : List Value} {r : Nat} : ZW zG d 110 23 ls (.ref r :: st) z Q = ((50 ≤ zcls z r ∧ zcls z r < 54) ∧ ZW zG d 110 26 ls (.int (if zcls z r = 53 then 1 else 0) :: st) z Q) := zw_inst1 rfl
theorem s110_26 {ls : List Value} {a : Int32} : ZW zG d 110 26 ls (.int a :: st) z Q = if a = 0 then ZW zG d 110 38 ls st z Q else ZW zG d 110 29 ls st z Q := zw_ifeq rfl
theorem s110_29 {x0 : Value} : ZW zG d 110 29 [x0] st z Q = (zir x0 = true ∧ ZW zG d 110 30 [x0] (x0 :: st) z Q) := zw_cond (f := z_aload 0 30) rfl rfl
theorem s110_30 {ls : List Value} {r : Nat} : ZW zG d 110 30 ls (.ref r :: st) z Q = ((zcls z r = 11 ∧ zir (zfr z r 0) = true) ∧ ZW zG d 110 33 ls (zfr z r 0 :: st) (z) Q) := zw_getR rfl
theorem s110_33 {ls : List Value} {r : Nat} : ZW zG d 110 33 ls (.ref r :: st) z Q = ((zcls z r = 53) ∧ ZW zG d 110 36 ls (.ref r :: st) (z) Q) := zw_cast rfl
theorem s110_36 {ls : List Value} {r : Nat} : ZW zG d 110 36 ls (.ref r :: st) z Q = ((zcls z r = 53) ∧ ZW zG d 110 37 ls (.int (nI (zlen z r)) :: st) (z) Q) := zw_alen rfl
theorem s110_37 {ls : List Value} {a : Int32} : ZW zG d 110 37 ls ([.int a]) z Q = Q (.inl (some (.int a))) z := zw_reti rfl
theorem s110_38 {x0 : Value} : ZW zG d 110 38 [x0] st z Q = (zir x0 = true ∧ ZW zG d 110 39 [x0] (x0 :: st) z Q) := zw_cond (f := z_aload 0 39) rfl rfl
theorem s110_39 {ls : List Value} {r : Nat} : ZW zG d 110 39 ls (.ref r :: st) z Q = ((zcls z r = 11 ∧ zir (zfr z r 0) = true) ∧ ZW zG d 110 42 ls (zfr z r 0 :: st) (z) Q) := zw_getR rfl
theorem s110_42 {ls : List Value} : ZW zG d 110 42 ls (.null :: st) z Q = ZW zG d 110 45 ls (.int 0 :: st) z Q := zw_inst0 rfl
theorem s110_42r {ls : List Value} {r : Nat} : ZW zG d 110 42 ls (.ref r :: st) z Q = ((50 ≤ zcls z r ∧ zcls z r < 54) ∧ ZW zG d 110 45 ls (.int (if zcls z r = 50 then 1 else 0) :: st) z Q) := zw_inst1 rfl
theorem s110_45 {ls : List Value} {a : Int32} : ZW zG d 110 45 ls (.int a :: st) z Q = if a = 0 then ZW zG d 110 59 ls st z Q else ZW zG d 110 48 ls st z Q := zw_ifeq rfl
theorem s110_48 {x0 : Value} : ZW zG d 110 48 [x0] st z Q = (zir x0 = true ∧ ZW zG d 110 49 [x0] (x0 :: st) z Q) := zw_cond (f := z_aload 0 49) rfl rfl
theorem s110_49 {ls : List Value} {r : Nat} : ZW zG d 110 49 ls (.ref r :: st) z Q = ((zcls z r = 11 ∧ zir (zfr z r 0) = true) ∧ ZW zG d 110 52 ls (zfr z r 0 :: st) (z) Q) := zw_getR rfl
theorem s110_52 {ls : List Value} {r : Nat} : ZW zG d 110 52 ls (.ref r :: st) z Q = ((zcls z r = 50) ∧ ZW zG d 110 55 ls (.ref r :: st) (z) Q) := zw_cast rfl
theorem s110_55 {ls : List Value} {r : Nat} : ZW zG d 110 55 ls (.ref r :: st) z Q = ((zcls z r = 50) ∧ ZW zG d 110 56 ls (.int (nI (zlen z r)) :: st) (z) Q) := zw_alen rfl
theorem s110_56 {ls : List Value}  : ZW zG d 110 56 ls (st) z Q = ZW zG d 110 67 ls st z Q := zw_goto rfl
theorem s110_59 {x0 : Value} : ZW zG d 110 59 [x0] st z Q = (zir x0 = true ∧ ZW zG d 110 60 [x0] (x0 :: st) z Q) := zw_cond (f := z_aload 0 60) rfl rfl
theorem s110_60 {ls : List Value} {r : Nat} : ZW zG d 110 60 ls (.ref r :: st) z Q = ((zcls z r = 11 ∧ zir (zfr z r 0) = true) ∧ ZW zG d 110 63 ls (zfr z r 0 :: st) (z) Q) := zw_getR rfl
theorem s110_63 {ls : List Value} {r : Nat} : ZW zG d 110 63 ls (.ref r :: st) z Q = ((zcls z r = 51) ∧ ZW zG d 110 66 ls (.ref r :: st) (z) Q) := zw_cast rfl
theorem s110_66 {ls : List Value} {r : Nat} : ZW zG d 110 66 ls (.ref r :: st) z Q = ((zcls z r = 51) ∧ ZW zG d 110 67 ls (.int (nI (zlen z r)) :: st) (z) Q) := zw_alen rfl
theorem s110_67 {ls : List Value} {a : Int32} : ZW zG d 110 67 ls ([.int a]) z Q = Q (.inl (some (.int a))) z := zw_reti rfl
/-- X11_number (I)J -/
theorem e111 {r0 : Nat} {v0 : Int32} : ZC zG d 111 [.ref r0, .int v0] z Q = ZW zG d 111 0 [.ref r0, .int v0] [] z Q := rfl
theorem s111_0 {x0 x1 : Value} : ZW zG d 111 0 [x0, x1] st z Q = (zir x0 = true ∧ ZW zG d 111 1 [x0, x1] (x0 :: st) z Q) := zw_cond (f := z_aload 0 1) rfl rfl
theorem s111_1 {ls : List Value} {r : Nat} : ZW zG d 111 1 ls (.ref r :: st) z Q = ((zcls z r = 11 ∧ zir (zfr z r 0) = true) ∧ ZW zG d 111 4 ls (zfr z r 0 :: st) (z) Q) := zw_getR rfl
theorem s111_4 {ls : List Value} : ZW zG d 111 4 ls (.null :: st) z Q = ZW zG d 111 7 ls (.int 0 :: st) z Q := zw_inst0 rfl
theorem s111_4r {ls : List Value} {r : Nat} : ZW zG d 111 4 ls (.ref r :: st) z Q = ((50 ≤ zcls z r ∧ zcls z r < 54) ∧ ZW zG d 111 7 ls (.int (if zcls z r = 52 then 1 else 0) :: st) z Q) := zw_inst1 rfl
theorem s111_7 {ls : List Value} {a : Int32} : ZW zG d 111 7 ls (.int a :: st) z Q = if a = 0 then ZW zG d 111 21 ls st z Q else ZW zG d 111 10 ls st z Q := zw_ifeq rfl
theorem s111_10 {x0 x1 : Value} : ZW zG d 111 10 [x0, x1] st z Q = (zir x0 = true ∧ ZW zG d 111 11 [x0, x1] (x0 :: st) z Q) := zw_cond (f := z_aload 0 11) rfl rfl
theorem s111_11 {ls : List Value} {r : Nat} : ZW zG d 111 11 ls (.ref r :: st) z Q = ((zcls z r = 11 ∧ zir (zfr z r 0) = true) ∧ ZW zG d 111 14 ls (zfr z r 0 :: st) (z) Q) := zw_getR rfl
theorem s111_14 {ls : List Value} {r : Nat} : ZW zG d 111 14 ls (.ref r :: st) z Q = ((zcls z r = 52) ∧ ZW zG d 111 17 ls (.ref r :: st) (z) Q) := zw_cast rfl
theorem s111_17 {x0 : Value} {a : Int32} : ZW zG d 111 17 [x0, .int a] st z Q = ZW zG d 111 18 [x0, .int a] (.int a :: st) z Q := zw_next (f := z_iload 1 18) rfl rfl
theorem s111_18 {ls : List Value} {a : Int32} {r : Nat} : ZW zG d 111 18 ls (.int a :: .ref r :: st) z Q = ((zcls z r = 52 ∧ zin a (zlen z r) = true) ∧ ZW zG d 111 19 ls (.int (zia z r (zx a)) :: st) (z) Q) := zw_iald rfl
theorem s111_19 {ls : List Value} {a : Int32} : ZW zG d 111 19 ls (.int a :: st) z Q = ZW zG d 111 20 ls (.long a.toInt64 :: st) z Q := zw_i2l rfl
theorem s111_20 {ls : List Value} {a : Int64} : ZW zG d 111 20 ls ([.long a]) z Q = Q (.inl (some (.long a))) z := zw_retl rfl
theorem s111_21 {x0 x1 : Value} : ZW zG d 111 21 [x0, x1] st z Q = (zir x0 = true ∧ ZW zG d 111 22 [x0, x1] (x0 :: st) z Q) := zw_cond (f := z_aload 0 22) rfl rfl
theorem s111_22 {ls : List Value} {r : Nat} : ZW zG d 111 22 ls (.ref r :: st) z Q = ((zcls z r = 11 ∧ zir (zfr z r 0) = true) ∧ ZW zG d 111 25 ls (zfr z r 0 :: st) (z) Q) := zw_getR rfl
theorem s111_25 {ls : List Value} : ZW zG d 111 25 ls (.null :: st) z Q = ZW zG d 111 28 ls (.int 0 :: st) z Q := zw_inst0 rfl
theorem s111_25r {ls : List Value} {r : Nat} : ZW zG d 111 25 ls (.ref r :: st) z Q = ((50 ≤ zcls z r ∧ zcls z r < 54) ∧ ZW zG d 111 28 ls (.int (if zcls z r = 53 then 1 else 0) :: st) z Q) := zw_inst1 rfl
theorem s111_28 {ls : List Value} {a : Int32} : ZW zG d 111 28 ls (.int a :: st) z Q = if a = 0 then ZW zG d 111 42 ls st z Q else ZW zG d 111 31 ls st z Q := zw_ifeq rfl
theorem s111_31 {x0 x1 : Value} : ZW zG d 111 31 [x0, x1] st z Q = (zir x0 = true ∧ ZW zG d 111 32 [x0, x1] (x0 :: st) z Q) := zw_cond (f := z_aload 0 32) rfl rfl
theorem s111_32 {ls : List Value} {r : Nat} : ZW zG d 111 32 ls (.ref r :: st) z Q = ((zcls z r = 11 ∧ zir (zfr z r 0) = true) ∧ ZW zG d 111 35 ls (zfr z r 0 :: st) (z) Q) := zw_getR rfl
theorem s111_35 {ls : List Value} {r : Nat} : ZW zG d 111 35 ls (.ref r :: st) z Q = ((zcls z r = 53) ∧ ZW zG d 111 38 ls (.ref r :: st) (z) Q) := zw_cast rfl
theorem s111_38 {x0 : Value} {a : Int32} : ZW zG d 111 38 [x0, .int a] st z Q = ZW zG d 111 39 [x0, .int a] (.int a :: st) z Q := zw_next (f := z_iload 1 39) rfl rfl
theorem s111_39 {ls : List Value} {a : Int32} {r : Nat} : ZW zG d 111 39 ls (.int a :: .ref r :: st) z Q = ((zcls z r = 53 ∧ zin a (zlen z r) = true) ∧ ZW zG d 111 40 ls (.int (zia z r (zx a)) :: st) (z) Q) := zw_iald rfl
theorem s111_40 {ls : List Value} {a : Int32} : ZW zG d 111 40 ls (.int a :: st) z Q = ZW zG d 111 41 ls (.long a.toInt64 :: st) z Q := zw_i2l rfl
theorem s111_41 {ls : List Value} {a : Int64} : ZW zG d 111 41 ls ([.long a]) z Q = Q (.inl (some (.long a))) z := zw_retl rfl
theorem s111_42 {x0 x1 : Value} : ZW zG d 111 42 [x0, x1] st z Q = (zir x0 = true ∧ ZW zG d 111 43 [x0, x1] (x0 :: st) z Q) := zw_cond (f := z_aload 0 43) rfl rfl
theorem s111_43 {ls : List Value} {r : Nat} : ZW zG d 111 43 ls (.ref r :: st) z Q = ((zcls z r = 11 ∧ zir (zfr z r 0) = true) ∧ ZW zG d 111 46 ls (zfr z r 0 :: st) (z) Q) := zw_getR rfl
theorem s111_46 {ls : List Value} : ZW zG d 111 46 ls (.null :: st) z Q = ZW zG d 111 49 ls (.int 0 :: st) z Q := zw_inst0 rfl
theorem s111_46r {ls : List Value} {r : Nat} : ZW zG d 111 46 ls (.ref r :: st) z Q = ((50 ≤ zcls z r ∧ zcls z r < 54) ∧ ZW zG d 111 49 ls (.int (if zcls z r = 50 then 1 else 0) :: st) z Q) := zw_inst1 rfl
theorem s111_49 {ls : List Value} {a : Int32} : ZW zG d 111 49 ls (.int a :: st) z Q = if a = 0 then ZW zG d 111 65 ls st z Q else ZW zG d 111 52 ls st z Q := zw_ifeq rfl
theorem s111_52 {x0 x1 : Value} : ZW zG d 111 52 [x0, x1] st z Q = (zir x0 = true ∧ ZW zG d 111 53 [x0, x1] (x0 :: st) z Q) := zw_cond (f := z_aload 0 53) rfl rfl
theorem s111_53 {ls : List Value} {r : Nat} : ZW zG d 111 53 ls (.ref r :: st) z Q = ((zcls z r = 11 ∧ zir (zfr z r 0) = true) ∧ ZW zG d 111 56 ls (zfr z r 0 :: st) (z) Q) := zw_getR rfl
theorem s111_56 {ls : List Value} {r : Nat} : ZW zG d 111 56 ls (.ref r :: st) z Q = ((zcls z r = 50) ∧ ZW zG d 111 59 ls (.ref r :: st) (z) Q) := zw_cast rfl
theorem s111_59 {x0 : Value} {a : Int32} : ZW zG d 111 59 [x0, .int a] st z Q = ZW zG d 111 60 [x0, .int a] (.int a :: st) z Q := zw_next (f := z_iload 1 60) rfl rfl
theorem s111_60 {ls : List Value} {a : Int32} {r : Nat} : ZW zG d 111 60 ls (.int a :: .ref r :: st) z Q = ((zcls z r = 50 ∧ zin a (zlen z r) = true) ∧ ZW zG d 111 61 ls (.int (zia z r (zx a)) :: st) (z) Q) := zw_iald rfl
theorem s111_61 {ls : List Value} {a : Int32} : ZW zG d 111 61 ls (.int a :: st) z Q = ZW zG d 111 62 ls (.long a.toInt64 :: st) z Q := zw_i2l rfl
theorem s111_62 {ls : List Value}  : ZW zG d 111 62 ls (st) z Q = ZW zG d 111 74 ls st z Q := zw_goto rfl
theorem s111_65 {x0 x1 : Value} : ZW zG d 111 65 [x0, x1] st z Q = (zir x0 = true ∧ ZW zG d 111 66 [x0, x1] (x0 :: st) z Q) := zw_cond (f := z_aload 0 66) rfl rfl
theorem s111_66 {ls : List Value} {r : Nat} : ZW zG d 111 66 ls (.ref r :: st) z Q = ((zcls z r = 11 ∧ zir (zfr z r 0) = true) ∧ ZW zG d 111 69 ls (zfr z r 0 :: st) (z) Q) := zw_getR rfl
theorem s111_69 {ls : List Value} {r : Nat} : ZW zG d 111 69 ls (.ref r :: st) z Q = ((zcls z r = 51) ∧ ZW zG d 111 72 ls (.ref r :: st) (z) Q) := zw_cast rfl
theorem s111_72 {x0 : Value} {a : Int32} : ZW zG d 111 72 [x0, .int a] st z Q = ZW zG d 111 73 [x0, .int a] (.int a :: st) z Q := zw_next (f := z_iload 1 73) rfl rfl
theorem s111_73 {ls : List Value} {a : Int32} {r : Nat} : ZW zG d 111 73 ls (.int a :: .ref r :: st) z Q = ((zcls z r = 51 ∧ zin a (zlen z r) = true) ∧ ZW zG d 111 74 ls (.long (zla z r (zx a)) :: st) (z) Q) := zw_lald rfl
theorem s111_74 {ls : List Value} {a : Int64} : ZW zG d 111 74 ls ([.long a]) z Q = Q (.inl (some (.long a))) z := zw_retl rfl
/-- X13_init ([BI)V -/
theorem e214 {r0 : Nat} {v0 : Nat} {v1 : Int32} : ZC zG d 214 [.ref r0, .ref v0, .int v1] z Q = ZW zG d 214 0 [.ref r0, .ref v0, .int v1] [] z Q := rfl
theorem s214_0 {x0 x1 x2 : Value} : ZW zG d 214 0 [x0, x1, x2] st z Q = (zir x0 = true ∧ ZW zG d 214 1 [x0, x1, x2] (x0 :: st) z Q) := zw_cond (f := z_aload 0 1) rfl rfl
theorem s214_1 {ls : List Value} {r : Nat} : ZW zG d 214 1 ls (.ref r :: st) z Q = ((zcs st = true) ∧ ZW zG d 214 4 ls (st) (z) Q) := zw_oinit rfl
theorem s214_4 {x0 x1 x2 : Value} : ZW zG d 214 4 [x0, x1, x2] st z Q = (zir x0 = true ∧ ZW zG d 214 5 [x0, x1, x2] (x0 :: st) z Q) := zw_cond (f := z_aload 0 5) rfl rfl
theorem s214_5 {ls : List Value}  : ZW zG d 214 5 ls (st) z Q = ZW zG d 214 7 ls ((.int (nI 7)) :: st) z Q := zw_push rfl
theorem s214_7 {ls : List Value} {a : Int32} : ZW zG d 214 7 ls (.int a :: st) z Q = ((zin a 1000000 = true) ∧ ZW zG d 214 10 ls (.ref (zn z) :: st) (sarr z 63 (zx a)) Q) := zw_newa rfl
theorem s214_10 {ls : List Value} {r : Nat} : ZW zG d 214 10 ls (.ref r :: st) z Q = ZW zG d 214 11 ls (.ref r :: .ref r :: st) z Q := zw_dupr rfl
theorem s214_11 {ls : List Value}  : ZW zG d 214 11 ls (st) z Q = ZW zG d 214 12 ls ((.int (nI 0)) :: st) z Q := zw_push rfl
theorem s214_12 {ls : List Value}  : ZW zG d 214 12 ls (st) z Q = ZW zG d 214 14 ls ((.ref 28) :: st) z Q := zw_push rfl
theorem s214_14 {ls : List Value} {a : Int32} {v : Value} {r : Nat} : ZW zG d 214 14 ls (v :: .int a :: .ref r :: st) z Q = ((zcls z r = 63 ∧ zin a (zlen z r) = true ∧ zael z 63 v = true) ∧ ZW zG d 214 15 ls (st) (sra z r (zx a) v) Q) := zw_aast rfl
theorem s214_15 {ls : List Value} {r : Nat} : ZW zG d 214 15 ls (.ref r :: st) z Q = ZW zG d 214 16 ls (.ref r :: .ref r :: st) z Q := zw_dupr rfl
theorem s214_16 {ls : List Value}  : ZW zG d 214 16 ls (st) z Q = ZW zG d 214 17 ls ((.int (nI 1)) :: st) z Q := zw_push rfl
theorem s214_17 {ls : List Value}  : ZW zG d 214 17 ls (st) z Q = ZW zG d 214 19 ls ((.ref 19) :: st) z Q := zw_push rfl
theorem s214_19 {ls : List Value} {a : Int32} {v : Value} {r : Nat} : ZW zG d 214 19 ls (v :: .int a :: .ref r :: st) z Q = ((zcls z r = 63 ∧ zin a (zlen z r) = true ∧ zael z 63 v = true) ∧ ZW zG d 214 20 ls (st) (sra z r (zx a) v) Q) := zw_aast rfl
theorem s214_20 {ls : List Value} {r : Nat} : ZW zG d 214 20 ls (.ref r :: st) z Q = ZW zG d 214 21 ls (.ref r :: .ref r :: st) z Q := zw_dupr rfl
theorem s214_21 {ls : List Value}  : ZW zG d 214 21 ls (st) z Q = ZW zG d 214 22 ls ((.int (nI 2)) :: st) z Q := zw_push rfl
theorem s214_22 {ls : List Value}  : ZW zG d 214 22 ls (st) z Q = ZW zG d 214 24 ls ((.ref 32) :: st) z Q := zw_push rfl
theorem s214_24 {ls : List Value} {a : Int32} {v : Value} {r : Nat} : ZW zG d 214 24 ls (v :: .int a :: .ref r :: st) z Q = ((zcls z r = 63 ∧ zin a (zlen z r) = true ∧ zael z 63 v = true) ∧ ZW zG d 214 25 ls (st) (sra z r (zx a) v) Q) := zw_aast rfl
theorem s214_25 {ls : List Value} {r : Nat} : ZW zG d 214 25 ls (.ref r :: st) z Q = ZW zG d 214 26 ls (.ref r :: .ref r :: st) z Q := zw_dupr rfl
theorem s214_26 {ls : List Value}  : ZW zG d 214 26 ls (st) z Q = ZW zG d 214 27 ls ((.int (nI 3)) :: st) z Q := zw_push rfl
theorem s214_27 {ls : List Value}  : ZW zG d 214 27 ls (st) z Q = ZW zG d 214 29 ls ((.ref 33) :: st) z Q := zw_push rfl
theorem s214_29 {ls : List Value} {a : Int32} {v : Value} {r : Nat} : ZW zG d 214 29 ls (v :: .int a :: .ref r :: st) z Q = ((zcls z r = 63 ∧ zin a (zlen z r) = true ∧ zael z 63 v = true) ∧ ZW zG d 214 30 ls (st) (sra z r (zx a) v) Q) := zw_aast rfl
theorem s214_30 {ls : List Value} {r : Nat} : ZW zG d 214 30 ls (.ref r :: st) z Q = ZW zG d 214 31 ls (.ref r :: .ref r :: st) z Q := zw_dupr rfl
theorem s214_31 {ls : List Value}  : ZW zG d 214 31 ls (st) z Q = ZW zG d 214 32 ls ((.int (nI 4)) :: st) z Q := zw_push rfl
theorem s214_32 {ls : List Value}  : ZW zG d 214 32 ls (st) z Q = ZW zG d 214 34 ls ((.ref 30) :: st) z Q := zw_push rfl
theorem s214_34 {ls : List Value} {a : Int32} {v : Value} {r : Nat} : ZW zG d 214 34 ls (v :: .int a :: .ref r :: st) z Q = ((zcls z r = 63 ∧ zin a (zlen z r) = true ∧ zael z 63 v = true) ∧ ZW zG d 214 35 ls (st) (sra z r (zx a) v) Q) := zw_aast rfl
theorem s214_35 {ls : List Value} {r : Nat} : ZW zG d 214 35 ls (.ref r :: st) z Q = ZW zG d 214 36 ls (.ref r :: .ref r :: st) z Q := zw_dupr rfl
theorem s214_36 {ls : List Value}  : ZW zG d 214 36 ls (st) z Q = ZW zG d 214 37 ls ((.int (nI 5)) :: st) z Q := zw_push rfl
theorem s214_37 {ls : List Value}  : ZW zG d 214 37 ls (st) z Q = ZW zG d 214 39 ls ((.ref 9) :: st) z Q := zw_push rfl
theorem s214_39 {ls : List Value} {a : Int32} {v : Value} {r : Nat} : ZW zG d 214 39 ls (v :: .int a :: .ref r :: st) z Q = ((zcls z r = 63 ∧ zin a (zlen z r) = true ∧ zael z 63 v = true) ∧ ZW zG d 214 40 ls (st) (sra z r (zx a) v) Q) := zw_aast rfl
theorem s214_40 {ls : List Value} {r : Nat} : ZW zG d 214 40 ls (.ref r :: st) z Q = ZW zG d 214 41 ls (.ref r :: .ref r :: st) z Q := zw_dupr rfl
theorem s214_41 {ls : List Value}  : ZW zG d 214 41 ls (st) z Q = ZW zG d 214 43 ls ((.int (nI 6)) :: st) z Q := zw_push rfl
theorem s214_43 {ls : List Value}  : ZW zG d 214 43 ls (st) z Q = ZW zG d 214 45 ls ((.ref 26) :: st) z Q := zw_push rfl
theorem s214_45 {ls : List Value} {a : Int32} {v : Value} {r : Nat} : ZW zG d 214 45 ls (v :: .int a :: .ref r :: st) z Q = ((zcls z r = 63 ∧ zin a (zlen z r) = true ∧ zael z 63 v = true) ∧ ZW zG d 214 46 ls (st) (sra z r (zx a) v) Q) := zw_aast rfl
theorem s214_46 {ls : List Value} {v : Value} {r : Nat} : ZW zG d 214 46 ls (v :: .ref r :: st) z Q = ((zcls z r = 13 ∧ zir v = true) ∧ ZW zG d 214 49 ls (st) (sfr z r 0 v) Q) := zw_putR rfl
theorem s214_49 {x0 x1 x2 : Value} : ZW zG d 214 49 [x0, x1, x2] st z Q = (zir x0 = true ∧ ZW zG d 214 50 [x0, x1, x2] (x0 :: st) z Q) := zw_cond (f := z_aload 0 50) rfl rfl
theorem s214_50 {ls : List Value}  : ZW zG d 214 50 ls (st) z Q = ZW zG d 214 51 ls ((.int (nI 4)) :: st) z Q := zw_push rfl
theorem s214_51 {ls : List Value} {a : Int32} : ZW zG d 214 51 ls (.int a :: st) z Q = ((zin a 1000000 = true) ∧ ZW zG d 214 54 ls (.ref (zn z) :: st) (sarr z 63 (zx a)) Q) := zw_newa rfl
theorem s214_54 {ls : List Value} {r : Nat} : ZW zG d 214 54 ls (.ref r :: st) z Q = ZW zG d 214 55 ls (.ref r :: .ref r :: st) z Q := zw_dupr rfl
theorem s214_55 {ls : List Value}  : ZW zG d 214 55 ls (st) z Q = ZW zG d 214 56 ls ((.int (nI 0)) :: st) z Q := zw_push rfl
theorem s214_56 {ls : List Value}  : ZW zG d 214 56 ls (st) z Q = ZW zG d 214 58 ls ((.ref 27) :: st) z Q := zw_push rfl
theorem s214_58 {ls : List Value} {a : Int32} {v : Value} {r : Nat} : ZW zG d 214 58 ls (v :: .int a :: .ref r :: st) z Q = ((zcls z r = 63 ∧ zin a (zlen z r) = true ∧ zael z 63 v = true) ∧ ZW zG d 214 59 ls (st) (sra z r (zx a) v) Q) := zw_aast rfl
theorem s214_59 {ls : List Value} {r : Nat} : ZW zG d 214 59 ls (.ref r :: st) z Q = ZW zG d 214 60 ls (.ref r :: .ref r :: st) z Q := zw_dupr rfl
theorem s214_60 {ls : List Value}  : ZW zG d 214 60 ls (st) z Q = ZW zG d 214 61 ls ((.int (nI 1)) :: st) z Q := zw_push rfl
theorem s214_61 {ls : List Value}  : ZW zG d 214 61 ls (st) z Q = ZW zG d 214 63 ls ((.ref 5) :: st) z Q := zw_push rfl
theorem s214_63 {ls : List Value} {a : Int32} {v : Value} {r : Nat} : ZW zG d 214 63 ls (v :: .int a :: .ref r :: st) z Q = ((zcls z r = 63 ∧ zin a (zlen z r) = true ∧ zael z 63 v = true) ∧ ZW zG d 214 64 ls (st) (sra z r (zx a) v) Q) := zw_aast rfl
theorem s214_64 {ls : List Value} {r : Nat} : ZW zG d 214 64 ls (.ref r :: st) z Q = ZW zG d 214 65 ls (.ref r :: .ref r :: st) z Q := zw_dupr rfl
theorem s214_65 {ls : List Value}  : ZW zG d 214 65 ls (st) z Q = ZW zG d 214 66 ls ((.int (nI 2)) :: st) z Q := zw_push rfl
theorem s214_66 {ls : List Value}  : ZW zG d 214 66 ls (st) z Q = ZW zG d 214 68 ls ((.ref 3) :: st) z Q := zw_push rfl
theorem s214_68 {ls : List Value} {a : Int32} {v : Value} {r : Nat} : ZW zG d 214 68 ls (v :: .int a :: .ref r :: st) z Q = ((zcls z r = 63 ∧ zin a (zlen z r) = true ∧ zael z 63 v = true) ∧ ZW zG d 214 69 ls (st) (sra z r (zx a) v) Q) := zw_aast rfl
theorem s214_69 {ls : List Value} {r : Nat} : ZW zG d 214 69 ls (.ref r :: st) z Q = ZW zG d 214 70 ls (.ref r :: .ref r :: st) z Q := zw_dupr rfl
theorem s214_70 {ls : List Value}  : ZW zG d 214 70 ls (st) z Q = ZW zG d 214 71 ls ((.int (nI 3)) :: st) z Q := zw_push rfl
theorem s214_71 {ls : List Value}  : ZW zG d 214 71 ls (st) z Q = ZW zG d 214 73 ls ((.ref 8) :: st) z Q := zw_push rfl
theorem s214_73 {ls : List Value} {a : Int32} {v : Value} {r : Nat} : ZW zG d 214 73 ls (v :: .int a :: .ref r :: st) z Q = ((zcls z r = 63 ∧ zin a (zlen z r) = true ∧ zael z 63 v = true) ∧ ZW zG d 214 74 ls (st) (sra z r (zx a) v) Q) := zw_aast rfl
theorem s214_74 {ls : List Value} {v : Value} {r : Nat} : ZW zG d 214 74 ls (v :: .ref r :: st) z Q = ((zcls z r = 13 ∧ zir v = true) ∧ ZW zG d 214 77 ls (st) (sfr z r 1 v) Q) := zw_putR rfl
theorem s214_77 {x0 x1 x2 : Value} : ZW zG d 214 77 [x0, x1, x2] st z Q = (zir x0 = true ∧ ZW zG d 214 78 [x0, x1, x2] (x0 :: st) z Q) := zw_cond (f := z_aload 0 78) rfl rfl
theorem s214_78 {ls : List Value}  : ZW zG d 214 78 ls (st) z Q = ZW zG d 214 79 ls ((.int (nI 3)) :: st) z Q := zw_push rfl
theorem s214_79 {ls : List Value} {a : Int32} : ZW zG d 214 79 ls (.int a :: st) z Q = ((zin a 1000000 = true) ∧ ZW zG d 214 82 ls (.ref (zn z) :: st) (sarr z 63 (zx a)) Q) := zw_newa rfl
theorem s214_82 {ls : List Value} {r : Nat} : ZW zG d 214 82 ls (.ref r :: st) z Q = ZW zG d 214 83 ls (.ref r :: .ref r :: st) z Q := zw_dupr rfl
theorem s214_83 {ls : List Value}  : ZW zG d 214 83 ls (st) z Q = ZW zG d 214 84 ls ((.int (nI 0)) :: st) z Q := zw_push rfl
theorem s214_84 {ls : List Value}  : ZW zG d 214 84 ls (st) z Q = ZW zG d 214 86 ls ((.ref 20) :: st) z Q := zw_push rfl
theorem s214_86 {ls : List Value} {a : Int32} {v : Value} {r : Nat} : ZW zG d 214 86 ls (v :: .int a :: .ref r :: st) z Q = ((zcls z r = 63 ∧ zin a (zlen z r) = true ∧ zael z 63 v = true) ∧ ZW zG d 214 87 ls (st) (sra z r (zx a) v) Q) := zw_aast rfl
theorem s214_87 {ls : List Value} {r : Nat} : ZW zG d 214 87 ls (.ref r :: st) z Q = ZW zG d 214 88 ls (.ref r :: .ref r :: st) z Q := zw_dupr rfl
theorem s214_88 {ls : List Value}  : ZW zG d 214 88 ls (st) z Q = ZW zG d 214 89 ls ((.int (nI 1)) :: st) z Q := zw_push rfl
theorem s214_89 {ls : List Value}  : ZW zG d 214 89 ls (st) z Q = ZW zG d 214 91 ls ((.ref 16) :: st) z Q := zw_push rfl
theorem s214_91 {ls : List Value} {a : Int32} {v : Value} {r : Nat} : ZW zG d 214 91 ls (v :: .int a :: .ref r :: st) z Q = ((zcls z r = 63 ∧ zin a (zlen z r) = true ∧ zael z 63 v = true) ∧ ZW zG d 214 92 ls (st) (sra z r (zx a) v) Q) := zw_aast rfl
theorem s214_92 {ls : List Value} {r : Nat} : ZW zG d 214 92 ls (.ref r :: st) z Q = ZW zG d 214 93 ls (.ref r :: .ref r :: st) z Q := zw_dupr rfl
theorem s214_93 {ls : List Value}  : ZW zG d 214 93 ls (st) z Q = ZW zG d 214 94 ls ((.int (nI 2)) :: st) z Q := zw_push rfl
theorem s214_94 {ls : List Value}  : ZW zG d 214 94 ls (st) z Q = ZW zG d 214 96 ls ((.ref 25) :: st) z Q := zw_push rfl
theorem s214_96 {ls : List Value} {a : Int32} {v : Value} {r : Nat} : ZW zG d 214 96 ls (v :: .int a :: .ref r :: st) z Q = ((zcls z r = 63 ∧ zin a (zlen z r) = true ∧ zael z 63 v = true) ∧ ZW zG d 214 97 ls (st) (sra z r (zx a) v) Q) := zw_aast rfl
theorem s214_97 {ls : List Value} {v : Value} {r : Nat} : ZW zG d 214 97 ls (v :: .ref r :: st) z Q = ((zcls z r = 13 ∧ zir v = true) ∧ ZW zG d 214 100 ls (st) (sfr z r 2 v) Q) := zw_putR rfl
theorem s214_100 {x0 x1 x2 : Value} : ZW zG d 214 100 [x0, x1, x2] st z Q = (zir x0 = true ∧ ZW zG d 214 101 [x0, x1, x2] (x0 :: st) z Q) := zw_cond (f := z_aload 0 101) rfl rfl
theorem s214_101 {ls : List Value}  : ZW zG d 214 101 ls (st) z Q = ZW zG d 214 102 ls ((.int (nI 5)) :: st) z Q := zw_push rfl
theorem s214_102 {ls : List Value} {a : Int32} : ZW zG d 214 102 ls (.int a :: st) z Q = ((zin a 1000000 = true) ∧ ZW zG d 214 105 ls (.ref (zn z) :: st) (sarr z 63 (zx a)) Q) := zw_newa rfl
theorem s214_105 {ls : List Value} {r : Nat} : ZW zG d 214 105 ls (.ref r :: st) z Q = ZW zG d 214 106 ls (.ref r :: .ref r :: st) z Q := zw_dupr rfl
theorem s214_106 {ls : List Value}  : ZW zG d 214 106 ls (st) z Q = ZW zG d 214 107 ls ((.int (nI 0)) :: st) z Q := zw_push rfl
theorem s214_107 {ls : List Value}  : ZW zG d 214 107 ls (st) z Q = ZW zG d 214 109 ls ((.ref 17) :: st) z Q := zw_push rfl
theorem s214_109 {ls : List Value} {a : Int32} {v : Value} {r : Nat} : ZW zG d 214 109 ls (v :: .int a :: .ref r :: st) z Q = ((zcls z r = 63 ∧ zin a (zlen z r) = true ∧ zael z 63 v = true) ∧ ZW zG d 214 110 ls (st) (sra z r (zx a) v) Q) := zw_aast rfl
theorem s214_110 {ls : List Value} {r : Nat} : ZW zG d 214 110 ls (.ref r :: st) z Q = ZW zG d 214 111 ls (.ref r :: .ref r :: st) z Q := zw_dupr rfl
theorem s214_111 {ls : List Value}  : ZW zG d 214 111 ls (st) z Q = ZW zG d 214 112 ls ((.int (nI 1)) :: st) z Q := zw_push rfl
theorem s214_112 {ls : List Value}  : ZW zG d 214 112 ls (st) z Q = ZW zG d 214 114 ls ((.ref 29) :: st) z Q := zw_push rfl
theorem s214_114 {ls : List Value} {a : Int32} {v : Value} {r : Nat} : ZW zG d 214 114 ls (v :: .int a :: .ref r :: st) z Q = ((zcls z r = 63 ∧ zin a (zlen z r) = true ∧ zael z 63 v = true) ∧ ZW zG d 214 115 ls (st) (sra z r (zx a) v) Q) := zw_aast rfl
theorem s214_115 {ls : List Value} {r : Nat} : ZW zG d 214 115 ls (.ref r :: st) z Q = ZW zG d 214 116 ls (.ref r :: .ref r :: st) z Q := zw_dupr rfl
theorem s214_116 {ls : List Value}  : ZW zG d 214 116 ls (st) z Q = ZW zG d 214 117 ls ((.int (nI 2)) :: st) z Q := zw_push rfl
theorem s214_117 {ls : List Value}  : ZW zG d 214 117 ls (st) z Q = ZW zG d 214 119 ls ((.ref 7) :: st) z Q := zw_push rfl
theorem s214_119 {ls : List Value} {a : Int32} {v : Value} {r : Nat} : ZW zG d 214 119 ls (v :: .int a :: .ref r :: st) z Q = ((zcls z r = 63 ∧ zin a (zlen z r) = true ∧ zael z 63 v = true) ∧ ZW zG d 214 120 ls (st) (sra z r (zx a) v) Q) := zw_aast rfl
theorem s214_120 {ls : List Value} {r : Nat} : ZW zG d 214 120 ls (.ref r :: st) z Q = ZW zG d 214 121 ls (.ref r :: .ref r :: st) z Q := zw_dupr rfl
theorem s214_121 {ls : List Value}  : ZW zG d 214 121 ls (st) z Q = ZW zG d 214 122 ls ((.int (nI 3)) :: st) z Q := zw_push rfl
theorem s214_122 {ls : List Value}  : ZW zG d 214 122 ls (st) z Q = ZW zG d 214 124 ls ((.ref 6) :: st) z Q := zw_push rfl
theorem s214_124 {ls : List Value} {a : Int32} {v : Value} {r : Nat} : ZW zG d 214 124 ls (v :: .int a :: .ref r :: st) z Q = ((zcls z r = 63 ∧ zin a (zlen z r) = true ∧ zael z 63 v = true) ∧ ZW zG d 214 125 ls (st) (sra z r (zx a) v) Q) := zw_aast rfl
theorem s214_125 {ls : List Value} {r : Nat} : ZW zG d 214 125 ls (.ref r :: st) z Q = ZW zG d 214 126 ls (.ref r :: .ref r :: st) z Q := zw_dupr rfl
theorem s214_126 {ls : List Value}  : ZW zG d 214 126 ls (st) z Q = ZW zG d 214 127 ls ((.int (nI 4)) :: st) z Q := zw_push rfl
theorem s214_127 {ls : List Value}  : ZW zG d 214 127 ls (st) z Q = ZW zG d 214 129 ls ((.ref 15) :: st) z Q := zw_push rfl
theorem s214_129 {ls : List Value} {a : Int32} {v : Value} {r : Nat} : ZW zG d 214 129 ls (v :: .int a :: .ref r :: st) z Q = ((zcls z r = 63 ∧ zin a (zlen z r) = true ∧ zael z 63 v = true) ∧ ZW zG d 214 130 ls (st) (sra z r (zx a) v) Q) := zw_aast rfl
theorem s214_130 {ls : List Value} {v : Value} {r : Nat} : ZW zG d 214 130 ls (v :: .ref r :: st) z Q = ((zcls z r = 13 ∧ zir v = true) ∧ ZW zG d 214 133 ls (st) (sfr z r 3 v) Q) := zw_putR rfl
theorem s214_133 {x0 x1 x2 : Value} : ZW zG d 214 133 [x0, x1, x2] st z Q = (zir x0 = true ∧ ZW zG d 214 134 [x0, x1, x2] (x0 :: st) z Q) := zw_cond (f := z_aload 0 134) rfl rfl
theorem s214_134 {ls : List Value}  : ZW zG d 214 134 ls (st) z Q = ZW zG d 214 137 ls (.ref (zn z) :: st) (snew z 2 5) Q := zw_new rfl
theorem s214_137 {ls : List Value} {r : Nat} : ZW zG d 214 137 ls (.ref r :: st) z Q = ZW zG d 214 138 ls (.ref r :: .ref r :: st) z Q := zw_dupr rfl
theorem s214_138 {ls : List Value}  {r : Nat} : ZW zG (d + 1) 214 138 ls (.ref r :: st) z Q = (zcs st = true ∧ ZC zG d 62 [.ref r] z (zk zG (d + 1) 214 (none) 141 ls st Q)) := zc_I0 rfl (Nat.le_of_ble_eq_true rfl)
theorem s214_141 {ls : List Value} {v : Value} {r : Nat} : ZW zG d 214 141 ls (v :: .ref r :: st) z Q = ((zcls z r = 13 ∧ zir v = true) ∧ ZW zG d 214 144 ls (st) (sfr z r 6 v) Q) := zw_putR rfl
theorem s214_144 {x0 x1 x2 : Value} : ZW zG d 214 144 [x0, x1, x2] st z Q = (zir x0 = true ∧ ZW zG d 214 145 [x0, x1, x2] (x0 :: st) z Q) := zw_cond (f := z_aload 0 145) rfl rfl
theorem s214_145 {x0 x1 x2 : Value} : ZW zG d 214 145 [x0, x1, x2] st z Q = (zir x1 = true ∧ ZW zG d 214 146 [x0, x1, x2] (x1 :: st) z Q) := zw_cond (f := z_aload 1 146) rfl rfl
theorem s214_146 {ls : List Value} {v : Value} {r : Nat} : ZW zG d 214 146 ls (v :: .ref r :: st) z Q = ((zcls z r = 13 ∧ zir v = true) ∧ ZW zG d 214 149 ls (st) (sfr z r 4 v) Q) := zw_putR rfl
theorem s214_149 {x0 x1 x2 : Value} : ZW zG d 214 149 [x0, x1, x2] st z Q = (zir x0 = true ∧ ZW zG d 214 150 [x0, x1, x2] (x0 :: st) z Q) := zw_cond (f := z_aload 0 150) rfl rfl
theorem s214_150 {x0 x1 : Value} {a : Int32} : ZW zG d 214 150 [x0, x1, .int a] st z Q = ZW zG d 214 151 [x0, x1, .int a] (.int a :: st) z Q := zw_next (f := z_iload 2 151) rfl rfl
theorem s214_151 {ls : List Value} {a : Int32} {r : Nat} : ZW zG d 214 151 ls (.int a :: .ref r :: st) z Q = ((zcls z r = 13) ∧ ZW zG d 214 154 ls (st) (sfi z r 5 a) Q) := zw_putI rfl
theorem s214_154 {ls : List Value}  : ZW zG d 214 154 ls ([]) z Q = Q (.inl none) z := zw_ret rfl
/-- X13_whole ()LCardBowl$Town; -/
theorem e215 {r0 : Nat} : ZC zG d 215 [.ref r0] z Q = ZW zG d 215 0 [.ref r0] [] z Q := rfl
theorem s215_0 {x0 : Value} : ZW zG d 215 0 [x0] st z Q = (zir x0 = true ∧ ZW zG d 215 1 [x0] (x0 :: st) z Q) := zw_cond (f := z_aload 0 1) rfl rfl
theorem s215_1 {ls : List Value}  {r : Nat} : ZW zG (d + 1) 215 1 ls (.ref r :: st) z Q = (zcls z r = 13 ∧ zcs st = true ∧ ZC zG d 216 [.ref r] z (zk zG (d + 1) 215 (some 0) 4 ls st Q)) := zc_V0 rfl (Nat.le_of_ble_eq_true rfl)
theorem s215_4 {x0 : Value} : ZW zG d 215 4 [x0] st z Q = (zir x0 = true ∧ ZW zG d 215 5 [x0] (x0 :: st) z Q) := zw_cond (f := z_aload 0 5) rfl rfl
theorem s215_5 {ls : List Value} {r : Nat} : ZW zG d 215 5 ls (.ref r :: st) z Q = ((zcls z r = 13) ∧ ZW zG d 215 8 ls (.int (zfi z r 9) :: st) (z) Q) := zw_getI rfl
theorem s215_8 {ls : List Value} {a : Int32} : ZW zG d 215 8 ls (.int a :: st) z Q = if a = 0 then ZW zG d 215 18 ls st z Q else ZW zG d 215 11 ls st z Q := zw_ifeq rfl
theorem s215_11 {x0 : Value} : ZW zG d 215 11 [x0] st z Q = (zir x0 = true ∧ ZW zG d 215 12 [x0] (x0 :: st) z Q) := zw_cond (f := z_aload 0 12) rfl rfl
theorem s215_12 {ls : List Value}  {r : Nat} : ZW zG (d + 1) 215 12 ls (.ref r :: st) z Q = (zcls z r = 13 ∧ zcs st = true ∧ ZC zG d 218 [.ref r] z (zk zG (d + 1) 215 (some 0) 15 ls st Q)) := zc_V0 rfl (Nat.le_of_ble_eq_true rfl)
theorem s215_15 {ls : List Value}  : ZW zG d 215 15 ls (st) z Q = ZW zG d 215 4 ls st z Q := zw_goto rfl
theorem s215_18 {x0 : Value} : ZW zG d 215 18 [x0] st z Q = (zir x0 = true ∧ ZW zG d 215 19 [x0] (x0 :: st) z Q) := zw_cond (f := z_aload 0 19) rfl rfl
theorem s215_19 {ls : List Value} {r : Nat} : ZW zG d 215 19 ls (.ref r :: st) z Q = ((zcls z r = 13 ∧ zir (zfr z r 6) = true) ∧ ZW zG d 215 22 ls (zfr z r 6 :: st) (z) Q) := zw_getR rfl
theorem s215_22 {ls : List Value} {q : Nat} : ZW zG d 215 22 ls ([.ref q]) z Q = Q (.inl (some (.ref q))) z := zw_reta rfl
theorem s215_22r {ls : List Value}  : ZW zG d 215 22 ls ([.null]) z Q = Q (.inl (some .null)) z := zw_retn rfl
/-- X13_next ()V -/
theorem e216 {r0 : Nat} : ZC zG d 216 [.ref r0] z Q = ZW zG d 216 0 [.ref r0] [] z Q := rfl
theorem s216_0 {x0 : Value} : ZW zG d 216 0 [x0] st z Q = (zir x0 = true ∧ ZW zG d 216 1 [x0] (x0 :: st) z Q) := zw_cond (f := z_aload 0 1) rfl rfl
theorem s216_1 {ls : List Value} {r : Nat} : ZW zG d 216 1 ls (.ref r :: st) z Q = ((zcls z r = 13) ∧ ZW zG d 216 4 ls (.int (zfi z r 7) :: st) (z) Q) := zw_getI rfl
theorem s216_4 {x0 : Value} : ZW zG d 216 4 [x0] st z Q = (zir x0 = true ∧ ZW zG d 216 5 [x0] (x0 :: st) z Q) := zw_cond (f := z_aload 0 5) rfl rfl
theorem s216_5 {ls : List Value} {r : Nat} : ZW zG d 216 5 ls (.ref r :: st) z Q = ((zcls z r = 13) ∧ ZW zG d 216 8 ls (.int (zfi z r 5) :: st) (z) Q) := zw_getI rfl
theorem s216_8 {ls : List Value} {a b : Int32} : ZW zG d 216 8 ls (.int b :: .int a :: st) z Q = if b ≤ a then ZW zG d 216 52 ls st z Q else ZW zG d 216 11 ls st z Q := zw_icge rfl
theorem s216_11 {x0 : Value} : ZW zG d 216 11 [x0] st z Q = (zir x0 = true ∧ ZW zG d 216 12 [x0] (x0 :: st) z Q) := zw_cond (f := z_aload 0 12) rfl rfl
theorem s216_12 {ls : List Value} {r : Nat} : ZW zG d 216 12 ls (.ref r :: st) z Q = ((zcls z r = 13 ∧ zir (zfr z r 4) = true) ∧ ZW zG d 216 15 ls (zfr z r 4 :: st) (z) Q) := zw_getR rfl
theorem s216_15 {x0 : Value} : ZW zG d 216 15 [x0] st z Q = (zir x0 = true ∧ ZW zG d 216 16 [x0] (x0 :: st) z Q) := zw_cond (f := z_aload 0 16) rfl rfl
theorem s216_16 {ls : List Value} {r : Nat} : ZW zG d 216 16 ls (.ref r :: st) z Q = ((zcls z r = 13) ∧ ZW zG d 216 19 ls (.int (zfi z r 7) :: st) (z) Q) := zw_getI rfl
theorem s216_19 {ls : List Value} {a : Int32} {r : Nat} : ZW zG d 216 19 ls (.int a :: .ref r :: st) z Q = ((zcls z r = 52 ∧ zin a (zlen z r) = true) ∧ ZW zG d 216 20 ls (.int (zia z r (zx a)) :: st) (z) Q) := zw_iald rfl
theorem s216_20 {ls : List Value}  : ZW zG d 216 20 ls (st) z Q = ZW zG d 216 22 ls ((.int (nI 32)) :: st) z Q := zw_push rfl
theorem s216_22 {ls : List Value} {a b : Int32} : ZW zG d 216 22 ls (.int b :: .int a :: st) z Q = if a = b then ZW zG d 216 39 ls st z Q else ZW zG d 216 25 ls st z Q := zw_iceq rfl
theorem s216_25 {x0 : Value} : ZW zG d 216 25 [x0] st z Q = (zir x0 = true ∧ ZW zG d 216 26 [x0] (x0 :: st) z Q) := zw_cond (f := z_aload 0 26) rfl rfl
theorem s216_26 {ls : List Value} {r : Nat} : ZW zG d 216 26 ls (.ref r :: st) z Q = ((zcls z r = 13 ∧ zir (zfr z r 4) = true) ∧ ZW zG d 216 29 ls (zfr z r 4 :: st) (z) Q) := zw_getR rfl
theorem s216_29 {x0 : Value} : ZW zG d 216 29 [x0] st z Q = (zir x0 = true ∧ ZW zG d 216 30 [x0] (x0 :: st) z Q) := zw_cond (f := z_aload 0 30) rfl rfl
theorem s216_30 {ls : List Value} {r : Nat} : ZW zG d 216 30 ls (.ref r :: st) z Q = ((zcls z r = 13) ∧ ZW zG d 216 33 ls (.int (zfi z r 7) :: st) (z) Q) := zw_getI rfl
theorem s216_33 {ls : List Value} {a : Int32} {r : Nat} : ZW zG d 216 33 ls (.int a :: .ref r :: st) z Q = ((zcls z r = 52 ∧ zin a (zlen z r) = true) ∧ ZW zG d 216 34 ls (.int (zia z r (zx a)) :: st) (z) Q) := zw_iald rfl
theorem s216_34 {ls : List Value}  : ZW zG d 216 34 ls (st) z Q = ZW zG d 216 36 ls ((.int (nI 10)) :: st) z Q := zw_push rfl
theorem s216_36 {ls : List Value} {a b : Int32} : ZW zG d 216 36 ls (.int b :: .int a :: st) z Q = if ¬ a = b then ZW zG d 216 52 ls st z Q else ZW zG d 216 39 ls st z Q := zw_icne rfl
theorem s216_39 {x0 : Value} : ZW zG d 216 39 [x0] st z Q = (zir x0 = true ∧ ZW zG d 216 40 [x0] (x0 :: st) z Q) := zw_cond (f := z_aload 0 40) rfl rfl
theorem s216_40 {ls : List Value} {r : Nat} : ZW zG d 216 40 ls (.ref r :: st) z Q = ZW zG d 216 41 ls (.ref r :: .ref r :: st) z Q := zw_dupr rfl
theorem s216_41 {ls : List Value} {r : Nat} : ZW zG d 216 41 ls (.ref r :: st) z Q = ((zcls z r = 13) ∧ ZW zG d 216 44 ls (.int (zfi z r 7) :: st) (z) Q) := zw_getI rfl
theorem s216_44 {ls : List Value}  : ZW zG d 216 44 ls (st) z Q = ZW zG d 216 45 ls ((.int (nI 1)) :: st) z Q := zw_push rfl
theorem s216_45 {ls : List Value} {a b : Int32} : ZW zG d 216 45 ls (.int b :: .int a :: st) z Q = ZW zG d 216 46 ls (.int (a + b) :: st) z Q := zw_iadd rfl
theorem s216_46 {ls : List Value} {a : Int32} {r : Nat} : ZW zG d 216 46 ls (.int a :: .ref r :: st) z Q = ((zcls z r = 13) ∧ ZW zG d 216 49 ls (st) (sfi z r 7 a) Q) := zw_putI rfl
theorem s216_49 {ls : List Value}  : ZW zG d 216 49 ls (st) z Q = ZW zG d 216 0 ls st z Q := zw_goto rfl
theorem s216_52 {x0 : Value} : ZW zG d 216 52 [x0] st z Q = (zir x0 = true ∧ ZW zG d 216 53 [x0] (x0 :: st) z Q) := zw_cond (f := z_aload 0 53) rfl rfl
theorem s216_53 {x0 : Value} : ZW zG d 216 53 [x0] st z Q = (zir x0 = true ∧ ZW zG d 216 54 [x0] (x0 :: st) z Q) := zw_cond (f := z_aload 0 54) rfl rfl
theorem s216_54 {ls : List Value} {r : Nat} : ZW zG d 216 54 ls (.ref r :: st) z Q = ((zcls z r = 13) ∧ ZW zG d 216 57 ls (.int (zfi z r 7) :: st) (z) Q) := zw_getI rfl
theorem s216_57 {ls : List Value} {a : Int32} {r : Nat} : ZW zG d 216 57 ls (.int a :: .ref r :: st) z Q = ((zcls z r = 13) ∧ ZW zG d 216 60 ls (st) (sfi z r 10 a) Q) := zw_putI rfl
theorem s216_60 {x0 : Value} : ZW zG d 216 60 [x0] st z Q = (zir x0 = true ∧ ZW zG d 216 61 [x0] (x0 :: st) z Q) := zw_cond (f := z_aload 0 61) rfl rfl
theorem s216_61 {x0 : Value} : ZW zG d 216 61 [x0] st z Q = (zir x0 = true ∧ ZW zG d 216 62 [x0] (x0 :: st) z Q) := zw_cond (f := z_aload 0 62) rfl rfl
theorem s216_62 {ls : List Value} {r : Nat} : ZW zG d 216 62 ls (.ref r :: st) z Q = ((zcls z r = 13) ∧ ZW zG d 216 65 ls (.int (zfi z r 7) :: st) (z) Q) := zw_getI rfl
theorem s216_65 {ls : List Value} {a : Int32} {r : Nat} : ZW zG d 216 65 ls (.int a :: .ref r :: st) z Q = ((zcls z r = 13) ∧ ZW zG d 216 68 ls (st) (sfi z r 8 a) Q) := zw_putI rfl
theorem s216_68 {x0 : Value} : ZW zG d 216 68 [x0] st z Q = (zir x0 = true ∧ ZW zG d 216 69 [x0] (x0 :: st) z Q) := zw_cond (f := z_aload 0 69) rfl rfl
theorem s216_69 {ls : List Value}  : ZW zG d 216 69 ls (st) z Q = ZW zG d 216 70 ls ((.int (nI 0)) :: st) z Q := zw_push rfl
theorem s216_70 {ls : List Value} {a : Int32} {r : Nat} : ZW zG d 216 70 ls (.int a :: .ref r :: st) z Q = ((zcls z r = 13) ∧ ZW zG d 216 73 ls (st) (sfi z r 11 a) Q) := zw_putI rfl
theorem s216_73 {x0 : Value} : ZW zG d 216 73 [x0] st z Q = (zir x0 = true ∧ ZW zG d 216 74 [x0] (x0 :: st) z Q) := zw_cond (f := z_aload 0 74) rfl rfl
theorem s216_74 {ls : List Value} {r : Nat} : ZW zG d 216 74 ls (.ref r :: st) z Q = ((zcls z r = 13) ∧ ZW zG d 216 77 ls (.int (zfi z r 7) :: st) (z) Q) := zw_getI rfl
theorem s216_77 {x0 : Value} : ZW zG d 216 77 [x0] st z Q = (zir x0 = true ∧ ZW zG d 216 78 [x0] (x0 :: st) z Q) := zw_cond (f := z_aload 0 78) rfl rfl
theorem s216_78 {ls : List Value} {r : Nat} : ZW zG d 216 78 ls (.ref r :: st) z Q = ((zcls z r = 13) ∧ ZW zG d 216 81 ls (.int (zfi z r 5) :: st) (z) Q) := zw_getI rfl
theorem s216_81 {ls : List Value} {a b : Int32} : ZW zG d 216 81 ls (.int b :: .int a :: st) z Q = if ¬ a = b then ZW zG d 216 92 ls st z Q else ZW zG d 216 84 ls st z Q := zw_icne rfl
theorem s216_84 {x0 : Value} : ZW zG d 216 84 [x0] st z Q = (zir x0 = true ∧ ZW zG d 216 85 [x0] (x0 :: st) z Q) := zw_cond (f := z_aload 0 85) rfl rfl
theorem s216_85 {ls : List Value}  : ZW zG d 216 85 ls (st) z Q = ZW zG d 216 86 ls ((.int (nI 0)) :: st) z Q := zw_push rfl
theorem s216_86 {ls : List Value} {a : Int32} {r : Nat} : ZW zG d 216 86 ls (.int a :: .ref r :: st) z Q = ((zcls z r = 13) ∧ ZW zG d 216 89 ls (st) (sfi z r 9 a) Q) := zw_putI rfl
theorem s216_89 {ls : List Value}  : ZW zG d 216 89 ls (st) z Q = ZW zG d 216 235 ls st z Q := zw_goto rfl
theorem s216_92 {x0 : Value} : ZW zG d 216 92 [x0] st z Q = (zir x0 = true ∧ ZW zG d 216 93 [x0] (x0 :: st) z Q) := zw_cond (f := z_aload 0 93) rfl rfl
theorem s216_93 {ls : List Value}  : ZW zG d 216 93 ls (st) z Q = ZW zG d 216 95 ls ((.int (nI 97)) :: st) z Q := zw_push rfl
theorem s216_95 {ls : List Value}  : ZW zG d 216 95 ls (st) z Q = ZW zG d 216 97 ls ((.int (nI 122)) :: st) z Q := zw_push rfl
theorem s216_97 {ls : List Value} {w0 : Int32} {w1 : Int32} {r : Nat} : ZW zG (d + 1) 216 97 ls (.int w1 :: .int w0 :: .ref r :: st) z Q = (zcls z r = 13 ∧ zcs st = true ∧ ZC zG d 217 [.ref r, .int w0, .int w1] z (zk zG (d + 1) 216 (some 0) 100 ls st Q)) := zc_V2 rfl (Nat.le_of_ble_eq_true rfl)
theorem s216_100 {ls : List Value} {a : Int32} : ZW zG d 216 100 ls (.int a :: st) z Q = if a = 0 then ZW zG d 216 132 ls st z Q else ZW zG d 216 103 ls st z Q := zw_ifeq rfl
theorem s216_103 {x0 : Value} : ZW zG d 216 103 [x0] st z Q = (zir x0 = true ∧ ZW zG d 216 104 [x0] (x0 :: st) z Q) := zw_cond (f := z_aload 0 104) rfl rfl
theorem s216_104 {ls : List Value}  : ZW zG d 216 104 ls (st) z Q = ZW zG d 216 105 ls ((.int (nI 1)) :: st) z Q := zw_push rfl
theorem s216_105 {ls : List Value} {a : Int32} {r : Nat} : ZW zG d 216 105 ls (.int a :: .ref r :: st) z Q = ((zcls z r = 13) ∧ ZW zG d 216 108 ls (st) (sfi z r 9 a) Q) := zw_putI rfl
theorem s216_108 {x0 : Value} : ZW zG d 216 108 [x0] st z Q = (zir x0 = true ∧ ZW zG d 216 109 [x0] (x0 :: st) z Q) := zw_cond (f := z_aload 0 109) rfl rfl
theorem s216_109 {ls : List Value}  : ZW zG d 216 109 ls (st) z Q = ZW zG d 216 111 ls ((.int (nI 97)) :: st) z Q := zw_push rfl
theorem s216_111 {ls : List Value}  : ZW zG d 216 111 ls (st) z Q = ZW zG d 216 113 ls ((.int (nI 122)) :: st) z Q := zw_push rfl
theorem s216_113 {ls : List Value} {w0 : Int32} {w1 : Int32} {r : Nat} : ZW zG (d + 1) 216 113 ls (.int w1 :: .int w0 :: .ref r :: st) z Q = (zcls z r = 13 ∧ zcs st = true ∧ ZC zG d 217 [.ref r, .int w0, .int w1] z (zk zG (d + 1) 216 (some 0) 116 ls st Q)) := zc_V2 rfl (Nat.le_of_ble_eq_true rfl)
theorem s216_116 {ls : List Value} {a : Int32} : ZW zG d 216 116 ls (.int a :: st) z Q = if a = 0 then ZW zG d 216 235 ls st z Q else ZW zG d 216 119 ls st z Q := zw_ifeq rfl
theorem s216_119 {x0 : Value} : ZW zG d 216 119 [x0] st z Q = (zir x0 = true ∧ ZW zG d 216 120 [x0] (x0 :: st) z Q) := zw_cond (f := z_aload 0 120) rfl rfl
theorem s216_120 {ls : List Value} {r : Nat} : ZW zG d 216 120 ls (.ref r :: st) z Q = ZW zG d 216 121 ls (.ref r :: .ref r :: st) z Q := zw_dupr rfl
theorem s216_121 {ls : List Value} {r : Nat} : ZW zG d 216 121 ls (.ref r :: st) z Q = ((zcls z r = 13) ∧ ZW zG d 216 124 ls (.int (zfi z r 7) :: st) (z) Q) := zw_getI rfl
theorem s216_124 {ls : List Value}  : ZW zG d 216 124 ls (st) z Q = ZW zG d 216 125 ls ((.int (nI 1)) :: st) z Q := zw_push rfl
theorem s216_125 {ls : List Value} {a b : Int32} : ZW zG d 216 125 ls (.int b :: .int a :: st) z Q = ZW zG d 216 126 ls (.int (a + b) :: st) z Q := zw_iadd rfl
theorem s216_126 {ls : List Value} {a : Int32} {r : Nat} : ZW zG d 216 126 ls (.int a :: .ref r :: st) z Q = ((zcls z r = 13) ∧ ZW zG d 216 129 ls (st) (sfi z r 7 a) Q) := zw_putI rfl
theorem s216_129 {ls : List Value}  : ZW zG d 216 129 ls (st) z Q = ZW zG d 216 108 ls st z Q := zw_goto rfl
theorem s216_132 {x0 : Value} : ZW zG d 216 132 [x0] st z Q = (zir x0 = true ∧ ZW zG d 216 133 [x0] (x0 :: st) z Q) := zw_cond (f := z_aload 0 133) rfl rfl
theorem s216_133 {ls : List Value}  : ZW zG d 216 133 ls (st) z Q = ZW zG d 216 135 ls ((.int (nI 48)) :: st) z Q := zw_push rfl
theorem s216_135 {ls : List Value}  : ZW zG d 216 135 ls (st) z Q = ZW zG d 216 137 ls ((.int (nI 57)) :: st) z Q := zw_push rfl
theorem s216_137 {ls : List Value} {w0 : Int32} {w1 : Int32} {r : Nat} : ZW zG (d + 1) 216 137 ls (.int w1 :: .int w0 :: .ref r :: st) z Q = (zcls z r = 13 ∧ zcs st = true ∧ ZC zG d 217 [.ref r, .int w0, .int w1] z (zk zG (d + 1) 216 (some 0) 140 ls st Q)) := zc_V2 rfl (Nat.le_of_ble_eq_true rfl)
theorem s216_140 {ls : List Value} {a : Int32} : ZW zG d 216 140 ls (.int a :: st) z Q = if a = 0 then ZW zG d 216 202 ls st z Q else ZW zG d 216 143 ls st z Q := zw_ifeq rfl
theorem s216_143 {x0 : Value} : ZW zG d 216 143 [x0] st z Q = (zir x0 = true ∧ ZW zG d 216 144 [x0] (x0 :: st) z Q) := zw_cond (f := z_aload 0 144) rfl rfl
theorem s216_144 {ls : List Value}  : ZW zG d 216 144 ls (st) z Q = ZW zG d 216 145 ls ((.int (nI 2)) :: st) z Q := zw_push rfl
theorem s216_145 {ls : List Value} {a : Int32} {r : Nat} : ZW zG d 216 145 ls (.int a :: .ref r :: st) z Q = ((zcls z r = 13) ∧ ZW zG d 216 148 ls (st) (sfi z r 9 a) Q) := zw_putI rfl
theorem s216_148 {x0 : Value} : ZW zG d 216 148 [x0] st z Q = (zir x0 = true ∧ ZW zG d 216 149 [x0] (x0 :: st) z Q) := zw_cond (f := z_aload 0 149) rfl rfl
theorem s216_149 {ls : List Value}  : ZW zG d 216 149 ls (st) z Q = ZW zG d 216 151 ls ((.int (nI 48)) :: st) z Q := zw_push rfl
theorem s216_151 {ls : List Value}  : ZW zG d 216 151 ls (st) z Q = ZW zG d 216 153 ls ((.int (nI 57)) :: st) z Q := zw_push rfl
theorem s216_153 {ls : List Value} {w0 : Int32} {w1 : Int32} {r : Nat} : ZW zG (d + 1) 216 153 ls (.int w1 :: .int w0 :: .ref r :: st) z Q = (zcls z r = 13 ∧ zcs st = true ∧ ZC zG d 217 [.ref r, .int w0, .int w1] z (zk zG (d + 1) 216 (some 0) 156 ls st Q)) := zc_V2 rfl (Nat.le_of_ble_eq_true rfl)
theorem s216_156 {ls : List Value} {a : Int32} : ZW zG d 216 156 ls (.int a :: st) z Q = if a = 0 then ZW zG d 216 235 ls st z Q else ZW zG d 216 159 ls st z Q := zw_ifeq rfl
theorem s216_159 {x0 : Value} : ZW zG d 216 159 [x0] st z Q = (zir x0 = true ∧ ZW zG d 216 160 [x0] (x0 :: st) z Q) := zw_cond (f := z_aload 0 160) rfl rfl
theorem s216_160 {ls : List Value}  : ZW zG d 216 160 ls (st) z Q = ZW zG d 216 163 ls ((.int (nI 1000)) :: st) z Q := zw_push rfl
theorem s216_163 {ls : List Value}  : ZW zG d 216 163 ls (st) z Q = ZW zG d 216 165 ls ((.int (nI 10)) :: st) z Q := zw_push rfl
theorem s216_165 {x0 : Value} : ZW zG d 216 165 [x0] st z Q = (zir x0 = true ∧ ZW zG d 216 166 [x0] (x0 :: st) z Q) := zw_cond (f := z_aload 0 166) rfl rfl
theorem s216_166 {ls : List Value} {r : Nat} : ZW zG d 216 166 ls (.ref r :: st) z Q = ((zcls z r = 13) ∧ ZW zG d 216 169 ls (.int (zfi z r 11) :: st) (z) Q) := zw_getI rfl
theorem s216_169 {ls : List Value} {a b : Int32} : ZW zG d 216 169 ls (.int b :: .int a :: st) z Q = ZW zG d 216 170 ls (.int (a * b) :: st) z Q := zw_imul rfl
theorem s216_170 {x0 : Value} : ZW zG d 216 170 [x0] st z Q = (zir x0 = true ∧ ZW zG d 216 171 [x0] (x0 :: st) z Q) := zw_cond (f := z_aload 0 171) rfl rfl
theorem s216_171 {ls : List Value} {r : Nat} : ZW zG d 216 171 ls (.ref r :: st) z Q = ((zcls z r = 13 ∧ zir (zfr z r 4) = true) ∧ ZW zG d 216 174 ls (zfr z r 4 :: st) (z) Q) := zw_getR rfl
theorem s216_174 {x0 : Value} : ZW zG d 216 174 [x0] st z Q = (zir x0 = true ∧ ZW zG d 216 175 [x0] (x0 :: st) z Q) := zw_cond (f := z_aload 0 175) rfl rfl
theorem s216_175 {ls : List Value} {r : Nat} : ZW zG d 216 175 ls (.ref r :: st) z Q = ((zcls z r = 13) ∧ ZW zG d 216 178 ls (.int (zfi z r 7) :: st) (z) Q) := zw_getI rfl
theorem s216_178 {ls : List Value} {a : Int32} {r : Nat} : ZW zG d 216 178 ls (.int a :: .ref r :: st) z Q = ((zcls z r = 52 ∧ zin a (zlen z r) = true) ∧ ZW zG d 216 179 ls (.int (zia z r (zx a)) :: st) (z) Q) := zw_iald rfl
theorem s216_179 {ls : List Value} {a b : Int32} : ZW zG d 216 179 ls (.int b :: .int a :: st) z Q = ZW zG d 216 180 ls (.int (a + b) :: st) z Q := zw_iadd rfl
theorem s216_180 {ls : List Value}  : ZW zG d 216 180 ls (st) z Q = ZW zG d 216 182 ls ((.int (nI 48)) :: st) z Q := zw_push rfl
theorem s216_182 {ls : List Value} {a b : Int32} : ZW zG d 216 182 ls (.int b :: .int a :: st) z Q = ZW zG d 216 183 ls (.int (a - b) :: st) z Q := zw_isub rfl
theorem s216_183 {ls : List Value} {a b : Int32} : ZW zG d 216 183 ls (.int b :: .int a :: st) z Q = ((zcs st = true) ∧ ZW zG d 216 186 ls (.int (zmin a b) :: st) (z) Q) := zw_mmin rfl
theorem s216_186 {ls : List Value} {a : Int32} {r : Nat} : ZW zG d 216 186 ls (.int a :: .ref r :: st) z Q = ((zcls z r = 13) ∧ ZW zG d 216 189 ls (st) (sfi z r 11 a) Q) := zw_putI rfl
theorem s216_189 {x0 : Value} : ZW zG d 216 189 [x0] st z Q = (zir x0 = true ∧ ZW zG d 216 190 [x0] (x0 :: st) z Q) := zw_cond (f := z_aload 0 190) rfl rfl
theorem s216_190 {ls : List Value} {r : Nat} : ZW zG d 216 190 ls (.ref r :: st) z Q = ZW zG d 216 191 ls (.ref r :: .ref r :: st) z Q := zw_dupr rfl
theorem s216_191 {ls : List Value} {r : Nat} : ZW zG d 216 191 ls (.ref r :: st) z Q = ((zcls z r = 13) ∧ ZW zG d 216 194 ls (.int (zfi z r 7) :: st) (z) Q) := zw_getI rfl
theorem s216_194 {ls : List Value}  : ZW zG d 216 194 ls (st) z Q = ZW zG d 216 195 ls ((.int (nI 1)) :: st) z Q := zw_push rfl
theorem s216_195 {ls : List Value} {a b : Int32} : ZW zG d 216 195 ls (.int b :: .int a :: st) z Q = ZW zG d 216 196 ls (.int (a + b) :: st) z Q := zw_iadd rfl
theorem s216_196 {ls : List Value} {a : Int32} {r : Nat} : ZW zG d 216 196 ls (.int a :: .ref r :: st) z Q = ((zcls z r = 13) ∧ ZW zG d 216 199 ls (st) (sfi z r 7 a) Q) := zw_putI rfl
theorem s216_199 {ls : List Value}  : ZW zG d 216 199 ls (st) z Q = ZW zG d 216 148 ls st z Q := zw_goto rfl
theorem s216_202 {x0 : Value} : ZW zG d 216 202 [x0] st z Q = (zir x0 = true ∧ ZW zG d 216 203 [x0] (x0 :: st) z Q) := zw_cond (f := z_aload 0 203) rfl rfl
theorem s216_203 {x0 : Value} : ZW zG d 216 203 [x0] st z Q = (zir x0 = true ∧ ZW zG d 216 204 [x0] (x0 :: st) z Q) := zw_cond (f := z_aload 0 204) rfl rfl
theorem s216_204 {ls : List Value} {r : Nat} : ZW zG d 216 204 ls (.ref r :: st) z Q = ((zcls z r = 13 ∧ zir (zfr z r 4) = true) ∧ ZW zG d 216 207 ls (zfr z r 4 :: st) (z) Q) := zw_getR rfl
theorem s216_207 {x0 : Value} : ZW zG d 216 207 [x0] st z Q = (zir x0 = true ∧ ZW zG d 216 208 [x0] (x0 :: st) z Q) := zw_cond (f := z_aload 0 208) rfl rfl
theorem s216_208 {ls : List Value} {r : Nat} : ZW zG d 216 208 ls (.ref r :: st) z Q = ((zcls z r = 13) ∧ ZW zG d 216 211 ls (.int (zfi z r 7) :: st) (z) Q) := zw_getI rfl
theorem s216_211 {ls : List Value} {a : Int32} {r : Nat} : ZW zG d 216 211 ls (.int a :: .ref r :: st) z Q = ((zcls z r = 52 ∧ zin a (zlen z r) = true) ∧ ZW zG d 216 212 ls (.int (zia z r (zx a)) :: st) (z) Q) := zw_iald rfl
theorem s216_212 {ls : List Value}  : ZW zG d 216 212 ls (st) z Q = ZW zG d 216 214 ls ((.int (nI 59)) :: st) z Q := zw_push rfl
theorem s216_214 {ls : List Value} {a b : Int32} : ZW zG d 216 214 ls (.int b :: .int a :: st) z Q = if ¬ a = b then ZW zG d 216 221 ls st z Q else ZW zG d 216 217 ls st z Q := zw_icne rfl
theorem s216_217 {ls : List Value}  : ZW zG d 216 217 ls (st) z Q = ZW zG d 216 218 ls ((.int (nI 3)) :: st) z Q := zw_push rfl
theorem s216_218 {ls : List Value}  : ZW zG d 216 218 ls (st) z Q = ZW zG d 216 222 ls st z Q := zw_goto rfl
theorem s216_221 {ls : List Value}  : ZW zG d 216 221 ls (st) z Q = ZW zG d 216 222 ls ((.int (nI 4)) :: st) z Q := zw_push rfl
theorem s216_222 {ls : List Value} {a : Int32} {r : Nat} : ZW zG d 216 222 ls (.int a :: .ref r :: st) z Q = ((zcls z r = 13) ∧ ZW zG d 216 225 ls (st) (sfi z r 9 a) Q) := zw_putI rfl
theorem s216_225 {x0 : Value} : ZW zG d 216 225 [x0] st z Q = (zir x0 = true ∧ ZW zG d 216 226 [x0] (x0 :: st) z Q) := zw_cond (f := z_aload 0 226) rfl rfl
theorem s216_226 {ls : List Value} {r : Nat} : ZW zG d 216 226 ls (.ref r :: st) z Q = ZW zG d 216 227 ls (.ref r :: .ref r :: st) z Q := zw_dupr rfl
theorem s216_227 {ls : List Value} {r : Nat} : ZW zG d 216 227 ls (.ref r :: st) z Q = ((zcls z r = 13) ∧ ZW zG d 216 230 ls (.int (zfi z r 7) :: st) (z) Q) := zw_getI rfl
theorem s216_230 {ls : List Value}  : ZW zG d 216 230 ls (st) z Q = ZW zG d 216 231 ls ((.int (nI 1)) :: st) z Q := zw_push rfl
theorem s216_231 {ls : List Value} {a b : Int32} : ZW zG d 216 231 ls (.int b :: .int a :: st) z Q = ZW zG d 216 232 ls (.int (a + b) :: st) z Q := zw_iadd rfl
theorem s216_232 {ls : List Value} {a : Int32} {r : Nat} : ZW zG d 216 232 ls (.int a :: .ref r :: st) z Q = ((zcls z r = 13) ∧ ZW zG d 216 235 ls (st) (sfi z r 7 a) Q) := zw_putI rfl
theorem s216_235 {ls : List Value}  : ZW zG d 216 235 ls ([]) z Q = Q (.inl none) z := zw_ret rfl
/-- X13_isAt (II)Z -/
theorem e217 {r0 : Nat} {v0 : Int32} {v1 : Int32} : ZC zG d 217 [.ref r0, .int v0, .int v1] z Q = ZW zG d 217 0 [.ref r0, .int v0, .int v1] [] z Q := rfl
theorem s217_0 {x0 x1 x2 : Value} : ZW zG d 217 0 [x0, x1, x2] st z Q = (zir x0 = true ∧ ZW zG d 217 1 [x0, x1, x2] (x0 :: st) z Q) := zw_cond (f := z_aload 0 1) rfl rfl
theorem s217_1 {ls : List Value} {r : Nat} : ZW zG d 217 1 ls (.ref r :: st) z Q = ((zcls z r = 13) ∧ ZW zG d 217 4 ls (.int (zfi z r 7) :: st) (z) Q) := zw_getI rfl
theorem s217_4 {x0 x1 x2 : Value} : ZW zG d 217 4 [x0, x1, x2] st z Q = (zir x0 = true ∧ ZW zG d 217 5 [x0, x1, x2] (x0 :: st) z Q) := zw_cond (f := z_aload 0 5) rfl rfl
theorem s217_5 {ls : List Value} {r : Nat} : ZW zG d 217 5 ls (.ref r :: st) z Q = ((zcls z r = 13) ∧ ZW zG d 217 8 ls (.int (zfi z r 5) :: st) (z) Q) := zw_getI rfl
theorem s217_8 {ls : List Value} {a b : Int32} : ZW zG d 217 8 ls (.int b :: .int a :: st) z Q = if b ≤ a then ZW zG d 217 41 ls st z Q else ZW zG d 217 11 ls st z Q := zw_icge rfl
theorem s217_11 {x0 x1 x2 : Value} : ZW zG d 217 11 [x0, x1, x2] st z Q = (zir x0 = true ∧ ZW zG d 217 12 [x0, x1, x2] (x0 :: st) z Q) := zw_cond (f := z_aload 0 12) rfl rfl
theorem s217_12 {ls : List Value} {r : Nat} : ZW zG d 217 12 ls (.ref r :: st) z Q = ((zcls z r = 13 ∧ zir (zfr z r 4) = true) ∧ ZW zG d 217 15 ls (zfr z r 4 :: st) (z) Q) := zw_getR rfl
theorem s217_15 {x0 x1 x2 : Value} : ZW zG d 217 15 [x0, x1, x2] st z Q = (zir x0 = true ∧ ZW zG d 217 16 [x0, x1, x2] (x0 :: st) z Q) := zw_cond (f := z_aload 0 16) rfl rfl
theorem s217_16 {ls : List Value} {r : Nat} : ZW zG d 217 16 ls (.ref r :: st) z Q = ((zcls z r = 13) ∧ ZW zG d 217 19 ls (.int (zfi z r 7) :: st) (z) Q) := zw_getI rfl
theorem s217_19 {ls : List Value} {a : Int32} {r : Nat} : ZW zG d 217 19 ls (.int a :: .ref r :: st) z Q = ((zcls z r = 52 ∧ zin a (zlen z r) = true) ∧ ZW zG d 217 20 ls (.int (zia z r (zx a)) :: st) (z) Q) := zw_iald rfl
theorem s217_20 {x0 x2 : Value} {a : Int32} : ZW zG d 217 20 [x0, .int a, x2] st z Q = ZW zG d 217 21 [x0, .int a, x2] (.int a :: st) z Q := zw_next (f := z_iload 1 21) rfl rfl
theorem s217_21 {ls : List Value} {a b : Int32} : ZW zG d 217 21 ls (.int b :: .int a :: st) z Q = if a < b then ZW zG d 217 41 ls st z Q else ZW zG d 217 24 ls st z Q := zw_iclt rfl
theorem s217_24 {x0 x1 x2 : Value} : ZW zG d 217 24 [x0, x1, x2] st z Q = (zir x0 = true ∧ ZW zG d 217 25 [x0, x1, x2] (x0 :: st) z Q) := zw_cond (f := z_aload 0 25) rfl rfl
theorem s217_25 {ls : List Value} {r : Nat} : ZW zG d 217 25 ls (.ref r :: st) z Q = ((zcls z r = 13 ∧ zir (zfr z r 4) = true) ∧ ZW zG d 217 28 ls (zfr z r 4 :: st) (z) Q) := zw_getR rfl
theorem s217_28 {x0 x1 x2 : Value} : ZW zG d 217 28 [x0, x1, x2] st z Q = (zir x0 = true ∧ ZW zG d 217 29 [x0, x1, x2] (x0 :: st) z Q) := zw_cond (f := z_aload 0 29) rfl rfl
theorem s217_29 {ls : List Value} {r : Nat} : ZW zG d 217 29 ls (.ref r :: st) z Q = ((zcls z r = 13) ∧ ZW zG d 217 32 ls (.int (zfi z r 7) :: st) (z) Q) := zw_getI rfl
theorem s217_32 {ls : List Value} {a : Int32} {r : Nat} : ZW zG d 217 32 ls (.int a :: .ref r :: st) z Q = ((zcls z r = 52 ∧ zin a (zlen z r) = true) ∧ ZW zG d 217 33 ls (.int (zia z r (zx a)) :: st) (z) Q) := zw_iald rfl
theorem s217_33 {x0 x1 : Value} {a : Int32} : ZW zG d 217 33 [x0, x1, .int a] st z Q = ZW zG d 217 34 [x0, x1, .int a] (.int a :: st) z Q := zw_next (f := z_iload 2 34) rfl rfl
theorem s217_34 {ls : List Value} {a b : Int32} : ZW zG d 217 34 ls (.int b :: .int a :: st) z Q = if b < a then ZW zG d 217 41 ls st z Q else ZW zG d 217 37 ls st z Q := zw_icgt rfl
theorem s217_37 {ls : List Value}  : ZW zG d 217 37 ls (st) z Q = ZW zG d 217 38 ls ((.int (nI 1)) :: st) z Q := zw_push rfl
theorem s217_38 {ls : List Value}  : ZW zG d 217 38 ls (st) z Q = ZW zG d 217 42 ls st z Q := zw_goto rfl
theorem s217_41 {ls : List Value}  : ZW zG d 217 41 ls (st) z Q = ZW zG d 217 42 ls ((.int (nI 0)) :: st) z Q := zw_push rfl
theorem s217_42 {ls : List Value} {a : Int32} : ZW zG d 217 42 ls ([.int a]) z Q = ((a = 0 ∨ a = 1) ∧ Q (.inl (some (.int a))) z) := zw_retz rfl
/-- X13_line ()V -/
theorem e218 {r0 : Nat} : ZC zG d 218 [.ref r0] z Q = ZW zG d 218 0 [.ref r0, zdum] [] z Q := rfl
theorem s218_0 {x0 x1 : Value} : ZW zG d 218 0 [x0, x1] st z Q = (zir x0 = true ∧ ZW zG d 218 1 [x0, x1] (x0 :: st) z Q) := zw_cond (f := z_aload 0 1) rfl rfl
theorem s218_1 {x0 x1 : Value} : ZW zG d 218 1 [x0, x1] st z Q = (zir x0 = true ∧ ZW zG d 218 2 [x0, x1] (x0 :: st) z Q) := zw_cond (f := z_aload 0 2) rfl rfl
theorem s218_2 {ls : List Value} {r : Nat} : ZW zG d 218 2 ls (.ref r :: st) z Q = ((zcls z r = 13 ∧ zir (zfr z r 1) = true) ∧ ZW zG d 218 5 ls (zfr z r 1 :: st) (z) Q) := zw_getR rfl
theorem s218_5 {ls : List Value} {w0 : Nat} {r : Nat} : ZW zG (d + 1) 218 5 ls (.ref w0 :: .ref r :: st) z Q = (zcls z r = 13 ∧ zcs st = true ∧ ZC zG d 219 [.ref r, .ref w0] z (zk zG (d + 1) 218 (some 0) 8 ls st Q)) := zc_V1 rfl (Nat.le_of_ble_eq_true rfl)
theorem s218_8 {x0 x1 : Value} {a : Int32} : ZW zG d 218 8 [x0, x1] (.int a :: st) z Q = ZW zG d 218 9 [zclr x0, .int a] st z Q := zw_next (f := z_istore 1 9) rfl rfl
theorem s218_9 {x0 x1 : Value} : ZW zG d 218 9 [x0, x1] st z Q = (zir x0 = true ∧ ZW zG d 218 10 [x0, x1] (x0 :: st) z Q) := zw_cond (f := z_aload 0 10) rfl rfl
theorem s218_10 {ls : List Value}  : ZW zG d 218 10 ls (st) z Q = ZW zG d 218 12 ls ((.ref 11) :: st) z Q := zw_push rfl
theorem s218_12 {ls : List Value} {w0 : Nat} {r : Nat} : ZW zG (d + 1) 218 12 ls (.ref w0 :: .ref r :: st) z Q = (zcls z r = 13 ∧ zcs st = true ∧ ZC zG d 220 [.ref r, .ref w0] z (zk zG (d + 1) 218 (some 0) 15 ls st Q)) := zc_V1 rfl (Nat.le_of_ble_eq_true rfl)
theorem s218_15 {ls : List Value} {a : Int32} : ZW zG d 218 15 ls (.int a :: st) z Q = if a = 0 then ZW zG d 218 30 ls st z Q else ZW zG d 218 18 ls st z Q := zw_ifeq rfl
theorem s218_18 {x0 x1 : Value} : ZW zG d 218 18 [x0, x1] st z Q = (zir x0 = true ∧ ZW zG d 218 19 [x0, x1] (x0 :: st) z Q) := zw_cond (f := z_aload 0 19) rfl rfl
theorem s218_19 {ls : List Value} {r : Nat} : ZW zG d 218 19 ls (.ref r :: st) z Q = ((zcls z r = 13 ∧ zir (zfr z r 6) = true) ∧ ZW zG d 218 22 ls (zfr z r 6 :: st) (z) Q) := zw_getR rfl
theorem s218_22 {ls : List Value}  {r : Nat} : ZW zG (d + 1) 218 22 ls (.ref r :: st) z Q = (zcls z r = 2 ∧ zcs st = true ∧ ZC zG d 63 [.ref r] z (zk zG (d + 1) 218 (none) 25 ls st Q)) := zc_V0 rfl (Nat.le_of_ble_eq_true rfl)
theorem s218_25 {ls : List Value}  : ZW zG d 218 25 ls (st) z Q = ZW zG d 218 27 ls ((.int (nI 16)) :: st) z Q := zw_push rfl
theorem s218_27 {ls : List Value} {a b : Int32} : ZW zG d 218 27 ls (.int b :: .int a :: st) z Q = if a = b then ZW zG d 218 56 ls st z Q else ZW zG d 218 30 ls st z Q := zw_iceq rfl
theorem s218_30 {x0 : Value} {a : Int32} : ZW zG d 218 30 [x0, .int a] st z Q = ZW zG d 218 31 [x0, .int a] (.int a :: st) z Q := zw_next (f := z_iload 1 31) rfl rfl
theorem s218_31 {x0 x1 : Value} : ZW zG d 218 31 [x0, x1] st z Q = (zir x0 = true ∧ ZW zG d 218 32 [x0, x1] (x0 :: st) z Q) := zw_cond (f := z_aload 0 32) rfl rfl
theorem s218_32 {ls : List Value} {r : Nat} : ZW zG d 218 32 ls (.ref r :: st) z Q = ((zcls z r = 13 ∧ zir (zfr z r 1) = true) ∧ ZW zG d 218 35 ls (zfr z r 1 :: st) (z) Q) := zw_getR rfl
theorem s218_35 {ls : List Value} {r : Nat} : ZW zG d 218 35 ls (.ref r :: st) z Q = ((zcls z r = 63) ∧ ZW zG d 218 36 ls (.int (nI (zlen z r)) :: st) (z) Q) := zw_alen rfl
theorem s218_36 {ls : List Value} {a b : Int32} : ZW zG d 218 36 ls (.int b :: .int a :: st) z Q = if b ≤ a then ZW zG d 218 61 ls st z Q else ZW zG d 218 39 ls st z Q := zw_icge rfl
theorem s218_39 {x0 x1 : Value} : ZW zG d 218 39 [x0, x1] st z Q = (zir x0 = true ∧ ZW zG d 218 40 [x0, x1] (x0 :: st) z Q) := zw_cond (f := z_aload 0 40) rfl rfl
theorem s218_40 {ls : List Value} {r : Nat} : ZW zG d 218 40 ls (.ref r :: st) z Q = ((zcls z r = 13 ∧ zir (zfr z r 6) = true) ∧ ZW zG d 218 43 ls (zfr z r 6 :: st) (z) Q) := zw_getR rfl
theorem s218_43 {ls : List Value} {r : Nat} : ZW zG d 218 43 ls (.ref r :: st) z Q = ((zcls z r = 2 ∧ zir (zfr z r 2) = true) ∧ ZW zG d 218 46 ls (zfr z r 2 :: st) (z) Q) := zw_getR rfl
theorem s218_46 {ls : List Value} {r : Nat} : ZW zG d 218 46 ls (.ref r :: st) z Q = ((zcs st = true ∧ zcls z r = 90) ∧ ZW zG d 218 51 ls (.int (nI (zls z r).length) :: st) (z) Q) := zw_lsize rfl
theorem s218_51 {ls : List Value}  : ZW zG d 218 51 ls (st) z Q = ZW zG d 218 53 ls ((.int (nI 24)) :: st) z Q := zw_push rfl
theorem s218_53 {ls : List Value} {a b : Int32} : ZW zG d 218 53 ls (.int b :: .int a :: st) z Q = if ¬ a = b then ZW zG d 218 61 ls st z Q else ZW zG d 218 56 ls st z Q := zw_icne rfl
theorem s218_56 {x0 x1 : Value} : ZW zG d 218 56 [x0, x1] st z Q = (zir x0 = true ∧ ZW zG d 218 57 [x0, x1] (x0 :: st) z Q) := zw_cond (f := z_aload 0 57) rfl rfl
theorem s218_57 {ls : List Value}  : ZW zG d 218 57 ls (st) z Q = ZW zG d 218 58 ls ((.int (nI 3)) :: st) z Q := zw_push rfl
theorem s218_58 {ls : List Value} {w0 : Int32} {r : Nat} : ZW zG (d + 1) 218 58 ls (.int w0 :: .ref r :: st) z Q = (zcls z r = 13 ∧ zcs st = true ∧ ZC zG d 221 [.ref r, .int w0] z (zk zG (d + 1) 218 (some 0) 61 ls st Q)) := zc_V1 rfl (Nat.le_of_ble_eq_true rfl)
theorem s218_61 {x0 : Value} {a : Int32} : ZW zG d 218 61 [x0, .int a] st z Q = ZW zG d 218 62 [x0, .int a] (.int a :: st) z Q := zw_next (f := z_iload 1 62) rfl rfl
theorem s218_62 {x0 x1 : Value} : ZW zG d 218 62 [x0, x1] st z Q = (zir x0 = true ∧ ZW zG d 218 63 [x0, x1] (x0 :: st) z Q) := zw_cond (f := z_aload 0 63) rfl rfl
theorem s218_63 {ls : List Value} {r : Nat} : ZW zG d 218 63 ls (.ref r :: st) z Q = ((zcls z r = 13 ∧ zir (zfr z r 1) = true) ∧ ZW zG d 218 66 ls (zfr z r 1 :: st) (z) Q) := zw_getR rfl
theorem s218_66 {ls : List Value} {r : Nat} : ZW zG d 218 66 ls (.ref r :: st) z Q = ((zcls z r = 63) ∧ ZW zG d 218 67 ls (.int (nI (zlen z r)) :: st) (z) Q) := zw_alen rfl
theorem s218_67 {ls : List Value} {a b : Int32} : ZW zG d 218 67 ls (.int b :: .int a :: st) z Q = if b ≤ a then ZW zG d 218 82 ls st z Q else ZW zG d 218 70 ls st z Q := zw_icge rfl
theorem s218_70 {x0 x1 : Value} : ZW zG d 218 70 [x0, x1] st z Q = (zir x0 = true ∧ ZW zG d 218 71 [x0, x1] (x0 :: st) z Q) := zw_cond (f := z_aload 0 71) rfl rfl
theorem s218_71 {ls : List Value}  {r : Nat} : ZW zG (d + 1) 218 71 ls (.ref r :: st) z Q = (zcls z r = 13 ∧ zcs st = true ∧ ZC zG d 216 [.ref r] z (zk zG (d + 1) 218 (some 0) 74 ls st Q)) := zc_V0 rfl (Nat.le_of_ble_eq_true rfl)
theorem s218_74 {x0 x1 : Value} : ZW zG d 218 74 [x0, x1] st z Q = (zir x0 = true ∧ ZW zG d 218 75 [x0, x1] (x0 :: st) z Q) := zw_cond (f := z_aload 0 75) rfl rfl
theorem s218_75 {x0 : Value} {a : Int32} : ZW zG d 218 75 [x0, .int a] st z Q = ZW zG d 218 76 [x0, .int a] (.int a :: st) z Q := zw_next (f := z_iload 1 76) rfl rfl
theorem s218_76 {ls : List Value} {w0 : Int32} {r : Nat} : ZW zG (d + 1) 218 76 ls (.int w0 :: .ref r :: st) z Q = (zcls z r = 13 ∧ zcs st = true ∧ ZC zG d 222 [.ref r, .int w0] z (zk zG (d + 1) 218 (some 0) 79 ls st Q)) := zc_V1 rfl (Nat.le_of_ble_eq_true rfl)
theorem s218_79 {ls : List Value}  : ZW zG d 218 79 ls (st) z Q = ZW zG d 218 162 ls st z Q := zw_goto rfl
theorem s218_82 {x0 x1 : Value} : ZW zG d 218 82 [x0, x1] st z Q = (zir x0 = true ∧ ZW zG d 218 83 [x0, x1] (x0 :: st) z Q) := zw_cond (f := z_aload 0 83) rfl rfl
theorem s218_83 {ls : List Value}  : ZW zG d 218 83 ls (st) z Q = ZW zG d 218 85 ls ((.ref 11) :: st) z Q := zw_push rfl
theorem s218_85 {ls : List Value} {w0 : Nat} {r : Nat} : ZW zG (d + 1) 218 85 ls (.ref w0 :: .ref r :: st) z Q = (zcls z r = 13 ∧ zcs st = true ∧ ZC zG d 224 [.ref r, .ref w0] z (zk zG (d + 1) 218 (some 0) 88 ls st Q)) := zc_V1 rfl (Nat.le_of_ble_eq_true rfl)
theorem s218_88 {ls : List Value} {a : Int32} : ZW zG d 218 88 ls (.int a :: st) z Q = if a = 0 then ZW zG d 218 98 ls st z Q else ZW zG d 218 91 ls st z Q := zw_ifeq rfl
theorem s218_91 {x0 x1 : Value} : ZW zG d 218 91 [x0, x1] st z Q = (zir x0 = true ∧ ZW zG d 218 92 [x0, x1] (x0 :: st) z Q) := zw_cond (f := z_aload 0 92) rfl rfl
theorem s218_92 {ls : List Value}  {r : Nat} : ZW zG (d + 1) 218 92 ls (.ref r :: st) z Q = (zcls z r = 13 ∧ zcs st = true ∧ ZC zG d 231 [.ref r] z (zk zG (d + 1) 218 (some 0) 95 ls st Q)) := zc_V0 rfl (Nat.le_of_ble_eq_true rfl)
theorem s218_95 {ls : List Value}  : ZW zG d 218 95 ls (st) z Q = ZW zG d 218 162 ls st z Q := zw_goto rfl
theorem s218_98 {x0 x1 : Value} : ZW zG d 218 98 [x0, x1] st z Q = (zir x0 = true ∧ ZW zG d 218 99 [x0, x1] (x0 :: st) z Q) := zw_cond (f := z_aload 0 99) rfl rfl
theorem s218_99 {ls : List Value}  : ZW zG d 218 99 ls (st) z Q = ZW zG d 218 102 ls ((.ref 14) :: st) z Q := zw_push rfl
theorem s218_102 {ls : List Value} {w0 : Nat} {r : Nat} : ZW zG (d + 1) 218 102 ls (.ref w0 :: .ref r :: st) z Q = (zcls z r = 13 ∧ zcs st = true ∧ ZC zG d 224 [.ref r, .ref w0] z (zk zG (d + 1) 218 (some 0) 105 ls st Q)) := zc_V1 rfl (Nat.le_of_ble_eq_true rfl)
theorem s218_105 {ls : List Value} {a : Int32} : ZW zG d 218 105 ls (.int a :: st) z Q = if a = 0 then ZW zG d 218 115 ls st z Q else ZW zG d 218 108 ls st z Q := zw_ifeq rfl
theorem s218_108 {x0 x1 : Value} : ZW zG d 218 108 [x0, x1] st z Q = (zir x0 = true ∧ ZW zG d 218 109 [x0, x1] (x0 :: st) z Q) := zw_cond (f := z_aload 0 109) rfl rfl
theorem s218_109 {ls : List Value}  {r : Nat} : ZW zG (d + 1) 218 109 ls (.ref r :: st) z Q = (zcls z r = 13 ∧ zcs st = true ∧ ZC zG d 232 [.ref r] z (zk zG (d + 1) 218 (some 0) 112 ls st Q)) := zc_V0 rfl (Nat.le_of_ble_eq_true rfl)
theorem s218_112 {ls : List Value}  : ZW zG d 218 112 ls (st) z Q = ZW zG d 218 162 ls st z Q := zw_goto rfl
theorem s218_115 {x0 x1 : Value} : ZW zG d 218 115 [x0, x1] st z Q = (zir x0 = true ∧ ZW zG d 218 116 [x0, x1] (x0 :: st) z Q) := zw_cond (f := z_aload 0 116) rfl rfl
theorem s218_116 {ls : List Value}  : ZW zG d 218 116 ls (st) z Q = ZW zG d 218 119 ls ((.ref 21) :: st) z Q := zw_push rfl
theorem s218_119 {ls : List Value} {w0 : Nat} {r : Nat} : ZW zG (d + 1) 218 119 ls (.ref w0 :: .ref r :: st) z Q = (zcls z r = 13 ∧ zcs st = true ∧ ZC zG d 220 [.ref r, .ref w0] z (zk zG (d + 1) 218 (some 0) 122 ls st Q)) := zc_V1 rfl (Nat.le_of_ble_eq_true rfl)
theorem s218_122 {ls : List Value} {a : Int32} : ZW zG d 218 122 ls (.int a :: st) z Q = if a = 0 then ZW zG d 218 145 ls st z Q else ZW zG d 218 125 ls st z Q := zw_ifeq rfl
theorem s218_125 {x0 x1 : Value} : ZW zG d 218 125 [x0, x1] st z Q = (zir x0 = true ∧ ZW zG d 218 126 [x0, x1] (x0 :: st) z Q) := zw_cond (f := z_aload 0 126) rfl rfl
theorem s218_126 {ls : List Value} {r : Nat} : ZW zG d 218 126 ls (.ref r :: st) z Q = ((zcls z r = 13 ∧ zir (zfr z r 6) = true) ∧ ZW zG d 218 129 ls (zfr z r 6 :: st) (z) Q) := zw_getR rfl
theorem s218_129 {x0 x1 : Value} : ZW zG d 218 129 [x0, x1] st z Q = (zir x0 = true ∧ ZW zG d 218 130 [x0, x1] (x0 :: st) z Q) := zw_cond (f := z_aload 0 130) rfl rfl
theorem s218_130 {ls : List Value}  : ZW zG d 218 130 ls (st) z Q = ZW zG d 218 133 ls ((.ref 21) :: st) z Q := zw_push rfl
theorem s218_133 {ls : List Value}  : ZW zG d 218 133 ls (st) z Q = ZW zG d 218 134 ls ((.int (nI 0)) :: st) z Q := zw_push rfl
theorem s218_134 {ls : List Value}  : ZW zG d 218 134 ls (st) z Q = ZW zG d 218 136 ls ((.int (nI 99)) :: st) z Q := zw_push rfl
theorem s218_136 {ls : List Value} {w0 : Nat} {w1 : Int32} {w2 : Int32} {r : Nat} : ZW zG (d + 1) 218 136 ls (.int w2 :: .int w1 :: .ref w0 :: .ref r :: st) z Q = (zcls z r = 13 ∧ zcs st = true ∧ ZC zG d 226 [.ref r, .ref w0, .int w1, .int w2] z (zk zG (d + 1) 218 (some 0) 139 ls st Q)) := zc_V3 rfl (Nat.le_of_ble_eq_true rfl)
theorem s218_139 {ls : List Value} {a : Int32} {r : Nat} : ZW zG d 218 139 ls (.int a :: .ref r :: st) z Q = ((zcls z r = 2) ∧ ZW zG d 218 142 ls (st) (sfi z r 3 a) Q) := zw_putI rfl
theorem s218_142 {ls : List Value}  : ZW zG d 218 142 ls (st) z Q = ZW zG d 218 162 ls st z Q := zw_goto rfl
theorem s218_145 {x0 x1 : Value} : ZW zG d 218 145 [x0, x1] st z Q = (zir x0 = true ∧ ZW zG d 218 146 [x0, x1] (x0 :: st) z Q) := zw_cond (f := z_aload 0 146) rfl rfl
theorem s218_146 {ls : List Value} {r : Nat} : ZW zG d 218 146 ls (.ref r :: st) z Q = ((zcls z r = 13 ∧ zir (zfr z r 6) = true) ∧ ZW zG d 218 149 ls (zfr z r 6 :: st) (z) Q) := zw_getR rfl
theorem s218_149 {x0 x1 : Value} : ZW zG d 218 149 [x0, x1] st z Q = (zir x0 = true ∧ ZW zG d 218 150 [x0, x1] (x0 :: st) z Q) := zw_cond (f := z_aload 0 150) rfl rfl
theorem s218_150 {ls : List Value}  : ZW zG d 218 150 ls (st) z Q = ZW zG d 218 153 ls ((.ref 13) :: st) z Q := zw_push rfl
theorem s218_153 {ls : List Value}  : ZW zG d 218 153 ls (st) z Q = ZW zG d 218 154 ls ((.int (nI 1)) :: st) z Q := zw_push rfl
theorem s218_154 {ls : List Value}  : ZW zG d 218 154 ls (st) z Q = ZW zG d 218 156 ls ((.int (nI 9)) :: st) z Q := zw_push rfl
theorem s218_156 {ls : List Value} {w0 : Nat} {w1 : Int32} {w2 : Int32} {r : Nat} : ZW zG (d + 1) 218 156 ls (.int w2 :: .int w1 :: .ref w0 :: .ref r :: st) z Q = (zcls z r = 13 ∧ zcs st = true ∧ ZC zG d 226 [.ref r, .ref w0, .int w1, .int w2] z (zk zG (d + 1) 218 (some 0) 159 ls st Q)) := zc_V3 rfl (Nat.le_of_ble_eq_true rfl)
theorem s218_159 {ls : List Value} {a : Int32} {r : Nat} : ZW zG d 218 159 ls (.int a :: .ref r :: st) z Q = ((zcls z r = 2) ∧ ZW zG d 218 162 ls (st) (sfi z r 4 a) Q) := zw_putI rfl
theorem s218_162 {x0 x1 : Value} : ZW zG d 218 162 [x0, x1] st z Q = (zir x0 = true ∧ ZW zG d 218 163 [x0, x1] (x0 :: st) z Q) := zw_cond (f := z_aload 0 163) rfl rfl
theorem s218_163 {ls : List Value} {r : Nat} : ZW zG d 218 163 ls (.ref r :: st) z Q = ((zcls z r = 13) ∧ ZW zG d 218 166 ls (.int (zfi z r 9) :: st) (z) Q) := zw_getI rfl
theorem s218_166 {ls : List Value}  : ZW zG d 218 166 ls (st) z Q = ZW zG d 218 167 ls ((.int (nI 3)) :: st) z Q := zw_push rfl
theorem s218_167 {ls : List Value} {a b : Int32} : ZW zG d 218 167 ls (.int b :: .int a :: st) z Q = if a = b then ZW zG d 218 175 ls st z Q else ZW zG d 218 170 ls st z Q := zw_iceq rfl
theorem s218_170 {x0 x1 : Value} : ZW zG d 218 170 [x0, x1] st z Q = (zir x0 = true ∧ ZW zG d 218 171 [x0, x1] (x0 :: st) z Q) := zw_cond (f := z_aload 0 171) rfl rfl
theorem s218_171 {ls : List Value}  : ZW zG d 218 171 ls (st) z Q = ZW zG d 218 172 ls ((.int (nI 1)) :: st) z Q := zw_push rfl
theorem s218_172 {ls : List Value} {w0 : Int32} {r : Nat} : ZW zG (d + 1) 218 172 ls (.int w0 :: .ref r :: st) z Q = (zcls z r = 13 ∧ zcs st = true ∧ ZC zG d 221 [.ref r, .int w0] z (zk zG (d + 1) 218 (some 0) 175 ls st Q)) := zc_V1 rfl (Nat.le_of_ble_eq_true rfl)
theorem s218_175 {x0 x1 : Value} : ZW zG d 218 175 [x0, x1] st z Q = (zir x0 = true ∧ ZW zG d 218 176 [x0, x1] (x0 :: st) z Q) := zw_cond (f := z_aload 0 176) rfl rfl
theorem s218_176 {ls : List Value}  {r : Nat} : ZW zG (d + 1) 218 176 ls (.ref r :: st) z Q = (zcls z r = 13 ∧ zcs st = true ∧ ZC zG d 216 [.ref r] z (zk zG (d + 1) 218 (some 0) 179 ls st Q)) := zc_V0 rfl (Nat.le_of_ble_eq_true rfl)
theorem s218_179 {ls : List Value}  : ZW zG d 218 179 ls ([]) z Q = Q (.inl none) z := zw_ret rfl
/-- X13_which ([Ljava/lang/String;)I -/
theorem e219 {r0 : Nat} {v0 : Nat} : ZC zG d 219 [.ref r0, .ref v0] z Q = ZW zG d 219 0 [.ref r0, .ref v0, zdum] [] z Q := rfl
theorem s219_0 {ls : List Value}  : ZW zG d 219 0 ls (st) z Q = ZW zG d 219 1 ls ((.int (nI 0)) :: st) z Q := zw_push rfl
theorem s219_1 {x0 x1 x2 : Value} {a : Int32} : ZW zG d 219 1 [x0, x1, x2] (.int a :: st) z Q = ZW zG d 219 2 [x0, zclr x1, .int a] st z Q := zw_next (f := z_istore 2 2) rfl rfl
theorem s219_2 {x0 x1 : Value} {a : Int32} : ZW zG d 219 2 [x0, x1, .int a] st z Q = ZW zG d 219 3 [x0, x1, .int a] (.int a :: st) z Q := zw_next (f := z_iload 2 3) rfl rfl
theorem s219_3 {x0 x1 x2 : Value} : ZW zG d 219 3 [x0, x1, x2] st z Q = (zir x1 = true ∧ ZW zG d 219 4 [x0, x1, x2] (x1 :: st) z Q) := zw_cond (f := z_aload 1 4) rfl rfl
theorem s219_4 {ls : List Value} {r : Nat} : ZW zG d 219 4 ls (.ref r :: st) z Q = ((zcls z r = 63) ∧ ZW zG d 219 5 ls (.int (nI (zlen z r)) :: st) (z) Q) := zw_alen rfl
theorem s219_5 {ls : List Value} {a b : Int32} : ZW zG d 219 5 ls (.int b :: .int a :: st) z Q = if b ≤ a then ZW zG d 219 24 ls st z Q else ZW zG d 219 8 ls st z Q := zw_icge rfl
theorem s219_8 {x0 x1 x2 : Value} : ZW zG d 219 8 [x0, x1, x2] st z Q = (zir x0 = true ∧ ZW zG d 219 9 [x0, x1, x2] (x0 :: st) z Q) := zw_cond (f := z_aload 0 9) rfl rfl
theorem s219_9 {x0 x1 x2 : Value} : ZW zG d 219 9 [x0, x1, x2] st z Q = (zir x1 = true ∧ ZW zG d 219 10 [x0, x1, x2] (x1 :: st) z Q) := zw_cond (f := z_aload 1 10) rfl rfl
theorem s219_10 {x0 x1 : Value} {a : Int32} : ZW zG d 219 10 [x0, x1, .int a] st z Q = ZW zG d 219 11 [x0, x1, .int a] (.int a :: st) z Q := zw_next (f := z_iload 2 11) rfl rfl
theorem s219_11 {ls : List Value} {a : Int32} {r : Nat} : ZW zG d 219 11 ls (.int a :: .ref r :: st) z Q = ((zcls z r = 63 ∧ zin a (zlen z r) = true ∧ zir (zra z r (zx a)) = true) ∧ ZW zG d 219 12 ls (zra z r (zx a) :: st) (z) Q) := zw_aald rfl
theorem s219_12 {ls : List Value} {w0 : Nat} {r : Nat} : ZW zG (d + 1) 219 12 ls (.ref w0 :: .ref r :: st) z Q = (zcls z r = 13 ∧ zcs st = true ∧ ZC zG d 220 [.ref r, .ref w0] z (zk zG (d + 1) 219 (some 0) 15 ls st Q)) := zc_V1 rfl (Nat.le_of_ble_eq_true rfl)
theorem s219_15 {ls : List Value} {a : Int32} : ZW zG d 219 15 ls (.int a :: st) z Q = if ¬ a = 0 then ZW zG d 219 24 ls st z Q else ZW zG d 219 18 ls st z Q := zw_ifne rfl
theorem s219_18 {x0 x1 : Value} {a : Int32} : ZW zG d 219 18 [x0, x1, .int a] st z Q = ZW zG d 219 21 [x0, zclr x1, .int (a + (nI 1))] st z Q := zw_next (f := z_iinc 2 (nI 1) 21) rfl rfl
theorem s219_21 {ls : List Value}  : ZW zG d 219 21 ls (st) z Q = ZW zG d 219 2 ls st z Q := zw_goto rfl
theorem s219_24 {x0 x1 : Value} {a : Int32} : ZW zG d 219 24 [x0, x1, .int a] st z Q = ZW zG d 219 25 [x0, x1, .int a] (.int a :: st) z Q := zw_next (f := z_iload 2 25) rfl rfl
theorem s219_25 {ls : List Value} {a : Int32} : ZW zG d 219 25 ls ([.int a]) z Q = Q (.inl (some (.int a))) z := zw_reti rfl
/-- X13_is (Ljava/lang/String;)Z -/
theorem e220 {r0 : Nat} {v0 : Nat} : ZC zG d 220 [.ref r0, .ref v0] z Q = ZW zG d 220 0 [.ref r0, .ref v0, zdum, zdum] [] z Q := rfl
theorem s220_0 {x0 x1 x2 x3 : Value} : ZW zG d 220 0 [x0, x1, x2, x3] st z Q = (zir x0 = true ∧ ZW zG d 220 1 [x0, x1, x2, x3] (x0 :: st) z Q) := zw_cond (f := z_aload 0 1) rfl rfl
theorem s220_1 {ls : List Value} {r : Nat} : ZW zG d 220 1 ls (.ref r :: st) z Q = ((zcls z r = 13) ∧ ZW zG d 220 4 ls (.int (zfi z r 9) :: st) (z) Q) := zw_getI rfl
theorem s220_4 {ls : List Value}  : ZW zG d 220 4 ls (st) z Q = ZW zG d 220 5 ls ((.int (nI 1)) :: st) z Q := zw_push rfl
theorem s220_5 {ls : List Value} {a b : Int32} : ZW zG d 220 5 ls (.int b :: .int a :: st) z Q = if ¬ a = b then ZW zG d 220 28 ls st z Q else ZW zG d 220 8 ls st z Q := zw_icne rfl
theorem s220_8 {x0 x1 x2 x3 : Value} : ZW zG d 220 8 [x0, x1, x2, x3] st z Q = (zir x0 = true ∧ ZW zG d 220 9 [x0, x1, x2, x3] (x0 :: st) z Q) := zw_cond (f := z_aload 0 9) rfl rfl
theorem s220_9 {ls : List Value} {r : Nat} : ZW zG d 220 9 ls (.ref r :: st) z Q = ((zcls z r = 13) ∧ ZW zG d 220 12 ls (.int (zfi z r 7) :: st) (z) Q) := zw_getI rfl
theorem s220_12 {x0 x1 x2 x3 : Value} : ZW zG d 220 12 [x0, x1, x2, x3] st z Q = (zir x0 = true ∧ ZW zG d 220 13 [x0, x1, x2, x3] (x0 :: st) z Q) := zw_cond (f := z_aload 0 13) rfl rfl
theorem s220_13 {ls : List Value} {r : Nat} : ZW zG d 220 13 ls (.ref r :: st) z Q = ((zcls z r = 13) ∧ ZW zG d 220 16 ls (.int (zfi z r 8) :: st) (z) Q) := zw_getI rfl
theorem s220_16 {ls : List Value} {a b : Int32} : ZW zG d 220 16 ls (.int b :: .int a :: st) z Q = ZW zG d 220 17 ls (.int (a - b) :: st) z Q := zw_isub rfl
theorem s220_17 {x0 x1 x2 x3 : Value} : ZW zG d 220 17 [x0, x1, x2, x3] st z Q = (zir x1 = true ∧ ZW zG d 220 18 [x0, x1, x2, x3] (x1 :: st) z Q) := zw_cond (f := z_aload 1 18) rfl rfl
theorem s220_18 {ls : List Value} {r : Nat} : ZW zG d 220 18 ls (.ref r :: st) z Q = ((zcs st = true ∧ r < 35) ∧ ZW zG d 220 21 ls (.int (nI (ztx r).length) :: st) (z) Q) := zw_slen rfl
theorem s220_21 {ls : List Value} {a b : Int32} : ZW zG d 220 21 ls (.int b :: .int a :: st) z Q = if ¬ a = b then ZW zG d 220 28 ls st z Q else ZW zG d 220 24 ls st z Q := zw_icne rfl
theorem s220_24 {ls : List Value}  : ZW zG d 220 24 ls (st) z Q = ZW zG d 220 25 ls ((.int (nI 1)) :: st) z Q := zw_push rfl
theorem s220_25 {ls : List Value}  : ZW zG d 220 25 ls (st) z Q = ZW zG d 220 29 ls st z Q := zw_goto rfl
theorem s220_28 {ls : List Value}  : ZW zG d 220 28 ls (st) z Q = ZW zG d 220 29 ls ((.int (nI 0)) :: st) z Q := zw_push rfl
theorem s220_29 {x0 x1 x2 x3 : Value} {a : Int32} : ZW zG d 220 29 [x0, x1, x2, x3] (.int a :: st) z Q = ZW zG d 220 30 [x0, zclr x1, .int a, x3] st z Q := zw_next (f := z_istore 2 30) rfl rfl
theorem s220_30 {ls : List Value}  : ZW zG d 220 30 ls (st) z Q = ZW zG d 220 31 ls ((.int (nI 0)) :: st) z Q := zw_push rfl
theorem s220_31 {x0 x1 x2 x3 : Value} {a : Int32} : ZW zG d 220 31 [x0, x1, x2, x3] (.int a :: st) z Q = ZW zG d 220 32 [x0, x1, zclr x2, .int a] st z Q := zw_next (f := z_istore 3 32) rfl rfl
theorem s220_32 {x0 x1 x2 : Value} {a : Int32} : ZW zG d 220 32 [x0, x1, x2, .int a] st z Q = ZW zG d 220 33 [x0, x1, x2, .int a] (.int a :: st) z Q := zw_next (f := z_iload 3 33) rfl rfl
theorem s220_33 {x0 x1 x2 x3 : Value} : ZW zG d 220 33 [x0, x1, x2, x3] st z Q = (zir x1 = true ∧ ZW zG d 220 34 [x0, x1, x2, x3] (x1 :: st) z Q) := zw_cond (f := z_aload 1 34) rfl rfl
theorem s220_34 {ls : List Value} {r : Nat} : ZW zG d 220 34 ls (.ref r :: st) z Q = ((zcs st = true ∧ r < 35) ∧ ZW zG d 220 37 ls (.int (nI (ztx r).length) :: st) (z) Q) := zw_slen rfl
theorem s220_37 {ls : List Value} {a b : Int32} : ZW zG d 220 37 ls (.int b :: .int a :: st) z Q = if b ≤ a then ZW zG d 220 75 ls st z Q else ZW zG d 220 40 ls st z Q := zw_icge rfl
theorem s220_40 {x0 x1 x3 : Value} {a : Int32} : ZW zG d 220 40 [x0, x1, .int a, x3] st z Q = ZW zG d 220 41 [x0, x1, .int a, x3] (.int a :: st) z Q := zw_next (f := z_iload 2 41) rfl rfl
theorem s220_41 {ls : List Value} {a : Int32} : ZW zG d 220 41 ls (.int a :: st) z Q = if a = 0 then ZW zG d 220 75 ls st z Q else ZW zG d 220 44 ls st z Q := zw_ifeq rfl
theorem s220_44 {x0 x1 x2 x3 : Value} : ZW zG d 220 44 [x0, x1, x2, x3] st z Q = (zir x0 = true ∧ ZW zG d 220 45 [x0, x1, x2, x3] (x0 :: st) z Q) := zw_cond (f := z_aload 0 45) rfl rfl
theorem s220_45 {ls : List Value} {r : Nat} : ZW zG d 220 45 ls (.ref r :: st) z Q = ((zcls z r = 13 ∧ zir (zfr z r 4) = true) ∧ ZW zG d 220 48 ls (zfr z r 4 :: st) (z) Q) := zw_getR rfl
theorem s220_48 {x0 x1 x2 x3 : Value} : ZW zG d 220 48 [x0, x1, x2, x3] st z Q = (zir x0 = true ∧ ZW zG d 220 49 [x0, x1, x2, x3] (x0 :: st) z Q) := zw_cond (f := z_aload 0 49) rfl rfl
theorem s220_49 {ls : List Value} {r : Nat} : ZW zG d 220 49 ls (.ref r :: st) z Q = ((zcls z r = 13) ∧ ZW zG d 220 52 ls (.int (zfi z r 8) :: st) (z) Q) := zw_getI rfl
theorem s220_52 {x0 x1 x2 : Value} {a : Int32} : ZW zG d 220 52 [x0, x1, x2, .int a] st z Q = ZW zG d 220 53 [x0, x1, x2, .int a] (.int a :: st) z Q := zw_next (f := z_iload 3 53) rfl rfl
theorem s220_53 {ls : List Value} {a b : Int32} : ZW zG d 220 53 ls (.int b :: .int a :: st) z Q = ZW zG d 220 54 ls (.int (a + b) :: st) z Q := zw_iadd rfl
theorem s220_54 {ls : List Value} {a : Int32} {r : Nat} : ZW zG d 220 54 ls (.int a :: .ref r :: st) z Q = ((zcls z r = 52 ∧ zin a (zlen z r) = true) ∧ ZW zG d 220 55 ls (.int (zia z r (zx a)) :: st) (z) Q) := zw_iald rfl
theorem s220_55 {x0 x1 x2 x3 : Value} : ZW zG d 220 55 [x0, x1, x2, x3] st z Q = (zir x1 = true ∧ ZW zG d 220 56 [x0, x1, x2, x3] (x1 :: st) z Q) := zw_cond (f := z_aload 1 56) rfl rfl
theorem s220_56 {x0 x1 x2 : Value} {a : Int32} : ZW zG d 220 56 [x0, x1, x2, .int a] st z Q = ZW zG d 220 57 [x0, x1, x2, .int a] (.int a :: st) z Q := zw_next (f := z_iload 3 57) rfl rfl
theorem s220_57 {ls : List Value} {a : Int32} {r : Nat} : ZW zG d 220 57 ls (.int a :: .ref r :: st) z Q = ((zcs st = true ∧ r < 35 ∧ zin a (ztx r).length = true) ∧ ZW zG d 220 60 ls (.int (nI ((ztx r).getD (zx a) 0)) :: st) (z) Q) := zw_schar rfl
theorem s220_60 {ls : List Value} {a b : Int32} : ZW zG d 220 60 ls (.int b :: .int a :: st) z Q = if ¬ a = b then ZW zG d 220 67 ls st z Q else ZW zG d 220 63 ls st z Q := zw_icne rfl
theorem s220_63 {ls : List Value}  : ZW zG d 220 63 ls (st) z Q = ZW zG d 220 64 ls ((.int (nI 1)) :: st) z Q := zw_push rfl
theorem s220_64 {ls : List Value}  : ZW zG d 220 64 ls (st) z Q = ZW zG d 220 68 ls st z Q := zw_goto rfl
theorem s220_67 {ls : List Value}  : ZW zG d 220 67 ls (st) z Q = ZW zG d 220 68 ls ((.int (nI 0)) :: st) z Q := zw_push rfl
theorem s220_68 {x0 x1 x2 x3 : Value} {a : Int32} : ZW zG d 220 68 [x0, x1, x2, x3] (.int a :: st) z Q = ZW zG d 220 69 [x0, zclr x1, .int a, x3] st z Q := zw_next (f := z_istore 2 69) rfl rfl
theorem s220_69 {x0 x1 x2 : Value} {a : Int32} : ZW zG d 220 69 [x0, x1, x2, .int a] st z Q = ZW zG d 220 72 [x0, x1, zclr x2, .int (a + (nI 1))] st z Q := zw_next (f := z_iinc 3 (nI 1) 72) rfl rfl
theorem s220_72 {ls : List Value}  : ZW zG d 220 72 ls (st) z Q = ZW zG d 220 32 ls st z Q := zw_goto rfl
theorem s220_75 {x0 x1 x3 : Value} {a : Int32} : ZW zG d 220 75 [x0, x1, .int a, x3] st z Q = ZW zG d 220 76 [x0, x1, .int a, x3] (.int a :: st) z Q := zw_next (f := z_iload 2 76) rfl rfl
theorem s220_76 {ls : List Value} {a : Int32} : ZW zG d 220 76 ls ([.int a]) z Q = ((a = 0 ∨ a = 1) ∧ Q (.inl (some (.int a))) z) := zw_retz rfl
/-- X13_fails (I)V -/
theorem e221 {r0 : Nat} {v0 : Int32} : ZC zG d 221 [.ref r0, .int v0] z Q = ZW zG d 221 0 [.ref r0, .int v0] [] z Q := rfl
theorem s221_0 {ls : List Value}  : ZW zG d 221 0 ls (st) z Q = ZW zG d 221 3 ls (.ref (zn z) :: st) (snew z 14 8) Q := zw_new rfl
theorem s221_3 {ls : List Value} {r : Nat} : ZW zG d 221 3 ls (.ref r :: st) z Q = ZW zG d 221 4 ls (.ref r :: .ref r :: st) z Q := zw_dupr rfl
theorem s221_4 {x0 : Value} {a : Int32} : ZW zG d 221 4 [x0, .int a] st z Q = ZW zG d 221 5 [x0, .int a] (.int a :: st) z Q := zw_next (f := z_iload 1 5) rfl rfl
theorem s221_5 {x0 x1 : Value} : ZW zG d 221 5 [x0, x1] st z Q = (zir x0 = true ∧ ZW zG d 221 6 [x0, x1] (x0 :: st) z Q) := zw_cond (f := z_aload 0 6) rfl rfl
theorem s221_6 {ls : List Value} {r : Nat} : ZW zG d 221 6 ls (.ref r :: st) z Q = ((zcls z r = 13) ∧ ZW zG d 221 9 ls (.int (zfi z r 10) :: st) (z) Q) := zw_getI rfl
theorem s221_9 {ls : List Value} {w0 : Int32} {w1 : Int32} {r : Nat} : ZW zG (d + 1) 221 9 ls (.int w1 :: .int w0 :: .ref r :: st) z Q = (zcs st = true ∧ ZC zG d 233 [.ref r, .int w0, .int w1] z (zk zG (d + 1) 221 (none) 12 ls st Q)) := zc_I2 rfl (Nat.le_of_ble_eq_true rfl)
theorem s221_12 {ls : List Value} {q : Nat} : ZW zG d 221 12 ls (.ref q :: st) z Q = (zcls z q = 14 ∧ Q (.inr (.ref q)) z) := zw_thr rfl
/-- X13_rule (I)V -/
theorem e222 {r0 : Nat} {v0 : Int32} : ZC zG d 222 [.ref r0, .int v0] z Q = ZW zG d 222 0 [.ref r0, .int v0, zdum, zdum, zdum, zdum] [] z Q := rfl
theorem s222_0 {x0 x1 x2 x3 x4 x5 : Value} : ZW zG d 222 0 [x0, x1, x2, x3, x4, x5] st z Q = (zir x0 = true ∧ ZW zG d 222 1 [x0, x1, x2, x3, x4, x5] (x0 :: st) z Q) := zw_cond (f := z_aload 0 1) rfl rfl
theorem s222_1 {ls : List Value}  : ZW zG d 222 1 ls (st) z Q = ZW zG d 222 3 ls ((.ref 22) :: st) z Q := zw_push rfl
theorem s222_3 {ls : List Value} {w0 : Nat} {r : Nat} : ZW zG (d + 1) 222 3 ls (.ref w0 :: .ref r :: st) z Q = (zcls z r = 13 ∧ zcs st = true ∧ ZC zG d 223 [.ref r, .ref w0] z (zk zG (d + 1) 222 (some 0) 6 ls st Q)) := zc_V1 rfl (Nat.le_of_ble_eq_true rfl)
theorem s222_6 {x0 x1 x2 x3 x4 x5 : Value} : ZW zG d 222 6 [x0, x1, x2, x3, x4, x5] st z Q = (zir x0 = true ∧ ZW zG d 222 7 [x0, x1, x2, x3, x4, x5] (x0 :: st) z Q) := zw_cond (f := z_aload 0 7) rfl rfl
theorem s222_7 {x0 x1 x2 x3 x4 x5 : Value} : ZW zG d 222 7 [x0, x1, x2, x3, x4, x5] st z Q = (zir x0 = true ∧ ZW zG d 222 8 [x0, x1, x2, x3, x4, x5] (x0 :: st) z Q) := zw_cond (f := z_aload 0 8) rfl rfl
theorem s222_8 {ls : List Value} {r : Nat} : ZW zG d 222 8 ls (.ref r :: st) z Q = ((zcls z r = 13 ∧ zir (zfr z r 1) = true) ∧ ZW zG d 222 11 ls (zfr z r 1 :: st) (z) Q) := zw_getR rfl
theorem s222_11 {ls : List Value} {w0 : Nat} {r : Nat} : ZW zG (d + 1) 222 11 ls (.ref w0 :: .ref r :: st) z Q = (zcls z r = 13 ∧ zcs st = true ∧ ZC zG d 225 [.ref r, .ref w0] z (zk zG (d + 1) 222 (some 0) 14 ls st Q)) := zc_V1 rfl (Nat.le_of_ble_eq_true rfl)
theorem s222_14 {x0 x1 x2 x3 x4 x5 : Value} {a : Int32} : ZW zG d 222 14 [x0, x1, x2, x3, x4, x5] (.int a :: st) z Q = ZW zG d 222 15 [x0, zclr x1, .int a, x3, x4, x5] st z Q := zw_next (f := z_istore 2 15) rfl rfl
theorem s222_15 {ls : List Value}  : ZW zG d 222 15 ls (st) z Q = ZW zG d 222 18 ls (.ref (zn z) :: st) (snew z 15 4) Q := zw_new rfl
theorem s222_18 {ls : List Value} {r : Nat} : ZW zG d 222 18 ls (.ref r :: st) z Q = ZW zG d 222 19 ls (.ref r :: .ref r :: st) z Q := zw_dupr rfl
theorem s222_19 {x0 x2 x3 x4 x5 : Value} {a : Int32} : ZW zG d 222 19 [x0, .int a, x2, x3, x4, x5] st z Q = ZW zG d 222 20 [x0, .int a, x2, x3, x4, x5] (.int a :: st) z Q := zw_next (f := z_iload 1 20) rfl rfl
theorem s222_20 {x0 x1 x3 x4 x5 : Value} {a : Int32} : ZW zG d 222 20 [x0, x1, .int a, x3, x4, x5] st z Q = ZW zG d 222 21 [x0, x1, .int a, x3, x4, x5] (.int a :: st) z Q := zw_next (f := z_iload 2 21) rfl rfl
theorem s222_21 {x0 x1 x2 x3 x4 x5 : Value} : ZW zG d 222 21 [x0, x1, x2, x3, x4, x5] st z Q = (zir x0 = true ∧ ZW zG d 222 22 [x0, x1, x2, x3, x4, x5] (x0 :: st) z Q) := zw_cond (f := z_aload 0 22) rfl rfl
theorem s222_22 {ls : List Value}  : ZW zG d 222 22 ls (st) z Q = ZW zG d 222 24 ls ((.ref 34) :: st) z Q := zw_push rfl
theorem s222_24 {ls : List Value}  : ZW zG d 222 24 ls (st) z Q = ZW zG d 222 25 ls ((.int (nI 0)) :: st) z Q := zw_push rfl
theorem s222_25 {ls : List Value}  : ZW zG d 222 25 ls (st) z Q = ZW zG d 222 27 ls ((.int (nI 99)) :: st) z Q := zw_push rfl
theorem s222_27 {ls : List Value} {w0 : Nat} {w1 : Int32} {w2 : Int32} {r : Nat} : ZW zG (d + 1) 222 27 ls (.int w2 :: .int w1 :: .ref w0 :: .ref r :: st) z Q = (zcls z r = 13 ∧ zcs st = true ∧ ZC zG d 226 [.ref r, .ref w0, .int w1, .int w2] z (zk zG (d + 1) 222 (some 0) 30 ls st Q)) := zc_V3 rfl (Nat.le_of_ble_eq_true rfl)
theorem s222_30 {ls : List Value} {w0 : Int32} {w1 : Int32} {w2 : Int32} {r : Nat} : ZW zG (d + 1) 222 30 ls (.int w2 :: .int w1 :: .int w0 :: .ref r :: st) z Q = (zcs st = true ∧ ZC zG d 234 [.ref r, .int w0, .int w1, .int w2] z (zk zG (d + 1) 222 (none) 33 ls st Q)) := zc_I3 rfl (Nat.le_of_ble_eq_true rfl)
theorem s222_33 {x0 x1 x2 x3 x4 x5 : Value} {v : Value} : ZW zG d 222 33 [x0, x1, x2, x3, x4, x5] (v :: st) z Q = (zir v = true ∧ ZW zG d 222 34 [x0, x1, zclr x2, v, x4, x5] st z Q) := by rw [zw_cond (f := z_astore 3 34) (G := zG) rfl rfl]; exact propext ⟨fun h => ⟨h.1.1, h.2⟩, fun h => ⟨⟨h.1, Nat.le_of_ble_eq_true rfl⟩, h.2⟩⟩
theorem s222_34 {x0 x1 x2 x3 x4 x5 : Value} : ZW zG d 222 34 [x0, x1, x2, x3, x4, x5] st z Q = (zir x0 = true ∧ ZW zG d 222 35 [x0, x1, x2, x3, x4, x5] (x0 :: st) z Q) := zw_cond (f := z_aload 0 35) rfl rfl
theorem s222_35 {ls : List Value}  : ZW zG d 222 35 ls (st) z Q = ZW zG d 222 37 ls ((.ref 12) :: st) z Q := zw_push rfl
theorem s222_37 {ls : List Value} {w0 : Nat} {r : Nat} : ZW zG (d + 1) 222 37 ls (.ref w0 :: .ref r :: st) z Q = (zcls z r = 13 ∧ zcs st = true ∧ ZC zG d 224 [.ref r, .ref w0] z (zk zG (d + 1) 222 (some 0) 40 ls st Q)) := zc_V1 rfl (Nat.le_of_ble_eq_true rfl)
theorem s222_40 {ls : List Value} {a : Int32} : ZW zG d 222 40 ls (.int a :: st) z Q = if a = 0 then ZW zG d 222 93 ls st z Q else ZW zG d 222 43 ls st z Q := zw_ifeq rfl
theorem s222_43 {x0 x1 x2 x3 x4 x5 : Value} : ZW zG d 222 43 [x0, x1, x2, x3, x4, x5] st z Q = (zir x0 = true ∧ ZW zG d 222 44 [x0, x1, x2, x3, x4, x5] (x0 :: st) z Q) := zw_cond (f := z_aload 0 44) rfl rfl
theorem s222_44 {ls : List Value}  {r : Nat} : ZW zG (d + 1) 222 44 ls (.ref r :: st) z Q = (zcls z r = 13 ∧ zcs st = true ∧ ZC zG d 228 [.ref r] z (zk zG (d + 1) 222 (some 0) 47 ls st Q)) := zc_V0 rfl (Nat.le_of_ble_eq_true rfl)
theorem s222_47 {x0 x1 x2 x3 x4 x5 : Value} {v : Value} : ZW zG d 222 47 [x0, x1, x2, x3, x4, x5] (v :: st) z Q = (zir v = true ∧ ZW zG d 222 49 [x0, x1, x2, zclr x3, v, x5] st z Q) := by rw [zw_cond (f := z_astore 4 49) (G := zG) rfl rfl]; exact propext ⟨fun h => ⟨h.1.1, h.2⟩, fun h => ⟨⟨h.1, Nat.le_of_ble_eq_true rfl⟩, h.2⟩⟩
theorem s222_49 {x0 x1 x2 x3 x4 x5 : Value} : ZW zG d 222 49 [x0, x1, x2, x3, x4, x5] st z Q = (zir x0 = true ∧ ZW zG d 222 50 [x0, x1, x2, x3, x4, x5] (x0 :: st) z Q) := zw_cond (f := z_aload 0 50) rfl rfl
theorem s222_50 {x0 x1 x2 x3 x4 x5 : Value} : ZW zG d 222 50 [x0, x1, x2, x3, x4, x5] st z Q = (zir x0 = true ∧ ZW zG d 222 51 [x0, x1, x2, x3, x4, x5] (x0 :: st) z Q) := zw_cond (f := z_aload 0 51) rfl rfl
theorem s222_51 {ls : List Value} {r : Nat} : ZW zG d 222 51 ls (.ref r :: st) z Q = ((zcls z r = 13 ∧ zir (zfr z r 2) = true) ∧ ZW zG d 222 54 ls (zfr z r 2 :: st) (z) Q) := zw_getR rfl
theorem s222_54 {ls : List Value} {w0 : Nat} {r : Nat} : ZW zG (d + 1) 222 54 ls (.ref w0 :: .ref r :: st) z Q = (zcls z r = 13 ∧ zcs st = true ∧ ZC zG d 225 [.ref r, .ref w0] z (zk zG (d + 1) 222 (some 0) 57 ls st Q)) := zc_V1 rfl (Nat.le_of_ble_eq_true rfl)
theorem s222_57 {x0 x1 x2 x3 x4 x5 : Value} {a : Int32} : ZW zG d 222 57 [x0, x1, x2, x3, x4, x5] (.int a :: st) z Q = ZW zG d 222 59 [x0, x1, x2, x3, zclr x4, .int a] st z Q := zw_next (f := z_istore 5 59) rfl rfl
theorem s222_59 {x0 x1 x2 x3 x4 x5 : Value} : ZW zG d 222 59 [x0, x1, x2, x3, x4, x5] st z Q = (zir x3 = true ∧ ZW zG d 222 60 [x0, x1, x2, x3, x4, x5] (x3 :: st) z Q) := zw_cond (f := z_aload 3 60) rfl rfl
theorem s222_60 {ls : List Value} {r : Nat} : ZW zG d 222 60 ls (.ref r :: st) z Q = ((zcls z r = 15 ∧ zir (zfr z r 3) = true) ∧ ZW zG d 222 63 ls (zfr z r 3 :: st) (z) Q) := zw_getR rfl
theorem s222_63 {ls : List Value}  : ZW zG d 222 63 ls (st) z Q = ZW zG d 222 66 ls (.ref (zn z) :: st) (snew z 20 3) Q := zw_new rfl
theorem s222_66 {ls : List Value} {r : Nat} : ZW zG d 222 66 ls (.ref r :: st) z Q = ZW zG d 222 67 ls (.ref r :: .ref r :: st) z Q := zw_dupr rfl
theorem s222_67 {x0 x1 x2 x3 x4 x5 : Value} : ZW zG d 222 67 [x0, x1, x2, x3, x4, x5] st z Q = (zir x4 = true ∧ ZW zG d 222 69 [x0, x1, x2, x3, x4, x5] (x4 :: st) z Q) := zw_cond (f := z_aload 4 69) rfl rfl
theorem s222_69 {x0 x1 x2 x3 x4 : Value} {a : Int32} : ZW zG d 222 69 [x0, x1, x2, x3, x4, .int a] st z Q = ZW zG d 222 71 [x0, x1, x2, x3, x4, .int a] (.int a :: st) z Q := zw_next (f := z_iload 5 71) rfl rfl
theorem s222_71 {x0 x1 x2 x3 x4 x5 : Value} : ZW zG d 222 71 [x0, x1, x2, x3, x4, x5] st z Q = (zir x0 = true ∧ ZW zG d 222 72 [x0, x1, x2, x3, x4, x5] (x0 :: st) z Q) := zw_cond (f := z_aload 0 72) rfl rfl
theorem s222_72 {ls : List Value}  {r : Nat} : ZW zG (d + 1) 222 72 ls (.ref r :: st) z Q = (zcls z r = 13 ∧ zcs st = true ∧ ZC zG d 228 [.ref r] z (zk zG (d + 1) 222 (some 0) 75 ls st Q)) := zc_V0 rfl (Nat.le_of_ble_eq_true rfl)
theorem s222_75 {ls : List Value} {w0 : Nat} {w1 : Int32} {w2 : Nat} {r : Nat} : ZW zG (d + 1) 222 75 ls (.ref w2 :: .int w1 :: .ref w0 :: .ref r :: st) z Q = (zcs st = true ∧ ZC zG d 243 [.ref r, .ref w0, .int w1, .ref w2] z (zk zG (d + 1) 222 (none) 78 ls st Q)) := zc_I3 rfl (Nat.le_of_ble_eq_true rfl)
theorem s222_78 {ls : List Value} {v : Value} {r : Nat} : ZW zG d 222 78 ls (v :: .ref r :: st) z Q = ((zcs st = true ∧ zcls z r = 90 ∧ (zlel z v = true ∧ (zls z r).all (zlel z) = true ∧ (zls z r).length < 100000)) ∧ ZW zG d 222 83 ls (.int 1 :: st) (sladd z r v) Q) := zw_ladd1 rfl
theorem s222_83 {ls : List Value} {a : Int32} : ZW zG d 222 83 ls (.int a :: st) z Q = ZW zG d 222 84 ls (st) z Q := zw_popi rfl
theorem s222_84 {x0 x1 x2 x3 x4 x5 : Value} : ZW zG d 222 84 [x0, x1, x2, x3, x4, x5] st z Q = (zir x0 = true ∧ ZW zG d 222 85 [x0, x1, x2, x3, x4, x5] (x0 :: st) z Q) := zw_cond (f := z_aload 0 85) rfl rfl
theorem s222_85 {ls : List Value}  : ZW zG d 222 85 ls (st) z Q = ZW zG d 222 87 ls ((.ref 0) :: st) z Q := zw_push rfl
theorem s222_87 {ls : List Value} {w0 : Nat} {r : Nat} : ZW zG (d + 1) 222 87 ls (.ref w0 :: .ref r :: st) z Q = (zcls z r = 13 ∧ zcs st = true ∧ ZC zG d 224 [.ref r, .ref w0] z (zk zG (d + 1) 222 (some 0) 90 ls st Q)) := zc_V1 rfl (Nat.le_of_ble_eq_true rfl)
theorem s222_90 {ls : List Value} {a : Int32} : ZW zG d 222 90 ls (.int a :: st) z Q = if ¬ a = 0 then ZW zG d 222 43 ls st z Q else ZW zG d 222 93 ls st z Q := zw_ifne rfl
theorem s222_93 {x0 x1 x2 x3 x4 x5 : Value} : ZW zG d 222 93 [x0, x1, x2, x3, x4, x5] st z Q = (zir x0 = true ∧ ZW zG d 222 94 [x0, x1, x2, x3, x4, x5] (x0 :: st) z Q) := zw_cond (f := z_aload 0 94) rfl rfl
theorem s222_94 {ls : List Value} {r : Nat} : ZW zG d 222 94 ls (.ref r :: st) z Q = ((zcls z r = 13 ∧ zir (zfr z r 6) = true) ∧ ZW zG d 222 97 ls (zfr z r 6 :: st) (z) Q) := zw_getR rfl
theorem s222_97 {ls : List Value} {r : Nat} : ZW zG d 222 97 ls (.ref r :: st) z Q = ((zcls z r = 2 ∧ zir (zfr z r 2) = true) ∧ ZW zG d 222 100 ls (zfr z r 2 :: st) (z) Q) := zw_getR rfl
theorem s222_100 {x0 x1 x2 x3 x4 x5 : Value} : ZW zG d 222 100 [x0, x1, x2, x3, x4, x5] st z Q = (zir x3 = true ∧ ZW zG d 222 101 [x0, x1, x2, x3, x4, x5] (x3 :: st) z Q) := zw_cond (f := z_aload 3 101) rfl rfl
theorem s222_101 {ls : List Value} {v : Value} {r : Nat} : ZW zG d 222 101 ls (v :: .ref r :: st) z Q = ((zcs st = true ∧ zcls z r = 90 ∧ (zlel z v = true ∧ (zls z r).all (zlel z) = true ∧ (zls z r).length < 100000)) ∧ ZW zG d 222 106 ls (.int 1 :: st) (sladd z r v) Q) := zw_ladd1 rfl
theorem s222_106 {ls : List Value} {a : Int32} : ZW zG d 222 106 ls (.int a :: st) z Q = ZW zG d 222 107 ls (st) z Q := zw_popi rfl
theorem s222_107 {ls : List Value}  : ZW zG d 222 107 ls ([]) z Q = Q (.inl none) z := zw_ret rfl
/-- X13_word (Ljava/lang/String;)V -/
theorem e223 {r0 : Nat} {v0 : Nat} : ZC zG d 223 [.ref r0, .ref v0] z Q = ZW zG d 223 0 [.ref r0, .ref v0] [] z Q := rfl
theorem s223_0 {x0 x1 : Value} : ZW zG d 223 0 [x0, x1] st z Q = (zir x0 = true ∧ ZW zG d 223 1 [x0, x1] (x0 :: st) z Q) := zw_cond (f := z_aload 0 1) rfl rfl
theorem s223_1 {x0 x1 : Value} : ZW zG d 223 1 [x0, x1] st z Q = (zir x1 = true ∧ ZW zG d 223 2 [x0, x1] (x1 :: st) z Q) := zw_cond (f := z_aload 1 2) rfl rfl
theorem s223_2 {ls : List Value} {w0 : Nat} {r : Nat} : ZW zG (d + 1) 223 2 ls (.ref w0 :: .ref r :: st) z Q = (zcls z r = 13 ∧ zcs st = true ∧ ZC zG d 224 [.ref r, .ref w0] z (zk zG (d + 1) 223 (some 0) 5 ls st Q)) := zc_V1 rfl (Nat.le_of_ble_eq_true rfl)
theorem s223_5 {ls : List Value} {a : Int32} : ZW zG d 223 5 ls (.int a :: st) z Q = if ¬ a = 0 then ZW zG d 223 13 ls st z Q else ZW zG d 223 8 ls st z Q := zw_ifne rfl
theorem s223_8 {x0 x1 : Value} : ZW zG d 223 8 [x0, x1] st z Q = (zir x0 = true ∧ ZW zG d 223 9 [x0, x1] (x0 :: st) z Q) := zw_cond (f := z_aload 0 9) rfl rfl
theorem s223_9 {ls : List Value}  : ZW zG d 223 9 ls (st) z Q = ZW zG d 223 10 ls ((.int (nI 1)) :: st) z Q := zw_push rfl
theorem s223_10 {ls : List Value} {w0 : Int32} {r : Nat} : ZW zG (d + 1) 223 10 ls (.int w0 :: .ref r :: st) z Q = (zcls z r = 13 ∧ zcs st = true ∧ ZC zG d 221 [.ref r, .int w0] z (zk zG (d + 1) 223 (some 0) 13 ls st Q)) := zc_V1 rfl (Nat.le_of_ble_eq_true rfl)
theorem s223_13 {ls : List Value}  : ZW zG d 223 13 ls ([]) z Q = Q (.inl none) z := zw_ret rfl
/-- X13_takes (Ljava/lang/String;)Z -/
theorem e224 {r0 : Nat} {v0 : Nat} : ZC zG d 224 [.ref r0, .ref v0] z Q = ZW zG d 224 0 [.ref r0, .ref v0, zdum] [] z Q := rfl
theorem s224_0 {x0 x1 x2 : Value} : ZW zG d 224 0 [x0, x1, x2] st z Q = (zir x0 = true ∧ ZW zG d 224 1 [x0, x1, x2] (x0 :: st) z Q) := zw_cond (f := z_aload 0 1) rfl rfl
theorem s224_1 {x0 x1 x2 : Value} : ZW zG d 224 1 [x0, x1, x2] st z Q = (zir x1 = true ∧ ZW zG d 224 2 [x0, x1, x2] (x1 :: st) z Q) := zw_cond (f := z_aload 1 2) rfl rfl
theorem s224_2 {ls : List Value} {w0 : Nat} {r : Nat} : ZW zG (d + 1) 224 2 ls (.ref w0 :: .ref r :: st) z Q = (zcls z r = 13 ∧ zcs st = true ∧ ZC zG d 220 [.ref r, .ref w0] z (zk zG (d + 1) 224 (some 0) 5 ls st Q)) := zc_V1 rfl (Nat.le_of_ble_eq_true rfl)
theorem s224_5 {x0 x1 x2 : Value} {a : Int32} : ZW zG d 224 5 [x0, x1, x2] (.int a :: st) z Q = ZW zG d 224 6 [x0, zclr x1, .int a] st z Q := zw_next (f := z_istore 2 6) rfl rfl
theorem s224_6 {x0 x1 : Value} {a : Int32} : ZW zG d 224 6 [x0, x1, .int a] st z Q = ZW zG d 224 7 [x0, x1, .int a] (.int a :: st) z Q := zw_next (f := z_iload 2 7) rfl rfl
theorem s224_7 {ls : List Value} {a : Int32} : ZW zG d 224 7 ls (.int a :: st) z Q = if a = 0 then ZW zG d 224 14 ls st z Q else ZW zG d 224 10 ls st z Q := zw_ifeq rfl
theorem s224_10 {x0 x1 x2 : Value} : ZW zG d 224 10 [x0, x1, x2] st z Q = (zir x0 = true ∧ ZW zG d 224 11 [x0, x1, x2] (x0 :: st) z Q) := zw_cond (f := z_aload 0 11) rfl rfl
theorem s224_11 {ls : List Value}  {r : Nat} : ZW zG (d + 1) 224 11 ls (.ref r :: st) z Q = (zcls z r = 13 ∧ zcs st = true ∧ ZC zG d 216 [.ref r] z (zk zG (d + 1) 224 (some 0) 14 ls st Q)) := zc_V0 rfl (Nat.le_of_ble_eq_true rfl)
theorem s224_14 {x0 x1 : Value} {a : Int32} : ZW zG d 224 14 [x0, x1, .int a] st z Q = ZW zG d 224 15 [x0, x1, .int a] (.int a :: st) z Q := zw_next (f := z_iload 2 15) rfl rfl
theorem s224_15 {ls : List Value} {a : Int32} : ZW zG d 224 15 ls ([.int a]) z Q = ((a = 0 ∨ a = 1) ∧ Q (.inl (some (.int a))) z) := zw_retz rfl
/-- X13_oneOf ([Ljava/lang/String;)I -/
theorem e225 {r0 : Nat} {v0 : Nat} : ZC zG d 225 [.ref r0, .ref v0] z Q = ZW zG d 225 0 [.ref r0, .ref v0, zdum] [] z Q := rfl
theorem s225_0 {x0 x1 x2 : Value} : ZW zG d 225 0 [x0, x1, x2] st z Q = (zir x0 = true ∧ ZW zG d 225 1 [x0, x1, x2] (x0 :: st) z Q) := zw_cond (f := z_aload 0 1) rfl rfl
theorem s225_1 {x0 x1 x2 : Value} : ZW zG d 225 1 [x0, x1, x2] st z Q = (zir x1 = true ∧ ZW zG d 225 2 [x0, x1, x2] (x1 :: st) z Q) := zw_cond (f := z_aload 1 2) rfl rfl
theorem s225_2 {ls : List Value} {w0 : Nat} {r : Nat} : ZW zG (d + 1) 225 2 ls (.ref w0 :: .ref r :: st) z Q = (zcls z r = 13 ∧ zcs st = true ∧ ZC zG d 219 [.ref r, .ref w0] z (zk zG (d + 1) 225 (some 0) 5 ls st Q)) := zc_V1 rfl (Nat.le_of_ble_eq_true rfl)
theorem s225_5 {x0 x1 x2 : Value} {a : Int32} : ZW zG d 225 5 [x0, x1, x2] (.int a :: st) z Q = ZW zG d 225 6 [x0, zclr x1, .int a] st z Q := zw_next (f := z_istore 2 6) rfl rfl
theorem s225_6 {x0 x1 : Value} {a : Int32} : ZW zG d 225 6 [x0, x1, .int a] st z Q = ZW zG d 225 7 [x0, x1, .int a] (.int a :: st) z Q := zw_next (f := z_iload 2 7) rfl rfl
theorem s225_7 {x0 x1 x2 : Value} : ZW zG d 225 7 [x0, x1, x2] st z Q = (zir x1 = true ∧ ZW zG d 225 8 [x0, x1, x2] (x1 :: st) z Q) := zw_cond (f := z_aload 1 8) rfl rfl
theorem s225_8 {ls : List Value} {r : Nat} : ZW zG d 225 8 ls (.ref r :: st) z Q = ((zcls z r = 63) ∧ ZW zG d 225 9 ls (.int (nI (zlen z r)) :: st) (z) Q) := zw_alen rfl
theorem s225_9 {ls : List Value} {a b : Int32} : ZW zG d 225 9 ls (.int b :: .int a :: st) z Q = if ¬ a = b then ZW zG d 225 17 ls st z Q else ZW zG d 225 12 ls st z Q := zw_icne rfl
theorem s225_12 {x0 x1 x2 : Value} : ZW zG d 225 12 [x0, x1, x2] st z Q = (zir x0 = true ∧ ZW zG d 225 13 [x0, x1, x2] (x0 :: st) z Q) := zw_cond (f := z_aload 0 13) rfl rfl
theorem s225_13 {ls : List Value}  : ZW zG d 225 13 ls (st) z Q = ZW zG d 225 14 ls ((.int (nI 1)) :: st) z Q := zw_push rfl
theorem s225_14 {ls : List Value} {w0 : Int32} {r : Nat} : ZW zG (d + 1) 225 14 ls (.int w0 :: .ref r :: st) z Q = (zcls z r = 13 ∧ zcs st = true ∧ ZC zG d 221 [.ref r, .int w0] z (zk zG (d + 1) 225 (some 0) 17 ls st Q)) := zc_V1 rfl (Nat.le_of_ble_eq_true rfl)
theorem s225_17 {x0 x1 x2 : Value} : ZW zG d 225 17 [x0, x1, x2] st z Q = (zir x0 = true ∧ ZW zG d 225 18 [x0, x1, x2] (x0 :: st) z Q) := zw_cond (f := z_aload 0 18) rfl rfl
theorem s225_18 {ls : List Value}  {r : Nat} : ZW zG (d + 1) 225 18 ls (.ref r :: st) z Q = (zcls z r = 13 ∧ zcs st = true ∧ ZC zG d 216 [.ref r] z (zk zG (d + 1) 225 (some 0) 21 ls st Q)) := zc_V0 rfl (Nat.le_of_ble_eq_true rfl)
theorem s225_21 {x0 x1 : Value} {a : Int32} : ZW zG d 225 21 [x0, x1, .int a] st z Q = ZW zG d 225 22 [x0, x1, .int a] (.int a :: st) z Q := zw_next (f := z_iload 2 22) rfl rfl
theorem s225_22 {ls : List Value} {a : Int32} : ZW zG d 225 22 ls ([.int a]) z Q = Q (.inl (some (.int a))) z := zw_reti rfl
/-- X13_number (Ljava/lang/String;II)I -/
theorem e226 {r0 : Nat} {v0 : Nat} {v1 : Int32} {v2 : Int32} : ZC zG d 226 [.ref r0, .ref v0, .int v1, .int v2] z Q = ZW zG d 226 0 [.ref r0, .ref v0, .int v1, .int v2] [] z Q := rfl
theorem s226_0 {x0 x1 x2 x3 : Value} : ZW zG d 226 0 [x0, x1, x2, x3] st z Q = (zir x0 = true ∧ ZW zG d 226 1 [x0, x1, x2, x3] (x0 :: st) z Q) := zw_cond (f := z_aload 0 1) rfl rfl
theorem s226_1 {x0 x1 x2 x3 : Value} : ZW zG d 226 1 [x0, x1, x2, x3] st z Q = (zir x1 = true ∧ ZW zG d 226 2 [x0, x1, x2, x3] (x1 :: st) z Q) := zw_cond (f := z_aload 1 2) rfl rfl
theorem s226_2 {ls : List Value} {w0 : Nat} {r : Nat} : ZW zG (d + 1) 226 2 ls (.ref w0 :: .ref r :: st) z Q = (zcls z r = 13 ∧ zcs st = true ∧ ZC zG d 223 [.ref r, .ref w0] z (zk zG (d + 1) 226 (some 0) 5 ls st Q)) := zc_V1 rfl (Nat.le_of_ble_eq_true rfl)
theorem s226_5 {x0 x1 x2 x3 : Value} : ZW zG d 226 5 [x0, x1, x2, x3] st z Q = (zir x0 = true ∧ ZW zG d 226 6 [x0, x1, x2, x3] (x0 :: st) z Q) := zw_cond (f := z_aload 0 6) rfl rfl
theorem s226_6 {x0 x1 x3 : Value} {a : Int32} : ZW zG d 226 6 [x0, x1, .int a, x3] st z Q = ZW zG d 226 7 [x0, x1, .int a, x3] (.int a :: st) z Q := zw_next (f := z_iload 2 7) rfl rfl
theorem s226_7 {x0 x1 x2 : Value} {a : Int32} : ZW zG d 226 7 [x0, x1, x2, .int a] st z Q = ZW zG d 226 8 [x0, x1, x2, .int a] (.int a :: st) z Q := zw_next (f := z_iload 3 8) rfl rfl
theorem s226_8 {ls : List Value} {w0 : Int32} {w1 : Int32} {r : Nat} : ZW zG (d + 1) 226 8 ls (.int w1 :: .int w0 :: .ref r :: st) z Q = (zcls z r = 13 ∧ zcs st = true ∧ ZC zG d 227 [.ref r, .int w0, .int w1] z (zk zG (d + 1) 226 (some 0) 11 ls st Q)) := zc_V2 rfl (Nat.le_of_ble_eq_true rfl)
theorem s226_11 {ls : List Value} {a : Int32} : ZW zG d 226 11 ls ([.int a]) z Q = Q (.inl (some (.int a))) z := zw_reti rfl
/-- X13_number_2 (II)I -/
theorem e227 {r0 : Nat} {v0 : Int32} {v1 : Int32} : ZC zG d 227 [.ref r0, .int v0, .int v1] z Q = ZW zG d 227 0 [.ref r0, .int v0, .int v1, zdum] [] z Q := rfl
theorem s227_0 {x0 x1 x2 x3 : Value} : ZW zG d 227 0 [x0, x1, x2, x3] st z Q = (zir x0 = true ∧ ZW zG d 227 1 [x0, x1, x2, x3] (x0 :: st) z Q) := zw_cond (f := z_aload 0 1) rfl rfl
theorem s227_1 {ls : List Value} {r : Nat} : ZW zG d 227 1 ls (.ref r :: st) z Q = ((zcls z r = 13) ∧ ZW zG d 227 4 ls (.int (zfi z r 9) :: st) (z) Q) := zw_getI rfl
theorem s227_4 {ls : List Value}  : ZW zG d 227 4 ls (st) z Q = ZW zG d 227 5 ls ((.int (nI 2)) :: st) z Q := zw_push rfl
theorem s227_5 {ls : List Value} {a b : Int32} : ZW zG d 227 5 ls (.int b :: .int a :: st) z Q = if a = b then ZW zG d 227 13 ls st z Q else ZW zG d 227 8 ls st z Q := zw_iceq rfl
theorem s227_8 {x0 x1 x2 x3 : Value} : ZW zG d 227 8 [x0, x1, x2, x3] st z Q = (zir x0 = true ∧ ZW zG d 227 9 [x0, x1, x2, x3] (x0 :: st) z Q) := zw_cond (f := z_aload 0 9) rfl rfl
theorem s227_9 {ls : List Value}  : ZW zG d 227 9 ls (st) z Q = ZW zG d 227 10 ls ((.int (nI 1)) :: st) z Q := zw_push rfl
theorem s227_10 {ls : List Value} {w0 : Int32} {r : Nat} : ZW zG (d + 1) 227 10 ls (.int w0 :: .ref r :: st) z Q = (zcls z r = 13 ∧ zcs st = true ∧ ZC zG d 221 [.ref r, .int w0] z (zk zG (d + 1) 227 (some 0) 13 ls st Q)) := zc_V1 rfl (Nat.le_of_ble_eq_true rfl)
theorem s227_13 {x0 x1 x2 x3 : Value} : ZW zG d 227 13 [x0, x1, x2, x3] st z Q = (zir x0 = true ∧ ZW zG d 227 14 [x0, x1, x2, x3] (x0 :: st) z Q) := zw_cond (f := z_aload 0 14) rfl rfl
theorem s227_14 {ls : List Value} {r : Nat} : ZW zG d 227 14 ls (.ref r :: st) z Q = ((zcls z r = 13) ∧ ZW zG d 227 17 ls (.int (zfi z r 11) :: st) (z) Q) := zw_getI rfl
theorem s227_17 {ls : List Value} {a : Int32} : ZW zG d 227 17 ls (.int a :: st) z Q = ZW zG d 227 18 ls (.long a.toInt64 :: st) z Q := zw_i2l rfl
theorem s227_18 {x0 x2 x3 : Value} {a : Int32} : ZW zG d 227 18 [x0, .int a, x2, x3] st z Q = ZW zG d 227 19 [x0, .int a, x2, x3] (.int a :: st) z Q := zw_next (f := z_iload 1 19) rfl rfl
theorem s227_19 {ls : List Value} {a : Int32} : ZW zG d 227 19 ls (.int a :: st) z Q = ZW zG d 227 20 ls (.long a.toInt64 :: st) z Q := zw_i2l rfl
theorem s227_20 {x0 x1 x3 : Value} {a : Int32} : ZW zG d 227 20 [x0, x1, .int a, x3] st z Q = ZW zG d 227 21 [x0, x1, .int a, x3] (.int a :: st) z Q := zw_next (f := z_iload 2 21) rfl rfl
theorem s227_21 {ls : List Value} {a : Int32} : ZW zG d 227 21 ls (.int a :: st) z Q = ZW zG d 227 22 ls (.long a.toInt64 :: st) z Q := zw_i2l rfl
theorem s227_22 {ls : List Value} {w0 : Int64} {w1 : Int64} {w2 : Int64} : ZW zG (d + 1) 227 22 ls (.long w2 :: .long w1 :: .long w0 :: st) z Q = (zcs st = true ∧ ZC zG d 2 [.long w0, .long w1, .long w2] z (zk zG (d + 1) 227 (none) 25 ls st Q)) := zc_S3 rfl (Nat.le_of_ble_eq_true rfl)
theorem s227_25 {ls : List Value} {a : Int32} : ZW zG d 227 25 ls (.int a :: st) z Q = if ¬ a = 0 then ZW zG d 227 33 ls st z Q else ZW zG d 227 28 ls st z Q := zw_ifne rfl
theorem s227_28 {x0 x1 x2 x3 : Value} : ZW zG d 227 28 [x0, x1, x2, x3] st z Q = (zir x0 = true ∧ ZW zG d 227 29 [x0, x1, x2, x3] (x0 :: st) z Q) := zw_cond (f := z_aload 0 29) rfl rfl
theorem s227_29 {ls : List Value}  : ZW zG d 227 29 ls (st) z Q = ZW zG d 227 30 ls ((.int (nI 2)) :: st) z Q := zw_push rfl
theorem s227_30 {ls : List Value} {w0 : Int32} {r : Nat} : ZW zG (d + 1) 227 30 ls (.int w0 :: .ref r :: st) z Q = (zcls z r = 13 ∧ zcs st = true ∧ ZC zG d 221 [.ref r, .int w0] z (zk zG (d + 1) 227 (some 0) 33 ls st Q)) := zc_V1 rfl (Nat.le_of_ble_eq_true rfl)
theorem s227_33 {x0 x1 x2 x3 : Value} : ZW zG d 227 33 [x0, x1, x2, x3] st z Q = (zir x0 = true ∧ ZW zG d 227 34 [x0, x1, x2, x3] (x0 :: st) z Q) := zw_cond (f := z_aload 0 34) rfl rfl
theorem s227_34 {ls : List Value} {r : Nat} : ZW zG d 227 34 ls (.ref r :: st) z Q = ((zcls z r = 13) ∧ ZW zG d 227 37 ls (.int (zfi z r 11) :: st) (z) Q) := zw_getI rfl
theorem s227_37 {x0 x1 x2 x3 : Value} {a : Int32} : ZW zG d 227 37 [x0, x1, x2, x3] (.int a :: st) z Q = ZW zG d 227 38 [x0, x1, zclr x2, .int a] st z Q := zw_next (f := z_istore 3 38) rfl rfl
theorem s227_38 {x0 x1 x2 x3 : Value} : ZW zG d 227 38 [x0, x1, x2, x3] st z Q = (zir x0 = true ∧ ZW zG d 227 39 [x0, x1, x2, x3] (x0 :: st) z Q) := zw_cond (f := z_aload 0 39) rfl rfl
theorem s227_39 {ls : List Value}  {r : Nat} : ZW zG (d + 1) 227 39 ls (.ref r :: st) z Q = (zcls z r = 13 ∧ zcs st = true ∧ ZC zG d 216 [.ref r] z (zk zG (d + 1) 227 (some 0) 42 ls st Q)) := zc_V0 rfl (Nat.le_of_ble_eq_true rfl)
theorem s227_42 {x0 x1 x2 : Value} {a : Int32} : ZW zG d 227 42 [x0, x1, x2, .int a] st z Q = ZW zG d 227 43 [x0, x1, x2, .int a] (.int a :: st) z Q := zw_next (f := z_iload 3 43) rfl rfl
theorem s227_43 {ls : List Value} {a : Int32} : ZW zG d 227 43 ls ([.int a]) z Q = Q (.inl (some (.int a))) z := zw_reti rfl
/-- X13_sum ()LCardBowl$Sum; -/
theorem e228 {r0 : Nat} : ZC zG d 228 [.ref r0] z Q = ZW zG d 228 0 [.ref r0, zdum, zdum] [] z Q := rfl
theorem s228_0 {x0 x1 x2 : Value} : ZW zG d 228 0 [x0, x1, x2] st z Q = (zir x0 = true ∧ ZW zG d 228 1 [x0, x1, x2] (x0 :: st) z Q) := zw_cond (f := z_aload 0 1) rfl rfl
theorem s228_1 {ls : List Value}  {r : Nat} : ZW zG (d + 1) 228 1 ls (.ref r :: st) z Q = (zcls z r = 13 ∧ zcs st = true ∧ ZC zG d 229 [.ref r] z (zk zG (d + 1) 228 (some 0) 4 ls st Q)) := zc_V0 rfl (Nat.le_of_ble_eq_true rfl)
theorem s228_4 {x0 x1 x2 : Value} {v : Value} : ZW zG d 228 4 [x0, x1, x2] (v :: st) z Q = (zir v = true ∧ ZW zG d 228 5 [zclr x0, v, x2] st z Q) := by rw [zw_cond (f := z_astore 1 5) (G := zG) rfl rfl]; exact propext ⟨fun h => ⟨h.1.1, h.2⟩, fun h => ⟨⟨h.1, Nat.le_of_ble_eq_true rfl⟩, h.2⟩⟩
theorem s228_5 {x0 x1 x2 : Value} : ZW zG d 228 5 [x0, x1, x2] st z Q = (zir x0 = true ∧ ZW zG d 228 6 [x0, x1, x2] (x0 :: st) z Q) := zw_cond (f := z_aload 0 6) rfl rfl
theorem s228_6 {ls : List Value}  : ZW zG d 228 6 ls (st) z Q = ZW zG d 228 8 ls ((.ref 23) :: st) z Q := zw_push rfl
theorem s228_8 {ls : List Value} {w0 : Nat} {r : Nat} : ZW zG (d + 1) 228 8 ls (.ref w0 :: .ref r :: st) z Q = (zcls z r = 13 ∧ zcs st = true ∧ ZC zG d 220 [.ref r, .ref w0] z (zk zG (d + 1) 228 (some 0) 11 ls st Q)) := zc_V1 rfl (Nat.le_of_ble_eq_true rfl)
theorem s228_11 {ls : List Value} {a : Int32} : ZW zG d 228 11 ls (.int a :: st) z Q = if ¬ a = 0 then ZW zG d 228 23 ls st z Q else ZW zG d 228 14 ls st z Q := zw_ifne rfl
theorem s228_14 {x0 x1 x2 : Value} : ZW zG d 228 14 [x0, x1, x2] st z Q = (zir x0 = true ∧ ZW zG d 228 15 [x0, x1, x2] (x0 :: st) z Q) := zw_cond (f := z_aload 0 15) rfl rfl
theorem s228_15 {ls : List Value}  : ZW zG d 228 15 ls (st) z Q = ZW zG d 228 17 ls ((.ref 18) :: st) z Q := zw_push rfl
theorem s228_17 {ls : List Value} {w0 : Nat} {r : Nat} : ZW zG (d + 1) 228 17 ls (.ref w0 :: .ref r :: st) z Q = (zcls z r = 13 ∧ zcs st = true ∧ ZC zG d 220 [.ref r, .ref w0] z (zk zG (d + 1) 228 (some 0) 20 ls st Q)) := zc_V1 rfl (Nat.le_of_ble_eq_true rfl)
theorem s228_20 {ls : List Value} {a : Int32} : ZW zG d 228 20 ls (.int a :: st) z Q = if a = 0 then ZW zG d 228 59 ls st z Q else ZW zG d 228 23 ls st z Q := zw_ifeq rfl
theorem s228_23 {x0 x1 x2 : Value} : ZW zG d 228 23 [x0, x1, x2] st z Q = (zir x0 = true ∧ ZW zG d 228 24 [x0, x1, x2] (x0 :: st) z Q) := zw_cond (f := z_aload 0 24) rfl rfl
theorem s228_24 {ls : List Value}  : ZW zG d 228 24 ls (st) z Q = ZW zG d 228 26 ls ((.ref 23) :: st) z Q := zw_push rfl
theorem s228_26 {ls : List Value} {w0 : Nat} {r : Nat} : ZW zG (d + 1) 228 26 ls (.ref w0 :: .ref r :: st) z Q = (zcls z r = 13 ∧ zcs st = true ∧ ZC zG d 220 [.ref r, .ref w0] z (zk zG (d + 1) 228 (some 0) 29 ls st Q)) := zc_V1 rfl (Nat.le_of_ble_eq_true rfl)
theorem s228_29 {ls : List Value} {a : Int32} : ZW zG d 228 29 ls (.int a :: st) z Q = if a = 0 then ZW zG d 228 36 ls st z Q else ZW zG d 228 32 ls st z Q := zw_ifeq rfl
theorem s228_32 {ls : List Value}  : ZW zG d 228 32 ls (st) z Q = ZW zG d 228 33 ls ((.int (nI 0)) :: st) z Q := zw_push rfl
theorem s228_33 {ls : List Value}  : ZW zG d 228 33 ls (st) z Q = ZW zG d 228 37 ls st z Q := zw_goto rfl
theorem s228_36 {ls : List Value}  : ZW zG d 228 36 ls (st) z Q = ZW zG d 228 37 ls ((.int (nI 1)) :: st) z Q := zw_push rfl
theorem s228_37 {x0 x1 x2 : Value} {a : Int32} : ZW zG d 228 37 [x0, x1, x2] (.int a :: st) z Q = ZW zG d 228 38 [x0, zclr x1, .int a] st z Q := zw_next (f := z_istore 2 38) rfl rfl
theorem s228_38 {x0 x1 x2 : Value} : ZW zG d 228 38 [x0, x1, x2] st z Q = (zir x0 = true ∧ ZW zG d 228 39 [x0, x1, x2] (x0 :: st) z Q) := zw_cond (f := z_aload 0 39) rfl rfl
theorem s228_39 {ls : List Value}  {r : Nat} : ZW zG (d + 1) 228 39 ls (.ref r :: st) z Q = (zcls z r = 13 ∧ zcs st = true ∧ ZC zG d 216 [.ref r] z (zk zG (d + 1) 228 (some 0) 42 ls st Q)) := zc_V0 rfl (Nat.le_of_ble_eq_true rfl)
theorem s228_42 {ls : List Value}  : ZW zG d 228 42 ls (st) z Q = ZW zG d 228 45 ls (.ref (zn z) :: st) (snew z 19 3) Q := zw_new rfl
theorem s228_45 {ls : List Value} {r : Nat} : ZW zG d 228 45 ls (.ref r :: st) z Q = ZW zG d 228 46 ls (.ref r :: .ref r :: st) z Q := zw_dupr rfl
theorem s228_46 {x0 x1 x2 : Value} : ZW zG d 228 46 [x0, x1, x2] st z Q = (zir x1 = true ∧ ZW zG d 228 47 [x0, x1, x2] (x1 :: st) z Q) := zw_cond (f := z_aload 1 47) rfl rfl
theorem s228_47 {x0 x1 : Value} {a : Int32} : ZW zG d 228 47 [x0, x1, .int a] st z Q = ZW zG d 228 48 [x0, x1, .int a] (.int a :: st) z Q := zw_next (f := z_iload 2 48) rfl rfl
theorem s228_48 {x0 x1 x2 : Value} : ZW zG d 228 48 [x0, x1, x2] st z Q = (zir x0 = true ∧ ZW zG d 228 49 [x0, x1, x2] (x0 :: st) z Q) := zw_cond (f := z_aload 0 49) rfl rfl
theorem s228_49 {ls : List Value}  {r : Nat} : ZW zG (d + 1) 228 49 ls (.ref r :: st) z Q = (zcls z r = 13 ∧ zcs st = true ∧ ZC zG d 229 [.ref r] z (zk zG (d + 1) 228 (some 0) 52 ls st Q)) := zc_V0 rfl (Nat.le_of_ble_eq_true rfl)
theorem s228_52 {ls : List Value} {w0 : Nat} {w1 : Int32} {w2 : Nat} {r : Nat} : ZW zG (d + 1) 228 52 ls (.ref w2 :: .int w1 :: .ref w0 :: .ref r :: st) z Q = (zcs st = true ∧ ZC zG d 241 [.ref r, .ref w0, .int w1, .ref w2] z (zk zG (d + 1) 228 (none) 55 ls st Q)) := zc_I3 rfl (Nat.le_of_ble_eq_true rfl)
theorem s228_55 {x0 x1 x2 : Value} {v : Value} : ZW zG d 228 55 [x0, x1, x2] (v :: st) z Q = (zir v = true ∧ ZW zG d 228 56 [zclr x0, v, x2] st z Q) := by rw [zw_cond (f := z_astore 1 56) (G := zG) rfl rfl]; exact propext ⟨fun h => ⟨h.1.1, h.2⟩, fun h => ⟨⟨h.1, Nat.le_of_ble_eq_true rfl⟩, h.2⟩⟩
theorem s228_56 {ls : List Value}  : ZW zG d 228 56 ls (st) z Q = ZW zG d 228 5 ls st z Q := zw_goto rfl
theorem s228_59 {x0 x1 x2 : Value} : ZW zG d 228 59 [x0, x1, x2] st z Q = (zir x1 = true ∧ ZW zG d 228 60 [x0, x1, x2] (x1 :: st) z Q) := zw_cond (f := z_aload 1 60) rfl rfl
theorem s228_60 {ls : List Value} {q : Nat} : ZW zG d 228 60 ls ([.ref q]) z Q = Q (.inl (some (.ref q))) z := zw_reta rfl
theorem s228_60r {ls : List Value}  : ZW zG d 228 60 ls ([.null]) z Q = Q (.inl (some .null)) z := zw_retn rfl
/-- X13_term ()LCardBowl$Sum; -/
theorem e229 {r0 : Nat} : ZC zG d 229 [.ref r0] z Q = ZW zG d 229 0 [.ref r0, zdum] [] z Q := rfl
theorem s229_0 {x0 x1 : Value} : ZW zG d 229 0 [x0, x1] st z Q = (zir x0 = true ∧ ZW zG d 229 1 [x0, x1] (x0 :: st) z Q) := zw_cond (f := z_aload 0 1) rfl rfl
theorem s229_1 {ls : List Value}  {r : Nat} : ZW zG (d + 1) 229 1 ls (.ref r :: st) z Q = (zcls z r = 13 ∧ zcs st = true ∧ ZC zG d 230 [.ref r] z (zk zG (d + 1) 229 (some 0) 4 ls st Q)) := zc_V0 rfl (Nat.le_of_ble_eq_true rfl)
theorem s229_4 {x0 x1 : Value} {v : Value} : ZW zG d 229 4 [x0, x1] (v :: st) z Q = (zir v = true ∧ ZW zG d 229 5 [zclr x0, v] st z Q) := by rw [zw_cond (f := z_astore 1 5) (G := zG) rfl rfl]; exact propext ⟨fun h => ⟨h.1.1, h.2⟩, fun h => ⟨⟨h.1, Nat.le_of_ble_eq_true rfl⟩, h.2⟩⟩
theorem s229_5 {x0 x1 : Value} : ZW zG d 229 5 [x0, x1] st z Q = (zir x0 = true ∧ ZW zG d 229 6 [x0, x1] (x0 :: st) z Q) := zw_cond (f := z_aload 0 6) rfl rfl
theorem s229_6 {ls : List Value}  : ZW zG d 229 6 ls (st) z Q = ZW zG d 229 8 ls ((.ref 31) :: st) z Q := zw_push rfl
theorem s229_8 {ls : List Value} {w0 : Nat} {r : Nat} : ZW zG (d + 1) 229 8 ls (.ref w0 :: .ref r :: st) z Q = (zcls z r = 13 ∧ zcs st = true ∧ ZC zG d 224 [.ref r, .ref w0] z (zk zG (d + 1) 229 (some 0) 11 ls st Q)) := zc_V1 rfl (Nat.le_of_ble_eq_true rfl)
theorem s229_11 {ls : List Value} {a : Int32} : ZW zG d 229 11 ls (.int a :: st) z Q = if a = 0 then ZW zG d 229 31 ls st z Q else ZW zG d 229 14 ls st z Q := zw_ifeq rfl
theorem s229_14 {ls : List Value}  : ZW zG d 229 14 ls (st) z Q = ZW zG d 229 17 ls (.ref (zn z) :: st) (snew z 19 3) Q := zw_new rfl
theorem s229_17 {ls : List Value} {r : Nat} : ZW zG d 229 17 ls (.ref r :: st) z Q = ZW zG d 229 18 ls (.ref r :: .ref r :: st) z Q := zw_dupr rfl
theorem s229_18 {x0 x1 : Value} : ZW zG d 229 18 [x0, x1] st z Q = (zir x1 = true ∧ ZW zG d 229 19 [x0, x1] (x1 :: st) z Q) := zw_cond (f := z_aload 1 19) rfl rfl
theorem s229_19 {ls : List Value}  : ZW zG d 229 19 ls (st) z Q = ZW zG d 229 20 ls ((.int (nI 2)) :: st) z Q := zw_push rfl
theorem s229_20 {x0 x1 : Value} : ZW zG d 229 20 [x0, x1] st z Q = (zir x0 = true ∧ ZW zG d 229 21 [x0, x1] (x0 :: st) z Q) := zw_cond (f := z_aload 0 21) rfl rfl
theorem s229_21 {ls : List Value}  {r : Nat} : ZW zG (d + 1) 229 21 ls (.ref r :: st) z Q = (zcls z r = 13 ∧ zcs st = true ∧ ZC zG d 230 [.ref r] z (zk zG (d + 1) 229 (some 0) 24 ls st Q)) := zc_V0 rfl (Nat.le_of_ble_eq_true rfl)
theorem s229_24 {ls : List Value} {w0 : Nat} {w1 : Int32} {w2 : Nat} {r : Nat} : ZW zG (d + 1) 229 24 ls (.ref w2 :: .int w1 :: .ref w0 :: .ref r :: st) z Q = (zcs st = true ∧ ZC zG d 241 [.ref r, .ref w0, .int w1, .ref w2] z (zk zG (d + 1) 229 (none) 27 ls st Q)) := zc_I3 rfl (Nat.le_of_ble_eq_true rfl)
theorem s229_27 {x0 x1 : Value} {v : Value} : ZW zG d 229 27 [x0, x1] (v :: st) z Q = (zir v = true ∧ ZW zG d 229 28 [zclr x0, v] st z Q) := by rw [zw_cond (f := z_astore 1 28) (G := zG) rfl rfl]; exact propext ⟨fun h => ⟨h.1.1, h.2⟩, fun h => ⟨⟨h.1, Nat.le_of_ble_eq_true rfl⟩, h.2⟩⟩
theorem s229_28 {ls : List Value}  : ZW zG d 229 28 ls (st) z Q = ZW zG d 229 5 ls st z Q := zw_goto rfl
theorem s229_31 {x0 x1 : Value} : ZW zG d 229 31 [x0, x1] st z Q = (zir x1 = true ∧ ZW zG d 229 32 [x0, x1] (x1 :: st) z Q) := zw_cond (f := z_aload 1 32) rfl rfl
theorem s229_32 {ls : List Value} {q : Nat} : ZW zG d 229 32 ls ([.ref q]) z Q = Q (.inl (some (.ref q))) z := zw_reta rfl
theorem s229_32r {ls : List Value}  : ZW zG d 229 32 ls ([.null]) z Q = Q (.inl (some .null)) z := zw_retn rfl
/-- X13_part ()LCardBowl$Sum; -/
theorem e230 {r0 : Nat} : ZC zG d 230 [.ref r0] z Q = ZW zG d 230 0 [.ref r0] [] z Q := rfl
theorem s230_0 {x0 : Value} : ZW zG d 230 0 [x0] st z Q = (zir x0 = true ∧ ZW zG d 230 1 [x0] (x0 :: st) z Q) := zw_cond (f := z_aload 0 1) rfl rfl
theorem s230_1 {ls : List Value} {r : Nat} : ZW zG d 230 1 ls (.ref r :: st) z Q = ((zcls z r = 13) ∧ ZW zG d 230 4 ls (.int (zfi z r 9) :: st) (z) Q) := zw_getI rfl
theorem s230_4 {ls : List Value}  : ZW zG d 230 4 ls (st) z Q = ZW zG d 230 5 ls ((.int (nI 2)) :: st) z Q := zw_push rfl
theorem s230_5 {ls : List Value} {a b : Int32} : ZW zG d 230 5 ls (.int b :: .int a :: st) z Q = if ¬ a = b then ZW zG d 230 26 ls st z Q else ZW zG d 230 8 ls st z Q := zw_icne rfl
theorem s230_8 {ls : List Value}  : ZW zG d 230 8 ls (st) z Q = ZW zG d 230 11 ls (.ref (zn z) :: st) (snew z 17 1) Q := zw_new rfl
theorem s230_11 {ls : List Value} {r : Nat} : ZW zG d 230 11 ls (.ref r :: st) z Q = ZW zG d 230 12 ls (.ref r :: .ref r :: st) z Q := zw_dupr rfl
theorem s230_12 {x0 : Value} : ZW zG d 230 12 [x0] st z Q = (zir x0 = true ∧ ZW zG d 230 13 [x0] (x0 :: st) z Q) := zw_cond (f := z_aload 0 13) rfl rfl
theorem s230_13 {ls : List Value}  : ZW zG d 230 13 ls (st) z Q = ZW zG d 230 14 ls ((.int (nI 0)) :: st) z Q := zw_push rfl
theorem s230_14 {ls : List Value}  : ZW zG d 230 14 ls (st) z Q = ZW zG d 230 17 ls ((.int (nI 999)) :: st) z Q := zw_push rfl
theorem s230_17 {ls : List Value} {w0 : Int32} {w1 : Int32} {r : Nat} : ZW zG (d + 1) 230 17 ls (.int w1 :: .int w0 :: .ref r :: st) z Q = (zcls z r = 13 ∧ zcs st = true ∧ ZC zG d 227 [.ref r, .int w0, .int w1] z (zk zG (d + 1) 230 (some 0) 20 ls st Q)) := zc_V2 rfl (Nat.le_of_ble_eq_true rfl)
theorem s230_20 {ls : List Value} {w0 : Int32} {r : Nat} : ZW zG (d + 1) 230 20 ls (.int w0 :: .ref r :: st) z Q = (zcs st = true ∧ ZC zG d 237 [.ref r, .int w0] z (zk zG (d + 1) 230 (none) 23 ls st Q)) := zc_I1 rfl (Nat.le_of_ble_eq_true rfl)
theorem s230_23 {ls : List Value}  : ZW zG d 230 23 ls (st) z Q = ZW zG d 230 41 ls st z Q := zw_goto rfl
theorem s230_26 {ls : List Value}  : ZW zG d 230 26 ls (st) z Q = ZW zG d 230 29 ls (.ref (zn z) :: st) (snew z 18 1) Q := zw_new rfl
theorem s230_29 {ls : List Value} {r : Nat} : ZW zG d 230 29 ls (.ref r :: st) z Q = ZW zG d 230 30 ls (.ref r :: .ref r :: st) z Q := zw_dupr rfl
theorem s230_30 {x0 : Value} : ZW zG d 230 30 [x0] st z Q = (zir x0 = true ∧ ZW zG d 230 31 [x0] (x0 :: st) z Q) := zw_cond (f := z_aload 0 31) rfl rfl
theorem s230_31 {x0 : Value} : ZW zG d 230 31 [x0] st z Q = (zir x0 = true ∧ ZW zG d 230 32 [x0] (x0 :: st) z Q) := zw_cond (f := z_aload 0 32) rfl rfl
theorem s230_32 {ls : List Value} {r : Nat} : ZW zG d 230 32 ls (.ref r :: st) z Q = ((zcls z r = 13 ∧ zir (zfr z r 3) = true) ∧ ZW zG d 230 35 ls (zfr z r 3 :: st) (z) Q) := zw_getR rfl
theorem s230_35 {ls : List Value} {w0 : Nat} {r : Nat} : ZW zG (d + 1) 230 35 ls (.ref w0 :: .ref r :: st) z Q = (zcls z r = 13 ∧ zcs st = true ∧ ZC zG d 225 [.ref r, .ref w0] z (zk zG (d + 1) 230 (some 0) 38 ls st Q)) := zc_V1 rfl (Nat.le_of_ble_eq_true rfl)
theorem s230_38 {ls : List Value} {w0 : Int32} {r : Nat} : ZW zG (d + 1) 230 38 ls (.int w0 :: .ref r :: st) z Q = (zcs st = true ∧ ZC zG d 239 [.ref r, .int w0] z (zk zG (d + 1) 230 (none) 41 ls st Q)) := zc_I1 rfl (Nat.le_of_ble_eq_true rfl)
theorem s230_41 {ls : List Value} {q : Nat} : ZW zG d 230 41 ls ([.ref q]) z Q = Q (.inl (some (.ref q))) z := zw_reta rfl
theorem s230_41r {ls : List Value}  : ZW zG d 230 41 ls ([.null]) z Q = Q (.inl (some .null)) z := zw_retn rfl
/-- X13_house ()V -/
theorem e231 {r0 : Nat} : ZC zG d 231 [.ref r0] z Q = ZW zG d 231 0 [.ref r0, zdum] [] z Q := rfl
theorem s231_0 {ls : List Value}  : ZW zG d 231 0 ls (st) z Q = ZW zG d 231 3 ls (.ref (zn z) :: st) (snew z 21 8) Q := zw_new rfl
theorem s231_3 {ls : List Value} {r : Nat} : ZW zG d 231 3 ls (.ref r :: st) z Q = ZW zG d 231 4 ls (.ref r :: .ref r :: st) z Q := zw_dupr rfl
theorem s231_4 {ls : List Value}  {r : Nat} : ZW zG (d + 1) 231 4 ls (.ref r :: st) z Q = (zcs st = true ∧ ZC zG d 245 [.ref r] z (zk zG (d + 1) 231 (none) 7 ls st Q)) := zc_I0 rfl (Nat.le_of_ble_eq_true rfl)
theorem s231_7 {x0 x1 : Value} {v : Value} : ZW zG d 231 7 [x0, x1] (v :: st) z Q = (zir v = true ∧ ZW zG d 231 8 [zclr x0, v] st z Q) := by rw [zw_cond (f := z_astore 1 8) (G := zG) rfl rfl]; exact propext ⟨fun h => ⟨h.1.1, h.2⟩, fun h => ⟨⟨h.1, Nat.le_of_ble_eq_true rfl⟩, h.2⟩⟩
theorem s231_8 {x0 x1 : Value} : ZW zG d 231 8 [x0, x1] st z Q = (zir x1 = true ∧ ZW zG d 231 9 [x0, x1] (x1 :: st) z Q) := zw_cond (f := z_aload 1 9) rfl rfl
theorem s231_9 {x0 x1 : Value} : ZW zG d 231 9 [x0, x1] st z Q = (zir x0 = true ∧ ZW zG d 231 10 [x0, x1] (x0 :: st) z Q) := zw_cond (f := z_aload 0 10) rfl rfl
theorem s231_10 {ls : List Value}  : ZW zG d 231 10 ls (st) z Q = ZW zG d 231 12 ls ((.ref 1) :: st) z Q := zw_push rfl
theorem s231_12 {ls : List Value}  : ZW zG d 231 12 ls (st) z Q = ZW zG d 231 13 ls ((.int (nI 0)) :: st) z Q := zw_push rfl
theorem s231_13 {ls : List Value}  : ZW zG d 231 13 ls (st) z Q = ZW zG d 231 15 ls ((.int (nI 99)) :: st) z Q := zw_push rfl
theorem s231_15 {ls : List Value} {w0 : Nat} {w1 : Int32} {w2 : Int32} {r : Nat} : ZW zG (d + 1) 231 15 ls (.int w2 :: .int w1 :: .ref w0 :: .ref r :: st) z Q = (zcls z r = 13 ∧ zcs st = true ∧ ZC zG d 226 [.ref r, .ref w0, .int w1, .int w2] z (zk zG (d + 1) 231 (some 0) 18 ls st Q)) := zc_V3 rfl (Nat.le_of_ble_eq_true rfl)
theorem s231_18 {ls : List Value} {a : Int32} {r : Nat} : ZW zG d 231 18 ls (.int a :: .ref r :: st) z Q = ((zcls z r = 21) ∧ ZW zG d 231 21 ls (st) (sfi z r 0 a) Q) := zw_putI rfl
theorem s231_21 {x0 x1 : Value} : ZW zG d 231 21 [x0, x1] st z Q = (zir x1 = true ∧ ZW zG d 231 22 [x0, x1] (x1 :: st) z Q) := zw_cond (f := z_aload 1 22) rfl rfl
theorem s231_22 {x0 x1 : Value} : ZW zG d 231 22 [x0, x1] st z Q = (zir x0 = true ∧ ZW zG d 231 23 [x0, x1] (x0 :: st) z Q) := zw_cond (f := z_aload 0 23) rfl rfl
theorem s231_23 {ls : List Value}  : ZW zG d 231 23 ls (st) z Q = ZW zG d 231 24 ls ((.int (nI 0)) :: st) z Q := zw_push rfl
theorem s231_24 {ls : List Value}  : ZW zG d 231 24 ls (st) z Q = ZW zG d 231 26 ls ((.int (nI 99)) :: st) z Q := zw_push rfl
theorem s231_26 {ls : List Value} {w0 : Int32} {w1 : Int32} {r : Nat} : ZW zG (d + 1) 231 26 ls (.int w1 :: .int w0 :: .ref r :: st) z Q = (zcls z r = 13 ∧ zcs st = true ∧ ZC zG d 227 [.ref r, .int w0, .int w1] z (zk zG (d + 1) 231 (some 0) 29 ls st Q)) := zc_V2 rfl (Nat.le_of_ble_eq_true rfl)
theorem s231_29 {ls : List Value} {a : Int32} {r : Nat} : ZW zG d 231 29 ls (.int a :: .ref r :: st) z Q = ((zcls z r = 21) ∧ ZW zG d 231 32 ls (st) (sfi z r 1 a) Q) := zw_putI rfl
theorem s231_32 {x0 x1 : Value} : ZW zG d 231 32 [x0, x1] st z Q = (zir x1 = true ∧ ZW zG d 231 33 [x0, x1] (x1 :: st) z Q) := zw_cond (f := z_aload 1 33) rfl rfl
theorem s231_33 {x0 x1 : Value} : ZW zG d 231 33 [x0, x1] st z Q = (zir x0 = true ∧ ZW zG d 231 34 [x0, x1] (x0 :: st) z Q) := zw_cond (f := z_aload 0 34) rfl rfl
theorem s231_34 {ls : List Value}  : ZW zG d 231 34 ls (st) z Q = ZW zG d 231 36 ls ((.ref 24) :: st) z Q := zw_push rfl
theorem s231_36 {ls : List Value}  : ZW zG d 231 36 ls (st) z Q = ZW zG d 231 37 ls ((.int (nI 0)) :: st) z Q := zw_push rfl
theorem s231_37 {ls : List Value}  : ZW zG d 231 37 ls (st) z Q = ZW zG d 231 39 ls ((.int (nI 9)) :: st) z Q := zw_push rfl
theorem s231_39 {ls : List Value} {w0 : Nat} {w1 : Int32} {w2 : Int32} {r : Nat} : ZW zG (d + 1) 231 39 ls (.int w2 :: .int w1 :: .ref w0 :: .ref r :: st) z Q = (zcls z r = 13 ∧ zcs st = true ∧ ZC zG d 226 [.ref r, .ref w0, .int w1, .int w2] z (zk zG (d + 1) 231 (some 0) 42 ls st Q)) := zc_V3 rfl (Nat.le_of_ble_eq_true rfl)
theorem s231_42 {ls : List Value} {a : Int32} {r : Nat} : ZW zG d 231 42 ls (.int a :: .ref r :: st) z Q = ((zcls z r = 21) ∧ ZW zG d 231 45 ls (st) (sfi z r 2 a) Q) := zw_putI rfl
theorem s231_45 {x0 x1 : Value} : ZW zG d 231 45 [x0, x1] st z Q = (zir x0 = true ∧ ZW zG d 231 46 [x0, x1] (x0 :: st) z Q) := zw_cond (f := z_aload 0 46) rfl rfl
theorem s231_46 {ls : List Value}  : ZW zG d 231 46 ls (st) z Q = ZW zG d 231 48 ls ((.ref 10) :: st) z Q := zw_push rfl
theorem s231_48 {ls : List Value} {w0 : Nat} {r : Nat} : ZW zG (d + 1) 231 48 ls (.ref w0 :: .ref r :: st) z Q = (zcls z r = 13 ∧ zcs st = true ∧ ZC zG d 223 [.ref r, .ref w0] z (zk zG (d + 1) 231 (some 0) 51 ls st Q)) := zc_V1 rfl (Nat.le_of_ble_eq_true rfl)
theorem s231_51 {x0 x1 : Value} : ZW zG d 231 51 [x0, x1] st z Q = (zir x1 = true ∧ ZW zG d 231 52 [x0, x1] (x1 :: st) z Q) := zw_cond (f := z_aload 1 52) rfl rfl
theorem s231_52 {x0 x1 : Value} : ZW zG d 231 52 [x0, x1] st z Q = (zir x0 = true ∧ ZW zG d 231 53 [x0, x1] (x0 :: st) z Q) := zw_cond (f := z_aload 0 53) rfl rfl
theorem s231_53 {x0 x1 : Value} : ZW zG d 231 53 [x0, x1] st z Q = (zir x0 = true ∧ ZW zG d 231 54 [x0, x1] (x0 :: st) z Q) := zw_cond (f := z_aload 0 54) rfl rfl
theorem s231_54 {ls : List Value} {r : Nat} : ZW zG d 231 54 ls (.ref r :: st) z Q = ((zcls z r = 13 ∧ zir (zfr z r 0) = true) ∧ ZW zG d 231 57 ls (zfr z r 0 :: st) (z) Q) := zw_getR rfl
theorem s231_57 {ls : List Value} {w0 : Nat} {r : Nat} : ZW zG (d + 1) 231 57 ls (.ref w0 :: .ref r :: st) z Q = (zcls z r = 13 ∧ zcs st = true ∧ ZC zG d 225 [.ref r, .ref w0] z (zk zG (d + 1) 231 (some 0) 60 ls st Q)) := zc_V1 rfl (Nat.le_of_ble_eq_true rfl)
theorem s231_60 {ls : List Value} {a : Int32} {r : Nat} : ZW zG d 231 60 ls (.int a :: .ref r :: st) z Q = ((zcls z r = 21) ∧ ZW zG d 231 63 ls (st) (sfi z r 3 a) Q) := zw_putI rfl
theorem s231_63 {x0 x1 : Value} : ZW zG d 231 63 [x0, x1] st z Q = (zir x1 = true ∧ ZW zG d 231 64 [x0, x1] (x1 :: st) z Q) := zw_cond (f := z_aload 1 64) rfl rfl
theorem s231_64 {x0 x1 : Value} : ZW zG d 231 64 [x0, x1] st z Q = (zir x0 = true ∧ ZW zG d 231 65 [x0, x1] (x0 :: st) z Q) := zw_cond (f := z_aload 0 65) rfl rfl
theorem s231_65 {ls : List Value}  : ZW zG d 231 65 ls (st) z Q = ZW zG d 231 66 ls ((.int (nI 0)) :: st) z Q := zw_push rfl
theorem s231_66 {ls : List Value}  : ZW zG d 231 66 ls (st) z Q = ZW zG d 231 69 ls ((.int (nI 180)) :: st) z Q := zw_push rfl
theorem s231_69 {ls : List Value} {w0 : Int32} {w1 : Int32} {r : Nat} : ZW zG (d + 1) 231 69 ls (.int w1 :: .int w0 :: .ref r :: st) z Q = (zcls z r = 13 ∧ zcs st = true ∧ ZC zG d 227 [.ref r, .int w0, .int w1] z (zk zG (d + 1) 231 (some 0) 72 ls st Q)) := zc_V2 rfl (Nat.le_of_ble_eq_true rfl)
theorem s231_72 {ls : List Value} {a : Int32} {r : Nat} : ZW zG d 231 72 ls (.int a :: .ref r :: st) z Q = ((zcls z r = 21) ∧ ZW zG d 231 75 ls (st) (sfi z r 4 a) Q) := zw_putI rfl
theorem s231_75 {x0 x1 : Value} : ZW zG d 231 75 [x0, x1] st z Q = (zir x1 = true ∧ ZW zG d 231 76 [x0, x1] (x1 :: st) z Q) := zw_cond (f := z_aload 1 76) rfl rfl
theorem s231_76 {x0 x1 : Value} : ZW zG d 231 76 [x0, x1] st z Q = (zir x0 = true ∧ ZW zG d 231 77 [x0, x1] (x0 :: st) z Q) := zw_cond (f := z_aload 0 77) rfl rfl
theorem s231_77 {x0 x1 : Value} : ZW zG d 231 77 [x0, x1] st z Q = (zir x1 = true ∧ ZW zG d 231 78 [x0, x1] (x1 :: st) z Q) := zw_cond (f := z_aload 1 78) rfl rfl
theorem s231_78 {ls : List Value} {r : Nat} : ZW zG d 231 78 ls (.ref r :: st) z Q = ((zcls z r = 21) ∧ ZW zG d 231 81 ls (.int (zfi z r 4) :: st) (z) Q) := zw_getI rfl
theorem s231_81 {ls : List Value}  : ZW zG d 231 81 ls (st) z Q = ZW zG d 231 84 ls ((.int (nI 180)) :: st) z Q := zw_push rfl
theorem s231_84 {ls : List Value} {w0 : Int32} {w1 : Int32} {r : Nat} : ZW zG (d + 1) 231 84 ls (.int w1 :: .int w0 :: .ref r :: st) z Q = (zcls z r = 13 ∧ zcs st = true ∧ ZC zG d 227 [.ref r, .int w0, .int w1] z (zk zG (d + 1) 231 (some 0) 87 ls st Q)) := zc_V2 rfl (Nat.le_of_ble_eq_true rfl)
theorem s231_87 {ls : List Value} {a : Int32} {r : Nat} : ZW zG d 231 87 ls (.int a :: .ref r :: st) z Q = ((zcls z r = 21) ∧ ZW zG d 231 90 ls (st) (sfi z r 5 a) Q) := zw_putI rfl
theorem s231_90 {x0 x1 : Value} : ZW zG d 231 90 [x0, x1] st z Q = (zir x0 = true ∧ ZW zG d 231 91 [x0, x1] (x0 :: st) z Q) := zw_cond (f := z_aload 0 91) rfl rfl
theorem s231_91 {ls : List Value}  : ZW zG d 231 91 ls (st) z Q = ZW zG d 231 93 ls ((.ref 4) :: st) z Q := zw_push rfl
theorem s231_93 {ls : List Value} {w0 : Nat} {r : Nat} : ZW zG (d + 1) 231 93 ls (.ref w0 :: .ref r :: st) z Q = (zcls z r = 13 ∧ zcs st = true ∧ ZC zG d 220 [.ref r, .ref w0] z (zk zG (d + 1) 231 (some 0) 96 ls st Q)) := zc_V1 rfl (Nat.le_of_ble_eq_true rfl)
theorem s231_96 {ls : List Value} {a : Int32} : ZW zG d 231 96 ls (.int a :: st) z Q = if a = 0 then ZW zG d 231 113 ls st z Q else ZW zG d 231 99 ls st z Q := zw_ifeq rfl
theorem s231_99 {x0 x1 : Value} : ZW zG d 231 99 [x0, x1] st z Q = (zir x1 = true ∧ ZW zG d 231 100 [x0, x1] (x1 :: st) z Q) := zw_cond (f := z_aload 1 100) rfl rfl
theorem s231_100 {x0 x1 : Value} : ZW zG d 231 100 [x0, x1] st z Q = (zir x0 = true ∧ ZW zG d 231 101 [x0, x1] (x0 :: st) z Q) := zw_cond (f := z_aload 0 101) rfl rfl
theorem s231_101 {ls : List Value}  : ZW zG d 231 101 ls (st) z Q = ZW zG d 231 103 ls ((.ref 4) :: st) z Q := zw_push rfl
theorem s231_103 {ls : List Value}  : ZW zG d 231 103 ls (st) z Q = ZW zG d 231 104 ls ((.int (nI 0)) :: st) z Q := zw_push rfl
theorem s231_104 {ls : List Value}  : ZW zG d 231 104 ls (st) z Q = ZW zG d 231 107 ls ((.int (nI 399)) :: st) z Q := zw_push rfl
theorem s231_107 {ls : List Value} {w0 : Nat} {w1 : Int32} {w2 : Int32} {r : Nat} : ZW zG (d + 1) 231 107 ls (.int w2 :: .int w1 :: .ref w0 :: .ref r :: st) z Q = (zcls z r = 13 ∧ zcs st = true ∧ ZC zG d 226 [.ref r, .ref w0, .int w1, .int w2] z (zk zG (d + 1) 231 (some 0) 110 ls st Q)) := zc_V3 rfl (Nat.le_of_ble_eq_true rfl)
theorem s231_110 {ls : List Value} {a : Int32} {r : Nat} : ZW zG d 231 110 ls (.int a :: .ref r :: st) z Q = ((zcls z r = 21) ∧ ZW zG d 231 113 ls (st) (sfi z r 6 a) Q) := zw_putI rfl
theorem s231_113 {x0 x1 : Value} : ZW zG d 231 113 [x0, x1] st z Q = (zir x0 = true ∧ ZW zG d 231 114 [x0, x1] (x0 :: st) z Q) := zw_cond (f := z_aload 0 114) rfl rfl
theorem s231_114 {ls : List Value}  : ZW zG d 231 114 ls (st) z Q = ZW zG d 231 116 ls ((.ref 2) :: st) z Q := zw_push rfl
theorem s231_116 {ls : List Value} {w0 : Nat} {r : Nat} : ZW zG (d + 1) 231 116 ls (.ref w0 :: .ref r :: st) z Q = (zcls z r = 13 ∧ zcs st = true ∧ ZC zG d 220 [.ref r, .ref w0] z (zk zG (d + 1) 231 (some 0) 119 ls st Q)) := zc_V1 rfl (Nat.le_of_ble_eq_true rfl)
theorem s231_119 {ls : List Value} {a : Int32} : ZW zG d 231 119 ls (.int a :: st) z Q = if a = 0 then ZW zG d 231 135 ls st z Q else ZW zG d 231 122 ls st z Q := zw_ifeq rfl
theorem s231_122 {x0 x1 : Value} : ZW zG d 231 122 [x0, x1] st z Q = (zir x1 = true ∧ ZW zG d 231 123 [x0, x1] (x1 :: st) z Q) := zw_cond (f := z_aload 1 123) rfl rfl
theorem s231_123 {x0 x1 : Value} : ZW zG d 231 123 [x0, x1] st z Q = (zir x0 = true ∧ ZW zG d 231 124 [x0, x1] (x0 :: st) z Q) := zw_cond (f := z_aload 0 124) rfl rfl
theorem s231_124 {ls : List Value}  : ZW zG d 231 124 ls (st) z Q = ZW zG d 231 126 ls ((.ref 2) :: st) z Q := zw_push rfl
theorem s231_126 {ls : List Value}  : ZW zG d 231 126 ls (st) z Q = ZW zG d 231 127 ls ((.int (nI 0)) :: st) z Q := zw_push rfl
theorem s231_127 {ls : List Value}  : ZW zG d 231 127 ls (st) z Q = ZW zG d 231 129 ls ((.int (nI 99)) :: st) z Q := zw_push rfl
theorem s231_129 {ls : List Value} {w0 : Nat} {w1 : Int32} {w2 : Int32} {r : Nat} : ZW zG (d + 1) 231 129 ls (.int w2 :: .int w1 :: .ref w0 :: .ref r :: st) z Q = (zcls z r = 13 ∧ zcs st = true ∧ ZC zG d 226 [.ref r, .ref w0, .int w1, .int w2] z (zk zG (d + 1) 231 (some 0) 132 ls st Q)) := zc_V3 rfl (Nat.le_of_ble_eq_true rfl)
theorem s231_132 {ls : List Value} {a : Int32} {r : Nat} : ZW zG d 231 132 ls (.int a :: .ref r :: st) z Q = ((zcls z r = 21) ∧ ZW zG d 231 135 ls (st) (sfi z r 7 a) Q) := zw_putI rfl
theorem s231_135 {x0 x1 : Value} : ZW zG d 231 135 [x0, x1] st z Q = (zir x0 = true ∧ ZW zG d 231 136 [x0, x1] (x0 :: st) z Q) := zw_cond (f := z_aload 0 136) rfl rfl
theorem s231_136 {ls : List Value} {r : Nat} : ZW zG d 231 136 ls (.ref r :: st) z Q = ((zcls z r = 13 ∧ zir (zfr z r 6) = true) ∧ ZW zG d 231 139 ls (zfr z r 6 :: st) (z) Q) := zw_getR rfl
theorem s231_139 {ls : List Value} {r : Nat} : ZW zG d 231 139 ls (.ref r :: st) z Q = ((zcls z r = 2 ∧ zir (zfr z r 0) = true) ∧ ZW zG d 231 142 ls (zfr z r 0 :: st) (z) Q) := zw_getR rfl
theorem s231_142 {x0 x1 : Value} : ZW zG d 231 142 [x0, x1] st z Q = (zir x1 = true ∧ ZW zG d 231 143 [x0, x1] (x1 :: st) z Q) := zw_cond (f := z_aload 1 143) rfl rfl
theorem s231_143 {ls : List Value} {v : Value} {r : Nat} : ZW zG d 231 143 ls (v :: .ref r :: st) z Q = ((zcs st = true ∧ zcls z r = 90 ∧ (zlel z v = true ∧ (zls z r).all (zlel z) = true ∧ (zls z r).length < 100000)) ∧ ZW zG d 231 148 ls (.int 1 :: st) (sladd z r v) Q) := zw_ladd1 rfl
theorem s231_148 {ls : List Value} {a : Int32} : ZW zG d 231 148 ls (.int a :: st) z Q = ZW zG d 231 149 ls (st) z Q := zw_popi rfl
theorem s231_149 {ls : List Value}  : ZW zG d 231 149 ls ([]) z Q = Q (.inl none) z := zw_ret rfl
/-- X13_know ()V -/
theorem e232 {r0 : Nat} : ZC zG d 232 [.ref r0] z Q = ZW zG d 232 0 [.ref r0, zdum, zdum] [] z Q := rfl
theorem s232_0 {x0 x1 x2 : Value} : ZW zG d 232 0 [x0, x1, x2] st z Q = (zir x0 = true ∧ ZW zG d 232 1 [x0, x1, x2] (x0 :: st) z Q) := zw_cond (f := z_aload 0 1) rfl rfl
theorem s232_1 {ls : List Value}  : ZW zG d 232 1 ls (st) z Q = ZW zG d 232 2 ls ((.int (nI 0)) :: st) z Q := zw_push rfl
theorem s232_2 {x0 x1 x2 : Value} : ZW zG d 232 2 [x0, x1, x2] st z Q = (zir x0 = true ∧ ZW zG d 232 3 [x0, x1, x2] (x0 :: st) z Q) := zw_cond (f := z_aload 0 3) rfl rfl
theorem s232_3 {ls : List Value} {r : Nat} : ZW zG d 232 3 ls (.ref r :: st) z Q = ((zcls z r = 13 ∧ zir (zfr z r 6) = true) ∧ ZW zG d 232 6 ls (zfr z r 6 :: st) (z) Q) := zw_getR rfl
theorem s232_6 {ls : List Value}  {r : Nat} : ZW zG (d + 1) 232 6 ls (.ref r :: st) z Q = (zcls z r = 2 ∧ zcs st = true ∧ ZC zG d 63 [.ref r] z (zk zG (d + 1) 232 (none) 9 ls st Q)) := zc_V0 rfl (Nat.le_of_ble_eq_true rfl)
theorem s232_9 {ls : List Value}  : ZW zG d 232 9 ls (st) z Q = ZW zG d 232 10 ls ((.int (nI 1)) :: st) z Q := zw_push rfl
theorem s232_10 {ls : List Value} {a b : Int32} : ZW zG d 232 10 ls (.int b :: .int a :: st) z Q = ZW zG d 232 11 ls (.int (a - b) :: st) z Q := zw_isub rfl
theorem s232_11 {ls : List Value} {w0 : Int32} {w1 : Int32} {r : Nat} : ZW zG (d + 1) 232 11 ls (.int w1 :: .int w0 :: .ref r :: st) z Q = (zcls z r = 13 ∧ zcs st = true ∧ ZC zG d 227 [.ref r, .int w0, .int w1] z (zk zG (d + 1) 232 (some 0) 14 ls st Q)) := zc_V2 rfl (Nat.le_of_ble_eq_true rfl)
theorem s232_14 {x0 x1 x2 : Value} {a : Int32} : ZW zG d 232 14 [x0, x1, x2] (.int a :: st) z Q = ZW zG d 232 15 [zclr x0, .int a, x2] st z Q := zw_next (f := z_istore 1 15) rfl rfl
theorem s232_15 {x0 x1 x2 : Value} : ZW zG d 232 15 [x0, x1, x2] st z Q = (zir x0 = true ∧ ZW zG d 232 16 [x0, x1, x2] (x0 :: st) z Q) := zw_cond (f := z_aload 0 16) rfl rfl
theorem s232_16 {ls : List Value} {r : Nat} : ZW zG d 232 16 ls (.ref r :: st) z Q = ((zcls z r = 13) ∧ ZW zG d 232 19 ls (.int (zfi z r 9) :: st) (z) Q) := zw_getI rfl
theorem s232_19 {ls : List Value}  : ZW zG d 232 19 ls (st) z Q = ZW zG d 232 20 ls ((.int (nI 2)) :: st) z Q := zw_push rfl
theorem s232_20 {ls : List Value} {a b : Int32} : ZW zG d 232 20 ls (.int b :: .int a :: st) z Q = if ¬ a = b then ZW zG d 232 36 ls st z Q else ZW zG d 232 23 ls st z Q := zw_icne rfl
theorem s232_23 {x0 x1 x2 : Value} : ZW zG d 232 23 [x0, x1, x2] st z Q = (zir x0 = true ∧ ZW zG d 232 24 [x0, x1, x2] (x0 :: st) z Q) := zw_cond (f := z_aload 0 24) rfl rfl
theorem s232_24 {ls : List Value} {r : Nat} : ZW zG d 232 24 ls (.ref r :: st) z Q = ((zcls z r = 13) ∧ ZW zG d 232 27 ls (.int (zfi z r 11) :: st) (z) Q) := zw_getI rfl
theorem s232_27 {x0 x2 : Value} {a : Int32} : ZW zG d 232 27 [x0, .int a, x2] st z Q = ZW zG d 232 28 [x0, .int a, x2] (.int a :: st) z Q := zw_next (f := z_iload 1 28) rfl rfl
theorem s232_28 {ls : List Value} {a b : Int32} : ZW zG d 232 28 ls (.int b :: .int a :: st) z Q = if ¬ a = b then ZW zG d 232 36 ls st z Q else ZW zG d 232 31 ls st z Q := zw_icne rfl
theorem s232_31 {x0 x1 x2 : Value} : ZW zG d 232 31 [x0, x1, x2] st z Q = (zir x0 = true ∧ ZW zG d 232 32 [x0, x1, x2] (x0 :: st) z Q) := zw_cond (f := z_aload 0 32) rfl rfl
theorem s232_32 {ls : List Value}  : ZW zG d 232 32 ls (st) z Q = ZW zG d 232 33 ls ((.int (nI 2)) :: st) z Q := zw_push rfl
theorem s232_33 {ls : List Value} {w0 : Int32} {r : Nat} : ZW zG (d + 1) 232 33 ls (.int w0 :: .ref r :: st) z Q = (zcls z r = 13 ∧ zcs st = true ∧ ZC zG d 221 [.ref r, .int w0] z (zk zG (d + 1) 232 (some 0) 36 ls st Q)) := zc_V1 rfl (Nat.le_of_ble_eq_true rfl)
theorem s232_36 {x0 x1 x2 : Value} : ZW zG d 232 36 [x0, x1, x2] st z Q = (zir x0 = true ∧ ZW zG d 232 37 [x0, x1, x2] (x0 :: st) z Q) := zw_cond (f := z_aload 0 37) rfl rfl
theorem s232_37 {ls : List Value}  : ZW zG d 232 37 ls (st) z Q = ZW zG d 232 38 ls ((.int (nI 0)) :: st) z Q := zw_push rfl
theorem s232_38 {x0 x1 x2 : Value} : ZW zG d 232 38 [x0, x1, x2] st z Q = (zir x0 = true ∧ ZW zG d 232 39 [x0, x1, x2] (x0 :: st) z Q) := zw_cond (f := z_aload 0 39) rfl rfl
theorem s232_39 {ls : List Value} {r : Nat} : ZW zG d 232 39 ls (.ref r :: st) z Q = ((zcls z r = 13 ∧ zir (zfr z r 6) = true) ∧ ZW zG d 232 42 ls (zfr z r 6 :: st) (z) Q) := zw_getR rfl
theorem s232_42 {ls : List Value}  {r : Nat} : ZW zG (d + 1) 232 42 ls (.ref r :: st) z Q = (zcls z r = 2 ∧ zcs st = true ∧ ZC zG d 63 [.ref r] z (zk zG (d + 1) 232 (none) 45 ls st Q)) := zc_V0 rfl (Nat.le_of_ble_eq_true rfl)
theorem s232_45 {ls : List Value}  : ZW zG d 232 45 ls (st) z Q = ZW zG d 232 46 ls ((.int (nI 1)) :: st) z Q := zw_push rfl
theorem s232_46 {ls : List Value} {a b : Int32} : ZW zG d 232 46 ls (.int b :: .int a :: st) z Q = ZW zG d 232 47 ls (.int (a - b) :: st) z Q := zw_isub rfl
theorem s232_47 {ls : List Value} {w0 : Int32} {w1 : Int32} {r : Nat} : ZW zG (d + 1) 232 47 ls (.int w1 :: .int w0 :: .ref r :: st) z Q = (zcls z r = 13 ∧ zcs st = true ∧ ZC zG d 227 [.ref r, .int w0, .int w1] z (zk zG (d + 1) 232 (some 0) 50 ls st Q)) := zc_V2 rfl (Nat.le_of_ble_eq_true rfl)
theorem s232_50 {x0 x1 x2 : Value} {a : Int32} : ZW zG d 232 50 [x0, x1, x2] (.int a :: st) z Q = ZW zG d 232 51 [x0, zclr x1, .int a] st z Q := zw_next (f := z_istore 2 51) rfl rfl
theorem s232_51 {x0 x1 x2 : Value} : ZW zG d 232 51 [x0, x1, x2] st z Q = (zir x0 = true ∧ ZW zG d 232 52 [x0, x1, x2] (x0 :: st) z Q) := zw_cond (f := z_aload 0 52) rfl rfl
theorem s232_52 {ls : List Value} {r : Nat} : ZW zG d 232 52 ls (.ref r :: st) z Q = ((zcls z r = 13 ∧ zir (zfr z r 6) = true) ∧ ZW zG d 232 55 ls (zfr z r 6 :: st) (z) Q) := zw_getR rfl
theorem s232_55 {ls : List Value} {r : Nat} : ZW zG d 232 55 ls (.ref r :: st) z Q = ((zcls z r = 2 ∧ zir (zfr z r 1) = true) ∧ ZW zG d 232 58 ls (zfr z r 1 :: st) (z) Q) := zw_getR rfl
theorem s232_58 {x0 x2 : Value} {a : Int32} : ZW zG d 232 58 [x0, .int a, x2] st z Q = ZW zG d 232 59 [x0, .int a, x2] (.int a :: st) z Q := zw_next (f := z_iload 1 59) rfl rfl
theorem s232_59 {ls : List Value} {a : Int32} {r : Nat} : ZW zG d 232 59 ls (.int a :: .ref r :: st) z Q = ZW zG d 232 60 ls (.int a :: .ref r :: .int a :: .ref r :: st) z Q := zw_dup2 rfl
theorem s232_60 {ls : List Value} {a : Int32} {r : Nat} : ZW zG d 232 60 ls (.int a :: .ref r :: st) z Q = ((zcls z r = 50 ∧ zin a (zlen z r) = true) ∧ ZW zG d 232 61 ls (.int (zia z r (zx a)) :: st) (z) Q) := zw_iald rfl
theorem s232_61 {ls : List Value}  : ZW zG d 232 61 ls (st) z Q = ZW zG d 232 62 ls ((.int (nI 1)) :: st) z Q := zw_push rfl
theorem s232_62 {x0 x1 : Value} {a : Int32} : ZW zG d 232 62 [x0, x1, .int a] st z Q = ZW zG d 232 63 [x0, x1, .int a] (.int a :: st) z Q := zw_next (f := z_iload 2 63) rfl rfl
theorem s232_63 {ls : List Value} {a b : Int32} : ZW zG d 232 63 ls (.int b :: .int a :: st) z Q = ZW zG d 232 64 ls (.int (a <<< (b &&& 31)) :: st) z Q := zw_ishl rfl
theorem s232_64 {ls : List Value} {a b : Int32} : ZW zG d 232 64 ls (.int b :: .int a :: st) z Q = ZW zG d 232 65 ls (.int (a ||| b) :: st) z Q := zw_ior rfl
theorem s232_65 {ls : List Value} {a b : Int32} {r : Nat} : ZW zG d 232 65 ls (.int b :: .int a :: .ref r :: st) z Q = ((zcls z r = 50 ∧ zin a (zlen z r) = true) ∧ ZW zG d 232 66 ls (st) (sia z r (zx a) (znar 50 b)) Q) := zw_iast rfl
theorem s232_66 {x0 x1 x2 : Value} : ZW zG d 232 66 [x0, x1, x2] st z Q = (zir x0 = true ∧ ZW zG d 232 67 [x0, x1, x2] (x0 :: st) z Q) := zw_cond (f := z_aload 0 67) rfl rfl
theorem s232_67 {ls : List Value} {r : Nat} : ZW zG d 232 67 ls (.ref r :: st) z Q = ((zcls z r = 13 ∧ zir (zfr z r 6) = true) ∧ ZW zG d 232 70 ls (zfr z r 6 :: st) (z) Q) := zw_getR rfl
theorem s232_70 {ls : List Value} {r : Nat} : ZW zG d 232 70 ls (.ref r :: st) z Q = ((zcls z r = 2 ∧ zir (zfr z r 1) = true) ∧ ZW zG d 232 73 ls (zfr z r 1 :: st) (z) Q) := zw_getR rfl
theorem s232_73 {x0 x1 : Value} {a : Int32} : ZW zG d 232 73 [x0, x1, .int a] st z Q = ZW zG d 232 74 [x0, x1, .int a] (.int a :: st) z Q := zw_next (f := z_iload 2 74) rfl rfl
theorem s232_74 {ls : List Value} {a : Int32} {r : Nat} : ZW zG d 232 74 ls (.int a :: .ref r :: st) z Q = ZW zG d 232 75 ls (.int a :: .ref r :: .int a :: .ref r :: st) z Q := zw_dup2 rfl
theorem s232_75 {ls : List Value} {a : Int32} {r : Nat} : ZW zG d 232 75 ls (.int a :: .ref r :: st) z Q = ((zcls z r = 50 ∧ zin a (zlen z r) = true) ∧ ZW zG d 232 76 ls (.int (zia z r (zx a)) :: st) (z) Q) := zw_iald rfl
theorem s232_76 {ls : List Value}  : ZW zG d 232 76 ls (st) z Q = ZW zG d 232 77 ls ((.int (nI 1)) :: st) z Q := zw_push rfl
theorem s232_77 {x0 x2 : Value} {a : Int32} : ZW zG d 232 77 [x0, .int a, x2] st z Q = ZW zG d 232 78 [x0, .int a, x2] (.int a :: st) z Q := zw_next (f := z_iload 1 78) rfl rfl
theorem s232_78 {ls : List Value} {a b : Int32} : ZW zG d 232 78 ls (.int b :: .int a :: st) z Q = ZW zG d 232 79 ls (.int (a <<< (b &&& 31)) :: st) z Q := zw_ishl rfl
theorem s232_79 {ls : List Value} {a b : Int32} : ZW zG d 232 79 ls (.int b :: .int a :: st) z Q = ZW zG d 232 80 ls (.int (a ||| b) :: st) z Q := zw_ior rfl
theorem s232_80 {ls : List Value} {a b : Int32} {r : Nat} : ZW zG d 232 80 ls (.int b :: .int a :: .ref r :: st) z Q = ((zcls z r = 50 ∧ zin a (zlen z r) = true) ∧ ZW zG d 232 81 ls (st) (sia z r (zx a) (znar 50 b)) Q) := zw_iast rfl
theorem s232_81 {ls : List Value}  : ZW zG d 232 81 ls ([]) z Q = Q (.inl none) z := zw_ret rfl
/-- X14_init (II)V -/
theorem e233 {r0 : Nat} {v0 : Int32} {v1 : Int32} : ZC zG d 233 [.ref r0, .int v0, .int v1] z Q = ZW zG d 233 0 [.ref r0, .int v0, .int v1] [] z Q := rfl
theorem s233_0 {x0 x1 x2 : Value} : ZW zG d 233 0 [x0, x1, x2] st z Q = (zir x0 = true ∧ ZW zG d 233 1 [x0, x1, x2] (x0 :: st) z Q) := zw_cond (f := z_aload 0 1) rfl rfl
theorem s233_1 {ls : List Value}  : ZW zG d 233 1 ls (st) z Q = ZW zG d 233 2 ls (.null :: st) z Q := zw_push rfl
theorem s233_2 {ls : List Value}  : ZW zG d 233 2 ls (st) z Q = ZW zG d 233 3 ls (.null :: st) z Q := zw_push rfl
theorem s233_3 {ls : List Value}  : ZW zG d 233 3 ls (st) z Q = ZW zG d 233 4 ls ((.int (nI 0)) :: st) z Q := zw_push rfl
theorem s233_4 {ls : List Value}  : ZW zG d 233 4 ls (st) z Q = ZW zG d 233 5 ls ((.int (nI 0)) :: st) z Q := zw_push rfl
theorem s233_5 {ls : List Value} {a b : Int32} {r : Nat} : ZW zG d 233 5 ls (.int b :: .int a :: .null :: .null :: .ref r :: st) z Q = ((zcs st = true ∧ zcls z r = 14 ∧ (a = 0 ∧ b = 0) ∧ (znul (zfr z r 0) = true ∧ znul (zfr z r 1) = true ∧ znul (zfr z r 2) = true ∧ znul (zfr z r 3) = true)) ∧ ZW zG d 233 8 ls (st) (z) Q) := zw_excinit rfl
theorem s233_8 {x0 x1 x2 : Value} : ZW zG d 233 8 [x0, x1, x2] st z Q = (zir x0 = true ∧ ZW zG d 233 9 [x0, x1, x2] (x0 :: st) z Q) := zw_cond (f := z_aload 0 9) rfl rfl
theorem s233_9 {x0 x2 : Value} {a : Int32} : ZW zG d 233 9 [x0, .int a, x2] st z Q = ZW zG d 233 10 [x0, .int a, x2] (.int a :: st) z Q := zw_next (f := z_iload 1 10) rfl rfl
theorem s233_10 {ls : List Value} {a : Int32} {r : Nat} : ZW zG d 233 10 ls (.int a :: .ref r :: st) z Q = ((zcls z r = 14) ∧ ZW zG d 233 13 ls (st) (sfi z r 6 a) Q) := zw_putI rfl
theorem s233_13 {x0 x1 x2 : Value} : ZW zG d 233 13 [x0, x1, x2] st z Q = (zir x0 = true ∧ ZW zG d 233 14 [x0, x1, x2] (x0 :: st) z Q) := zw_cond (f := z_aload 0 14) rfl rfl
theorem s233_14 {x0 x1 : Value} {a : Int32} : ZW zG d 233 14 [x0, x1, .int a] st z Q = ZW zG d 233 15 [x0, x1, .int a] (.int a :: st) z Q := zw_next (f := z_iload 2 15) rfl rfl
theorem s233_15 {ls : List Value} {a : Int32} {r : Nat} : ZW zG d 233 15 ls (.int a :: .ref r :: st) z Q = ((zcls z r = 14) ∧ ZW zG d 233 18 ls (st) (sfi z r 7 a) Q) := zw_putI rfl
theorem s233_18 {ls : List Value}  : ZW zG d 233 18 ls ([]) z Q = Q (.inl none) z := zw_ret rfl
/-- X15_init (III)V -/
theorem e234 {r0 : Nat} {v0 : Int32} {v1 : Int32} {v2 : Int32} : ZC zG d 234 [.ref r0, .int v0, .int v1, .int v2] z Q = ZW zG d 234 0 [.ref r0, .int v0, .int v1, .int v2] [] z Q := rfl
theorem s234_0 {x0 x1 x2 x3 : Value} : ZW zG d 234 0 [x0, x1, x2, x3] st z Q = (zir x0 = true ∧ ZW zG d 234 1 [x0, x1, x2, x3] (x0 :: st) z Q) := zw_cond (f := z_aload 0 1) rfl rfl
theorem s234_1 {ls : List Value} {r : Nat} : ZW zG d 234 1 ls (.ref r :: st) z Q = ((zcs st = true) ∧ ZW zG d 234 4 ls (st) (z) Q) := zw_oinit rfl
theorem s234_4 {x0 x1 x2 x3 : Value} : ZW zG d 234 4 [x0, x1, x2, x3] st z Q = (zir x0 = true ∧ ZW zG d 234 5 [x0, x1, x2, x3] (x0 :: st) z Q) := zw_cond (f := z_aload 0 5) rfl rfl
theorem s234_5 {ls : List Value}  : ZW zG d 234 5 ls (st) z Q = ZW zG d 234 8 ls (.ref (zn z) :: st) (snew z 24 3) Q := zw_new rfl
theorem s234_8 {ls : List Value} {r : Nat} : ZW zG d 234 8 ls (.ref r :: st) z Q = ZW zG d 234 9 ls (.ref r :: .ref r :: st) z Q := zw_dupr rfl
theorem s234_9 {ls : List Value}  : ZW zG d 234 9 ls (st) z Q = ZW zG d 234 10 ls ((.int (nI 2)) :: st) z Q := zw_push rfl
theorem s234_10 {ls : List Value} {a : Int32} {r : Nat} : ZW zG d 234 10 ls (.int a :: .ref r :: st) z Q = ((zcs st = true ∧ zcls z r = 24 ∧ (zin a 1000 = true ∧ ¬ a = 0) ∧ zfi z r 2 = 0) ∧ ZW zG d 234 13 ls (st) (slin z r (zx a)) Q) := zw_linit rfl
theorem s234_13 {ls : List Value} {v : Value} {r : Nat} : ZW zG d 234 13 ls (v :: .ref r :: st) z Q = ((zcls z r = 15 ∧ zir v = true) ∧ ZW zG d 234 16 ls (st) (sfr z r 3 v) Q) := zw_putR rfl
theorem s234_16 {x0 x1 x2 x3 : Value} : ZW zG d 234 16 [x0, x1, x2, x3] st z Q = (zir x0 = true ∧ ZW zG d 234 17 [x0, x1, x2, x3] (x0 :: st) z Q) := zw_cond (f := z_aload 0 17) rfl rfl
theorem s234_17 {x0 x2 x3 : Value} {a : Int32} : ZW zG d 234 17 [x0, .int a, x2, x3] st z Q = ZW zG d 234 18 [x0, .int a, x2, x3] (.int a :: st) z Q := zw_next (f := z_iload 1 18) rfl rfl
theorem s234_18 {ls : List Value} {a : Int32} {r : Nat} : ZW zG d 234 18 ls (.int a :: .ref r :: st) z Q = ((zcls z r = 15) ∧ ZW zG d 234 21 ls (st) (sfi z r 0 a) Q) := zw_putI rfl
theorem s234_21 {x0 x1 x2 x3 : Value} : ZW zG d 234 21 [x0, x1, x2, x3] st z Q = (zir x0 = true ∧ ZW zG d 234 22 [x0, x1, x2, x3] (x0 :: st) z Q) := zw_cond (f := z_aload 0 22) rfl rfl
theorem s234_22 {x0 x1 x3 : Value} {a : Int32} : ZW zG d 234 22 [x0, x1, .int a, x3] st z Q = ZW zG d 234 23 [x0, x1, .int a, x3] (.int a :: st) z Q := zw_next (f := z_iload 2 23) rfl rfl
theorem s234_23 {ls : List Value} {a : Int32} {r : Nat} : ZW zG d 234 23 ls (.int a :: .ref r :: st) z Q = ((zcls z r = 15) ∧ ZW zG d 234 26 ls (st) (sfi z r 1 a) Q) := zw_putI rfl
theorem s234_26 {x0 x1 x2 x3 : Value} : ZW zG d 234 26 [x0, x1, x2, x3] st z Q = (zir x0 = true ∧ ZW zG d 234 27 [x0, x1, x2, x3] (x0 :: st) z Q) := zw_cond (f := z_aload 0 27) rfl rfl
theorem s234_27 {x0 x1 x2 : Value} {a : Int32} : ZW zG d 234 27 [x0, x1, x2, .int a] st z Q = ZW zG d 234 28 [x0, x1, x2, .int a] (.int a :: st) z Q := zw_next (f := z_iload 3 28) rfl rfl
theorem s234_28 {ls : List Value} {a : Int32} {r : Nat} : ZW zG d 234 28 ls (.int a :: .ref r :: st) z Q = ((zcls z r = 15) ∧ ZW zG d 234 31 ls (st) (sfi z r 2 a) Q) := zw_putI rfl
theorem s234_31 {ls : List Value}  : ZW zG d 234 31 ls ([]) z Q = Q (.inl none) z := zw_ret rfl
/-- X15_holds (ILCardBowl$Asked;)Z -/
theorem e235 {r0 : Nat} {v0 : Int32} {v1 : Nat} : ZC zG d 235 [.ref r0, .int v0, .ref v1] z Q = ZW zG d 235 0 [.ref r0, .int v0, .ref v1, zdum, zdum] [] z Q := rfl
theorem s235_0 {x0 x1 x2 x3 x4 : Value} : ZW zG d 235 0 [x0, x1, x2, x3, x4] st z Q = (zir x0 = true ∧ ZW zG d 235 1 [x0, x1, x2, x3, x4] (x0 :: st) z Q) := zw_cond (f := z_aload 0 1) rfl rfl
theorem s235_1 {ls : List Value} {r : Nat} : ZW zG d 235 1 ls (.ref r :: st) z Q = ((zcls z r = 15) ∧ ZW zG d 235 4 ls (.int (zfi z r 0) :: st) (z) Q) := zw_getI rfl
theorem s235_4 {x0 x2 x3 x4 : Value} {a : Int32} : ZW zG d 235 4 [x0, .int a, x2, x3, x4] st z Q = ZW zG d 235 5 [x0, .int a, x2, x3, x4] (.int a :: st) z Q := zw_next (f := z_iload 1 5) rfl rfl
theorem s235_5 {ls : List Value} {a b : Int32} : ZW zG d 235 5 ls (.int b :: .int a :: st) z Q = if ¬ a = b then ZW zG d 235 12 ls st z Q else ZW zG d 235 8 ls st z Q := zw_icne rfl
theorem s235_8 {ls : List Value}  : ZW zG d 235 8 ls (st) z Q = ZW zG d 235 9 ls ((.int (nI 1)) :: st) z Q := zw_push rfl
theorem s235_9 {ls : List Value}  : ZW zG d 235 9 ls (st) z Q = ZW zG d 235 13 ls st z Q := zw_goto rfl
theorem s235_12 {ls : List Value}  : ZW zG d 235 12 ls (st) z Q = ZW zG d 235 13 ls ((.int (nI 0)) :: st) z Q := zw_push rfl
theorem s235_13 {x0 x1 x2 x3 x4 : Value} {a : Int32} : ZW zG d 235 13 [x0, x1, x2, x3, x4] (.int a :: st) z Q = ZW zG d 235 14 [x0, x1, zclr x2, .int a, x4] st z Q := zw_next (f := z_istore 3 14) rfl rfl
theorem s235_14 {ls : List Value}  : ZW zG d 235 14 ls (st) z Q = ZW zG d 235 15 ls ((.int (nI 0)) :: st) z Q := zw_push rfl
theorem s235_15 {x0 x1 x2 x3 x4 : Value} {a : Int32} : ZW zG d 235 15 [x0, x1, x2, x3, x4] (.int a :: st) z Q = ZW zG d 235 17 [x0, x1, x2, zclr x3, .int a] st z Q := zw_next (f := z_istore 4 17) rfl rfl
theorem s235_17 {x0 x1 x2 x3 : Value} {a : Int32} : ZW zG d 235 17 [x0, x1, x2, x3, .int a] st z Q = ZW zG d 235 19 [x0, x1, x2, x3, .int a] (.int a :: st) z Q := zw_next (f := z_iload 4 19) rfl rfl
theorem s235_19 {x0 x1 x2 x3 x4 : Value} : ZW zG d 235 19 [x0, x1, x2, x3, x4] st z Q = (zir x0 = true ∧ ZW zG d 235 20 [x0, x1, x2, x3, x4] (x0 :: st) z Q) := zw_cond (f := z_aload 0 20) rfl rfl
theorem s235_20 {ls : List Value} {r : Nat} : ZW zG d 235 20 ls (.ref r :: st) z Q = ((zcls z r = 15 ∧ zir (zfr z r 3) = true) ∧ ZW zG d 235 23 ls (zfr z r 3 :: st) (z) Q) := zw_getR rfl
theorem s235_23 {ls : List Value} {r : Nat} : ZW zG d 235 23 ls (.ref r :: st) z Q = ((zcs st = true ∧ zcls z r = 90) ∧ ZW zG d 235 28 ls (.int (nI (zls z r).length) :: st) (z) Q) := zw_lsize rfl
theorem s235_28 {ls : List Value} {a b : Int32} : ZW zG d 235 28 ls (.int b :: .int a :: st) z Q = if b ≤ a then ZW zG d 235 60 ls st z Q else ZW zG d 235 31 ls st z Q := zw_icge rfl
theorem s235_31 {x0 x1 x2 x4 : Value} {a : Int32} : ZW zG d 235 31 [x0, x1, x2, .int a, x4] st z Q = ZW zG d 235 32 [x0, x1, x2, .int a, x4] (.int a :: st) z Q := zw_next (f := z_iload 3 32) rfl rfl
theorem s235_32 {ls : List Value} {a : Int32} : ZW zG d 235 32 ls (.int a :: st) z Q = if a = 0 then ZW zG d 235 60 ls st z Q else ZW zG d 235 35 ls st z Q := zw_ifeq rfl
theorem s235_35 {x0 x1 x2 x3 x4 : Value} : ZW zG d 235 35 [x0, x1, x2, x3, x4] st z Q = (zir x0 = true ∧ ZW zG d 235 36 [x0, x1, x2, x3, x4] (x0 :: st) z Q) := zw_cond (f := z_aload 0 36) rfl rfl
theorem s235_36 {ls : List Value} {r : Nat} : ZW zG d 235 36 ls (.ref r :: st) z Q = ((zcls z r = 15 ∧ zir (zfr z r 3) = true) ∧ ZW zG d 235 39 ls (zfr z r 3 :: st) (z) Q) := zw_getR rfl
theorem s235_39 {x0 x1 x2 x3 : Value} {a : Int32} : ZW zG d 235 39 [x0, x1, x2, x3, .int a] st z Q = ZW zG d 235 41 [x0, x1, x2, x3, .int a] (.int a :: st) z Q := zw_next (f := z_iload 4 41) rfl rfl
theorem s235_41 {ls : List Value} {a : Int32} {r : Nat} : ZW zG d 235 41 ls (.int a :: .ref r :: st) z Q = ((zcs st = true ∧ zcls z r = 90 ∧ zin a (zls z r).length = true) ∧ ZW zG d 235 46 ls ((zls z r).getD (zx a) .null :: st) (z) Q) := zw_lget rfl
theorem s235_46 {ls : List Value} {r : Nat} : ZW zG d 235 46 ls (.ref r :: st) z Q = ((zcls z r = 20) ∧ ZW zG d 235 49 ls (.ref r :: st) (z) Q) := zw_cast rfl
theorem s235_49 {x0 x1 x2 x3 x4 : Value} : ZW zG d 235 49 [x0, x1, x2, x3, x4] st z Q = (zir x2 = true ∧ ZW zG d 235 50 [x0, x1, x2, x3, x4] (x2 :: st) z Q) := zw_cond (f := z_aload 2 50) rfl rfl
theorem s235_50 {ls : List Value} {w0 : Nat} {r : Nat} : ZW zG (d + 1) 235 50 ls (.ref w0 :: .ref r :: st) z Q = (zcls z r = 20 ∧ zcs st = true ∧ ZC zG d 244 [.ref r, .ref w0] z (zk zG (d + 1) 235 (none) 53 ls st Q)) := zc_V1 rfl (Nat.le_of_ble_eq_true rfl)
theorem s235_53 {x0 x1 x2 x3 x4 : Value} {a : Int32} : ZW zG d 235 53 [x0, x1, x2, x3, x4] (.int a :: st) z Q = ZW zG d 235 54 [x0, x1, zclr x2, .int a, x4] st z Q := zw_next (f := z_istore 3 54) rfl rfl
theorem s235_54 {x0 x1 x2 x3 : Value} {a : Int32} : ZW zG d 235 54 [x0, x1, x2, x3, .int a] st z Q = ZW zG d 235 57 [x0, x1, x2, zclr x3, .int (a + (nI 1))] st z Q := zw_next (f := z_iinc 4 (nI 1) 57) rfl rfl
theorem s235_57 {ls : List Value}  : ZW zG d 235 57 ls (st) z Q = ZW zG d 235 17 ls st z Q := zw_goto rfl
theorem s235_60 {x0 x1 x2 x4 : Value} {a : Int32} : ZW zG d 235 60 [x0, x1, x2, .int a, x4] st z Q = ZW zG d 235 61 [x0, x1, x2, .int a, x4] (.int a :: st) z Q := zw_next (f := z_iload 3 61) rfl rfl
theorem s235_61 {ls : List Value} {a : Int32} : ZW zG d 235 61 ls ([.int a]) z Q = ((a = 0 ∨ a = 1) ∧ Q (.inl (some (.int a))) z) := zw_retz rfl
/-- X16_init ()V -/
theorem e236 {r0 : Nat} : ZC zG d 236 [.ref r0] z Q = ZW zG d 236 0 [.ref r0] [] z Q := rfl
theorem s236_0 {x0 : Value} : ZW zG d 236 0 [x0] st z Q = (zir x0 = true ∧ ZW zG d 236 1 [x0] (x0 :: st) z Q) := zw_cond (f := z_aload 0 1) rfl rfl
theorem s236_1 {ls : List Value} {r : Nat} : ZW zG d 236 1 ls (.ref r :: st) z Q = ((zcs st = true) ∧ ZW zG d 236 4 ls (st) (z) Q) := zw_oinit rfl
theorem s236_4 {ls : List Value}  : ZW zG d 236 4 ls ([]) z Q = Q (.inl none) z := zw_ret rfl
/-- X17_init (I)V -/
theorem e237 {r0 : Nat} {v0 : Int32} : ZC zG d 237 [.ref r0, .int v0] z Q = ZW zG d 237 0 [.ref r0, .int v0] [] z Q := rfl
theorem s237_0 {x0 x1 : Value} : ZW zG d 237 0 [x0, x1] st z Q = (zir x0 = true ∧ ZW zG d 237 1 [x0, x1] (x0 :: st) z Q) := zw_cond (f := z_aload 0 1) rfl rfl
theorem s237_1 {ls : List Value}  {r : Nat} : ZW zG (d + 1) 237 1 ls (.ref r :: st) z Q = (zcs st = true ∧ ZC zG d 236 [.ref r] z (zk zG (d + 1) 237 (none) 4 ls st Q)) := zc_I0 rfl (Nat.le_of_ble_eq_true rfl)
theorem s237_4 {x0 x1 : Value} : ZW zG d 237 4 [x0, x1] st z Q = (zir x0 = true ∧ ZW zG d 237 5 [x0, x1] (x0 :: st) z Q) := zw_cond (f := z_aload 0 5) rfl rfl
theorem s237_5 {x0 : Value} {a : Int32} : ZW zG d 237 5 [x0, .int a] st z Q = ZW zG d 237 6 [x0, .int a] (.int a :: st) z Q := zw_next (f := z_iload 1 6) rfl rfl
theorem s237_6 {ls : List Value} {a : Int32} {r : Nat} : ZW zG d 237 6 ls (.int a :: .ref r :: st) z Q = ((zcls z r = 17) ∧ ZW zG d 237 9 ls (st) (sfi z r 0 a) Q) := zw_putI rfl
theorem s237_9 {ls : List Value}  : ZW zG d 237 9 ls ([]) z Q = Q (.inl none) z := zw_ret rfl
/-- X17_of (LCardBowl$Asked;)J -/
theorem e238 {r0 : Nat} {v0 : Nat} : ZC zG d 238 [.ref r0, .ref v0] z Q = ZW zG d 238 0 [.ref r0, .ref v0] [] z Q := rfl
theorem s238_0 {x0 x1 : Value} : ZW zG d 238 0 [x0, x1] st z Q = (zir x0 = true ∧ ZW zG d 238 1 [x0, x1] (x0 :: st) z Q) := zw_cond (f := z_aload 0 1) rfl rfl
theorem s238_1 {ls : List Value} {r : Nat} : ZW zG d 238 1 ls (.ref r :: st) z Q = ((zcls z r = 17) ∧ ZW zG d 238 4 ls (.int (zfi z r 0) :: st) (z) Q) := zw_getI rfl
theorem s238_4 {ls : List Value} {a : Int32} : ZW zG d 238 4 ls (.int a :: st) z Q = ZW zG d 238 5 ls (.long a.toInt64 :: st) z Q := zw_i2l rfl
theorem s238_5 {ls : List Value} {a : Int64} : ZW zG d 238 5 ls ([.long a]) z Q = Q (.inl (some (.long a))) z := zw_retl rfl
/-- X18_init (I)V -/
theorem e239 {r0 : Nat} {v0 : Int32} : ZC zG d 239 [.ref r0, .int v0] z Q = ZW zG d 239 0 [.ref r0, .int v0] [] z Q := rfl
theorem s239_0 {x0 x1 : Value} : ZW zG d 239 0 [x0, x1] st z Q = (zir x0 = true ∧ ZW zG d 239 1 [x0, x1] (x0 :: st) z Q) := zw_cond (f := z_aload 0 1) rfl rfl
theorem s239_1 {ls : List Value}  {r : Nat} : ZW zG (d + 1) 239 1 ls (.ref r :: st) z Q = (zcs st = true ∧ ZC zG d 236 [.ref r] z (zk zG (d + 1) 239 (none) 4 ls st Q)) := zc_I0 rfl (Nat.le_of_ble_eq_true rfl)
theorem s239_4 {x0 x1 : Value} : ZW zG d 239 4 [x0, x1] st z Q = (zir x0 = true ∧ ZW zG d 239 5 [x0, x1] (x0 :: st) z Q) := zw_cond (f := z_aload 0 5) rfl rfl
theorem s239_5 {x0 : Value} {a : Int32} : ZW zG d 239 5 [x0, .int a] st z Q = ZW zG d 239 6 [x0, .int a] (.int a :: st) z Q := zw_next (f := z_iload 1 6) rfl rfl
theorem s239_6 {ls : List Value} {a : Int32} {r : Nat} : ZW zG d 239 6 ls (.int a :: .ref r :: st) z Q = ((zcls z r = 18) ∧ ZW zG d 239 9 ls (st) (sfi z r 0 a) Q) := zw_putI rfl
theorem s239_9 {ls : List Value}  : ZW zG d 239 9 ls ([]) z Q = Q (.inl none) z := zw_ret rfl
/-- X18_of (LCardBowl$Asked;)J -/
theorem e240 {r0 : Nat} {v0 : Nat} : ZC zG d 240 [.ref r0, .ref v0] z Q = ZW zG d 240 0 [.ref r0, .ref v0] [] z Q := rfl
theorem s240_0 {x0 x1 : Value} : ZW zG d 240 0 [x0, x1] st z Q = (zir x0 = true ∧ ZW zG d 240 1 [x0, x1] (x0 :: st) z Q) := zw_cond (f := z_aload 0 1) rfl rfl
theorem s240_1 {ls : List Value} {r : Nat} : ZW zG d 240 1 ls (.ref r :: st) z Q = ((zcls z r = 18) ∧ ZW zG d 240 4 ls (.int (zfi z r 0) :: st) (z) Q) := zw_getI rfl
theorem s240_4 {ls : List Value} {a : Int32} : ZW zG d 240 4 ls (.int a :: st) z Q = ZW zG d 240 (ztsw [36, 42, 48, 54] 60 a) ls st z Q := zw_tsw rfl
theorem s240_36 {x0 x1 : Value} : ZW zG d 240 36 [x0, x1] st z Q = (zir x1 = true ∧ ZW zG d 240 37 [x0, x1] (x1 :: st) z Q) := zw_cond (f := z_aload 1 37) rfl rfl
theorem s240_37 {ls : List Value} {r : Nat} : ZW zG d 240 37 ls (.ref r :: st) z Q = ((zcls z r = 4) ∧ ZW zG d 240 40 ls (.int (zfi z r 0) :: st) (z) Q) := zw_getI rfl
theorem s240_40 {ls : List Value} {a : Int32} : ZW zG d 240 40 ls (.int a :: st) z Q = ZW zG d 240 41 ls (.long a.toInt64 :: st) z Q := zw_i2l rfl
theorem s240_41 {ls : List Value} {a : Int64} : ZW zG d 240 41 ls ([.long a]) z Q = Q (.inl (some (.long a))) z := zw_retl rfl
theorem s240_42 {x0 x1 : Value} : ZW zG d 240 42 [x0, x1] st z Q = (zir x1 = true ∧ ZW zG d 240 43 [x0, x1] (x1 :: st) z Q) := zw_cond (f := z_aload 1 43) rfl rfl
theorem s240_43 {ls : List Value} {r : Nat} : ZW zG d 240 43 ls (.ref r :: st) z Q = ((zcls z r = 4) ∧ ZW zG d 240 46 ls (.int (zfi z r 1) :: st) (z) Q) := zw_getI rfl
theorem s240_46 {ls : List Value} {a : Int32} : ZW zG d 240 46 ls (.int a :: st) z Q = ZW zG d 240 47 ls (.long a.toInt64 :: st) z Q := zw_i2l rfl
theorem s240_47 {ls : List Value} {a : Int64} : ZW zG d 240 47 ls ([.long a]) z Q = Q (.inl (some (.long a))) z := zw_retl rfl
theorem s240_48 {x0 x1 : Value} : ZW zG d 240 48 [x0, x1] st z Q = (zir x1 = true ∧ ZW zG d 240 49 [x0, x1] (x1 :: st) z Q) := zw_cond (f := z_aload 1 49) rfl rfl
theorem s240_49 {ls : List Value} {r : Nat} : ZW zG d 240 49 ls (.ref r :: st) z Q = ((zcls z r = 4) ∧ ZW zG d 240 52 ls (.int (zfi z r 2) :: st) (z) Q) := zw_getI rfl
theorem s240_52 {ls : List Value} {a : Int32} : ZW zG d 240 52 ls (.int a :: st) z Q = ZW zG d 240 53 ls (.long a.toInt64 :: st) z Q := zw_i2l rfl
theorem s240_53 {ls : List Value} {a : Int64} : ZW zG d 240 53 ls ([.long a]) z Q = Q (.inl (some (.long a))) z := zw_retl rfl
theorem s240_54 {x0 x1 : Value} : ZW zG d 240 54 [x0, x1] st z Q = (zir x1 = true ∧ ZW zG d 240 55 [x0, x1] (x1 :: st) z Q) := zw_cond (f := z_aload 1 55) rfl rfl
theorem s240_55 {ls : List Value} {r : Nat} : ZW zG d 240 55 ls (.ref r :: st) z Q = ((zcls z r = 4) ∧ ZW zG d 240 58 ls (.int (zfi z r 3) :: st) (z) Q) := zw_getI rfl
theorem s240_58 {ls : List Value} {a : Int32} : ZW zG d 240 58 ls (.int a :: st) z Q = ZW zG d 240 59 ls (.long a.toInt64 :: st) z Q := zw_i2l rfl
theorem s240_59 {ls : List Value} {a : Int64} : ZW zG d 240 59 ls ([.long a]) z Q = Q (.inl (some (.long a))) z := zw_retl rfl
theorem s240_60 {x0 x1 : Value} : ZW zG d 240 60 [x0, x1] st z Q = (zir x1 = true ∧ ZW zG d 240 61 [x0, x1] (x1 :: st) z Q) := zw_cond (f := z_aload 1 61) rfl rfl
theorem s240_61 {ls : List Value} {r : Nat} : ZW zG d 240 61 ls (.ref r :: st) z Q = ((zcls z r = 4) ∧ ZW zG d 240 64 ls (.int (zfi z r 4) :: st) (z) Q) := zw_getI rfl
theorem s240_64 {ls : List Value} {a : Int32} : ZW zG d 240 64 ls (.int a :: st) z Q = ZW zG d 240 65 ls (.long a.toInt64 :: st) z Q := zw_i2l rfl
theorem s240_65 {ls : List Value} {a : Int64} : ZW zG d 240 65 ls ([.long a]) z Q = Q (.inl (some (.long a))) z := zw_retl rfl
/-- X19_init (LCardBowl$Sum;ILCardBowl$Sum;)V -/
theorem e241 {r0 : Nat} {v0 : Nat} {v1 : Int32} {v2 : Nat} : ZC zG d 241 [.ref r0, .ref v0, .int v1, .ref v2] z Q = ZW zG d 241 0 [.ref r0, .ref v0, .int v1, .ref v2] [] z Q := rfl
theorem s241_0 {x0 x1 x2 x3 : Value} : ZW zG d 241 0 [x0, x1, x2, x3] st z Q = (zir x0 = true ∧ ZW zG d 241 1 [x0, x1, x2, x3] (x0 :: st) z Q) := zw_cond (f := z_aload 0 1) rfl rfl
theorem s241_1 {ls : List Value}  {r : Nat} : ZW zG (d + 1) 241 1 ls (.ref r :: st) z Q = (zcs st = true ∧ ZC zG d 236 [.ref r] z (zk zG (d + 1) 241 (none) 4 ls st Q)) := zc_I0 rfl (Nat.le_of_ble_eq_true rfl)
theorem s241_4 {x0 x1 x2 x3 : Value} : ZW zG d 241 4 [x0, x1, x2, x3] st z Q = (zir x0 = true ∧ ZW zG d 241 5 [x0, x1, x2, x3] (x0 :: st) z Q) := zw_cond (f := z_aload 0 5) rfl rfl
theorem s241_5 {x0 x1 x2 x3 : Value} : ZW zG d 241 5 [x0, x1, x2, x3] st z Q = (zir x1 = true ∧ ZW zG d 241 6 [x0, x1, x2, x3] (x1 :: st) z Q) := zw_cond (f := z_aload 1 6) rfl rfl
theorem s241_6 {ls : List Value} {v : Value} {r : Nat} : ZW zG d 241 6 ls (v :: .ref r :: st) z Q = ((zcls z r = 19 ∧ zir v = true) ∧ ZW zG d 241 9 ls (st) (sfr z r 0 v) Q) := zw_putR rfl
theorem s241_9 {x0 x1 x2 x3 : Value} : ZW zG d 241 9 [x0, x1, x2, x3] st z Q = (zir x0 = true ∧ ZW zG d 241 10 [x0, x1, x2, x3] (x0 :: st) z Q) := zw_cond (f := z_aload 0 10) rfl rfl
theorem s241_10 {x0 x1 x3 : Value} {a : Int32} : ZW zG d 241 10 [x0, x1, .int a, x3] st z Q = ZW zG d 241 11 [x0, x1, .int a, x3] (.int a :: st) z Q := zw_next (f := z_iload 2 11) rfl rfl
theorem s241_11 {ls : List Value} {a : Int32} {r : Nat} : ZW zG d 241 11 ls (.int a :: .ref r :: st) z Q = ((zcls z r = 19) ∧ ZW zG d 241 14 ls (st) (sfi z r 2 a) Q) := zw_putI rfl
theorem s241_14 {x0 x1 x2 x3 : Value} : ZW zG d 241 14 [x0, x1, x2, x3] st z Q = (zir x0 = true ∧ ZW zG d 241 15 [x0, x1, x2, x3] (x0 :: st) z Q) := zw_cond (f := z_aload 0 15) rfl rfl
theorem s241_15 {x0 x1 x2 x3 : Value} : ZW zG d 241 15 [x0, x1, x2, x3] st z Q = (zir x3 = true ∧ ZW zG d 241 16 [x0, x1, x2, x3] (x3 :: st) z Q) := zw_cond (f := z_aload 3 16) rfl rfl
theorem s241_16 {ls : List Value} {v : Value} {r : Nat} : ZW zG d 241 16 ls (v :: .ref r :: st) z Q = ((zcls z r = 19 ∧ zir v = true) ∧ ZW zG d 241 19 ls (st) (sfr z r 1 v) Q) := zw_putR rfl
theorem s241_19 {ls : List Value}  : ZW zG d 241 19 ls ([]) z Q = Q (.inl none) z := zw_ret rfl
/-- X19_of (LCardBowl$Asked;)J -/
theorem e242 {r0 : Nat} {v0 : Nat} : ZC zG d 242 [.ref r0, .ref v0] z Q = ZW zG d 242 0 [.ref r0, .ref v0, zdum, zdum, zdum, zdum] [] z Q := rfl
theorem s242_0 {x0 x1 x2 x3 x4 x5 : Value} : ZW zG d 242 0 [x0, x1, x2, x3, x4, x5] st z Q = (zir x0 = true ∧ ZW zG d 242 1 [x0, x1, x2, x3, x4, x5] (x0 :: st) z Q) := zw_cond (f := z_aload 0 1) rfl rfl
theorem s242_1 {ls : List Value} {r : Nat} : ZW zG d 242 1 ls (.ref r :: st) z Q = ((zcls z r = 19 ∧ zir (zfr z r 0) = true) ∧ ZW zG d 242 4 ls (zfr z r 0 :: st) (z) Q) := zw_getR rfl
theorem s242_4 {x0 x1 x2 x3 x4 x5 : Value} : ZW zG d 242 4 [x0, x1, x2, x3, x4, x5] st z Q = (zir x1 = true ∧ ZW zG d 242 5 [x0, x1, x2, x3, x4, x5] (x1 :: st) z Q) := zw_cond (f := z_aload 1 5) rfl rfl
theorem s242_5 {ls : List Value} {w0 : Nat} {r k1 : Nat} (hk : [(17, 238), (18, 240), (19, 242)].lookup (zcls z r) = some k1) (hfit : (zent [.ref r, .ref w0]).length ≤ zMl k1) : ZW zG (d + 1) 242 5 ls (.ref w0 :: .ref r :: st) z Q = (zcs st = true ∧ ZC zG d k1 [.ref r, .ref w0] z (zk zG (d + 1) 242 none 8 ls st Q)) := zc_U1 rfl hk hfit
theorem s242_8 {x0 x1 x2 x3 x4 x5 : Value} {a : Int64} : ZW zG d 242 8 [x0, x1, x2, x3, x4, x5] (.long a :: st) z Q = ZW zG d 242 9 [x0, zclr x1, .long a, zdum, x4, x5] st z Q := zw_next (f := z_lstore 2 9) rfl rfl
theorem s242_9 {x0 x1 x2 x3 x4 x5 : Value} : ZW zG d 242 9 [x0, x1, x2, x3, x4, x5] st z Q = (zir x0 = true ∧ ZW zG d 242 10 [x0, x1, x2, x3, x4, x5] (x0 :: st) z Q) := zw_cond (f := z_aload 0 10) rfl rfl
theorem s242_10 {ls : List Value} {r : Nat} : ZW zG d 242 10 ls (.ref r :: st) z Q = ((zcls z r = 19 ∧ zir (zfr z r 1) = true) ∧ ZW zG d 242 13 ls (zfr z r 1 :: st) (z) Q) := zw_getR rfl
theorem s242_13 {x0 x1 x2 x3 x4 x5 : Value} : ZW zG d 242 13 [x0, x1, x2, x3, x4, x5] st z Q = (zir x1 = true ∧ ZW zG d 242 14 [x0, x1, x2, x3, x4, x5] (x1 :: st) z Q) := zw_cond (f := z_aload 1 14) rfl rfl
theorem s242_14 {ls : List Value} {w0 : Nat} {r k1 : Nat} (hk : [(17, 238), (18, 240), (19, 242)].lookup (zcls z r) = some k1) (hfit : (zent [.ref r, .ref w0]).length ≤ zMl k1) : ZW zG (d + 1) 242 14 ls (.ref w0 :: .ref r :: st) z Q = (zcs st = true ∧ ZC zG d k1 [.ref r, .ref w0] z (zk zG (d + 1) 242 none 17 ls st Q)) := zc_U1 rfl hk hfit
theorem s242_17 {x0 x1 x2 x3 x4 x5 : Value} {a : Int64} : ZW zG d 242 17 [x0, x1, x2, x3, x4, x5] (.long a :: st) z Q = ZW zG d 242 19 [x0, x1, x2, zclr x3, .long a, zdum] st z Q := zw_next (f := z_lstore 4 19) rfl rfl
theorem s242_19 {x0 x1 x2 x3 x4 x5 : Value} : ZW zG d 242 19 [x0, x1, x2, x3, x4, x5] st z Q = (zir x1 = true ∧ ZW zG d 242 20 [x0, x1, x2, x3, x4, x5] (x1 :: st) z Q) := zw_cond (f := z_aload 1 20) rfl rfl
theorem s242_20 {x0 x1 x2 x3 x4 x5 : Value} : ZW zG d 242 20 [x0, x1, x2, x3, x4, x5] st z Q = (zir x0 = true ∧ ZW zG d 242 21 [x0, x1, x2, x3, x4, x5] (x0 :: st) z Q) := zw_cond (f := z_aload 0 21) rfl rfl
theorem s242_21 {ls : List Value} {r : Nat} : ZW zG d 242 21 ls (.ref r :: st) z Q = ((zcls z r = 19) ∧ ZW zG d 242 24 ls (.int (zfi z r 2) :: st) (z) Q) := zw_getI rfl
theorem s242_24 {ls : List Value} {a : Int32} : ZW zG d 242 24 ls (.int a :: st) z Q = if ¬ a = 0 then ZW zG d 242 34 ls st z Q else ZW zG d 242 27 ls st z Q := zw_ifne rfl
theorem s242_27 {x0 x1 x3 x4 x5 : Value} {a : Int64} : ZW zG d 242 27 [x0, x1, .long a, x3, x4, x5] st z Q = ZW zG d 242 28 [x0, x1, .long a, x3, x4, x5] (.long a :: st) z Q := zw_next (f := z_lload 2 28) rfl rfl
theorem s242_28 {x0 x1 x2 x3 x5 : Value} {a : Int64} : ZW zG d 242 28 [x0, x1, x2, x3, .long a, x5] st z Q = ZW zG d 242 30 [x0, x1, x2, x3, .long a, x5] (.long a :: st) z Q := zw_next (f := z_lload 4 30) rfl rfl
theorem s242_30 {ls : List Value} {x y : Int64} : ZW zG d 242 30 ls (.long y :: .long x :: st) z Q = ZW zG d 242 31 ls (.long (x + y) :: st) z Q := zw_ladd rfl
theorem s242_31 {ls : List Value}  : ZW zG d 242 31 ls (st) z Q = ZW zG d 242 53 ls st z Q := zw_goto rfl
theorem s242_34 {x0 x1 x2 x3 x4 x5 : Value} : ZW zG d 242 34 [x0, x1, x2, x3, x4, x5] st z Q = (zir x0 = true ∧ ZW zG d 242 35 [x0, x1, x2, x3, x4, x5] (x0 :: st) z Q) := zw_cond (f := z_aload 0 35) rfl rfl
theorem s242_35 {ls : List Value} {r : Nat} : ZW zG d 242 35 ls (.ref r :: st) z Q = ((zcls z r = 19) ∧ ZW zG d 242 38 ls (.int (zfi z r 2) :: st) (z) Q) := zw_getI rfl
theorem s242_38 {ls : List Value}  : ZW zG d 242 38 ls (st) z Q = ZW zG d 242 39 ls ((.int (nI 1)) :: st) z Q := zw_push rfl
theorem s242_39 {ls : List Value} {a b : Int32} : ZW zG d 242 39 ls (.int b :: .int a :: st) z Q = if ¬ a = b then ZW zG d 242 49 ls st z Q else ZW zG d 242 42 ls st z Q := zw_icne rfl
theorem s242_42 {x0 x1 x3 x4 x5 : Value} {a : Int64} : ZW zG d 242 42 [x0, x1, .long a, x3, x4, x5] st z Q = ZW zG d 242 43 [x0, x1, .long a, x3, x4, x5] (.long a :: st) z Q := zw_next (f := z_lload 2 43) rfl rfl
theorem s242_43 {x0 x1 x2 x3 x5 : Value} {a : Int64} : ZW zG d 242 43 [x0, x1, x2, x3, .long a, x5] st z Q = ZW zG d 242 45 [x0, x1, x2, x3, .long a, x5] (.long a :: st) z Q := zw_next (f := z_lload 4 45) rfl rfl
theorem s242_45 {ls : List Value} {x y : Int64} : ZW zG d 242 45 ls (.long y :: .long x :: st) z Q = ZW zG d 242 46 ls (.long (x - y) :: st) z Q := zw_lsub rfl
theorem s242_46 {ls : List Value}  : ZW zG d 242 46 ls (st) z Q = ZW zG d 242 53 ls st z Q := zw_goto rfl
theorem s242_49 {x0 x1 x3 x4 x5 : Value} {a : Int64} : ZW zG d 242 49 [x0, x1, .long a, x3, x4, x5] st z Q = ZW zG d 242 50 [x0, x1, .long a, x3, x4, x5] (.long a :: st) z Q := zw_next (f := z_lload 2 50) rfl rfl
theorem s242_50 {x0 x1 x2 x3 x5 : Value} {a : Int64} : ZW zG d 242 50 [x0, x1, x2, x3, .long a, x5] st z Q = ZW zG d 242 52 [x0, x1, x2, x3, .long a, x5] (.long a :: st) z Q := zw_next (f := z_lload 4 52) rfl rfl
theorem s242_52 {ls : List Value} {x y : Int64} : ZW zG d 242 52 ls (.long y :: .long x :: st) z Q = ZW zG d 242 53 ls (.long (x * y) :: st) z Q := zw_lmul rfl
theorem s242_53 {ls : List Value} {w0 : Int64} {r : Nat} : ZW zG (d + 1) 242 53 ls (.long w0 :: .ref r :: st) z Q = (zcls z r = 4 ∧ zcs st = true ∧ ZC zG d 80 [.ref r, .long w0] z (zk zG (d + 1) 242 (none) 56 ls st Q)) := zc_V1 rfl (Nat.le_of_ble_eq_true rfl)
theorem s242_56 {ls : List Value} {a : Int64} : ZW zG d 242 56 ls ([.long a]) z Q = Q (.inl (some (.long a))) z := zw_retl rfl
/-- X20_init (LCardBowl$Sum;ILCardBowl$Sum;)V -/
theorem e243 {r0 : Nat} {v0 : Nat} {v1 : Int32} {v2 : Nat} : ZC zG d 243 [.ref r0, .ref v0, .int v1, .ref v2] z Q = ZW zG d 243 0 [.ref r0, .ref v0, .int v1, .ref v2] [] z Q := rfl
theorem s243_0 {x0 x1 x2 x3 : Value} : ZW zG d 243 0 [x0, x1, x2, x3] st z Q = (zir x0 = true ∧ ZW zG d 243 1 [x0, x1, x2, x3] (x0 :: st) z Q) := zw_cond (f := z_aload 0 1) rfl rfl
theorem s243_1 {ls : List Value} {r : Nat} : ZW zG d 243 1 ls (.ref r :: st) z Q = ((zcs st = true) ∧ ZW zG d 243 4 ls (st) (z) Q) := zw_oinit rfl
theorem s243_4 {x0 x1 x2 x3 : Value} : ZW zG d 243 4 [x0, x1, x2, x3] st z Q = (zir x0 = true ∧ ZW zG d 243 5 [x0, x1, x2, x3] (x0 :: st) z Q) := zw_cond (f := z_aload 0 5) rfl rfl
theorem s243_5 {x0 x1 x2 x3 : Value} : ZW zG d 243 5 [x0, x1, x2, x3] st z Q = (zir x1 = true ∧ ZW zG d 243 6 [x0, x1, x2, x3] (x1 :: st) z Q) := zw_cond (f := z_aload 1 6) rfl rfl
theorem s243_6 {ls : List Value} {v : Value} {r : Nat} : ZW zG d 243 6 ls (v :: .ref r :: st) z Q = ((zcls z r = 20 ∧ zir v = true) ∧ ZW zG d 243 9 ls (st) (sfr z r 0 v) Q) := zw_putR rfl
theorem s243_9 {x0 x1 x2 x3 : Value} : ZW zG d 243 9 [x0, x1, x2, x3] st z Q = (zir x0 = true ∧ ZW zG d 243 10 [x0, x1, x2, x3] (x0 :: st) z Q) := zw_cond (f := z_aload 0 10) rfl rfl
theorem s243_10 {x0 x1 x3 : Value} {a : Int32} : ZW zG d 243 10 [x0, x1, .int a, x3] st z Q = ZW zG d 243 11 [x0, x1, .int a, x3] (.int a :: st) z Q := zw_next (f := z_iload 2 11) rfl rfl
theorem s243_11 {ls : List Value} {a : Int32} {r : Nat} : ZW zG d 243 11 ls (.int a :: .ref r :: st) z Q = ((zcls z r = 20) ∧ ZW zG d 243 14 ls (st) (sfi z r 2 a) Q) := zw_putI rfl
theorem s243_14 {x0 x1 x2 x3 : Value} : ZW zG d 243 14 [x0, x1, x2, x3] st z Q = (zir x0 = true ∧ ZW zG d 243 15 [x0, x1, x2, x3] (x0 :: st) z Q) := zw_cond (f := z_aload 0 15) rfl rfl
theorem s243_15 {x0 x1 x2 x3 : Value} : ZW zG d 243 15 [x0, x1, x2, x3] st z Q = (zir x3 = true ∧ ZW zG d 243 16 [x0, x1, x2, x3] (x3 :: st) z Q) := zw_cond (f := z_aload 3 16) rfl rfl
theorem s243_16 {ls : List Value} {v : Value} {r : Nat} : ZW zG d 243 16 ls (v :: .ref r :: st) z Q = ((zcls z r = 20 ∧ zir v = true) ∧ ZW zG d 243 19 ls (st) (sfr z r 1 v) Q) := zw_putR rfl
theorem s243_19 {ls : List Value}  : ZW zG d 243 19 ls ([]) z Q = Q (.inl none) z := zw_ret rfl
/-- X20_holds (LCardBowl$Asked;)Z -/
theorem e244 {r0 : Nat} {v0 : Nat} : ZC zG d 244 [.ref r0, .ref v0] z Q = ZW zG d 244 0 [.ref r0, .ref v0, zdum, zdum, zdum, zdum] [] z Q := rfl
theorem s244_0 {x0 x1 x2 x3 x4 x5 : Value} : ZW zG d 244 0 [x0, x1, x2, x3, x4, x5] st z Q = (zir x1 = true ∧ ZW zG d 244 1 [x0, x1, x2, x3, x4, x5] (x1 :: st) z Q) := zw_cond (f := z_aload 1 1) rfl rfl
theorem s244_1 {ls : List Value}  : ZW zG d 244 1 ls (st) z Q = ZW zG d 244 2 ls ((.int (nI 0)) :: st) z Q := zw_push rfl
theorem s244_2 {ls : List Value} {a : Int32} {r : Nat} : ZW zG d 244 2 ls (.int a :: .ref r :: st) z Q = ((zcls z r = 4 ∧ (a = 0 ∨ a = 1)) ∧ ZW zG d 244 5 ls (st) (sfi z r 5 a) Q) := zw_putZ rfl
theorem s244_5 {x0 x1 x2 x3 x4 x5 : Value} : ZW zG d 244 5 [x0, x1, x2, x3, x4, x5] st z Q = (zir x0 = true ∧ ZW zG d 244 6 [x0, x1, x2, x3, x4, x5] (x0 :: st) z Q) := zw_cond (f := z_aload 0 6) rfl rfl
theorem s244_6 {ls : List Value} {r : Nat} : ZW zG d 244 6 ls (.ref r :: st) z Q = ((zcls z r = 20 ∧ zir (zfr z r 0) = true) ∧ ZW zG d 244 9 ls (zfr z r 0 :: st) (z) Q) := zw_getR rfl
theorem s244_9 {x0 x1 x2 x3 x4 x5 : Value} : ZW zG d 244 9 [x0, x1, x2, x3, x4, x5] st z Q = (zir x1 = true ∧ ZW zG d 244 10 [x0, x1, x2, x3, x4, x5] (x1 :: st) z Q) := zw_cond (f := z_aload 1 10) rfl rfl
theorem s244_10 {ls : List Value} {w0 : Nat} {r k1 : Nat} (hk : [(17, 238), (18, 240), (19, 242)].lookup (zcls z r) = some k1) (hfit : (zent [.ref r, .ref w0]).length ≤ zMl k1) : ZW zG (d + 1) 244 10 ls (.ref w0 :: .ref r :: st) z Q = (zcs st = true ∧ ZC zG d k1 [.ref r, .ref w0] z (zk zG (d + 1) 244 none 13 ls st Q)) := zc_U1 rfl hk hfit
theorem s244_13 {x0 x1 x2 x3 x4 x5 : Value} {a : Int64} : ZW zG d 244 13 [x0, x1, x2, x3, x4, x5] (.long a :: st) z Q = ZW zG d 244 14 [x0, zclr x1, .long a, zdum, x4, x5] st z Q := zw_next (f := z_lstore 2 14) rfl rfl
theorem s244_14 {x0 x1 x2 x3 x4 x5 : Value} : ZW zG d 244 14 [x0, x1, x2, x3, x4, x5] st z Q = (zir x0 = true ∧ ZW zG d 244 15 [x0, x1, x2, x3, x4, x5] (x0 :: st) z Q) := zw_cond (f := z_aload 0 15) rfl rfl
theorem s244_15 {ls : List Value} {r : Nat} : ZW zG d 244 15 ls (.ref r :: st) z Q = ((zcls z r = 20 ∧ zir (zfr z r 1) = true) ∧ ZW zG d 244 18 ls (zfr z r 1 :: st) (z) Q) := zw_getR rfl
theorem s244_18 {x0 x1 x2 x3 x4 x5 : Value} : ZW zG d 244 18 [x0, x1, x2, x3, x4, x5] st z Q = (zir x1 = true ∧ ZW zG d 244 19 [x0, x1, x2, x3, x4, x5] (x1 :: st) z Q) := zw_cond (f := z_aload 1 19) rfl rfl
theorem s244_19 {ls : List Value} {w0 : Nat} {r k1 : Nat} (hk : [(17, 238), (18, 240), (19, 242)].lookup (zcls z r) = some k1) (hfit : (zent [.ref r, .ref w0]).length ≤ zMl k1) : ZW zG (d + 1) 244 19 ls (.ref w0 :: .ref r :: st) z Q = (zcs st = true ∧ ZC zG d k1 [.ref r, .ref w0] z (zk zG (d + 1) 244 none 22 ls st Q)) := zc_U1 rfl hk hfit
theorem s244_22 {x0 x1 x2 x3 x4 x5 : Value} {a : Int64} : ZW zG d 244 22 [x0, x1, x2, x3, x4, x5] (.long a :: st) z Q = ZW zG d 244 24 [x0, x1, x2, zclr x3, .long a, zdum] st z Q := zw_next (f := z_lstore 4 24) rfl rfl
theorem s244_24 {x0 x1 x2 x3 x4 x5 : Value} : ZW zG d 244 24 [x0, x1, x2, x3, x4, x5] st z Q = (zir x1 = true ∧ ZW zG d 244 25 [x0, x1, x2, x3, x4, x5] (x1 :: st) z Q) := zw_cond (f := z_aload 1 25) rfl rfl
theorem s244_25 {ls : List Value} {r : Nat} : ZW zG d 244 25 ls (.ref r :: st) z Q = ((zcls z r = 4) ∧ ZW zG d 244 28 ls (.int (zfi z r 5) :: st) (z) Q) := zw_getI rfl
theorem s244_28 {ls : List Value} {a : Int32} : ZW zG d 244 28 ls (.int a :: st) z Q = if ¬ a = 0 then ZW zG d 244 77 ls st z Q else ZW zG d 244 31 ls st z Q := zw_ifne rfl
theorem s244_31 {x0 x1 x2 x3 x4 x5 : Value} : ZW zG d 244 31 [x0, x1, x2, x3, x4, x5] st z Q = (zir x0 = true ∧ ZW zG d 244 32 [x0, x1, x2, x3, x4, x5] (x0 :: st) z Q) := zw_cond (f := z_aload 0 32) rfl rfl
theorem s244_32 {ls : List Value} {r : Nat} : ZW zG d 244 32 ls (.ref r :: st) z Q = ((zcls z r = 20) ∧ ZW zG d 244 35 ls (.int (zfi z r 2) :: st) (z) Q) := zw_getI rfl
theorem s244_35 {ls : List Value} {a : Int32} : ZW zG d 244 35 ls (.int a :: st) z Q = if ¬ a = 0 then ZW zG d 244 48 ls st z Q else ZW zG d 244 38 ls st z Q := zw_ifne rfl
theorem s244_38 {x0 x1 x3 x4 x5 : Value} {a : Int64} : ZW zG d 244 38 [x0, x1, .long a, x3, x4, x5] st z Q = ZW zG d 244 39 [x0, x1, .long a, x3, x4, x5] (.long a :: st) z Q := zw_next (f := z_lload 2 39) rfl rfl
theorem s244_39 {x0 x1 x2 x3 x5 : Value} {a : Int64} : ZW zG d 244 39 [x0, x1, x2, x3, .long a, x5] st z Q = ZW zG d 244 41 [x0, x1, x2, x3, .long a, x5] (.long a :: st) z Q := zw_next (f := z_lload 4 41) rfl rfl
theorem s244_41 {ls : List Value} {x y : Int64} : ZW zG d 244 41 ls (.long y :: .long x :: st) z Q = ZW zG d 244 42 ls (.int (lg_cmp x y) :: st) z Q := zw_lcmp rfl
theorem s244_42 {ls : List Value} {a : Int32} : ZW zG d 244 42 ls (.int a :: st) z Q = if a ≤ 0 then ZW zG d 244 77 ls st z Q else ZW zG d 244 45 ls st z Q := zw_ifle rfl
theorem s244_45 {ls : List Value}  : ZW zG d 244 45 ls (st) z Q = ZW zG d 244 73 ls st z Q := zw_goto rfl
theorem s244_48 {x0 x1 x2 x3 x4 x5 : Value} : ZW zG d 244 48 [x0, x1, x2, x3, x4, x5] st z Q = (zir x0 = true ∧ ZW zG d 244 49 [x0, x1, x2, x3, x4, x5] (x0 :: st) z Q) := zw_cond (f := z_aload 0 49) rfl rfl
theorem s244_49 {ls : List Value} {r : Nat} : ZW zG d 244 49 ls (.ref r :: st) z Q = ((zcls z r = 20) ∧ ZW zG d 244 52 ls (.int (zfi z r 2) :: st) (z) Q) := zw_getI rfl
theorem s244_52 {ls : List Value}  : ZW zG d 244 52 ls (st) z Q = ZW zG d 244 53 ls ((.int (nI 1)) :: st) z Q := zw_push rfl
theorem s244_53 {ls : List Value} {a b : Int32} : ZW zG d 244 53 ls (.int b :: .int a :: st) z Q = if ¬ a = b then ZW zG d 244 66 ls st z Q else ZW zG d 244 56 ls st z Q := zw_icne rfl
theorem s244_56 {x0 x1 x3 x4 x5 : Value} {a : Int64} : ZW zG d 244 56 [x0, x1, .long a, x3, x4, x5] st z Q = ZW zG d 244 57 [x0, x1, .long a, x3, x4, x5] (.long a :: st) z Q := zw_next (f := z_lload 2 57) rfl rfl
theorem s244_57 {x0 x1 x2 x3 x5 : Value} {a : Int64} : ZW zG d 244 57 [x0, x1, x2, x3, .long a, x5] st z Q = ZW zG d 244 59 [x0, x1, x2, x3, .long a, x5] (.long a :: st) z Q := zw_next (f := z_lload 4 59) rfl rfl
theorem s244_59 {ls : List Value} {x y : Int64} : ZW zG d 244 59 ls (.long y :: .long x :: st) z Q = ZW zG d 244 60 ls (.int (lg_cmp x y) :: st) z Q := zw_lcmp rfl
theorem s244_60 {ls : List Value} {a : Int32} : ZW zG d 244 60 ls (.int a :: st) z Q = if 0 ≤ a then ZW zG d 244 77 ls st z Q else ZW zG d 244 63 ls st z Q := zw_ifge rfl
theorem s244_63 {ls : List Value}  : ZW zG d 244 63 ls (st) z Q = ZW zG d 244 73 ls st z Q := zw_goto rfl
theorem s244_66 {x0 x1 x3 x4 x5 : Value} {a : Int64} : ZW zG d 244 66 [x0, x1, .long a, x3, x4, x5] st z Q = ZW zG d 244 67 [x0, x1, .long a, x3, x4, x5] (.long a :: st) z Q := zw_next (f := z_lload 2 67) rfl rfl
theorem s244_67 {x0 x1 x2 x3 x5 : Value} {a : Int64} : ZW zG d 244 67 [x0, x1, x2, x3, .long a, x5] st z Q = ZW zG d 244 69 [x0, x1, x2, x3, .long a, x5] (.long a :: st) z Q := zw_next (f := z_lload 4 69) rfl rfl
theorem s244_69 {ls : List Value} {x y : Int64} : ZW zG d 244 69 ls (.long y :: .long x :: st) z Q = ZW zG d 244 70 ls (.int (lg_cmp x y) :: st) z Q := zw_lcmp rfl
theorem s244_70 {ls : List Value} {a : Int32} : ZW zG d 244 70 ls (.int a :: st) z Q = if ¬ a = 0 then ZW zG d 244 77 ls st z Q else ZW zG d 244 73 ls st z Q := zw_ifne rfl
theorem s244_73 {ls : List Value}  : ZW zG d 244 73 ls (st) z Q = ZW zG d 244 74 ls ((.int (nI 1)) :: st) z Q := zw_push rfl
theorem s244_74 {ls : List Value}  : ZW zG d 244 74 ls (st) z Q = ZW zG d 244 78 ls st z Q := zw_goto rfl
theorem s244_77 {ls : List Value}  : ZW zG d 244 77 ls (st) z Q = ZW zG d 244 78 ls ((.int (nI 0)) :: st) z Q := zw_push rfl
theorem s244_78 {ls : List Value} {a : Int32} : ZW zG d 244 78 ls ([.int a]) z Q = ((a = 0 ∨ a = 1) ∧ Q (.inl (some (.int a))) z) := zw_retz rfl
/-- X21_init ()V -/
theorem e245 {r0 : Nat} : ZC zG d 245 [.ref r0] z Q = ZW zG d 245 0 [.ref r0] [] z Q := rfl
theorem s245_0 {x0 : Value} : ZW zG d 245 0 [x0] st z Q = (zir x0 = true ∧ ZW zG d 245 1 [x0] (x0 :: st) z Q) := zw_cond (f := z_aload 0 1) rfl rfl
theorem s245_1 {ls : List Value} {r : Nat} : ZW zG d 245 1 ls (.ref r :: st) z Q = ((zcs st = true) ∧ ZW zG d 245 4 ls (st) (z) Q) := zw_oinit rfl
theorem s245_4 {ls : List Value}  : ZW zG d 245 4 ls ([]) z Q = Q (.inl none) z := zw_ret rfl
/-- X21_isThere (I)Z -/
theorem e246 {r0 : Nat} {v0 : Int32} : ZC zG d 246 [.ref r0, .int v0] z Q = ZW zG d 246 0 [.ref r0, .int v0] [] z Q := rfl
theorem s246_0 {x0 : Value} {a : Int32} : ZW zG d 246 0 [x0, .int a] st z Q = ZW zG d 246 1 [x0, .int a] (.int a :: st) z Q := zw_next (f := z_iload 1 1) rfl rfl
theorem s246_1 {x0 x1 : Value} : ZW zG d 246 1 [x0, x1] st z Q = (zir x0 = true ∧ ZW zG d 246 2 [x0, x1] (x0 :: st) z Q) := zw_cond (f := z_aload 0 2) rfl rfl
theorem s246_2 {ls : List Value} {r : Nat} : ZW zG d 246 2 ls (.ref r :: st) z Q = ((zcls z r = 21) ∧ ZW zG d 246 5 ls (.int (zfi z r 6) :: st) (z) Q) := zw_getI rfl
theorem s246_5 {ls : List Value} {a b : Int32} : ZW zG d 246 5 ls (.int b :: .int a :: st) z Q = if a < b then ZW zG d 246 12 ls st z Q else ZW zG d 246 8 ls st z Q := zw_iclt rfl
theorem s246_8 {ls : List Value}  : ZW zG d 246 8 ls (st) z Q = ZW zG d 246 9 ls ((.int (nI 1)) :: st) z Q := zw_push rfl
theorem s246_9 {ls : List Value}  : ZW zG d 246 9 ls (st) z Q = ZW zG d 246 13 ls st z Q := zw_goto rfl
theorem s246_12 {ls : List Value}  : ZW zG d 246 12 ls (st) z Q = ZW zG d 246 13 ls ((.int (nI 0)) :: st) z Q := zw_push rfl
theorem s246_13 {ls : List Value} {a : Int32} : ZW zG d 246 13 ls ([.int a]) z Q = ((a = 0 ∨ a = 1) ∧ Q (.inl (some (.int a))) z) := zw_retz rfl
/-- X21_waits (I)Z -/
theorem e247 {r0 : Nat} {v0 : Int32} : ZC zG d 247 [.ref r0, .int v0] z Q = ZW zG d 247 0 [.ref r0, .int v0] [] z Q := rfl
theorem s247_0 {x0 x1 : Value} : ZW zG d 247 0 [x0, x1] st z Q = (zir x0 = true ∧ ZW zG d 247 1 [x0, x1] (x0 :: st) z Q) := zw_cond (f := z_aload 0 1) rfl rfl
theorem s247_1 {ls : List Value} {r : Nat} : ZW zG d 247 1 ls (.ref r :: st) z Q = ((zcls z r = 21) ∧ ZW zG d 247 4 ls (.int (zfi z r 7) :: st) (z) Q) := zw_getI rfl
theorem s247_4 {ls : List Value} {a : Int32} : ZW zG d 247 4 ls (.int a :: st) z Q = if a ≤ 0 then ZW zG d 247 24 ls st z Q else ZW zG d 247 7 ls st z Q := zw_ifle rfl
theorem s247_7 {x0 : Value} {a : Int32} : ZW zG d 247 7 [x0, .int a] st z Q = ZW zG d 247 8 [x0, .int a] (.int a :: st) z Q := zw_next (f := z_iload 1 8) rfl rfl
theorem s247_8 {x0 x1 : Value} : ZW zG d 247 8 [x0, x1] st z Q = (zir x0 = true ∧ ZW zG d 247 9 [x0, x1] (x0 :: st) z Q) := zw_cond (f := z_aload 0 9) rfl rfl
theorem s247_9 {ls : List Value} {r : Nat} : ZW zG d 247 9 ls (.ref r :: st) z Q = ((zcls z r = 21) ∧ ZW zG d 247 12 ls (.int (zfi z r 6) :: st) (z) Q) := zw_getI rfl
theorem s247_12 {x0 x1 : Value} : ZW zG d 247 12 [x0, x1] st z Q = (zir x0 = true ∧ ZW zG d 247 13 [x0, x1] (x0 :: st) z Q) := zw_cond (f := z_aload 0 13) rfl rfl
theorem s247_13 {ls : List Value} {r : Nat} : ZW zG d 247 13 ls (.ref r :: st) z Q = ((zcls z r = 21) ∧ ZW zG d 247 16 ls (.int (zfi z r 7) :: st) (z) Q) := zw_getI rfl
theorem s247_16 {ls : List Value} {a b : Int32} : ZW zG d 247 16 ls (.int b :: .int a :: st) z Q = ZW zG d 247 17 ls (.int (a + b) :: st) z Q := zw_iadd rfl
theorem s247_17 {ls : List Value} {a b : Int32} : ZW zG d 247 17 ls (.int b :: .int a :: st) z Q = if b < a then ZW zG d 247 24 ls st z Q else ZW zG d 247 20 ls st z Q := zw_icgt rfl
theorem s247_20 {ls : List Value}  : ZW zG d 247 20 ls (st) z Q = ZW zG d 247 21 ls ((.int (nI 1)) :: st) z Q := zw_push rfl
theorem s247_21 {ls : List Value}  : ZW zG d 247 21 ls (st) z Q = ZW zG d 247 25 ls st z Q := zw_goto rfl
theorem s247_24 {ls : List Value}  : ZW zG d 247 24 ls (st) z Q = ZW zG d 247 25 ls ((.int (nI 0)) :: st) z Q := zw_push rfl
theorem s247_25 {ls : List Value} {a : Int32} : ZW zG d 247 25 ls ([.int a]) z Q = ((a = 0 ∨ a = 1) ∧ Q (.inl (some (.int a))) z) := zw_retz rfl
/-- X21_far (LCardBowl$House;)I -/
theorem e248 {r0 : Nat} {v0 : Nat} : ZC zG d 248 [.ref r0, .ref v0] z Q = ZW zG d 248 0 [.ref r0, .ref v0] [] z Q := rfl
theorem s248_0 {x0 x1 : Value} : ZW zG d 248 0 [x0, x1] st z Q = (zir x0 = true ∧ ZW zG d 248 1 [x0, x1] (x0 :: st) z Q) := zw_cond (f := z_aload 0 1) rfl rfl
theorem s248_1 {ls : List Value} {r : Nat} : ZW zG d 248 1 ls (.ref r :: st) z Q = ((zcls z r = 21) ∧ ZW zG d 248 4 ls (.int (zfi z r 0) :: st) (z) Q) := zw_getI rfl
theorem s248_4 {x0 x1 : Value} : ZW zG d 248 4 [x0, x1] st z Q = (zir x1 = true ∧ ZW zG d 248 5 [x0, x1] (x1 :: st) z Q) := zw_cond (f := z_aload 1 5) rfl rfl
theorem s248_5 {ls : List Value} {r : Nat} : ZW zG d 248 5 ls (.ref r :: st) z Q = ((zcls z r = 21) ∧ ZW zG d 248 8 ls (.int (zfi z r 0) :: st) (z) Q) := zw_getI rfl
theorem s248_8 {ls : List Value} {a b : Int32} : ZW zG d 248 8 ls (.int b :: .int a :: st) z Q = ZW zG d 248 9 ls (.int (a - b) :: st) z Q := zw_isub rfl
theorem s248_9 {ls : List Value} {a : Int32} : ZW zG d 248 9 ls (.int a :: st) z Q = ((zcs st = true) ∧ ZW zG d 248 12 ls (.int (zabs a) :: st) (z) Q) := zw_mabs rfl
theorem s248_12 {x0 x1 : Value} : ZW zG d 248 12 [x0, x1] st z Q = (zir x0 = true ∧ ZW zG d 248 13 [x0, x1] (x0 :: st) z Q) := zw_cond (f := z_aload 0 13) rfl rfl
theorem s248_13 {ls : List Value} {r : Nat} : ZW zG d 248 13 ls (.ref r :: st) z Q = ((zcls z r = 21) ∧ ZW zG d 248 16 ls (.int (zfi z r 1) :: st) (z) Q) := zw_getI rfl
theorem s248_16 {x0 x1 : Value} : ZW zG d 248 16 [x0, x1] st z Q = (zir x1 = true ∧ ZW zG d 248 17 [x0, x1] (x1 :: st) z Q) := zw_cond (f := z_aload 1 17) rfl rfl
theorem s248_17 {ls : List Value} {r : Nat} : ZW zG d 248 17 ls (.ref r :: st) z Q = ((zcls z r = 21) ∧ ZW zG d 248 20 ls (.int (zfi z r 1) :: st) (z) Q) := zw_getI rfl
theorem s248_20 {ls : List Value} {a b : Int32} : ZW zG d 248 20 ls (.int b :: .int a :: st) z Q = ZW zG d 248 21 ls (.int (a - b) :: st) z Q := zw_isub rfl
theorem s248_21 {ls : List Value} {a : Int32} : ZW zG d 248 21 ls (.int a :: st) z Q = ((zcs st = true) ∧ ZW zG d 248 24 ls (.int (zabs a) :: st) (z) Q) := zw_mabs rfl
theorem s248_24 {ls : List Value} {a b : Int32} : ZW zG d 248 24 ls (.int b :: .int a :: st) z Q = ZW zG d 248 25 ls (.int (a + b) :: st) z Q := zw_iadd rfl
theorem s248_25 {ls : List Value} {a : Int32} : ZW zG d 248 25 ls ([.int a]) z Q = Q (.inl (some (.int a))) z := zw_reti rfl
/-- X22_init (IIII)V -/
theorem e249 {r0 : Nat} {v0 : Int32} {v1 : Int32} {v2 : Int32} {v3 : Int32} : ZC zG d 249 [.ref r0, .int v0, .int v1, .int v2, .int v3] z Q = ZW zG d 249 0 [.ref r0, .int v0, .int v1, .int v2, .int v3] [] z Q := rfl
theorem s249_0 {x0 x1 x2 x3 x4 : Value} : ZW zG d 249 0 [x0, x1, x2, x3, x4] st z Q = (zir x0 = true ∧ ZW zG d 249 1 [x0, x1, x2, x3, x4] (x0 :: st) z Q) := zw_cond (f := z_aload 0 1) rfl rfl
theorem s249_1 {ls : List Value} {r : Nat} : ZW zG d 249 1 ls (.ref r :: st) z Q = ((zcs st = true) ∧ ZW zG d 249 4 ls (st) (z) Q) := zw_oinit rfl
theorem s249_4 {x0 x1 x2 x3 x4 : Value} : ZW zG d 249 4 [x0, x1, x2, x3, x4] st z Q = (zir x0 = true ∧ ZW zG d 249 5 [x0, x1, x2, x3, x4] (x0 :: st) z Q) := zw_cond (f := z_aload 0 5) rfl rfl
theorem s249_5 {x0 x2 x3 x4 : Value} {a : Int32} : ZW zG d 249 5 [x0, .int a, x2, x3, x4] st z Q = ZW zG d 249 6 [x0, .int a, x2, x3, x4] (.int a :: st) z Q := zw_next (f := z_iload 1 6) rfl rfl
theorem s249_6 {ls : List Value} {a : Int32} {r : Nat} : ZW zG d 249 6 ls (.int a :: .ref r :: st) z Q = ((zcls z r = 22) ∧ ZW zG d 249 9 ls (st) (sfi z r 0 a) Q) := zw_putI rfl
theorem s249_9 {x0 x1 x2 x3 x4 : Value} : ZW zG d 249 9 [x0, x1, x2, x3, x4] st z Q = (zir x0 = true ∧ ZW zG d 249 10 [x0, x1, x2, x3, x4] (x0 :: st) z Q) := zw_cond (f := z_aload 0 10) rfl rfl
theorem s249_10 {x0 x1 x3 x4 : Value} {a : Int32} : ZW zG d 249 10 [x0, x1, .int a, x3, x4] st z Q = ZW zG d 249 11 [x0, x1, .int a, x3, x4] (.int a :: st) z Q := zw_next (f := z_iload 2 11) rfl rfl
theorem s249_11 {ls : List Value} {a : Int32} {r : Nat} : ZW zG d 249 11 ls (.int a :: .ref r :: st) z Q = ((zcls z r = 22) ∧ ZW zG d 249 14 ls (st) (sfi z r 1 a) Q) := zw_putI rfl
theorem s249_14 {x0 x1 x2 x3 x4 : Value} : ZW zG d 249 14 [x0, x1, x2, x3, x4] st z Q = (zir x0 = true ∧ ZW zG d 249 15 [x0, x1, x2, x3, x4] (x0 :: st) z Q) := zw_cond (f := z_aload 0 15) rfl rfl
theorem s249_15 {x0 x1 x2 x4 : Value} {a : Int32} : ZW zG d 249 15 [x0, x1, x2, .int a, x4] st z Q = ZW zG d 249 16 [x0, x1, x2, .int a, x4] (.int a :: st) z Q := zw_next (f := z_iload 3 16) rfl rfl
theorem s249_16 {ls : List Value} {a : Int32} {r : Nat} : ZW zG d 249 16 ls (.int a :: .ref r :: st) z Q = ((zcls z r = 22) ∧ ZW zG d 249 19 ls (st) (sfi z r 2 a) Q) := zw_putI rfl
theorem s249_19 {x0 x1 x2 x3 x4 : Value} : ZW zG d 249 19 [x0, x1, x2, x3, x4] st z Q = (zir x0 = true ∧ ZW zG d 249 20 [x0, x1, x2, x3, x4] (x0 :: st) z Q) := zw_cond (f := z_aload 0 20) rfl rfl
theorem s249_20 {x0 x1 x2 x3 : Value} {a : Int32} : ZW zG d 249 20 [x0, x1, x2, x3, .int a] st z Q = ZW zG d 249 22 [x0, x1, x2, x3, .int a] (.int a :: st) z Q := zw_next (f := z_iload 4 22) rfl rfl
theorem s249_22 {ls : List Value} {a : Int32} {r : Nat} : ZW zG d 249 22 ls (.int a :: .ref r :: st) z Q = ((zcls z r = 22) ∧ ZW zG d 249 25 ls (st) (sfi z r 3 a) Q) := zw_putI rfl
theorem s249_25 {ls : List Value}  : ZW zG d 249 25 ls ([]) z Q = Q (.inl none) z := zw_ret rfl
/-- X23_init (IIIII)V -/
theorem e250 {r0 : Nat} {v0 : Int32} {v1 : Int32} {v2 : Int32} {v3 : Int32} {v4 : Int32} : ZC zG d 250 [.ref r0, .int v0, .int v1, .int v2, .int v3, .int v4] z Q = ZW zG d 250 0 [.ref r0, .int v0, .int v1, .int v2, .int v3, .int v4] [] z Q := rfl
theorem s250_0 {x0 x1 x2 x3 x4 x5 : Value} : ZW zG d 250 0 [x0, x1, x2, x3, x4, x5] st z Q = (zir x0 = true ∧ ZW zG d 250 1 [x0, x1, x2, x3, x4, x5] (x0 :: st) z Q) := zw_cond (f := z_aload 0 1) rfl rfl
theorem s250_1 {ls : List Value} {r : Nat} : ZW zG d 250 1 ls (.ref r :: st) z Q = ((zcs st = true) ∧ ZW zG d 250 4 ls (st) (z) Q) := zw_oinit rfl
theorem s250_4 {x0 x1 x2 x3 x4 x5 : Value} : ZW zG d 250 4 [x0, x1, x2, x3, x4, x5] st z Q = (zir x0 = true ∧ ZW zG d 250 5 [x0, x1, x2, x3, x4, x5] (x0 :: st) z Q) := zw_cond (f := z_aload 0 5) rfl rfl
theorem s250_5 {x0 x2 x3 x4 x5 : Value} {a : Int32} : ZW zG d 250 5 [x0, .int a, x2, x3, x4, x5] st z Q = ZW zG d 250 6 [x0, .int a, x2, x3, x4, x5] (.int a :: st) z Q := zw_next (f := z_iload 1 6) rfl rfl
theorem s250_6 {ls : List Value} {a : Int32} {r : Nat} : ZW zG d 250 6 ls (.int a :: .ref r :: st) z Q = ((zcls z r = 23) ∧ ZW zG d 250 9 ls (st) (sfi z r 0 a) Q) := zw_putI rfl
theorem s250_9 {x0 x1 x2 x3 x4 x5 : Value} : ZW zG d 250 9 [x0, x1, x2, x3, x4, x5] st z Q = (zir x0 = true ∧ ZW zG d 250 10 [x0, x1, x2, x3, x4, x5] (x0 :: st) z Q) := zw_cond (f := z_aload 0 10) rfl rfl
theorem s250_10 {x0 x1 x3 x4 x5 : Value} {a : Int32} : ZW zG d 250 10 [x0, x1, .int a, x3, x4, x5] st z Q = ZW zG d 250 11 [x0, x1, .int a, x3, x4, x5] (.int a :: st) z Q := zw_next (f := z_iload 2 11) rfl rfl
theorem s250_11 {ls : List Value} {a : Int32} {r : Nat} : ZW zG d 250 11 ls (.int a :: .ref r :: st) z Q = ((zcls z r = 23) ∧ ZW zG d 250 14 ls (st) (sfi z r 1 a) Q) := zw_putI rfl
theorem s250_14 {x0 x1 x2 x3 x4 x5 : Value} : ZW zG d 250 14 [x0, x1, x2, x3, x4, x5] st z Q = (zir x0 = true ∧ ZW zG d 250 15 [x0, x1, x2, x3, x4, x5] (x0 :: st) z Q) := zw_cond (f := z_aload 0 15) rfl rfl
theorem s250_15 {x0 x1 x2 x4 x5 : Value} {a : Int32} : ZW zG d 250 15 [x0, x1, x2, .int a, x4, x5] st z Q = ZW zG d 250 16 [x0, x1, x2, .int a, x4, x5] (.int a :: st) z Q := zw_next (f := z_iload 3 16) rfl rfl
theorem s250_16 {ls : List Value} {a : Int32} {r : Nat} : ZW zG d 250 16 ls (.int a :: .ref r :: st) z Q = ((zcls z r = 23) ∧ ZW zG d 250 19 ls (st) (sfi z r 2 a) Q) := zw_putI rfl
theorem s250_19 {x0 x1 x2 x3 x4 x5 : Value} : ZW zG d 250 19 [x0, x1, x2, x3, x4, x5] st z Q = (zir x0 = true ∧ ZW zG d 250 20 [x0, x1, x2, x3, x4, x5] (x0 :: st) z Q) := zw_cond (f := z_aload 0 20) rfl rfl
theorem s250_20 {x0 x1 x2 x3 x5 : Value} {a : Int32} : ZW zG d 250 20 [x0, x1, x2, x3, .int a, x5] st z Q = ZW zG d 250 22 [x0, x1, x2, x3, .int a, x5] (.int a :: st) z Q := zw_next (f := z_iload 4 22) rfl rfl
theorem s250_22 {ls : List Value} {a : Int32} {r : Nat} : ZW zG d 250 22 ls (.int a :: .ref r :: st) z Q = ((zcls z r = 23) ∧ ZW zG d 250 25 ls (st) (sfi z r 3 a) Q) := zw_putI rfl
theorem s250_25 {x0 x1 x2 x3 x4 x5 : Value} : ZW zG d 250 25 [x0, x1, x2, x3, x4, x5] st z Q = (zir x0 = true ∧ ZW zG d 250 26 [x0, x1, x2, x3, x4, x5] (x0 :: st) z Q) := zw_cond (f := z_aload 0 26) rfl rfl
theorem s250_26 {x0 x1 x2 x3 x4 : Value} {a : Int32} : ZW zG d 250 26 [x0, x1, x2, x3, x4, .int a] st z Q = ZW zG d 250 28 [x0, x1, x2, x3, x4, .int a] (.int a :: st) z Q := zw_next (f := z_iload 5 28) rfl rfl
theorem s250_28 {ls : List Value} {a : Int32} {r : Nat} : ZW zG d 250 28 ls (.int a :: .ref r :: st) z Q = ((zcls z r = 23) ∧ ZW zG d 250 31 ls (st) (sfi z r 4 a) Q) := zw_putI rfl
theorem s250_31 {ls : List Value}  : ZW zG d 250 31 ls ([]) z Q = Q (.inl none) z := zw_ret rfl
end ZSITE
