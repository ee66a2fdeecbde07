set_option maxRecDepth 100000
section ZSITE
variable {d : Nat} {st : List Value} {z : ZH} {Q : ZQ}
/-- X12_init ()V -/
theorem e112 {r0 : Nat} : ZC zG d 112 [.ref r0] z Q = ZW zG d 112 0 [.ref r0] [] z Q := rfl
theorem s112_0 {x0 : Value} : ZW zG d 112 0 [x0] st z Q = (zir x0 = true ∧ ZW zG d 112 1 [x0] (x0 :: st) z Q) := zw_cond (f := z_aload 0 1) rfl rfl
theorem s112_1 {ls : List Value} {r : Nat} : ZW zG d 112 1 ls (.ref r :: st) z Q = ((zcs st = true) ∧ ZW zG d 112 4 ls (st) (z) Q) := zw_oinit rfl
theorem s112_4 {x0 : Value} : ZW zG d 112 4 [x0] st z Q = (zir x0 = true ∧ ZW zG d 112 5 [x0] (x0 :: st) z Q) := zw_cond (f := z_aload 0 5) rfl rfl
theorem s112_5 {ls : List Value}  : ZW zG d 112 5 ls (st) z Q = ZW zG d 112 8 ls ((.int (nI 9080)) :: st) z Q := zw_push rfl
theorem s112_8 {ls : List Value} {a : Int32} : ZW zG d 112 8 ls (.int a :: st) z Q = ((zin a 1000000 = true) ∧ ZW zG d 112 10 ls (.ref (zn z) :: st) (sarr z 50 (zx a)) Q) := zw_newa rfl
theorem s112_10 {ls : List Value} {v : Value} {r : Nat} : ZW zG d 112 10 ls (v :: .ref r :: st) z Q = ((zcls z r = 12 ∧ zir v = true) ∧ ZW zG d 112 13 ls (st) (sfr z r 1 v) Q) := zw_putR rfl
theorem s112_13 {x0 : Value} : ZW zG d 112 13 [x0] st z Q = (zir x0 = true ∧ ZW zG d 112 14 [x0] (x0 :: st) z Q) := zw_cond (f := z_aload 0 14) rfl rfl
theorem s112_14 {ls : List Value}  : ZW zG d 112 14 ls (st) z Q = ZW zG d 112 17 ls ((.int (nI 27240)) :: st) z Q := zw_push rfl
theorem s112_17 {ls : List Value} {a : Int32} : ZW zG d 112 17 ls (.int a :: st) z Q = ((zin a 1000000 = true) ∧ ZW zG d 112 19 ls (.ref (zn z) :: st) (sarr z 50 (zx a)) Q) := zw_newa rfl
theorem s112_19 {ls : List Value} {v : Value} {r : Nat} : ZW zG d 112 19 ls (v :: .ref r :: st) z Q = ((zcls z r = 12 ∧ zir v = true) ∧ ZW zG d 112 22 ls (st) (sfr z r 2 v) Q) := zw_putR rfl
theorem s112_22 {x0 : Value} : ZW zG d 112 22 [x0] st z Q = (zir x0 = true ∧ ZW zG d 112 23 [x0] (x0 :: st) z Q) := zw_cond (f := z_aload 0 23) rfl rfl
theorem s112_23 {ls : List Value}  : ZW zG d 112 23 ls (st) z Q = ZW zG d 112 24 ls ((.int (nI 3)) :: st) z Q := zw_push rfl
theorem s112_24 {ls : List Value} {a : Int32} : ZW zG d 112 24 ls (.int a :: st) z Q = ((zin a 1000000 = true) ∧ ZW zG d 112 26 ls (.ref (zn z) :: st) (sarr z 54 (zx a)) Q) := zw_newa rfl
theorem s112_26 {ls : List Value} {v : Value} {r : Nat} : ZW zG d 112 26 ls (v :: .ref r :: st) z Q = ((zcls z r = 12 ∧ zir v = true) ∧ ZW zG d 112 29 ls (st) (sfr z r 3 v) Q) := zw_putR rfl
theorem s112_29 {x0 : Value} : ZW zG d 112 29 [x0] st z Q = (zir x0 = true ∧ ZW zG d 112 30 [x0] (x0 :: st) z Q) := zw_cond (f := z_aload 0 30) rfl rfl
theorem s112_30 {ls : List Value}  : ZW zG d 112 30 ls (st) z Q = ZW zG d 112 33 ls ((.int (nI 1400)) :: st) z Q := zw_push rfl
theorem s112_33 {ls : List Value} {a : Int32} : ZW zG d 112 33 ls (.int a :: st) z Q = ((zin a 1000000 = true) ∧ ZW zG d 112 35 ls (.ref (zn z) :: st) (sarr z 52 (zx a)) Q) := zw_newa rfl
theorem s112_35 {ls : List Value} {v : Value} {r : Nat} : ZW zG d 112 35 ls (v :: .ref r :: st) z Q = ((zcls z r = 12 ∧ zir v = true) ∧ ZW zG d 112 38 ls (st) (sfr z r 4 v) Q) := zw_putR rfl
theorem s112_38 {x0 : Value} : ZW zG d 112 38 [x0] st z Q = (zir x0 = true ∧ ZW zG d 112 39 [x0] (x0 :: st) z Q) := zw_cond (f := z_aload 0 39) rfl rfl
theorem s112_39 {ls : List Value}  : ZW zG d 112 39 ls (st) z Q = ZW zG d 112 40 ls ((.int (nI 5)) :: st) z Q := zw_push rfl
theorem s112_40 {ls : List Value} {a : Int32} : ZW zG d 112 40 ls (.int a :: st) z Q = ((zin a 1000000 = true) ∧ ZW zG d 112 42 ls (.ref (zn z) :: st) (sarr z 50 (zx a)) Q) := zw_newa rfl
theorem s112_42 {ls : List Value} {v : Value} {r : Nat} : ZW zG d 112 42 ls (v :: .ref r :: st) z Q = ((zcls z r = 12 ∧ zir v = true) ∧ ZW zG d 112 45 ls (st) (sfr z r 6 v) Q) := zw_putR rfl
theorem s112_45 {x0 : Value} : ZW zG d 112 45 [x0] st z Q = (zir x0 = true ∧ ZW zG d 112 46 [x0] (x0 :: st) z Q) := zw_cond (f := z_aload 0 46) rfl rfl
theorem s112_46 {ls : List Value}  : ZW zG d 112 46 ls (st) z Q = ZW zG d 112 47 ls ((.int (-1)) :: st) z Q := zw_push rfl
theorem s112_47 {ls : List Value} {a : Int32} {r : Nat} : ZW zG d 112 47 ls (.int a :: .ref r :: st) z Q = ((zcls z r = 12) ∧ ZW zG d 112 50 ls (st) (sfi z r 13 a) Q) := zw_putI rfl
theorem s112_50 {x0 : Value} : ZW zG d 112 50 [x0] st z Q = (zir x0 = true ∧ ZW zG d 112 51 [x0] (x0 :: st) z Q) := zw_cond (f := z_aload 0 51) rfl rfl
theorem s112_51 {ls : List Value}  : ZW zG d 112 51 ls (st) z Q = ZW zG d 112 54 ls ((.int (nI 9080)) :: st) z Q := zw_push rfl
theorem s112_54 {ls : List Value} {a : Int32} : ZW zG d 112 54 ls (.int a :: st) z Q = ((zin a 1000000 = true) ∧ ZW zG d 112 56 ls (.ref (zn z) :: st) (sarr z 50 (zx a)) Q) := zw_newa rfl
theorem s112_56 {ls : List Value} {v : Value} {r : Nat} : ZW zG d 112 56 ls (v :: .ref r :: st) z Q = ((zcls z r = 12 ∧ zir v = true) ∧ ZW zG d 112 59 ls (st) (sfr z r 14 v) Q) := zw_putR rfl
theorem s112_59 {x0 : Value} : ZW zG d 112 59 [x0] st z Q = (zir x0 = true ∧ ZW zG d 112 60 [x0] (x0 :: st) z Q) := zw_cond (f := z_aload 0 60) rfl rfl
theorem s112_60 {ls : List Value}  : ZW zG d 112 60 ls (st) z Q = ZW zG d 112 62 ls ((.int (nI 6)) :: st) z Q := zw_push rfl
theorem s112_62 {ls : List Value} {a : Int32} : ZW zG d 112 62 ls (.int a :: st) z Q = ((zin a 1000000 = true) ∧ ZW zG d 112 64 ls (.ref (zn z) :: st) (sarr z 50 (zx a)) Q) := zw_newa rfl
theorem s112_64 {ls : List Value} {v : Value} {r : Nat} : ZW zG d 112 64 ls (v :: .ref r :: st) z Q = ((zcls z r = 12 ∧ zir v = true) ∧ ZW zG d 112 67 ls (st) (sfr z r 15 v) Q) := zw_putR rfl
theorem s112_67 {x0 : Value} : ZW zG d 112 67 [x0] st z Q = (zir x0 = true ∧ ZW zG d 112 68 [x0] (x0 :: st) z Q) := zw_cond (f := z_aload 0 68) rfl rfl
theorem s112_68 {ls : List Value}  : ZW zG d 112 68 ls (st) z Q = ZW zG d 112 70 ls ((.int (nI 16)) :: st) z Q := zw_push rfl
theorem s112_70 {ls : List Value} {a : Int32} : ZW zG d 112 70 ls (.int a :: st) z Q = ((zin a 1000000 = true) ∧ ZW zG d 112 72 ls (.ref (zn z) :: st) (sarr z 50 (zx a)) Q) := zw_newa rfl
theorem s112_72 {ls : List Value} {v : Value} {r : Nat} : ZW zG d 112 72 ls (v :: .ref r :: st) z Q = ((zcls z r = 12 ∧ zir v = true) ∧ ZW zG d 112 75 ls (st) (sfr z r 16 v) Q) := zw_putR rfl
theorem s112_75 {x0 : Value} : ZW zG d 112 75 [x0] st z Q = (zir x0 = true ∧ ZW zG d 112 76 [x0] (x0 :: st) z Q) := zw_cond (f := z_aload 0 76) rfl rfl
theorem s112_76 {ls : List Value}  : ZW zG d 112 76 ls (st) z Q = ZW zG d 112 78 ls ((.int (nI 16)) :: st) z Q := zw_push rfl
theorem s112_78 {ls : List Value} {a : Int32} : ZW zG d 112 78 ls (.int a :: st) z Q = ((zin a 1000000 = true) ∧ ZW zG d 112 80 ls (.ref (zn z) :: st) (sarr z 50 (zx a)) Q) := zw_newa rfl
theorem s112_80 {ls : List Value} {v : Value} {r : Nat} : ZW zG d 112 80 ls (v :: .ref r :: st) z Q = ((zcls z r = 12 ∧ zir v = true) ∧ ZW zG d 112 83 ls (st) (sfr z r 18 v) Q) := zw_putR rfl
theorem s112_83 {x0 : Value} : ZW zG d 112 83 [x0] st z Q = (zir x0 = true ∧ ZW zG d 112 84 [x0] (x0 :: st) z Q) := zw_cond (f := z_aload 0 84) rfl rfl
theorem s112_84 {ls : List Value}  : ZW zG d 112 84 ls (st) z Q = ZW zG d 112 86 ls ((.int (nI 16)) :: st) z Q := zw_push rfl
theorem s112_86 {ls : List Value} {a : Int32} : ZW zG d 112 86 ls (.int a :: st) z Q = ((zin a 1000000 = true) ∧ ZW zG d 112 88 ls (.ref (zn z) :: st) (sarr z 54 (zx a)) Q) := zw_newa rfl
theorem s112_88 {ls : List Value} {v : Value} {r : Nat} : ZW zG d 112 88 ls (v :: .ref r :: st) z Q = ((zcls z r = 12 ∧ zir v = true) ∧ ZW zG d 112 91 ls (st) (sfr z r 19 v) Q) := zw_putR rfl
theorem s112_91 {x0 : Value} : ZW zG d 112 91 [x0] st z Q = (zir x0 = true ∧ ZW zG d 112 92 [x0] (x0 :: st) z Q) := zw_cond (f := z_aload 0 92) rfl rfl
theorem s112_92 {ls : List Value}  : ZW zG d 112 92 ls (st) z Q = ZW zG d 112 95 ls ((.int (nI 10240)) :: st) z Q := zw_push rfl
theorem s112_95 {ls : List Value} {a : Int32} : ZW zG d 112 95 ls (.int a :: st) z Q = ((zin a 1000000 = true) ∧ ZW zG d 112 97 ls (.ref (zn z) :: st) (sarr z 50 (zx a)) Q) := zw_newa rfl
theorem s112_97 {ls : List Value} {v : Value} {r : Nat} : ZW zG d 112 97 ls (v :: .ref r :: st) z Q = ((zcls z r = 12 ∧ zir v = true) ∧ ZW zG d 112 100 ls (st) (sfr z r 20 v) Q) := zw_putR rfl
theorem s112_100 {x0 : Value} : ZW zG d 112 100 [x0] st z Q = (zir x0 = true ∧ ZW zG d 112 101 [x0] (x0 :: st) z Q) := zw_cond (f := z_aload 0 101) rfl rfl
theorem s112_101 {ls : List Value}  : ZW zG d 112 101 ls (st) z Q = ZW zG d 112 103 ls ((.int (nI 10)) :: st) z Q := zw_push rfl
theorem s112_103 {ls : List Value} {a : Int32} : ZW zG d 112 103 ls (.int a :: st) z Q = ((zin a 1000000 = true) ∧ ZW zG d 112 105 ls (.ref (zn z) :: st) (sarr z 50 (zx a)) Q) := zw_newa rfl
theorem s112_105 {ls : List Value} {v : Value} {r : Nat} : ZW zG d 112 105 ls (v :: .ref r :: st) z Q = ((zcls z r = 12 ∧ zir v = true) ∧ ZW zG d 112 108 ls (st) (sfr z r 24 v) Q) := zw_putR rfl
theorem s112_108 {x0 : Value} : ZW zG d 112 108 [x0] st z Q = (zir x0 = true ∧ ZW zG d 112 109 [x0] (x0 :: st) z Q) := zw_cond (f := z_aload 0 109) rfl rfl
theorem s112_109 {ls : List Value}  : ZW zG d 112 109 ls (st) z Q = ZW zG d 112 111 ls ((.int (nI 10)) :: st) z Q := zw_push rfl
theorem s112_111 {ls : List Value} {a : Int32} : ZW zG d 112 111 ls (.int a :: st) z Q = ((zin a 1000000 = true) ∧ ZW zG d 112 113 ls (.ref (zn z) :: st) (sarr z 50 (zx a)) Q) := zw_newa rfl
theorem s112_113 {ls : List Value} {v : Value} {r : Nat} : ZW zG d 112 113 ls (v :: .ref r :: st) z Q = ((zcls z r = 12 ∧ zir v = true) ∧ ZW zG d 112 116 ls (st) (sfr z r 25 v) Q) := zw_putR rfl
theorem s112_116 {x0 : Value} : ZW zG d 112 116 [x0] st z Q = (zir x0 = true ∧ ZW zG d 112 117 [x0] (x0 :: st) z Q) := zw_cond (f := z_aload 0 117) rfl rfl
theorem s112_117 {ls : List Value}  : ZW zG d 112 117 ls (st) z Q = ZW zG d 112 120 ls ((.int (nI 1024)) :: st) z Q := zw_push rfl
theorem s112_120 {ls : List Value} {a : Int32} : ZW zG d 112 120 ls (.int a :: st) z Q = ((zin a 1000000 = true) ∧ ZW zG d 112 122 ls (.ref (zn z) :: st) (sarr z 50 (zx a)) Q) := zw_newa rfl
theorem s112_122 {ls : List Value} {v : Value} {r : Nat} : ZW zG d 112 122 ls (v :: .ref r :: st) z Q = ((zcls z r = 12 ∧ zir v = true) ∧ ZW zG d 112 125 ls (st) (sfr z r 27 v) Q) := zw_putR rfl
theorem s112_125 {x0 : Value} : ZW zG d 112 125 [x0] st z Q = (zir x0 = true ∧ ZW zG d 112 126 [x0] (x0 :: st) z Q) := zw_cond (f := z_aload 0 126) rfl rfl
theorem s112_126 {ls : List Value}  : ZW zG d 112 126 ls (st) z Q = ZW zG d 112 129 ls ((.int (nI 1024)) :: st) z Q := zw_push rfl
theorem s112_129 {ls : List Value} {a : Int32} : ZW zG d 112 129 ls (.int a :: st) z Q = ((zin a 1000000 = true) ∧ ZW zG d 112 131 ls (.ref (zn z) :: st) (sarr z 50 (zx a)) Q) := zw_newa rfl
theorem s112_131 {ls : List Value} {v : Value} {r : Nat} : ZW zG d 112 131 ls (v :: .ref r :: st) z Q = ((zcls z r = 12 ∧ zir v = true) ∧ ZW zG d 112 134 ls (st) (sfr z r 28 v) Q) := zw_putR rfl
theorem s112_134 {x0 : Value} : ZW zG d 112 134 [x0] st z Q = (zir x0 = true ∧ ZW zG d 112 135 [x0] (x0 :: st) z Q) := zw_cond (f := z_aload 0 135) rfl rfl
theorem s112_135 {ls : List Value}  : ZW zG d 112 135 ls (st) z Q = ZW zG d 112 137 ls ((.int (nI 65536)) :: st) z Q := zw_push rfl
theorem s112_137 {ls : List Value} {a : Int32} : ZW zG d 112 137 ls (.int a :: st) z Q = ((zin a 1000000 = true) ∧ ZW zG d 112 139 ls (.ref (zn z) :: st) (sarr z 50 (zx a)) Q) := zw_newa rfl
theorem s112_139 {ls : List Value} {v : Value} {r : Nat} : ZW zG d 112 139 ls (v :: .ref r :: st) z Q = ((zcls z r = 12 ∧ zir v = true) ∧ ZW zG d 112 142 ls (st) (sfr z r 29 v) Q) := zw_putR rfl
theorem s112_142 {x0 : Value} : ZW zG d 112 142 [x0] st z Q = (zir x0 = true ∧ ZW zG d 112 143 [x0] (x0 :: st) z Q) := zw_cond (f := z_aload 0 143) rfl rfl
theorem s112_143 {ls : List Value}  : ZW zG d 112 143 ls (st) z Q = ZW zG d 112 145 ls ((.int (nI 65536)) :: st) z Q := zw_push rfl
theorem s112_145 {ls : List Value} {a : Int32} : ZW zG d 112 145 ls (.int a :: st) z Q = ((zin a 1000000 = true) ∧ ZW zG d 112 147 ls (.ref (zn z) :: st) (sarr z 50 (zx a)) Q) := zw_newa rfl
theorem s112_147 {ls : List Value} {v : Value} {r : Nat} : ZW zG d 112 147 ls (v :: .ref r :: st) z Q = ((zcls z r = 12 ∧ zir v = true) ∧ ZW zG d 112 150 ls (st) (sfr z r 30 v) Q) := zw_putR rfl
theorem s112_150 {x0 : Value} : ZW zG d 112 150 [x0] st z Q = (zir x0 = true ∧ ZW zG d 112 151 [x0] (x0 :: st) z Q) := zw_cond (f := z_aload 0 151) rfl rfl
theorem s112_151 {ls : List Value}  : ZW zG d 112 151 ls (st) z Q = ZW zG d 112 153 ls ((.int (nI 65536)) :: st) z Q := zw_push rfl
theorem s112_153 {ls : List Value} {a : Int32} : ZW zG d 112 153 ls (.int a :: st) z Q = ((zin a 1000000 = true) ∧ ZW zG d 112 155 ls (.ref (zn z) :: st) (sarr z 50 (zx a)) Q) := zw_newa rfl
theorem s112_155 {ls : List Value} {v : Value} {r : Nat} : ZW zG d 112 155 ls (v :: .ref r :: st) z Q = ((zcls z r = 12 ∧ zir v = true) ∧ ZW zG d 112 158 ls (st) (sfr z r 31 v) Q) := zw_putR rfl
theorem s112_158 {x0 : Value} : ZW zG d 112 158 [x0] st z Q = (zir x0 = true ∧ ZW zG d 112 159 [x0] (x0 :: st) z Q) := zw_cond (f := z_aload 0 159) rfl rfl
theorem s112_159 {ls : List Value}  : ZW zG d 112 159 ls (st) z Q = ZW zG d 112 161 ls ((.int (nI 65536)) :: st) z Q := zw_push rfl
theorem s112_161 {ls : List Value} {a : Int32} : ZW zG d 112 161 ls (.int a :: st) z Q = ((zin a 1000000 = true) ∧ ZW zG d 112 163 ls (.ref (zn z) :: st) (sarr z 54 (zx a)) Q) := zw_newa rfl
theorem s112_163 {ls : List Value} {v : Value} {r : Nat} : ZW zG d 112 163 ls (v :: .ref r :: st) z Q = ((zcls z r = 12 ∧ zir v = true) ∧ ZW zG d 112 166 ls (st) (sfr z r 32 v) Q) := zw_putR rfl
theorem s112_166 {x0 : Value} : ZW zG d 112 166 [x0] st z Q = (zir x0 = true ∧ ZW zG d 112 167 [x0] (x0 :: st) z Q) := zw_cond (f := z_aload 0 167) rfl rfl
theorem s112_167 {ls : List Value}  : ZW zG d 112 167 ls (st) z Q = ZW zG d 112 169 ls ((.int (nI 16)) :: st) z Q := zw_push rfl
theorem s112_169 {ls : List Value} {a : Int32} : ZW zG d 112 169 ls (.int a :: st) z Q = ((zin a 1000000 = true) ∧ ZW zG d 112 171 ls (.ref (zn z) :: st) (sarr z 50 (zx a)) Q) := zw_newa rfl
theorem s112_171 {ls : List Value} {v : Value} {r : Nat} : ZW zG d 112 171 ls (v :: .ref r :: st) z Q = ((zcls z r = 12 ∧ zir v = true) ∧ ZW zG d 112 174 ls (st) (sfr z r 33 v) Q) := zw_putR rfl
theorem s112_174 {x0 : Value} : ZW zG d 112 174 [x0] st z Q = (zir x0 = true ∧ ZW zG d 112 175 [x0] (x0 :: st) z Q) := zw_cond (f := z_aload 0 175) rfl rfl
theorem s112_175 {ls : List Value}  : ZW zG d 112 175 ls (st) z Q = ZW zG d 112 177 ls ((.int (nI 16)) :: st) z Q := zw_push rfl
theorem s112_177 {ls : List Value} {a : Int32} : ZW zG d 112 177 ls (.int a :: st) z Q = ((zin a 1000000 = true) ∧ ZW zG d 112 179 ls (.ref (zn z) :: st) (sarr z 50 (zx a)) Q) := zw_newa rfl
theorem s112_179 {ls : List Value} {v : Value} {r : Nat} : ZW zG d 112 179 ls (v :: .ref r :: st) z Q = ((zcls z r = 12 ∧ zir v = true) ∧ ZW zG d 112 182 ls (st) (sfr z r 35 v) Q) := zw_putR rfl
theorem s112_182 {x0 : Value} : ZW zG d 112 182 [x0] st z Q = (zir x0 = true ∧ ZW zG d 112 183 [x0] (x0 :: st) z Q) := zw_cond (f := z_aload 0 183) rfl rfl
theorem s112_183 {ls : List Value}  : ZW zG d 112 183 ls (st) z Q = ZW zG d 112 186 ls ((.int (nI 9080)) :: st) z Q := zw_push rfl
theorem s112_186 {ls : List Value} {a : Int32} : ZW zG d 112 186 ls (.int a :: st) z Q = ((zin a 1000000 = true) ∧ ZW zG d 112 188 ls (.ref (zn z) :: st) (sarr z 50 (zx a)) Q) := zw_newa rfl
theorem s112_188 {ls : List Value} {v : Value} {r : Nat} : ZW zG d 112 188 ls (v :: .ref r :: st) z Q = ((zcls z r = 12 ∧ zir v = true) ∧ ZW zG d 112 191 ls (st) (sfr z r 36 v) Q) := zw_putR rfl
theorem s112_191 {x0 : Value} : ZW zG d 112 191 [x0] st z Q = (zir x0 = true ∧ ZW zG d 112 192 [x0] (x0 :: st) z Q) := zw_cond (f := z_aload 0 192) rfl rfl
theorem s112_192 {ls : List Value}  : ZW zG d 112 192 ls (st) z Q = ZW zG d 112 193 ls ((.int (nI 4)) :: st) z Q := zw_push rfl
theorem s112_193 {ls : List Value} {a : Int32} : ZW zG d 112 193 ls (.int a :: st) z Q = ((zin a 1000000 = true) ∧ ZW zG d 112 195 ls (.ref (zn z) :: st) (sarr z 50 (zx a)) Q) := zw_newa rfl
theorem s112_195 {ls : List Value} {r : Nat} : ZW zG d 112 195 ls (.ref r :: st) z Q = ZW zG d 112 196 ls (.ref r :: .ref r :: st) z Q := zw_dupr rfl
theorem s112_196 {ls : List Value}  : ZW zG d 112 196 ls (st) z Q = ZW zG d 112 197 ls ((.int (nI 0)) :: st) z Q := zw_push rfl
theorem s112_197 {ls : List Value}  : ZW zG d 112 197 ls (st) z Q = ZW zG d 112 198 ls ((.int (-1)) :: st) z Q := zw_push rfl
theorem s112_198 {ls : List Value} {a b : Int32} {r : Nat} : ZW zG d 112 198 ls (.int b :: .int a :: .ref r :: st) z Q = ((zcls z r = 50 ∧ zin a (zlen z r) = true) ∧ ZW zG d 112 199 ls (st) (sia z r (zx a) (znar 50 b)) Q) := zw_iast rfl
theorem s112_199 {ls : List Value} {r : Nat} : ZW zG d 112 199 ls (.ref r :: st) z Q = ZW zG d 112 200 ls (.ref r :: .ref r :: st) z Q := zw_dupr rfl
theorem s112_200 {ls : List Value}  : ZW zG d 112 200 ls (st) z Q = ZW zG d 112 201 ls ((.int (nI 1)) :: st) z Q := zw_push rfl
theorem s112_201 {ls : List Value}  : ZW zG d 112 201 ls (st) z Q = ZW zG d 112 202 ls ((.int (-1)) :: st) z Q := zw_push rfl
theorem s112_202 {ls : List Value} {a b : Int32} {r : Nat} : ZW zG d 112 202 ls (.int b :: .int a :: .ref r :: st) z Q = ((zcls z r = 50 ∧ zin a (zlen z r) = true) ∧ ZW zG d 112 203 ls (st) (sia z r (zx a) (znar 50 b)) Q) := zw_iast rfl
theorem s112_203 {ls : List Value} {r : Nat} : ZW zG d 112 203 ls (.ref r :: st) z Q = ZW zG d 112 204 ls (.ref r :: .ref r :: st) z Q := zw_dupr rfl
theorem s112_204 {ls : List Value}  : ZW zG d 112 204 ls (st) z Q = ZW zG d 112 205 ls ((.int (nI 2)) :: st) z Q := zw_push rfl
theorem s112_205 {ls : List Value}  : ZW zG d 112 205 ls (st) z Q = ZW zG d 112 206 ls ((.int (-1)) :: st) z Q := zw_push rfl
theorem s112_206 {ls : List Value} {a b : Int32} {r : Nat} : ZW zG d 112 206 ls (.int b :: .int a :: .ref r :: st) z Q = ((zcls z r = 50 ∧ zin a (zlen z r) = true) ∧ ZW zG d 112 207 ls (st) (sia z r (zx a) (znar 50 b)) Q) := zw_iast rfl
theorem s112_207 {ls : List Value} {r : Nat} : ZW zG d 112 207 ls (.ref r :: st) z Q = ZW zG d 112 208 ls (.ref r :: .ref r :: st) z Q := zw_dupr rfl
theorem s112_208 {ls : List Value}  : ZW zG d 112 208 ls (st) z Q = ZW zG d 112 209 ls ((.int (nI 3)) :: st) z Q := zw_push rfl
theorem s112_209 {ls : List Value}  : ZW zG d 112 209 ls (st) z Q = ZW zG d 112 210 ls ((.int (-1)) :: st) z Q := zw_push rfl
theorem s112_210 {ls : List Value} {a b : Int32} {r : Nat} : ZW zG d 112 210 ls (.int b :: .int a :: .ref r :: st) z Q = ((zcls z r = 50 ∧ zin a (zlen z r) = true) ∧ ZW zG d 112 211 ls (st) (sia z r (zx a) (znar 50 b)) Q) := zw_iast rfl
theorem s112_211 {ls : List Value} {v : Value} {r : Nat} : ZW zG d 112 211 ls (v :: .ref r :: st) z Q = ((zcls z r = 12 ∧ zir v = true) ∧ ZW zG d 112 214 ls (st) (sfr z r 37 v) Q) := zw_putR rfl
theorem s112_214 {x0 : Value} : ZW zG d 112 214 [x0] st z Q = (zir x0 = true ∧ ZW zG d 112 215 [x0] (x0 :: st) z Q) := zw_cond (f := z_aload 0 215) rfl rfl
theorem s112_215 {ls : List Value}  : ZW zG d 112 215 ls (st) z Q = ZW zG d 112 216 ls ((.int (nI 4)) :: st) z Q := zw_push rfl
theorem s112_216 {ls : List Value} {a : Int32} : ZW zG d 112 216 ls (.int a :: st) z Q = ((zin a 1000000 = true) ∧ ZW zG d 112 218 ls (.ref (zn z) :: st) (sarr z 50 (zx a)) Q) := zw_newa rfl
theorem s112_218 {ls : List Value} {v : Value} {r : Nat} : ZW zG d 112 218 ls (v :: .ref r :: st) z Q = ((zcls z r = 12 ∧ zir v = true) ∧ ZW zG d 112 221 ls (st) (sfr z r 38 v) Q) := zw_putR rfl
theorem s112_221 {x0 : Value} : ZW zG d 112 221 [x0] st z Q = (zir x0 = true ∧ ZW zG d 112 222 [x0] (x0 :: st) z Q) := zw_cond (f := z_aload 0 222) rfl rfl
theorem s112_222 {ls : List Value}  : ZW zG d 112 222 ls (st) z Q = ZW zG d 112 225 ls ((.int (nI 240)) :: st) z Q := zw_push rfl
theorem s112_225 {ls : List Value} {a : Int32} : ZW zG d 112 225 ls (.int a :: st) z Q = ((zin a 1000000 = true) ∧ ZW zG d 112 227 ls (.ref (zn z) :: st) (sarr z 51 (zx a)) Q) := zw_newa rfl
theorem s112_227 {ls : List Value} {v : Value} {r : Nat} : ZW zG d 112 227 ls (v :: .ref r :: st) z Q = ((zcls z r = 12 ∧ zir v = true) ∧ ZW zG d 112 230 ls (st) (sfr z r 39 v) Q) := zw_putR rfl
theorem s112_230 {x0 : Value} : ZW zG d 112 230 [x0] st z Q = (zir x0 = true ∧ ZW zG d 112 231 [x0] (x0 :: st) z Q) := zw_cond (f := z_aload 0 231) rfl rfl
theorem s112_231 {ls : List Value}  : ZW zG d 112 231 ls (st) z Q = ZW zG d 112 233 ls ((.int (nI 60)) :: st) z Q := zw_push rfl
theorem s112_233 {ls : List Value} {a : Int32} : ZW zG d 112 233 ls (.int a :: st) z Q = ((zin a 1000000 = true) ∧ ZW zG d 112 235 ls (.ref (zn z) :: st) (sarr z 51 (zx a)) Q) := zw_newa rfl
theorem s112_235 {ls : List Value} {v : Value} {r : Nat} : ZW zG d 112 235 ls (v :: .ref r :: st) z Q = ((zcls z r = 12 ∧ zir v = true) ∧ ZW zG d 112 238 ls (st) (sfr z r 40 v) Q) := zw_putR rfl
theorem s112_238 {x0 : Value} : ZW zG d 112 238 [x0] st z Q = (zir x0 = true ∧ ZW zG d 112 239 [x0] (x0 :: st) z Q) := zw_cond (f := z_aload 0 239) rfl rfl
theorem s112_239 {ls : List Value} {r : Nat} : ZW zG d 112 239 ls (.ref r :: st) z Q = ((zcls z r = 12 ∧ zir (zfr z r 1) = true) ∧ ZW zG d 112 242 ls (zfr z r 1 :: st) (z) Q) := zw_getR rfl
theorem s112_242 {ls : List Value}  : ZW zG d 112 242 ls (st) z Q = ZW zG d 112 243 ls ((.int (nI 5)) :: st) z Q := zw_push rfl
theorem s112_243 {ls : List Value}  : ZW zG d 112 243 ls (st) z Q = ZW zG d 112 244 ls ((.int (nI 3)) :: st) z Q := zw_push rfl
theorem s112_244 {ls : List Value} {a b : Int32} {r : Nat} : ZW zG d 112 244 ls (.int b :: .int a :: .ref r :: st) z Q = ((zcls z r = 50 ∧ zin a (zlen z r) = true) ∧ ZW zG d 112 245 ls (st) (sia z r (zx a) (znar 50 b)) Q) := zw_iast rfl
theorem s112_245 {ls : List Value}  : ZW zG d 112 245 ls ([]) z Q = Q (.inl none) z := zw_ret rfl
/-- X12_keep (I)I -/
theorem e113 {r0 : Nat} {v0 : Int32} : ZC zG d 113 [.ref r0, .int v0] z Q = ZW zG d 113 0 [.ref r0, .int v0, zdum] [] z Q := rfl
theorem s113_0 {x0 x2 : Value} {a : Int32} : ZW zG d 113 0 [x0, .int a, x2] st z Q = ZW zG d 113 1 [x0, .int a, x2] (.int a :: st) z Q := zw_next (f := z_iload 1 1) rfl rfl
theorem s113_1 {ls : List Value} {a : Int32} : ZW zG d 113 1 ls (.int a :: st) z Q = ZW zG d 113 2 ls (.long a.toInt64 :: st) z Q := zw_i2l rfl
theorem s113_2 {ls : List Value}  : ZW zG d 113 2 ls (st) z Q = ZW zG d 113 3 ls ((.long (lN 0)) :: st) z Q := zw_push rfl
theorem s113_3 {ls : List Value}  : ZW zG d 113 3 ls (st) z Q = ZW zG d 113 6 ls ((.long (lN 2)) :: st) z Q := zw_push rfl
theorem s113_6 {ls : List Value} {w0 : Int64} {w1 : Int64} {w2 : Int64} : ZW zG (d + 1) 113 6 ls (.long w2 :: .long w1 :: .long w0 :: st) z Q = (zcs st = true ∧ ZC zG d 114 [.long w0, .long w1, .long w2] z (zk zG (d + 1) 113 (none) 9 ls st Q)) := zc_S3 rfl (Nat.le_of_ble_eq_true rfl)
theorem s113_9 {ls : List Value} {a : Int32} : ZW zG d 113 9 ls (.int a :: st) z Q = if ¬ a = 0 then ZW zG d 113 15 ls st z Q else ZW zG d 113 12 ls st z Q := zw_ifne rfl
theorem s113_12 {ls : List Value}  : ZW zG d 113 12 ls (st) z Q = ZW zG d 113 14 ls ((.int (-2)) :: st) z Q := zw_push rfl
theorem s113_14 {ls : List Value} {a : Int32} : ZW zG d 113 14 ls ([.int a]) z Q = Q (.inl (some (.int a))) z := zw_reti rfl
theorem s113_15 {ls : List Value}  : ZW zG d 113 15 ls (st) z Q = ZW zG d 113 16 ls ((.int (nI 0)) :: st) z Q := zw_push rfl
theorem s113_16 {x0 x1 x2 : Value} {a : Int32} : ZW zG d 113 16 [x0, x1, x2] (.int a :: st) z Q = ZW zG d 113 17 [x0, zclr x1, .int a] st z Q := zw_next (f := z_istore 2 17) rfl rfl
theorem s113_17 {x0 x1 : Value} {a : Int32} : ZW zG d 113 17 [x0, x1, .int a] st z Q = ZW zG d 113 18 [x0, x1, .int a] (.int a :: st) z Q := zw_next (f := z_iload 2 18) rfl rfl
theorem s113_18 {ls : List Value}  : ZW zG d 113 18 ls (st) z Q = ZW zG d 113 21 ls ((.int (nI 9080)) :: st) z Q := zw_push rfl
theorem s113_21 {ls : List Value} {a b : Int32} : ZW zG d 113 21 ls (.int b :: .int a :: st) z Q = if b ≤ a then ZW zG d 113 48 ls st z Q else ZW zG d 113 24 ls st z Q := zw_icge rfl
theorem s113_24 {x0 x1 x2 : Value} : ZW zG d 113 24 [x0, x1, x2] st z Q = (zir x0 = true ∧ ZW zG d 113 25 [x0, x1, x2] (x0 :: st) z Q) := zw_cond (f := z_aload 0 25) rfl rfl
theorem s113_25 {ls : List Value} {r : Nat} : ZW zG d 113 25 ls (.ref r :: st) z Q = ((zcls z r = 12 ∧ zir (zfr z r 2) = true) ∧ ZW zG d 113 28 ls (zfr z r 2 :: st) (z) Q) := zw_getR rfl
theorem s113_28 {ls : List Value}  : ZW zG d 113 28 ls (st) z Q = ZW zG d 113 31 ls ((.int (nI 9080)) :: st) z Q := zw_push rfl
theorem s113_31 {x0 x2 : Value} {a : Int32} : ZW zG d 113 31 [x0, .int a, x2] st z Q = ZW zG d 113 32 [x0, .int a, x2] (.int a :: st) z Q := zw_next (f := z_iload 1 32) rfl rfl
theorem s113_32 {ls : List Value} {a b : Int32} : ZW zG d 113 32 ls (.int b :: .int a :: st) z Q = ZW zG d 113 33 ls (.int (a * b) :: st) z Q := zw_imul rfl
theorem s113_33 {x0 x1 : Value} {a : Int32} : ZW zG d 113 33 [x0, x1, .int a] st z Q = ZW zG d 113 34 [x0, x1, .int a] (.int a :: st) z Q := zw_next (f := z_iload 2 34) rfl rfl
theorem s113_34 {ls : List Value} {a b : Int32} : ZW zG d 113 34 ls (.int b :: .int a :: st) z Q = ZW zG d 113 35 ls (.int (a + b) :: st) z Q := zw_iadd rfl
theorem s113_35 {x0 x1 x2 : Value} : ZW zG d 113 35 [x0, x1, x2] st z Q = (zir x0 = true ∧ ZW zG d 113 36 [x0, x1, x2] (x0 :: st) z Q) := zw_cond (f := z_aload 0 36) rfl rfl
theorem s113_36 {ls : List Value} {r : Nat} : ZW zG d 113 36 ls (.ref r :: st) z Q = ((zcls z r = 12 ∧ zir (zfr z r 1) = true) ∧ ZW zG d 113 39 ls (zfr z r 1 :: st) (z) Q) := zw_getR rfl
theorem s113_39 {x0 x1 : Value} {a : Int32} : ZW zG d 113 39 [x0, x1, .int a] st z Q = ZW zG d 113 40 [x0, x1, .int a] (.int a :: st) z Q := zw_next (f := z_iload 2 40) rfl rfl
theorem s113_40 {ls : List Value} {a : Int32} {r : Nat} : ZW zG d 113 40 ls (.int a :: .ref r :: st) z Q = ((zcls z r = 50 ∧ zin a (zlen z r) = true) ∧ ZW zG d 113 41 ls (.int (zia z r (zx a)) :: st) (z) Q) := zw_iald rfl
theorem s113_41 {ls : List Value} {a b : Int32} {r : Nat} : ZW zG d 113 41 ls (.int b :: .int a :: .ref r :: st) z Q = ((zcls z r = 50 ∧ zin a (zlen z r) = true) ∧ ZW zG d 113 42 ls (st) (sia z r (zx a) (znar 50 b)) Q) := zw_iast rfl
theorem s113_42 {x0 x1 : Value} {a : Int32} : ZW zG d 113 42 [x0, x1, .int a] st z Q = ZW zG d 113 45 [x0, zclr x1, .int (a + (nI 1))] st z Q := zw_next (f := z_iinc 2 (nI 1) 45) rfl rfl
theorem s113_45 {ls : List Value}  : ZW zG d 113 45 ls (st) z Q = ZW zG d 113 17 ls st z Q := zw_goto rfl
theorem s113_48 {x0 x1 x2 : Value} : ZW zG d 113 48 [x0, x1, x2] st z Q = (zir x0 = true ∧ ZW zG d 113 49 [x0, x1, x2] (x0 :: st) z Q) := zw_cond (f := z_aload 0 49) rfl rfl
theorem s113_49 {ls : List Value} {r : Nat} : ZW zG d 113 49 ls (.ref r :: st) z Q = ((zcls z r = 12 ∧ zir (zfr z r 3) = true) ∧ ZW zG d 113 52 ls (zfr z r 3 :: st) (z) Q) := zw_getR rfl
theorem s113_52 {x0 x2 : Value} {a : Int32} : ZW zG d 113 52 [x0, .int a, x2] st z Q = ZW zG d 113 53 [x0, .int a, x2] (.int a :: st) z Q := zw_next (f := z_iload 1 53) rfl rfl
theorem s113_53 {ls : List Value}  : ZW zG d 113 53 ls (st) z Q = ZW zG d 113 54 ls ((.int (nI 1)) :: st) z Q := zw_push rfl
theorem s113_54 {ls : List Value} {a b : Int32} {r : Nat} : ZW zG d 113 54 ls (.int b :: .int a :: .ref r :: st) z Q = ((zcls z r = 54 ∧ zin a (zlen z r) = true) ∧ ZW zG d 113 55 ls (st) (sia z r (zx a) (znar 54 b)) Q) := zw_iast rfl
theorem s113_55 {ls : List Value}  : ZW zG d 113 55 ls (st) z Q = ZW zG d 113 56 ls ((.int (nI 0)) :: st) z Q := zw_push rfl
theorem s113_56 {ls : List Value} {a : Int32} : ZW zG d 113 56 ls ([.int a]) z Q = Q (.inl (some (.int a))) z := zw_reti rfl
/-- X12_in (JJJ)Z -/
theorem e114 {v0 : Int64} {v1 : Int64} {v2 : Int64} : ZC zG d 114 [.long v0, .long v1, .long v2] z Q = ZW zG d 114 0 [.long v0, zdum, .long v1, zdum, .long v2, zdum] [] z Q := rfl
theorem s114_0 {x1 x2 x3 x4 x5 : Value} {a : Int64} : ZW zG d 114 0 [.long a, x1, x2, x3, x4, x5] st z Q = ZW zG d 114 1 [.long a, x1, x2, x3, x4, x5] (.long a :: st) z Q := zw_next (f := z_lload 0 1) rfl rfl
theorem s114_1 {x0 x1 x3 x4 x5 : Value} {a : Int64} : ZW zG d 114 1 [x0, x1, .long a, x3, x4, x5] st z Q = ZW zG d 114 2 [x0, x1, .long a, x3, x4, x5] (.long a :: st) z Q := zw_next (f := z_lload 2 2) rfl rfl
theorem s114_2 {ls : List Value} {x y : Int64} : ZW zG d 114 2 ls (.long y :: .long x :: st) z Q = ZW zG d 114 3 ls (.int (lg_cmp x y) :: st) z Q := zw_lcmp rfl
theorem s114_3 {ls : List Value} {a : Int32} : ZW zG d 114 3 ls (.int a :: st) z Q = if a < 0 then ZW zG d 114 17 ls st z Q else ZW zG d 114 6 ls st z Q := zw_iflt rfl
theorem s114_6 {x1 x2 x3 x4 x5 : Value} {a : Int64} : ZW zG d 114 6 [.long a, x1, x2, x3, x4, x5] st z Q = ZW zG d 114 7 [.long a, x1, x2, x3, x4, x5] (.long a :: st) z Q := zw_next (f := z_lload 0 7) rfl rfl
theorem s114_7 {x0 x1 x2 x3 x5 : Value} {a : Int64} : ZW zG d 114 7 [x0, x1, x2, x3, .long a, x5] st z Q = ZW zG d 114 9 [x0, x1, x2, x3, .long a, x5] (.long a :: st) z Q := zw_next (f := z_lload 4 9) rfl rfl
theorem s114_9 {ls : List Value} {x y : Int64} : ZW zG d 114 9 ls (.long y :: .long x :: st) z Q = ZW zG d 114 10 ls (.int (lg_cmp x y) :: st) z Q := zw_lcmp rfl
theorem s114_10 {ls : List Value} {a : Int32} : ZW zG d 114 10 ls (.int a :: st) z Q = if 0 < a then ZW zG d 114 17 ls st z Q else ZW zG d 114 13 ls st z Q := zw_ifgt rfl
theorem s114_13 {ls : List Value}  : ZW zG d 114 13 ls (st) z Q = ZW zG d 114 14 ls ((.int (nI 1)) :: st) z Q := zw_push rfl
theorem s114_14 {ls : List Value}  : ZW zG d 114 14 ls (st) z Q = ZW zG d 114 18 ls st z Q := zw_goto rfl
theorem s114_17 {ls : List Value}  : ZW zG d 114 17 ls (st) z Q = ZW zG d 114 18 ls ((.int (nI 0)) :: st) z Q := zw_push rfl
theorem s114_18 {ls : List Value} {a : Int32} : ZW zG d 114 18 ls ([.int a]) z Q = ((a = 0 ∨ a = 1) ∧ Q (.inl (some (.int a))) z) := zw_retz rfl
/-- X12_back (I)I -/
theorem e115 {r0 : Nat} {v0 : Int32} : ZC zG d 115 [.ref r0, .int v0] z Q = ZW zG d 115 0 [.ref r0, .int v0, zdum] [] z Q := rfl
theorem s115_0 {x0 x2 : Value} {a : Int32} : ZW zG d 115 0 [x0, .int a, x2] st z Q = ZW zG d 115 1 [x0, .int a, x2] (.int a :: st) z Q := zw_next (f := z_iload 1 1) rfl rfl
theorem s115_1 {ls : List Value} {a : Int32} : ZW zG d 115 1 ls (.int a :: st) z Q = ZW zG d 115 2 ls (.long a.toInt64 :: st) z Q := zw_i2l rfl
theorem s115_2 {ls : List Value}  : ZW zG d 115 2 ls (st) z Q = ZW zG d 115 3 ls ((.long (lN 0)) :: st) z Q := zw_push rfl
theorem s115_3 {ls : List Value}  : ZW zG d 115 3 ls (st) z Q = ZW zG d 115 6 ls ((.long (lN 2)) :: st) z Q := zw_push rfl
theorem s115_6 {ls : List Value} {w0 : Int64} {w1 : Int64} {w2 : Int64} : ZW zG (d + 1) 115 6 ls (.long w2 :: .long w1 :: .long w0 :: st) z Q = (zcs st = true ∧ ZC zG d 114 [.long w0, .long w1, .long w2] z (zk zG (d + 1) 115 (none) 9 ls st Q)) := zc_S3 rfl (Nat.le_of_ble_eq_true rfl)
theorem s115_9 {ls : List Value} {a : Int32} : ZW zG d 115 9 ls (.int a :: st) z Q = if ¬ a = 0 then ZW zG d 115 15 ls st z Q else ZW zG d 115 12 ls st z Q := zw_ifne rfl
theorem s115_12 {ls : List Value}  : ZW zG d 115 12 ls (st) z Q = ZW zG d 115 14 ls ((.int (-2)) :: st) z Q := zw_push rfl
theorem s115_14 {ls : List Value} {a : Int32} : ZW zG d 115 14 ls ([.int a]) z Q = Q (.inl (some (.int a))) z := zw_reti rfl
theorem s115_15 {x0 x1 x2 : Value} : ZW zG d 115 15 [x0, x1, x2] st z Q = (zir x0 = true ∧ ZW zG d 115 16 [x0, x1, x2] (x0 :: st) z Q) := zw_cond (f := z_aload 0 16) rfl rfl
theorem s115_16 {ls : List Value} {r : Nat} : ZW zG d 115 16 ls (.ref r :: st) z Q = ((zcls z r = 12 ∧ zir (zfr z r 3) = true) ∧ ZW zG d 115 19 ls (zfr z r 3 :: st) (z) Q) := zw_getR rfl
theorem s115_19 {x0 x2 : Value} {a : Int32} : ZW zG d 115 19 [x0, .int a, x2] st z Q = ZW zG d 115 20 [x0, .int a, x2] (.int a :: st) z Q := zw_next (f := z_iload 1 20) rfl rfl
theorem s115_20 {ls : List Value} {a : Int32} {r : Nat} : ZW zG d 115 20 ls (.int a :: .ref r :: st) z Q = ((zcls z r = 54 ∧ zin a (zlen z r) = true) ∧ ZW zG d 115 21 ls (.int (zia z r (zx a)) :: st) (z) Q) := zw_iald rfl
theorem s115_21 {ls : List Value} {a : Int32} : ZW zG d 115 21 ls (.int a :: st) z Q = if ¬ a = 0 then ZW zG d 115 27 ls st z Q else ZW zG d 115 24 ls st z Q := zw_ifne rfl
theorem s115_24 {ls : List Value}  : ZW zG d 115 24 ls (st) z Q = ZW zG d 115 26 ls ((.int (-6)) :: st) z Q := zw_push rfl
theorem s115_26 {ls : List Value} {a : Int32} : ZW zG d 115 26 ls ([.int a]) z Q = Q (.inl (some (.int a))) z := zw_reti rfl
theorem s115_27 {ls : List Value}  : ZW zG d 115 27 ls (st) z Q = ZW zG d 115 28 ls ((.int (nI 0)) :: st) z Q := zw_push rfl
theorem s115_28 {x0 x1 x2 : Value} {a : Int32} : ZW zG d 115 28 [x0, x1, x2] (.int a :: st) z Q = ZW zG d 115 29 [x0, zclr x1, .int a] st z Q := zw_next (f := z_istore 2 29) rfl rfl
theorem s115_29 {x0 x1 : Value} {a : Int32} : ZW zG d 115 29 [x0, x1, .int a] st z Q = ZW zG d 115 30 [x0, x1, .int a] (.int a :: st) z Q := zw_next (f := z_iload 2 30) rfl rfl
theorem s115_30 {ls : List Value}  : ZW zG d 115 30 ls (st) z Q = ZW zG d 115 33 ls ((.int (nI 9080)) :: st) z Q := zw_push rfl
theorem s115_33 {ls : List Value} {a b : Int32} : ZW zG d 115 33 ls (.int b :: .int a :: st) z Q = if b ≤ a then ZW zG d 115 60 ls st z Q else ZW zG d 115 36 ls st z Q := zw_icge rfl
theorem s115_36 {x0 x1 x2 : Value} : ZW zG d 115 36 [x0, x1, x2] st z Q = (zir x0 = true ∧ ZW zG d 115 37 [x0, x1, x2] (x0 :: st) z Q) := zw_cond (f := z_aload 0 37) rfl rfl
theorem s115_37 {ls : List Value} {r : Nat} : ZW zG d 115 37 ls (.ref r :: st) z Q = ((zcls z r = 12 ∧ zir (zfr z r 1) = true) ∧ ZW zG d 115 40 ls (zfr z r 1 :: st) (z) Q) := zw_getR rfl
theorem s115_40 {x0 x1 : Value} {a : Int32} : ZW zG d 115 40 [x0, x1, .int a] st z Q = ZW zG d 115 41 [x0, x1, .int a] (.int a :: st) z Q := zw_next (f := z_iload 2 41) rfl rfl
theorem s115_41 {x0 x1 x2 : Value} : ZW zG d 115 41 [x0, x1, x2] st z Q = (zir x0 = true ∧ ZW zG d 115 42 [x0, x1, x2] (x0 :: st) z Q) := zw_cond (f := z_aload 0 42) rfl rfl
theorem s115_42 {ls : List Value} {r : Nat} : ZW zG d 115 42 ls (.ref r :: st) z Q = ((zcls z r = 12 ∧ zir (zfr z r 2) = true) ∧ ZW zG d 115 45 ls (zfr z r 2 :: st) (z) Q) := zw_getR rfl
theorem s115_45 {ls : List Value}  : ZW zG d 115 45 ls (st) z Q = ZW zG d 115 48 ls ((.int (nI 9080)) :: st) z Q := zw_push rfl
theorem s115_48 {x0 x2 : Value} {a : Int32} : ZW zG d 115 48 [x0, .int a, x2] st z Q = ZW zG d 115 49 [x0, .int a, x2] (.int a :: st) z Q := zw_next (f := z_iload 1 49) rfl rfl
theorem s115_49 {ls : List Value} {a b : Int32} : ZW zG d 115 49 ls (.int b :: .int a :: st) z Q = ZW zG d 115 50 ls (.int (a * b) :: st) z Q := zw_imul rfl
theorem s115_50 {x0 x1 : Value} {a : Int32} : ZW zG d 115 50 [x0, x1, .int a] st z Q = ZW zG d 115 51 [x0, x1, .int a] (.int a :: st) z Q := zw_next (f := z_iload 2 51) rfl rfl
theorem s115_51 {ls : List Value} {a b : Int32} : ZW zG d 115 51 ls (.int b :: .int a :: st) z Q = ZW zG d 115 52 ls (.int (a + b) :: st) z Q := zw_iadd rfl
theorem s115_52 {ls : List Value} {a : Int32} {r : Nat} : ZW zG d 115 52 ls (.int a :: .ref r :: st) z Q = ((zcls z r = 50 ∧ zin a (zlen z r) = true) ∧ ZW zG d 115 53 ls (.int (zia z r (zx a)) :: st) (z) Q) := zw_iald rfl
theorem s115_53 {ls : List Value} {a b : Int32} {r : Nat} : ZW zG d 115 53 ls (.int b :: .int a :: .ref r :: st) z Q = ((zcls z r = 50 ∧ zin a (zlen z r) = true) ∧ ZW zG d 115 54 ls (st) (sia z r (zx a) (znar 50 b)) Q) := zw_iast rfl
theorem s115_54 {x0 x1 : Value} {a : Int32} : ZW zG d 115 54 [x0, x1, .int a] st z Q = ZW zG d 115 57 [x0, zclr x1, .int (a + (nI 1))] st z Q := zw_next (f := z_iinc 2 (nI 1) 57) rfl rfl
theorem s115_57 {ls : List Value}  : ZW zG d 115 57 ls (st) z Q = ZW zG d 115 29 ls st z Q := zw_goto rfl
theorem s115_60 {ls : List Value}  : ZW zG d 115 60 ls (st) z Q = ZW zG d 115 61 ls ((.int (nI 0)) :: st) z Q := zw_push rfl
theorem s115_61 {ls : List Value} {a : Int32} : ZW zG d 115 61 ls ([.int a]) z Q = Q (.inl (some (.int a))) z := zw_reti rfl
/-- X12_feed (IIIII)I -/
theorem e116 {r0 : Nat} {v0 : Int32} {v1 : Int32} {v2 : Int32} {v3 : Int32} {v4 : Int32} : ZC zG d 116 [.ref r0, .int v0, .int v1, .int v2, .int v3, .int v4] z Q = ZW zG d 116 0 [.ref r0, .int v0, .int v1, .int v2, .int v3, .int v4, zdum] [] z Q := rfl
theorem s116_0 {x0 x1 x2 x3 x4 x5 x6 : Value} : ZW zG d 116 0 [x0, x1, x2, x3, x4, x5, x6] st z Q = (zir x0 = true ∧ ZW zG d 116 1 [x0, x1, x2, x3, x4, x5, x6] (x0 :: st) z Q) := zw_cond (f := z_aload 0 1) rfl rfl
theorem s116_1 {ls : List Value} {r : Nat} : ZW zG d 116 1 ls (.ref r :: st) z Q = ((zcls z r = 12) ∧ ZW zG d 116 4 ls (.int (zfi z r 5) :: st) (z) Q) := zw_getI rfl
theorem s116_4 {ls : List Value}  : ZW zG d 116 4 ls (st) z Q = ZW zG d 116 6 ls ((.int (nI 20)) :: st) z Q := zw_push rfl
theorem s116_6 {ls : List Value} {a b : Int32} : ZW zG d 116 6 ls (.int b :: .int a :: st) z Q = ZW zG d 116 7 ls (.int (a + b) :: st) z Q := zw_iadd rfl
theorem s116_7 {ls : List Value}  : ZW zG d 116 7 ls (st) z Q = ZW zG d 116 10 ls ((.int (nI 1400)) :: st) z Q := zw_push rfl
theorem s116_10 {ls : List Value} {a b : Int32} : ZW zG d 116 10 ls (.int b :: .int a :: st) z Q = if a ≤ b then ZW zG d 116 15 ls st z Q else ZW zG d 116 13 ls st z Q := zw_icle rfl
theorem s116_13 {ls : List Value}  : ZW zG d 116 13 ls (st) z Q = ZW zG d 116 14 ls ((.int (-1)) :: st) z Q := zw_push rfl
theorem s116_14 {ls : List Value} {a : Int32} : ZW zG d 116 14 ls ([.int a]) z Q = Q (.inl (some (.int a))) z := zw_reti rfl
theorem s116_15 {x0 x1 x2 x3 x4 x5 x6 : Value} : ZW zG d 116 15 [x0, x1, x2, x3, x4, x5, x6] st z Q = (zir x0 = true ∧ ZW zG d 116 16 [x0, x1, x2, x3, x4, x5, x6] (x0 :: st) z Q) := zw_cond (f := z_aload 0 16) rfl rfl
theorem s116_16 {ls : List Value} {r : Nat} : ZW zG d 116 16 ls (.ref r :: st) z Q = ((zcls z r = 12 ∧ zir (zfr z r 6) = true) ∧ ZW zG d 116 19 ls (zfr z r 6 :: st) (z) Q) := zw_getR rfl
theorem s116_19 {ls : List Value}  : ZW zG d 116 19 ls (st) z Q = ZW zG d 116 20 ls ((.int (nI 0)) :: st) z Q := zw_push rfl
theorem s116_20 {x0 x2 x3 x4 x5 x6 : Value} {a : Int32} : ZW zG d 116 20 [x0, .int a, x2, x3, x4, x5, x6] st z Q = ZW zG d 116 21 [x0, .int a, x2, x3, x4, x5, x6] (.int a :: st) z Q := zw_next (f := z_iload 1 21) rfl rfl
theorem s116_21 {ls : List Value} {a b : Int32} {r : Nat} : ZW zG d 116 21 ls (.int b :: .int a :: .ref r :: st) z Q = ((zcls z r = 50 ∧ zin a (zlen z r) = true) ∧ ZW zG d 116 22 ls (st) (sia z r (zx a) (znar 50 b)) Q) := zw_iast rfl
theorem s116_22 {x0 x1 x2 x3 x4 x5 x6 : Value} : ZW zG d 116 22 [x0, x1, x2, x3, x4, x5, x6] st z Q = (zir x0 = true ∧ ZW zG d 116 23 [x0, x1, x2, x3, x4, x5, x6] (x0 :: st) z Q) := zw_cond (f := z_aload 0 23) rfl rfl
theorem s116_23 {ls : List Value} {r : Nat} : ZW zG d 116 23 ls (.ref r :: st) z Q = ((zcls z r = 12 ∧ zir (zfr z r 6) = true) ∧ ZW zG d 116 26 ls (zfr z r 6 :: st) (z) Q) := zw_getR rfl
theorem s116_26 {ls : List Value}  : ZW zG d 116 26 ls (st) z Q = ZW zG d 116 27 ls ((.int (nI 1)) :: st) z Q := zw_push rfl
theorem s116_27 {x0 x1 x3 x4 x5 x6 : Value} {a : Int32} : ZW zG d 116 27 [x0, x1, .int a, x3, x4, x5, x6] st z Q = ZW zG d 116 28 [x0, x1, .int a, x3, x4, x5, x6] (.int a :: st) z Q := zw_next (f := z_iload 2 28) rfl rfl
theorem s116_28 {ls : List Value} {a b : Int32} {r : Nat} : ZW zG d 116 28 ls (.int b :: .int a :: .ref r :: st) z Q = ((zcls z r = 50 ∧ zin a (zlen z r) = true) ∧ ZW zG d 116 29 ls (st) (sia z r (zx a) (znar 50 b)) Q) := zw_iast rfl
theorem s116_29 {x0 x1 x2 x3 x4 x5 x6 : Value} : ZW zG d 116 29 [x0, x1, x2, x3, x4, x5, x6] st z Q = (zir x0 = true ∧ ZW zG d 116 30 [x0, x1, x2, x3, x4, x5, x6] (x0 :: st) z Q) := zw_cond (f := z_aload 0 30) rfl rfl
theorem s116_30 {ls : List Value} {r : Nat} : ZW zG d 116 30 ls (.ref r :: st) z Q = ((zcls z r = 12 ∧ zir (zfr z r 6) = true) ∧ ZW zG d 116 33 ls (zfr z r 6 :: st) (z) Q) := zw_getR rfl
theorem s116_33 {ls : List Value}  : ZW zG d 116 33 ls (st) z Q = ZW zG d 116 34 ls ((.int (nI 2)) :: st) z Q := zw_push rfl
theorem s116_34 {x0 x1 x2 x4 x5 x6 : Value} {a : Int32} : ZW zG d 116 34 [x0, x1, x2, .int a, x4, x5, x6] st z Q = ZW zG d 116 35 [x0, x1, x2, .int a, x4, x5, x6] (.int a :: st) z Q := zw_next (f := z_iload 3 35) rfl rfl
theorem s116_35 {ls : List Value} {a b : Int32} {r : Nat} : ZW zG d 116 35 ls (.int b :: .int a :: .ref r :: st) z Q = ((zcls z r = 50 ∧ zin a (zlen z r) = true) ∧ ZW zG d 116 36 ls (st) (sia z r (zx a) (znar 50 b)) Q) := zw_iast rfl
theorem s116_36 {x0 x1 x2 x3 x4 x5 x6 : Value} : ZW zG d 116 36 [x0, x1, x2, x3, x4, x5, x6] st z Q = (zir x0 = true ∧ ZW zG d 116 37 [x0, x1, x2, x3, x4, x5, x6] (x0 :: st) z Q) := zw_cond (f := z_aload 0 37) rfl rfl
theorem s116_37 {ls : List Value} {r : Nat} : ZW zG d 116 37 ls (.ref r :: st) z Q = ((zcls z r = 12 ∧ zir (zfr z r 6) = true) ∧ ZW zG d 116 40 ls (zfr z r 6 :: st) (z) Q) := zw_getR rfl
theorem s116_40 {ls : List Value}  : ZW zG d 116 40 ls (st) z Q = ZW zG d 116 41 ls ((.int (nI 3)) :: st) z Q := zw_push rfl
theorem s116_41 {x0 x1 x2 x3 x5 x6 : Value} {a : Int32} : ZW zG d 116 41 [x0, x1, x2, x3, .int a, x5, x6] st z Q = ZW zG d 116 43 [x0, x1, x2, x3, .int a, x5, x6] (.int a :: st) z Q := zw_next (f := z_iload 4 43) rfl rfl
theorem s116_43 {ls : List Value} {a b : Int32} {r : Nat} : ZW zG d 116 43 ls (.int b :: .int a :: .ref r :: st) z Q = ((zcls z r = 50 ∧ zin a (zlen z r) = true) ∧ ZW zG d 116 44 ls (st) (sia z r (zx a) (znar 50 b)) Q) := zw_iast rfl
theorem s116_44 {x0 x1 x2 x3 x4 x5 x6 : Value} : ZW zG d 116 44 [x0, x1, x2, x3, x4, x5, x6] st z Q = (zir x0 = true ∧ ZW zG d 116 45 [x0, x1, x2, x3, x4, x5, x6] (x0 :: st) z Q) := zw_cond (f := z_aload 0 45) rfl rfl
theorem s116_45 {ls : List Value} {r : Nat} : ZW zG d 116 45 ls (.ref r :: st) z Q = ((zcls z r = 12 ∧ zir (zfr z r 6) = true) ∧ ZW zG d 116 48 ls (zfr z r 6 :: st) (z) Q) := zw_getR rfl
theorem s116_48 {ls : List Value}  : ZW zG d 116 48 ls (st) z Q = ZW zG d 116 49 ls ((.int (nI 4)) :: st) z Q := zw_push rfl
theorem s116_49 {x0 x1 x2 x3 x4 x6 : Value} {a : Int32} : ZW zG d 116 49 [x0, x1, x2, x3, x4, .int a, x6] st z Q = ZW zG d 116 51 [x0, x1, x2, x3, x4, .int a, x6] (.int a :: st) z Q := zw_next (f := z_iload 5 51) rfl rfl
theorem s116_51 {ls : List Value} {a b : Int32} {r : Nat} : ZW zG d 116 51 ls (.int b :: .int a :: .ref r :: st) z Q = ((zcls z r = 50 ∧ zin a (zlen z r) = true) ∧ ZW zG d 116 52 ls (st) (sia z r (zx a) (znar 50 b)) Q) := zw_iast rfl
theorem s116_52 {ls : List Value}  : ZW zG d 116 52 ls (st) z Q = ZW zG d 116 53 ls ((.int (nI 0)) :: st) z Q := zw_push rfl
theorem s116_53 {x0 x1 x2 x3 x4 x5 x6 : Value} {a : Int32} : ZW zG d 116 53 [x0, x1, x2, x3, x4, x5, x6] (.int a :: st) z Q = ZW zG d 116 55 [x0, x1, x2, x3, x4, zclr x5, .int a] st z Q := zw_next (f := z_istore 6 55) rfl rfl
theorem s116_55 {x0 x1 x2 x3 x4 x5 : Value} {a : Int32} : ZW zG d 116 55 [x0, x1, x2, x3, x4, x5, .int a] st z Q = ZW zG d 116 57 [x0, x1, x2, x3, x4, x5, .int a] (.int a :: st) z Q := zw_next (f := z_iload 6 57) rfl rfl
theorem s116_57 {ls : List Value}  : ZW zG d 116 57 ls (st) z Q = ZW zG d 116 59 ls ((.int (nI 20)) :: st) z Q := zw_push rfl
theorem s116_59 {ls : List Value} {a b : Int32} : ZW zG d 116 59 ls (.int b :: .int a :: st) z Q = if b ≤ a then ZW zG d 116 101 ls st z Q else ZW zG d 116 62 ls st z Q := zw_icge rfl
theorem s116_62 {x0 x1 x2 x3 x4 x5 x6 : Value} : ZW zG d 116 62 [x0, x1, x2, x3, x4, x5, x6] st z Q = (zir x0 = true ∧ ZW zG d 116 63 [x0, x1, x2, x3, x4, x5, x6] (x0 :: st) z Q) := zw_cond (f := z_aload 0 63) rfl rfl
theorem s116_63 {ls : List Value} {r : Nat} : ZW zG d 116 63 ls (.ref r :: st) z Q = ((zcls z r = 12 ∧ zir (zfr z r 4) = true) ∧ ZW zG d 116 66 ls (zfr z r 4 :: st) (z) Q) := zw_getR rfl
theorem s116_66 {x0 x1 x2 x3 x4 x5 x6 : Value} : ZW zG d 116 66 [x0, x1, x2, x3, x4, x5, x6] st z Q = (zir x0 = true ∧ ZW zG d 116 67 [x0, x1, x2, x3, x4, x5, x6] (x0 :: st) z Q) := zw_cond (f := z_aload 0 67) rfl rfl
theorem s116_67 {ls : List Value} {r : Nat} : ZW zG d 116 67 ls (.ref r :: st) z Q = ((zcls z r = 12) ∧ ZW zG d 116 70 ls (.int (zfi z r 5) :: st) (z) Q) := zw_getI rfl
theorem s116_70 {x0 x1 x2 x3 x4 x5 : Value} {a : Int32} : ZW zG d 116 70 [x0, x1, x2, x3, x4, x5, .int a] st z Q = ZW zG d 116 72 [x0, x1, x2, x3, x4, x5, .int a] (.int a :: st) z Q := zw_next (f := z_iload 6 72) rfl rfl
theorem s116_72 {ls : List Value} {a b : Int32} : ZW zG d 116 72 ls (.int b :: .int a :: st) z Q = ZW zG d 116 73 ls (.int (a + b) :: st) z Q := zw_iadd rfl
theorem s116_73 {x0 x1 x2 x3 x4 x5 x6 : Value} : ZW zG d 116 73 [x0, x1, x2, x3, x4, x5, x6] st z Q = (zir x0 = true ∧ ZW zG d 116 74 [x0, x1, x2, x3, x4, x5, x6] (x0 :: st) z Q) := zw_cond (f := z_aload 0 74) rfl rfl
theorem s116_74 {ls : List Value} {r : Nat} : ZW zG d 116 74 ls (.ref r :: st) z Q = ((zcls z r = 12 ∧ zir (zfr z r 6) = true) ∧ ZW zG d 116 77 ls (zfr z r 6 :: st) (z) Q) := zw_getR rfl
theorem s116_77 {x0 x1 x2 x3 x4 x5 : Value} {a : Int32} : ZW zG d 116 77 [x0, x1, x2, x3, x4, x5, .int a] st z Q = ZW zG d 116 79 [x0, x1, x2, x3, x4, x5, .int a] (.int a :: st) z Q := zw_next (f := z_iload 6 79) rfl rfl
theorem s116_79 {ls : List Value}  : ZW zG d 116 79 ls (st) z Q = ZW zG d 116 80 ls ((.int (nI 4)) :: st) z Q := zw_push rfl
theorem s116_80 {ls : List Value} {a b : Int32} : ZW zG d 116 80 ls (.int b :: .int a :: st) z Q = ((¬ b = 0) ∧ ZW zG d 116 81 ls (.int (a / b) :: st) (z) Q) := zw_idiv rfl
theorem s116_81 {ls : List Value} {a : Int32} {r : Nat} : ZW zG d 116 81 ls (.int a :: .ref r :: st) z Q = ((zcls z r = 50 ∧ zin a (zlen z r) = true) ∧ ZW zG d 116 82 ls (.int (zia z r (zx a)) :: st) (z) Q) := zw_iald rfl
theorem s116_82 {ls : List Value}  : ZW zG d 116 82 ls (st) z Q = ZW zG d 116 84 ls ((.int (nI 24)) :: st) z Q := zw_push rfl
theorem s116_84 {ls : List Value}  : ZW zG d 116 84 ls (st) z Q = ZW zG d 116 86 ls ((.int (nI 8)) :: st) z Q := zw_push rfl
theorem s116_86 {x0 x1 x2 x3 x4 x5 : Value} {a : Int32} : ZW zG d 116 86 [x0, x1, x2, x3, x4, x5, .int a] st z Q = ZW zG d 116 88 [x0, x1, x2, x3, x4, x5, .int a] (.int a :: st) z Q := zw_next (f := z_iload 6 88) rfl rfl
theorem s116_88 {ls : List Value}  : ZW zG d 116 88 ls (st) z Q = ZW zG d 116 89 ls ((.int (nI 4)) :: st) z Q := zw_push rfl
theorem s116_89 {ls : List Value} {a b : Int32} : ZW zG d 116 89 ls (.int b :: .int a :: st) z Q = ((¬ b = 0) ∧ ZW zG d 116 90 ls (.int (a - a / b * b) :: st) (z) Q) := zw_irem rfl
theorem s116_90 {ls : List Value} {a b : Int32} : ZW zG d 116 90 ls (.int b :: .int a :: st) z Q = ZW zG d 116 91 ls (.int (a * b) :: st) z Q := zw_imul rfl
theorem s116_91 {ls : List Value} {a b : Int32} : ZW zG d 116 91 ls (.int b :: .int a :: st) z Q = ZW zG d 116 92 ls (.int (a - b) :: st) z Q := zw_isub rfl
theorem s116_92 {ls : List Value} {a b : Int32} : ZW zG d 116 92 ls (.int b :: .int a :: st) z Q = ZW zG d 116 93 ls (.int (a >>> (b &&& 31)) :: st) z Q := zw_ishr rfl
theorem s116_93 {ls : List Value} {a : Int32} : ZW zG d 116 93 ls (.int a :: st) z Q = ZW zG d 116 94 ls (.int a.toInt8.toInt32 :: st) z Q := zw_i2b rfl
theorem s116_94 {ls : List Value} {a b : Int32} {r : Nat} : ZW zG d 116 94 ls (.int b :: .int a :: .ref r :: st) z Q = ((zcls z r = 52 ∧ zin a (zlen z r) = true) ∧ ZW zG d 116 95 ls (st) (sia z r (zx a) (znar 52 b)) Q) := zw_iast rfl
theorem s116_95 {x0 x1 x2 x3 x4 x5 : Value} {a : Int32} : ZW zG d 116 95 [x0, x1, x2, x3, x4, x5, .int a] st z Q = ZW zG d 116 98 [x0, x1, x2, x3, x4, zclr x5, .int (a + (nI 1))] st z Q := zw_next (f := z_iinc 6 (nI 1) 98) rfl rfl
theorem s116_98 {ls : List Value}  : ZW zG d 116 98 ls (st) z Q = ZW zG d 116 55 ls st z Q := zw_goto rfl
theorem s116_101 {x0 x1 x2 x3 x4 x5 x6 : Value} : ZW zG d 116 101 [x0, x1, x2, x3, x4, x5, x6] st z Q = (zir x0 = true ∧ ZW zG d 116 102 [x0, x1, x2, x3, x4, x5, x6] (x0 :: st) z Q) := zw_cond (f := z_aload 0 102) rfl rfl
theorem s116_102 {ls : List Value} {r : Nat} : ZW zG d 116 102 ls (.ref r :: st) z Q = ZW zG d 116 103 ls (.ref r :: .ref r :: st) z Q := zw_dupr rfl
theorem s116_103 {ls : List Value} {r : Nat} : ZW zG d 116 103 ls (.ref r :: st) z Q = ((zcls z r = 12) ∧ ZW zG d 116 106 ls (.int (zfi z r 5) :: st) (z) Q) := zw_getI rfl
theorem s116_106 {ls : List Value}  : ZW zG d 116 106 ls (st) z Q = ZW zG d 116 108 ls ((.int (nI 20)) :: st) z Q := zw_push rfl
theorem s116_108 {ls : List Value} {a b : Int32} : ZW zG d 116 108 ls (.int b :: .int a :: st) z Q = ZW zG d 116 109 ls (.int (a + b) :: st) z Q := zw_iadd rfl
theorem s116_109 {ls : List Value} {a : Int32} {r : Nat} : ZW zG d 116 109 ls (.int a :: .ref r :: st) z Q = ((zcls z r = 12) ∧ ZW zG d 116 112 ls (st) (sfi z r 5 a) Q) := zw_putI rfl
theorem s116_112 {x0 x1 x2 x3 x4 x5 x6 : Value} : ZW zG d 116 112 [x0, x1, x2, x3, x4, x5, x6] st z Q = (zir x0 = true ∧ ZW zG d 116 113 [x0, x1, x2, x3, x4, x5, x6] (x0 :: st) z Q) := zw_cond (f := z_aload 0 113) rfl rfl
theorem s116_113 {ls : List Value} {r : Nat} : ZW zG d 116 113 ls (.ref r :: st) z Q = ((zcls z r = 12) ∧ ZW zG d 116 116 ls (.int (zfi z r 5) :: st) (z) Q) := zw_getI rfl
theorem s116_116 {ls : List Value} {a : Int32} : ZW zG d 116 116 ls ([.int a]) z Q = Q (.inl (some (.int a))) z := zw_reti rfl
/-- X12_end (I)I -/
theorem e117 {r0 : Nat} {v0 : Int32} : ZC zG d 117 [.ref r0, .int v0] z Q = ZW zG d 117 0 [.ref r0, .int v0] [] z Q := rfl
theorem s117_0 {x0 : Value} {a : Int32} : ZW zG d 117 0 [x0, .int a] st z Q = ZW zG d 117 1 [x0, .int a] (.int a :: st) z Q := zw_next (f := z_iload 1 1) rfl rfl
theorem s117_1 {ls : List Value} {a : Int32} : ZW zG d 117 1 ls (.int a :: st) z Q = ZW zG d 117 2 ls (.long a.toInt64 :: st) z Q := zw_i2l rfl
theorem s117_2 {ls : List Value}  : ZW zG d 117 2 ls (st) z Q = ZW zG d 117 3 ls ((.long (lN 0)) :: st) z Q := zw_push rfl
theorem s117_3 {x0 x1 : Value} : ZW zG d 117 3 [x0, x1] st z Q = (zir x0 = true ∧ ZW zG d 117 4 [x0, x1] (x0 :: st) z Q) := zw_cond (f := z_aload 0 4) rfl rfl
theorem s117_4 {ls : List Value} {r : Nat} : ZW zG d 117 4 ls (.ref r :: st) z Q = ((zcls z r = 12) ∧ ZW zG d 117 7 ls (.int (zfi z r 5) :: st) (z) Q) := zw_getI rfl
theorem s117_7 {ls : List Value} {a : Int32} : ZW zG d 117 7 ls (.int a :: st) z Q = ZW zG d 117 8 ls (.long a.toInt64 :: st) z Q := zw_i2l rfl
theorem s117_8 {ls : List Value} {w0 : Int64} {w1 : Int64} {w2 : Int64} : ZW zG (d + 1) 117 8 ls (.long w2 :: .long w1 :: .long w0 :: st) z Q = (zcs st = true ∧ ZC zG d 114 [.long w0, .long w1, .long w2] z (zk zG (d + 1) 117 (none) 11 ls st Q)) := zc_S3 rfl (Nat.le_of_ble_eq_true rfl)
theorem s117_11 {ls : List Value} {a : Int32} : ZW zG d 117 11 ls (.int a :: st) z Q = if ¬ a = 0 then ZW zG d 117 16 ls st z Q else ZW zG d 117 14 ls st z Q := zw_ifne rfl
theorem s117_14 {ls : List Value}  : ZW zG d 117 14 ls (st) z Q = ZW zG d 117 15 ls ((.int (-1)) :: st) z Q := zw_push rfl
theorem s117_15 {ls : List Value} {a : Int32} : ZW zG d 117 15 ls ([.int a]) z Q = Q (.inl (some (.int a))) z := zw_reti rfl
theorem s117_16 {x0 x1 : Value} : ZW zG d 117 16 [x0, x1] st z Q = (zir x0 = true ∧ ZW zG d 117 17 [x0, x1] (x0 :: st) z Q) := zw_cond (f := z_aload 0 17) rfl rfl
theorem s117_17 {x0 : Value} {a : Int32} : ZW zG d 117 17 [x0, .int a] st z Q = ZW zG d 117 18 [x0, .int a] (.int a :: st) z Q := zw_next (f := z_iload 1 18) rfl rfl
theorem s117_18 {ls : List Value} {a : Int32} {r : Nat} : ZW zG d 117 18 ls (.int a :: .ref r :: st) z Q = ((zcls z r = 12) ∧ ZW zG d 117 21 ls (st) (sfi z r 5 a) Q) := zw_putI rfl
theorem s117_21 {x0 : Value} {a : Int32} : ZW zG d 117 21 [x0, .int a] st z Q = ZW zG d 117 22 [x0, .int a] (.int a :: st) z Q := zw_next (f := z_iload 1 22) rfl rfl
theorem s117_22 {ls : List Value} {a : Int32} : ZW zG d 117 22 ls ([.int a]) z Q = Q (.inl (some (.int a))) z := zw_reti rfl
/-- X12_fault (I)I -/
theorem e118 {r0 : Nat} {v0 : Int32} : ZC zG d 118 [.ref r0, .int v0] z Q = ZW zG d 118 0 [.ref r0, .int v0] [] z Q := rfl
theorem s118_0 {x0 : Value} {a : Int32} : ZW zG d 118 0 [x0, .int a] st z Q = ZW zG d 118 1 [x0, .int a] (.int a :: st) z Q := zw_next (f := z_iload 1 1) rfl rfl
theorem s118_1 {ls : List Value} {a : Int32} : ZW zG d 118 1 ls (.int a :: st) z Q = if ¬ a = 0 then ZW zG d 118 11 ls st z Q else ZW zG d 118 4 ls st z Q := zw_ifne rfl
theorem s118_4 {x0 x1 : Value} : ZW zG d 118 4 [x0, x1] st z Q = (zir x0 = true ∧ ZW zG d 118 5 [x0, x1] (x0 :: st) z Q) := zw_cond (f := z_aload 0 5) rfl rfl
theorem s118_5 {ls : List Value} {r : Nat} : ZW zG d 118 5 ls (.ref r :: st) z Q = ((zcls z r = 12) ∧ ZW zG d 118 8 ls (.int (zfi z r 12) :: st) (z) Q) := zw_getI rfl
theorem s118_8 {ls : List Value}  : ZW zG d 118 8 ls (st) z Q = ZW zG d 118 24 ls st z Q := zw_goto rfl
theorem s118_11 {x0 : Value} {a : Int32} : ZW zG d 118 11 [x0, .int a] st z Q = ZW zG d 118 12 [x0, .int a] (.int a :: st) z Q := zw_next (f := z_iload 1 12) rfl rfl
theorem s118_12 {ls : List Value}  : ZW zG d 118 12 ls (st) z Q = ZW zG d 118 13 ls ((.int (nI 1)) :: st) z Q := zw_push rfl
theorem s118_13 {ls : List Value} {a b : Int32} : ZW zG d 118 13 ls (.int b :: .int a :: st) z Q = if ¬ a = b then ZW zG d 118 23 ls st z Q else ZW zG d 118 16 ls st z Q := zw_icne rfl
theorem s118_16 {x0 x1 : Value} : ZW zG d 118 16 [x0, x1] st z Q = (zir x0 = true ∧ ZW zG d 118 17 [x0, x1] (x0 :: st) z Q) := zw_cond (f := z_aload 0 17) rfl rfl
theorem s118_17 {ls : List Value} {r : Nat} : ZW zG d 118 17 ls (.ref r :: st) z Q = ((zcls z r = 12) ∧ ZW zG d 118 20 ls (.int (zfi z r 13) :: st) (z) Q) := zw_getI rfl
theorem s118_20 {ls : List Value}  : ZW zG d 118 20 ls (st) z Q = ZW zG d 118 24 ls st z Q := zw_goto rfl
theorem s118_23 {ls : List Value}  : ZW zG d 118 23 ls (st) z Q = ZW zG d 118 24 ls ((.int (-1)) :: st) z Q := zw_push rfl
theorem s118_24 {ls : List Value} {a : Int32} : ZW zG d 118 24 ls ([.int a]) z Q = Q (.inl (some (.int a))) z := zw_reti rfl
/-- X12_town ()I -/
theorem e119 {r0 : Nat} : ZC zG d 119 [.ref r0] z Q = ZW zG d 119 0 [.ref r0, zdum] [] z Q := rfl
theorem s119_0 {x0 x1 : Value} : ZW zG d 119 0 [x0, x1] st z Q = (zir x0 = true ∧ ZW zG d 119 1 [x0, x1] (x0 :: st) z Q) := zw_cond (f := z_aload 0 1) rfl rfl
theorem s119_1 {x0 x1 : Value} : ZW zG d 119 1 [x0, x1] st z Q = (zir x0 = true ∧ ZW zG d 119 2 [x0, x1] (x0 :: st) z Q) := zw_cond (f := z_aload 0 2) rfl rfl
theorem s119_2 {ls : List Value} {r : Nat} : ZW zG d 119 2 ls (.ref r :: st) z Q = ((zcls z r = 12) ∧ ZW zG d 119 5 ls (.int (zfi z r 5) :: st) (z) Q) := zw_getI rfl
theorem s119_5 {ls : List Value} {a : Int32} {r : Nat} : ZW zG d 119 5 ls (.int a :: .ref r :: st) z Q = ((zcls z r = 12) ∧ ZW zG d 119 8 ls (st) (sfi z r 7 a) Q) := zw_putI rfl
theorem s119_8 {x0 x1 : Value} : ZW zG d 119 8 [x0, x1] st z Q = (zir x0 = true ∧ ZW zG d 119 9 [x0, x1] (x0 :: st) z Q) := zw_cond (f := z_aload 0 9) rfl rfl
theorem s119_9 {ls : List Value}  : ZW zG d 119 9 ls (st) z Q = ZW zG d 119 10 ls ((.int (nI 0)) :: st) z Q := zw_push rfl
theorem s119_10 {ls : List Value} {a : Int32} {r : Nat} : ZW zG d 119 10 ls (.int a :: .ref r :: st) z Q = ((zcls z r = 12) ∧ ZW zG d 119 13 ls (st) (sfi z r 5 a) Q) := zw_putI rfl
theorem s119_13 {x0 x1 : Value} : ZW zG d 119 13 [x0, x1] st z Q = (zir x0 = true ∧ ZW zG d 119 14 [x0, x1] (x0 :: st) z Q) := zw_cond (f := z_aload 0 14) rfl rfl
theorem s119_14 {ls : List Value}  : ZW zG d 119 14 ls (st) z Q = ZW zG d 119 15 ls ((.int (nI 0)) :: st) z Q := zw_push rfl
theorem s119_15 {ls : List Value} {a : Int32} {r : Nat} : ZW zG d 119 15 ls (.int a :: .ref r :: st) z Q = ((zcls z r = 12) ∧ ZW zG d 119 18 ls (st) (sfi z r 8 a) Q) := zw_putI rfl
theorem s119_18 {x0 x1 : Value} : ZW zG d 119 18 [x0, x1] st z Q = (zir x0 = true ∧ ZW zG d 119 19 [x0, x1] (x0 :: st) z Q) := zw_cond (f := z_aload 0 19) rfl rfl
theorem s119_19 {ls : List Value}  : ZW zG d 119 19 ls (st) z Q = ZW zG d 119 20 ls ((.int (nI 0)) :: st) z Q := zw_push rfl
theorem s119_20 {ls : List Value} {a : Int32} {r : Nat} : ZW zG d 119 20 ls (.int a :: .ref r :: st) z Q = ((zcls z r = 12) ∧ ZW zG d 119 23 ls (st) (sfi z r 12 a) Q) := zw_putI rfl
theorem s119_23 {x0 x1 : Value} : ZW zG d 119 23 [x0, x1] st z Q = (zir x0 = true ∧ ZW zG d 119 24 [x0, x1] (x0 :: st) z Q) := zw_cond (f := z_aload 0 24) rfl rfl
theorem s119_24 {ls : List Value}  : ZW zG d 119 24 ls (st) z Q = ZW zG d 119 25 ls ((.int (-1)) :: st) z Q := zw_push rfl
theorem s119_25 {ls : List Value} {a : Int32} {r : Nat} : ZW zG d 119 25 ls (.int a :: .ref r :: st) z Q = ((zcls z r = 12) ∧ ZW zG d 119 28 ls (st) (sfi z r 13 a) Q) := zw_putI rfl
theorem s119_28 {ls : List Value}  : ZW zG d 119 28 ls (st) z Q = ZW zG d 119 29 ls ((.int (nI 0)) :: st) z Q := zw_push rfl
theorem s119_29 {x0 x1 : Value} {a : Int32} : ZW zG d 119 29 [x0, x1] (.int a :: st) z Q = ZW zG d 119 30 [zclr x0, .int a] st z Q := zw_next (f := z_istore 1 30) rfl rfl
theorem s119_30 {x0 : Value} {a : Int32} : ZW zG d 119 30 [x0, .int a] st z Q = ZW zG d 119 31 [x0, .int a] (.int a :: st) z Q := zw_next (f := z_iload 1 31) rfl rfl
theorem s119_31 {ls : List Value}  : ZW zG d 119 31 ls (st) z Q = ZW zG d 119 34 ls ((.int (nI 9080)) :: st) z Q := zw_push rfl
theorem s119_34 {ls : List Value} {a b : Int32} : ZW zG d 119 34 ls (.int b :: .int a :: st) z Q = if b ≤ a then ZW zG d 119 50 ls st z Q else ZW zG d 119 37 ls st z Q := zw_icge rfl
theorem s119_37 {x0 x1 : Value} : ZW zG d 119 37 [x0, x1] st z Q = (zir x0 = true ∧ ZW zG d 119 38 [x0, x1] (x0 :: st) z Q) := zw_cond (f := z_aload 0 38) rfl rfl
theorem s119_38 {ls : List Value} {r : Nat} : ZW zG d 119 38 ls (.ref r :: st) z Q = ((zcls z r = 12 ∧ zir (zfr z r 14) = true) ∧ ZW zG d 119 41 ls (zfr z r 14 :: st) (z) Q) := zw_getR rfl
theorem s119_41 {x0 : Value} {a : Int32} : ZW zG d 119 41 [x0, .int a] st z Q = ZW zG d 119 42 [x0, .int a] (.int a :: st) z Q := zw_next (f := z_iload 1 42) rfl rfl
theorem s119_42 {ls : List Value}  : ZW zG d 119 42 ls (st) z Q = ZW zG d 119 43 ls ((.int (nI 0)) :: st) z Q := zw_push rfl
theorem s119_43 {ls : List Value} {a b : Int32} {r : Nat} : ZW zG d 119 43 ls (.int b :: .int a :: .ref r :: st) z Q = ((zcls z r = 50 ∧ zin a (zlen z r) = true) ∧ ZW zG d 119 44 ls (st) (sia z r (zx a) (znar 50 b)) Q) := zw_iast rfl
theorem s119_44 {x0 : Value} {a : Int32} : ZW zG d 119 44 [x0, .int a] st z Q = ZW zG d 119 47 [zclr x0, .int (a + (nI 1))] st z Q := zw_next (f := z_iinc 1 (nI 1) 47) rfl rfl
theorem s119_47 {ls : List Value}  : ZW zG d 119 47 ls (st) z Q = ZW zG d 119 30 ls st z Q := zw_goto rfl
theorem s119_50 {x0 x1 : Value} : ZW zG d 119 50 [x0, x1] st z Q = (zir x0 = true ∧ ZW zG d 119 51 [x0, x1] (x0 :: st) z Q) := zw_cond (f := z_aload 0 51) rfl rfl
theorem s119_51 {ls : List Value} {r : Nat} : ZW zG d 119 51 ls (.ref r :: st) z Q = ((zcls z r = 12 ∧ zir (zfr z r 14) = true) ∧ ZW zG d 119 54 ls (zfr z r 14 :: st) (z) Q) := zw_getR rfl
theorem s119_54 {ls : List Value}  : ZW zG d 119 54 ls (st) z Q = ZW zG d 119 55 ls ((.int (nI 5)) :: st) z Q := zw_push rfl
theorem s119_55 {ls : List Value}  : ZW zG d 119 55 ls (st) z Q = ZW zG d 119 56 ls ((.int (nI 3)) :: st) z Q := zw_push rfl
theorem s119_56 {ls : List Value} {a b : Int32} {r : Nat} : ZW zG d 119 56 ls (.int b :: .int a :: .ref r :: st) z Q = ((zcls z r = 50 ∧ zin a (zlen z r) = true) ∧ ZW zG d 119 57 ls (st) (sia z r (zx a) (znar 50 b)) Q) := zw_iast rfl
theorem s119_57 {x0 x1 : Value} : ZW zG d 119 57 [x0, x1] st z Q = (zir x0 = true ∧ ZW zG d 119 58 [x0, x1] (x0 :: st) z Q) := zw_cond (f := z_aload 0 58) rfl rfl
theorem s119_58 {ls : List Value}  {r : Nat} : ZW zG (d + 1) 119 58 ls (.ref r :: st) z Q = (zcls z r = 12 ∧ zcs st = true ∧ ZC zG d 120 [.ref r] z (zk zG (d + 1) 119 (none) 61 ls st Q)) := zc_V0 rfl (Nat.le_of_ble_eq_true rfl)
theorem s119_61 {x0 x1 : Value} : ZW zG d 119 61 [x0, x1] st z Q = (zir x0 = true ∧ ZW zG d 119 62 [x0, x1] (x0 :: st) z Q) := zw_cond (f := z_aload 0 62) rfl rfl
theorem s119_62 {ls : List Value}  {r : Nat} : ZW zG (d + 1) 119 62 ls (.ref r :: st) z Q = (zcls z r = 12 ∧ zcs st = true ∧ ZC zG d 122 [.ref r] z (zk zG (d + 1) 119 (none) 65 ls st Q)) := zc_V0 rfl (Nat.le_of_ble_eq_true rfl)
theorem s119_65 {ls : List Value} {a : Int32} : ZW zG d 119 65 ls (.int a :: st) z Q = if a = 0 then ZW zG d 119 82 ls st z Q else ZW zG d 119 68 ls st z Q := zw_ifeq rfl
theorem s119_68 {x0 x1 : Value} : ZW zG d 119 68 [x0, x1] st z Q = (zir x0 = true ∧ ZW zG d 119 69 [x0, x1] (x0 :: st) z Q) := zw_cond (f := z_aload 0 69) rfl rfl
theorem s119_69 {ls : List Value} {r : Nat} : ZW zG d 119 69 ls (.ref r :: st) z Q = ((zcls z r = 12) ∧ ZW zG d 119 72 ls (.int (zfi z r 10) :: st) (z) Q) := zw_getI rfl
theorem s119_72 {ls : List Value} {a : Int32} : ZW zG d 119 72 ls (.int a :: st) z Q = if a = 0 then ZW zG d 119 82 ls st z Q else ZW zG d 119 75 ls st z Q := zw_ifeq rfl
theorem s119_75 {x0 x1 : Value} : ZW zG d 119 75 [x0, x1] st z Q = (zir x0 = true ∧ ZW zG d 119 76 [x0, x1] (x0 :: st) z Q) := zw_cond (f := z_aload 0 76) rfl rfl
theorem s119_76 {ls : List Value}  {r : Nat} : ZW zG (d + 1) 119 76 ls (.ref r :: st) z Q = (zcls z r = 12 ∧ zcs st = true ∧ ZC zG d 123 [.ref r] z (zk zG (d + 1) 119 (none) 79 ls st Q)) := zc_V0 rfl (Nat.le_of_ble_eq_true rfl)
theorem s119_79 {ls : List Value}  : ZW zG d 119 79 ls (st) z Q = ZW zG d 119 61 ls st z Q := zw_goto rfl
theorem s119_82 {x0 x1 : Value} : ZW zG d 119 82 [x0, x1] st z Q = (zir x0 = true ∧ ZW zG d 119 83 [x0, x1] (x0 :: st) z Q) := zw_cond (f := z_aload 0 83) rfl rfl
theorem s119_83 {ls : List Value}  {r : Nat} : ZW zG (d + 1) 119 83 ls (.ref r :: st) z Q = (zcls z r = 12 ∧ zcs st = true ∧ ZC zG d 122 [.ref r] z (zk zG (d + 1) 119 (none) 86 ls st Q)) := zc_V0 rfl (Nat.le_of_ble_eq_true rfl)
theorem s119_86 {ls : List Value} {a : Int32} : ZW zG d 119 86 ls (.int a :: st) z Q = if ¬ a = 0 then ZW zG d 119 92 ls st z Q else ZW zG d 119 89 ls st z Q := zw_ifne rfl
theorem s119_89 {ls : List Value}  : ZW zG d 119 89 ls (st) z Q = ZW zG d 119 91 ls ((.int (-4)) :: st) z Q := zw_push rfl
theorem s119_91 {ls : List Value} {a : Int32} : ZW zG d 119 91 ls ([.int a]) z Q = Q (.inl (some (.int a))) z := zw_reti rfl
theorem s119_92 {ls : List Value}  : ZW zG d 119 92 ls (st) z Q = ZW zG d 119 93 ls ((.int (nI 0)) :: st) z Q := zw_push rfl
theorem s119_93 {x0 x1 : Value} {a : Int32} : ZW zG d 119 93 [x0, x1] (.int a :: st) z Q = ZW zG d 119 94 [zclr x0, .int a] st z Q := zw_next (f := z_istore 1 94) rfl rfl
theorem s119_94 {x0 : Value} {a : Int32} : ZW zG d 119 94 [x0, .int a] st z Q = ZW zG d 119 95 [x0, .int a] (.int a :: st) z Q := zw_next (f := z_iload 1 95) rfl rfl
theorem s119_95 {ls : List Value}  : ZW zG d 119 95 ls (st) z Q = ZW zG d 119 98 ls ((.int (nI 9080)) :: st) z Q := zw_push rfl
theorem s119_98 {ls : List Value} {a b : Int32} : ZW zG d 119 98 ls (.int b :: .int a :: st) z Q = if b ≤ a then ZW zG d 119 119 ls st z Q else ZW zG d 119 101 ls st z Q := zw_icge rfl
theorem s119_101 {x0 x1 : Value} : ZW zG d 119 101 [x0, x1] st z Q = (zir x0 = true ∧ ZW zG d 119 102 [x0, x1] (x0 :: st) z Q) := zw_cond (f := z_aload 0 102) rfl rfl
theorem s119_102 {ls : List Value} {r : Nat} : ZW zG d 119 102 ls (.ref r :: st) z Q = ((zcls z r = 12 ∧ zir (zfr z r 1) = true) ∧ ZW zG d 119 105 ls (zfr z r 1 :: st) (z) Q) := zw_getR rfl
theorem s119_105 {x0 : Value} {a : Int32} : ZW zG d 119 105 [x0, .int a] st z Q = ZW zG d 119 106 [x0, .int a] (.int a :: st) z Q := zw_next (f := z_iload 1 106) rfl rfl
theorem s119_106 {x0 x1 : Value} : ZW zG d 119 106 [x0, x1] st z Q = (zir x0 = true ∧ ZW zG d 119 107 [x0, x1] (x0 :: st) z Q) := zw_cond (f := z_aload 0 107) rfl rfl
theorem s119_107 {ls : List Value} {r : Nat} : ZW zG d 119 107 ls (.ref r :: st) z Q = ((zcls z r = 12 ∧ zir (zfr z r 14) = true) ∧ ZW zG d 119 110 ls (zfr z r 14 :: st) (z) Q) := zw_getR rfl
theorem s119_110 {x0 : Value} {a : Int32} : ZW zG d 119 110 [x0, .int a] st z Q = ZW zG d 119 111 [x0, .int a] (.int a :: st) z Q := zw_next (f := z_iload 1 111) rfl rfl
theorem s119_111 {ls : List Value} {a : Int32} {r : Nat} : ZW zG d 119 111 ls (.int a :: .ref r :: st) z Q = ((zcls z r = 50 ∧ zin a (zlen z r) = true) ∧ ZW zG d 119 112 ls (.int (zia z r (zx a)) :: st) (z) Q) := zw_iald rfl
theorem s119_112 {ls : List Value} {a b : Int32} {r : Nat} : ZW zG d 119 112 ls (.int b :: .int a :: .ref r :: st) z Q = ((zcls z r = 50 ∧ zin a (zlen z r) = true) ∧ ZW zG d 119 113 ls (st) (sia z r (zx a) (znar 50 b)) Q) := zw_iast rfl
theorem s119_113 {x0 : Value} {a : Int32} : ZW zG d 119 113 [x0, .int a] st z Q = ZW zG d 119 116 [zclr x0, .int (a + (nI 1))] st z Q := zw_next (f := z_iinc 1 (nI 1) 116) rfl rfl
theorem s119_116 {ls : List Value}  : ZW zG d 119 116 ls (st) z Q = ZW zG d 119 94 ls st z Q := zw_goto rfl
theorem s119_119 {ls : List Value}  : ZW zG d 119 119 ls (st) z Q = ZW zG d 119 120 ls ((.int (nI 0)) :: st) z Q := zw_push rfl
theorem s119_120 {x0 x1 : Value} {a : Int32} : ZW zG d 119 120 [x0, x1] (.int a :: st) z Q = ZW zG d 119 121 [zclr x0, .int a] st z Q := zw_next (f := z_istore 1 121) rfl rfl
theorem s119_121 {x0 : Value} {a : Int32} : ZW zG d 119 121 [x0, .int a] st z Q = ZW zG d 119 122 [x0, .int a] (.int a :: st) z Q := zw_next (f := z_iload 1 122) rfl rfl
theorem s119_122 {ls : List Value}  : ZW zG d 119 122 ls (st) z Q = ZW zG d 119 124 ls ((.int (nI 16)) :: st) z Q := zw_push rfl
theorem s119_124 {ls : List Value} {a b : Int32} : ZW zG d 119 124 ls (.int b :: .int a :: st) z Q = if b ≤ a then ZW zG d 119 150 ls st z Q else ZW zG d 119 127 ls st z Q := zw_icge rfl
theorem s119_127 {x0 x1 : Value} : ZW zG d 119 127 [x0, x1] st z Q = (zir x0 = true ∧ ZW zG d 119 128 [x0, x1] (x0 :: st) z Q) := zw_cond (f := z_aload 0 128) rfl rfl
theorem s119_128 {ls : List Value} {r : Nat} : ZW zG d 119 128 ls (.ref r :: st) z Q = ((zcls z r = 12 ∧ zir (zfr z r 1) = true) ∧ ZW zG d 119 131 ls (zfr z r 1 :: st) (z) Q) := zw_getR rfl
theorem s119_131 {ls : List Value}  : ZW zG d 119 131 ls (st) z Q = ZW zG d 119 134 ls ((.int (nI 1864)) :: st) z Q := zw_push rfl
theorem s119_134 {x0 : Value} {a : Int32} : ZW zG d 119 134 [x0, .int a] st z Q = ZW zG d 119 135 [x0, .int a] (.int a :: st) z Q := zw_next (f := z_iload 1 135) rfl rfl
theorem s119_135 {ls : List Value} {a b : Int32} : ZW zG d 119 135 ls (.int b :: .int a :: st) z Q = ZW zG d 119 136 ls (.int (a + b) :: st) z Q := zw_iadd rfl
theorem s119_136 {x0 x1 : Value} : ZW zG d 119 136 [x0, x1] st z Q = (zir x0 = true ∧ ZW zG d 119 137 [x0, x1] (x0 :: st) z Q) := zw_cond (f := z_aload 0 137) rfl rfl
theorem s119_137 {x0 : Value} {a : Int32} : ZW zG d 119 137 [x0, .int a] st z Q = ZW zG d 119 138 [x0, .int a] (.int a :: st) z Q := zw_next (f := z_iload 1 138) rfl rfl
theorem s119_138 {ls : List Value}  : ZW zG d 119 138 ls (st) z Q = ZW zG d 119 140 ls ((.int (nI 8)) :: st) z Q := zw_push rfl
theorem s119_140 {ls : List Value} {w0 : Int32} {w1 : Int32} {r : Nat} : ZW zG (d + 1) 119 140 ls (.int w1 :: .int w0 :: .ref r :: st) z Q = (zcls z r = 12 ∧ zcs st = true ∧ ZC zG d 139 [.ref r, .int w0, .int w1] z (zk zG (d + 1) 119 (none) 143 ls st Q)) := zc_V2 rfl (Nat.le_of_ble_eq_true rfl)
theorem s119_143 {ls : List Value} {a b : Int32} {r : Nat} : ZW zG d 119 143 ls (.int b :: .int a :: .ref r :: st) z Q = ((zcls z r = 50 ∧ zin a (zlen z r) = true) ∧ ZW zG d 119 144 ls (st) (sia z r (zx a) (znar 50 b)) Q) := zw_iast rfl
theorem s119_144 {x0 : Value} {a : Int32} : ZW zG d 119 144 [x0, .int a] st z Q = ZW zG d 119 147 [zclr x0, .int (a + (nI 1))] st z Q := zw_next (f := z_iinc 1 (nI 1) 147) rfl rfl
theorem s119_147 {ls : List Value}  : ZW zG d 119 147 ls (st) z Q = ZW zG d 119 121 ls st z Q := zw_goto rfl
theorem s119_150 {x0 x1 : Value} : ZW zG d 119 150 [x0, x1] st z Q = (zir x0 = true ∧ ZW zG d 119 151 [x0, x1] (x0 :: st) z Q) := zw_cond (f := z_aload 0 151) rfl rfl
theorem s119_151 {ls : List Value} {r : Nat} : ZW zG d 119 151 ls (.ref r :: st) z Q = ((zcls z r = 12 ∧ zir (zfr z r 1) = true) ∧ ZW zG d 119 154 ls (zfr z r 1 :: st) (z) Q) := zw_getR rfl
theorem s119_154 {ls : List Value}  : ZW zG d 119 154 ls (st) z Q = ZW zG d 119 155 ls ((.int (nI 0)) :: st) z Q := zw_push rfl
theorem s119_155 {ls : List Value} {a : Int32} {r : Nat} : ZW zG d 119 155 ls (.int a :: .ref r :: st) z Q = ((zcls z r = 50 ∧ zin a (zlen z r) = true) ∧ ZW zG d 119 156 ls (.int (zia z r (zx a)) :: st) (z) Q) := zw_iald rfl
theorem s119_156 {ls : List Value} {a : Int32} : ZW zG d 119 156 ls ([.int a]) z Q = Q (.inl (some (.int a))) z := zw_reti rfl
/-- X12_advance ()V -/
theorem e120 {r0 : Nat} : ZC zG d 120 [.ref r0] z Q = ZW zG d 120 0 [.ref r0, zdum] [] z Q := rfl
theorem s120_0 {x0 x1 : Value} : ZW zG d 120 0 [x0, x1] st z Q = (zir x0 = true ∧ ZW zG d 120 1 [x0, x1] (x0 :: st) z Q) := zw_cond (f := z_aload 0 1) rfl rfl
theorem s120_1 {x0 x1 : Value} : ZW zG d 120 1 [x0, x1] st z Q = (zir x0 = true ∧ ZW zG d 120 2 [x0, x1] (x0 :: st) z Q) := zw_cond (f := z_aload 0 2) rfl rfl
theorem s120_2 {ls : List Value} {r : Nat} : ZW zG d 120 2 ls (.ref r :: st) z Q = ((zcls z r = 12) ∧ ZW zG d 120 5 ls (.int (zfi z r 8) :: st) (z) Q) := zw_getI rfl
theorem s120_5 {ls : List Value} {w0 : Int32} {r : Nat} : ZW zG (d + 1) 120 5 ls (.int w0 :: .ref r :: st) z Q = (zcls z r = 12 ∧ zcs st = true ∧ ZC zG d 121 [.ref r, .int w0] z (zk zG (d + 1) 120 (none) 8 ls st Q)) := zc_V1 rfl (Nat.le_of_ble_eq_true rfl)
theorem s120_8 {ls : List Value}  : ZW zG d 120 8 ls (st) z Q = ZW zG d 120 10 ls ((.int (nI 32)) :: st) z Q := zw_push rfl
theorem s120_10 {ls : List Value} {a b : Int32} : ZW zG d 120 10 ls (.int b :: .int a :: st) z Q = if a = b then ZW zG d 120 26 ls st z Q else ZW zG d 120 13 ls st z Q := zw_iceq rfl
theorem s120_13 {x0 x1 : Value} : ZW zG d 120 13 [x0, x1] st z Q = (zir x0 = true ∧ ZW zG d 120 14 [x0, x1] (x0 :: st) z Q) := zw_cond (f := z_aload 0 14) rfl rfl
theorem s120_14 {x0 x1 : Value} : ZW zG d 120 14 [x0, x1] st z Q = (zir x0 = true ∧ ZW zG d 120 15 [x0, x1] (x0 :: st) z Q) := zw_cond (f := z_aload 0 15) rfl rfl
theorem s120_15 {ls : List Value} {r : Nat} : ZW zG d 120 15 ls (.ref r :: st) z Q = ((zcls z r = 12) ∧ ZW zG d 120 18 ls (.int (zfi z r 8) :: st) (z) Q) := zw_getI rfl
theorem s120_18 {ls : List Value} {w0 : Int32} {r : Nat} : ZW zG (d + 1) 120 18 ls (.int w0 :: .ref r :: st) z Q = (zcls z r = 12 ∧ zcs st = true ∧ ZC zG d 121 [.ref r, .int w0] z (zk zG (d + 1) 120 (none) 21 ls st Q)) := zc_V1 rfl (Nat.le_of_ble_eq_true rfl)
theorem s120_21 {ls : List Value}  : ZW zG d 120 21 ls (st) z Q = ZW zG d 120 23 ls ((.int (nI 10)) :: st) z Q := zw_push rfl
theorem s120_23 {ls : List Value} {a b : Int32} : ZW zG d 120 23 ls (.int b :: .int a :: st) z Q = if ¬ a = b then ZW zG d 120 39 ls st z Q else ZW zG d 120 26 ls st z Q := zw_icne rfl
theorem s120_26 {x0 x1 : Value} : ZW zG d 120 26 [x0, x1] st z Q = (zir x0 = true ∧ ZW zG d 120 27 [x0, x1] (x0 :: st) z Q) := zw_cond (f := z_aload 0 27) rfl rfl
theorem s120_27 {ls : List Value} {r : Nat} : ZW zG d 120 27 ls (.ref r :: st) z Q = ZW zG d 120 28 ls (.ref r :: .ref r :: st) z Q := zw_dupr rfl
theorem s120_28 {ls : List Value} {r : Nat} : ZW zG d 120 28 ls (.ref r :: st) z Q = ((zcls z r = 12) ∧ ZW zG d 120 31 ls (.int (zfi z r 8) :: st) (z) Q) := zw_getI rfl
theorem s120_31 {ls : List Value}  : ZW zG d 120 31 ls (st) z Q = ZW zG d 120 32 ls ((.int (nI 1)) :: st) z Q := zw_push rfl
theorem s120_32 {ls : List Value} {a b : Int32} : ZW zG d 120 32 ls (.int b :: .int a :: st) z Q = ZW zG d 120 33 ls (.int (a + b) :: st) z Q := zw_iadd rfl
theorem s120_33 {ls : List Value} {a : Int32} {r : Nat} : ZW zG d 120 33 ls (.int a :: .ref r :: st) z Q = ((zcls z r = 12) ∧ ZW zG d 120 36 ls (st) (sfi z r 8 a) Q) := zw_putI rfl
theorem s120_36 {ls : List Value}  : ZW zG d 120 36 ls (st) z Q = ZW zG d 120 0 ls st z Q := zw_goto rfl
theorem s120_39 {x0 x1 : Value} : ZW zG d 120 39 [x0, x1] st z Q = (zir x0 = true ∧ ZW zG d 120 40 [x0, x1] (x0 :: st) z Q) := zw_cond (f := z_aload 0 40) rfl rfl
theorem s120_40 {x0 x1 : Value} : ZW zG d 120 40 [x0, x1] st z Q = (zir x0 = true ∧ ZW zG d 120 41 [x0, x1] (x0 :: st) z Q) := zw_cond (f := z_aload 0 41) rfl rfl
theorem s120_41 {ls : List Value} {r : Nat} : ZW zG d 120 41 ls (.ref r :: st) z Q = ((zcls z r = 12) ∧ ZW zG d 120 44 ls (.int (zfi z r 8) :: st) (z) Q) := zw_getI rfl
theorem s120_44 {ls : List Value} {a : Int32} {r : Nat} : ZW zG d 120 44 ls (.int a :: .ref r :: st) z Q = ((zcls z r = 12) ∧ ZW zG d 120 47 ls (st) (sfi z r 9 a) Q) := zw_putI rfl
theorem s120_47 {x0 x1 : Value} : ZW zG d 120 47 [x0, x1] st z Q = (zir x0 = true ∧ ZW zG d 120 48 [x0, x1] (x0 :: st) z Q) := zw_cond (f := z_aload 0 48) rfl rfl
theorem s120_48 {x0 x1 : Value} : ZW zG d 120 48 [x0, x1] st z Q = (zir x0 = true ∧ ZW zG d 120 49 [x0, x1] (x0 :: st) z Q) := zw_cond (f := z_aload 0 49) rfl rfl
theorem s120_49 {ls : List Value} {r : Nat} : ZW zG d 120 49 ls (.ref r :: st) z Q = ((zcls z r = 12) ∧ ZW zG d 120 52 ls (.int (zfi z r 8) :: st) (z) Q) := zw_getI rfl
theorem s120_52 {ls : List Value} {w0 : Int32} {r : Nat} : ZW zG (d + 1) 120 52 ls (.int w0 :: .ref r :: st) z Q = (zcls z r = 12 ∧ zcs st = true ∧ ZC zG d 121 [.ref r, .int w0] z (zk zG (d + 1) 120 (none) 55 ls st Q)) := zc_V1 rfl (Nat.le_of_ble_eq_true rfl)
theorem s120_55 {x0 x1 : Value} {a : Int32} : ZW zG d 120 55 [x0, x1] (.int a :: st) z Q = ZW zG d 120 56 [zclr x0, .int a] st z Q := zw_next (f := z_istore 1 56) rfl rfl
theorem s120_56 {x0 : Value} {a : Int32} : ZW zG d 120 56 [x0, .int a] st z Q = ZW zG d 120 57 [x0, .int a] (.int a :: st) z Q := zw_next (f := z_iload 1 57) rfl rfl
theorem s120_57 {ls : List Value}  : ZW zG d 120 57 ls (st) z Q = ZW zG d 120 58 ls ((.int (-1)) :: st) z Q := zw_push rfl
theorem s120_58 {ls : List Value} {a b : Int32} : ZW zG d 120 58 ls (.int b :: .int a :: st) z Q = if ¬ a = b then ZW zG d 120 69 ls st z Q else ZW zG d 120 61 ls st z Q := zw_icne rfl
theorem s120_61 {x0 x1 : Value} : ZW zG d 120 61 [x0, x1] st z Q = (zir x0 = true ∧ ZW zG d 120 62 [x0, x1] (x0 :: st) z Q) := zw_cond (f := z_aload 0 62) rfl rfl
theorem s120_62 {ls : List Value}  : ZW zG d 120 62 ls (st) z Q = ZW zG d 120 63 ls ((.int (nI 0)) :: st) z Q := zw_push rfl
theorem s120_63 {ls : List Value} {a : Int32} {r : Nat} : ZW zG d 120 63 ls (.int a :: .ref r :: st) z Q = ((zcls z r = 12) ∧ ZW zG d 120 66 ls (st) (sfi z r 10 a) Q) := zw_putI rfl
theorem s120_66 {ls : List Value}  : ZW zG d 120 66 ls (st) z Q = ZW zG d 120 240 ls st z Q := zw_goto rfl
theorem s120_69 {x0 : Value} {a : Int32} : ZW zG d 120 69 [x0, .int a] st z Q = ZW zG d 120 70 [x0, .int a] (.int a :: st) z Q := zw_next (f := z_iload 1 70) rfl rfl
theorem s120_70 {ls : List Value} {a : Int32} : ZW zG d 120 70 ls (.int a :: st) z Q = ZW zG d 120 71 ls (.long a.toInt64 :: st) z Q := zw_i2l rfl
theorem s120_71 {ls : List Value}  : ZW zG d 120 71 ls (st) z Q = ZW zG d 120 74 ls ((.long (lN 97)) :: st) z Q := zw_push rfl
theorem s120_74 {ls : List Value}  : ZW zG d 120 74 ls (st) z Q = ZW zG d 120 77 ls ((.long (lN 122)) :: st) z Q := zw_push rfl
theorem s120_77 {ls : List Value} {w0 : Int64} {w1 : Int64} {w2 : Int64} : ZW zG (d + 1) 120 77 ls (.long w2 :: .long w1 :: .long w0 :: st) z Q = (zcs st = true ∧ ZC zG d 114 [.long w0, .long w1, .long w2] z (zk zG (d + 1) 120 (none) 80 ls st Q)) := zc_S3 rfl (Nat.le_of_ble_eq_true rfl)
theorem s120_80 {ls : List Value} {a : Int32} : ZW zG d 120 80 ls (.int a :: st) z Q = if a = 0 then ZW zG d 120 125 ls st z Q else ZW zG d 120 83 ls st z Q := zw_ifeq rfl
theorem s120_83 {x0 x1 : Value} : ZW zG d 120 83 [x0, x1] st z Q = (zir x0 = true ∧ ZW zG d 120 84 [x0, x1] (x0 :: st) z Q) := zw_cond (f := z_aload 0 84) rfl rfl
theorem s120_84 {x0 x1 : Value} : ZW zG d 120 84 [x0, x1] st z Q = (zir x0 = true ∧ ZW zG d 120 85 [x0, x1] (x0 :: st) z Q) := zw_cond (f := z_aload 0 85) rfl rfl
theorem s120_85 {ls : List Value} {r : Nat} : ZW zG d 120 85 ls (.ref r :: st) z Q = ((zcls z r = 12) ∧ ZW zG d 120 88 ls (.int (zfi z r 8) :: st) (z) Q) := zw_getI rfl
theorem s120_88 {ls : List Value} {w0 : Int32} {r : Nat} : ZW zG (d + 1) 120 88 ls (.int w0 :: .ref r :: st) z Q = (zcls z r = 12 ∧ zcs st = true ∧ ZC zG d 121 [.ref r, .int w0] z (zk zG (d + 1) 120 (none) 91 ls st Q)) := zc_V1 rfl (Nat.le_of_ble_eq_true rfl)
theorem s120_91 {ls : List Value} {a : Int32} : ZW zG d 120 91 ls (.int a :: st) z Q = ZW zG d 120 92 ls (.long a.toInt64 :: st) z Q := zw_i2l rfl
theorem s120_92 {ls : List Value}  : ZW zG d 120 92 ls (st) z Q = ZW zG d 120 95 ls ((.long (lN 97)) :: st) z Q := zw_push rfl
theorem s120_95 {ls : List Value}  : ZW zG d 120 95 ls (st) z Q = ZW zG d 120 98 ls ((.long (lN 122)) :: st) z Q := zw_push rfl
theorem s120_98 {ls : List Value} {w0 : Int64} {w1 : Int64} {w2 : Int64} : ZW zG (d + 1) 120 98 ls (.long w2 :: .long w1 :: .long w0 :: st) z Q = (zcs st = true ∧ ZC zG d 114 [.long w0, .long w1, .long w2] z (zk zG (d + 1) 120 (none) 101 ls st Q)) := zc_S3 rfl (Nat.le_of_ble_eq_true rfl)
theorem s120_101 {ls : List Value} {a : Int32} : ZW zG d 120 101 ls (.int a :: st) z Q = if a = 0 then ZW zG d 120 117 ls st z Q else ZW zG d 120 104 ls st z Q := zw_ifeq rfl
theorem s120_104 {x0 x1 : Value} : ZW zG d 120 104 [x0, x1] st z Q = (zir x0 = true ∧ ZW zG d 120 105 [x0, x1] (x0 :: st) z Q) := zw_cond (f := z_aload 0 105) rfl rfl
theorem s120_105 {ls : List Value} {r : Nat} : ZW zG d 120 105 ls (.ref r :: st) z Q = ZW zG d 120 106 ls (.ref r :: .ref r :: st) z Q := zw_dupr rfl
theorem s120_106 {ls : List Value} {r : Nat} : ZW zG d 120 106 ls (.ref r :: st) z Q = ((zcls z r = 12) ∧ ZW zG d 120 109 ls (.int (zfi z r 8) :: st) (z) Q) := zw_getI rfl
theorem s120_109 {ls : List Value}  : ZW zG d 120 109 ls (st) z Q = ZW zG d 120 110 ls ((.int (nI 1)) :: st) z Q := zw_push rfl
theorem s120_110 {ls : List Value} {a b : Int32} : ZW zG d 120 110 ls (.int b :: .int a :: st) z Q = ZW zG d 120 111 ls (.int (a + b) :: st) z Q := zw_iadd rfl
theorem s120_111 {ls : List Value} {a : Int32} {r : Nat} : ZW zG d 120 111 ls (.int a :: .ref r :: st) z Q = ((zcls z r = 12) ∧ ZW zG d 120 114 ls (st) (sfi z r 8 a) Q) := zw_putI rfl
theorem s120_114 {ls : List Value}  : ZW zG d 120 114 ls (st) z Q = ZW zG d 120 83 ls st z Q := zw_goto rfl
theorem s120_117 {x0 x1 : Value} : ZW zG d 120 117 [x0, x1] st z Q = (zir x0 = true ∧ ZW zG d 120 118 [x0, x1] (x0 :: st) z Q) := zw_cond (f := z_aload 0 118) rfl rfl
theorem s120_118 {ls : List Value}  : ZW zG d 120 118 ls (st) z Q = ZW zG d 120 119 ls ((.int (nI 1)) :: st) z Q := zw_push rfl
theorem s120_119 {ls : List Value} {a : Int32} {r : Nat} : ZW zG d 120 119 ls (.int a :: .ref r :: st) z Q = ((zcls z r = 12) ∧ ZW zG d 120 122 ls (st) (sfi z r 10 a) Q) := zw_putI rfl
theorem s120_122 {ls : List Value}  : ZW zG d 120 122 ls (st) z Q = ZW zG d 120 240 ls st z Q := zw_goto rfl
theorem s120_125 {x0 : Value} {a : Int32} : ZW zG d 120 125 [x0, .int a] st z Q = ZW zG d 120 126 [x0, .int a] (.int a :: st) z Q := zw_next (f := z_iload 1 126) rfl rfl
theorem s120_126 {ls : List Value} {a : Int32} : ZW zG d 120 126 ls (.int a :: st) z Q = ZW zG d 120 127 ls (.long a.toInt64 :: st) z Q := zw_i2l rfl
theorem s120_127 {ls : List Value}  : ZW zG d 120 127 ls (st) z Q = ZW zG d 120 130 ls ((.long (lN 48)) :: st) z Q := zw_push rfl
theorem s120_130 {ls : List Value}  : ZW zG d 120 130 ls (st) z Q = ZW zG d 120 133 ls ((.long (lN 57)) :: st) z Q := zw_push rfl
theorem s120_133 {ls : List Value} {w0 : Int64} {w1 : Int64} {w2 : Int64} : ZW zG (d + 1) 120 133 ls (.long w2 :: .long w1 :: .long w0 :: st) z Q = (zcs st = true ∧ ZC zG d 114 [.long w0, .long w1, .long w2] z (zk zG (d + 1) 120 (none) 136 ls st Q)) := zc_S3 rfl (Nat.le_of_ble_eq_true rfl)
theorem s120_136 {ls : List Value} {a : Int32} : ZW zG d 120 136 ls (.int a :: st) z Q = if a = 0 then ZW zG d 120 215 ls st z Q else ZW zG d 120 139 ls st z Q := zw_ifeq rfl
theorem s120_139 {x0 x1 : Value} : ZW zG d 120 139 [x0, x1] st z Q = (zir x0 = true ∧ ZW zG d 120 140 [x0, x1] (x0 :: st) z Q) := zw_cond (f := z_aload 0 140) rfl rfl
theorem s120_140 {ls : List Value}  : ZW zG d 120 140 ls (st) z Q = ZW zG d 120 141 ls ((.int (nI 0)) :: st) z Q := zw_push rfl
theorem s120_141 {ls : List Value} {a : Int32} {r : Nat} : ZW zG d 120 141 ls (.int a :: .ref r :: st) z Q = ((zcls z r = 12) ∧ ZW zG d 120 144 ls (st) (sfi z r 11 a) Q) := zw_putI rfl
theorem s120_144 {x0 x1 : Value} : ZW zG d 120 144 [x0, x1] st z Q = (zir x0 = true ∧ ZW zG d 120 145 [x0, x1] (x0 :: st) z Q) := zw_cond (f := z_aload 0 145) rfl rfl
theorem s120_145 {x0 x1 : Value} : ZW zG d 120 145 [x0, x1] st z Q = (zir x0 = true ∧ ZW zG d 120 146 [x0, x1] (x0 :: st) z Q) := zw_cond (f := z_aload 0 146) rfl rfl
theorem s120_146 {ls : List Value} {r : Nat} : ZW zG d 120 146 ls (.ref r :: st) z Q = ((zcls z r = 12) ∧ ZW zG d 120 149 ls (.int (zfi z r 8) :: st) (z) Q) := zw_getI rfl
theorem s120_149 {ls : List Value} {w0 : Int32} {r : Nat} : ZW zG (d + 1) 120 149 ls (.int w0 :: .ref r :: st) z Q = (zcls z r = 12 ∧ zcs st = true ∧ ZC zG d 121 [.ref r, .int w0] z (zk zG (d + 1) 120 (none) 152 ls st Q)) := zc_V1 rfl (Nat.le_of_ble_eq_true rfl)
theorem s120_152 {ls : List Value} {a : Int32} : ZW zG d 120 152 ls (.int a :: st) z Q = ZW zG d 120 153 ls (.long a.toInt64 :: st) z Q := zw_i2l rfl
theorem s120_153 {ls : List Value}  : ZW zG d 120 153 ls (st) z Q = ZW zG d 120 156 ls ((.long (lN 48)) :: st) z Q := zw_push rfl
theorem s120_156 {ls : List Value}  : ZW zG d 120 156 ls (st) z Q = ZW zG d 120 159 ls ((.long (lN 57)) :: st) z Q := zw_push rfl
theorem s120_159 {ls : List Value} {w0 : Int64} {w1 : Int64} {w2 : Int64} : ZW zG (d + 1) 120 159 ls (.long w2 :: .long w1 :: .long w0 :: st) z Q = (zcs st = true ∧ ZC zG d 114 [.long w0, .long w1, .long w2] z (zk zG (d + 1) 120 (none) 162 ls st Q)) := zc_S3 rfl (Nat.le_of_ble_eq_true rfl)
theorem s120_162 {ls : List Value} {a : Int32} : ZW zG d 120 162 ls (.int a :: st) z Q = if a = 0 then ZW zG d 120 207 ls st z Q else ZW zG d 120 165 ls st z Q := zw_ifeq rfl
theorem s120_165 {x0 x1 : Value} : ZW zG d 120 165 [x0, x1] st z Q = (zir x0 = true ∧ ZW zG d 120 166 [x0, x1] (x0 :: st) z Q) := zw_cond (f := z_aload 0 166) rfl rfl
theorem s120_166 {ls : List Value}  : ZW zG d 120 166 ls (st) z Q = ZW zG d 120 169 ls ((.int (nI 9999)) :: st) z Q := zw_push rfl
theorem s120_169 {ls : List Value}  : ZW zG d 120 169 ls (st) z Q = ZW zG d 120 171 ls ((.int (nI 10)) :: st) z Q := zw_push rfl
theorem s120_171 {x0 x1 : Value} : ZW zG d 120 171 [x0, x1] st z Q = (zir x0 = true ∧ ZW zG d 120 172 [x0, x1] (x0 :: st) z Q) := zw_cond (f := z_aload 0 172) rfl rfl
theorem s120_172 {ls : List Value} {r : Nat} : ZW zG d 120 172 ls (.ref r :: st) z Q = ((zcls z r = 12) ∧ ZW zG d 120 175 ls (.int (zfi z r 11) :: st) (z) Q) := zw_getI rfl
theorem s120_175 {ls : List Value} {a b : Int32} : ZW zG d 120 175 ls (.int b :: .int a :: st) z Q = ZW zG d 120 176 ls (.int (a * b) :: st) z Q := zw_imul rfl
theorem s120_176 {x0 x1 : Value} : ZW zG d 120 176 [x0, x1] st z Q = (zir x0 = true ∧ ZW zG d 120 177 [x0, x1] (x0 :: st) z Q) := zw_cond (f := z_aload 0 177) rfl rfl
theorem s120_177 {x0 x1 : Value} : ZW zG d 120 177 [x0, x1] st z Q = (zir x0 = true ∧ ZW zG d 120 178 [x0, x1] (x0 :: st) z Q) := zw_cond (f := z_aload 0 178) rfl rfl
theorem s120_178 {ls : List Value} {r : Nat} : ZW zG d 120 178 ls (.ref r :: st) z Q = ((zcls z r = 12) ∧ ZW zG d 120 181 ls (.int (zfi z r 8) :: st) (z) Q) := zw_getI rfl
theorem s120_181 {ls : List Value} {w0 : Int32} {r : Nat} : ZW zG (d + 1) 120 181 ls (.int w0 :: .ref r :: st) z Q = (zcls z r = 12 ∧ zcs st = true ∧ ZC zG d 121 [.ref r, .int w0] z (zk zG (d + 1) 120 (none) 184 ls st Q)) := zc_V1 rfl (Nat.le_of_ble_eq_true rfl)
theorem s120_184 {ls : List Value} {a b : Int32} : ZW zG d 120 184 ls (.int b :: .int a :: st) z Q = ZW zG d 120 185 ls (.int (a + b) :: st) z Q := zw_iadd rfl
theorem s120_185 {ls : List Value}  : ZW zG d 120 185 ls (st) z Q = ZW zG d 120 187 ls ((.int (nI 48)) :: st) z Q := zw_push rfl
theorem s120_187 {ls : List Value} {a b : Int32} : ZW zG d 120 187 ls (.int b :: .int a :: st) z Q = ZW zG d 120 188 ls (.int (a - b) :: st) z Q := zw_isub rfl
theorem s120_188 {ls : List Value} {a b : Int32} : ZW zG d 120 188 ls (.int b :: .int a :: st) z Q = ((zcs st = true) ∧ ZW zG d 120 191 ls (.int (zmin a b) :: st) (z) Q) := zw_mmin rfl
theorem s120_191 {ls : List Value} {a : Int32} {r : Nat} : ZW zG d 120 191 ls (.int a :: .ref r :: st) z Q = ((zcls z r = 12) ∧ ZW zG d 120 194 ls (st) (sfi z r 11 a) Q) := zw_putI rfl
theorem s120_194 {x0 x1 : Value} : ZW zG d 120 194 [x0, x1] st z Q = (zir x0 = true ∧ ZW zG d 120 195 [x0, x1] (x0 :: st) z Q) := zw_cond (f := z_aload 0 195) rfl rfl
theorem s120_195 {ls : List Value} {r : Nat} : ZW zG d 120 195 ls (.ref r :: st) z Q = ZW zG d 120 196 ls (.ref r :: .ref r :: st) z Q := zw_dupr rfl
theorem s120_196 {ls : List Value} {r : Nat} : ZW zG d 120 196 ls (.ref r :: st) z Q = ((zcls z r = 12) ∧ ZW zG d 120 199 ls (.int (zfi z r 8) :: st) (z) Q) := zw_getI rfl
theorem s120_199 {ls : List Value}  : ZW zG d 120 199 ls (st) z Q = ZW zG d 120 200 ls ((.int (nI 1)) :: st) z Q := zw_push rfl
theorem s120_200 {ls : List Value} {a b : Int32} : ZW zG d 120 200 ls (.int b :: .int a :: st) z Q = ZW zG d 120 201 ls (.int (a + b) :: st) z Q := zw_iadd rfl
theorem s120_201 {ls : List Value} {a : Int32} {r : Nat} : ZW zG d 120 201 ls (.int a :: .ref r :: st) z Q = ((zcls z r = 12) ∧ ZW zG d 120 204 ls (st) (sfi z r 8 a) Q) := zw_putI rfl
theorem s120_204 {ls : List Value}  : ZW zG d 120 204 ls (st) z Q = ZW zG d 120 144 ls st z Q := zw_goto rfl
theorem s120_207 {x0 x1 : Value} : ZW zG d 120 207 [x0, x1] st z Q = (zir x0 = true ∧ ZW zG d 120 208 [x0, x1] (x0 :: st) z Q) := zw_cond (f := z_aload 0 208) rfl rfl
theorem s120_208 {ls : List Value}  : ZW zG d 120 208 ls (st) z Q = ZW zG d 120 209 ls ((.int (nI 2)) :: st) z Q := zw_push rfl
theorem s120_209 {ls : List Value} {a : Int32} {r : Nat} : ZW zG d 120 209 ls (.int a :: .ref r :: st) z Q = ((zcls z r = 12) ∧ ZW zG d 120 212 ls (st) (sfi z r 10 a) Q) := zw_putI rfl
theorem s120_212 {ls : List Value}  : ZW zG d 120 212 ls (st) z Q = ZW zG d 120 240 ls st z Q := zw_goto rfl
theorem s120_215 {x0 x1 : Value} : ZW zG d 120 215 [x0, x1] st z Q = (zir x0 = true ∧ ZW zG d 120 216 [x0, x1] (x0 :: st) z Q) := zw_cond (f := z_aload 0 216) rfl rfl
theorem s120_216 {x0 : Value} {a : Int32} : ZW zG d 120 216 [x0, .int a] st z Q = ZW zG d 120 217 [x0, .int a] (.int a :: st) z Q := zw_next (f := z_iload 1 217) rfl rfl
theorem s120_217 {ls : List Value}  : ZW zG d 120 217 ls (st) z Q = ZW zG d 120 219 ls ((.int (nI 59)) :: st) z Q := zw_push rfl
theorem s120_219 {ls : List Value} {a b : Int32} : ZW zG d 120 219 ls (.int b :: .int a :: st) z Q = if ¬ a = b then ZW zG d 120 226 ls st z Q else ZW zG d 120 222 ls st z Q := zw_icne rfl
theorem s120_222 {ls : List Value}  : ZW zG d 120 222 ls (st) z Q = ZW zG d 120 223 ls ((.int (nI 3)) :: st) z Q := zw_push rfl
theorem s120_223 {ls : List Value}  : ZW zG d 120 223 ls (st) z Q = ZW zG d 120 227 ls st z Q := zw_goto rfl
theorem s120_226 {ls : List Value}  : ZW zG d 120 226 ls (st) z Q = ZW zG d 120 227 ls ((.int (nI 4)) :: st) z Q := zw_push rfl
theorem s120_227 {ls : List Value} {a : Int32} {r : Nat} : ZW zG d 120 227 ls (.int a :: .ref r :: st) z Q = ((zcls z r = 12) ∧ ZW zG d 120 230 ls (st) (sfi z r 10 a) Q) := zw_putI rfl
theorem s120_230 {x0 x1 : Value} : ZW zG d 120 230 [x0, x1] st z Q = (zir x0 = true ∧ ZW zG d 120 231 [x0, x1] (x0 :: st) z Q) := zw_cond (f := z_aload 0 231) rfl rfl
theorem s120_231 {ls : List Value} {r : Nat} : ZW zG d 120 231 ls (.ref r :: st) z Q = ZW zG d 120 232 ls (.ref r :: .ref r :: st) z Q := zw_dupr rfl
theorem s120_232 {ls : List Value} {r : Nat} : ZW zG d 120 232 ls (.ref r :: st) z Q = ((zcls z r = 12) ∧ ZW zG d 120 235 ls (.int (zfi z r 8) :: st) (z) Q) := zw_getI rfl
theorem s120_235 {ls : List Value}  : ZW zG d 120 235 ls (st) z Q = ZW zG d 120 236 ls ((.int (nI 1)) :: st) z Q := zw_push rfl
theorem s120_236 {ls : List Value} {a b : Int32} : ZW zG d 120 236 ls (.int b :: .int a :: st) z Q = ZW zG d 120 237 ls (.int (a + b) :: st) z Q := zw_iadd rfl
theorem s120_237 {ls : List Value} {a : Int32} {r : Nat} : ZW zG d 120 237 ls (.int a :: .ref r :: st) z Q = ((zcls z r = 12) ∧ ZW zG d 120 240 ls (st) (sfi z r 8 a) Q) := zw_putI rfl
theorem s120_240 {ls : List Value}  : ZW zG d 120 240 ls ([]) z Q = Q (.inl none) z := zw_ret rfl
/-- X12_see (I)I -/
theorem e121 {r0 : Nat} {v0 : Int32} : ZC zG d 121 [.ref r0, .int v0] z Q = ZW zG d 121 0 [.ref r0, .int v0] [] z Q := rfl
theorem s121_0 {x0 : Value} {a : Int32} : ZW zG d 121 0 [x0, .int a] st z Q = ZW zG d 121 1 [x0, .int a] (.int a :: st) z Q := zw_next (f := z_iload 1 1) rfl rfl
theorem s121_1 {x0 x1 : Value} : ZW zG d 121 1 [x0, x1] st z Q = (zir x0 = true ∧ ZW zG d 121 2 [x0, x1] (x0 :: st) z Q) := zw_cond (f := z_aload 0 2) rfl rfl
theorem s121_2 {ls : List Value} {r : Nat} : ZW zG d 121 2 ls (.ref r :: st) z Q = ((zcls z r = 12) ∧ ZW zG d 121 5 ls (.int (zfi z r 7) :: st) (z) Q) := zw_getI rfl
theorem s121_5 {ls : List Value} {a b : Int32} : ZW zG d 121 5 ls (.int b :: .int a :: st) z Q = if b ≤ a then ZW zG d 121 21 ls st z Q else ZW zG d 121 8 ls st z Q := zw_icge rfl
theorem s121_8 {x0 x1 : Value} : ZW zG d 121 8 [x0, x1] st z Q = (zir x0 = true ∧ ZW zG d 121 9 [x0, x1] (x0 :: st) z Q) := zw_cond (f := z_aload 0 9) rfl rfl
theorem s121_9 {ls : List Value} {r : Nat} : ZW zG d 121 9 ls (.ref r :: st) z Q = ((zcls z r = 12 ∧ zir (zfr z r 4) = true) ∧ ZW zG d 121 12 ls (zfr z r 4 :: st) (z) Q) := zw_getR rfl
theorem s121_12 {x0 : Value} {a : Int32} : ZW zG d 121 12 [x0, .int a] st z Q = ZW zG d 121 13 [x0, .int a] (.int a :: st) z Q := zw_next (f := z_iload 1 13) rfl rfl
theorem s121_13 {ls : List Value} {a : Int32} {r : Nat} : ZW zG d 121 13 ls (.int a :: .ref r :: st) z Q = ((zcls z r = 52 ∧ zin a (zlen z r) = true) ∧ ZW zG d 121 14 ls (.int (zia z r (zx a)) :: st) (z) Q) := zw_iald rfl
theorem s121_14 {ls : List Value}  : ZW zG d 121 14 ls (st) z Q = ZW zG d 121 17 ls ((.int (nI 255)) :: st) z Q := zw_push rfl
theorem s121_17 {ls : List Value} {a b : Int32} : ZW zG d 121 17 ls (.int b :: .int a :: st) z Q = ZW zG d 121 18 ls (.int (a &&& b) :: st) z Q := zw_iand rfl
theorem s121_18 {ls : List Value}  : ZW zG d 121 18 ls (st) z Q = ZW zG d 121 22 ls st z Q := zw_goto rfl
theorem s121_21 {ls : List Value}  : ZW zG d 121 21 ls (st) z Q = ZW zG d 121 22 ls ((.int (-1)) :: st) z Q := zw_push rfl
theorem s121_22 {ls : List Value} {a : Int32} : ZW zG d 121 22 ls ([.int a]) z Q = Q (.inl (some (.int a))) z := zw_reti rfl
/-- X12_good ()Z -/
theorem e122 {r0 : Nat} : ZC zG d 122 [.ref r0] z Q = ZW zG d 122 0 [.ref r0] [] z Q := rfl
theorem s122_0 {x0 : Value} : ZW zG d 122 0 [x0] st z Q = (zir x0 = true ∧ ZW zG d 122 1 [x0] (x0 :: st) z Q) := zw_cond (f := z_aload 0 1) rfl rfl
theorem s122_1 {ls : List Value} {r : Nat} : ZW zG d 122 1 ls (.ref r :: st) z Q = ((zcls z r = 12) ∧ ZW zG d 122 4 ls (.int (zfi z r 12) :: st) (z) Q) := zw_getI rfl
theorem s122_4 {ls : List Value} {a : Int32} : ZW zG d 122 4 ls (.int a :: st) z Q = if ¬ a = 0 then ZW zG d 122 11 ls st z Q else ZW zG d 122 7 ls st z Q := zw_ifne rfl
theorem s122_7 {ls : List Value}  : ZW zG d 122 7 ls (st) z Q = ZW zG d 122 8 ls ((.int (nI 1)) :: st) z Q := zw_push rfl
theorem s122_8 {ls : List Value}  : ZW zG d 122 8 ls (st) z Q = ZW zG d 122 12 ls st z Q := zw_goto rfl
theorem s122_11 {ls : List Value}  : ZW zG d 122 11 ls (st) z Q = ZW zG d 122 12 ls ((.int (nI 0)) :: st) z Q := zw_push rfl
theorem s122_12 {ls : List Value} {a : Int32} : ZW zG d 122 12 ls ([.int a]) z Q = ((a = 0 ∨ a = 1) ∧ Q (.inl (some (.int a))) z) := zw_retz rfl
/-- X12_readLine ()V -/
theorem e123 {r0 : Nat} : ZC zG d 123 [.ref r0] z Q = ZW zG d 123 0 [.ref r0, zdum, zdum] [] z Q := rfl
theorem s123_0 {x0 x1 x2 : Value} : ZW zG d 123 0 [x0, x1, x2] st z Q = (zir x0 = true ∧ ZW zG d 123 1 [x0, x1, x2] (x0 :: st) z Q) := zw_cond (f := z_aload 0 1) rfl rfl
theorem s123_1 {ls : List Value}  {r : Nat} : ZW zG (d + 1) 123 1 ls (.ref r :: st) z Q = (zcls z r = 12 ∧ zcs st = true ∧ ZC zG d 124 [.ref r] z (zk zG (d + 1) 123 (none) 4 ls st Q)) := zc_V0 rfl (Nat.le_of_ble_eq_true rfl)
theorem s123_4 {ls : List Value}  : ZW zG d 123 4 ls (st) z Q = ZW zG d 123 5 ls ((.int (-1)) :: st) z Q := zw_push rfl
theorem s123_5 {ls : List Value} {a b : Int32} : ZW zG d 123 5 ls (.int b :: .int a :: st) z Q = if a = b then ZW zG d 123 12 ls st z Q else ZW zG d 123 8 ls st z Q := zw_iceq rfl
theorem s123_8 {ls : List Value}  : ZW zG d 123 8 ls (st) z Q = ZW zG d 123 9 ls ((.int (nI 1)) :: st) z Q := zw_push rfl
theorem s123_9 {ls : List Value}  : ZW zG d 123 9 ls (st) z Q = ZW zG d 123 13 ls st z Q := zw_goto rfl
theorem s123_12 {ls : List Value}  : ZW zG d 123 12 ls (st) z Q = ZW zG d 123 13 ls ((.int (nI 0)) :: st) z Q := zw_push rfl
theorem s123_13 {x0 x1 x2 : Value} {a : Int32} : ZW zG d 123 13 [x0, x1, x2] (.int a :: st) z Q = ZW zG d 123 14 [zclr x0, .int a, x2] st z Q := zw_next (f := z_istore 1 14) rfl rfl
theorem s123_14 {x0 x2 : Value} {a : Int32} : ZW zG d 123 14 [x0, .int a, x2] st z Q = ZW zG d 123 15 [x0, .int a, x2] (.int a :: st) z Q := zw_next (f := z_iload 1 15) rfl rfl
theorem s123_15 {ls : List Value} {a : Int32} : ZW zG d 123 15 ls (.int a :: st) z Q = if ¬ a = 0 then ZW zG d 123 58 ls st z Q else ZW zG d 123 18 ls st z Q := zw_ifne rfl
theorem s123_18 {x0 x1 x2 : Value} : ZW zG d 123 18 [x0, x1, x2] st z Q = (zir x0 = true ∧ ZW zG d 123 19 [x0, x1, x2] (x0 :: st) z Q) := zw_cond (f := z_aload 0 19) rfl rfl
theorem s123_19 {ls : List Value}  : ZW zG d 123 19 ls (st) z Q = ZW zG d 123 22 ls ((.ref 11) :: st) z Q := zw_push rfl
theorem s123_22 {ls : List Value} {w0 : Nat} {r : Nat} : ZW zG (d + 1) 123 22 ls (.ref w0 :: .ref r :: st) z Q = (zcls z r = 12 ∧ zcs st = true ∧ ZC zG d 125 [.ref r, .ref w0] z (zk zG (d + 1) 123 (none) 25 ls st Q)) := zc_V1 rfl (Nat.le_of_ble_eq_true rfl)
theorem s123_25 {ls : List Value} {a : Int32} : ZW zG d 123 25 ls (.int a :: st) z Q = if ¬ a = 0 then ZW zG d 123 58 ls st z Q else ZW zG d 123 28 ls st z Q := zw_ifne rfl
theorem s123_28 {x0 x1 x2 : Value} : ZW zG d 123 28 [x0, x1, x2] st z Q = (zir x0 = true ∧ ZW zG d 123 29 [x0, x1, x2] (x0 :: st) z Q) := zw_cond (f := z_aload 0 29) rfl rfl
theorem s123_29 {ls : List Value}  : ZW zG d 123 29 ls (st) z Q = ZW zG d 123 32 ls ((.ref 14) :: st) z Q := zw_push rfl
theorem s123_32 {ls : List Value} {w0 : Nat} {r : Nat} : ZW zG (d + 1) 123 32 ls (.ref w0 :: .ref r :: st) z Q = (zcls z r = 12 ∧ zcs st = true ∧ ZC zG d 125 [.ref r, .ref w0] z (zk zG (d + 1) 123 (none) 35 ls st Q)) := zc_V1 rfl (Nat.le_of_ble_eq_true rfl)
theorem s123_35 {ls : List Value} {a : Int32} : ZW zG d 123 35 ls (.int a :: st) z Q = if ¬ a = 0 then ZW zG d 123 58 ls st z Q else ZW zG d 123 38 ls st z Q := zw_ifne rfl
theorem s123_38 {x0 x1 x2 : Value} : ZW zG d 123 38 [x0, x1, x2] st z Q = (zir x0 = true ∧ ZW zG d 123 39 [x0, x1, x2] (x0 :: st) z Q) := zw_cond (f := z_aload 0 39) rfl rfl
theorem s123_39 {ls : List Value}  : ZW zG d 123 39 ls (st) z Q = ZW zG d 123 42 ls ((.ref 21) :: st) z Q := zw_push rfl
theorem s123_42 {ls : List Value} {w0 : Nat} {r : Nat} : ZW zG (d + 1) 123 42 ls (.ref w0 :: .ref r :: st) z Q = (zcls z r = 12 ∧ zcs st = true ∧ ZC zG d 125 [.ref r, .ref w0] z (zk zG (d + 1) 123 (none) 45 ls st Q)) := zc_V1 rfl (Nat.le_of_ble_eq_true rfl)
theorem s123_45 {ls : List Value} {a : Int32} : ZW zG d 123 45 ls (.int a :: st) z Q = if ¬ a = 0 then ZW zG d 123 58 ls st z Q else ZW zG d 123 48 ls st z Q := zw_ifne rfl
theorem s123_48 {x0 x1 x2 : Value} : ZW zG d 123 48 [x0, x1, x2] st z Q = (zir x0 = true ∧ ZW zG d 123 49 [x0, x1, x2] (x0 :: st) z Q) := zw_cond (f := z_aload 0 49) rfl rfl
theorem s123_49 {ls : List Value}  : ZW zG d 123 49 ls (st) z Q = ZW zG d 123 52 ls ((.ref 13) :: st) z Q := zw_push rfl
theorem s123_52 {ls : List Value} {w0 : Nat} {r : Nat} : ZW zG (d + 1) 123 52 ls (.ref w0 :: .ref r :: st) z Q = (zcls z r = 12 ∧ zcs st = true ∧ ZC zG d 125 [.ref r, .ref w0] z (zk zG (d + 1) 123 (none) 55 ls st Q)) := zc_V1 rfl (Nat.le_of_ble_eq_true rfl)
theorem s123_55 {ls : List Value} {a : Int32} : ZW zG d 123 55 ls (.int a :: st) z Q = if a = 0 then ZW zG d 123 62 ls st z Q else ZW zG d 123 58 ls st z Q := zw_ifeq rfl
theorem s123_58 {ls : List Value}  : ZW zG d 123 58 ls (st) z Q = ZW zG d 123 59 ls ((.int (nI 1)) :: st) z Q := zw_push rfl
theorem s123_59 {ls : List Value}  : ZW zG d 123 59 ls (st) z Q = ZW zG d 123 63 ls st z Q := zw_goto rfl
theorem s123_62 {ls : List Value}  : ZW zG d 123 62 ls (st) z Q = ZW zG d 123 63 ls ((.int (nI 0)) :: st) z Q := zw_push rfl
theorem s123_63 {x0 x1 x2 : Value} {a : Int32} : ZW zG d 123 63 [x0, x1, x2] (.int a :: st) z Q = ZW zG d 123 64 [x0, zclr x1, .int a] st z Q := zw_next (f := z_istore 2 64) rfl rfl
theorem s123_64 {x0 x1 : Value} {a : Int32} : ZW zG d 123 64 [x0, x1, .int a] st z Q = ZW zG d 123 65 [x0, x1, .int a] (.int a :: st) z Q := zw_next (f := z_iload 2 65) rfl rfl
theorem s123_65 {ls : List Value} {a : Int32} : ZW zG d 123 65 ls (.int a :: st) z Q = if ¬ a = 0 then ZW zG d 123 73 ls st z Q else ZW zG d 123 68 ls st z Q := zw_ifne rfl
theorem s123_68 {x0 x1 x2 : Value} : ZW zG d 123 68 [x0, x1, x2] st z Q = (zir x0 = true ∧ ZW zG d 123 69 [x0, x1, x2] (x0 :: st) z Q) := zw_cond (f := z_aload 0 69) rfl rfl
theorem s123_69 {ls : List Value}  : ZW zG d 123 69 ls (st) z Q = ZW zG d 123 70 ls ((.int (nI 1)) :: st) z Q := zw_push rfl
theorem s123_70 {ls : List Value} {w0 : Int32} {r : Nat} : ZW zG (d + 1) 123 70 ls (.int w0 :: .ref r :: st) z Q = (zcls z r = 12 ∧ zcs st = true ∧ ZC zG d 126 [.ref r, .int w0] z (zk zG (d + 1) 123 (none) 73 ls st Q)) := zc_V1 rfl (Nat.le_of_ble_eq_true rfl)
theorem s123_73 {x0 x1 x2 : Value} : ZW zG d 123 73 [x0, x1, x2] st z Q = (zir x0 = true ∧ ZW zG d 123 74 [x0, x1, x2] (x0 :: st) z Q) := zw_cond (f := z_aload 0 74) rfl rfl
theorem s123_74 {ls : List Value}  : ZW zG d 123 74 ls (st) z Q = ZW zG d 123 77 ls ((.ref 11) :: st) z Q := zw_push rfl
theorem s123_77 {ls : List Value} {w0 : Nat} {r : Nat} : ZW zG (d + 1) 123 77 ls (.ref w0 :: .ref r :: st) z Q = (zcls z r = 12 ∧ zcs st = true ∧ ZC zG d 125 [.ref r, .ref w0] z (zk zG (d + 1) 123 (none) 80 ls st Q)) := zc_V1 rfl (Nat.le_of_ble_eq_true rfl)
theorem s123_80 {ls : List Value} {a : Int32} : ZW zG d 123 80 ls (.int a :: st) z Q = if a = 0 then ZW zG d 123 94 ls st z Q else ZW zG d 123 83 ls st z Q := zw_ifeq rfl
theorem s123_83 {x0 x1 x2 : Value} : ZW zG d 123 83 [x0, x1, x2] st z Q = (zir x0 = true ∧ ZW zG d 123 84 [x0, x1, x2] (x0 :: st) z Q) := zw_cond (f := z_aload 0 84) rfl rfl
theorem s123_84 {ls : List Value} {r : Nat} : ZW zG d 123 84 ls (.ref r :: st) z Q = ((zcls z r = 12 ∧ zir (zfr z r 14) = true) ∧ ZW zG d 123 87 ls (zfr z r 14 :: st) (z) Q) := zw_getR rfl
theorem s123_87 {ls : List Value}  : ZW zG d 123 87 ls (st) z Q = ZW zG d 123 88 ls ((.int (nI 0)) :: st) z Q := zw_push rfl
theorem s123_88 {ls : List Value} {a : Int32} {r : Nat} : ZW zG d 123 88 ls (.int a :: .ref r :: st) z Q = ((zcls z r = 50 ∧ zin a (zlen z r) = true) ∧ ZW zG d 123 89 ls (.int (zia z r (zx a)) :: st) (z) Q) := zw_iald rfl
theorem s123_89 {ls : List Value}  : ZW zG d 123 89 ls (st) z Q = ZW zG d 123 91 ls ((.int (nI 16)) :: st) z Q := zw_push rfl
theorem s123_91 {ls : List Value} {a b : Int32} : ZW zG d 123 91 ls (.int b :: .int a :: st) z Q = if a = b then ZW zG d 123 109 ls st z Q else ZW zG d 123 94 ls st z Q := zw_iceq rfl
theorem s123_94 {x0 x2 : Value} {a : Int32} : ZW zG d 123 94 [x0, .int a, x2] st z Q = ZW zG d 123 95 [x0, .int a, x2] (.int a :: st) z Q := zw_next (f := z_iload 1 95) rfl rfl
theorem s123_95 {ls : List Value} {a : Int32} : ZW zG d 123 95 ls (.int a :: st) z Q = if a = 0 then ZW zG d 123 114 ls st z Q else ZW zG d 123 98 ls st z Q := zw_ifeq rfl
theorem s123_98 {x0 x1 x2 : Value} : ZW zG d 123 98 [x0, x1, x2] st z Q = (zir x0 = true ∧ ZW zG d 123 99 [x0, x1, x2] (x0 :: st) z Q) := zw_cond (f := z_aload 0 99) rfl rfl
theorem s123_99 {ls : List Value} {r : Nat} : ZW zG d 123 99 ls (.ref r :: st) z Q = ((zcls z r = 12 ∧ zir (zfr z r 14) = true) ∧ ZW zG d 123 102 ls (zfr z r 14 :: st) (z) Q) := zw_getR rfl
theorem s123_102 {ls : List Value}  : ZW zG d 123 102 ls (st) z Q = ZW zG d 123 103 ls ((.int (nI 1)) :: st) z Q := zw_push rfl
theorem s123_103 {ls : List Value} {a : Int32} {r : Nat} : ZW zG d 123 103 ls (.int a :: .ref r :: st) z Q = ((zcls z r = 50 ∧ zin a (zlen z r) = true) ∧ ZW zG d 123 104 ls (.int (zia z r (zx a)) :: st) (z) Q) := zw_iald rfl
theorem s123_104 {ls : List Value}  : ZW zG d 123 104 ls (st) z Q = ZW zG d 123 106 ls ((.int (nI 24)) :: st) z Q := zw_push rfl
theorem s123_106 {ls : List Value} {a b : Int32} : ZW zG d 123 106 ls (.int b :: .int a :: st) z Q = if ¬ a = b then ZW zG d 123 114 ls st z Q else ZW zG d 123 109 ls st z Q := zw_icne rfl
theorem s123_109 {x0 x1 x2 : Value} : ZW zG d 123 109 [x0, x1, x2] st z Q = (zir x0 = true ∧ ZW zG d 123 110 [x0, x1, x2] (x0 :: st) z Q) := zw_cond (f := z_aload 0 110) rfl rfl
theorem s123_110 {ls : List Value}  : ZW zG d 123 110 ls (st) z Q = ZW zG d 123 111 ls ((.int (nI 3)) :: st) z Q := zw_push rfl
theorem s123_111 {ls : List Value} {w0 : Int32} {r : Nat} : ZW zG (d + 1) 123 111 ls (.int w0 :: .ref r :: st) z Q = (zcls z r = 12 ∧ zcs st = true ∧ ZC zG d 126 [.ref r, .int w0] z (zk zG (d + 1) 123 (none) 114 ls st Q)) := zc_V1 rfl (Nat.le_of_ble_eq_true rfl)
theorem s123_114 {x0 x1 x2 : Value} : ZW zG d 123 114 [x0, x1, x2] st z Q = (zir x0 = true ∧ ZW zG d 123 115 [x0, x1, x2] (x0 :: st) z Q) := zw_cond (f := z_aload 0 115) rfl rfl
theorem s123_115 {ls : List Value}  {r : Nat} : ZW zG (d + 1) 123 115 ls (.ref r :: st) z Q = (zcls z r = 12 ∧ zcs st = true ∧ ZC zG d 122 [.ref r] z (zk zG (d + 1) 123 (none) 118 ls st Q)) := zc_V0 rfl (Nat.le_of_ble_eq_true rfl)
theorem s123_118 {ls : List Value} {a : Int32} : ZW zG d 123 118 ls (.int a :: st) z Q = if ¬ a = 0 then ZW zG d 123 122 ls st z Q else ZW zG d 123 121 ls st z Q := zw_ifne rfl
theorem s123_121 {ls : List Value}  : ZW zG d 123 121 ls ([]) z Q = Q (.inl none) z := zw_ret rfl
theorem s123_122 {x0 x2 : Value} {a : Int32} : ZW zG d 123 122 [x0, .int a, x2] st z Q = ZW zG d 123 123 [x0, .int a, x2] (.int a :: st) z Q := zw_next (f := z_iload 1 123) rfl rfl
theorem s123_123 {ls : List Value} {a : Int32} : ZW zG d 123 123 ls (.int a :: st) z Q = if a = 0 then ZW zG d 123 133 ls st z Q else ZW zG d 123 126 ls st z Q := zw_ifeq rfl
theorem s123_126 {x0 x1 x2 : Value} : ZW zG d 123 126 [x0, x1, x2] st z Q = (zir x0 = true ∧ ZW zG d 123 127 [x0, x1, x2] (x0 :: st) z Q) := zw_cond (f := z_aload 0 127) rfl rfl
theorem s123_127 {ls : List Value}  {r : Nat} : ZW zG (d + 1) 123 127 ls (.ref r :: st) z Q = (zcls z r = 12 ∧ zcs st = true ∧ ZC zG d 127 [.ref r] z (zk zG (d + 1) 123 (none) 130 ls st Q)) := zc_V0 rfl (Nat.le_of_ble_eq_true rfl)
theorem s123_130 {ls : List Value}  : ZW zG d 123 130 ls (st) z Q = ZW zG d 123 210 ls st z Q := zw_goto rfl
theorem s123_133 {x0 x1 x2 : Value} : ZW zG d 123 133 [x0, x1, x2] st z Q = (zir x0 = true ∧ ZW zG d 123 134 [x0, x1, x2] (x0 :: st) z Q) := zw_cond (f := z_aload 0 134) rfl rfl
theorem s123_134 {ls : List Value}  : ZW zG d 123 134 ls (st) z Q = ZW zG d 123 137 ls ((.ref 11) :: st) z Q := zw_push rfl
theorem s123_137 {ls : List Value} {w0 : Nat} {r : Nat} : ZW zG (d + 1) 123 137 ls (.ref w0 :: .ref r :: st) z Q = (zcls z r = 12 ∧ zcs st = true ∧ ZC zG d 130 [.ref r, .ref w0] z (zk zG (d + 1) 123 (none) 140 ls st Q)) := zc_V1 rfl (Nat.le_of_ble_eq_true rfl)
theorem s123_140 {ls : List Value} {a : Int32} : ZW zG d 123 140 ls (.int a :: st) z Q = if a = 0 then ZW zG d 123 150 ls st z Q else ZW zG d 123 143 ls st z Q := zw_ifeq rfl
theorem s123_143 {x0 x1 x2 : Value} : ZW zG d 123 143 [x0, x1, x2] st z Q = (zir x0 = true ∧ ZW zG d 123 144 [x0, x1, x2] (x0 :: st) z Q) := zw_cond (f := z_aload 0 144) rfl rfl
theorem s123_144 {ls : List Value}  {r : Nat} : ZW zG (d + 1) 123 144 ls (.ref r :: st) z Q = (zcls z r = 12 ∧ zcs st = true ∧ ZC zG d 136 [.ref r] z (zk zG (d + 1) 123 (none) 147 ls st Q)) := zc_V0 rfl (Nat.le_of_ble_eq_true rfl)
theorem s123_147 {ls : List Value}  : ZW zG d 123 147 ls (st) z Q = ZW zG d 123 210 ls st z Q := zw_goto rfl
theorem s123_150 {x0 x1 x2 : Value} : ZW zG d 123 150 [x0, x1, x2] st z Q = (zir x0 = true ∧ ZW zG d 123 151 [x0, x1, x2] (x0 :: st) z Q) := zw_cond (f := z_aload 0 151) rfl rfl
theorem s123_151 {ls : List Value}  : ZW zG d 123 151 ls (st) z Q = ZW zG d 123 154 ls ((.ref 14) :: st) z Q := zw_push rfl
theorem s123_154 {ls : List Value} {w0 : Nat} {r : Nat} : ZW zG (d + 1) 123 154 ls (.ref w0 :: .ref r :: st) z Q = (zcls z r = 12 ∧ zcs st = true ∧ ZC zG d 130 [.ref r, .ref w0] z (zk zG (d + 1) 123 (none) 157 ls st Q)) := zc_V1 rfl (Nat.le_of_ble_eq_true rfl)
theorem s123_157 {ls : List Value} {a : Int32} : ZW zG d 123 157 ls (.int a :: st) z Q = if a = 0 then ZW zG d 123 167 ls st z Q else ZW zG d 123 160 ls st z Q := zw_ifeq rfl
theorem s123_160 {x0 x1 x2 : Value} : ZW zG d 123 160 [x0, x1, x2] st z Q = (zir x0 = true ∧ ZW zG d 123 161 [x0, x1, x2] (x0 :: st) z Q) := zw_cond (f := z_aload 0 161) rfl rfl
theorem s123_161 {ls : List Value}  {r : Nat} : ZW zG (d + 1) 123 161 ls (.ref r :: st) z Q = (zcls z r = 12 ∧ zcs st = true ∧ ZC zG d 138 [.ref r] z (zk zG (d + 1) 123 (none) 164 ls st Q)) := zc_V0 rfl (Nat.le_of_ble_eq_true rfl)
theorem s123_164 {ls : List Value}  : ZW zG d 123 164 ls (st) z Q = ZW zG d 123 210 ls st z Q := zw_goto rfl
theorem s123_167 {x0 x1 x2 : Value} : ZW zG d 123 167 [x0, x1, x2] st z Q = (zir x0 = true ∧ ZW zG d 123 168 [x0, x1, x2] (x0 :: st) z Q) := zw_cond (f := z_aload 0 168) rfl rfl
theorem s123_168 {ls : List Value}  : ZW zG d 123 168 ls (st) z Q = ZW zG d 123 171 ls ((.ref 21) :: st) z Q := zw_push rfl
theorem s123_171 {ls : List Value} {w0 : Nat} {r : Nat} : ZW zG (d + 1) 123 171 ls (.ref w0 :: .ref r :: st) z Q = (zcls z r = 12 ∧ zcs st = true ∧ ZC zG d 130 [.ref r, .ref w0] z (zk zG (d + 1) 123 (none) 174 ls st Q)) := zc_V1 rfl (Nat.le_of_ble_eq_true rfl)
theorem s123_174 {ls : List Value} {a : Int32} : ZW zG d 123 174 ls (.int a :: st) z Q = if a = 0 then ZW zG d 123 193 ls st z Q else ZW zG d 123 177 ls st z Q := zw_ifeq rfl
theorem s123_177 {x0 x1 x2 : Value} : ZW zG d 123 177 [x0, x1, x2] st z Q = (zir x0 = true ∧ ZW zG d 123 178 [x0, x1, x2] (x0 :: st) z Q) := zw_cond (f := z_aload 0 178) rfl rfl
theorem s123_178 {ls : List Value} {r : Nat} : ZW zG d 123 178 ls (.ref r :: st) z Q = ((zcls z r = 12 ∧ zir (zfr z r 14) = true) ∧ ZW zG d 123 181 ls (zfr z r 14 :: st) (z) Q) := zw_getR rfl
theorem s123_181 {ls : List Value}  : ZW zG d 123 181 ls (st) z Q = ZW zG d 123 182 ls ((.int (nI 4)) :: st) z Q := zw_push rfl
theorem s123_182 {x0 x1 x2 : Value} : ZW zG d 123 182 [x0, x1, x2] st z Q = (zir x0 = true ∧ ZW zG d 123 183 [x0, x1, x2] (x0 :: st) z Q) := zw_cond (f := z_aload 0 183) rfl rfl
theorem s123_183 {ls : List Value}  : ZW zG d 123 183 ls (st) z Q = ZW zG d 123 184 ls ((.int (nI 0)) :: st) z Q := zw_push rfl
theorem s123_184 {ls : List Value}  : ZW zG d 123 184 ls (st) z Q = ZW zG d 123 186 ls ((.int (nI 99)) :: st) z Q := zw_push rfl
theorem s123_186 {ls : List Value} {w0 : Int32} {w1 : Int32} {r : Nat} : ZW zG (d + 1) 123 186 ls (.int w1 :: .int w0 :: .ref r :: st) z Q = (zcls z r = 12 ∧ zcs st = true ∧ ZC zG d 132 [.ref r, .int w0, .int w1] z (zk zG (d + 1) 123 (none) 189 ls st Q)) := zc_V2 rfl (Nat.le_of_ble_eq_true rfl)
theorem s123_189 {ls : List Value} {a b : Int32} {r : Nat} : ZW zG d 123 189 ls (.int b :: .int a :: .ref r :: st) z Q = ((zcls z r = 50 ∧ zin a (zlen z r) = true) ∧ ZW zG d 123 190 ls (st) (sia z r (zx a) (znar 50 b)) Q) := zw_iast rfl
theorem s123_190 {ls : List Value}  : ZW zG d 123 190 ls (st) z Q = ZW zG d 123 210 ls st z Q := zw_goto rfl
theorem s123_193 {x0 x1 x2 : Value} : ZW zG d 123 193 [x0, x1, x2] st z Q = (zir x0 = true ∧ ZW zG d 123 194 [x0, x1, x2] (x0 :: st) z Q) := zw_cond (f := z_aload 0 194) rfl rfl
theorem s123_194 {ls : List Value}  {r : Nat} : ZW zG (d + 1) 123 194 ls (.ref r :: st) z Q = (zcls z r = 12 ∧ zcs st = true ∧ ZC zG d 120 [.ref r] z (zk zG (d + 1) 123 (none) 197 ls st Q)) := zc_V0 rfl (Nat.le_of_ble_eq_true rfl)
theorem s123_197 {x0 x1 x2 : Value} : ZW zG d 123 197 [x0, x1, x2] st z Q = (zir x0 = true ∧ ZW zG d 123 198 [x0, x1, x2] (x0 :: st) z Q) := zw_cond (f := z_aload 0 198) rfl rfl
theorem s123_198 {ls : List Value} {r : Nat} : ZW zG d 123 198 ls (.ref r :: st) z Q = ((zcls z r = 12 ∧ zir (zfr z r 14) = true) ∧ ZW zG d 123 201 ls (zfr z r 14 :: st) (z) Q) := zw_getR rfl
theorem s123_201 {ls : List Value}  : ZW zG d 123 201 ls (st) z Q = ZW zG d 123 202 ls ((.int (nI 5)) :: st) z Q := zw_push rfl
theorem s123_202 {x0 x1 x2 : Value} : ZW zG d 123 202 [x0, x1, x2] st z Q = (zir x0 = true ∧ ZW zG d 123 203 [x0, x1, x2] (x0 :: st) z Q) := zw_cond (f := z_aload 0 203) rfl rfl
theorem s123_203 {ls : List Value}  : ZW zG d 123 203 ls (st) z Q = ZW zG d 123 204 ls ((.int (nI 1)) :: st) z Q := zw_push rfl
theorem s123_204 {ls : List Value}  : ZW zG d 123 204 ls (st) z Q = ZW zG d 123 206 ls ((.int (nI 9)) :: st) z Q := zw_push rfl
theorem s123_206 {ls : List Value} {w0 : Int32} {w1 : Int32} {r : Nat} : ZW zG (d + 1) 123 206 ls (.int w1 :: .int w0 :: .ref r :: st) z Q = (zcls z r = 12 ∧ zcs st = true ∧ ZC zG d 132 [.ref r, .int w0, .int w1] z (zk zG (d + 1) 123 (none) 209 ls st Q)) := zc_V2 rfl (Nat.le_of_ble_eq_true rfl)
theorem s123_209 {ls : List Value} {a b : Int32} {r : Nat} : ZW zG d 123 209 ls (.int b :: .int a :: .ref r :: st) z Q = ((zcls z r = 50 ∧ zin a (zlen z r) = true) ∧ ZW zG d 123 210 ls (st) (sia z r (zx a) (znar 50 b)) Q) := zw_iast rfl
theorem s123_210 {x0 x1 x2 : Value} : ZW zG d 123 210 [x0, x1, x2] st z Q = (zir x0 = true ∧ ZW zG d 123 211 [x0, x1, x2] (x0 :: st) z Q) := zw_cond (f := z_aload 0 211) rfl rfl
theorem s123_211 {ls : List Value}  {r : Nat} : ZW zG (d + 1) 123 211 ls (.ref r :: st) z Q = (zcls z r = 12 ∧ zcs st = true ∧ ZC zG d 122 [.ref r] z (zk zG (d + 1) 123 (none) 214 ls st Q)) := zc_V0 rfl (Nat.le_of_ble_eq_true rfl)
theorem s123_214 {ls : List Value} {a : Int32} : ZW zG d 123 214 ls (.int a :: st) z Q = if a = 0 then ZW zG d 123 230 ls st z Q else ZW zG d 123 217 ls st z Q := zw_ifeq rfl
theorem s123_217 {x0 x1 x2 : Value} : ZW zG d 123 217 [x0, x1, x2] st z Q = (zir x0 = true ∧ ZW zG d 123 218 [x0, x1, x2] (x0 :: st) z Q) := zw_cond (f := z_aload 0 218) rfl rfl
theorem s123_218 {ls : List Value} {r : Nat} : ZW zG d 123 218 ls (.ref r :: st) z Q = ((zcls z r = 12) ∧ ZW zG d 123 221 ls (.int (zfi z r 10) :: st) (z) Q) := zw_getI rfl
theorem s123_221 {ls : List Value}  : ZW zG d 123 221 ls (st) z Q = ZW zG d 123 222 ls ((.int (nI 3)) :: st) z Q := zw_push rfl
theorem s123_222 {ls : List Value} {a b : Int32} : ZW zG d 123 222 ls (.int b :: .int a :: st) z Q = if a = b then ZW zG d 123 230 ls st z Q else ZW zG d 123 225 ls st z Q := zw_iceq rfl
theorem s123_225 {x0 x1 x2 : Value} : ZW zG d 123 225 [x0, x1, x2] st z Q = (zir x0 = true ∧ ZW zG d 123 226 [x0, x1, x2] (x0 :: st) z Q) := zw_cond (f := z_aload 0 226) rfl rfl
theorem s123_226 {ls : List Value}  : ZW zG d 123 226 ls (st) z Q = ZW zG d 123 227 ls ((.int (nI 1)) :: st) z Q := zw_push rfl
theorem s123_227 {ls : List Value} {w0 : Int32} {r : Nat} : ZW zG (d + 1) 123 227 ls (.int w0 :: .ref r :: st) z Q = (zcls z r = 12 ∧ zcs st = true ∧ ZC zG d 126 [.ref r, .int w0] z (zk zG (d + 1) 123 (none) 230 ls st Q)) := zc_V1 rfl (Nat.le_of_ble_eq_true rfl)
theorem s123_230 {x0 x1 x2 : Value} : ZW zG d 123 230 [x0, x1, x2] st z Q = (zir x0 = true ∧ ZW zG d 123 231 [x0, x1, x2] (x0 :: st) z Q) := zw_cond (f := z_aload 0 231) rfl rfl
theorem s123_231 {ls : List Value}  {r : Nat} : ZW zG (d + 1) 123 231 ls (.ref r :: st) z Q = (zcls z r = 12 ∧ zcs st = true ∧ ZC zG d 122 [.ref r] z (zk zG (d + 1) 123 (none) 234 ls st Q)) := zc_V0 rfl (Nat.le_of_ble_eq_true rfl)
theorem s123_234 {ls : List Value} {a : Int32} : ZW zG d 123 234 ls (.int a :: st) z Q = if a = 0 then ZW zG d 123 241 ls st z Q else ZW zG d 123 237 ls st z Q := zw_ifeq rfl
theorem s123_237 {x0 x1 x2 : Value} : ZW zG d 123 237 [x0, x1, x2] st z Q = (zir x0 = true ∧ ZW zG d 123 238 [x0, x1, x2] (x0 :: st) z Q) := zw_cond (f := z_aload 0 238) rfl rfl
theorem s123_238 {ls : List Value}  {r : Nat} : ZW zG (d + 1) 123 238 ls (.ref r :: st) z Q = (zcls z r = 12 ∧ zcs st = true ∧ ZC zG d 120 [.ref r] z (zk zG (d + 1) 123 (none) 241 ls st Q)) := zc_V0 rfl (Nat.le_of_ble_eq_true rfl)
theorem s123_241 {ls : List Value}  : ZW zG d 123 241 ls ([]) z Q = Q (.inl none) z := zw_ret rfl
/-- X12_payingHere ()I -/
theorem e124 {r0 : Nat} : ZC zG d 124 [.ref r0] z Q = ZW zG d 124 0 [.ref r0] [] z Q := rfl
theorem s124_0 {x0 : Value} : ZW zG d 124 0 [x0] st z Q = (zir x0 = true ∧ ZW zG d 124 1 [x0] (x0 :: st) z Q) := zw_cond (f := z_aload 0 1) rfl rfl
theorem s124_1 {ls : List Value}  : ZW zG d 124 1 ls (st) z Q = ZW zG d 124 3 ls ((.ref 27) :: st) z Q := zw_push rfl
theorem s124_3 {ls : List Value} {w0 : Nat} {r : Nat} : ZW zG (d + 1) 124 3 ls (.ref w0 :: .ref r :: st) z Q = (zcls z r = 12 ∧ zcs st = true ∧ ZC zG d 125 [.ref r, .ref w0] z (zk zG (d + 1) 124 (none) 6 ls st Q)) := zc_V1 rfl (Nat.le_of_ble_eq_true rfl)
theorem s124_6 {ls : List Value} {a : Int32} : ZW zG d 124 6 ls (.int a :: st) z Q = if a = 0 then ZW zG d 124 13 ls st z Q else ZW zG d 124 9 ls st z Q := zw_ifeq rfl
theorem s124_9 {ls : List Value}  : ZW zG d 124 9 ls (st) z Q = ZW zG d 124 10 ls ((.int (nI 0)) :: st) z Q := zw_push rfl
theorem s124_10 {ls : List Value}  : ZW zG d 124 10 ls (st) z Q = ZW zG d 124 53 ls st z Q := zw_goto rfl
theorem s124_13 {x0 : Value} : ZW zG d 124 13 [x0] st z Q = (zir x0 = true ∧ ZW zG d 124 14 [x0] (x0 :: st) z Q) := zw_cond (f := z_aload 0 14) rfl rfl
theorem s124_14 {ls : List Value}  : ZW zG d 124 14 ls (st) z Q = ZW zG d 124 16 ls ((.ref 5) :: st) z Q := zw_push rfl
theorem s124_16 {ls : List Value} {w0 : Nat} {r : Nat} : ZW zG (d + 1) 124 16 ls (.ref w0 :: .ref r :: st) z Q = (zcls z r = 12 ∧ zcs st = true ∧ ZC zG d 125 [.ref r, .ref w0] z (zk zG (d + 1) 124 (none) 19 ls st Q)) := zc_V1 rfl (Nat.le_of_ble_eq_true rfl)
theorem s124_19 {ls : List Value} {a : Int32} : ZW zG d 124 19 ls (.int a :: st) z Q = if a = 0 then ZW zG d 124 26 ls st z Q else ZW zG d 124 22 ls st z Q := zw_ifeq rfl
theorem s124_22 {ls : List Value}  : ZW zG d 124 22 ls (st) z Q = ZW zG d 124 23 ls ((.int (nI 1)) :: st) z Q := zw_push rfl
theorem s124_23 {ls : List Value}  : ZW zG d 124 23 ls (st) z Q = ZW zG d 124 53 ls st z Q := zw_goto rfl
theorem s124_26 {x0 : Value} : ZW zG d 124 26 [x0] st z Q = (zir x0 = true ∧ ZW zG d 124 27 [x0] (x0 :: st) z Q) := zw_cond (f := z_aload 0 27) rfl rfl
theorem s124_27 {ls : List Value}  : ZW zG d 124 27 ls (st) z Q = ZW zG d 124 29 ls ((.ref 3) :: st) z Q := zw_push rfl
theorem s124_29 {ls : List Value} {w0 : Nat} {r : Nat} : ZW zG (d + 1) 124 29 ls (.ref w0 :: .ref r :: st) z Q = (zcls z r = 12 ∧ zcs st = true ∧ ZC zG d 125 [.ref r, .ref w0] z (zk zG (d + 1) 124 (none) 32 ls st Q)) := zc_V1 rfl (Nat.le_of_ble_eq_true rfl)
theorem s124_32 {ls : List Value} {a : Int32} : ZW zG d 124 32 ls (.int a :: st) z Q = if a = 0 then ZW zG d 124 39 ls st z Q else ZW zG d 124 35 ls st z Q := zw_ifeq rfl
theorem s124_35 {ls : List Value}  : ZW zG d 124 35 ls (st) z Q = ZW zG d 124 36 ls ((.int (nI 2)) :: st) z Q := zw_push rfl
theorem s124_36 {ls : List Value}  : ZW zG d 124 36 ls (st) z Q = ZW zG d 124 53 ls st z Q := zw_goto rfl
theorem s124_39 {x0 : Value} : ZW zG d 124 39 [x0] st z Q = (zir x0 = true ∧ ZW zG d 124 40 [x0] (x0 :: st) z Q) := zw_cond (f := z_aload 0 40) rfl rfl
theorem s124_40 {ls : List Value}  : ZW zG d 124 40 ls (st) z Q = ZW zG d 124 42 ls ((.ref 8) :: st) z Q := zw_push rfl
theorem s124_42 {ls : List Value} {w0 : Nat} {r : Nat} : ZW zG (d + 1) 124 42 ls (.ref w0 :: .ref r :: st) z Q = (zcls z r = 12 ∧ zcs st = true ∧ ZC zG d 125 [.ref r, .ref w0] z (zk zG (d + 1) 124 (none) 45 ls st Q)) := zc_V1 rfl (Nat.le_of_ble_eq_true rfl)
theorem s124_45 {ls : List Value} {a : Int32} : ZW zG d 124 45 ls (.int a :: st) z Q = if a = 0 then ZW zG d 124 52 ls st z Q else ZW zG d 124 48 ls st z Q := zw_ifeq rfl
theorem s124_48 {ls : List Value}  : ZW zG d 124 48 ls (st) z Q = ZW zG d 124 49 ls ((.int (nI 3)) :: st) z Q := zw_push rfl
theorem s124_49 {ls : List Value}  : ZW zG d 124 49 ls (st) z Q = ZW zG d 124 53 ls st z Q := zw_goto rfl
theorem s124_52 {ls : List Value}  : ZW zG d 124 52 ls (st) z Q = ZW zG d 124 53 ls ((.int (-1)) :: st) z Q := zw_push rfl
theorem s124_53 {ls : List Value} {a : Int32} : ZW zG d 124 53 ls ([.int a]) z Q = Q (.inl (some (.int a))) z := zw_reti rfl
/-- X12_is (Ljava/lang/String;)Z -/
theorem e125 {r0 : Nat} {v0 : Nat} : ZC zG d 125 [.ref r0, .ref v0] z Q = ZW zG d 125 0 [.ref r0, .ref v0, zdum, zdum] [] z Q := rfl
theorem s125_0 {x0 x1 x2 x3 : Value} : ZW zG d 125 0 [x0, x1, x2, x3] st z Q = (zir x0 = true ∧ ZW zG d 125 1 [x0, x1, x2, x3] (x0 :: st) z Q) := zw_cond (f := z_aload 0 1) rfl rfl
theorem s125_1 {ls : List Value}  {r : Nat} : ZW zG (d + 1) 125 1 ls (.ref r :: st) z Q = (zcls z r = 12 ∧ zcs st = true ∧ ZC zG d 122 [.ref r] z (zk zG (d + 1) 125 (none) 4 ls st Q)) := zc_V0 rfl (Nat.le_of_ble_eq_true rfl)
theorem s125_4 {ls : List Value} {a : Int32} : ZW zG d 125 4 ls (.int a :: st) z Q = if a = 0 then ZW zG d 125 35 ls st z Q else ZW zG d 125 7 ls st z Q := zw_ifeq rfl
theorem s125_7 {x0 x1 x2 x3 : Value} : ZW zG d 125 7 [x0, x1, x2, x3] st z Q = (zir x0 = true ∧ ZW zG d 125 8 [x0, x1, x2, x3] (x0 :: st) z Q) := zw_cond (f := z_aload 0 8) rfl rfl
theorem s125_8 {ls : List Value} {r : Nat} : ZW zG d 125 8 ls (.ref r :: st) z Q = ((zcls z r = 12) ∧ ZW zG d 125 11 ls (.int (zfi z r 10) :: st) (z) Q) := zw_getI rfl
theorem s125_11 {ls : List Value}  : ZW zG d 125 11 ls (st) z Q = ZW zG d 125 12 ls ((.int (nI 1)) :: st) z Q := zw_push rfl
theorem s125_12 {ls : List Value} {a b : Int32} : ZW zG d 125 12 ls (.int b :: .int a :: st) z Q = if ¬ a = b then ZW zG d 125 35 ls st z Q else ZW zG d 125 15 ls st z Q := zw_icne rfl
theorem s125_15 {x0 x1 x2 x3 : Value} : ZW zG d 125 15 [x0, x1, x2, x3] st z Q = (zir x0 = true ∧ ZW zG d 125 16 [x0, x1, x2, x3] (x0 :: st) z Q) := zw_cond (f := z_aload 0 16) rfl rfl
theorem s125_16 {ls : List Value} {r : Nat} : ZW zG d 125 16 ls (.ref r :: st) z Q = ((zcls z r = 12) ∧ ZW zG d 125 19 ls (.int (zfi z r 8) :: st) (z) Q) := zw_getI rfl
theorem s125_19 {x0 x1 x2 x3 : Value} : ZW zG d 125 19 [x0, x1, x2, x3] st z Q = (zir x0 = true ∧ ZW zG d 125 20 [x0, x1, x2, x3] (x0 :: st) z Q) := zw_cond (f := z_aload 0 20) rfl rfl
theorem s125_20 {ls : List Value} {r : Nat} : ZW zG d 125 20 ls (.ref r :: st) z Q = ((zcls z r = 12) ∧ ZW zG d 125 23 ls (.int (zfi z r 9) :: st) (z) Q) := zw_getI rfl
theorem s125_23 {ls : List Value} {a b : Int32} : ZW zG d 125 23 ls (.int b :: .int a :: st) z Q = ZW zG d 125 24 ls (.int (a - b) :: st) z Q := zw_isub rfl
theorem s125_24 {x0 x1 x2 x3 : Value} : ZW zG d 125 24 [x0, x1, x2, x3] st z Q = (zir x1 = true ∧ ZW zG d 125 25 [x0, x1, x2, x3] (x1 :: st) z Q) := zw_cond (f := z_aload 1 25) rfl rfl
theorem s125_25 {ls : List Value} {r : Nat} : ZW zG d 125 25 ls (.ref r :: st) z Q = ((zcs st = true ∧ r < 35) ∧ ZW zG d 125 28 ls (.int (nI (ztx r).length) :: st) (z) Q) := zw_slen rfl
theorem s125_28 {ls : List Value} {a b : Int32} : ZW zG d 125 28 ls (.int b :: .int a :: st) z Q = if ¬ a = b then ZW zG d 125 35 ls st z Q else ZW zG d 125 31 ls st z Q := zw_icne rfl
theorem s125_31 {ls : List Value}  : ZW zG d 125 31 ls (st) z Q = ZW zG d 125 32 ls ((.int (nI 1)) :: st) z Q := zw_push rfl
theorem s125_32 {ls : List Value}  : ZW zG d 125 32 ls (st) z Q = ZW zG d 125 36 ls st z Q := zw_goto rfl
theorem s125_35 {ls : List Value}  : ZW zG d 125 35 ls (st) z Q = ZW zG d 125 36 ls ((.int (nI 0)) :: st) z Q := zw_push rfl
theorem s125_36 {x0 x1 x2 x3 : Value} {a : Int32} : ZW zG d 125 36 [x0, x1, x2, x3] (.int a :: st) z Q = ZW zG d 125 37 [x0, zclr x1, .int a, x3] st z Q := zw_next (f := z_istore 2 37) rfl rfl
theorem s125_37 {ls : List Value}  : ZW zG d 125 37 ls (st) z Q = ZW zG d 125 38 ls ((.int (nI 0)) :: st) z Q := zw_push rfl
theorem s125_38 {x0 x1 x2 x3 : Value} {a : Int32} : ZW zG d 125 38 [x0, x1, x2, x3] (.int a :: st) z Q = ZW zG d 125 39 [x0, x1, zclr x2, .int a] st z Q := zw_next (f := z_istore 3 39) rfl rfl
theorem s125_39 {x0 x1 x2 : Value} {a : Int32} : ZW zG d 125 39 [x0, x1, x2, .int a] st z Q = ZW zG d 125 40 [x0, x1, x2, .int a] (.int a :: st) z Q := zw_next (f := z_iload 3 40) rfl rfl
theorem s125_40 {x0 x1 x2 x3 : Value} : ZW zG d 125 40 [x0, x1, x2, x3] st z Q = (zir x1 = true ∧ ZW zG d 125 41 [x0, x1, x2, x3] (x1 :: st) z Q) := zw_cond (f := z_aload 1 41) rfl rfl
theorem s125_41 {ls : List Value} {r : Nat} : ZW zG d 125 41 ls (.ref r :: st) z Q = ((zcs st = true ∧ r < 35) ∧ ZW zG d 125 44 ls (.int (nI (ztx r).length) :: st) (z) Q) := zw_slen rfl
theorem s125_44 {ls : List Value} {a b : Int32} : ZW zG d 125 44 ls (.int b :: .int a :: st) z Q = if b ≤ a then ZW zG d 125 82 ls st z Q else ZW zG d 125 47 ls st z Q := zw_icge rfl
theorem s125_47 {x0 x1 x3 : Value} {a : Int32} : ZW zG d 125 47 [x0, x1, .int a, x3] st z Q = ZW zG d 125 48 [x0, x1, .int a, x3] (.int a :: st) z Q := zw_next (f := z_iload 2 48) rfl rfl
theorem s125_48 {ls : List Value} {a : Int32} : ZW zG d 125 48 ls (.int a :: st) z Q = if a = 0 then ZW zG d 125 82 ls st z Q else ZW zG d 125 51 ls st z Q := zw_ifeq rfl
theorem s125_51 {x0 x1 x2 x3 : Value} : ZW zG d 125 51 [x0, x1, x2, x3] st z Q = (zir x0 = true ∧ ZW zG d 125 52 [x0, x1, x2, x3] (x0 :: st) z Q) := zw_cond (f := z_aload 0 52) rfl rfl
theorem s125_52 {ls : List Value} {r : Nat} : ZW zG d 125 52 ls (.ref r :: st) z Q = ((zcls z r = 12 ∧ zir (zfr z r 4) = true) ∧ ZW zG d 125 55 ls (zfr z r 4 :: st) (z) Q) := zw_getR rfl
theorem s125_55 {x0 x1 x2 x3 : Value} : ZW zG d 125 55 [x0, x1, x2, x3] st z Q = (zir x0 = true ∧ ZW zG d 125 56 [x0, x1, x2, x3] (x0 :: st) z Q) := zw_cond (f := z_aload 0 56) rfl rfl
theorem s125_56 {ls : List Value} {r : Nat} : ZW zG d 125 56 ls (.ref r :: st) z Q = ((zcls z r = 12) ∧ ZW zG d 125 59 ls (.int (zfi z r 9) :: st) (z) Q) := zw_getI rfl
theorem s125_59 {x0 x1 x2 : Value} {a : Int32} : ZW zG d 125 59 [x0, x1, x2, .int a] st z Q = ZW zG d 125 60 [x0, x1, x2, .int a] (.int a :: st) z Q := zw_next (f := z_iload 3 60) rfl rfl
theorem s125_60 {ls : List Value} {a b : Int32} : ZW zG d 125 60 ls (.int b :: .int a :: st) z Q = ZW zG d 125 61 ls (.int (a + b) :: st) z Q := zw_iadd rfl
theorem s125_61 {ls : List Value} {a : Int32} {r : Nat} : ZW zG d 125 61 ls (.int a :: .ref r :: st) z Q = ((zcls z r = 52 ∧ zin a (zlen z r) = true) ∧ ZW zG d 125 62 ls (.int (zia z r (zx a)) :: st) (z) Q) := zw_iald rfl
theorem s125_62 {x0 x1 x2 x3 : Value} : ZW zG d 125 62 [x0, x1, x2, x3] st z Q = (zir x1 = true ∧ ZW zG d 125 63 [x0, x1, x2, x3] (x1 :: st) z Q) := zw_cond (f := z_aload 1 63) rfl rfl
theorem s125_63 {x0 x1 x2 : Value} {a : Int32} : ZW zG d 125 63 [x0, x1, x2, .int a] st z Q = ZW zG d 125 64 [x0, x1, x2, .int a] (.int a :: st) z Q := zw_next (f := z_iload 3 64) rfl rfl
theorem s125_64 {ls : List Value} {a : Int32} {r : Nat} : ZW zG d 125 64 ls (.int a :: .ref r :: st) z Q = ((zcs st = true ∧ r < 35 ∧ zin a (ztx r).length = true) ∧ ZW zG d 125 67 ls (.int (nI ((ztx r).getD (zx a) 0)) :: st) (z) Q) := zw_schar rfl
theorem s125_67 {ls : List Value} {a b : Int32} : ZW zG d 125 67 ls (.int b :: .int a :: st) z Q = if ¬ a = b then ZW zG d 125 74 ls st z Q else ZW zG d 125 70 ls st z Q := zw_icne rfl
theorem s125_70 {ls : List Value}  : ZW zG d 125 70 ls (st) z Q = ZW zG d 125 71 ls ((.int (nI 1)) :: st) z Q := zw_push rfl
theorem s125_71 {ls : List Value}  : ZW zG d 125 71 ls (st) z Q = ZW zG d 125 75 ls st z Q := zw_goto rfl
theorem s125_74 {ls : List Value}  : ZW zG d 125 74 ls (st) z Q = ZW zG d 125 75 ls ((.int (nI 0)) :: st) z Q := zw_push rfl
theorem s125_75 {x0 x1 x2 x3 : Value} {a : Int32} : ZW zG d 125 75 [x0, x1, x2, x3] (.int a :: st) z Q = ZW zG d 125 76 [x0, zclr x1, .int a, x3] st z Q := zw_next (f := z_istore 2 76) rfl rfl
theorem s125_76 {x0 x1 x2 : Value} {a : Int32} : ZW zG d 125 76 [x0, x1, x2, .int a] st z Q = ZW zG d 125 79 [x0, x1, zclr x2, .int (a + (nI 1))] st z Q := zw_next (f := z_iinc 3 (nI 1) 79) rfl rfl
theorem s125_79 {ls : List Value}  : ZW zG d 125 79 ls (st) z Q = ZW zG d 125 39 ls st z Q := zw_goto rfl
theorem s125_82 {x0 x1 x3 : Value} {a : Int32} : ZW zG d 125 82 [x0, x1, .int a, x3] st z Q = ZW zG d 125 83 [x0, x1, .int a, x3] (.int a :: st) z Q := zw_next (f := z_iload 2 83) rfl rfl
theorem s125_83 {ls : List Value} {a : Int32} : ZW zG d 125 83 ls ([.int a]) z Q = ((a = 0 ∨ a = 1) ∧ Q (.inl (some (.int a))) z) := zw_retz rfl
/-- X12_errs (I)V -/
theorem e126 {r0 : Nat} {v0 : Int32} : ZC zG d 126 [.ref r0, .int v0] z Q = ZW zG d 126 0 [.ref r0, .int v0] [] z Q := rfl
theorem s126_0 {x0 x1 : Value} : ZW zG d 126 0 [x0, x1] st z Q = (zir x0 = true ∧ ZW zG d 126 1 [x0, x1] (x0 :: st) z Q) := zw_cond (f := z_aload 0 1) rfl rfl
theorem s126_1 {ls : List Value}  {r : Nat} : ZW zG (d + 1) 126 1 ls (.ref r :: st) z Q = (zcls z r = 12 ∧ zcs st = true ∧ ZC zG d 122 [.ref r] z (zk zG (d + 1) 126 (none) 4 ls st Q)) := zc_V0 rfl (Nat.le_of_ble_eq_true rfl)
theorem s126_4 {ls : List Value} {a : Int32} : ZW zG d 126 4 ls (.int a :: st) z Q = if ¬ a = 0 then ZW zG d 126 8 ls st z Q else ZW zG d 126 7 ls st z Q := zw_ifne rfl
theorem s126_7 {ls : List Value}  : ZW zG d 126 7 ls ([]) z Q = Q (.inl none) z := zw_ret rfl
theorem s126_8 {x0 x1 : Value} : ZW zG d 126 8 [x0, x1] st z Q = (zir x0 = true ∧ ZW zG d 126 9 [x0, x1] (x0 :: st) z Q) := zw_cond (f := z_aload 0 9) rfl rfl
theorem s126_9 {x0 : Value} {a : Int32} : ZW zG d 126 9 [x0, .int a] st z Q = ZW zG d 126 10 [x0, .int a] (.int a :: st) z Q := zw_next (f := z_iload 1 10) rfl rfl
theorem s126_10 {ls : List Value} {a : Int32} {r : Nat} : ZW zG d 126 10 ls (.int a :: .ref r :: st) z Q = ((zcls z r = 12) ∧ ZW zG d 126 13 ls (st) (sfi z r 12 a) Q) := zw_putI rfl
theorem s126_13 {x0 x1 : Value} : ZW zG d 126 13 [x0, x1] st z Q = (zir x0 = true ∧ ZW zG d 126 14 [x0, x1] (x0 :: st) z Q) := zw_cond (f := z_aload 0 14) rfl rfl
theorem s126_14 {x0 x1 : Value} : ZW zG d 126 14 [x0, x1] st z Q = (zir x0 = true ∧ ZW zG d 126 15 [x0, x1] (x0 :: st) z Q) := zw_cond (f := z_aload 0 15) rfl rfl
theorem s126_15 {ls : List Value} {r : Nat} : ZW zG d 126 15 ls (.ref r :: st) z Q = ((zcls z r = 12) ∧ ZW zG d 126 18 ls (.int (zfi z r 9) :: st) (z) Q) := zw_getI rfl
theorem s126_18 {ls : List Value} {a : Int32} {r : Nat} : ZW zG d 126 18 ls (.int a :: .ref r :: st) z Q = ((zcls z r = 12) ∧ ZW zG d 126 21 ls (st) (sfi z r 13 a) Q) := zw_putI rfl
theorem s126_21 {ls : List Value}  : ZW zG d 126 21 ls ([]) z Q = Q (.inl none) z := zw_ret rfl
/-- X12_readOwes ()V -/
theorem e127 {r0 : Nat} : ZC zG d 127 [.ref r0] z Q = ZW zG d 127 0 [.ref r0, zdum] [] z Q := rfl
theorem s127_0 {ls : List Value}  : ZW zG d 127 0 ls (st) z Q = ZW zG d 127 3 ls ((.int (nI 154)) :: st) z Q := zw_push rfl
theorem s127_3 {ls : List Value}  : ZW zG d 127 3 ls (st) z Q = ZW zG d 127 4 ls ((.int (nI 5)) :: st) z Q := zw_push rfl
theorem s127_4 {x0 x1 : Value} : ZW zG d 127 4 [x0, x1] st z Q = (zir x0 = true ∧ ZW zG d 127 5 [x0, x1] (x0 :: st) z Q) := zw_cond (f := z_aload 0 5) rfl rfl
theorem s127_5 {ls : List Value} {r : Nat} : ZW zG d 127 5 ls (.ref r :: st) z Q = ((zcls z r = 12 ∧ zir (zfr z r 14) = true) ∧ ZW zG d 127 8 ls (zfr z r 14 :: st) (z) Q) := zw_getR rfl
theorem s127_8 {ls : List Value}  : ZW zG d 127 8 ls (st) z Q = ZW zG d 127 9 ls ((.int (nI 1)) :: st) z Q := zw_push rfl
theorem s127_9 {ls : List Value} {a : Int32} {r : Nat} : ZW zG d 127 9 ls (.int a :: .ref r :: st) z Q = ((zcls z r = 50 ∧ zin a (zlen z r) = true) ∧ ZW zG d 127 10 ls (.int (zia z r (zx a)) :: st) (z) Q) := zw_iald rfl
theorem s127_10 {ls : List Value} {a b : Int32} : ZW zG d 127 10 ls (.int b :: .int a :: st) z Q = ZW zG d 127 11 ls (.int (a * b) :: st) z Q := zw_imul rfl
theorem s127_11 {ls : List Value} {a b : Int32} : ZW zG d 127 11 ls (.int b :: .int a :: st) z Q = ZW zG d 127 12 ls (.int (a + b) :: st) z Q := zw_iadd rfl
theorem s127_12 {x0 x1 : Value} {a : Int32} : ZW zG d 127 12 [x0, x1] (.int a :: st) z Q = ZW zG d 127 13 [zclr x0, .int a] st z Q := zw_next (f := z_istore 1 13) rfl rfl
theorem s127_13 {x0 x1 : Value} : ZW zG d 127 13 [x0, x1] st z Q = (zir x0 = true ∧ ZW zG d 127 14 [x0, x1] (x0 :: st) z Q) := zw_cond (f := z_aload 0 14) rfl rfl
theorem s127_14 {ls : List Value} {r : Nat} : ZW zG d 127 14 ls (.ref r :: st) z Q = ((zcls z r = 12 ∧ zir (zfr z r 14) = true) ∧ ZW zG d 127 17 ls (zfr z r 14 :: st) (z) Q) := zw_getR rfl
theorem s127_17 {x0 : Value} {a : Int32} : ZW zG d 127 17 [x0, .int a] st z Q = ZW zG d 127 18 [x0, .int a] (.int a :: st) z Q := zw_next (f := z_iload 1 18) rfl rfl
theorem s127_18 {x0 x1 : Value} : ZW zG d 127 18 [x0, x1] st z Q = (zir x0 = true ∧ ZW zG d 127 19 [x0, x1] (x0 :: st) z Q) := zw_cond (f := z_aload 0 19) rfl rfl
theorem s127_19 {x0 x1 : Value} : ZW zG d 127 19 [x0, x1] st z Q = (zir x0 = true ∧ ZW zG d 127 20 [x0, x1] (x0 :: st) z Q) := zw_cond (f := z_aload 0 20) rfl rfl
theorem s127_20 {ls : List Value}  {r : Nat} : ZW zG (d + 1) 127 20 ls (.ref r :: st) z Q = (zcls z r = 12 ∧ zcs st = true ∧ ZC zG d 124 [.ref r] z (zk zG (d + 1) 127 (none) 23 ls st Q)) := zc_V0 rfl (Nat.le_of_ble_eq_true rfl)
theorem s127_23 {ls : List Value} {w0 : Int32} {r : Nat} : ZW zG (d + 1) 127 23 ls (.int w0 :: .ref r :: st) z Q = (zcls z r = 12 ∧ zcs st = true ∧ ZC zG d 128 [.ref r, .int w0] z (zk zG (d + 1) 127 (none) 26 ls st Q)) := zc_V1 rfl (Nat.le_of_ble_eq_true rfl)
theorem s127_26 {ls : List Value} {a b : Int32} {r : Nat} : ZW zG d 127 26 ls (.int b :: .int a :: .ref r :: st) z Q = ((zcls z r = 50 ∧ zin a (zlen z r) = true) ∧ ZW zG d 127 27 ls (st) (sia z r (zx a) (znar 50 b)) Q) := zw_iast rfl
theorem s127_27 {x0 x1 : Value} : ZW zG d 127 27 [x0, x1] st z Q = (zir x0 = true ∧ ZW zG d 127 28 [x0, x1] (x0 :: st) z Q) := zw_cond (f := z_aload 0 28) rfl rfl
theorem s127_28 {ls : List Value}  : ZW zG d 127 28 ls (st) z Q = ZW zG d 127 30 ls ((.ref 22) :: st) z Q := zw_push rfl
theorem s127_30 {ls : List Value} {w0 : Nat} {r : Nat} : ZW zG (d + 1) 127 30 ls (.ref w0 :: .ref r :: st) z Q = (zcls z r = 12 ∧ zcs st = true ∧ ZC zG d 129 [.ref r, .ref w0] z (zk zG (d + 1) 127 (none) 33 ls st Q)) := zc_V1 rfl (Nat.le_of_ble_eq_true rfl)
theorem s127_33 {x0 x1 : Value} : ZW zG d 127 33 [x0, x1] st z Q = (zir x0 = true ∧ ZW zG d 127 34 [x0, x1] (x0 :: st) z Q) := zw_cond (f := z_aload 0 34) rfl rfl
theorem s127_34 {ls : List Value} {r : Nat} : ZW zG d 127 34 ls (.ref r :: st) z Q = ((zcls z r = 12 ∧ zir (zfr z r 14) = true) ∧ ZW zG d 127 37 ls (zfr z r 14 :: st) (z) Q) := zw_getR rfl
theorem s127_37 {x0 : Value} {a : Int32} : ZW zG d 127 37 [x0, .int a] st z Q = ZW zG d 127 38 [x0, .int a] (.int a :: st) z Q := zw_next (f := z_iload 1 38) rfl rfl
theorem s127_38 {ls : List Value}  : ZW zG d 127 38 ls (st) z Q = ZW zG d 127 39 ls ((.int (nI 1)) :: st) z Q := zw_push rfl
theorem s127_39 {ls : List Value} {a b : Int32} : ZW zG d 127 39 ls (.int b :: .int a :: st) z Q = ZW zG d 127 40 ls (.int (a + b) :: st) z Q := zw_iadd rfl
theorem s127_40 {x0 x1 : Value} : ZW zG d 127 40 [x0, x1] st z Q = (zir x0 = true ∧ ZW zG d 127 41 [x0, x1] (x0 :: st) z Q) := zw_cond (f := z_aload 0 41) rfl rfl
theorem s127_41 {x0 x1 : Value} : ZW zG d 127 41 [x0, x1] st z Q = (zir x0 = true ∧ ZW zG d 127 42 [x0, x1] (x0 :: st) z Q) := zw_cond (f := z_aload 0 42) rfl rfl
theorem s127_42 {ls : List Value}  {r : Nat} : ZW zG (d + 1) 127 42 ls (.ref r :: st) z Q = (zcls z r = 12 ∧ zcs st = true ∧ ZC zG d 124 [.ref r] z (zk zG (d + 1) 127 (none) 45 ls st Q)) := zc_V0 rfl (Nat.le_of_ble_eq_true rfl)
theorem s127_45 {ls : List Value} {w0 : Int32} {r : Nat} : ZW zG (d + 1) 127 45 ls (.int w0 :: .ref r :: st) z Q = (zcls z r = 12 ∧ zcs st = true ∧ ZC zG d 128 [.ref r, .int w0] z (zk zG (d + 1) 127 (none) 48 ls st Q)) := zc_V1 rfl (Nat.le_of_ble_eq_true rfl)
theorem s127_48 {ls : List Value} {a b : Int32} {r : Nat} : ZW zG d 127 48 ls (.int b :: .int a :: .ref r :: st) z Q = ((zcls z r = 50 ∧ zin a (zlen z r) = true) ∧ ZW zG d 127 49 ls (st) (sia z r (zx a) (znar 50 b)) Q) := zw_iast rfl
theorem s127_49 {x0 x1 : Value} : ZW zG d 127 49 [x0, x1] st z Q = (zir x0 = true ∧ ZW zG d 127 50 [x0, x1] (x0 :: st) z Q) := zw_cond (f := z_aload 0 50) rfl rfl
theorem s127_50 {ls : List Value} {r : Nat} : ZW zG d 127 50 ls (.ref r :: st) z Q = ((zcls z r = 12 ∧ zir (zfr z r 14) = true) ∧ ZW zG d 127 53 ls (zfr z r 14 :: st) (z) Q) := zw_getR rfl
theorem s127_53 {x0 : Value} {a : Int32} : ZW zG d 127 53 [x0, .int a] st z Q = ZW zG d 127 54 [x0, .int a] (.int a :: st) z Q := zw_next (f := z_iload 1 54) rfl rfl
theorem s127_54 {ls : List Value}  : ZW zG d 127 54 ls (st) z Q = ZW zG d 127 55 ls ((.int (nI 2)) :: st) z Q := zw_push rfl
theorem s127_55 {ls : List Value} {a b : Int32} : ZW zG d 127 55 ls (.int b :: .int a :: st) z Q = ZW zG d 127 56 ls (.int (a + b) :: st) z Q := zw_iadd rfl
theorem s127_56 {x0 x1 : Value} : ZW zG d 127 56 [x0, x1] st z Q = (zir x0 = true ∧ ZW zG d 127 57 [x0, x1] (x0 :: st) z Q) := zw_cond (f := z_aload 0 57) rfl rfl
theorem s127_57 {ls : List Value}  : ZW zG d 127 57 ls (st) z Q = ZW zG d 127 60 ls ((.ref 34) :: st) z Q := zw_push rfl
theorem s127_60 {ls : List Value}  : ZW zG d 127 60 ls (st) z Q = ZW zG d 127 61 ls ((.int (nI 0)) :: st) z Q := zw_push rfl
theorem s127_61 {ls : List Value}  : ZW zG d 127 61 ls (st) z Q = ZW zG d 127 63 ls ((.int (nI 99)) :: st) z Q := zw_push rfl
theorem s127_63 {ls : List Value} {w0 : Nat} {w1 : Int32} {w2 : Int32} {r : Nat} : ZW zG (d + 1) 127 63 ls (.int w2 :: .int w1 :: .ref w0 :: .ref r :: st) z Q = (zcls z r = 12 ∧ zcs st = true ∧ ZC zG d 131 [.ref r, .ref w0, .int w1, .int w2] z (zk zG (d + 1) 127 (none) 66 ls st Q)) := zc_V3 rfl (Nat.le_of_ble_eq_true rfl)
theorem s127_66 {ls : List Value} {a b : Int32} {r : Nat} : ZW zG d 127 66 ls (.int b :: .int a :: .ref r :: st) z Q = ((zcls z r = 50 ∧ zin a (zlen z r) = true) ∧ ZW zG d 127 67 ls (st) (sia z r (zx a) (znar 50 b)) Q) := zw_iast rfl
theorem s127_67 {x0 x1 : Value} : ZW zG d 127 67 [x0, x1] st z Q = (zir x0 = true ∧ ZW zG d 127 68 [x0, x1] (x0 :: st) z Q) := zw_cond (f := z_aload 0 68) rfl rfl
theorem s127_68 {ls : List Value} {r : Nat} : ZW zG d 127 68 ls (.ref r :: st) z Q = ((zcls z r = 12 ∧ zir (zfr z r 14) = true) ∧ ZW zG d 127 71 ls (zfr z r 14 :: st) (z) Q) := zw_getR rfl
theorem s127_71 {x0 : Value} {a : Int32} : ZW zG d 127 71 [x0, .int a] st z Q = ZW zG d 127 72 [x0, .int a] (.int a :: st) z Q := zw_next (f := z_iload 1 72) rfl rfl
theorem s127_72 {ls : List Value}  : ZW zG d 127 72 ls (st) z Q = ZW zG d 127 73 ls ((.int (nI 3)) :: st) z Q := zw_push rfl
theorem s127_73 {ls : List Value} {a b : Int32} : ZW zG d 127 73 ls (.int b :: .int a :: st) z Q = ZW zG d 127 74 ls (.int (a + b) :: st) z Q := zw_iadd rfl
theorem s127_74 {x0 x1 : Value} : ZW zG d 127 74 [x0, x1] st z Q = (zir x0 = true ∧ ZW zG d 127 75 [x0, x1] (x0 :: st) z Q) := zw_cond (f := z_aload 0 75) rfl rfl
theorem s127_75 {ls : List Value} {r : Nat} : ZW zG d 127 75 ls (.ref r :: st) z Q = ((zcls z r = 12 ∧ zir (zfr z r 14) = true) ∧ ZW zG d 127 78 ls (zfr z r 14 :: st) (z) Q) := zw_getR rfl
theorem s127_78 {ls : List Value}  : ZW zG d 127 78 ls (st) z Q = ZW zG d 127 79 ls ((.int (nI 2)) :: st) z Q := zw_push rfl
theorem s127_79 {ls : List Value} {a : Int32} {r : Nat} : ZW zG d 127 79 ls (.int a :: .ref r :: st) z Q = ((zcls z r = 50 ∧ zin a (zlen z r) = true) ∧ ZW zG d 127 80 ls (.int (zia z r (zx a)) :: st) (z) Q) := zw_iald rfl
theorem s127_80 {ls : List Value} {a b : Int32} {r : Nat} : ZW zG d 127 80 ls (.int b :: .int a :: .ref r :: st) z Q = ((zcls z r = 50 ∧ zin a (zlen z r) = true) ∧ ZW zG d 127 81 ls (st) (sia z r (zx a) (znar 50 b)) Q) := zw_iast rfl
theorem s127_81 {x0 x1 : Value} : ZW zG d 127 81 [x0, x1] st z Q = (zir x0 = true ∧ ZW zG d 127 82 [x0, x1] (x0 :: st) z Q) := zw_cond (f := z_aload 0 82) rfl rfl
theorem s127_82 {ls : List Value}  : ZW zG d 127 82 ls (st) z Q = ZW zG d 127 85 ls ((.ref 12) :: st) z Q := zw_push rfl
theorem s127_85 {ls : List Value} {w0 : Nat} {r : Nat} : ZW zG (d + 1) 127 85 ls (.ref w0 :: .ref r :: st) z Q = (zcls z r = 12 ∧ zcs st = true ∧ ZC zG d 130 [.ref r, .ref w0] z (zk zG (d + 1) 127 (none) 88 ls st Q)) := zc_V1 rfl (Nat.le_of_ble_eq_true rfl)
theorem s127_88 {ls : List Value} {a : Int32} : ZW zG d 127 88 ls (.int a :: st) z Q = if a = 0 then ZW zG d 127 112 ls st z Q else ZW zG d 127 91 ls st z Q := zw_ifeq rfl
theorem s127_91 {x0 x1 : Value} : ZW zG d 127 91 [x0, x1] st z Q = (zir x0 = true ∧ ZW zG d 127 92 [x0, x1] (x0 :: st) z Q) := zw_cond (f := z_aload 0 92) rfl rfl
theorem s127_92 {ls : List Value}  {r : Nat} : ZW zG (d + 1) 127 92 ls (.ref r :: st) z Q = (zcls z r = 12 ∧ zcs st = true ∧ ZC zG d 133 [.ref r] z (zk zG (d + 1) 127 (none) 95 ls st Q)) := zc_V0 rfl (Nat.le_of_ble_eq_true rfl)
theorem s127_95 {x0 x1 : Value} : ZW zG d 127 95 [x0, x1] st z Q = (zir x0 = true ∧ ZW zG d 127 96 [x0, x1] (x0 :: st) z Q) := zw_cond (f := z_aload 0 96) rfl rfl
theorem s127_96 {ls : List Value}  : ZW zG d 127 96 ls (st) z Q = ZW zG d 127 99 ls ((.ref 0) :: st) z Q := zw_push rfl
theorem s127_99 {ls : List Value} {w0 : Nat} {r : Nat} : ZW zG (d + 1) 127 99 ls (.ref w0 :: .ref r :: st) z Q = (zcls z r = 12 ∧ zcs st = true ∧ ZC zG d 130 [.ref r, .ref w0] z (zk zG (d + 1) 127 (none) 102 ls st Q)) := zc_V1 rfl (Nat.le_of_ble_eq_true rfl)
theorem s127_102 {ls : List Value} {a : Int32} : ZW zG d 127 102 ls (.int a :: st) z Q = if a = 0 then ZW zG d 127 112 ls st z Q else ZW zG d 127 105 ls st z Q := zw_ifeq rfl
theorem s127_105 {x0 x1 : Value} : ZW zG d 127 105 [x0, x1] st z Q = (zir x0 = true ∧ ZW zG d 127 106 [x0, x1] (x0 :: st) z Q) := zw_cond (f := z_aload 0 106) rfl rfl
theorem s127_106 {ls : List Value}  {r : Nat} : ZW zG (d + 1) 127 106 ls (.ref r :: st) z Q = (zcls z r = 12 ∧ zcs st = true ∧ ZC zG d 133 [.ref r] z (zk zG (d + 1) 127 (none) 109 ls st Q)) := zc_V0 rfl (Nat.le_of_ble_eq_true rfl)
theorem s127_109 {ls : List Value}  : ZW zG d 127 109 ls (st) z Q = ZW zG d 127 95 ls st z Q := zw_goto rfl
theorem s127_112 {x0 x1 : Value} : ZW zG d 127 112 [x0, x1] st z Q = (zir x0 = true ∧ ZW zG d 127 113 [x0, x1] (x0 :: st) z Q) := zw_cond (f := z_aload 0 113) rfl rfl
theorem s127_113 {ls : List Value} {r : Nat} : ZW zG d 127 113 ls (.ref r :: st) z Q = ((zcls z r = 12 ∧ zir (zfr z r 14) = true) ∧ ZW zG d 127 116 ls (zfr z r 14 :: st) (z) Q) := zw_getR rfl
theorem s127_116 {x0 : Value} {a : Int32} : ZW zG d 127 116 [x0, .int a] st z Q = ZW zG d 127 117 [x0, .int a] (.int a :: st) z Q := zw_next (f := z_iload 1 117) rfl rfl
theorem s127_117 {ls : List Value}  : ZW zG d 127 117 ls (st) z Q = ZW zG d 127 118 ls ((.int (nI 4)) :: st) z Q := zw_push rfl
theorem s127_118 {ls : List Value} {a b : Int32} : ZW zG d 127 118 ls (.int b :: .int a :: st) z Q = ZW zG d 127 119 ls (.int (a + b) :: st) z Q := zw_iadd rfl
theorem s127_119 {x0 x1 : Value} : ZW zG d 127 119 [x0, x1] st z Q = (zir x0 = true ∧ ZW zG d 127 120 [x0, x1] (x0 :: st) z Q) := zw_cond (f := z_aload 0 120) rfl rfl
theorem s127_120 {ls : List Value} {r : Nat} : ZW zG d 127 120 ls (.ref r :: st) z Q = ((zcls z r = 12 ∧ zir (zfr z r 14) = true) ∧ ZW zG d 127 123 ls (zfr z r 14 :: st) (z) Q) := zw_getR rfl
theorem s127_123 {ls : List Value}  : ZW zG d 127 123 ls (st) z Q = ZW zG d 127 124 ls ((.int (nI 2)) :: st) z Q := zw_push rfl
theorem s127_124 {ls : List Value} {a : Int32} {r : Nat} : ZW zG d 127 124 ls (.int a :: .ref r :: st) z Q = ((zcls z r = 50 ∧ zin a (zlen z r) = true) ∧ ZW zG d 127 125 ls (.int (zia z r (zx a)) :: st) (z) Q) := zw_iald rfl
theorem s127_125 {x0 x1 : Value} : ZW zG d 127 125 [x0, x1] st z Q = (zir x0 = true ∧ ZW zG d 127 126 [x0, x1] (x0 :: st) z Q) := zw_cond (f := z_aload 0 126) rfl rfl
theorem s127_126 {ls : List Value} {r : Nat} : ZW zG d 127 126 ls (.ref r :: st) z Q = ((zcls z r = 12 ∧ zir (zfr z r 14) = true) ∧ ZW zG d 127 129 ls (zfr z r 14 :: st) (z) Q) := zw_getR rfl
theorem s127_129 {x0 : Value} {a : Int32} : ZW zG d 127 129 [x0, .int a] st z Q = ZW zG d 127 130 [x0, .int a] (.int a :: st) z Q := zw_next (f := z_iload 1 130) rfl rfl
theorem s127_130 {ls : List Value}  : ZW zG d 127 130 ls (st) z Q = ZW zG d 127 131 ls ((.int (nI 3)) :: st) z Q := zw_push rfl
theorem s127_131 {ls : List Value} {a b : Int32} : ZW zG d 127 131 ls (.int b :: .int a :: st) z Q = ZW zG d 127 132 ls (.int (a + b) :: st) z Q := zw_iadd rfl
theorem s127_132 {ls : List Value} {a : Int32} {r : Nat} : ZW zG d 127 132 ls (.int a :: .ref r :: st) z Q = ((zcls z r = 50 ∧ zin a (zlen z r) = true) ∧ ZW zG d 127 133 ls (.int (zia z r (zx a)) :: st) (z) Q) := zw_iald rfl
theorem s127_133 {ls : List Value} {a b : Int32} : ZW zG d 127 133 ls (.int b :: .int a :: st) z Q = ZW zG d 127 134 ls (.int (a - b) :: st) z Q := zw_isub rfl
theorem s127_134 {ls : List Value} {a b : Int32} {r : Nat} : ZW zG d 127 134 ls (.int b :: .int a :: .ref r :: st) z Q = ((zcls z r = 50 ∧ zin a (zlen z r) = true) ∧ ZW zG d 127 135 ls (st) (sia z r (zx a) (znar 50 b)) Q) := zw_iast rfl
theorem s127_135 {x0 x1 : Value} : ZW zG d 127 135 [x0, x1] st z Q = (zir x0 = true ∧ ZW zG d 127 136 [x0, x1] (x0 :: st) z Q) := zw_cond (f := z_aload 0 136) rfl rfl
theorem s127_136 {ls : List Value}  {r : Nat} : ZW zG (d + 1) 127 136 ls (.ref r :: st) z Q = (zcls z r = 12 ∧ zcs st = true ∧ ZC zG d 122 [.ref r] z (zk zG (d + 1) 127 (none) 139 ls st Q)) := zc_V0 rfl (Nat.le_of_ble_eq_true rfl)
theorem s127_139 {ls : List Value} {a : Int32} : ZW zG d 127 139 ls (.int a :: st) z Q = if a = 0 then ZW zG d 127 152 ls st z Q else ZW zG d 127 142 ls st z Q := zw_ifeq rfl
theorem s127_142 {x0 x1 : Value} : ZW zG d 127 142 [x0, x1] st z Q = (zir x0 = true ∧ ZW zG d 127 143 [x0, x1] (x0 :: st) z Q) := zw_cond (f := z_aload 0 143) rfl rfl
theorem s127_143 {ls : List Value} {r : Nat} : ZW zG d 127 143 ls (.ref r :: st) z Q = ((zcls z r = 12 ∧ zir (zfr z r 14) = true) ∧ ZW zG d 127 146 ls (zfr z r 14 :: st) (z) Q) := zw_getR rfl
theorem s127_146 {ls : List Value}  : ZW zG d 127 146 ls (st) z Q = ZW zG d 127 147 ls ((.int (nI 1)) :: st) z Q := zw_push rfl
theorem s127_147 {ls : List Value} {a : Int32} {r : Nat} : ZW zG d 127 147 ls (.int a :: .ref r :: st) z Q = ZW zG d 127 148 ls (.int a :: .ref r :: .int a :: .ref r :: st) z Q := zw_dup2 rfl
theorem s127_148 {ls : List Value} {a : Int32} {r : Nat} : ZW zG d 127 148 ls (.int a :: .ref r :: st) z Q = ((zcls z r = 50 ∧ zin a (zlen z r) = true) ∧ ZW zG d 127 149 ls (.int (zia z r (zx a)) :: st) (z) Q) := zw_iald rfl
theorem s127_149 {ls : List Value}  : ZW zG d 127 149 ls (st) z Q = ZW zG d 127 150 ls ((.int (nI 1)) :: st) z Q := zw_push rfl
theorem s127_150 {ls : List Value} {a b : Int32} : ZW zG d 127 150 ls (.int b :: .int a :: st) z Q = ZW zG d 127 151 ls (.int (a + b) :: st) z Q := zw_iadd rfl
theorem s127_151 {ls : List Value} {a b : Int32} {r : Nat} : ZW zG d 127 151 ls (.int b :: .int a :: .ref r :: st) z Q = ((zcls z r = 50 ∧ zin a (zlen z r) = true) ∧ ZW zG d 127 152 ls (st) (sia z r (zx a) (znar 50 b)) Q) := zw_iast rfl
theorem s127_152 {ls : List Value}  : ZW zG d 127 152 ls ([]) z Q = Q (.inl none) z := zw_ret rfl
/-- X12_taken (I)I -/
theorem e128 {r0 : Nat} {v0 : Int32} : ZC zG d 128 [.ref r0, .int v0] z Q = ZW zG d 128 0 [.ref r0, .int v0] [] z Q := rfl
theorem s128_0 {x0 : Value} {a : Int32} : ZW zG d 128 0 [x0, .int a] st z Q = ZW zG d 128 1 [x0, .int a] (.int a :: st) z Q := zw_next (f := z_iload 1 1) rfl rfl
theorem s128_1 {ls : List Value}  : ZW zG d 128 1 ls (st) z Q = ZW zG d 128 2 ls ((.int (-1)) :: st) z Q := zw_push rfl
theorem s128_2 {ls : List Value} {a b : Int32} : ZW zG d 128 2 ls (.int b :: .int a :: st) z Q = if ¬ a = b then ZW zG d 128 10 ls st z Q else ZW zG d 128 5 ls st z Q := zw_icne rfl
theorem s128_5 {x0 x1 : Value} : ZW zG d 128 5 [x0, x1] st z Q = (zir x0 = true ∧ ZW zG d 128 6 [x0, x1] (x0 :: st) z Q) := zw_cond (f := z_aload 0 6) rfl rfl
theorem s128_6 {ls : List Value}  : ZW zG d 128 6 ls (st) z Q = ZW zG d 128 7 ls ((.int (nI 1)) :: st) z Q := zw_push rfl
theorem s128_7 {ls : List Value} {w0 : Int32} {r : Nat} : ZW zG (d + 1) 128 7 ls (.int w0 :: .ref r :: st) z Q = (zcls z r = 12 ∧ zcs st = true ∧ ZC zG d 126 [.ref r, .int w0] z (zk zG (d + 1) 128 (none) 10 ls st Q)) := zc_V1 rfl (Nat.le_of_ble_eq_true rfl)
theorem s128_10 {x0 x1 : Value} : ZW zG d 128 10 [x0, x1] st z Q = (zir x0 = true ∧ ZW zG d 128 11 [x0, x1] (x0 :: st) z Q) := zw_cond (f := z_aload 0 11) rfl rfl
theorem s128_11 {ls : List Value}  {r : Nat} : ZW zG (d + 1) 128 11 ls (.ref r :: st) z Q = (zcls z r = 12 ∧ zcs st = true ∧ ZC zG d 122 [.ref r] z (zk zG (d + 1) 128 (none) 14 ls st Q)) := zc_V0 rfl (Nat.le_of_ble_eq_true rfl)
theorem s128_14 {ls : List Value} {a : Int32} : ZW zG d 128 14 ls (.int a :: st) z Q = if a = 0 then ZW zG d 128 21 ls st z Q else ZW zG d 128 17 ls st z Q := zw_ifeq rfl
theorem s128_17 {x0 x1 : Value} : ZW zG d 128 17 [x0, x1] st z Q = (zir x0 = true ∧ ZW zG d 128 18 [x0, x1] (x0 :: st) z Q) := zw_cond (f := z_aload 0 18) rfl rfl
theorem s128_18 {ls : List Value}  {r : Nat} : ZW zG (d + 1) 128 18 ls (.ref r :: st) z Q = (zcls z r = 12 ∧ zcs st = true ∧ ZC zG d 120 [.ref r] z (zk zG (d + 1) 128 (none) 21 ls st Q)) := zc_V0 rfl (Nat.le_of_ble_eq_true rfl)
theorem s128_21 {x0 : Value} {a : Int32} : ZW zG d 128 21 [x0, .int a] st z Q = ZW zG d 128 22 [x0, .int a] (.int a :: st) z Q := zw_next (f := z_iload 1 22) rfl rfl
theorem s128_22 {ls : List Value} {a : Int32} : ZW zG d 128 22 ls ([.int a]) z Q = Q (.inl (some (.int a))) z := zw_reti rfl
/-- X12_needs (Ljava/lang/String;)V -/
theorem e129 {r0 : Nat} {v0 : Nat} : ZC zG d 129 [.ref r0, .ref v0] z Q = ZW zG d 129 0 [.ref r0, .ref v0] [] z Q := rfl
theorem s129_0 {x0 x1 : Value} : ZW zG d 129 0 [x0, x1] st z Q = (zir x0 = true ∧ ZW zG d 129 1 [x0, x1] (x0 :: st) z Q) := zw_cond (f := z_aload 0 1) rfl rfl
theorem s129_1 {x0 x1 : Value} : ZW zG d 129 1 [x0, x1] st z Q = (zir x1 = true ∧ ZW zG d 129 2 [x0, x1] (x1 :: st) z Q) := zw_cond (f := z_aload 1 2) rfl rfl
theorem s129_2 {ls : List Value} {w0 : Nat} {r : Nat} : ZW zG (d + 1) 129 2 ls (.ref w0 :: .ref r :: st) z Q = (zcls z r = 12 ∧ zcs st = true ∧ ZC zG d 130 [.ref r, .ref w0] z (zk zG (d + 1) 129 (none) 5 ls st Q)) := zc_V1 rfl (Nat.le_of_ble_eq_true rfl)
theorem s129_5 {ls : List Value} {a : Int32} : ZW zG d 129 5 ls (.int a :: st) z Q = if ¬ a = 0 then ZW zG d 129 13 ls st z Q else ZW zG d 129 8 ls st z Q := zw_ifne rfl
theorem s129_8 {x0 x1 : Value} : ZW zG d 129 8 [x0, x1] st z Q = (zir x0 = true ∧ ZW zG d 129 9 [x0, x1] (x0 :: st) z Q) := zw_cond (f := z_aload 0 9) rfl rfl
theorem s129_9 {ls : List Value}  : ZW zG d 129 9 ls (st) z Q = ZW zG d 129 10 ls ((.int (nI 1)) :: st) z Q := zw_push rfl
theorem s129_10 {ls : List Value} {w0 : Int32} {r : Nat} : ZW zG (d + 1) 129 10 ls (.int w0 :: .ref r :: st) z Q = (zcls z r = 12 ∧ zcs st = true ∧ ZC zG d 126 [.ref r, .int w0] z (zk zG (d + 1) 129 (none) 13 ls st Q)) := zc_V1 rfl (Nat.le_of_ble_eq_true rfl)
theorem s129_13 {ls : List Value}  : ZW zG d 129 13 ls ([]) z Q = Q (.inl none) z := zw_ret rfl
/-- X12_takes (Ljava/lang/String;)Z -/
theorem e130 {r0 : Nat} {v0 : Nat} : ZC zG d 130 [.ref r0, .ref v0] z Q = ZW zG d 130 0 [.ref r0, .ref v0, zdum] [] z Q := rfl
theorem s130_0 {x0 x1 x2 : Value} : ZW zG d 130 0 [x0, x1, x2] st z Q = (zir x0 = true ∧ ZW zG d 130 1 [x0, x1, x2] (x0 :: st) z Q) := zw_cond (f := z_aload 0 1) rfl rfl
theorem s130_1 {x0 x1 x2 : Value} : ZW zG d 130 1 [x0, x1, x2] st z Q = (zir x1 = true ∧ ZW zG d 130 2 [x0, x1, x2] (x1 :: st) z Q) := zw_cond (f := z_aload 1 2) rfl rfl
theorem s130_2 {ls : List Value} {w0 : Nat} {r : Nat} : ZW zG (d + 1) 130 2 ls (.ref w0 :: .ref r :: st) z Q = (zcls z r = 12 ∧ zcs st = true ∧ ZC zG d 125 [.ref r, .ref w0] z (zk zG (d + 1) 130 (none) 5 ls st Q)) := zc_V1 rfl (Nat.le_of_ble_eq_true rfl)
theorem s130_5 {x0 x1 x2 : Value} {a : Int32} : ZW zG d 130 5 [x0, x1, x2] (.int a :: st) z Q = ZW zG d 130 6 [x0, zclr x1, .int a] st z Q := zw_next (f := z_istore 2 6) rfl rfl
theorem s130_6 {x0 x1 : Value} {a : Int32} : ZW zG d 130 6 [x0, x1, .int a] st z Q = ZW zG d 130 7 [x0, x1, .int a] (.int a :: st) z Q := zw_next (f := z_iload 2 7) rfl rfl
theorem s130_7 {ls : List Value} {a : Int32} : ZW zG d 130 7 ls (.int a :: st) z Q = if a = 0 then ZW zG d 130 14 ls st z Q else ZW zG d 130 10 ls st z Q := zw_ifeq rfl
theorem s130_10 {x0 x1 x2 : Value} : ZW zG d 130 10 [x0, x1, x2] st z Q = (zir x0 = true ∧ ZW zG d 130 11 [x0, x1, x2] (x0 :: st) z Q) := zw_cond (f := z_aload 0 11) rfl rfl
theorem s130_11 {ls : List Value}  {r : Nat} : ZW zG (d + 1) 130 11 ls (.ref r :: st) z Q = (zcls z r = 12 ∧ zcs st = true ∧ ZC zG d 120 [.ref r] z (zk zG (d + 1) 130 (none) 14 ls st Q)) := zc_V0 rfl (Nat.le_of_ble_eq_true rfl)
theorem s130_14 {x0 x1 : Value} {a : Int32} : ZW zG d 130 14 [x0, x1, .int a] st z Q = ZW zG d 130 15 [x0, x1, .int a] (.int a :: st) z Q := zw_next (f := z_iload 2 15) rfl rfl
theorem s130_15 {ls : List Value} {a : Int32} : ZW zG d 130 15 ls ([.int a]) z Q = ((a = 0 ∨ a = 1) ∧ Q (.inl (some (.int a))) z) := zw_retz rfl
/-- X12_told (Ljava/lang/String;II)I -/
theorem e131 {r0 : Nat} {v0 : Nat} {v1 : Int32} {v2 : Int32} : ZC zG d 131 [.ref r0, .ref v0, .int v1, .int v2] z Q = ZW zG d 131 0 [.ref r0, .ref v0, .int v1, .int v2] [] z Q := rfl
theorem s131_0 {x0 x1 x2 x3 : Value} : ZW zG d 131 0 [x0, x1, x2, x3] st z Q = (zir x0 = true ∧ ZW zG d 131 1 [x0, x1, x2, x3] (x0 :: st) z Q) := zw_cond (f := z_aload 0 1) rfl rfl
theorem s131_1 {x0 x1 x2 x3 : Value} : ZW zG d 131 1 [x0, x1, x2, x3] st z Q = (zir x1 = true ∧ ZW zG d 131 2 [x0, x1, x2, x3] (x1 :: st) z Q) := zw_cond (f := z_aload 1 2) rfl rfl
theorem s131_2 {ls : List Value} {w0 : Nat} {r : Nat} : ZW zG (d + 1) 131 2 ls (.ref w0 :: .ref r :: st) z Q = (zcls z r = 12 ∧ zcs st = true ∧ ZC zG d 129 [.ref r, .ref w0] z (zk zG (d + 1) 131 (none) 5 ls st Q)) := zc_V1 rfl (Nat.le_of_ble_eq_true rfl)
theorem s131_5 {x0 x1 x2 x3 : Value} : ZW zG d 131 5 [x0, x1, x2, x3] st z Q = (zir x0 = true ∧ ZW zG d 131 6 [x0, x1, x2, x3] (x0 :: st) z Q) := zw_cond (f := z_aload 0 6) rfl rfl
theorem s131_6 {x0 x1 x3 : Value} {a : Int32} : ZW zG d 131 6 [x0, x1, .int a, x3] st z Q = ZW zG d 131 7 [x0, x1, .int a, x3] (.int a :: st) z Q := zw_next (f := z_iload 2 7) rfl rfl
theorem s131_7 {x0 x1 x2 : Value} {a : Int32} : ZW zG d 131 7 [x0, x1, x2, .int a] st z Q = ZW zG d 131 8 [x0, x1, x2, .int a] (.int a :: st) z Q := zw_next (f := z_iload 3 8) rfl rfl
theorem s131_8 {ls : List Value} {w0 : Int32} {w1 : Int32} {r : Nat} : ZW zG (d + 1) 131 8 ls (.int w1 :: .int w0 :: .ref r :: st) z Q = (zcls z r = 12 ∧ zcs st = true ∧ ZC zG d 132 [.ref r, .int w0, .int w1] z (zk zG (d + 1) 131 (none) 11 ls st Q)) := zc_V2 rfl (Nat.le_of_ble_eq_true rfl)
theorem s131_11 {ls : List Value} {a : Int32} : ZW zG d 131 11 ls ([.int a]) z Q = Q (.inl (some (.int a))) z := zw_reti rfl
/-- X12_number (II)I -/
theorem e132 {r0 : Nat} {v0 : Int32} {v1 : Int32} : ZC zG d 132 [.ref r0, .int v0, .int v1] z Q = ZW zG d 132 0 [.ref r0, .int v0, .int v1, zdum] [] z Q := rfl
theorem s132_0 {x0 x1 x2 x3 : Value} : ZW zG d 132 0 [x0, x1, x2, x3] st z Q = (zir x0 = true ∧ ZW zG d 132 1 [x0, x1, x2, x3] (x0 :: st) z Q) := zw_cond (f := z_aload 0 1) rfl rfl
theorem s132_1 {ls : List Value}  {r : Nat} : ZW zG (d + 1) 132 1 ls (.ref r :: st) z Q = (zcls z r = 12 ∧ zcs st = true ∧ ZC zG d 122 [.ref r] z (zk zG (d + 1) 132 (none) 4 ls st Q)) := zc_V0 rfl (Nat.le_of_ble_eq_true rfl)
theorem s132_4 {ls : List Value} {a : Int32} : ZW zG d 132 4 ls (.int a :: st) z Q = if a = 0 then ZW zG d 132 20 ls st z Q else ZW zG d 132 7 ls st z Q := zw_ifeq rfl
theorem s132_7 {x0 x1 x2 x3 : Value} : ZW zG d 132 7 [x0, x1, x2, x3] st z Q = (zir x0 = true ∧ ZW zG d 132 8 [x0, x1, x2, x3] (x0 :: st) z Q) := zw_cond (f := z_aload 0 8) rfl rfl
theorem s132_8 {ls : List Value} {r : Nat} : ZW zG d 132 8 ls (.ref r :: st) z Q = ((zcls z r = 12) ∧ ZW zG d 132 11 ls (.int (zfi z r 10) :: st) (z) Q) := zw_getI rfl
theorem s132_11 {ls : List Value}  : ZW zG d 132 11 ls (st) z Q = ZW zG d 132 12 ls ((.int (nI 2)) :: st) z Q := zw_push rfl
theorem s132_12 {ls : List Value} {a b : Int32} : ZW zG d 132 12 ls (.int b :: .int a :: st) z Q = if a = b then ZW zG d 132 20 ls st z Q else ZW zG d 132 15 ls st z Q := zw_iceq rfl
theorem s132_15 {x0 x1 x2 x3 : Value} : ZW zG d 132 15 [x0, x1, x2, x3] st z Q = (zir x0 = true ∧ ZW zG d 132 16 [x0, x1, x2, x3] (x0 :: st) z Q) := zw_cond (f := z_aload 0 16) rfl rfl
theorem s132_16 {ls : List Value}  : ZW zG d 132 16 ls (st) z Q = ZW zG d 132 17 ls ((.int (nI 1)) :: st) z Q := zw_push rfl
theorem s132_17 {ls : List Value} {w0 : Int32} {r : Nat} : ZW zG (d + 1) 132 17 ls (.int w0 :: .ref r :: st) z Q = (zcls z r = 12 ∧ zcs st = true ∧ ZC zG d 126 [.ref r, .int w0] z (zk zG (d + 1) 132 (none) 20 ls st Q)) := zc_V1 rfl (Nat.le_of_ble_eq_true rfl)
theorem s132_20 {x0 x1 x2 x3 : Value} : ZW zG d 132 20 [x0, x1, x2, x3] st z Q = (zir x0 = true ∧ ZW zG d 132 21 [x0, x1, x2, x3] (x0 :: st) z Q) := zw_cond (f := z_aload 0 21) rfl rfl
theorem s132_21 {ls : List Value}  {r : Nat} : ZW zG (d + 1) 132 21 ls (.ref r :: st) z Q = (zcls z r = 12 ∧ zcs st = true ∧ ZC zG d 122 [.ref r] z (zk zG (d + 1) 132 (none) 24 ls st Q)) := zc_V0 rfl (Nat.le_of_ble_eq_true rfl)
theorem s132_24 {ls : List Value} {a : Int32} : ZW zG d 132 24 ls (.int a :: st) z Q = if a = 0 then ZW zG d 132 47 ls st z Q else ZW zG d 132 27 ls st z Q := zw_ifeq rfl
theorem s132_27 {x0 x1 x2 x3 : Value} : ZW zG d 132 27 [x0, x1, x2, x3] st z Q = (zir x0 = true ∧ ZW zG d 132 28 [x0, x1, x2, x3] (x0 :: st) z Q) := zw_cond (f := z_aload 0 28) rfl rfl
theorem s132_28 {ls : List Value} {r : Nat} : ZW zG d 132 28 ls (.ref r :: st) z Q = ((zcls z r = 12) ∧ ZW zG d 132 31 ls (.int (zfi z r 11) :: st) (z) Q) := zw_getI rfl
theorem s132_31 {ls : List Value} {a : Int32} : ZW zG d 132 31 ls (.int a :: st) z Q = ZW zG d 132 32 ls (.long a.toInt64 :: st) z Q := zw_i2l rfl
theorem s132_32 {x0 x2 x3 : Value} {a : Int32} : ZW zG d 132 32 [x0, .int a, x2, x3] st z Q = ZW zG d 132 33 [x0, .int a, x2, x3] (.int a :: st) z Q := zw_next (f := z_iload 1 33) rfl rfl
theorem s132_33 {ls : List Value} {a : Int32} : ZW zG d 132 33 ls (.int a :: st) z Q = ZW zG d 132 34 ls (.long a.toInt64 :: st) z Q := zw_i2l rfl
theorem s132_34 {x0 x1 x3 : Value} {a : Int32} : ZW zG d 132 34 [x0, x1, .int a, x3] st z Q = ZW zG d 132 35 [x0, x1, .int a, x3] (.int a :: st) z Q := zw_next (f := z_iload 2 35) rfl rfl
theorem s132_35 {ls : List Value} {a : Int32} : ZW zG d 132 35 ls (.int a :: st) z Q = ZW zG d 132 36 ls (.long a.toInt64 :: st) z Q := zw_i2l rfl
theorem s132_36 {ls : List Value} {w0 : Int64} {w1 : Int64} {w2 : Int64} : ZW zG (d + 1) 132 36 ls (.long w2 :: .long w1 :: .long w0 :: st) z Q = (zcs st = true ∧ ZC zG d 114 [.long w0, .long w1, .long w2] z (zk zG (d + 1) 132 (none) 39 ls st Q)) := zc_S3 rfl (Nat.le_of_ble_eq_true rfl)
theorem s132_39 {ls : List Value} {a : Int32} : ZW zG d 132 39 ls (.int a :: st) z Q = if ¬ a = 0 then ZW zG d 132 47 ls st z Q else ZW zG d 132 42 ls st z Q := zw_ifne rfl
theorem s132_42 {x0 x1 x2 x3 : Value} : ZW zG d 132 42 [x0, x1, x2, x3] st z Q = (zir x0 = true ∧ ZW zG d 132 43 [x0, x1, x2, x3] (x0 :: st) z Q) := zw_cond (f := z_aload 0 43) rfl rfl
theorem s132_43 {ls : List Value}  : ZW zG d 132 43 ls (st) z Q = ZW zG d 132 44 ls ((.int (nI 2)) :: st) z Q := zw_push rfl
theorem s132_44 {ls : List Value} {w0 : Int32} {r : Nat} : ZW zG (d + 1) 132 44 ls (.int w0 :: .ref r :: st) z Q = (zcls z r = 12 ∧ zcs st = true ∧ ZC zG d 126 [.ref r, .int w0] z (zk zG (d + 1) 132 (none) 47 ls st Q)) := zc_V1 rfl (Nat.le_of_ble_eq_true rfl)
theorem s132_47 {x0 x1 x2 x3 : Value} : ZW zG d 132 47 [x0, x1, x2, x3] st z Q = (zir x0 = true ∧ ZW zG d 132 48 [x0, x1, x2, x3] (x0 :: st) z Q) := zw_cond (f := z_aload 0 48) rfl rfl
theorem s132_48 {ls : List Value}  {r : Nat} : ZW zG (d + 1) 132 48 ls (.ref r :: st) z Q = (zcls z r = 12 ∧ zcs st = true ∧ ZC zG d 122 [.ref r] z (zk zG (d + 1) 132 (none) 51 ls st Q)) := zc_V0 rfl (Nat.le_of_ble_eq_true rfl)
theorem s132_51 {ls : List Value} {a : Int32} : ZW zG d 132 51 ls (.int a :: st) z Q = if ¬ a = 0 then ZW zG d 132 56 ls st z Q else ZW zG d 132 54 ls st z Q := zw_ifne rfl
theorem s132_54 {ls : List Value}  : ZW zG d 132 54 ls (st) z Q = ZW zG d 132 55 ls ((.int (nI 0)) :: st) z Q := zw_push rfl
theorem s132_55 {ls : List Value} {a : Int32} : ZW zG d 132 55 ls ([.int a]) z Q = Q (.inl (some (.int a))) z := zw_reti rfl
theorem s132_56 {x0 x1 x2 x3 : Value} : ZW zG d 132 56 [x0, x1, x2, x3] st z Q = (zir x0 = true ∧ ZW zG d 132 57 [x0, x1, x2, x3] (x0 :: st) z Q) := zw_cond (f := z_aload 0 57) rfl rfl
theorem s132_57 {ls : List Value} {r : Nat} : ZW zG d 132 57 ls (.ref r :: st) z Q = ((zcls z r = 12) ∧ ZW zG d 132 60 ls (.int (zfi z r 11) :: st) (z) Q) := zw_getI rfl
theorem s132_60 {x0 x1 x2 x3 : Value} {a : Int32} : ZW zG d 132 60 [x0, x1, x2, x3] (.int a :: st) z Q = ZW zG d 132 61 [x0, x1, zclr x2, .int a] st z Q := zw_next (f := z_istore 3 61) rfl rfl
theorem s132_61 {x0 x1 x2 x3 : Value} : ZW zG d 132 61 [x0, x1, x2, x3] st z Q = (zir x0 = true ∧ ZW zG d 132 62 [x0, x1, x2, x3] (x0 :: st) z Q) := zw_cond (f := z_aload 0 62) rfl rfl
theorem s132_62 {ls : List Value}  {r : Nat} : ZW zG (d + 1) 132 62 ls (.ref r :: st) z Q = (zcls z r = 12 ∧ zcs st = true ∧ ZC zG d 120 [.ref r] z (zk zG (d + 1) 132 (none) 65 ls st Q)) := zc_V0 rfl (Nat.le_of_ble_eq_true rfl)
theorem s132_65 {x0 x1 x2 : Value} {a : Int32} : ZW zG d 132 65 [x0, x1, x2, .int a] st z Q = ZW zG d 132 66 [x0, x1, x2, .int a] (.int a :: st) z Q := zw_next (f := z_iload 3 66) rfl rfl
theorem s132_66 {ls : List Value} {a : Int32} : ZW zG d 132 66 ls ([.int a]) z Q = Q (.inl (some (.int a))) z := zw_reti rfl
/-- X12_readTest ()V -/
theorem e133 {r0 : Nat} : ZC zG d 133 [.ref r0] z Q = ZW zG d 133 0 [.ref r0, zdum, zdum, zdum] [] z Q := rfl
theorem s133_0 {x0 x1 x2 x3 : Value} : ZW zG d 133 0 [x0, x1, x2, x3] st z Q = (zir x0 = true ∧ ZW zG d 133 1 [x0, x1, x2, x3] (x0 :: st) z Q) := zw_cond (f := z_aload 0 1) rfl rfl
theorem s133_1 {ls : List Value} {r : Nat} : ZW zG d 133 1 ls (.ref r :: st) z Q = ((zcls z r = 12 ∧ zir (zfr z r 14) = true) ∧ ZW zG d 133 4 ls (zfr z r 14 :: st) (z) Q) := zw_getR rfl
theorem s133_4 {ls : List Value}  : ZW zG d 133 4 ls (st) z Q = ZW zG d 133 5 ls ((.int (nI 3)) :: st) z Q := zw_push rfl
theorem s133_5 {ls : List Value} {a : Int32} {r : Nat} : ZW zG d 133 5 ls (.int a :: .ref r :: st) z Q = ((zcls z r = 50 ∧ zin a (zlen z r) = true) ∧ ZW zG d 133 6 ls (.int (zia z r (zx a)) :: st) (z) Q) := zw_iald rfl
theorem s133_6 {x0 x1 x2 x3 : Value} {a : Int32} : ZW zG d 133 6 [x0, x1, x2, x3] (.int a :: st) z Q = ZW zG d 133 7 [zclr x0, .int a, x2, x3] st z Q := zw_next (f := z_istore 1 7) rfl rfl
theorem s133_7 {x0 x1 x2 x3 : Value} : ZW zG d 133 7 [x0, x1, x2, x3] st z Q = (zir x0 = true ∧ ZW zG d 133 8 [x0, x1, x2, x3] (x0 :: st) z Q) := zw_cond (f := z_aload 0 8) rfl rfl
theorem s133_8 {ls : List Value}  : ZW zG d 133 8 ls (st) z Q = ZW zG d 133 9 ls ((.int (nI 0)) :: st) z Q := zw_push rfl
theorem s133_9 {ls : List Value} {w0 : Int32} {r : Nat} : ZW zG (d + 1) 133 9 ls (.int w0 :: .ref r :: st) z Q = (zcls z r = 12 ∧ zcs st = true ∧ ZC zG d 134 [.ref r, .int w0] z (zk zG (d + 1) 133 (none) 12 ls st Q)) := zc_V1 rfl (Nat.le_of_ble_eq_true rfl)
theorem s133_12 {x0 x1 x2 x3 : Value} : ZW zG d 133 12 [x0, x1, x2, x3] st z Q = (zir x0 = true ∧ ZW zG d 133 13 [x0, x1, x2, x3] (x0 :: st) z Q) := zw_cond (f := z_aload 0 13) rfl rfl
theorem s133_13 {x0 x1 x2 x3 : Value} : ZW zG d 133 13 [x0, x1, x2, x3] st z Q = (zir x0 = true ∧ ZW zG d 133 14 [x0, x1, x2, x3] (x0 :: st) z Q) := zw_cond (f := z_aload 0 14) rfl rfl
theorem s133_14 {ls : List Value}  : ZW zG d 133 14 ls (st) z Q = ZW zG d 133 16 ls ((.ref 20) :: st) z Q := zw_push rfl
theorem s133_16 {ls : List Value} {w0 : Nat} {r : Nat} : ZW zG (d + 1) 133 16 ls (.ref w0 :: .ref r :: st) z Q = (zcls z r = 12 ∧ zcs st = true ∧ ZC zG d 125 [.ref r, .ref w0] z (zk zG (d + 1) 133 (none) 19 ls st Q)) := zc_V1 rfl (Nat.le_of_ble_eq_true rfl)
theorem s133_19 {ls : List Value} {a : Int32} : ZW zG d 133 19 ls (.int a :: st) z Q = if a = 0 then ZW zG d 133 26 ls st z Q else ZW zG d 133 22 ls st z Q := zw_ifeq rfl
theorem s133_22 {ls : List Value}  : ZW zG d 133 22 ls (st) z Q = ZW zG d 133 23 ls ((.int (nI 0)) :: st) z Q := zw_push rfl
theorem s133_23 {ls : List Value}  : ZW zG d 133 23 ls (st) z Q = ZW zG d 133 53 ls st z Q := zw_goto rfl
theorem s133_26 {x0 x1 x2 x3 : Value} : ZW zG d 133 26 [x0, x1, x2, x3] st z Q = (zir x0 = true ∧ ZW zG d 133 27 [x0, x1, x2, x3] (x0 :: st) z Q) := zw_cond (f := z_aload 0 27) rfl rfl
theorem s133_27 {ls : List Value}  : ZW zG d 133 27 ls (st) z Q = ZW zG d 133 29 ls ((.ref 16) :: st) z Q := zw_push rfl
theorem s133_29 {ls : List Value} {w0 : Nat} {r : Nat} : ZW zG (d + 1) 133 29 ls (.ref w0 :: .ref r :: st) z Q = (zcls z r = 12 ∧ zcs st = true ∧ ZC zG d 125 [.ref r, .ref w0] z (zk zG (d + 1) 133 (none) 32 ls st Q)) := zc_V1 rfl (Nat.le_of_ble_eq_true rfl)
theorem s133_32 {ls : List Value} {a : Int32} : ZW zG d 133 32 ls (.int a :: st) z Q = if a = 0 then ZW zG d 133 39 ls st z Q else ZW zG d 133 35 ls st z Q := zw_ifeq rfl
theorem s133_35 {ls : List Value}  : ZW zG d 133 35 ls (st) z Q = ZW zG d 133 36 ls ((.int (nI 1)) :: st) z Q := zw_push rfl
theorem s133_36 {ls : List Value}  : ZW zG d 133 36 ls (st) z Q = ZW zG d 133 53 ls st z Q := zw_goto rfl
theorem s133_39 {x0 x1 x2 x3 : Value} : ZW zG d 133 39 [x0, x1, x2, x3] st z Q = (zir x0 = true ∧ ZW zG d 133 40 [x0, x1, x2, x3] (x0 :: st) z Q) := zw_cond (f := z_aload 0 40) rfl rfl
theorem s133_40 {ls : List Value}  : ZW zG d 133 40 ls (st) z Q = ZW zG d 133 42 ls ((.ref 25) :: st) z Q := zw_push rfl
theorem s133_42 {ls : List Value} {w0 : Nat} {r : Nat} : ZW zG (d + 1) 133 42 ls (.ref w0 :: .ref r :: st) z Q = (zcls z r = 12 ∧ zcs st = true ∧ ZC zG d 125 [.ref r, .ref w0] z (zk zG (d + 1) 133 (none) 45 ls st Q)) := zc_V1 rfl (Nat.le_of_ble_eq_true rfl)
theorem s133_45 {ls : List Value} {a : Int32} : ZW zG d 133 45 ls (.int a :: st) z Q = if a = 0 then ZW zG d 133 52 ls st z Q else ZW zG d 133 48 ls st z Q := zw_ifeq rfl
theorem s133_48 {ls : List Value}  : ZW zG d 133 48 ls (st) z Q = ZW zG d 133 49 ls ((.int (nI 2)) :: st) z Q := zw_push rfl
theorem s133_49 {ls : List Value}  : ZW zG d 133 49 ls (st) z Q = ZW zG d 133 53 ls st z Q := zw_goto rfl
theorem s133_52 {ls : List Value}  : ZW zG d 133 52 ls (st) z Q = ZW zG d 133 53 ls ((.int (-1)) :: st) z Q := zw_push rfl
theorem s133_53 {ls : List Value} {w0 : Int32} {r : Nat} : ZW zG (d + 1) 133 53 ls (.int w0 :: .ref r :: st) z Q = (zcls z r = 12 ∧ zcs st = true ∧ ZC zG d 128 [.ref r, .int w0] z (zk zG (d + 1) 133 (none) 56 ls st Q)) := zc_V1 rfl (Nat.le_of_ble_eq_true rfl)
theorem s133_56 {x0 x1 x2 x3 : Value} {a : Int32} : ZW zG d 133 56 [x0, x1, x2, x3] (.int a :: st) z Q = ZW zG d 133 57 [x0, zclr x1, .int a, x3] st z Q := zw_next (f := z_istore 2 57) rfl rfl
theorem s133_57 {x0 x1 x2 x3 : Value} : ZW zG d 133 57 [x0, x1, x2, x3] st z Q = (zir x0 = true ∧ ZW zG d 133 58 [x0, x1, x2, x3] (x0 :: st) z Q) := zw_cond (f := z_aload 0 58) rfl rfl
theorem s133_58 {ls : List Value}  {r : Nat} : ZW zG (d + 1) 133 58 ls (.ref r :: st) z Q = (zcls z r = 12 ∧ zcs st = true ∧ ZC zG d 122 [.ref r] z (zk zG (d + 1) 133 (none) 61 ls st Q)) := zc_V0 rfl (Nat.le_of_ble_eq_true rfl)
theorem s133_61 {ls : List Value} {a : Int32} : ZW zG d 133 61 ls (.int a :: st) z Q = if a = 0 then ZW zG d 133 69 ls st z Q else ZW zG d 133 64 ls st z Q := zw_ifeq rfl
theorem s133_64 {x0 x1 x2 x3 : Value} : ZW zG d 133 64 [x0, x1, x2, x3] st z Q = (zir x0 = true ∧ ZW zG d 133 65 [x0, x1, x2, x3] (x0 :: st) z Q) := zw_cond (f := z_aload 0 65) rfl rfl
theorem s133_65 {ls : List Value}  : ZW zG d 133 65 ls (st) z Q = ZW zG d 133 66 ls ((.int (nI 4)) :: st) z Q := zw_push rfl
theorem s133_66 {ls : List Value} {w0 : Int32} {r : Nat} : ZW zG (d + 1) 133 66 ls (.int w0 :: .ref r :: st) z Q = (zcls z r = 12 ∧ zcs st = true ∧ ZC zG d 134 [.ref r, .int w0] z (zk zG (d + 1) 133 (none) 69 ls st Q)) := zc_V1 rfl (Nat.le_of_ble_eq_true rfl)
theorem s133_69 {x0 x1 x2 x3 : Value} : ZW zG d 133 69 [x0, x1, x2, x3] st z Q = (zir x0 = true ∧ ZW zG d 133 70 [x0, x1, x2, x3] (x0 :: st) z Q) := zw_cond (f := z_aload 0 70) rfl rfl
theorem s133_70 {ls : List Value}  {r : Nat} : ZW zG (d + 1) 133 70 ls (.ref r :: st) z Q = (zcls z r = 12 ∧ zcs st = true ∧ ZC zG d 122 [.ref r] z (zk zG (d + 1) 133 (none) 73 ls st Q)) := zc_V0 rfl (Nat.le_of_ble_eq_true rfl)
theorem s133_73 {ls : List Value} {a : Int32} : ZW zG d 133 73 ls (.int a :: st) z Q = if ¬ a = 0 then ZW zG d 133 77 ls st z Q else ZW zG d 133 76 ls st z Q := zw_ifne rfl
theorem s133_76 {ls : List Value}  : ZW zG d 133 76 ls ([]) z Q = Q (.inl none) z := zw_ret rfl
theorem s133_77 {ls : List Value}  : ZW zG d 133 77 ls (st) z Q = ZW zG d 133 80 ls ((.int (nI 274)) :: st) z Q := zw_push rfl
theorem s133_80 {ls : List Value}  : ZW zG d 133 80 ls (st) z Q = ZW zG d 133 81 ls ((.int (nI 3)) :: st) z Q := zw_push rfl
theorem s133_81 {x0 x1 x2 x3 : Value} : ZW zG d 133 81 [x0, x1, x2, x3] st z Q = (zir x0 = true ∧ ZW zG d 133 82 [x0, x1, x2, x3] (x0 :: st) z Q) := zw_cond (f := z_aload 0 82) rfl rfl
theorem s133_82 {ls : List Value} {r : Nat} : ZW zG d 133 82 ls (.ref r :: st) z Q = ((zcls z r = 12 ∧ zir (zfr z r 14) = true) ∧ ZW zG d 133 85 ls (zfr z r 14 :: st) (z) Q) := zw_getR rfl
theorem s133_85 {ls : List Value}  : ZW zG d 133 85 ls (st) z Q = ZW zG d 133 86 ls ((.int (nI 2)) :: st) z Q := zw_push rfl
theorem s133_86 {ls : List Value} {a : Int32} {r : Nat} : ZW zG d 133 86 ls (.int a :: .ref r :: st) z Q = ((zcls z r = 50 ∧ zin a (zlen z r) = true) ∧ ZW zG d 133 87 ls (.int (zia z r (zx a)) :: st) (z) Q) := zw_iald rfl
theorem s133_87 {ls : List Value} {a b : Int32} : ZW zG d 133 87 ls (.int b :: .int a :: st) z Q = ZW zG d 133 88 ls (.int (a * b) :: st) z Q := zw_imul rfl
theorem s133_88 {ls : List Value} {a b : Int32} : ZW zG d 133 88 ls (.int b :: .int a :: st) z Q = ZW zG d 133 89 ls (.int (a + b) :: st) z Q := zw_iadd rfl
theorem s133_89 {x0 x1 x2 x3 : Value} {a : Int32} : ZW zG d 133 89 [x0, x1, x2, x3] (.int a :: st) z Q = ZW zG d 133 90 [x0, x1, zclr x2, .int a] st z Q := zw_next (f := z_istore 3 90) rfl rfl
theorem s133_90 {x0 x1 x2 x3 : Value} : ZW zG d 133 90 [x0, x1, x2, x3] st z Q = (zir x0 = true ∧ ZW zG d 133 91 [x0, x1, x2, x3] (x0 :: st) z Q) := zw_cond (f := z_aload 0 91) rfl rfl
theorem s133_91 {ls : List Value} {r : Nat} : ZW zG d 133 91 ls (.ref r :: st) z Q = ((zcls z r = 12 ∧ zir (zfr z r 14) = true) ∧ ZW zG d 133 94 ls (zfr z r 14 :: st) (z) Q) := zw_getR rfl
theorem s133_94 {x0 x1 x2 : Value} {a : Int32} : ZW zG d 133 94 [x0, x1, x2, .int a] st z Q = ZW zG d 133 95 [x0, x1, x2, .int a] (.int a :: st) z Q := zw_next (f := z_iload 3 95) rfl rfl
theorem s133_95 {x0 x1 x3 : Value} {a : Int32} : ZW zG d 133 95 [x0, x1, .int a, x3] st z Q = ZW zG d 133 96 [x0, x1, .int a, x3] (.int a :: st) z Q := zw_next (f := z_iload 2 96) rfl rfl
theorem s133_96 {ls : List Value} {a b : Int32} {r : Nat} : ZW zG d 133 96 ls (.int b :: .int a :: .ref r :: st) z Q = ((zcls z r = 50 ∧ zin a (zlen z r) = true) ∧ ZW zG d 133 97 ls (st) (sia z r (zx a) (znar 50 b)) Q) := zw_iast rfl
theorem s133_97 {x0 x1 x2 x3 : Value} : ZW zG d 133 97 [x0, x1, x2, x3] st z Q = (zir x0 = true ∧ ZW zG d 133 98 [x0, x1, x2, x3] (x0 :: st) z Q) := zw_cond (f := z_aload 0 98) rfl rfl
theorem s133_98 {ls : List Value} {r : Nat} : ZW zG d 133 98 ls (.ref r :: st) z Q = ((zcls z r = 12 ∧ zir (zfr z r 14) = true) ∧ ZW zG d 133 101 ls (zfr z r 14 :: st) (z) Q) := zw_getR rfl
theorem s133_101 {x0 x1 x2 : Value} {a : Int32} : ZW zG d 133 101 [x0, x1, x2, .int a] st z Q = ZW zG d 133 102 [x0, x1, x2, .int a] (.int a :: st) z Q := zw_next (f := z_iload 3 102) rfl rfl
theorem s133_102 {ls : List Value}  : ZW zG d 133 102 ls (st) z Q = ZW zG d 133 103 ls ((.int (nI 1)) :: st) z Q := zw_push rfl
theorem s133_103 {ls : List Value} {a b : Int32} : ZW zG d 133 103 ls (.int b :: .int a :: st) z Q = ZW zG d 133 104 ls (.int (a + b) :: st) z Q := zw_iadd rfl
theorem s133_104 {x0 x2 x3 : Value} {a : Int32} : ZW zG d 133 104 [x0, .int a, x2, x3] st z Q = ZW zG d 133 105 [x0, .int a, x2, x3] (.int a :: st) z Q := zw_next (f := z_iload 1 105) rfl rfl
theorem s133_105 {ls : List Value} {a b : Int32} {r : Nat} : ZW zG d 133 105 ls (.int b :: .int a :: .ref r :: st) z Q = ((zcls z r = 50 ∧ zin a (zlen z r) = true) ∧ ZW zG d 133 106 ls (st) (sia z r (zx a) (znar 50 b)) Q) := zw_iast rfl
theorem s133_106 {x0 x1 x2 x3 : Value} : ZW zG d 133 106 [x0, x1, x2, x3] st z Q = (zir x0 = true ∧ ZW zG d 133 107 [x0, x1, x2, x3] (x0 :: st) z Q) := zw_cond (f := z_aload 0 107) rfl rfl
theorem s133_107 {ls : List Value} {r : Nat} : ZW zG d 133 107 ls (.ref r :: st) z Q = ((zcls z r = 12 ∧ zir (zfr z r 14) = true) ∧ ZW zG d 133 110 ls (zfr z r 14 :: st) (z) Q) := zw_getR rfl
theorem s133_110 {x0 x1 x2 : Value} {a : Int32} : ZW zG d 133 110 [x0, x1, x2, .int a] st z Q = ZW zG d 133 111 [x0, x1, x2, .int a] (.int a :: st) z Q := zw_next (f := z_iload 3 111) rfl rfl
theorem s133_111 {ls : List Value}  : ZW zG d 133 111 ls (st) z Q = ZW zG d 133 112 ls ((.int (nI 2)) :: st) z Q := zw_push rfl
theorem s133_112 {ls : List Value} {a b : Int32} : ZW zG d 133 112 ls (.int b :: .int a :: st) z Q = ZW zG d 133 113 ls (.int (a + b) :: st) z Q := zw_iadd rfl
theorem s133_113 {x0 x1 x2 x3 : Value} : ZW zG d 133 113 [x0, x1, x2, x3] st z Q = (zir x0 = true ∧ ZW zG d 133 114 [x0, x1, x2, x3] (x0 :: st) z Q) := zw_cond (f := z_aload 0 114) rfl rfl
theorem s133_114 {ls : List Value} {r : Nat} : ZW zG d 133 114 ls (.ref r :: st) z Q = ((zcls z r = 12 ∧ zir (zfr z r 14) = true) ∧ ZW zG d 133 117 ls (zfr z r 14 :: st) (z) Q) := zw_getR rfl
theorem s133_117 {ls : List Value}  : ZW zG d 133 117 ls (st) z Q = ZW zG d 133 118 ls ((.int (nI 3)) :: st) z Q := zw_push rfl
theorem s133_118 {ls : List Value} {a : Int32} {r : Nat} : ZW zG d 133 118 ls (.int a :: .ref r :: st) z Q = ((zcls z r = 50 ∧ zin a (zlen z r) = true) ∧ ZW zG d 133 119 ls (.int (zia z r (zx a)) :: st) (z) Q) := zw_iald rfl
theorem s133_119 {x0 x2 x3 : Value} {a : Int32} : ZW zG d 133 119 [x0, .int a, x2, x3] st z Q = ZW zG d 133 120 [x0, .int a, x2, x3] (.int a :: st) z Q := zw_next (f := z_iload 1 120) rfl rfl
theorem s133_120 {ls : List Value} {a b : Int32} : ZW zG d 133 120 ls (.int b :: .int a :: st) z Q = ZW zG d 133 121 ls (.int (a - b) :: st) z Q := zw_isub rfl
theorem s133_121 {ls : List Value} {a b : Int32} {r : Nat} : ZW zG d 133 121 ls (.int b :: .int a :: .ref r :: st) z Q = ((zcls z r = 50 ∧ zin a (zlen z r) = true) ∧ ZW zG d 133 122 ls (st) (sia z r (zx a) (znar 50 b)) Q) := zw_iast rfl
theorem s133_122 {x0 x1 x2 x3 : Value} : ZW zG d 133 122 [x0, x1, x2, x3] st z Q = (zir x0 = true ∧ ZW zG d 133 123 [x0, x1, x2, x3] (x0 :: st) z Q) := zw_cond (f := z_aload 0 123) rfl rfl
theorem s133_123 {ls : List Value} {r : Nat} : ZW zG d 133 123 ls (.ref r :: st) z Q = ((zcls z r = 12 ∧ zir (zfr z r 14) = true) ∧ ZW zG d 133 126 ls (zfr z r 14 :: st) (z) Q) := zw_getR rfl
theorem s133_126 {ls : List Value}  : ZW zG d 133 126 ls (st) z Q = ZW zG d 133 127 ls ((.int (nI 2)) :: st) z Q := zw_push rfl
theorem s133_127 {ls : List Value} {a : Int32} {r : Nat} : ZW zG d 133 127 ls (.int a :: .ref r :: st) z Q = ZW zG d 133 128 ls (.int a :: .ref r :: .int a :: .ref r :: st) z Q := zw_dup2 rfl
theorem s133_128 {ls : List Value} {a : Int32} {r : Nat} : ZW zG d 133 128 ls (.int a :: .ref r :: st) z Q = ((zcls z r = 50 ∧ zin a (zlen z r) = true) ∧ ZW zG d 133 129 ls (.int (zia z r (zx a)) :: st) (z) Q) := zw_iald rfl
theorem s133_129 {ls : List Value}  : ZW zG d 133 129 ls (st) z Q = ZW zG d 133 130 ls ((.int (nI 1)) :: st) z Q := zw_push rfl
theorem s133_130 {ls : List Value} {a b : Int32} : ZW zG d 133 130 ls (.int b :: .int a :: st) z Q = ZW zG d 133 131 ls (.int (a + b) :: st) z Q := zw_iadd rfl
theorem s133_131 {ls : List Value} {a b : Int32} {r : Nat} : ZW zG d 133 131 ls (.int b :: .int a :: .ref r :: st) z Q = ((zcls z r = 50 ∧ zin a (zlen z r) = true) ∧ ZW zG d 133 132 ls (st) (sia z r (zx a) (znar 50 b)) Q) := zw_iast rfl
theorem s133_132 {ls : List Value}  : ZW zG d 133 132 ls ([]) z Q = Q (.inl none) z := zw_ret rfl
/-- X12_readSum (I)V -/
theorem e134 {r0 : Nat} {v0 : Int32} : ZC zG d 134 [.ref r0, .int v0] z Q = ZW zG d 134 0 [.ref r0, .int v0, zdum] [] z Q := rfl
theorem s134_0 {x0 x1 x2 : Value} : ZW zG d 134 0 [x0, x1, x2] st z Q = (zir x0 = true ∧ ZW zG d 134 1 [x0, x1, x2] (x0 :: st) z Q) := zw_cond (f := z_aload 0 1) rfl rfl
theorem s134_1 {x0 x2 : Value} {a : Int32} : ZW zG d 134 1 [x0, .int a, x2] st z Q = ZW zG d 134 2 [x0, .int a, x2] (.int a :: st) z Q := zw_next (f := z_iload 1 2) rfl rfl
theorem s134_2 {ls : List Value} {w0 : Int32} {r : Nat} : ZW zG (d + 1) 134 2 ls (.int w0 :: .ref r :: st) z Q = (zcls z r = 12 ∧ zcs st = true ∧ ZC zG d 135 [.ref r, .int w0] z (zk zG (d + 1) 134 (none) 5 ls st Q)) := zc_V1 rfl (Nat.le_of_ble_eq_true rfl)
theorem s134_5 {x0 x1 x2 : Value} : ZW zG d 134 5 [x0, x1, x2] st z Q = (zir x0 = true ∧ ZW zG d 134 6 [x0, x1, x2] (x0 :: st) z Q) := zw_cond (f := z_aload 0 6) rfl rfl
theorem s134_6 {ls : List Value}  : ZW zG d 134 6 ls (st) z Q = ZW zG d 134 8 ls ((.ref 23) :: st) z Q := zw_push rfl
theorem s134_8 {ls : List Value} {w0 : Nat} {r : Nat} : ZW zG (d + 1) 134 8 ls (.ref w0 :: .ref r :: st) z Q = (zcls z r = 12 ∧ zcs st = true ∧ ZC zG d 125 [.ref r, .ref w0] z (zk zG (d + 1) 134 (none) 11 ls st Q)) := zc_V1 rfl (Nat.le_of_ble_eq_true rfl)
theorem s134_11 {ls : List Value} {a : Int32} : ZW zG d 134 11 ls (.int a :: st) z Q = if ¬ a = 0 then ZW zG d 134 32 ls st z Q else ZW zG d 134 14 ls st z Q := zw_ifne rfl
theorem s134_14 {x0 x1 x2 : Value} : ZW zG d 134 14 [x0, x1, x2] st z Q = (zir x0 = true ∧ ZW zG d 134 15 [x0, x1, x2] (x0 :: st) z Q) := zw_cond (f := z_aload 0 15) rfl rfl
theorem s134_15 {ls : List Value}  : ZW zG d 134 15 ls (st) z Q = ZW zG d 134 17 ls ((.ref 18) :: st) z Q := zw_push rfl
theorem s134_17 {ls : List Value} {w0 : Nat} {r : Nat} : ZW zG (d + 1) 134 17 ls (.ref w0 :: .ref r :: st) z Q = (zcls z r = 12 ∧ zcs st = true ∧ ZC zG d 125 [.ref r, .ref w0] z (zk zG (d + 1) 134 (none) 20 ls st Q)) := zc_V1 rfl (Nat.le_of_ble_eq_true rfl)
theorem s134_20 {ls : List Value} {a : Int32} : ZW zG d 134 20 ls (.int a :: st) z Q = if ¬ a = 0 then ZW zG d 134 32 ls st z Q else ZW zG d 134 23 ls st z Q := zw_ifne rfl
theorem s134_23 {x0 x1 x2 : Value} : ZW zG d 134 23 [x0, x1, x2] st z Q = (zir x0 = true ∧ ZW zG d 134 24 [x0, x1, x2] (x0 :: st) z Q) := zw_cond (f := z_aload 0 24) rfl rfl
theorem s134_24 {ls : List Value}  : ZW zG d 134 24 ls (st) z Q = ZW zG d 134 26 ls ((.ref 31) :: st) z Q := zw_push rfl
theorem s134_26 {ls : List Value} {w0 : Nat} {r : Nat} : ZW zG (d + 1) 134 26 ls (.ref w0 :: .ref r :: st) z Q = (zcls z r = 12 ∧ zcs st = true ∧ ZC zG d 125 [.ref r, .ref w0] z (zk zG (d + 1) 134 (none) 29 ls st Q)) := zc_V1 rfl (Nat.le_of_ble_eq_true rfl)
theorem s134_29 {ls : List Value} {a : Int32} : ZW zG d 134 29 ls (.int a :: st) z Q = if a = 0 then ZW zG d 134 72 ls st z Q else ZW zG d 134 32 ls st z Q := zw_ifeq rfl
theorem s134_32 {x0 x1 x2 : Value} : ZW zG d 134 32 [x0, x1, x2] st z Q = (zir x0 = true ∧ ZW zG d 134 33 [x0, x1, x2] (x0 :: st) z Q) := zw_cond (f := z_aload 0 33) rfl rfl
theorem s134_33 {ls : List Value}  : ZW zG d 134 33 ls (st) z Q = ZW zG d 134 35 ls ((.ref 23) :: st) z Q := zw_push rfl
theorem s134_35 {ls : List Value} {w0 : Nat} {r : Nat} : ZW zG (d + 1) 134 35 ls (.ref w0 :: .ref r :: st) z Q = (zcls z r = 12 ∧ zcs st = true ∧ ZC zG d 125 [.ref r, .ref w0] z (zk zG (d + 1) 134 (none) 38 ls st Q)) := zc_V1 rfl (Nat.le_of_ble_eq_true rfl)
theorem s134_38 {ls : List Value} {a : Int32} : ZW zG d 134 38 ls (.int a :: st) z Q = if a = 0 then ZW zG d 134 45 ls st z Q else ZW zG d 134 41 ls st z Q := zw_ifeq rfl
theorem s134_41 {ls : List Value}  : ZW zG d 134 41 ls (st) z Q = ZW zG d 134 42 ls ((.int (nI 1)) :: st) z Q := zw_push rfl
theorem s134_42 {ls : List Value}  : ZW zG d 134 42 ls (st) z Q = ZW zG d 134 59 ls st z Q := zw_goto rfl
theorem s134_45 {x0 x1 x2 : Value} : ZW zG d 134 45 [x0, x1, x2] st z Q = (zir x0 = true ∧ ZW zG d 134 46 [x0, x1, x2] (x0 :: st) z Q) := zw_cond (f := z_aload 0 46) rfl rfl
theorem s134_46 {ls : List Value}  : ZW zG d 134 46 ls (st) z Q = ZW zG d 134 48 ls ((.ref 18) :: st) z Q := zw_push rfl
theorem s134_48 {ls : List Value} {w0 : Nat} {r : Nat} : ZW zG (d + 1) 134 48 ls (.ref w0 :: .ref r :: st) z Q = (zcls z r = 12 ∧ zcs st = true ∧ ZC zG d 125 [.ref r, .ref w0] z (zk zG (d + 1) 134 (none) 51 ls st Q)) := zc_V1 rfl (Nat.le_of_ble_eq_true rfl)
theorem s134_51 {ls : List Value} {a : Int32} : ZW zG d 134 51 ls (.int a :: st) z Q = if a = 0 then ZW zG d 134 58 ls st z Q else ZW zG d 134 54 ls st z Q := zw_ifeq rfl
theorem s134_54 {ls : List Value}  : ZW zG d 134 54 ls (st) z Q = ZW zG d 134 55 ls ((.int (nI 2)) :: st) z Q := zw_push rfl
theorem s134_55 {ls : List Value}  : ZW zG d 134 55 ls (st) z Q = ZW zG d 134 59 ls st z Q := zw_goto rfl
theorem s134_58 {ls : List Value}  : ZW zG d 134 58 ls (st) z Q = ZW zG d 134 59 ls ((.int (nI 3)) :: st) z Q := zw_push rfl
theorem s134_59 {x0 x1 x2 : Value} {a : Int32} : ZW zG d 134 59 [x0, x1, x2] (.int a :: st) z Q = ZW zG d 134 60 [x0, zclr x1, .int a] st z Q := zw_next (f := z_istore 2 60) rfl rfl
theorem s134_60 {x0 x1 x2 : Value} : ZW zG d 134 60 [x0, x1, x2] st z Q = (zir x0 = true ∧ ZW zG d 134 61 [x0, x1, x2] (x0 :: st) z Q) := zw_cond (f := z_aload 0 61) rfl rfl
theorem s134_61 {ls : List Value}  {r : Nat} : ZW zG (d + 1) 134 61 ls (.ref r :: st) z Q = (zcls z r = 12 ∧ zcs st = true ∧ ZC zG d 120 [.ref r] z (zk zG (d + 1) 134 (none) 64 ls st Q)) := zc_V0 rfl (Nat.le_of_ble_eq_true rfl)
theorem s134_64 {x0 x1 x2 : Value} : ZW zG d 134 64 [x0, x1, x2] st z Q = (zir x0 = true ∧ ZW zG d 134 65 [x0, x1, x2] (x0 :: st) z Q) := zw_cond (f := z_aload 0 65) rfl rfl
theorem s134_65 {x0 x1 : Value} {a : Int32} : ZW zG d 134 65 [x0, x1, .int a] st z Q = ZW zG d 134 66 [x0, x1, .int a] (.int a :: st) z Q := zw_next (f := z_iload 2 66) rfl rfl
theorem s134_66 {ls : List Value} {w0 : Int32} {r : Nat} : ZW zG (d + 1) 134 66 ls (.int w0 :: .ref r :: st) z Q = (zcls z r = 12 ∧ zcs st = true ∧ ZC zG d 135 [.ref r, .int w0] z (zk zG (d + 1) 134 (none) 69 ls st Q)) := zc_V1 rfl (Nat.le_of_ble_eq_true rfl)
theorem s134_69 {ls : List Value}  : ZW zG d 134 69 ls (st) z Q = ZW zG d 134 5 ls st z Q := zw_goto rfl
theorem s134_72 {ls : List Value}  : ZW zG d 134 72 ls ([]) z Q = Q (.inl none) z := zw_ret rfl
/-- X12_readPart (I)V -/
theorem e135 {r0 : Nat} {v0 : Int32} : ZC zG d 135 [.ref r0, .int v0] z Q = ZW zG d 135 0 [.ref r0, .int v0, zdum, zdum, zdum] [] z Q := rfl
theorem s135_0 {x0 x1 x2 x3 x4 : Value} : ZW zG d 135 0 [x0, x1, x2, x3, x4] st z Q = (zir x0 = true ∧ ZW zG d 135 1 [x0, x1, x2, x3, x4] (x0 :: st) z Q) := zw_cond (f := z_aload 0 1) rfl rfl
theorem s135_1 {ls : List Value}  : ZW zG d 135 1 ls (st) z Q = ZW zG d 135 3 ls ((.ref 17) :: st) z Q := zw_push rfl
theorem s135_3 {ls : List Value} {w0 : Nat} {r : Nat} : ZW zG (d + 1) 135 3 ls (.ref w0 :: .ref r :: st) z Q = (zcls z r = 12 ∧ zcs st = true ∧ ZC zG d 125 [.ref r, .ref w0] z (zk zG (d + 1) 135 (none) 6 ls st Q)) := zc_V1 rfl (Nat.le_of_ble_eq_true rfl)
theorem s135_6 {ls : List Value} {a : Int32} : ZW zG d 135 6 ls (.int a :: st) z Q = if a = 0 then ZW zG d 135 13 ls st z Q else ZW zG d 135 9 ls st z Q := zw_ifeq rfl
theorem s135_9 {ls : List Value}  : ZW zG d 135 9 ls (st) z Q = ZW zG d 135 10 ls ((.int (nI 0)) :: st) z Q := zw_push rfl
theorem s135_10 {ls : List Value}  : ZW zG d 135 10 ls (st) z Q = ZW zG d 135 66 ls st z Q := zw_goto rfl
theorem s135_13 {x0 x1 x2 x3 x4 : Value} : ZW zG d 135 13 [x0, x1, x2, x3, x4] st z Q = (zir x0 = true ∧ ZW zG d 135 14 [x0, x1, x2, x3, x4] (x0 :: st) z Q) := zw_cond (f := z_aload 0 14) rfl rfl
theorem s135_14 {ls : List Value}  : ZW zG d 135 14 ls (st) z Q = ZW zG d 135 16 ls ((.ref 29) :: st) z Q := zw_push rfl
theorem s135_16 {ls : List Value} {w0 : Nat} {r : Nat} : ZW zG (d + 1) 135 16 ls (.ref w0 :: .ref r :: st) z Q = (zcls z r = 12 ∧ zcs st = true ∧ ZC zG d 125 [.ref r, .ref w0] z (zk zG (d + 1) 135 (none) 19 ls st Q)) := zc_V1 rfl (Nat.le_of_ble_eq_true rfl)
theorem s135_19 {ls : List Value} {a : Int32} : ZW zG d 135 19 ls (.int a :: st) z Q = if a = 0 then ZW zG d 135 26 ls st z Q else ZW zG d 135 22 ls st z Q := zw_ifeq rfl
theorem s135_22 {ls : List Value}  : ZW zG d 135 22 ls (st) z Q = ZW zG d 135 23 ls ((.int (nI 1)) :: st) z Q := zw_push rfl
theorem s135_23 {ls : List Value}  : ZW zG d 135 23 ls (st) z Q = ZW zG d 135 66 ls st z Q := zw_goto rfl
theorem s135_26 {x0 x1 x2 x3 x4 : Value} : ZW zG d 135 26 [x0, x1, x2, x3, x4] st z Q = (zir x0 = true ∧ ZW zG d 135 27 [x0, x1, x2, x3, x4] (x0 :: st) z Q) := zw_cond (f := z_aload 0 27) rfl rfl
theorem s135_27 {ls : List Value}  : ZW zG d 135 27 ls (st) z Q = ZW zG d 135 29 ls ((.ref 7) :: st) z Q := zw_push rfl
theorem s135_29 {ls : List Value} {w0 : Nat} {r : Nat} : ZW zG (d + 1) 135 29 ls (.ref w0 :: .ref r :: st) z Q = (zcls z r = 12 ∧ zcs st = true ∧ ZC zG d 125 [.ref r, .ref w0] z (zk zG (d + 1) 135 (none) 32 ls st Q)) := zc_V1 rfl (Nat.le_of_ble_eq_true rfl)
theorem s135_32 {ls : List Value} {a : Int32} : ZW zG d 135 32 ls (.int a :: st) z Q = if a = 0 then ZW zG d 135 39 ls st z Q else ZW zG d 135 35 ls st z Q := zw_ifeq rfl
theorem s135_35 {ls : List Value}  : ZW zG d 135 35 ls (st) z Q = ZW zG d 135 36 ls ((.int (nI 2)) :: st) z Q := zw_push rfl
theorem s135_36 {ls : List Value}  : ZW zG d 135 36 ls (st) z Q = ZW zG d 135 66 ls st z Q := zw_goto rfl
theorem s135_39 {x0 x1 x2 x3 x4 : Value} : ZW zG d 135 39 [x0, x1, x2, x3, x4] st z Q = (zir x0 = true ∧ ZW zG d 135 40 [x0, x1, x2, x3, x4] (x0 :: st) z Q) := zw_cond (f := z_aload 0 40) rfl rfl
theorem s135_40 {ls : List Value}  : ZW zG d 135 40 ls (st) z Q = ZW zG d 135 42 ls ((.ref 6) :: st) z Q := zw_push rfl
theorem s135_42 {ls : List Value} {w0 : Nat} {r : Nat} : ZW zG (d + 1) 135 42 ls (.ref w0 :: .ref r :: st) z Q = (zcls z r = 12 ∧ zcs st = true ∧ ZC zG d 125 [.ref r, .ref w0] z (zk zG (d + 1) 135 (none) 45 ls st Q)) := zc_V1 rfl (Nat.le_of_ble_eq_true rfl)
theorem s135_45 {ls : List Value} {a : Int32} : ZW zG d 135 45 ls (.int a :: st) z Q = if a = 0 then ZW zG d 135 52 ls st z Q else ZW zG d 135 48 ls st z Q := zw_ifeq rfl
theorem s135_48 {ls : List Value}  : ZW zG d 135 48 ls (st) z Q = ZW zG d 135 49 ls ((.int (nI 3)) :: st) z Q := zw_push rfl
theorem s135_49 {ls : List Value}  : ZW zG d 135 49 ls (st) z Q = ZW zG d 135 66 ls st z Q := zw_goto rfl
theorem s135_52 {x0 x1 x2 x3 x4 : Value} : ZW zG d 135 52 [x0, x1, x2, x3, x4] st z Q = (zir x0 = true ∧ ZW zG d 135 53 [x0, x1, x2, x3, x4] (x0 :: st) z Q) := zw_cond (f := z_aload 0 53) rfl rfl
theorem s135_53 {ls : List Value}  : ZW zG d 135 53 ls (st) z Q = ZW zG d 135 55 ls ((.ref 15) :: st) z Q := zw_push rfl
theorem s135_55 {ls : List Value} {w0 : Nat} {r : Nat} : ZW zG (d + 1) 135 55 ls (.ref w0 :: .ref r :: st) z Q = (zcls z r = 12 ∧ zcs st = true ∧ ZC zG d 125 [.ref r, .ref w0] z (zk zG (d + 1) 135 (none) 58 ls st Q)) := zc_V1 rfl (Nat.le_of_ble_eq_true rfl)
theorem s135_58 {ls : List Value} {a : Int32} : ZW zG d 135 58 ls (.int a :: st) z Q = if a = 0 then ZW zG d 135 65 ls st z Q else ZW zG d 135 61 ls st z Q := zw_ifeq rfl
theorem s135_61 {ls : List Value}  : ZW zG d 135 61 ls (st) z Q = ZW zG d 135 62 ls ((.int (nI 4)) :: st) z Q := zw_push rfl
theorem s135_62 {ls : List Value}  : ZW zG d 135 62 ls (st) z Q = ZW zG d 135 66 ls st z Q := zw_goto rfl
theorem s135_65 {ls : List Value}  : ZW zG d 135 65 ls (st) z Q = ZW zG d 135 66 ls ((.int (nI 5)) :: st) z Q := zw_push rfl
theorem s135_66 {x0 x1 x2 x3 x4 : Value} {a : Int32} : ZW zG d 135 66 [x0, x1, x2, x3, x4] (.int a :: st) z Q = ZW zG d 135 67 [x0, zclr x1, .int a, x3, x4] st z Q := zw_next (f := z_istore 2 67) rfl rfl
theorem s135_67 {x0 x1 x2 x3 x4 : Value} : ZW zG d 135 67 [x0, x1, x2, x3, x4] st z Q = (zir x0 = true ∧ ZW zG d 135 68 [x0, x1, x2, x3, x4] (x0 :: st) z Q) := zw_cond (f := z_aload 0 68) rfl rfl
theorem s135_68 {ls : List Value}  {r : Nat} : ZW zG (d + 1) 135 68 ls (.ref r :: st) z Q = (zcls z r = 12 ∧ zcs st = true ∧ ZC zG d 122 [.ref r] z (zk zG (d + 1) 135 (none) 71 ls st Q)) := zc_V0 rfl (Nat.le_of_ble_eq_true rfl)
theorem s135_71 {ls : List Value} {a : Int32} : ZW zG d 135 71 ls (.int a :: st) z Q = if a = 0 then ZW zG d 135 83 ls st z Q else ZW zG d 135 74 ls st z Q := zw_ifeq rfl
theorem s135_74 {x0 x1 x3 x4 : Value} {a : Int32} : ZW zG d 135 74 [x0, x1, .int a, x3, x4] st z Q = ZW zG d 135 75 [x0, x1, .int a, x3, x4] (.int a :: st) z Q := zw_next (f := z_iload 2 75) rfl rfl
theorem s135_75 {ls : List Value}  : ZW zG d 135 75 ls (st) z Q = ZW zG d 135 76 ls ((.int (nI 5)) :: st) z Q := zw_push rfl
theorem s135_76 {ls : List Value} {a b : Int32} : ZW zG d 135 76 ls (.int b :: .int a :: st) z Q = if a = b then ZW zG d 135 83 ls st z Q else ZW zG d 135 79 ls st z Q := zw_iceq rfl
theorem s135_79 {x0 x1 x2 x3 x4 : Value} : ZW zG d 135 79 [x0, x1, x2, x3, x4] st z Q = (zir x0 = true ∧ ZW zG d 135 80 [x0, x1, x2, x3, x4] (x0 :: st) z Q) := zw_cond (f := z_aload 0 80) rfl rfl
theorem s135_80 {ls : List Value}  {r : Nat} : ZW zG (d + 1) 135 80 ls (.ref r :: st) z Q = (zcls z r = 12 ∧ zcs st = true ∧ ZC zG d 120 [.ref r] z (zk zG (d + 1) 135 (none) 83 ls st Q)) := zc_V0 rfl (Nat.le_of_ble_eq_true rfl)
theorem s135_83 {x0 x1 x3 x4 : Value} {a : Int32} : ZW zG d 135 83 [x0, x1, .int a, x3, x4] st z Q = ZW zG d 135 84 [x0, x1, .int a, x3, x4] (.int a :: st) z Q := zw_next (f := z_iload 2 84) rfl rfl
theorem s135_84 {ls : List Value}  : ZW zG d 135 84 ls (st) z Q = ZW zG d 135 85 ls ((.int (nI 5)) :: st) z Q := zw_push rfl
theorem s135_85 {ls : List Value} {a b : Int32} : ZW zG d 135 85 ls (.int b :: .int a :: st) z Q = if ¬ a = b then ZW zG d 135 99 ls st z Q else ZW zG d 135 88 ls st z Q := zw_icne rfl
theorem s135_88 {x0 x1 x2 x3 x4 : Value} : ZW zG d 135 88 [x0, x1, x2, x3, x4] st z Q = (zir x0 = true ∧ ZW zG d 135 89 [x0, x1, x2, x3, x4] (x0 :: st) z Q) := zw_cond (f := z_aload 0 89) rfl rfl
theorem s135_89 {ls : List Value}  : ZW zG d 135 89 ls (st) z Q = ZW zG d 135 90 ls ((.int (nI 0)) :: st) z Q := zw_push rfl
theorem s135_90 {ls : List Value}  : ZW zG d 135 90 ls (st) z Q = ZW zG d 135 93 ls ((.int (nI 999)) :: st) z Q := zw_push rfl
theorem s135_93 {ls : List Value} {w0 : Int32} {w1 : Int32} {r : Nat} : ZW zG (d + 1) 135 93 ls (.int w1 :: .int w0 :: .ref r :: st) z Q = (zcls z r = 12 ∧ zcs st = true ∧ ZC zG d 132 [.ref r, .int w0, .int w1] z (zk zG (d + 1) 135 (none) 96 ls st Q)) := zc_V2 rfl (Nat.le_of_ble_eq_true rfl)
theorem s135_96 {ls : List Value}  : ZW zG d 135 96 ls (st) z Q = ZW zG d 135 100 ls st z Q := zw_goto rfl
theorem s135_99 {ls : List Value}  : ZW zG d 135 99 ls (st) z Q = ZW zG d 135 100 ls ((.int (nI 0)) :: st) z Q := zw_push rfl
theorem s135_100 {x0 x1 x2 x3 x4 : Value} {a : Int32} : ZW zG d 135 100 [x0, x1, x2, x3, x4] (.int a :: st) z Q = ZW zG d 135 101 [x0, x1, zclr x2, .int a, x4] st z Q := zw_next (f := z_istore 3 101) rfl rfl
theorem s135_101 {x0 x1 x2 x3 x4 : Value} : ZW zG d 135 101 [x0, x1, x2, x3, x4] st z Q = (zir x0 = true ∧ ZW zG d 135 102 [x0, x1, x2, x3, x4] (x0 :: st) z Q) := zw_cond (f := z_aload 0 102) rfl rfl
theorem s135_102 {ls : List Value}  {r : Nat} : ZW zG (d + 1) 135 102 ls (.ref r :: st) z Q = (zcls z r = 12 ∧ zcs st = true ∧ ZC zG d 122 [.ref r] z (zk zG (d + 1) 135 (none) 105 ls st Q)) := zc_V0 rfl (Nat.le_of_ble_eq_true rfl)
theorem s135_105 {ls : List Value} {a : Int32} : ZW zG d 135 105 ls (.int a :: st) z Q = if ¬ a = 0 then ZW zG d 135 109 ls st z Q else ZW zG d 135 108 ls st z Q := zw_ifne rfl
theorem s135_108 {ls : List Value}  : ZW zG d 135 108 ls ([]) z Q = Q (.inl none) z := zw_ret rfl
theorem s135_109 {ls : List Value}  : ZW zG d 135 109 ls (st) z Q = ZW zG d 135 112 ls ((.int (nI 814)) :: st) z Q := zw_push rfl
theorem s135_112 {ls : List Value}  : ZW zG d 135 112 ls (st) z Q = ZW zG d 135 113 ls ((.int (nI 3)) :: st) z Q := zw_push rfl
theorem s135_113 {x0 x1 x2 x3 x4 : Value} : ZW zG d 135 113 [x0, x1, x2, x3, x4] st z Q = (zir x0 = true ∧ ZW zG d 135 114 [x0, x1, x2, x3, x4] (x0 :: st) z Q) := zw_cond (f := z_aload 0 114) rfl rfl
theorem s135_114 {ls : List Value} {r : Nat} : ZW zG d 135 114 ls (.ref r :: st) z Q = ((zcls z r = 12 ∧ zir (zfr z r 14) = true) ∧ ZW zG d 135 117 ls (zfr z r 14 :: st) (z) Q) := zw_getR rfl
theorem s135_117 {ls : List Value}  : ZW zG d 135 117 ls (st) z Q = ZW zG d 135 118 ls ((.int (nI 3)) :: st) z Q := zw_push rfl
theorem s135_118 {ls : List Value} {a : Int32} {r : Nat} : ZW zG d 135 118 ls (.int a :: .ref r :: st) z Q = ((zcls z r = 50 ∧ zin a (zlen z r) = true) ∧ ZW zG d 135 119 ls (.int (zia z r (zx a)) :: st) (z) Q) := zw_iald rfl
theorem s135_119 {ls : List Value} {a b : Int32} : ZW zG d 135 119 ls (.int b :: .int a :: st) z Q = ZW zG d 135 120 ls (.int (a * b) :: st) z Q := zw_imul rfl
theorem s135_120 {ls : List Value} {a b : Int32} : ZW zG d 135 120 ls (.int b :: .int a :: st) z Q = ZW zG d 135 121 ls (.int (a + b) :: st) z Q := zw_iadd rfl
theorem s135_121 {x0 x1 x2 x3 x4 : Value} {a : Int32} : ZW zG d 135 121 [x0, x1, x2, x3, x4] (.int a :: st) z Q = ZW zG d 135 123 [x0, x1, x2, zclr x3, .int a] st z Q := zw_next (f := z_istore 4 123) rfl rfl
theorem s135_123 {x0 x1 x2 x3 x4 : Value} : ZW zG d 135 123 [x0, x1, x2, x3, x4] st z Q = (zir x0 = true ∧ ZW zG d 135 124 [x0, x1, x2, x3, x4] (x0 :: st) z Q) := zw_cond (f := z_aload 0 124) rfl rfl
theorem s135_124 {ls : List Value} {r : Nat} : ZW zG d 135 124 ls (.ref r :: st) z Q = ((zcls z r = 12 ∧ zir (zfr z r 14) = true) ∧ ZW zG d 135 127 ls (zfr z r 14 :: st) (z) Q) := zw_getR rfl
theorem s135_127 {x0 x1 x2 x3 : Value} {a : Int32} : ZW zG d 135 127 [x0, x1, x2, x3, .int a] st z Q = ZW zG d 135 129 [x0, x1, x2, x3, .int a] (.int a :: st) z Q := zw_next (f := z_iload 4 129) rfl rfl
theorem s135_129 {x0 x2 x3 x4 : Value} {a : Int32} : ZW zG d 135 129 [x0, .int a, x2, x3, x4] st z Q = ZW zG d 135 130 [x0, .int a, x2, x3, x4] (.int a :: st) z Q := zw_next (f := z_iload 1 130) rfl rfl
theorem s135_130 {ls : List Value} {a b : Int32} {r : Nat} : ZW zG d 135 130 ls (.int b :: .int a :: .ref r :: st) z Q = ((zcls z r = 50 ∧ zin a (zlen z r) = true) ∧ ZW zG d 135 131 ls (st) (sia z r (zx a) (znar 50 b)) Q) := zw_iast rfl
theorem s135_131 {x0 x1 x2 x3 x4 : Value} : ZW zG d 135 131 [x0, x1, x2, x3, x4] st z Q = (zir x0 = true ∧ ZW zG d 135 132 [x0, x1, x2, x3, x4] (x0 :: st) z Q) := zw_cond (f := z_aload 0 132) rfl rfl
theorem s135_132 {ls : List Value} {r : Nat} : ZW zG d 135 132 ls (.ref r :: st) z Q = ((zcls z r = 12 ∧ zir (zfr z r 14) = true) ∧ ZW zG d 135 135 ls (zfr z r 14 :: st) (z) Q) := zw_getR rfl
theorem s135_135 {x0 x1 x2 x3 : Value} {a : Int32} : ZW zG d 135 135 [x0, x1, x2, x3, .int a] st z Q = ZW zG d 135 137 [x0, x1, x2, x3, .int a] (.int a :: st) z Q := zw_next (f := z_iload 4 137) rfl rfl
theorem s135_137 {ls : List Value}  : ZW zG d 135 137 ls (st) z Q = ZW zG d 135 138 ls ((.int (nI 1)) :: st) z Q := zw_push rfl
theorem s135_138 {ls : List Value} {a b : Int32} : ZW zG d 135 138 ls (.int b :: .int a :: st) z Q = ZW zG d 135 139 ls (.int (a + b) :: st) z Q := zw_iadd rfl
theorem s135_139 {x0 x1 x3 x4 : Value} {a : Int32} : ZW zG d 135 139 [x0, x1, .int a, x3, x4] st z Q = ZW zG d 135 140 [x0, x1, .int a, x3, x4] (.int a :: st) z Q := zw_next (f := z_iload 2 140) rfl rfl
theorem s135_140 {ls : List Value} {a b : Int32} {r : Nat} : ZW zG d 135 140 ls (.int b :: .int a :: .ref r :: st) z Q = ((zcls z r = 50 ∧ zin a (zlen z r) = true) ∧ ZW zG d 135 141 ls (st) (sia z r (zx a) (znar 50 b)) Q) := zw_iast rfl
theorem s135_141 {x0 x1 x2 x3 x4 : Value} : ZW zG d 135 141 [x0, x1, x2, x3, x4] st z Q = (zir x0 = true ∧ ZW zG d 135 142 [x0, x1, x2, x3, x4] (x0 :: st) z Q) := zw_cond (f := z_aload 0 142) rfl rfl
theorem s135_142 {ls : List Value} {r : Nat} : ZW zG d 135 142 ls (.ref r :: st) z Q = ((zcls z r = 12 ∧ zir (zfr z r 14) = true) ∧ ZW zG d 135 145 ls (zfr z r 14 :: st) (z) Q) := zw_getR rfl
theorem s135_145 {x0 x1 x2 x3 : Value} {a : Int32} : ZW zG d 135 145 [x0, x1, x2, x3, .int a] st z Q = ZW zG d 135 147 [x0, x1, x2, x3, .int a] (.int a :: st) z Q := zw_next (f := z_iload 4 147) rfl rfl
theorem s135_147 {ls : List Value}  : ZW zG d 135 147 ls (st) z Q = ZW zG d 135 148 ls ((.int (nI 2)) :: st) z Q := zw_push rfl
theorem s135_148 {ls : List Value} {a b : Int32} : ZW zG d 135 148 ls (.int b :: .int a :: st) z Q = ZW zG d 135 149 ls (.int (a + b) :: st) z Q := zw_iadd rfl
theorem s135_149 {x0 x1 x2 x4 : Value} {a : Int32} : ZW zG d 135 149 [x0, x1, x2, .int a, x4] st z Q = ZW zG d 135 150 [x0, x1, x2, .int a, x4] (.int a :: st) z Q := zw_next (f := z_iload 3 150) rfl rfl
theorem s135_150 {ls : List Value} {a b : Int32} {r : Nat} : ZW zG d 135 150 ls (.int b :: .int a :: .ref r :: st) z Q = ((zcls z r = 50 ∧ zin a (zlen z r) = true) ∧ ZW zG d 135 151 ls (st) (sia z r (zx a) (znar 50 b)) Q) := zw_iast rfl
theorem s135_151 {x0 x1 x2 x3 x4 : Value} : ZW zG d 135 151 [x0, x1, x2, x3, x4] st z Q = (zir x0 = true ∧ ZW zG d 135 152 [x0, x1, x2, x3, x4] (x0 :: st) z Q) := zw_cond (f := z_aload 0 152) rfl rfl
theorem s135_152 {ls : List Value} {r : Nat} : ZW zG d 135 152 ls (.ref r :: st) z Q = ((zcls z r = 12 ∧ zir (zfr z r 14) = true) ∧ ZW zG d 135 155 ls (zfr z r 14 :: st) (z) Q) := zw_getR rfl
theorem s135_155 {ls : List Value}  : ZW zG d 135 155 ls (st) z Q = ZW zG d 135 156 ls ((.int (nI 3)) :: st) z Q := zw_push rfl
theorem s135_156 {ls : List Value} {a : Int32} {r : Nat} : ZW zG d 135 156 ls (.int a :: .ref r :: st) z Q = ZW zG d 135 157 ls (.int a :: .ref r :: .int a :: .ref r :: st) z Q := zw_dup2 rfl
theorem s135_157 {ls : List Value} {a : Int32} {r : Nat} : ZW zG d 135 157 ls (.int a :: .ref r :: st) z Q = ((zcls z r = 50 ∧ zin a (zlen z r) = true) ∧ ZW zG d 135 158 ls (.int (zia z r (zx a)) :: st) (z) Q) := zw_iald rfl
theorem s135_158 {ls : List Value}  : ZW zG d 135 158 ls (st) z Q = ZW zG d 135 159 ls ((.int (nI 1)) :: st) z Q := zw_push rfl
theorem s135_159 {ls : List Value} {a b : Int32} : ZW zG d 135 159 ls (.int b :: .int a :: st) z Q = ZW zG d 135 160 ls (.int (a + b) :: st) z Q := zw_iadd rfl
theorem s135_160 {ls : List Value} {a b : Int32} {r : Nat} : ZW zG d 135 160 ls (.int b :: .int a :: .ref r :: st) z Q = ((zcls z r = 50 ∧ zin a (zlen z r) = true) ∧ ZW zG d 135 161 ls (st) (sia z r (zx a) (znar 50 b)) Q) := zw_iast rfl
theorem s135_161 {ls : List Value}  : ZW zG d 135 161 ls ([]) z Q = Q (.inl none) z := zw_ret rfl
/-- X12_readHouse ()V -/
theorem e136 {r0 : Nat} : ZC zG d 136 [.ref r0] z Q = ZW zG d 136 0 [.ref r0, zdum] [] z Q := rfl
theorem s136_0 {ls : List Value}  : ZW zG d 136 0 ls (st) z Q = ZW zG d 136 2 ls ((.int (nI 10)) :: st) z Q := zw_push rfl
theorem s136_2 {ls : List Value}  : ZW zG d 136 2 ls (st) z Q = ZW zG d 136 4 ls ((.int (nI 9)) :: st) z Q := zw_push rfl
theorem s136_4 {x0 x1 : Value} : ZW zG d 136 4 [x0, x1] st z Q = (zir x0 = true ∧ ZW zG d 136 5 [x0, x1] (x0 :: st) z Q) := zw_cond (f := z_aload 0 5) rfl rfl
theorem s136_5 {ls : List Value} {r : Nat} : ZW zG d 136 5 ls (.ref r :: st) z Q = ((zcls z r = 12 ∧ zir (zfr z r 14) = true) ∧ ZW zG d 136 8 ls (zfr z r 14 :: st) (z) Q) := zw_getR rfl
theorem s136_8 {ls : List Value}  : ZW zG d 136 8 ls (st) z Q = ZW zG d 136 9 ls ((.int (nI 0)) :: st) z Q := zw_push rfl
theorem s136_9 {ls : List Value} {a : Int32} {r : Nat} : ZW zG d 136 9 ls (.int a :: .ref r :: st) z Q = ((zcls z r = 50 ∧ zin a (zlen z r) = true) ∧ ZW zG d 136 10 ls (.int (zia z r (zx a)) :: st) (z) Q) := zw_iald rfl
theorem s136_10 {ls : List Value} {a b : Int32} : ZW zG d 136 10 ls (.int b :: .int a :: st) z Q = ZW zG d 136 11 ls (.int (a * b) :: st) z Q := zw_imul rfl
theorem s136_11 {ls : List Value} {a b : Int32} : ZW zG d 136 11 ls (.int b :: .int a :: st) z Q = ZW zG d 136 12 ls (.int (a + b) :: st) z Q := zw_iadd rfl
theorem s136_12 {x0 x1 : Value} {a : Int32} : ZW zG d 136 12 [x0, x1] (.int a :: st) z Q = ZW zG d 136 13 [zclr x0, .int a] st z Q := zw_next (f := z_istore 1 13) rfl rfl
theorem s136_13 {x0 x1 : Value} : ZW zG d 136 13 [x0, x1] st z Q = (zir x0 = true ∧ ZW zG d 136 14 [x0, x1] (x0 :: st) z Q) := zw_cond (f := z_aload 0 14) rfl rfl
theorem s136_14 {ls : List Value} {r : Nat} : ZW zG d 136 14 ls (.ref r :: st) z Q = ((zcls z r = 12 ∧ zir (zfr z r 14) = true) ∧ ZW zG d 136 17 ls (zfr z r 14 :: st) (z) Q) := zw_getR rfl
theorem s136_17 {x0 : Value} {a : Int32} : ZW zG d 136 17 [x0, .int a] st z Q = ZW zG d 136 18 [x0, .int a] (.int a :: st) z Q := zw_next (f := z_iload 1 18) rfl rfl
theorem s136_18 {ls : List Value}  : ZW zG d 136 18 ls (st) z Q = ZW zG d 136 19 ls ((.int (nI 0)) :: st) z Q := zw_push rfl
theorem s136_19 {ls : List Value} {a b : Int32} : ZW zG d 136 19 ls (.int b :: .int a :: st) z Q = ZW zG d 136 20 ls (.int (a + b) :: st) z Q := zw_iadd rfl
theorem s136_20 {x0 x1 : Value} : ZW zG d 136 20 [x0, x1] st z Q = (zir x0 = true ∧ ZW zG d 136 21 [x0, x1] (x0 :: st) z Q) := zw_cond (f := z_aload 0 21) rfl rfl
theorem s136_21 {ls : List Value}  : ZW zG d 136 21 ls (st) z Q = ZW zG d 136 23 ls ((.ref 1) :: st) z Q := zw_push rfl
theorem s136_23 {ls : List Value}  : ZW zG d 136 23 ls (st) z Q = ZW zG d 136 24 ls ((.int (nI 0)) :: st) z Q := zw_push rfl
theorem s136_24 {ls : List Value}  : ZW zG d 136 24 ls (st) z Q = ZW zG d 136 26 ls ((.int (nI 99)) :: st) z Q := zw_push rfl
theorem s136_26 {ls : List Value} {w0 : Nat} {w1 : Int32} {w2 : Int32} {r : Nat} : ZW zG (d + 1) 136 26 ls (.int w2 :: .int w1 :: .ref w0 :: .ref r :: st) z Q = (zcls z r = 12 ∧ zcs st = true ∧ ZC zG d 131 [.ref r, .ref w0, .int w1, .int w2] z (zk zG (d + 1) 136 (none) 29 ls st Q)) := zc_V3 rfl (Nat.le_of_ble_eq_true rfl)
theorem s136_29 {ls : List Value} {a b : Int32} {r : Nat} : ZW zG d 136 29 ls (.int b :: .int a :: .ref r :: st) z Q = ((zcls z r = 50 ∧ zin a (zlen z r) = true) ∧ ZW zG d 136 30 ls (st) (sia z r (zx a) (znar 50 b)) Q) := zw_iast rfl
theorem s136_30 {x0 x1 : Value} : ZW zG d 136 30 [x0, x1] st z Q = (zir x0 = true ∧ ZW zG d 136 31 [x0, x1] (x0 :: st) z Q) := zw_cond (f := z_aload 0 31) rfl rfl
theorem s136_31 {ls : List Value} {r : Nat} : ZW zG d 136 31 ls (.ref r :: st) z Q = ((zcls z r = 12 ∧ zir (zfr z r 14) = true) ∧ ZW zG d 136 34 ls (zfr z r 14 :: st) (z) Q) := zw_getR rfl
theorem s136_34 {x0 : Value} {a : Int32} : ZW zG d 136 34 [x0, .int a] st z Q = ZW zG d 136 35 [x0, .int a] (.int a :: st) z Q := zw_next (f := z_iload 1 35) rfl rfl
theorem s136_35 {ls : List Value}  : ZW zG d 136 35 ls (st) z Q = ZW zG d 136 36 ls ((.int (nI 1)) :: st) z Q := zw_push rfl
theorem s136_36 {ls : List Value} {a b : Int32} : ZW zG d 136 36 ls (.int b :: .int a :: st) z Q = ZW zG d 136 37 ls (.int (a + b) :: st) z Q := zw_iadd rfl
theorem s136_37 {x0 x1 : Value} : ZW zG d 136 37 [x0, x1] st z Q = (zir x0 = true ∧ ZW zG d 136 38 [x0, x1] (x0 :: st) z Q) := zw_cond (f := z_aload 0 38) rfl rfl
theorem s136_38 {ls : List Value}  : ZW zG d 136 38 ls (st) z Q = ZW zG d 136 39 ls ((.int (nI 0)) :: st) z Q := zw_push rfl
theorem s136_39 {ls : List Value}  : ZW zG d 136 39 ls (st) z Q = ZW zG d 136 41 ls ((.int (nI 99)) :: st) z Q := zw_push rfl
theorem s136_41 {ls : List Value} {w0 : Int32} {w1 : Int32} {r : Nat} : ZW zG (d + 1) 136 41 ls (.int w1 :: .int w0 :: .ref r :: st) z Q = (zcls z r = 12 ∧ zcs st = true ∧ ZC zG d 132 [.ref r, .int w0, .int w1] z (zk zG (d + 1) 136 (none) 44 ls st Q)) := zc_V2 rfl (Nat.le_of_ble_eq_true rfl)
theorem s136_44 {ls : List Value} {a b : Int32} {r : Nat} : ZW zG d 136 44 ls (.int b :: .int a :: .ref r :: st) z Q = ((zcls z r = 50 ∧ zin a (zlen z r) = true) ∧ ZW zG d 136 45 ls (st) (sia z r (zx a) (znar 50 b)) Q) := zw_iast rfl
theorem s136_45 {x0 x1 : Value} : ZW zG d 136 45 [x0, x1] st z Q = (zir x0 = true ∧ ZW zG d 136 46 [x0, x1] (x0 :: st) z Q) := zw_cond (f := z_aload 0 46) rfl rfl
theorem s136_46 {ls : List Value} {r : Nat} : ZW zG d 136 46 ls (.ref r :: st) z Q = ((zcls z r = 12 ∧ zir (zfr z r 14) = true) ∧ ZW zG d 136 49 ls (zfr z r 14 :: st) (z) Q) := zw_getR rfl
theorem s136_49 {x0 : Value} {a : Int32} : ZW zG d 136 49 [x0, .int a] st z Q = ZW zG d 136 50 [x0, .int a] (.int a :: st) z Q := zw_next (f := z_iload 1 50) rfl rfl
theorem s136_50 {ls : List Value}  : ZW zG d 136 50 ls (st) z Q = ZW zG d 136 51 ls ((.int (nI 2)) :: st) z Q := zw_push rfl
theorem s136_51 {ls : List Value} {a b : Int32} : ZW zG d 136 51 ls (.int b :: .int a :: st) z Q = ZW zG d 136 52 ls (.int (a + b) :: st) z Q := zw_iadd rfl
theorem s136_52 {x0 x1 : Value} : ZW zG d 136 52 [x0, x1] st z Q = (zir x0 = true ∧ ZW zG d 136 53 [x0, x1] (x0 :: st) z Q) := zw_cond (f := z_aload 0 53) rfl rfl
theorem s136_53 {ls : List Value}  : ZW zG d 136 53 ls (st) z Q = ZW zG d 136 55 ls ((.ref 24) :: st) z Q := zw_push rfl
theorem s136_55 {ls : List Value}  : ZW zG d 136 55 ls (st) z Q = ZW zG d 136 56 ls ((.int (nI 0)) :: st) z Q := zw_push rfl
theorem s136_56 {ls : List Value}  : ZW zG d 136 56 ls (st) z Q = ZW zG d 136 58 ls ((.int (nI 9)) :: st) z Q := zw_push rfl
theorem s136_58 {ls : List Value} {w0 : Nat} {w1 : Int32} {w2 : Int32} {r : Nat} : ZW zG (d + 1) 136 58 ls (.int w2 :: .int w1 :: .ref w0 :: .ref r :: st) z Q = (zcls z r = 12 ∧ zcs st = true ∧ ZC zG d 131 [.ref r, .ref w0, .int w1, .int w2] z (zk zG (d + 1) 136 (none) 61 ls st Q)) := zc_V3 rfl (Nat.le_of_ble_eq_true rfl)
theorem s136_61 {ls : List Value} {a b : Int32} {r : Nat} : ZW zG d 136 61 ls (.int b :: .int a :: .ref r :: st) z Q = ((zcls z r = 50 ∧ zin a (zlen z r) = true) ∧ ZW zG d 136 62 ls (st) (sia z r (zx a) (znar 50 b)) Q) := zw_iast rfl
theorem s136_62 {x0 x1 : Value} : ZW zG d 136 62 [x0, x1] st z Q = (zir x0 = true ∧ ZW zG d 136 63 [x0, x1] (x0 :: st) z Q) := zw_cond (f := z_aload 0 63) rfl rfl
theorem s136_63 {ls : List Value}  : ZW zG d 136 63 ls (st) z Q = ZW zG d 136 65 ls ((.ref 10) :: st) z Q := zw_push rfl
theorem s136_65 {ls : List Value} {w0 : Nat} {r : Nat} : ZW zG (d + 1) 136 65 ls (.ref w0 :: .ref r :: st) z Q = (zcls z r = 12 ∧ zcs st = true ∧ ZC zG d 129 [.ref r, .ref w0] z (zk zG (d + 1) 136 (none) 68 ls st Q)) := zc_V1 rfl (Nat.le_of_ble_eq_true rfl)
theorem s136_68 {x0 x1 : Value} : ZW zG d 136 68 [x0, x1] st z Q = (zir x0 = true ∧ ZW zG d 136 69 [x0, x1] (x0 :: st) z Q) := zw_cond (f := z_aload 0 69) rfl rfl
theorem s136_69 {ls : List Value} {r : Nat} : ZW zG d 136 69 ls (.ref r :: st) z Q = ((zcls z r = 12 ∧ zir (zfr z r 14) = true) ∧ ZW zG d 136 72 ls (zfr z r 14 :: st) (z) Q) := zw_getR rfl
theorem s136_72 {x0 : Value} {a : Int32} : ZW zG d 136 72 [x0, .int a] st z Q = ZW zG d 136 73 [x0, .int a] (.int a :: st) z Q := zw_next (f := z_iload 1 73) rfl rfl
theorem s136_73 {ls : List Value}  : ZW zG d 136 73 ls (st) z Q = ZW zG d 136 74 ls ((.int (nI 3)) :: st) z Q := zw_push rfl
theorem s136_74 {ls : List Value} {a b : Int32} : ZW zG d 136 74 ls (.int b :: .int a :: st) z Q = ZW zG d 136 75 ls (.int (a + b) :: st) z Q := zw_iadd rfl
theorem s136_75 {x0 x1 : Value} : ZW zG d 136 75 [x0, x1] st z Q = (zir x0 = true ∧ ZW zG d 136 76 [x0, x1] (x0 :: st) z Q) := zw_cond (f := z_aload 0 76) rfl rfl
theorem s136_76 {x0 x1 : Value} : ZW zG d 136 76 [x0, x1] st z Q = (zir x0 = true ∧ ZW zG d 136 77 [x0, x1] (x0 :: st) z Q) := zw_cond (f := z_aload 0 77) rfl rfl
theorem s136_77 {ls : List Value}  {r : Nat} : ZW zG (d + 1) 136 77 ls (.ref r :: st) z Q = (zcls z r = 12 ∧ zcs st = true ∧ ZC zG d 137 [.ref r] z (zk zG (d + 1) 136 (none) 80 ls st Q)) := zc_V0 rfl (Nat.le_of_ble_eq_true rfl)
theorem s136_80 {ls : List Value} {w0 : Int32} {r : Nat} : ZW zG (d + 1) 136 80 ls (.int w0 :: .ref r :: st) z Q = (zcls z r = 12 ∧ zcs st = true ∧ ZC zG d 128 [.ref r, .int w0] z (zk zG (d + 1) 136 (none) 83 ls st Q)) := zc_V1 rfl (Nat.le_of_ble_eq_true rfl)
theorem s136_83 {ls : List Value} {a b : Int32} {r : Nat} : ZW zG d 136 83 ls (.int b :: .int a :: .ref r :: st) z Q = ((zcls z r = 50 ∧ zin a (zlen z r) = true) ∧ ZW zG d 136 84 ls (st) (sia z r (zx a) (znar 50 b)) Q) := zw_iast rfl
theorem s136_84 {x0 x1 : Value} : ZW zG d 136 84 [x0, x1] st z Q = (zir x0 = true ∧ ZW zG d 136 85 [x0, x1] (x0 :: st) z Q) := zw_cond (f := z_aload 0 85) rfl rfl
theorem s136_85 {ls : List Value} {r : Nat} : ZW zG d 136 85 ls (.ref r :: st) z Q = ((zcls z r = 12 ∧ zir (zfr z r 14) = true) ∧ ZW zG d 136 88 ls (zfr z r 14 :: st) (z) Q) := zw_getR rfl
theorem s136_88 {x0 : Value} {a : Int32} : ZW zG d 136 88 [x0, .int a] st z Q = ZW zG d 136 89 [x0, .int a] (.int a :: st) z Q := zw_next (f := z_iload 1 89) rfl rfl
theorem s136_89 {ls : List Value}  : ZW zG d 136 89 ls (st) z Q = ZW zG d 136 90 ls ((.int (nI 4)) :: st) z Q := zw_push rfl
theorem s136_90 {ls : List Value} {a b : Int32} : ZW zG d 136 90 ls (.int b :: .int a :: st) z Q = ZW zG d 136 91 ls (.int (a + b) :: st) z Q := zw_iadd rfl
theorem s136_91 {x0 x1 : Value} : ZW zG d 136 91 [x0, x1] st z Q = (zir x0 = true ∧ ZW zG d 136 92 [x0, x1] (x0 :: st) z Q) := zw_cond (f := z_aload 0 92) rfl rfl
theorem s136_92 {ls : List Value}  : ZW zG d 136 92 ls (st) z Q = ZW zG d 136 93 ls ((.int (nI 0)) :: st) z Q := zw_push rfl
theorem s136_93 {ls : List Value}  : ZW zG d 136 93 ls (st) z Q = ZW zG d 136 96 ls ((.int (nI 180)) :: st) z Q := zw_push rfl
theorem s136_96 {ls : List Value} {w0 : Int32} {w1 : Int32} {r : Nat} : ZW zG (d + 1) 136 96 ls (.int w1 :: .int w0 :: .ref r :: st) z Q = (zcls z r = 12 ∧ zcs st = true ∧ ZC zG d 132 [.ref r, .int w0, .int w1] z (zk zG (d + 1) 136 (none) 99 ls st Q)) := zc_V2 rfl (Nat.le_of_ble_eq_true rfl)
theorem s136_99 {ls : List Value} {a b : Int32} {r : Nat} : ZW zG d 136 99 ls (.int b :: .int a :: .ref r :: st) z Q = ((zcls z r = 50 ∧ zin a (zlen z r) = true) ∧ ZW zG d 136 100 ls (st) (sia z r (zx a) (znar 50 b)) Q) := zw_iast rfl
theorem s136_100 {x0 x1 : Value} : ZW zG d 136 100 [x0, x1] st z Q = (zir x0 = true ∧ ZW zG d 136 101 [x0, x1] (x0 :: st) z Q) := zw_cond (f := z_aload 0 101) rfl rfl
theorem s136_101 {ls : List Value} {r : Nat} : ZW zG d 136 101 ls (.ref r :: st) z Q = ((zcls z r = 12 ∧ zir (zfr z r 14) = true) ∧ ZW zG d 136 104 ls (zfr z r 14 :: st) (z) Q) := zw_getR rfl
theorem s136_104 {x0 : Value} {a : Int32} : ZW zG d 136 104 [x0, .int a] st z Q = ZW zG d 136 105 [x0, .int a] (.int a :: st) z Q := zw_next (f := z_iload 1 105) rfl rfl
theorem s136_105 {ls : List Value}  : ZW zG d 136 105 ls (st) z Q = ZW zG d 136 106 ls ((.int (nI 5)) :: st) z Q := zw_push rfl
theorem s136_106 {ls : List Value} {a b : Int32} : ZW zG d 136 106 ls (.int b :: .int a :: st) z Q = ZW zG d 136 107 ls (.int (a + b) :: st) z Q := zw_iadd rfl
theorem s136_107 {x0 x1 : Value} : ZW zG d 136 107 [x0, x1] st z Q = (zir x0 = true ∧ ZW zG d 136 108 [x0, x1] (x0 :: st) z Q) := zw_cond (f := z_aload 0 108) rfl rfl
theorem s136_108 {x0 x1 : Value} : ZW zG d 136 108 [x0, x1] st z Q = (zir x0 = true ∧ ZW zG d 136 109 [x0, x1] (x0 :: st) z Q) := zw_cond (f := z_aload 0 109) rfl rfl
theorem s136_109 {ls : List Value} {r : Nat} : ZW zG d 136 109 ls (.ref r :: st) z Q = ((zcls z r = 12 ∧ zir (zfr z r 14) = true) ∧ ZW zG d 136 112 ls (zfr z r 14 :: st) (z) Q) := zw_getR rfl
theorem s136_112 {x0 : Value} {a : Int32} : ZW zG d 136 112 [x0, .int a] st z Q = ZW zG d 136 113 [x0, .int a] (.int a :: st) z Q := zw_next (f := z_iload 1 113) rfl rfl
theorem s136_113 {ls : List Value}  : ZW zG d 136 113 ls (st) z Q = ZW zG d 136 114 ls ((.int (nI 4)) :: st) z Q := zw_push rfl
theorem s136_114 {ls : List Value} {a b : Int32} : ZW zG d 136 114 ls (.int b :: .int a :: st) z Q = ZW zG d 136 115 ls (.int (a + b) :: st) z Q := zw_iadd rfl
theorem s136_115 {ls : List Value} {a : Int32} {r : Nat} : ZW zG d 136 115 ls (.int a :: .ref r :: st) z Q = ((zcls z r = 50 ∧ zin a (zlen z r) = true) ∧ ZW zG d 136 116 ls (.int (zia z r (zx a)) :: st) (z) Q) := zw_iald rfl
theorem s136_116 {ls : List Value}  : ZW zG d 136 116 ls (st) z Q = ZW zG d 136 119 ls ((.int (nI 180)) :: st) z Q := zw_push rfl
theorem s136_119 {ls : List Value} {w0 : Int32} {w1 : Int32} {r : Nat} : ZW zG (d + 1) 136 119 ls (.int w1 :: .int w0 :: .ref r :: st) z Q = (zcls z r = 12 ∧ zcs st = true ∧ ZC zG d 132 [.ref r, .int w0, .int w1] z (zk zG (d + 1) 136 (none) 122 ls st Q)) := zc_V2 rfl (Nat.le_of_ble_eq_true rfl)
theorem s136_122 {ls : List Value} {a b : Int32} {r : Nat} : ZW zG d 136 122 ls (.int b :: .int a :: .ref r :: st) z Q = ((zcls z r = 50 ∧ zin a (zlen z r) = true) ∧ ZW zG d 136 123 ls (st) (sia z r (zx a) (znar 50 b)) Q) := zw_iast rfl
theorem s136_123 {x0 x1 : Value} : ZW zG d 136 123 [x0, x1] st z Q = (zir x0 = true ∧ ZW zG d 136 124 [x0, x1] (x0 :: st) z Q) := zw_cond (f := z_aload 0 124) rfl rfl
theorem s136_124 {ls : List Value} {r : Nat} : ZW zG d 136 124 ls (.ref r :: st) z Q = ((zcls z r = 12 ∧ zir (zfr z r 14) = true) ∧ ZW zG d 136 127 ls (zfr z r 14 :: st) (z) Q) := zw_getR rfl
theorem s136_127 {x0 : Value} {a : Int32} : ZW zG d 136 127 [x0, .int a] st z Q = ZW zG d 136 128 [x0, .int a] (.int a :: st) z Q := zw_next (f := z_iload 1 128) rfl rfl
theorem s136_128 {ls : List Value}  : ZW zG d 136 128 ls (st) z Q = ZW zG d 136 130 ls ((.int (nI 6)) :: st) z Q := zw_push rfl
theorem s136_130 {ls : List Value} {a b : Int32} : ZW zG d 136 130 ls (.int b :: .int a :: st) z Q = ZW zG d 136 131 ls (.int (a + b) :: st) z Q := zw_iadd rfl
theorem s136_131 {x0 x1 : Value} : ZW zG d 136 131 [x0, x1] st z Q = (zir x0 = true ∧ ZW zG d 136 132 [x0, x1] (x0 :: st) z Q) := zw_cond (f := z_aload 0 132) rfl rfl
theorem s136_132 {ls : List Value}  : ZW zG d 136 132 ls (st) z Q = ZW zG d 136 134 ls ((.ref 4) :: st) z Q := zw_push rfl
theorem s136_134 {ls : List Value} {w0 : Nat} {r : Nat} : ZW zG (d + 1) 136 134 ls (.ref w0 :: .ref r :: st) z Q = (zcls z r = 12 ∧ zcs st = true ∧ ZC zG d 130 [.ref r, .ref w0] z (zk zG (d + 1) 136 (none) 137 ls st Q)) := zc_V1 rfl (Nat.le_of_ble_eq_true rfl)
theorem s136_137 {ls : List Value} {a : Int32} : ZW zG d 136 137 ls (.int a :: st) z Q = if a = 0 then ZW zG d 136 151 ls st z Q else ZW zG d 136 140 ls st z Q := zw_ifeq rfl
theorem s136_140 {x0 x1 : Value} : ZW zG d 136 140 [x0, x1] st z Q = (zir x0 = true ∧ ZW zG d 136 141 [x0, x1] (x0 :: st) z Q) := zw_cond (f := z_aload 0 141) rfl rfl
theorem s136_141 {ls : List Value}  : ZW zG d 136 141 ls (st) z Q = ZW zG d 136 142 ls ((.int (nI 0)) :: st) z Q := zw_push rfl
theorem s136_142 {ls : List Value}  : ZW zG d 136 142 ls (st) z Q = ZW zG d 136 145 ls ((.int (nI 399)) :: st) z Q := zw_push rfl
theorem s136_145 {ls : List Value} {w0 : Int32} {w1 : Int32} {r : Nat} : ZW zG (d + 1) 136 145 ls (.int w1 :: .int w0 :: .ref r :: st) z Q = (zcls z r = 12 ∧ zcs st = true ∧ ZC zG d 132 [.ref r, .int w0, .int w1] z (zk zG (d + 1) 136 (none) 148 ls st Q)) := zc_V2 rfl (Nat.le_of_ble_eq_true rfl)
theorem s136_148 {ls : List Value}  : ZW zG d 136 148 ls (st) z Q = ZW zG d 136 152 ls st z Q := zw_goto rfl
theorem s136_151 {ls : List Value}  : ZW zG d 136 151 ls (st) z Q = ZW zG d 136 152 ls ((.int (nI 0)) :: st) z Q := zw_push rfl
theorem s136_152 {ls : List Value} {a b : Int32} {r : Nat} : ZW zG d 136 152 ls (.int b :: .int a :: .ref r :: st) z Q = ((zcls z r = 50 ∧ zin a (zlen z r) = true) ∧ ZW zG d 136 153 ls (st) (sia z r (zx a) (znar 50 b)) Q) := zw_iast rfl
theorem s136_153 {x0 x1 : Value} : ZW zG d 136 153 [x0, x1] st z Q = (zir x0 = true ∧ ZW zG d 136 154 [x0, x1] (x0 :: st) z Q) := zw_cond (f := z_aload 0 154) rfl rfl
theorem s136_154 {ls : List Value} {r : Nat} : ZW zG d 136 154 ls (.ref r :: st) z Q = ((zcls z r = 12 ∧ zir (zfr z r 14) = true) ∧ ZW zG d 136 157 ls (zfr z r 14 :: st) (z) Q) := zw_getR rfl
theorem s136_157 {x0 : Value} {a : Int32} : ZW zG d 136 157 [x0, .int a] st z Q = ZW zG d 136 158 [x0, .int a] (.int a :: st) z Q := zw_next (f := z_iload 1 158) rfl rfl
theorem s136_158 {ls : List Value}  : ZW zG d 136 158 ls (st) z Q = ZW zG d 136 160 ls ((.int (nI 7)) :: st) z Q := zw_push rfl
theorem s136_160 {ls : List Value} {a b : Int32} : ZW zG d 136 160 ls (.int b :: .int a :: st) z Q = ZW zG d 136 161 ls (.int (a + b) :: st) z Q := zw_iadd rfl
theorem s136_161 {x0 x1 : Value} : ZW zG d 136 161 [x0, x1] st z Q = (zir x0 = true ∧ ZW zG d 136 162 [x0, x1] (x0 :: st) z Q) := zw_cond (f := z_aload 0 162) rfl rfl
theorem s136_162 {ls : List Value}  : ZW zG d 136 162 ls (st) z Q = ZW zG d 136 164 ls ((.ref 2) :: st) z Q := zw_push rfl
theorem s136_164 {ls : List Value} {w0 : Nat} {r : Nat} : ZW zG (d + 1) 136 164 ls (.ref w0 :: .ref r :: st) z Q = (zcls z r = 12 ∧ zcs st = true ∧ ZC zG d 130 [.ref r, .ref w0] z (zk zG (d + 1) 136 (none) 167 ls st Q)) := zc_V1 rfl (Nat.le_of_ble_eq_true rfl)
theorem s136_167 {ls : List Value} {a : Int32} : ZW zG d 136 167 ls (.int a :: st) z Q = if a = 0 then ZW zG d 136 180 ls st z Q else ZW zG d 136 170 ls st z Q := zw_ifeq rfl
theorem s136_170 {x0 x1 : Value} : ZW zG d 136 170 [x0, x1] st z Q = (zir x0 = true ∧ ZW zG d 136 171 [x0, x1] (x0 :: st) z Q) := zw_cond (f := z_aload 0 171) rfl rfl
theorem s136_171 {ls : List Value}  : ZW zG d 136 171 ls (st) z Q = ZW zG d 136 172 ls ((.int (nI 0)) :: st) z Q := zw_push rfl
theorem s136_172 {ls : List Value}  : ZW zG d 136 172 ls (st) z Q = ZW zG d 136 174 ls ((.int (nI 99)) :: st) z Q := zw_push rfl
theorem s136_174 {ls : List Value} {w0 : Int32} {w1 : Int32} {r : Nat} : ZW zG (d + 1) 136 174 ls (.int w1 :: .int w0 :: .ref r :: st) z Q = (zcls z r = 12 ∧ zcs st = true ∧ ZC zG d 132 [.ref r, .int w0, .int w1] z (zk zG (d + 1) 136 (none) 177 ls st Q)) := zc_V2 rfl (Nat.le_of_ble_eq_true rfl)
theorem s136_177 {ls : List Value}  : ZW zG d 136 177 ls (st) z Q = ZW zG d 136 181 ls st z Q := zw_goto rfl
theorem s136_180 {ls : List Value}  : ZW zG d 136 180 ls (st) z Q = ZW zG d 136 181 ls ((.int (nI 0)) :: st) z Q := zw_push rfl
theorem s136_181 {ls : List Value} {a b : Int32} {r : Nat} : ZW zG d 136 181 ls (.int b :: .int a :: .ref r :: st) z Q = ((zcls z r = 50 ∧ zin a (zlen z r) = true) ∧ ZW zG d 136 182 ls (st) (sia z r (zx a) (znar 50 b)) Q) := zw_iast rfl
theorem s136_182 {x0 x1 : Value} : ZW zG d 136 182 [x0, x1] st z Q = (zir x0 = true ∧ ZW zG d 136 183 [x0, x1] (x0 :: st) z Q) := zw_cond (f := z_aload 0 183) rfl rfl
theorem s136_183 {ls : List Value} {r : Nat} : ZW zG d 136 183 ls (.ref r :: st) z Q = ((zcls z r = 12 ∧ zir (zfr z r 14) = true) ∧ ZW zG d 136 186 ls (zfr z r 14 :: st) (z) Q) := zw_getR rfl
theorem s136_186 {x0 : Value} {a : Int32} : ZW zG d 136 186 [x0, .int a] st z Q = ZW zG d 136 187 [x0, .int a] (.int a :: st) z Q := zw_next (f := z_iload 1 187) rfl rfl
theorem s136_187 {ls : List Value}  : ZW zG d 136 187 ls (st) z Q = ZW zG d 136 189 ls ((.int (nI 8)) :: st) z Q := zw_push rfl
theorem s136_189 {ls : List Value} {a b : Int32} : ZW zG d 136 189 ls (.int b :: .int a :: st) z Q = ZW zG d 136 190 ls (.int (a + b) :: st) z Q := zw_iadd rfl
theorem s136_190 {ls : List Value}  : ZW zG d 136 190 ls (st) z Q = ZW zG d 136 191 ls ((.int (nI 0)) :: st) z Q := zw_push rfl
theorem s136_191 {ls : List Value} {a b : Int32} {r : Nat} : ZW zG d 136 191 ls (.int b :: .int a :: .ref r :: st) z Q = ((zcls z r = 50 ∧ zin a (zlen z r) = true) ∧ ZW zG d 136 192 ls (st) (sia z r (zx a) (znar 50 b)) Q) := zw_iast rfl
theorem s136_192 {x0 x1 : Value} : ZW zG d 136 192 [x0, x1] st z Q = (zir x0 = true ∧ ZW zG d 136 193 [x0, x1] (x0 :: st) z Q) := zw_cond (f := z_aload 0 193) rfl rfl
theorem s136_193 {ls : List Value}  {r : Nat} : ZW zG (d + 1) 136 193 ls (.ref r :: st) z Q = (zcls z r = 12 ∧ zcs st = true ∧ ZC zG d 122 [.ref r] z (zk zG (d + 1) 136 (none) 196 ls st Q)) := zc_V0 rfl (Nat.le_of_ble_eq_true rfl)
theorem s136_196 {ls : List Value} {a : Int32} : ZW zG d 136 196 ls (.int a :: st) z Q = if a = 0 then ZW zG d 136 209 ls st z Q else ZW zG d 136 199 ls st z Q := zw_ifeq rfl
theorem s136_199 {x0 x1 : Value} : ZW zG d 136 199 [x0, x1] st z Q = (zir x0 = true ∧ ZW zG d 136 200 [x0, x1] (x0 :: st) z Q) := zw_cond (f := z_aload 0 200) rfl rfl
theorem s136_200 {ls : List Value} {r : Nat} : ZW zG d 136 200 ls (.ref r :: st) z Q = ((zcls z r = 12 ∧ zir (zfr z r 14) = true) ∧ ZW zG d 136 203 ls (zfr z r 14 :: st) (z) Q) := zw_getR rfl
theorem s136_203 {ls : List Value}  : ZW zG d 136 203 ls (st) z Q = ZW zG d 136 204 ls ((.int (nI 0)) :: st) z Q := zw_push rfl
theorem s136_204 {ls : List Value} {a : Int32} {r : Nat} : ZW zG d 136 204 ls (.int a :: .ref r :: st) z Q = ZW zG d 136 205 ls (.int a :: .ref r :: .int a :: .ref r :: st) z Q := zw_dup2 rfl
theorem s136_205 {ls : List Value} {a : Int32} {r : Nat} : ZW zG d 136 205 ls (.int a :: .ref r :: st) z Q = ((zcls z r = 50 ∧ zin a (zlen z r) = true) ∧ ZW zG d 136 206 ls (.int (zia z r (zx a)) :: st) (z) Q) := zw_iald rfl
theorem s136_206 {ls : List Value}  : ZW zG d 136 206 ls (st) z Q = ZW zG d 136 207 ls ((.int (nI 1)) :: st) z Q := zw_push rfl
theorem s136_207 {ls : List Value} {a b : Int32} : ZW zG d 136 207 ls (.int b :: .int a :: st) z Q = ZW zG d 136 208 ls (.int (a + b) :: st) z Q := zw_iadd rfl
theorem s136_208 {ls : List Value} {a b : Int32} {r : Nat} : ZW zG d 136 208 ls (.int b :: .int a :: .ref r :: st) z Q = ((zcls z r = 50 ∧ zin a (zlen z r) = true) ∧ ZW zG d 136 209 ls (st) (sia z r (zx a) (znar 50 b)) Q) := zw_iast rfl
theorem s136_209 {ls : List Value}  : ZW zG d 136 209 ls ([]) z Q = Q (.inl none) z := zw_ret rfl
/-- X12_dayHere ()I -/
theorem e137 {r0 : Nat} : ZC zG d 137 [.ref r0] z Q = ZW zG d 137 0 [.ref r0] [] z Q := rfl
theorem s137_0 {x0 : Value} : ZW zG d 137 0 [x0] st z Q = (zir x0 = true ∧ ZW zG d 137 1 [x0] (x0 :: st) z Q) := zw_cond (f := z_aload 0 1) rfl rfl
theorem s137_1 {ls : List Value}  : ZW zG d 137 1 ls (st) z Q = ZW zG d 137 3 ls ((.ref 28) :: st) z Q := zw_push rfl
theorem s137_3 {ls : List Value} {w0 : Nat} {r : Nat} : ZW zG (d + 1) 137 3 ls (.ref w0 :: .ref r :: st) z Q = (zcls z r = 12 ∧ zcs st = true ∧ ZC zG d 125 [.ref r, .ref w0] z (zk zG (d + 1) 137 (none) 6 ls st Q)) := zc_V1 rfl (Nat.le_of_ble_eq_true rfl)
theorem s137_6 {ls : List Value} {a : Int32} : ZW zG d 137 6 ls (.int a :: st) z Q = if a = 0 then ZW zG d 137 13 ls st z Q else ZW zG d 137 9 ls st z Q := zw_ifeq rfl
theorem s137_9 {ls : List Value}  : ZW zG d 137 9 ls (st) z Q = ZW zG d 137 10 ls ((.int (nI 0)) :: st) z Q := zw_push rfl
theorem s137_10 {ls : List Value}  : ZW zG d 137 10 ls (st) z Q = ZW zG d 137 93 ls st z Q := zw_goto rfl
theorem s137_13 {x0 : Value} : ZW zG d 137 13 [x0] st z Q = (zir x0 = true ∧ ZW zG d 137 14 [x0] (x0 :: st) z Q) := zw_cond (f := z_aload 0 14) rfl rfl
theorem s137_14 {ls : List Value}  : ZW zG d 137 14 ls (st) z Q = ZW zG d 137 16 ls ((.ref 19) :: st) z Q := zw_push rfl
theorem s137_16 {ls : List Value} {w0 : Nat} {r : Nat} : ZW zG (d + 1) 137 16 ls (.ref w0 :: .ref r :: st) z Q = (zcls z r = 12 ∧ zcs st = true ∧ ZC zG d 125 [.ref r, .ref w0] z (zk zG (d + 1) 137 (none) 19 ls st Q)) := zc_V1 rfl (Nat.le_of_ble_eq_true rfl)
theorem s137_19 {ls : List Value} {a : Int32} : ZW zG d 137 19 ls (.int a :: st) z Q = if a = 0 then ZW zG d 137 26 ls st z Q else ZW zG d 137 22 ls st z Q := zw_ifeq rfl
theorem s137_22 {ls : List Value}  : ZW zG d 137 22 ls (st) z Q = ZW zG d 137 23 ls ((.int (nI 1)) :: st) z Q := zw_push rfl
theorem s137_23 {ls : List Value}  : ZW zG d 137 23 ls (st) z Q = ZW zG d 137 93 ls st z Q := zw_goto rfl
theorem s137_26 {x0 : Value} : ZW zG d 137 26 [x0] st z Q = (zir x0 = true ∧ ZW zG d 137 27 [x0] (x0 :: st) z Q) := zw_cond (f := z_aload 0 27) rfl rfl
theorem s137_27 {ls : List Value}  : ZW zG d 137 27 ls (st) z Q = ZW zG d 137 29 ls ((.ref 32) :: st) z Q := zw_push rfl
theorem s137_29 {ls : List Value} {w0 : Nat} {r : Nat} : ZW zG (d + 1) 137 29 ls (.ref w0 :: .ref r :: st) z Q = (zcls z r = 12 ∧ zcs st = true ∧ ZC zG d 125 [.ref r, .ref w0] z (zk zG (d + 1) 137 (none) 32 ls st Q)) := zc_V1 rfl (Nat.le_of_ble_eq_true rfl)
theorem s137_32 {ls : List Value} {a : Int32} : ZW zG d 137 32 ls (.int a :: st) z Q = if a = 0 then ZW zG d 137 39 ls st z Q else ZW zG d 137 35 ls st z Q := zw_ifeq rfl
theorem s137_35 {ls : List Value}  : ZW zG d 137 35 ls (st) z Q = ZW zG d 137 36 ls ((.int (nI 2)) :: st) z Q := zw_push rfl
theorem s137_36 {ls : List Value}  : ZW zG d 137 36 ls (st) z Q = ZW zG d 137 93 ls st z Q := zw_goto rfl
theorem s137_39 {x0 : Value} : ZW zG d 137 39 [x0] st z Q = (zir x0 = true ∧ ZW zG d 137 40 [x0] (x0 :: st) z Q) := zw_cond (f := z_aload 0 40) rfl rfl
theorem s137_40 {ls : List Value}  : ZW zG d 137 40 ls (st) z Q = ZW zG d 137 42 ls ((.ref 33) :: st) z Q := zw_push rfl
theorem s137_42 {ls : List Value} {w0 : Nat} {r : Nat} : ZW zG (d + 1) 137 42 ls (.ref w0 :: .ref r :: st) z Q = (zcls z r = 12 ∧ zcs st = true ∧ ZC zG d 125 [.ref r, .ref w0] z (zk zG (d + 1) 137 (none) 45 ls st Q)) := zc_V1 rfl (Nat.le_of_ble_eq_true rfl)
theorem s137_45 {ls : List Value} {a : Int32} : ZW zG d 137 45 ls (.int a :: st) z Q = if a = 0 then ZW zG d 137 52 ls st z Q else ZW zG d 137 48 ls st z Q := zw_ifeq rfl
theorem s137_48 {ls : List Value}  : ZW zG d 137 48 ls (st) z Q = ZW zG d 137 49 ls ((.int (nI 3)) :: st) z Q := zw_push rfl
theorem s137_49 {ls : List Value}  : ZW zG d 137 49 ls (st) z Q = ZW zG d 137 93 ls st z Q := zw_goto rfl
theorem s137_52 {x0 : Value} : ZW zG d 137 52 [x0] st z Q = (zir x0 = true ∧ ZW zG d 137 53 [x0] (x0 :: st) z Q) := zw_cond (f := z_aload 0 53) rfl rfl
theorem s137_53 {ls : List Value}  : ZW zG d 137 53 ls (st) z Q = ZW zG d 137 55 ls ((.ref 30) :: st) z Q := zw_push rfl
theorem s137_55 {ls : List Value} {w0 : Nat} {r : Nat} : ZW zG (d + 1) 137 55 ls (.ref w0 :: .ref r :: st) z Q = (zcls z r = 12 ∧ zcs st = true ∧ ZC zG d 125 [.ref r, .ref w0] z (zk zG (d + 1) 137 (none) 58 ls st Q)) := zc_V1 rfl (Nat.le_of_ble_eq_true rfl)
theorem s137_58 {ls : List Value} {a : Int32} : ZW zG d 137 58 ls (.int a :: st) z Q = if a = 0 then ZW zG d 137 65 ls st z Q else ZW zG d 137 61 ls st z Q := zw_ifeq rfl
theorem s137_61 {ls : List Value}  : ZW zG d 137 61 ls (st) z Q = ZW zG d 137 62 ls ((.int (nI 4)) :: st) z Q := zw_push rfl
theorem s137_62 {ls : List Value}  : ZW zG d 137 62 ls (st) z Q = ZW zG d 137 93 ls st z Q := zw_goto rfl
theorem s137_65 {x0 : Value} : ZW zG d 137 65 [x0] st z Q = (zir x0 = true ∧ ZW zG d 137 66 [x0] (x0 :: st) z Q) := zw_cond (f := z_aload 0 66) rfl rfl
theorem s137_66 {ls : List Value}  : ZW zG d 137 66 ls (st) z Q = ZW zG d 137 68 ls ((.ref 9) :: st) z Q := zw_push rfl
theorem s137_68 {ls : List Value} {w0 : Nat} {r : Nat} : ZW zG (d + 1) 137 68 ls (.ref w0 :: .ref r :: st) z Q = (zcls z r = 12 ∧ zcs st = true ∧ ZC zG d 125 [.ref r, .ref w0] z (zk zG (d + 1) 137 (none) 71 ls st Q)) := zc_V1 rfl (Nat.le_of_ble_eq_true rfl)
theorem s137_71 {ls : List Value} {a : Int32} : ZW zG d 137 71 ls (.int a :: st) z Q = if a = 0 then ZW zG d 137 78 ls st z Q else ZW zG d 137 74 ls st z Q := zw_ifeq rfl
theorem s137_74 {ls : List Value}  : ZW zG d 137 74 ls (st) z Q = ZW zG d 137 75 ls ((.int (nI 5)) :: st) z Q := zw_push rfl
theorem s137_75 {ls : List Value}  : ZW zG d 137 75 ls (st) z Q = ZW zG d 137 93 ls st z Q := zw_goto rfl
theorem s137_78 {x0 : Value} : ZW zG d 137 78 [x0] st z Q = (zir x0 = true ∧ ZW zG d 137 79 [x0] (x0 :: st) z Q) := zw_cond (f := z_aload 0 79) rfl rfl
theorem s137_79 {ls : List Value}  : ZW zG d 137 79 ls (st) z Q = ZW zG d 137 81 ls ((.ref 26) :: st) z Q := zw_push rfl
theorem s137_81 {ls : List Value} {w0 : Nat} {r : Nat} : ZW zG (d + 1) 137 81 ls (.ref w0 :: .ref r :: st) z Q = (zcls z r = 12 ∧ zcs st = true ∧ ZC zG d 125 [.ref r, .ref w0] z (zk zG (d + 1) 137 (none) 84 ls st Q)) := zc_V1 rfl (Nat.le_of_ble_eq_true rfl)
theorem s137_84 {ls : List Value} {a : Int32} : ZW zG d 137 84 ls (.int a :: st) z Q = if a = 0 then ZW zG d 137 92 ls st z Q else ZW zG d 137 87 ls st z Q := zw_ifeq rfl
theorem s137_87 {ls : List Value}  : ZW zG d 137 87 ls (st) z Q = ZW zG d 137 89 ls ((.int (nI 6)) :: st) z Q := zw_push rfl
theorem s137_89 {ls : List Value}  : ZW zG d 137 89 ls (st) z Q = ZW zG d 137 93 ls st z Q := zw_goto rfl
theorem s137_92 {ls : List Value}  : ZW zG d 137 92 ls (st) z Q = ZW zG d 137 93 ls ((.int (-1)) :: st) z Q := zw_push rfl
theorem s137_93 {ls : List Value} {a : Int32} : ZW zG d 137 93 ls ([.int a]) z Q = Q (.inl (some (.int a))) z := zw_reti rfl
/-- X12_readKnow ()V -/
theorem e138 {r0 : Nat} : ZC zG d 138 [.ref r0] z Q = ZW zG d 138 0 [.ref r0, zdum, zdum] [] z Q := rfl
theorem s138_0 {x0 x1 x2 : Value} : ZW zG d 138 0 [x0, x1, x2] st z Q = (zir x0 = true ∧ ZW zG d 138 1 [x0, x1, x2] (x0 :: st) z Q) := zw_cond (f := z_aload 0 1) rfl rfl
theorem s138_1 {ls : List Value}  : ZW zG d 138 1 ls (st) z Q = ZW zG d 138 2 ls ((.int (nI 0)) :: st) z Q := zw_push rfl
theorem s138_2 {x0 x1 x2 : Value} : ZW zG d 138 2 [x0, x1, x2] st z Q = (zir x0 = true ∧ ZW zG d 138 3 [x0, x1, x2] (x0 :: st) z Q) := zw_cond (f := z_aload 0 3) rfl rfl
theorem s138_3 {ls : List Value} {r : Nat} : ZW zG d 138 3 ls (.ref r :: st) z Q = ((zcls z r = 12 ∧ zir (zfr z r 14) = true) ∧ ZW zG d 138 6 ls (zfr z r 14 :: st) (z) Q) := zw_getR rfl
theorem s138_6 {ls : List Value}  : ZW zG d 138 6 ls (st) z Q = ZW zG d 138 7 ls ((.int (nI 0)) :: st) z Q := zw_push rfl
theorem s138_7 {ls : List Value} {a : Int32} {r : Nat} : ZW zG d 138 7 ls (.int a :: .ref r :: st) z Q = ((zcls z r = 50 ∧ zin a (zlen z r) = true) ∧ ZW zG d 138 8 ls (.int (zia z r (zx a)) :: st) (z) Q) := zw_iald rfl
theorem s138_8 {ls : List Value}  : ZW zG d 138 8 ls (st) z Q = ZW zG d 138 9 ls ((.int (nI 1)) :: st) z Q := zw_push rfl
theorem s138_9 {ls : List Value} {a b : Int32} : ZW zG d 138 9 ls (.int b :: .int a :: st) z Q = ZW zG d 138 10 ls (.int (a - b) :: st) z Q := zw_isub rfl
theorem s138_10 {ls : List Value} {w0 : Int32} {w1 : Int32} {r : Nat} : ZW zG (d + 1) 138 10 ls (.int w1 :: .int w0 :: .ref r :: st) z Q = (zcls z r = 12 ∧ zcs st = true ∧ ZC zG d 132 [.ref r, .int w0, .int w1] z (zk zG (d + 1) 138 (none) 13 ls st Q)) := zc_V2 rfl (Nat.le_of_ble_eq_true rfl)
theorem s138_13 {x0 x1 x2 : Value} {a : Int32} : ZW zG d 138 13 [x0, x1, x2] (.int a :: st) z Q = ZW zG d 138 14 [zclr x0, .int a, x2] st z Q := zw_next (f := z_istore 1 14) rfl rfl
theorem s138_14 {x0 x1 x2 : Value} : ZW zG d 138 14 [x0, x1, x2] st z Q = (zir x0 = true ∧ ZW zG d 138 15 [x0, x1, x2] (x0 :: st) z Q) := zw_cond (f := z_aload 0 15) rfl rfl
theorem s138_15 {ls : List Value}  {r : Nat} : ZW zG (d + 1) 138 15 ls (.ref r :: st) z Q = (zcls z r = 12 ∧ zcs st = true ∧ ZC zG d 122 [.ref r] z (zk zG (d + 1) 138 (none) 18 ls st Q)) := zc_V0 rfl (Nat.le_of_ble_eq_true rfl)
theorem s138_18 {ls : List Value} {a : Int32} : ZW zG d 138 18 ls (.int a :: st) z Q = if a = 0 then ZW zG d 138 42 ls st z Q else ZW zG d 138 21 ls st z Q := zw_ifeq rfl
theorem s138_21 {x0 x1 x2 : Value} : ZW zG d 138 21 [x0, x1, x2] st z Q = (zir x0 = true ∧ ZW zG d 138 22 [x0, x1, x2] (x0 :: st) z Q) := zw_cond (f := z_aload 0 22) rfl rfl
theorem s138_22 {ls : List Value} {r : Nat} : ZW zG d 138 22 ls (.ref r :: st) z Q = ((zcls z r = 12) ∧ ZW zG d 138 25 ls (.int (zfi z r 10) :: st) (z) Q) := zw_getI rfl
theorem s138_25 {ls : List Value}  : ZW zG d 138 25 ls (st) z Q = ZW zG d 138 26 ls ((.int (nI 2)) :: st) z Q := zw_push rfl
theorem s138_26 {ls : List Value} {a b : Int32} : ZW zG d 138 26 ls (.int b :: .int a :: st) z Q = if ¬ a = b then ZW zG d 138 42 ls st z Q else ZW zG d 138 29 ls st z Q := zw_icne rfl
theorem s138_29 {x0 x1 x2 : Value} : ZW zG d 138 29 [x0, x1, x2] st z Q = (zir x0 = true ∧ ZW zG d 138 30 [x0, x1, x2] (x0 :: st) z Q) := zw_cond (f := z_aload 0 30) rfl rfl
theorem s138_30 {ls : List Value} {r : Nat} : ZW zG d 138 30 ls (.ref r :: st) z Q = ((zcls z r = 12) ∧ ZW zG d 138 33 ls (.int (zfi z r 11) :: st) (z) Q) := zw_getI rfl
theorem s138_33 {x0 x2 : Value} {a : Int32} : ZW zG d 138 33 [x0, .int a, x2] st z Q = ZW zG d 138 34 [x0, .int a, x2] (.int a :: st) z Q := zw_next (f := z_iload 1 34) rfl rfl
theorem s138_34 {ls : List Value} {a b : Int32} : ZW zG d 138 34 ls (.int b :: .int a :: st) z Q = if ¬ a = b then ZW zG d 138 42 ls st z Q else ZW zG d 138 37 ls st z Q := zw_icne rfl
theorem s138_37 {x0 x1 x2 : Value} : ZW zG d 138 37 [x0, x1, x2] st z Q = (zir x0 = true ∧ ZW zG d 138 38 [x0, x1, x2] (x0 :: st) z Q) := zw_cond (f := z_aload 0 38) rfl rfl
theorem s138_38 {ls : List Value}  : ZW zG d 138 38 ls (st) z Q = ZW zG d 138 39 ls ((.int (nI 2)) :: st) z Q := zw_push rfl
theorem s138_39 {ls : List Value} {w0 : Int32} {r : Nat} : ZW zG (d + 1) 138 39 ls (.int w0 :: .ref r :: st) z Q = (zcls z r = 12 ∧ zcs st = true ∧ ZC zG d 126 [.ref r, .int w0] z (zk zG (d + 1) 138 (none) 42 ls st Q)) := zc_V1 rfl (Nat.le_of_ble_eq_true rfl)
theorem s138_42 {x0 x1 x2 : Value} : ZW zG d 138 42 [x0, x1, x2] st z Q = (zir x0 = true ∧ ZW zG d 138 43 [x0, x1, x2] (x0 :: st) z Q) := zw_cond (f := z_aload 0 43) rfl rfl
theorem s138_43 {ls : List Value}  : ZW zG d 138 43 ls (st) z Q = ZW zG d 138 44 ls ((.int (nI 0)) :: st) z Q := zw_push rfl
theorem s138_44 {x0 x1 x2 : Value} : ZW zG d 138 44 [x0, x1, x2] st z Q = (zir x0 = true ∧ ZW zG d 138 45 [x0, x1, x2] (x0 :: st) z Q) := zw_cond (f := z_aload 0 45) rfl rfl
theorem s138_45 {ls : List Value} {r : Nat} : ZW zG d 138 45 ls (.ref r :: st) z Q = ((zcls z r = 12 ∧ zir (zfr z r 14) = true) ∧ ZW zG d 138 48 ls (zfr z r 14 :: st) (z) Q) := zw_getR rfl
theorem s138_48 {ls : List Value}  : ZW zG d 138 48 ls (st) z Q = ZW zG d 138 49 ls ((.int (nI 0)) :: st) z Q := zw_push rfl
theorem s138_49 {ls : List Value} {a : Int32} {r : Nat} : ZW zG d 138 49 ls (.int a :: .ref r :: st) z Q = ((zcls z r = 50 ∧ zin a (zlen z r) = true) ∧ ZW zG d 138 50 ls (.int (zia z r (zx a)) :: st) (z) Q) := zw_iald rfl
theorem s138_50 {ls : List Value}  : ZW zG d 138 50 ls (st) z Q = ZW zG d 138 51 ls ((.int (nI 1)) :: st) z Q := zw_push rfl
theorem s138_51 {ls : List Value} {a b : Int32} : ZW zG d 138 51 ls (.int b :: .int a :: st) z Q = ZW zG d 138 52 ls (.int (a - b) :: st) z Q := zw_isub rfl
theorem s138_52 {ls : List Value} {w0 : Int32} {w1 : Int32} {r : Nat} : ZW zG (d + 1) 138 52 ls (.int w1 :: .int w0 :: .ref r :: st) z Q = (zcls z r = 12 ∧ zcs st = true ∧ ZC zG d 132 [.ref r, .int w0, .int w1] z (zk zG (d + 1) 138 (none) 55 ls st Q)) := zc_V2 rfl (Nat.le_of_ble_eq_true rfl)
theorem s138_55 {x0 x1 x2 : Value} {a : Int32} : ZW zG d 138 55 [x0, x1, x2] (.int a :: st) z Q = ZW zG d 138 56 [x0, zclr x1, .int a] st z Q := zw_next (f := z_istore 2 56) rfl rfl
theorem s138_56 {x0 x1 x2 : Value} : ZW zG d 138 56 [x0, x1, x2] st z Q = (zir x0 = true ∧ ZW zG d 138 57 [x0, x1, x2] (x0 :: st) z Q) := zw_cond (f := z_aload 0 57) rfl rfl
theorem s138_57 {ls : List Value}  {r : Nat} : ZW zG (d + 1) 138 57 ls (.ref r :: st) z Q = (zcls z r = 12 ∧ zcs st = true ∧ ZC zG d 122 [.ref r] z (zk zG (d + 1) 138 (none) 60 ls st Q)) := zc_V0 rfl (Nat.le_of_ble_eq_true rfl)
theorem s138_60 {ls : List Value} {a : Int32} : ZW zG d 138 60 ls (.int a :: st) z Q = if ¬ a = 0 then ZW zG d 138 64 ls st z Q else ZW zG d 138 63 ls st z Q := zw_ifne rfl
theorem s138_63 {ls : List Value}  : ZW zG d 138 63 ls ([]) z Q = Q (.inl none) z := zw_ret rfl
theorem s138_64 {x0 x1 x2 : Value} : ZW zG d 138 64 [x0, x1, x2] st z Q = (zir x0 = true ∧ ZW zG d 138 65 [x0, x1, x2] (x0 :: st) z Q) := zw_cond (f := z_aload 0 65) rfl rfl
theorem s138_65 {ls : List Value} {r : Nat} : ZW zG d 138 65 ls (.ref r :: st) z Q = ((zcls z r = 12 ∧ zir (zfr z r 14) = true) ∧ ZW zG d 138 68 ls (zfr z r 14 :: st) (z) Q) := zw_getR rfl
theorem s138_68 {ls : List Value}  : ZW zG d 138 68 ls (st) z Q = ZW zG d 138 70 ls ((.int (nI 10)) :: st) z Q := zw_push rfl
theorem s138_70 {ls : List Value}  : ZW zG d 138 70 ls (st) z Q = ZW zG d 138 72 ls ((.int (nI 9)) :: st) z Q := zw_push rfl
theorem s138_72 {x0 x2 : Value} {a : Int32} : ZW zG d 138 72 [x0, .int a, x2] st z Q = ZW zG d 138 73 [x0, .int a, x2] (.int a :: st) z Q := zw_next (f := z_iload 1 73) rfl rfl
theorem s138_73 {ls : List Value} {a b : Int32} : ZW zG d 138 73 ls (.int b :: .int a :: st) z Q = ZW zG d 138 74 ls (.int (a * b) :: st) z Q := zw_imul rfl
theorem s138_74 {ls : List Value} {a b : Int32} : ZW zG d 138 74 ls (.int b :: .int a :: st) z Q = ZW zG d 138 75 ls (.int (a + b) :: st) z Q := zw_iadd rfl
theorem s138_75 {ls : List Value}  : ZW zG d 138 75 ls (st) z Q = ZW zG d 138 77 ls ((.int (nI 8)) :: st) z Q := zw_push rfl
theorem s138_77 {ls : List Value} {a b : Int32} : ZW zG d 138 77 ls (.int b :: .int a :: st) z Q = ZW zG d 138 78 ls (.int (a + b) :: st) z Q := zw_iadd rfl
theorem s138_78 {ls : List Value} {a : Int32} {r : Nat} : ZW zG d 138 78 ls (.int a :: .ref r :: st) z Q = ZW zG d 138 79 ls (.int a :: .ref r :: .int a :: .ref r :: st) z Q := zw_dup2 rfl
theorem s138_79 {ls : List Value} {a : Int32} {r : Nat} : ZW zG d 138 79 ls (.int a :: .ref r :: st) z Q = ((zcls z r = 50 ∧ zin a (zlen z r) = true) ∧ ZW zG d 138 80 ls (.int (zia z r (zx a)) :: st) (z) Q) := zw_iald rfl
theorem s138_80 {ls : List Value}  : ZW zG d 138 80 ls (st) z Q = ZW zG d 138 81 ls ((.int (nI 1)) :: st) z Q := zw_push rfl
theorem s138_81 {x0 x1 : Value} {a : Int32} : ZW zG d 138 81 [x0, x1, .int a] st z Q = ZW zG d 138 82 [x0, x1, .int a] (.int a :: st) z Q := zw_next (f := z_iload 2 82) rfl rfl
theorem s138_82 {ls : List Value} {a b : Int32} : ZW zG d 138 82 ls (.int b :: .int a :: st) z Q = ZW zG d 138 83 ls (.int (a <<< (b &&& 31)) :: st) z Q := zw_ishl rfl
theorem s138_83 {ls : List Value} {a b : Int32} : ZW zG d 138 83 ls (.int b :: .int a :: st) z Q = ZW zG d 138 84 ls (.int (a ||| b) :: st) z Q := zw_ior rfl
theorem s138_84 {ls : List Value} {a b : Int32} {r : Nat} : ZW zG d 138 84 ls (.int b :: .int a :: .ref r :: st) z Q = ((zcls z r = 50 ∧ zin a (zlen z r) = true) ∧ ZW zG d 138 85 ls (st) (sia z r (zx a) (znar 50 b)) Q) := zw_iast rfl
theorem s138_85 {x0 x1 x2 : Value} : ZW zG d 138 85 [x0, x1, x2] st z Q = (zir x0 = true ∧ ZW zG d 138 86 [x0, x1, x2] (x0 :: st) z Q) := zw_cond (f := z_aload 0 86) rfl rfl
theorem s138_86 {ls : List Value} {r : Nat} : ZW zG d 138 86 ls (.ref r :: st) z Q = ((zcls z r = 12 ∧ zir (zfr z r 14) = true) ∧ ZW zG d 138 89 ls (zfr z r 14 :: st) (z) Q) := zw_getR rfl
theorem s138_89 {ls : List Value}  : ZW zG d 138 89 ls (st) z Q = ZW zG d 138 91 ls ((.int (nI 10)) :: st) z Q := zw_push rfl
theorem s138_91 {ls : List Value}  : ZW zG d 138 91 ls (st) z Q = ZW zG d 138 93 ls ((.int (nI 9)) :: st) z Q := zw_push rfl
theorem s138_93 {x0 x1 : Value} {a : Int32} : ZW zG d 138 93 [x0, x1, .int a] st z Q = ZW zG d 138 94 [x0, x1, .int a] (.int a :: st) z Q := zw_next (f := z_iload 2 94) rfl rfl
theorem s138_94 {ls : List Value} {a b : Int32} : ZW zG d 138 94 ls (.int b :: .int a :: st) z Q = ZW zG d 138 95 ls (.int (a * b) :: st) z Q := zw_imul rfl
theorem s138_95 {ls : List Value} {a b : Int32} : ZW zG d 138 95 ls (.int b :: .int a :: st) z Q = ZW zG d 138 96 ls (.int (a + b) :: st) z Q := zw_iadd rfl
theorem s138_96 {ls : List Value}  : ZW zG d 138 96 ls (st) z Q = ZW zG d 138 98 ls ((.int (nI 8)) :: st) z Q := zw_push rfl
theorem s138_98 {ls : List Value} {a b : Int32} : ZW zG d 138 98 ls (.int b :: .int a :: st) z Q = ZW zG d 138 99 ls (.int (a + b) :: st) z Q := zw_iadd rfl
theorem s138_99 {ls : List Value} {a : Int32} {r : Nat} : ZW zG d 138 99 ls (.int a :: .ref r :: st) z Q = ZW zG d 138 100 ls (.int a :: .ref r :: .int a :: .ref r :: st) z Q := zw_dup2 rfl
theorem s138_100 {ls : List Value} {a : Int32} {r : Nat} : ZW zG d 138 100 ls (.int a :: .ref r :: st) z Q = ((zcls z r = 50 ∧ zin a (zlen z r) = true) ∧ ZW zG d 138 101 ls (.int (zia z r (zx a)) :: st) (z) Q) := zw_iald rfl
theorem s138_101 {ls : List Value}  : ZW zG d 138 101 ls (st) z Q = ZW zG d 138 102 ls ((.int (nI 1)) :: st) z Q := zw_push rfl
theorem s138_102 {x0 x2 : Value} {a : Int32} : ZW zG d 138 102 [x0, .int a, x2] st z Q = ZW zG d 138 103 [x0, .int a, x2] (.int a :: st) z Q := zw_next (f := z_iload 1 103) rfl rfl
theorem s138_103 {ls : List Value} {a b : Int32} : ZW zG d 138 103 ls (.int b :: .int a :: st) z Q = ZW zG d 138 104 ls (.int (a <<< (b &&& 31)) :: st) z Q := zw_ishl rfl
theorem s138_104 {ls : List Value} {a b : Int32} : ZW zG d 138 104 ls (.int b :: .int a :: st) z Q = ZW zG d 138 105 ls (.int (a ||| b) :: st) z Q := zw_ior rfl
theorem s138_105 {ls : List Value} {a b : Int32} {r : Nat} : ZW zG d 138 105 ls (.int b :: .int a :: .ref r :: st) z Q = ((zcls z r = 50 ∧ zin a (zlen z r) = true) ∧ ZW zG d 138 106 ls (st) (sia z r (zx a) (znar 50 b)) Q) := zw_iast rfl
theorem s138_106 {ls : List Value}  : ZW zG d 138 106 ls ([]) z Q = Q (.inl none) z := zw_ret rfl
/-- X12_ofHouse (II)I -/
theorem e139 {r0 : Nat} {v0 : Int32} {v1 : Int32} : ZC zG d 139 [.ref r0, .int v0, .int v1] z Q = ZW zG d 139 0 [.ref r0, .int v0, .int v1] [] z Q := rfl
theorem s139_0 {x0 x1 x2 : Value} : ZW zG d 139 0 [x0, x1, x2] st z Q = (zir x0 = true ∧ ZW zG d 139 1 [x0, x1, x2] (x0 :: st) z Q) := zw_cond (f := z_aload 0 1) rfl rfl
theorem s139_1 {ls : List Value} {r : Nat} : ZW zG d 139 1 ls (.ref r :: st) z Q = ((zcls z r = 12 ∧ zir (zfr z r 1) = true) ∧ ZW zG d 139 4 ls (zfr z r 1 :: st) (z) Q) := zw_getR rfl
theorem s139_4 {ls : List Value}  : ZW zG d 139 4 ls (st) z Q = ZW zG d 139 6 ls ((.int (nI 10)) :: st) z Q := zw_push rfl
theorem s139_6 {ls : List Value}  : ZW zG d 139 6 ls (st) z Q = ZW zG d 139 8 ls ((.int (nI 9)) :: st) z Q := zw_push rfl
theorem s139_8 {x0 x2 : Value} {a : Int32} : ZW zG d 139 8 [x0, .int a, x2] st z Q = ZW zG d 139 9 [x0, .int a, x2] (.int a :: st) z Q := zw_next (f := z_iload 1 9) rfl rfl
theorem s139_9 {ls : List Value} {a b : Int32} : ZW zG d 139 9 ls (.int b :: .int a :: st) z Q = ZW zG d 139 10 ls (.int (a * b) :: st) z Q := zw_imul rfl
theorem s139_10 {ls : List Value} {a b : Int32} : ZW zG d 139 10 ls (.int b :: .int a :: st) z Q = ZW zG d 139 11 ls (.int (a + b) :: st) z Q := zw_iadd rfl
theorem s139_11 {x0 x1 : Value} {a : Int32} : ZW zG d 139 11 [x0, x1, .int a] st z Q = ZW zG d 139 12 [x0, x1, .int a] (.int a :: st) z Q := zw_next (f := z_iload 2 12) rfl rfl
theorem s139_12 {ls : List Value} {a b : Int32} : ZW zG d 139 12 ls (.int b :: .int a :: st) z Q = ZW zG d 139 13 ls (.int (a + b) :: st) z Q := zw_iadd rfl
theorem s139_13 {ls : List Value} {a : Int32} {r : Nat} : ZW zG d 139 13 ls (.int a :: .ref r :: st) z Q = ((zcls z r = 50 ∧ zin a (zlen z r) = true) ∧ ZW zG d 139 14 ls (.int (zia z r (zx a)) :: st) (z) Q) := zw_iald rfl
theorem s139_14 {ls : List Value} {a : Int32} : ZW zG d 139 14 ls ([.int a]) z Q = Q (.inl (some (.int a))) z := zw_reti rfl
/-- X12_days (I)I -/
theorem e140 {r0 : Nat} {v0 : Int32} : ZC zG d 140 [.ref r0, .int v0] z Q = ZW zG d 140 0 [.ref r0, .int v0] [] z Q := rfl
theorem s140_0 {x0 : Value} {a : Int32} : ZW zG d 140 0 [x0, .int a] st z Q = ZW zG d 140 1 [x0, .int a] (.int a :: st) z Q := zw_next (f := z_iload 1 1) rfl rfl
theorem s140_1 {ls : List Value} {a : Int32} : ZW zG d 140 1 ls (.int a :: st) z Q = ZW zG d 140 2 ls (.long a.toInt64 :: st) z Q := zw_i2l rfl
theorem s140_2 {ls : List Value}  : ZW zG d 140 2 ls (st) z Q = ZW zG d 140 3 ls ((.long (lN 0)) :: st) z Q := zw_push rfl
theorem s140_3 {ls : List Value}  : ZW zG d 140 3 ls (st) z Q = ZW zG d 140 6 ls ((.long (lN 60)) :: st) z Q := zw_push rfl
theorem s140_6 {ls : List Value} {w0 : Int64} {w1 : Int64} {w2 : Int64} : ZW zG (d + 1) 140 6 ls (.long w2 :: .long w1 :: .long w0 :: st) z Q = (zcs st = true ∧ ZC zG d 114 [.long w0, .long w1, .long w2] z (zk zG (d + 1) 140 (none) 9 ls st Q)) := zc_S3 rfl (Nat.le_of_ble_eq_true rfl)
theorem s140_9 {ls : List Value} {a : Int32} : ZW zG d 140 9 ls (.int a :: st) z Q = if a = 0 then ZW zG d 140 24 ls st z Q else ZW zG d 140 12 ls st z Q := zw_ifeq rfl
theorem s140_12 {x0 x1 : Value} : ZW zG d 140 12 [x0, x1] st z Q = (zir x0 = true ∧ ZW zG d 140 13 [x0, x1] (x0 :: st) z Q) := zw_cond (f := z_aload 0 13) rfl rfl
theorem s140_13 {ls : List Value}  {r : Nat} : ZW zG (d + 1) 140 13 ls (.ref r :: st) z Q = (zcls z r = 12 ∧ zcs st = true ∧ ZC zG d 141 [.ref r] z (zk zG (d + 1) 140 (none) 16 ls st Q)) := zc_V0 rfl (Nat.le_of_ble_eq_true rfl)
theorem s140_16 {x0 : Value} {a : Int32} : ZW zG d 140 16 [x0, .int a] st z Q = ZW zG d 140 17 [x0, .int a] (.int a :: st) z Q := zw_next (f := z_iload 1 17) rfl rfl
theorem s140_17 {ls : List Value} {a b : Int32} : ZW zG d 140 17 ls (.int b :: .int a :: st) z Q = ZW zG d 140 18 ls (.int (a + b) :: st) z Q := zw_iadd rfl
theorem s140_18 {ls : List Value}  : ZW zG d 140 18 ls (st) z Q = ZW zG d 140 21 ls ((.int (nI 399)) :: st) z Q := zw_push rfl
theorem s140_21 {ls : List Value} {a b : Int32} : ZW zG d 140 21 ls (.int b :: .int a :: st) z Q = if a ≤ b then ZW zG d 140 27 ls st z Q else ZW zG d 140 24 ls st z Q := zw_icle rfl
theorem s140_24 {ls : List Value}  : ZW zG d 140 24 ls (st) z Q = ZW zG d 140 26 ls ((.int (-2)) :: st) z Q := zw_push rfl
theorem s140_26 {ls : List Value} {a : Int32} : ZW zG d 140 26 ls ([.int a]) z Q = Q (.inl (some (.int a))) z := zw_reti rfl
theorem s140_27 {x0 x1 : Value} : ZW zG d 140 27 [x0, x1] st z Q = (zir x0 = true ∧ ZW zG d 140 28 [x0, x1] (x0 :: st) z Q) := zw_cond (f := z_aload 0 28) rfl rfl
theorem s140_28 {ls : List Value} {r : Nat} : ZW zG d 140 28 ls (.ref r :: st) z Q = ((zcls z r = 12 ∧ zir (zfr z r 1) = true) ∧ ZW zG d 140 31 ls (zfr z r 1 :: st) (z) Q) := zw_getR rfl
theorem s140_31 {ls : List Value}  : ZW zG d 140 31 ls (st) z Q = ZW zG d 140 33 ls ((.int (nI 6)) :: st) z Q := zw_push rfl
theorem s140_33 {ls : List Value} {a : Int32} {r : Nat} : ZW zG d 140 33 ls (.int a :: .ref r :: st) z Q = ZW zG d 140 34 ls (.int a :: .ref r :: .int a :: .ref r :: st) z Q := zw_dup2 rfl
theorem s140_34 {ls : List Value} {a : Int32} {r : Nat} : ZW zG d 140 34 ls (.int a :: .ref r :: st) z Q = ((zcls z r = 50 ∧ zin a (zlen z r) = true) ∧ ZW zG d 140 35 ls (.int (zia z r (zx a)) :: st) (z) Q) := zw_iald rfl
theorem s140_35 {x0 : Value} {a : Int32} : ZW zG d 140 35 [x0, .int a] st z Q = ZW zG d 140 36 [x0, .int a] (.int a :: st) z Q := zw_next (f := z_iload 1 36) rfl rfl
theorem s140_36 {ls : List Value} {a b : Int32} : ZW zG d 140 36 ls (.int b :: .int a :: st) z Q = ZW zG d 140 37 ls (.int (a + b) :: st) z Q := zw_iadd rfl
theorem s140_37 {ls : List Value} {a b : Int32} {r : Nat} : ZW zG d 140 37 ls (.int b :: .int a :: .ref r :: st) z Q = ((zcls z r = 50 ∧ zin a (zlen z r) = true) ∧ ZW zG d 140 38 ls (st) (sia z r (zx a) (znar 50 b)) Q) := zw_iast rfl
theorem s140_38 {x0 x1 : Value} : ZW zG d 140 38 [x0, x1] st z Q = (zir x0 = true ∧ ZW zG d 140 39 [x0, x1] (x0 :: st) z Q) := zw_cond (f := z_aload 0 39) rfl rfl
theorem s140_39 {ls : List Value}  {r : Nat} : ZW zG (d + 1) 140 39 ls (.ref r :: st) z Q = (zcls z r = 12 ∧ zcs st = true ∧ ZC zG d 141 [.ref r] z (zk zG (d + 1) 140 (none) 42 ls st Q)) := zc_V0 rfl (Nat.le_of_ble_eq_true rfl)
theorem s140_42 {ls : List Value} {a : Int32} : ZW zG d 140 42 ls ([.int a]) z Q = Q (.inl (some (.int a))) z := zw_reti rfl
/-- X12_today ()I -/
theorem e141 {r0 : Nat} : ZC zG d 141 [.ref r0] z Q = ZW zG d 141 0 [.ref r0] [] z Q := rfl
theorem s141_0 {x0 : Value} : ZW zG d 141 0 [x0] st z Q = (zir x0 = true ∧ ZW zG d 141 1 [x0] (x0 :: st) z Q) := zw_cond (f := z_aload 0 1) rfl rfl
theorem s141_1 {ls : List Value} {r : Nat} : ZW zG d 141 1 ls (.ref r :: st) z Q = ((zcls z r = 12 ∧ zir (zfr z r 1) = true) ∧ ZW zG d 141 4 ls (zfr z r 1 :: st) (z) Q) := zw_getR rfl
theorem s141_4 {ls : List Value}  : ZW zG d 141 4 ls (st) z Q = ZW zG d 141 6 ls ((.int (nI 6)) :: st) z Q := zw_push rfl
theorem s141_6 {ls : List Value} {a : Int32} {r : Nat} : ZW zG d 141 6 ls (.int a :: .ref r :: st) z Q = ((zcls z r = 50 ∧ zin a (zlen z r) = true) ∧ ZW zG d 141 7 ls (.int (zia z r (zx a)) :: st) (z) Q) := zw_iald rfl
theorem s141_7 {ls : List Value} {a : Int32} : ZW zG d 141 7 ls ([.int a]) z Q = Q (.inl (some (.int a))) z := zw_reti rfl
/-- X12_bars (III)I -/
theorem e142 {r0 : Nat} {v0 : Int32} {v1 : Int32} {v2 : Int32} : ZC zG d 142 [.ref r0, .int v0, .int v1, .int v2] z Q = ZW zG d 142 0 [.ref r0, .int v0, .int v1, .int v2] [] z Q := rfl
theorem s142_0 {x0 x1 x2 x3 : Value} : ZW zG d 142 0 [x0, x1, x2, x3] st z Q = (zir x0 = true ∧ ZW zG d 142 1 [x0, x1, x2, x3] (x0 :: st) z Q) := zw_cond (f := z_aload 0 1) rfl rfl
theorem s142_1 {x0 x2 x3 : Value} {a : Int32} : ZW zG d 142 1 [x0, .int a, x2, x3] st z Q = ZW zG d 142 2 [x0, .int a, x2, x3] (.int a :: st) z Q := zw_next (f := z_iload 1 2) rfl rfl
theorem s142_2 {x0 x1 x3 : Value} {a : Int32} : ZW zG d 142 2 [x0, x1, .int a, x3] st z Q = ZW zG d 142 3 [x0, x1, .int a, x3] (.int a :: st) z Q := zw_next (f := z_iload 2 3) rfl rfl
theorem s142_3 {ls : List Value} {w0 : Int32} {w1 : Int32} {r : Nat} : ZW zG (d + 1) 142 3 ls (.int w1 :: .int w0 :: .ref r :: st) z Q = (zcls z r = 12 ∧ zcs st = true ∧ ZC zG d 143 [.ref r, .int w0, .int w1] z (zk zG (d + 1) 142 (none) 6 ls st Q)) := zc_V2 rfl (Nat.le_of_ble_eq_true rfl)
theorem s142_6 {ls : List Value} {a : Int32} : ZW zG d 142 6 ls (.int a :: st) z Q = if a = 0 then ZW zG d 142 26 ls st z Q else ZW zG d 142 9 ls st z Q := zw_ifeq rfl
theorem s142_9 {x0 x1 x2 : Value} {a : Int32} : ZW zG d 142 9 [x0, x1, x2, .int a] st z Q = ZW zG d 142 10 [x0, x1, x2, .int a] (.int a :: st) z Q := zw_next (f := z_iload 3 10) rfl rfl
theorem s142_10 {ls : List Value} {w0 : Int32} : ZW zG (d + 1) 142 10 ls (.int w0 :: st) z Q = (zcs st = true ∧ ZC zG d 145 [.int w0] z (zk zG (d + 1) 142 (none) 13 ls st Q)) := zc_S1 rfl (Nat.le_of_ble_eq_true rfl)
theorem s142_13 {ls : List Value} {a : Int32} : ZW zG d 142 13 ls (.int a :: st) z Q = if a = 0 then ZW zG d 142 26 ls st z Q else ZW zG d 142 16 ls st z Q := zw_ifeq rfl
theorem s142_16 {x0 x1 x2 x3 : Value} : ZW zG d 142 16 [x0, x1, x2, x3] st z Q = (zir x0 = true ∧ ZW zG d 142 17 [x0, x1, x2, x3] (x0 :: st) z Q) := zw_cond (f := z_aload 0 17) rfl rfl
theorem s142_17 {x0 x2 x3 : Value} {a : Int32} : ZW zG d 142 17 [x0, .int a, x2, x3] st z Q = ZW zG d 142 18 [x0, .int a, x2, x3] (.int a :: st) z Q := zw_next (f := z_iload 1 18) rfl rfl
theorem s142_18 {x0 x1 x3 : Value} {a : Int32} : ZW zG d 142 18 [x0, x1, .int a, x3] st z Q = ZW zG d 142 19 [x0, x1, .int a, x3] (.int a :: st) z Q := zw_next (f := z_iload 2 19) rfl rfl
theorem s142_19 {x0 x1 x2 : Value} {a : Int32} : ZW zG d 142 19 [x0, x1, x2, .int a] st z Q = ZW zG d 142 20 [x0, x1, x2, .int a] (.int a :: st) z Q := zw_next (f := z_iload 3 20) rfl rfl
theorem s142_20 {ls : List Value} {w0 : Int32} {w1 : Int32} {w2 : Int32} {r : Nat} : ZW zG (d + 1) 142 20 ls (.int w2 :: .int w1 :: .int w0 :: .ref r :: st) z Q = (zcls z r = 12 ∧ zcs st = true ∧ ZC zG d 146 [.ref r, .int w0, .int w1, .int w2] z (zk zG (d + 1) 142 (none) 23 ls st Q)) := zc_V3 rfl (Nat.le_of_ble_eq_true rfl)
theorem s142_23 {ls : List Value}  : ZW zG d 142 23 ls (st) z Q = ZW zG d 142 28 ls st z Q := zw_goto rfl
theorem s142_26 {ls : List Value}  : ZW zG d 142 26 ls (st) z Q = ZW zG d 142 28 ls ((.int (-2)) :: st) z Q := zw_push rfl
theorem s142_28 {ls : List Value} {a : Int32} : ZW zG d 142 28 ls ([.int a]) z Q = Q (.inl (some (.int a))) z := zw_reti rfl
/-- X12_areTwo (II)Z -/
theorem e143 {r0 : Nat} {v0 : Int32} {v1 : Int32} : ZC zG d 143 [.ref r0, .int v0, .int v1] z Q = ZW zG d 143 0 [.ref r0, .int v0, .int v1] [] z Q := rfl
theorem s143_0 {x0 x1 x2 : Value} : ZW zG d 143 0 [x0, x1, x2] st z Q = (zir x0 = true ∧ ZW zG d 143 1 [x0, x1, x2] (x0 :: st) z Q) := zw_cond (f := z_aload 0 1) rfl rfl
theorem s143_1 {x0 x2 : Value} {a : Int32} : ZW zG d 143 1 [x0, .int a, x2] st z Q = ZW zG d 143 2 [x0, .int a, x2] (.int a :: st) z Q := zw_next (f := z_iload 1 2) rfl rfl
theorem s143_2 {ls : List Value} {w0 : Int32} {r : Nat} : ZW zG (d + 1) 143 2 ls (.int w0 :: .ref r :: st) z Q = (zcls z r = 12 ∧ zcs st = true ∧ ZC zG d 144 [.ref r, .int w0] z (zk zG (d + 1) 143 (none) 5 ls st Q)) := zc_V1 rfl (Nat.le_of_ble_eq_true rfl)
theorem s143_5 {ls : List Value} {a : Int32} : ZW zG d 143 5 ls (.int a :: st) z Q = if a = 0 then ZW zG d 143 25 ls st z Q else ZW zG d 143 8 ls st z Q := zw_ifeq rfl
theorem s143_8 {x0 x1 x2 : Value} : ZW zG d 143 8 [x0, x1, x2] st z Q = (zir x0 = true ∧ ZW zG d 143 9 [x0, x1, x2] (x0 :: st) z Q) := zw_cond (f := z_aload 0 9) rfl rfl
theorem s143_9 {x0 x1 : Value} {a : Int32} : ZW zG d 143 9 [x0, x1, .int a] st z Q = ZW zG d 143 10 [x0, x1, .int a] (.int a :: st) z Q := zw_next (f := z_iload 2 10) rfl rfl
theorem s143_10 {ls : List Value} {w0 : Int32} {r : Nat} : ZW zG (d + 1) 143 10 ls (.int w0 :: .ref r :: st) z Q = (zcls z r = 12 ∧ zcs st = true ∧ ZC zG d 144 [.ref r, .int w0] z (zk zG (d + 1) 143 (none) 13 ls st Q)) := zc_V1 rfl (Nat.le_of_ble_eq_true rfl)
theorem s143_13 {ls : List Value} {a : Int32} : ZW zG d 143 13 ls (.int a :: st) z Q = if a = 0 then ZW zG d 143 25 ls st z Q else ZW zG d 143 16 ls st z Q := zw_ifeq rfl
theorem s143_16 {x0 x2 : Value} {a : Int32} : ZW zG d 143 16 [x0, .int a, x2] st z Q = ZW zG d 143 17 [x0, .int a, x2] (.int a :: st) z Q := zw_next (f := z_iload 1 17) rfl rfl
theorem s143_17 {x0 x1 : Value} {a : Int32} : ZW zG d 143 17 [x0, x1, .int a] st z Q = ZW zG d 143 18 [x0, x1, .int a] (.int a :: st) z Q := zw_next (f := z_iload 2 18) rfl rfl
theorem s143_18 {ls : List Value} {a b : Int32} : ZW zG d 143 18 ls (.int b :: .int a :: st) z Q = if a = b then ZW zG d 143 25 ls st z Q else ZW zG d 143 21 ls st z Q := zw_iceq rfl
theorem s143_21 {ls : List Value}  : ZW zG d 143 21 ls (st) z Q = ZW zG d 143 22 ls ((.int (nI 1)) :: st) z Q := zw_push rfl
theorem s143_22 {ls : List Value}  : ZW zG d 143 22 ls (st) z Q = ZW zG d 143 26 ls st z Q := zw_goto rfl
theorem s143_25 {ls : List Value}  : ZW zG d 143 25 ls (st) z Q = ZW zG d 143 26 ls ((.int (nI 0)) :: st) z Q := zw_push rfl
theorem s143_26 {ls : List Value} {a : Int32} : ZW zG d 143 26 ls ([.int a]) z Q = ((a = 0 ∨ a = 1) ∧ Q (.inl (some (.int a))) z) := zw_retz rfl
/-- X12_isHouse (I)Z -/
theorem e144 {r0 : Nat} {v0 : Int32} : ZC zG d 144 [.ref r0, .int v0] z Q = ZW zG d 144 0 [.ref r0, .int v0] [] z Q := rfl
theorem s144_0 {x0 : Value} {a : Int32} : ZW zG d 144 0 [x0, .int a] st z Q = ZW zG d 144 1 [x0, .int a] (.int a :: st) z Q := zw_next (f := z_iload 1 1) rfl rfl
theorem s144_1 {ls : List Value} {a : Int32} : ZW zG d 144 1 ls (.int a :: st) z Q = ZW zG d 144 2 ls (.long a.toInt64 :: st) z Q := zw_i2l rfl
theorem s144_2 {ls : List Value}  : ZW zG d 144 2 ls (st) z Q = ZW zG d 144 3 ls ((.long (lN 0)) :: st) z Q := zw_push rfl
theorem s144_3 {x0 x1 : Value} : ZW zG d 144 3 [x0, x1] st z Q = (zir x0 = true ∧ ZW zG d 144 4 [x0, x1] (x0 :: st) z Q) := zw_cond (f := z_aload 0 4) rfl rfl
theorem s144_4 {ls : List Value} {r : Nat} : ZW zG d 144 4 ls (.ref r :: st) z Q = ((zcls z r = 12 ∧ zir (zfr z r 1) = true) ∧ ZW zG d 144 7 ls (zfr z r 1 :: st) (z) Q) := zw_getR rfl
theorem s144_7 {ls : List Value}  : ZW zG d 144 7 ls (st) z Q = ZW zG d 144 8 ls ((.int (nI 0)) :: st) z Q := zw_push rfl
theorem s144_8 {ls : List Value} {a : Int32} {r : Nat} : ZW zG d 144 8 ls (.int a :: .ref r :: st) z Q = ((zcls z r = 50 ∧ zin a (zlen z r) = true) ∧ ZW zG d 144 9 ls (.int (zia z r (zx a)) :: st) (z) Q) := zw_iald rfl
theorem s144_9 {ls : List Value}  : ZW zG d 144 9 ls (st) z Q = ZW zG d 144 10 ls ((.int (nI 1)) :: st) z Q := zw_push rfl
theorem s144_10 {ls : List Value} {a b : Int32} : ZW zG d 144 10 ls (.int b :: .int a :: st) z Q = ZW zG d 144 11 ls (.int (a - b) :: st) z Q := zw_isub rfl
theorem s144_11 {ls : List Value} {a : Int32} : ZW zG d 144 11 ls (.int a :: st) z Q = ZW zG d 144 12 ls (.long a.toInt64 :: st) z Q := zw_i2l rfl
theorem s144_12 {ls : List Value} {w0 : Int64} {w1 : Int64} {w2 : Int64} : ZW zG (d + 1) 144 12 ls (.long w2 :: .long w1 :: .long w0 :: st) z Q = (zcs st = true ∧ ZC zG d 114 [.long w0, .long w1, .long w2] z (zk zG (d + 1) 144 (none) 15 ls st Q)) := zc_S3 rfl (Nat.le_of_ble_eq_true rfl)
theorem s144_15 {ls : List Value} {a : Int32} : ZW zG d 144 15 ls ([.int a]) z Q = ((a = 0 ∨ a = 1) ∧ Q (.inl (some (.int a))) z) := zw_retz rfl
/-- X12_isPaying (I)Z -/
theorem e145 {v0 : Int32} : ZC zG d 145 [.int v0] z Q = ZW zG d 145 0 [.int v0] [] z Q := rfl
theorem s145_0 {a : Int32} : ZW zG d 145 0 [.int a] st z Q = ZW zG d 145 1 [.int a] (.int a :: st) z Q := zw_next (f := z_iload 0 1) rfl rfl
theorem s145_1 {ls : List Value} {a : Int32} : ZW zG d 145 1 ls (.int a :: st) z Q = ZW zG d 145 2 ls (.long a.toInt64 :: st) z Q := zw_i2l rfl
theorem s145_2 {ls : List Value}  : ZW zG d 145 2 ls (st) z Q = ZW zG d 145 3 ls ((.long (lN 0)) :: st) z Q := zw_push rfl
theorem s145_3 {ls : List Value}  : ZW zG d 145 3 ls (st) z Q = ZW zG d 145 6 ls ((.long (lN 3)) :: st) z Q := zw_push rfl
theorem s145_6 {ls : List Value} {w0 : Int64} {w1 : Int64} {w2 : Int64} : ZW zG (d + 1) 145 6 ls (.long w2 :: .long w1 :: .long w0 :: st) z Q = (zcs st = true ∧ ZC zG d 114 [.long w0, .long w1, .long w2] z (zk zG (d + 1) 145 (none) 9 ls st Q)) := zc_S3 rfl (Nat.le_of_ble_eq_true rfl)
theorem s145_9 {ls : List Value} {a : Int32} : ZW zG d 145 9 ls ([.int a]) z Q = ((a = 0 ∨ a = 1) ∧ Q (.inl (some (.int a))) z) := zw_retz rfl
/-- X12_barsOf (III)I -/
theorem e146 {r0 : Nat} {v0 : Int32} {v1 : Int32} {v2 : Int32} : ZC zG d 146 [.ref r0, .int v0, .int v1, .int v2] z Q = ZW zG d 146 0 [.ref r0, .int v0, .int v1, .int v2, zdum, zdum] [] z Q := rfl
theorem s146_0 {x0 x1 x2 x3 x4 x5 : Value} : ZW zG d 146 0 [x0, x1, x2, x3, x4, x5] st z Q = (zir x0 = true ∧ ZW zG d 146 1 [x0, x1, x2, x3, x4, x5] (x0 :: st) z Q) := zw_cond (f := z_aload 0 1) rfl rfl
theorem s146_1 {x0 x2 x3 x4 x5 : Value} {a : Int32} : ZW zG d 146 1 [x0, .int a, x2, x3, x4, x5] st z Q = ZW zG d 146 2 [x0, .int a, x2, x3, x4, x5] (.int a :: st) z Q := zw_next (f := z_iload 1 2) rfl rfl
theorem s146_2 {x0 x1 x2 x3 x4 x5 : Value} : ZW zG d 146 2 [x0, x1, x2, x3, x4, x5] st z Q = (zir x0 = true ∧ ZW zG d 146 3 [x0, x1, x2, x3, x4, x5] (x0 :: st) z Q) := zw_cond (f := z_aload 0 3) rfl rfl
theorem s146_3 {ls : List Value}  {r : Nat} : ZW zG (d + 1) 146 3 ls (.ref r :: st) z Q = (zcls z r = 12 ∧ zcs st = true ∧ ZC zG d 141 [.ref r] z (zk zG (d + 1) 146 (none) 6 ls st Q)) := zc_V0 rfl (Nat.le_of_ble_eq_true rfl)
theorem s146_6 {ls : List Value} {w0 : Int32} {w1 : Int32} {r : Nat} : ZW zG (d + 1) 146 6 ls (.int w1 :: .int w0 :: .ref r :: st) z Q = (zcls z r = 12 ∧ zcs st = true ∧ ZC zG d 147 [.ref r, .int w0, .int w1] z (zk zG (d + 1) 146 (none) 9 ls st Q)) := zc_V2 rfl (Nat.le_of_ble_eq_true rfl)
theorem s146_9 {ls : List Value} {a : Int32} : ZW zG d 146 9 ls (.int a :: st) z Q = if a = 0 then ZW zG d 146 28 ls st z Q else ZW zG d 146 12 ls st z Q := zw_ifeq rfl
theorem s146_12 {x0 x1 x2 x3 x4 x5 : Value} : ZW zG d 146 12 [x0, x1, x2, x3, x4, x5] st z Q = (zir x0 = true ∧ ZW zG d 146 13 [x0, x1, x2, x3, x4, x5] (x0 :: st) z Q) := zw_cond (f := z_aload 0 13) rfl rfl
theorem s146_13 {x0 x1 x3 x4 x5 : Value} {a : Int32} : ZW zG d 146 13 [x0, x1, .int a, x3, x4, x5] st z Q = ZW zG d 146 14 [x0, x1, .int a, x3, x4, x5] (.int a :: st) z Q := zw_next (f := z_iload 2 14) rfl rfl
theorem s146_14 {x0 x1 x2 x3 x4 x5 : Value} : ZW zG d 146 14 [x0, x1, x2, x3, x4, x5] st z Q = (zir x0 = true ∧ ZW zG d 146 15 [x0, x1, x2, x3, x4, x5] (x0 :: st) z Q) := zw_cond (f := z_aload 0 15) rfl rfl
theorem s146_15 {ls : List Value}  {r : Nat} : ZW zG (d + 1) 146 15 ls (.ref r :: st) z Q = (zcls z r = 12 ∧ zcs st = true ∧ ZC zG d 141 [.ref r] z (zk zG (d + 1) 146 (none) 18 ls st Q)) := zc_V0 rfl (Nat.le_of_ble_eq_true rfl)
theorem s146_18 {ls : List Value} {w0 : Int32} {w1 : Int32} {r : Nat} : ZW zG (d + 1) 146 18 ls (.int w1 :: .int w0 :: .ref r :: st) z Q = (zcls z r = 12 ∧ zcs st = true ∧ ZC zG d 147 [.ref r, .int w0, .int w1] z (zk zG (d + 1) 146 (none) 21 ls st Q)) := zc_V2 rfl (Nat.le_of_ble_eq_true rfl)
theorem s146_21 {ls : List Value} {a : Int32} : ZW zG d 146 21 ls (.int a :: st) z Q = if a = 0 then ZW zG d 146 28 ls st z Q else ZW zG d 146 24 ls st z Q := zw_ifeq rfl
theorem s146_24 {ls : List Value}  : ZW zG d 146 24 ls (st) z Q = ZW zG d 146 25 ls ((.int (nI 1)) :: st) z Q := zw_push rfl
theorem s146_25 {ls : List Value}  : ZW zG d 146 25 ls (st) z Q = ZW zG d 146 29 ls st z Q := zw_goto rfl
theorem s146_28 {ls : List Value}  : ZW zG d 146 28 ls (st) z Q = ZW zG d 146 29 ls ((.int (nI 0)) :: st) z Q := zw_push rfl
theorem s146_29 {x0 x1 x2 x3 x4 x5 : Value} {a : Int32} : ZW zG d 146 29 [x0, x1, x2, x3, x4, x5] (.int a :: st) z Q = ZW zG d 146 31 [x0, x1, x2, zclr x3, .int a, x5] st z Q := zw_next (f := z_istore 4 31) rfl rfl
theorem s146_31 {x0 x1 x2 x3 x4 x5 : Value} : ZW zG d 146 31 [x0, x1, x2, x3, x4, x5] st z Q = (zir x0 = true ∧ ZW zG d 146 32 [x0, x1, x2, x3, x4, x5] (x0 :: st) z Q) := zw_cond (f := z_aload 0 32) rfl rfl
theorem s146_32 {x0 x2 x3 x4 x5 : Value} {a : Int32} : ZW zG d 146 32 [x0, .int a, x2, x3, x4, x5] st z Q = ZW zG d 146 33 [x0, .int a, x2, x3, x4, x5] (.int a :: st) z Q := zw_next (f := z_iload 1 33) rfl rfl
theorem s146_33 {x0 x1 x3 x4 x5 : Value} {a : Int32} : ZW zG d 146 33 [x0, x1, .int a, x3, x4, x5] st z Q = ZW zG d 146 34 [x0, x1, .int a, x3, x4, x5] (.int a :: st) z Q := zw_next (f := z_iload 2 34) rfl rfl
theorem s146_34 {ls : List Value} {w0 : Int32} {w1 : Int32} {r : Nat} : ZW zG (d + 1) 146 34 ls (.int w1 :: .int w0 :: .ref r :: st) z Q = (zcls z r = 12 ∧ zcs st = true ∧ ZC zG d 148 [.ref r, .int w0, .int w1] z (zk zG (d + 1) 146 (none) 37 ls st Q)) := zc_V2 rfl (Nat.le_of_ble_eq_true rfl)
theorem s146_37 {ls : List Value} {a : Int32} : ZW zG d 146 37 ls (.int a :: st) z Q = if ¬ a = 0 then ZW zG d 146 74 ls st z Q else ZW zG d 146 40 ls st z Q := zw_ifne rfl
theorem s146_40 {x0 x1 x2 x3 x4 x5 : Value} : ZW zG d 146 40 [x0, x1, x2, x3, x4, x5] st z Q = (zir x0 = true ∧ ZW zG d 146 41 [x0, x1, x2, x3, x4, x5] (x0 :: st) z Q) := zw_cond (f := z_aload 0 41) rfl rfl
theorem s146_41 {x0 x1 x3 x4 x5 : Value} {a : Int32} : ZW zG d 146 41 [x0, x1, .int a, x3, x4, x5] st z Q = ZW zG d 146 42 [x0, x1, .int a, x3, x4, x5] (.int a :: st) z Q := zw_next (f := z_iload 2 42) rfl rfl
theorem s146_42 {ls : List Value} {w0 : Int32} {r : Nat} : ZW zG (d + 1) 146 42 ls (.int w0 :: .ref r :: st) z Q = (zcls z r = 12 ∧ zcs st = true ∧ ZC zG d 150 [.ref r, .int w0] z (zk zG (d + 1) 146 (none) 45 ls st Q)) := zc_V1 rfl (Nat.le_of_ble_eq_true rfl)
theorem s146_45 {ls : List Value} {a : Int32} : ZW zG d 146 45 ls (.int a :: st) z Q = if a = 0 then ZW zG d 146 56 ls st z Q else ZW zG d 146 48 ls st z Q := zw_ifeq rfl
theorem s146_48 {x0 x1 x2 x3 x4 x5 : Value} : ZW zG d 146 48 [x0, x1, x2, x3, x4, x5] st z Q = (zir x0 = true ∧ ZW zG d 146 49 [x0, x1, x2, x3, x4, x5] (x0 :: st) z Q) := zw_cond (f := z_aload 0 49) rfl rfl
theorem s146_49 {x0 x2 x3 x4 x5 : Value} {a : Int32} : ZW zG d 146 49 [x0, .int a, x2, x3, x4, x5] st z Q = ZW zG d 146 50 [x0, .int a, x2, x3, x4, x5] (.int a :: st) z Q := zw_next (f := z_iload 1 50) rfl rfl
theorem s146_50 {ls : List Value} {w0 : Int32} {r : Nat} : ZW zG (d + 1) 146 50 ls (.int w0 :: .ref r :: st) z Q = (zcls z r = 12 ∧ zcs st = true ∧ ZC zG d 150 [.ref r, .int w0] z (zk zG (d + 1) 146 (none) 53 ls st Q)) := zc_V1 rfl (Nat.le_of_ble_eq_true rfl)
theorem s146_53 {ls : List Value} {a : Int32} : ZW zG d 146 53 ls (.int a :: st) z Q = if a = 0 then ZW zG d 146 74 ls st z Q else ZW zG d 146 56 ls st z Q := zw_ifeq rfl
theorem s146_56 {x0 x1 x2 x3 x4 x5 : Value} : ZW zG d 146 56 [x0, x1, x2, x3, x4, x5] st z Q = (zir x0 = true ∧ ZW zG d 146 57 [x0, x1, x2, x3, x4, x5] (x0 :: st) z Q) := zw_cond (f := z_aload 0 57) rfl rfl
theorem s146_57 {x0 x1 x2 x3 x4 x5 : Value} : ZW zG d 146 57 [x0, x1, x2, x3, x4, x5] st z Q = (zir x0 = true ∧ ZW zG d 146 58 [x0, x1, x2, x3, x4, x5] (x0 :: st) z Q) := zw_cond (f := z_aload 0 58) rfl rfl
theorem s146_58 {ls : List Value} {r : Nat} : ZW zG d 146 58 ls (.ref r :: st) z Q = ((zcls z r = 12 ∧ zir (zfr z r 1) = true) ∧ ZW zG d 146 61 ls (zfr z r 1 :: st) (z) Q) := zw_getR rfl
theorem s146_61 {ls : List Value}  : ZW zG d 146 61 ls (st) z Q = ZW zG d 146 64 ls ((.int (nI 1864)) :: st) z Q := zw_push rfl
theorem s146_64 {x0 x2 x3 x4 x5 : Value} {a : Int32} : ZW zG d 146 64 [x0, .int a, x2, x3, x4, x5] st z Q = ZW zG d 146 65 [x0, .int a, x2, x3, x4, x5] (.int a :: st) z Q := zw_next (f := z_iload 1 65) rfl rfl
theorem s146_65 {ls : List Value} {a b : Int32} : ZW zG d 146 65 ls (.int b :: .int a :: st) z Q = ZW zG d 146 66 ls (.int (a + b) :: st) z Q := zw_iadd rfl
theorem s146_66 {ls : List Value} {a : Int32} {r : Nat} : ZW zG d 146 66 ls (.int a :: .ref r :: st) z Q = ((zcls z r = 50 ∧ zin a (zlen z r) = true) ∧ ZW zG d 146 67 ls (.int (zia z r (zx a)) :: st) (z) Q) := zw_iald rfl
theorem s146_67 {x0 x1 x3 x4 x5 : Value} {a : Int32} : ZW zG d 146 67 [x0, x1, .int a, x3, x4, x5] st z Q = ZW zG d 146 68 [x0, x1, .int a, x3, x4, x5] (.int a :: st) z Q := zw_next (f := z_iload 2 68) rfl rfl
theorem s146_68 {ls : List Value} {w0 : Int32} {w1 : Int32} {r : Nat} : ZW zG (d + 1) 146 68 ls (.int w1 :: .int w0 :: .ref r :: st) z Q = (zcls z r = 12 ∧ zcs st = true ∧ ZC zG d 151 [.ref r, .int w0, .int w1] z (zk zG (d + 1) 146 (none) 71 ls st Q)) := zc_V2 rfl (Nat.le_of_ble_eq_true rfl)
theorem s146_71 {ls : List Value} {a : Int32} : ZW zG d 146 71 ls (.int a :: st) z Q = if a = 0 then ZW zG d 146 78 ls st z Q else ZW zG d 146 74 ls st z Q := zw_ifeq rfl
theorem s146_74 {ls : List Value}  : ZW zG d 146 74 ls (st) z Q = ZW zG d 146 75 ls ((.int (nI 1)) :: st) z Q := zw_push rfl
theorem s146_75 {ls : List Value}  : ZW zG d 146 75 ls (st) z Q = ZW zG d 146 79 ls st z Q := zw_goto rfl
theorem s146_78 {ls : List Value}  : ZW zG d 146 78 ls (st) z Q = ZW zG d 146 79 ls ((.int (nI 0)) :: st) z Q := zw_push rfl
theorem s146_79 {x0 x1 x2 x3 x4 x5 : Value} {a : Int32} : ZW zG d 146 79 [x0, x1, x2, x3, x4, x5] (.int a :: st) z Q = ZW zG d 146 81 [x0, x1, x2, x3, zclr x4, .int a] st z Q := zw_next (f := z_istore 5 81) rfl rfl
theorem s146_81 {x0 x1 x2 x3 x5 : Value} {a : Int32} : ZW zG d 146 81 [x0, x1, x2, x3, .int a, x5] st z Q = ZW zG d 146 83 [x0, x1, x2, x3, .int a, x5] (.int a :: st) z Q := zw_next (f := z_iload 4 83) rfl rfl
theorem s146_83 {ls : List Value} {a : Int32} : ZW zG d 146 83 ls (.int a :: st) z Q = if a = 0 then ZW zG d 146 91 ls st z Q else ZW zG d 146 86 ls st z Q := zw_ifeq rfl
theorem s146_86 {x0 x1 x2 x3 x4 : Value} {a : Int32} : ZW zG d 146 86 [x0, x1, x2, x3, x4, .int a] st z Q = ZW zG d 146 88 [x0, x1, x2, x3, x4, .int a] (.int a :: st) z Q := zw_next (f := z_iload 5 88) rfl rfl
theorem s146_88 {ls : List Value} {a : Int32} : ZW zG d 146 88 ls (.int a :: st) z Q = if ¬ a = 0 then ZW zG d 146 93 ls st z Q else ZW zG d 146 91 ls st z Q := zw_ifne rfl
theorem s146_91 {ls : List Value}  : ZW zG d 146 91 ls (st) z Q = ZW zG d 146 92 ls ((.int (nI 1)) :: st) z Q := zw_push rfl
theorem s146_92 {ls : List Value} {a : Int32} : ZW zG d 146 92 ls ([.int a]) z Q = Q (.inl (some (.int a))) z := zw_reti rfl
theorem s146_93 {x0 x1 x2 x4 x5 : Value} {a : Int32} : ZW zG d 146 93 [x0, x1, x2, .int a, x4, x5] st z Q = ZW zG d 146 94 [x0, x1, x2, .int a, x4, x5] (.int a :: st) z Q := zw_next (f := z_iload 3 94) rfl rfl
theorem s146_94 {ls : List Value}  : ZW zG d 146 94 ls (st) z Q = ZW zG d 146 95 ls ((.int (nI 2)) :: st) z Q := zw_push rfl
theorem s146_95 {ls : List Value} {a b : Int32} : ZW zG d 146 95 ls (.int b :: .int a :: st) z Q = if b ≤ a then ZW zG d 146 100 ls st z Q else ZW zG d 146 98 ls st z Q := zw_icge rfl
theorem s146_98 {ls : List Value}  : ZW zG d 146 98 ls (st) z Q = ZW zG d 146 99 ls ((.int (nI 0)) :: st) z Q := zw_push rfl
theorem s146_99 {ls : List Value} {a : Int32} : ZW zG d 146 99 ls ([.int a]) z Q = Q (.inl (some (.int a))) z := zw_reti rfl
theorem s146_100 {x0 x1 x2 x3 x4 x5 : Value} : ZW zG d 146 100 [x0, x1, x2, x3, x4, x5] st z Q = (zir x0 = true ∧ ZW zG d 146 101 [x0, x1, x2, x3, x4, x5] (x0 :: st) z Q) := zw_cond (f := z_aload 0 101) rfl rfl
theorem s146_101 {ls : List Value}  {r : Nat} : ZW zG (d + 1) 146 101 ls (.ref r :: st) z Q = (zcls z r = 12 ∧ zcs st = true ∧ ZC zG d 141 [.ref r] z (zk zG (d + 1) 146 (none) 104 ls st Q)) := zc_V0 rfl (Nat.le_of_ble_eq_true rfl)
theorem s146_104 {ls : List Value}  : ZW zG d 146 104 ls (st) z Q = ZW zG d 146 106 ls ((.int (nI 7)) :: st) z Q := zw_push rfl
theorem s146_106 {ls : List Value} {a b : Int32} : ZW zG d 146 106 ls (.int b :: .int a :: st) z Q = ((¬ b = 0) ∧ ZW zG d 146 107 ls (.int (a - a / b * b) :: st) (z) Q) := zw_irem rfl
theorem s146_107 {x0 x1 x2 x3 x4 x5 : Value} : ZW zG d 146 107 [x0, x1, x2, x3, x4, x5] st z Q = (zir x0 = true ∧ ZW zG d 146 108 [x0, x1, x2, x3, x4, x5] (x0 :: st) z Q) := zw_cond (f := z_aload 0 108) rfl rfl
theorem s146_108 {x0 x1 x3 x4 x5 : Value} {a : Int32} : ZW zG d 146 108 [x0, x1, .int a, x3, x4, x5] st z Q = ZW zG d 146 109 [x0, x1, .int a, x3, x4, x5] (.int a :: st) z Q := zw_next (f := z_iload 2 109) rfl rfl
theorem s146_109 {ls : List Value}  : ZW zG d 146 109 ls (st) z Q = ZW zG d 146 110 ls ((.int (nI 3)) :: st) z Q := zw_push rfl
theorem s146_110 {ls : List Value} {w0 : Int32} {w1 : Int32} {r : Nat} : ZW zG (d + 1) 146 110 ls (.int w1 :: .int w0 :: .ref r :: st) z Q = (zcls z r = 12 ∧ zcs st = true ∧ ZC zG d 139 [.ref r, .int w0, .int w1] z (zk zG (d + 1) 146 (none) 113 ls st Q)) := zc_V2 rfl (Nat.le_of_ble_eq_true rfl)
theorem s146_113 {ls : List Value} {a b : Int32} : ZW zG d 146 113 ls (.int b :: .int a :: st) z Q = if a = b then ZW zG d 146 118 ls st z Q else ZW zG d 146 116 ls st z Q := zw_iceq rfl
theorem s146_116 {ls : List Value}  : ZW zG d 146 116 ls (st) z Q = ZW zG d 146 117 ls ((.int (nI 2)) :: st) z Q := zw_push rfl
theorem s146_117 {ls : List Value} {a : Int32} : ZW zG d 146 117 ls ([.int a]) z Q = Q (.inl (some (.int a))) z := zw_reti rfl
theorem s146_118 {x0 x1 x2 x3 x4 x5 : Value} : ZW zG d 146 118 [x0, x1, x2, x3, x4, x5] st z Q = (zir x0 = true ∧ ZW zG d 146 119 [x0, x1, x2, x3, x4, x5] (x0 :: st) z Q) := zw_cond (f := z_aload 0 119) rfl rfl
theorem s146_119 {x0 x2 x3 x4 x5 : Value} {a : Int32} : ZW zG d 146 119 [x0, .int a, x2, x3, x4, x5] st z Q = ZW zG d 146 120 [x0, .int a, x2, x3, x4, x5] (.int a :: st) z Q := zw_next (f := z_iload 1 120) rfl rfl
theorem s146_120 {ls : List Value}  : ZW zG d 146 120 ls (st) z Q = ZW zG d 146 122 ls ((.int (nI 7)) :: st) z Q := zw_push rfl
theorem s146_122 {ls : List Value} {w0 : Int32} {w1 : Int32} {r : Nat} : ZW zG (d + 1) 146 122 ls (.int w1 :: .int w0 :: .ref r :: st) z Q = (zcls z r = 12 ∧ zcs st = true ∧ ZC zG d 139 [.ref r, .int w0, .int w1] z (zk zG (d + 1) 146 (none) 125 ls st Q)) := zc_V2 rfl (Nat.le_of_ble_eq_true rfl)
theorem s146_125 {ls : List Value} {a : Int32} : ZW zG d 146 125 ls (.int a :: st) z Q = if a ≤ 0 then ZW zG d 146 154 ls st z Q else ZW zG d 146 128 ls st z Q := zw_ifle rfl
theorem s146_128 {x0 x1 x2 x3 x4 x5 : Value} : ZW zG d 146 128 [x0, x1, x2, x3, x4, x5] st z Q = (zir x0 = true ∧ ZW zG d 146 129 [x0, x1, x2, x3, x4, x5] (x0 :: st) z Q) := zw_cond (f := z_aload 0 129) rfl rfl
theorem s146_129 {ls : List Value}  {r : Nat} : ZW zG (d + 1) 146 129 ls (.ref r :: st) z Q = (zcls z r = 12 ∧ zcs st = true ∧ ZC zG d 141 [.ref r] z (zk zG (d + 1) 146 (none) 132 ls st Q)) := zc_V0 rfl (Nat.le_of_ble_eq_true rfl)
theorem s146_132 {x0 x1 x2 x3 x4 x5 : Value} : ZW zG d 146 132 [x0, x1, x2, x3, x4, x5] st z Q = (zir x0 = true ∧ ZW zG d 146 133 [x0, x1, x2, x3, x4, x5] (x0 :: st) z Q) := zw_cond (f := z_aload 0 133) rfl rfl
theorem s146_133 {x0 x2 x3 x4 x5 : Value} {a : Int32} : ZW zG d 146 133 [x0, .int a, x2, x3, x4, x5] st z Q = ZW zG d 146 134 [x0, .int a, x2, x3, x4, x5] (.int a :: st) z Q := zw_next (f := z_iload 1 134) rfl rfl
theorem s146_134 {ls : List Value}  : ZW zG d 146 134 ls (st) z Q = ZW zG d 146 136 ls ((.int (nI 6)) :: st) z Q := zw_push rfl
theorem s146_136 {ls : List Value} {w0 : Int32} {w1 : Int32} {r : Nat} : ZW zG (d + 1) 146 136 ls (.int w1 :: .int w0 :: .ref r :: st) z Q = (zcls z r = 12 ∧ zcs st = true ∧ ZC zG d 139 [.ref r, .int w0, .int w1] z (zk zG (d + 1) 146 (none) 139 ls st Q)) := zc_V2 rfl (Nat.le_of_ble_eq_true rfl)
theorem s146_139 {x0 x1 x2 x3 x4 x5 : Value} : ZW zG d 146 139 [x0, x1, x2, x3, x4, x5] st z Q = (zir x0 = true ∧ ZW zG d 146 140 [x0, x1, x2, x3, x4, x5] (x0 :: st) z Q) := zw_cond (f := z_aload 0 140) rfl rfl
theorem s146_140 {x0 x2 x3 x4 x5 : Value} {a : Int32} : ZW zG d 146 140 [x0, .int a, x2, x3, x4, x5] st z Q = ZW zG d 146 141 [x0, .int a, x2, x3, x4, x5] (.int a :: st) z Q := zw_next (f := z_iload 1 141) rfl rfl
theorem s146_141 {ls : List Value}  : ZW zG d 146 141 ls (st) z Q = ZW zG d 146 143 ls ((.int (nI 7)) :: st) z Q := zw_push rfl
theorem s146_143 {ls : List Value} {w0 : Int32} {w1 : Int32} {r : Nat} : ZW zG (d + 1) 146 143 ls (.int w1 :: .int w0 :: .ref r :: st) z Q = (zcls z r = 12 ∧ zcs st = true ∧ ZC zG d 139 [.ref r, .int w0, .int w1] z (zk zG (d + 1) 146 (none) 146 ls st Q)) := zc_V2 rfl (Nat.le_of_ble_eq_true rfl)
theorem s146_146 {ls : List Value} {a b : Int32} : ZW zG d 146 146 ls (.int b :: .int a :: st) z Q = ZW zG d 146 147 ls (.int (a + b) :: st) z Q := zw_iadd rfl
theorem s146_147 {ls : List Value} {a b : Int32} : ZW zG d 146 147 ls (.int b :: .int a :: st) z Q = if b < a then ZW zG d 146 154 ls st z Q else ZW zG d 146 150 ls st z Q := zw_icgt rfl
theorem s146_150 {ls : List Value}  : ZW zG d 146 150 ls (st) z Q = ZW zG d 146 151 ls ((.int (nI 3)) :: st) z Q := zw_push rfl
theorem s146_151 {ls : List Value}  : ZW zG d 146 151 ls (st) z Q = ZW zG d 146 155 ls st z Q := zw_goto rfl
theorem s146_154 {ls : List Value}  : ZW zG d 146 154 ls (st) z Q = ZW zG d 146 155 ls ((.int (nI 0)) :: st) z Q := zw_push rfl
theorem s146_155 {ls : List Value} {a : Int32} : ZW zG d 146 155 ls ([.int a]) z Q = Q (.inl (some (.int a))) z := zw_reti rfl
/-- X12_isThere (II)Z -/
theorem e147 {r0 : Nat} {v0 : Int32} {v1 : Int32} : ZC zG d 147 [.ref r0, .int v0, .int v1] z Q = ZW zG d 147 0 [.ref r0, .int v0, .int v1] [] z Q := rfl
theorem s147_0 {x0 x1 x2 : Value} : ZW zG d 147 0 [x0, x1, x2] st z Q = (zir x0 = true ∧ ZW zG d 147 1 [x0, x1, x2] (x0 :: st) z Q) := zw_cond (f := z_aload 0 1) rfl rfl
theorem s147_1 {x0 x2 : Value} {a : Int32} : ZW zG d 147 1 [x0, .int a, x2] st z Q = ZW zG d 147 2 [x0, .int a, x2] (.int a :: st) z Q := zw_next (f := z_iload 1 2) rfl rfl
theorem s147_2 {ls : List Value}  : ZW zG d 147 2 ls (st) z Q = ZW zG d 147 4 ls ((.int (nI 6)) :: st) z Q := zw_push rfl
theorem s147_4 {ls : List Value} {w0 : Int32} {w1 : Int32} {r : Nat} : ZW zG (d + 1) 147 4 ls (.int w1 :: .int w0 :: .ref r :: st) z Q = (zcls z r = 12 ∧ zcs st = true ∧ ZC zG d 139 [.ref r, .int w0, .int w1] z (zk zG (d + 1) 147 (none) 7 ls st Q)) := zc_V2 rfl (Nat.le_of_ble_eq_true rfl)
theorem s147_7 {x0 x1 : Value} {a : Int32} : ZW zG d 147 7 [x0, x1, .int a] st z Q = ZW zG d 147 8 [x0, x1, .int a] (.int a :: st) z Q := zw_next (f := z_iload 2 8) rfl rfl
theorem s147_8 {ls : List Value} {a b : Int32} : ZW zG d 147 8 ls (.int b :: .int a :: st) z Q = if b < a then ZW zG d 147 15 ls st z Q else ZW zG d 147 11 ls st z Q := zw_icgt rfl
theorem s147_11 {ls : List Value}  : ZW zG d 147 11 ls (st) z Q = ZW zG d 147 12 ls ((.int (nI 1)) :: st) z Q := zw_push rfl
theorem s147_12 {ls : List Value}  : ZW zG d 147 12 ls (st) z Q = ZW zG d 147 16 ls st z Q := zw_goto rfl
theorem s147_15 {ls : List Value}  : ZW zG d 147 15 ls (st) z Q = ZW zG d 147 16 ls ((.int (nI 0)) :: st) z Q := zw_push rfl
theorem s147_16 {ls : List Value} {a : Int32} : ZW zG d 147 16 ls ([.int a]) z Q = ((a = 0 ∨ a = 1) ∧ Q (.inl (some (.int a))) z) := zw_retz rfl
/-- X12_areKnown (II)Z -/
theorem e148 {r0 : Nat} {v0 : Int32} {v1 : Int32} : ZC zG d 148 [.ref r0, .int v0, .int v1] z Q = ZW zG d 148 0 [.ref r0, .int v0, .int v1] [] z Q := rfl
theorem s148_0 {x0 x1 x2 : Value} : ZW zG d 148 0 [x0, x1, x2] st z Q = (zir x0 = true ∧ ZW zG d 148 1 [x0, x1, x2] (x0 :: st) z Q) := zw_cond (f := z_aload 0 1) rfl rfl
theorem s148_1 {ls : List Value} {r : Nat} : ZW zG d 148 1 ls (.ref r :: st) z Q = ((zcls z r = 12 ∧ zir (zfr z r 1) = true) ∧ ZW zG d 148 4 ls (zfr z r 1 :: st) (z) Q) := zw_getR rfl
theorem s148_4 {ls : List Value}  : ZW zG d 148 4 ls (st) z Q = ZW zG d 148 7 ls ((.int (nI 1864)) :: st) z Q := zw_push rfl
theorem s148_7 {x0 x2 : Value} {a : Int32} : ZW zG d 148 7 [x0, .int a, x2] st z Q = ZW zG d 148 8 [x0, .int a, x2] (.int a :: st) z Q := zw_next (f := z_iload 1 8) rfl rfl
theorem s148_8 {ls : List Value} {a b : Int32} : ZW zG d 148 8 ls (.int b :: .int a :: st) z Q = ZW zG d 148 9 ls (.int (a + b) :: st) z Q := zw_iadd rfl
theorem s148_9 {ls : List Value} {a : Int32} {r : Nat} : ZW zG d 148 9 ls (.int a :: .ref r :: st) z Q = ((zcls z r = 50 ∧ zin a (zlen z r) = true) ∧ ZW zG d 148 10 ls (.int (zia z r (zx a)) :: st) (z) Q) := zw_iald rfl
theorem s148_10 {x0 x1 : Value} {a : Int32} : ZW zG d 148 10 [x0, x1, .int a] st z Q = ZW zG d 148 11 [x0, x1, .int a] (.int a :: st) z Q := zw_next (f := z_iload 2 11) rfl rfl
theorem s148_11 {ls : List Value} {w0 : Int32} {w1 : Int32} : ZW zG (d + 1) 148 11 ls (.int w1 :: .int w0 :: st) z Q = (zcs st = true ∧ ZC zG d 149 [.int w0, .int w1] z (zk zG (d + 1) 148 (none) 14 ls st Q)) := zc_S2 rfl (Nat.le_of_ble_eq_true rfl)
theorem s148_14 {ls : List Value} {a : Int32} : ZW zG d 148 14 ls ([.int a]) z Q = ((a = 0 ∨ a = 1) ∧ Q (.inl (some (.int a))) z) := zw_retz rfl
/-- X12_holds (II)Z -/
theorem e149 {v0 : Int32} {v1 : Int32} : ZC zG d 149 [.int v0, .int v1] z Q = ZW zG d 149 0 [.int v0, .int v1] [] z Q := rfl
theorem s149_0 {x1 : Value} {a : Int32} : ZW zG d 149 0 [.int a, x1] st z Q = ZW zG d 149 1 [.int a, x1] (.int a :: st) z Q := zw_next (f := z_iload 0 1) rfl rfl
theorem s149_1 {x0 : Value} {a : Int32} : ZW zG d 149 1 [x0, .int a] st z Q = ZW zG d 149 2 [x0, .int a] (.int a :: st) z Q := zw_next (f := z_iload 1 2) rfl rfl
theorem s149_2 {ls : List Value} {a b : Int32} : ZW zG d 149 2 ls (.int b :: .int a :: st) z Q = ZW zG d 149 3 ls (.int (a >>> (b &&& 31)) :: st) z Q := zw_ishr rfl
theorem s149_3 {ls : List Value}  : ZW zG d 149 3 ls (st) z Q = ZW zG d 149 4 ls ((.int (nI 1)) :: st) z Q := zw_push rfl
theorem s149_4 {ls : List Value} {a b : Int32} : ZW zG d 149 4 ls (.int b :: .int a :: st) z Q = ZW zG d 149 5 ls (.int (a &&& b) :: st) z Q := zw_iand rfl
theorem s149_5 {ls : List Value}  : ZW zG d 149 5 ls (st) z Q = ZW zG d 149 6 ls ((.int (nI 1)) :: st) z Q := zw_push rfl
theorem s149_6 {ls : List Value} {a b : Int32} : ZW zG d 149 6 ls (.int b :: .int a :: st) z Q = if ¬ a = b then ZW zG d 149 13 ls st z Q else ZW zG d 149 9 ls st z Q := zw_icne rfl
theorem s149_9 {ls : List Value}  : ZW zG d 149 9 ls (st) z Q = ZW zG d 149 10 ls ((.int (nI 1)) :: st) z Q := zw_push rfl
theorem s149_10 {ls : List Value}  : ZW zG d 149 10 ls (st) z Q = ZW zG d 149 14 ls st z Q := zw_goto rfl
theorem s149_13 {ls : List Value}  : ZW zG d 149 13 ls (st) z Q = ZW zG d 149 14 ls ((.int (nI 0)) :: st) z Q := zw_push rfl
theorem s149_14 {ls : List Value} {a : Int32} : ZW zG d 149 14 ls ([.int a]) z Q = ((a = 0 ∨ a = 1) ∧ Q (.inl (some (.int a))) z) := zw_retz rfl
/-- X12_isNew (I)Z -/
theorem e150 {r0 : Nat} {v0 : Int32} : ZC zG d 150 [.ref r0, .int v0] z Q = ZW zG d 150 0 [.ref r0, .int v0] [] z Q := rfl
theorem s150_0 {x0 x1 : Value} : ZW zG d 150 0 [x0, x1] st z Q = (zir x0 = true ∧ ZW zG d 150 1 [x0, x1] (x0 :: st) z Q) := zw_cond (f := z_aload 0 1) rfl rfl
theorem s150_1 {ls : List Value}  {r : Nat} : ZW zG (d + 1) 150 1 ls (.ref r :: st) z Q = (zcls z r = 12 ∧ zcs st = true ∧ ZC zG d 141 [.ref r] z (zk zG (d + 1) 150 (none) 4 ls st Q)) := zc_V0 rfl (Nat.le_of_ble_eq_true rfl)
theorem s150_4 {x0 x1 : Value} : ZW zG d 150 4 [x0, x1] st z Q = (zir x0 = true ∧ ZW zG d 150 5 [x0, x1] (x0 :: st) z Q) := zw_cond (f := z_aload 0 5) rfl rfl
theorem s150_5 {x0 : Value} {a : Int32} : ZW zG d 150 5 [x0, .int a] st z Q = ZW zG d 150 6 [x0, .int a] (.int a :: st) z Q := zw_next (f := z_iload 1 6) rfl rfl
theorem s150_6 {ls : List Value}  : ZW zG d 150 6 ls (st) z Q = ZW zG d 150 8 ls ((.int (nI 6)) :: st) z Q := zw_push rfl
theorem s150_8 {ls : List Value} {w0 : Int32} {w1 : Int32} {r : Nat} : ZW zG (d + 1) 150 8 ls (.int w1 :: .int w0 :: .ref r :: st) z Q = (zcls z r = 12 ∧ zcs st = true ∧ ZC zG d 139 [.ref r, .int w0, .int w1] z (zk zG (d + 1) 150 (none) 11 ls st Q)) := zc_V2 rfl (Nat.le_of_ble_eq_true rfl)
theorem s150_11 {ls : List Value} {a b : Int32} : ZW zG d 150 11 ls (.int b :: .int a :: st) z Q = ZW zG d 150 12 ls (.int (a - b) :: st) z Q := zw_isub rfl
theorem s150_12 {x0 x1 : Value} : ZW zG d 150 12 [x0, x1] st z Q = (zir x0 = true ∧ ZW zG d 150 13 [x0, x1] (x0 :: st) z Q) := zw_cond (f := z_aload 0 13) rfl rfl
theorem s150_13 {ls : List Value} {r : Nat} : ZW zG d 150 13 ls (.ref r :: st) z Q = ((zcls z r = 12 ∧ zir (zfr z r 1) = true) ∧ ZW zG d 150 16 ls (zfr z r 1 :: st) (z) Q) := zw_getR rfl
theorem s150_16 {ls : List Value}  : ZW zG d 150 16 ls (st) z Q = ZW zG d 150 17 ls ((.int (nI 4)) :: st) z Q := zw_push rfl
theorem s150_17 {ls : List Value} {a : Int32} {r : Nat} : ZW zG d 150 17 ls (.int a :: .ref r :: st) z Q = ((zcls z r = 50 ∧ zin a (zlen z r) = true) ∧ ZW zG d 150 18 ls (.int (zia z r (zx a)) :: st) (z) Q) := zw_iald rfl
theorem s150_18 {ls : List Value} {a b : Int32} : ZW zG d 150 18 ls (.int b :: .int a :: st) z Q = if b < a then ZW zG d 150 25 ls st z Q else ZW zG d 150 21 ls st z Q := zw_icgt rfl
theorem s150_21 {ls : List Value}  : ZW zG d 150 21 ls (st) z Q = ZW zG d 150 22 ls ((.int (nI 1)) :: st) z Q := zw_push rfl
theorem s150_22 {ls : List Value}  : ZW zG d 150 22 ls (st) z Q = ZW zG d 150 26 ls st z Q := zw_goto rfl
theorem s150_25 {ls : List Value}  : ZW zG d 150 25 ls (st) z Q = ZW zG d 150 26 ls ((.int (nI 0)) :: st) z Q := zw_push rfl
theorem s150_26 {ls : List Value} {a : Int32} : ZW zG d 150 26 ls ([.int a]) z Q = ((a = 0 ∨ a = 1) ∧ Q (.inl (some (.int a))) z) := zw_retz rfl
/-- X12_isIntroduced (II)Z -/
theorem e151 {r0 : Nat} {v0 : Int32} {v1 : Int32} : ZC zG d 151 [.ref r0, .int v0, .int v1] z Q = ZW zG d 151 0 [.ref r0, .int v0, .int v1] [] z Q := rfl
theorem s151_0 {x0 x2 : Value} {a : Int32} : ZW zG d 151 0 [x0, .int a, x2] st z Q = ZW zG d 151 1 [x0, .int a, x2] (.int a :: st) z Q := zw_next (f := z_iload 1 1) rfl rfl
theorem s151_1 {x0 x1 x2 : Value} : ZW zG d 151 1 [x0, x1, x2] st z Q = (zir x0 = true ∧ ZW zG d 151 2 [x0, x1, x2] (x0 :: st) z Q) := zw_cond (f := z_aload 0 2) rfl rfl
theorem s151_2 {ls : List Value} {r : Nat} : ZW zG d 151 2 ls (.ref r :: st) z Q = ((zcls z r = 12 ∧ zir (zfr z r 1) = true) ∧ ZW zG d 151 5 ls (zfr z r 1 :: st) (z) Q) := zw_getR rfl
theorem s151_5 {ls : List Value}  : ZW zG d 151 5 ls (st) z Q = ZW zG d 151 8 ls ((.int (nI 1864)) :: st) z Q := zw_push rfl
theorem s151_8 {x0 x1 : Value} {a : Int32} : ZW zG d 151 8 [x0, x1, .int a] st z Q = ZW zG d 151 9 [x0, x1, .int a] (.int a :: st) z Q := zw_next (f := z_iload 2 9) rfl rfl
theorem s151_9 {ls : List Value} {a b : Int32} : ZW zG d 151 9 ls (.int b :: .int a :: st) z Q = ZW zG d 151 10 ls (.int (a + b) :: st) z Q := zw_iadd rfl
theorem s151_10 {ls : List Value} {a : Int32} {r : Nat} : ZW zG d 151 10 ls (.int a :: .ref r :: st) z Q = ((zcls z r = 50 ∧ zin a (zlen z r) = true) ∧ ZW zG d 151 11 ls (.int (zia z r (zx a)) :: st) (z) Q) := zw_iald rfl
theorem s151_11 {ls : List Value} {a b : Int32} : ZW zG d 151 11 ls (.int b :: .int a :: st) z Q = ZW zG d 151 12 ls (.int (a &&& b) :: st) z Q := zw_iand rfl
theorem s151_12 {ls : List Value} {w0 : Int32} : ZW zG (d + 1) 151 12 ls (.int w0 :: st) z Q = (zcs st = true ∧ ZC zG d 152 [.int w0] z (zk zG (d + 1) 151 (none) 15 ls st Q)) := zc_S1 rfl (Nat.le_of_ble_eq_true rfl)
theorem s151_15 {x0 x1 x2 : Value} : ZW zG d 151 15 [x0, x1, x2] st z Q = (zir x0 = true ∧ ZW zG d 151 16 [x0, x1, x2] (x0 :: st) z Q) := zw_cond (f := z_aload 0 16) rfl rfl
theorem s151_16 {ls : List Value} {r : Nat} : ZW zG d 151 16 ls (.ref r :: st) z Q = ((zcls z r = 12 ∧ zir (zfr z r 1) = true) ∧ ZW zG d 151 19 ls (zfr z r 1 :: st) (z) Q) := zw_getR rfl
theorem s151_19 {ls : List Value}  : ZW zG d 151 19 ls (st) z Q = ZW zG d 151 20 ls ((.int (nI 5)) :: st) z Q := zw_push rfl
theorem s151_20 {ls : List Value} {a : Int32} {r : Nat} : ZW zG d 151 20 ls (.int a :: .ref r :: st) z Q = ((zcls z r = 50 ∧ zin a (zlen z r) = true) ∧ ZW zG d 151 21 ls (.int (zia z r (zx a)) :: st) (z) Q) := zw_iald rfl
theorem s151_21 {ls : List Value} {a b : Int32} : ZW zG d 151 21 ls (.int b :: .int a :: st) z Q = if a < b then ZW zG d 151 28 ls st z Q else ZW zG d 151 24 ls st z Q := zw_iclt rfl
theorem s151_24 {ls : List Value}  : ZW zG d 151 24 ls (st) z Q = ZW zG d 151 25 ls ((.int (nI 1)) :: st) z Q := zw_push rfl
theorem s151_25 {ls : List Value}  : ZW zG d 151 25 ls (st) z Q = ZW zG d 151 29 ls st z Q := zw_goto rfl
theorem s151_28 {ls : List Value}  : ZW zG d 151 28 ls (st) z Q = ZW zG d 151 29 ls ((.int (nI 0)) :: st) z Q := zw_push rfl
theorem s151_29 {ls : List Value} {a : Int32} : ZW zG d 151 29 ls ([.int a]) z Q = ((a = 0 ∨ a = 1) ∧ Q (.inl (some (.int a))) z) := zw_retz rfl
/-- X12_ones (I)I -/
theorem e152 {v0 : Int32} : ZC zG d 152 [.int v0] z Q = ZW zG d 152 0 [.int v0, zdum, zdum] [] z Q := rfl
theorem s152_0 {ls : List Value}  : ZW zG d 152 0 ls (st) z Q = ZW zG d 152 1 ls ((.int (nI 0)) :: st) z Q := zw_push rfl
theorem s152_1 {x0 x1 x2 : Value} {a : Int32} : ZW zG d 152 1 [x0, x1, x2] (.int a :: st) z Q = ZW zG d 152 2 [zclr x0, .int a, x2] st z Q := zw_next (f := z_istore 1 2) rfl rfl
theorem s152_2 {ls : List Value}  : ZW zG d 152 2 ls (st) z Q = ZW zG d 152 3 ls ((.int (nI 0)) :: st) z Q := zw_push rfl
theorem s152_3 {x0 x1 x2 : Value} {a : Int32} : ZW zG d 152 3 [x0, x1, x2] (.int a :: st) z Q = ZW zG d 152 4 [x0, zclr x1, .int a] st z Q := zw_next (f := z_istore 2 4) rfl rfl
theorem s152_4 {x0 x1 : Value} {a : Int32} : ZW zG d 152 4 [x0, x1, .int a] st z Q = ZW zG d 152 5 [x0, x1, .int a] (.int a :: st) z Q := zw_next (f := z_iload 2 5) rfl rfl
theorem s152_5 {ls : List Value}  : ZW zG d 152 5 ls (st) z Q = ZW zG d 152 7 ls ((.int (nI 16)) :: st) z Q := zw_push rfl
theorem s152_7 {ls : List Value} {a b : Int32} : ZW zG d 152 7 ls (.int b :: .int a :: st) z Q = if b ≤ a then ZW zG d 152 24 ls st z Q else ZW zG d 152 10 ls st z Q := zw_icge rfl
theorem s152_10 {x0 x2 : Value} {a : Int32} : ZW zG d 152 10 [x0, .int a, x2] st z Q = ZW zG d 152 11 [x0, .int a, x2] (.int a :: st) z Q := zw_next (f := z_iload 1 11) rfl rfl
theorem s152_11 {x1 x2 : Value} {a : Int32} : ZW zG d 152 11 [.int a, x1, x2] st z Q = ZW zG d 152 12 [.int a, x1, x2] (.int a :: st) z Q := zw_next (f := z_iload 0 12) rfl rfl
theorem s152_12 {x0 x1 : Value} {a : Int32} : ZW zG d 152 12 [x0, x1, .int a] st z Q = ZW zG d 152 13 [x0, x1, .int a] (.int a :: st) z Q := zw_next (f := z_iload 2 13) rfl rfl
theorem s152_13 {ls : List Value} {a b : Int32} : ZW zG d 152 13 ls (.int b :: .int a :: st) z Q = ZW zG d 152 14 ls (.int (a >>> (b &&& 31)) :: st) z Q := zw_ishr rfl
theorem s152_14 {ls : List Value}  : ZW zG d 152 14 ls (st) z Q = ZW zG d 152 15 ls ((.int (nI 1)) :: st) z Q := zw_push rfl
theorem s152_15 {ls : List Value} {a b : Int32} : ZW zG d 152 15 ls (.int b :: .int a :: st) z Q = ZW zG d 152 16 ls (.int (a &&& b) :: st) z Q := zw_iand rfl
theorem s152_16 {ls : List Value} {a b : Int32} : ZW zG d 152 16 ls (.int b :: .int a :: st) z Q = ZW zG d 152 17 ls (.int (a + b) :: st) z Q := zw_iadd rfl
theorem s152_17 {x0 x1 x2 : Value} {a : Int32} : ZW zG d 152 17 [x0, x1, x2] (.int a :: st) z Q = ZW zG d 152 18 [zclr x0, .int a, x2] st z Q := zw_next (f := z_istore 1 18) rfl rfl
theorem s152_18 {x0 x1 : Value} {a : Int32} : ZW zG d 152 18 [x0, x1, .int a] st z Q = ZW zG d 152 21 [x0, zclr x1, .int (a + (nI 1))] st z Q := zw_next (f := z_iinc 2 (nI 1) 21) rfl rfl
theorem s152_21 {ls : List Value}  : ZW zG d 152 21 ls (st) z Q = ZW zG d 152 4 ls st z Q := zw_goto rfl
theorem s152_24 {x0 x2 : Value} {a : Int32} : ZW zG d 152 24 [x0, .int a, x2] st z Q = ZW zG d 152 25 [x0, .int a, x2] (.int a :: st) z Q := zw_next (f := z_iload 1 25) rfl rfl
theorem s152_25 {ls : List Value} {a : Int32} : ZW zG d 152 25 ls ([.int a]) z Q = Q (.inl (some (.int a))) z := zw_reti rfl
/-- X12_known (II)I -/
theorem e153 {r0 : Nat} {v0 : Int32} {v1 : Int32} : ZC zG d 153 [.ref r0, .int v0, .int v1] z Q = ZW zG d 153 0 [.ref r0, .int v0, .int v1] [] z Q := rfl
theorem s153_0 {x0 x1 x2 : Value} : ZW zG d 153 0 [x0, x1, x2] st z Q = (zir x0 = true ∧ ZW zG d 153 1 [x0, x1, x2] (x0 :: st) z Q) := zw_cond (f := z_aload 0 1) rfl rfl
theorem s153_1 {x0 x2 : Value} {a : Int32} : ZW zG d 153 1 [x0, .int a, x2] st z Q = ZW zG d 153 2 [x0, .int a, x2] (.int a :: st) z Q := zw_next (f := z_iload 1 2) rfl rfl
theorem s153_2 {x0 x1 : Value} {a : Int32} : ZW zG d 153 2 [x0, x1, .int a] st z Q = ZW zG d 153 3 [x0, x1, .int a] (.int a :: st) z Q := zw_next (f := z_iload 2 3) rfl rfl
theorem s153_3 {ls : List Value} {w0 : Int32} {w1 : Int32} {r : Nat} : ZW zG (d + 1) 153 3 ls (.int w1 :: .int w0 :: .ref r :: st) z Q = (zcls z r = 12 ∧ zcs st = true ∧ ZC zG d 143 [.ref r, .int w0, .int w1] z (zk zG (d + 1) 153 (none) 6 ls st Q)) := zc_V2 rfl (Nat.le_of_ble_eq_true rfl)
theorem s153_6 {ls : List Value} {a : Int32} : ZW zG d 153 6 ls (.int a :: st) z Q = if ¬ a = 0 then ZW zG d 153 14 ls st z Q else ZW zG d 153 9 ls st z Q := zw_ifne rfl
theorem s153_9 {ls : List Value}  : ZW zG d 153 9 ls (st) z Q = ZW zG d 153 11 ls ((.int (-2)) :: st) z Q := zw_push rfl
theorem s153_11 {ls : List Value}  : ZW zG d 153 11 ls (st) z Q = ZW zG d 153 28 ls st z Q := zw_goto rfl
theorem s153_14 {x0 x1 x2 : Value} : ZW zG d 153 14 [x0, x1, x2] st z Q = (zir x0 = true ∧ ZW zG d 153 15 [x0, x1, x2] (x0 :: st) z Q) := zw_cond (f := z_aload 0 15) rfl rfl
theorem s153_15 {x0 x2 : Value} {a : Int32} : ZW zG d 153 15 [x0, .int a, x2] st z Q = ZW zG d 153 16 [x0, .int a, x2] (.int a :: st) z Q := zw_next (f := z_iload 1 16) rfl rfl
theorem s153_16 {x0 x1 : Value} {a : Int32} : ZW zG d 153 16 [x0, x1, .int a] st z Q = ZW zG d 153 17 [x0, x1, .int a] (.int a :: st) z Q := zw_next (f := z_iload 2 17) rfl rfl
theorem s153_17 {ls : List Value} {w0 : Int32} {w1 : Int32} {r : Nat} : ZW zG (d + 1) 153 17 ls (.int w1 :: .int w0 :: .ref r :: st) z Q = (zcls z r = 12 ∧ zcs st = true ∧ ZC zG d 148 [.ref r, .int w0, .int w1] z (zk zG (d + 1) 153 (none) 20 ls st Q)) := zc_V2 rfl (Nat.le_of_ble_eq_true rfl)
theorem s153_20 {ls : List Value} {a : Int32} : ZW zG d 153 20 ls (.int a :: st) z Q = if a = 0 then ZW zG d 153 27 ls st z Q else ZW zG d 153 23 ls st z Q := zw_ifeq rfl
theorem s153_23 {ls : List Value}  : ZW zG d 153 23 ls (st) z Q = ZW zG d 153 24 ls ((.int (nI 1)) :: st) z Q := zw_push rfl
theorem s153_24 {ls : List Value}  : ZW zG d 153 24 ls (st) z Q = ZW zG d 153 28 ls st z Q := zw_goto rfl
theorem s153_27 {ls : List Value}  : ZW zG d 153 27 ls (st) z Q = ZW zG d 153 28 ls ((.int (nI 0)) :: st) z Q := zw_push rfl
theorem s153_28 {ls : List Value} {a : Int32} : ZW zG d 153 28 ls ([.int a]) z Q = Q (.inl (some (.int a))) z := zw_reti rfl
/-- X12_does (III)I -/
theorem e154 {r0 : Nat} {v0 : Int32} {v1 : Int32} {v2 : Int32} : ZC zG d 154 [.ref r0, .int v0, .int v1, .int v2] z Q = ZW zG d 154 0 [.ref r0, .int v0, .int v1, .int v2] [] z Q := rfl
theorem s154_0 {x0 x1 x2 x3 : Value} : ZW zG d 154 0 [x0, x1, x2, x3] st z Q = (zir x0 = true ∧ ZW zG d 154 1 [x0, x1, x2, x3] (x0 :: st) z Q) := zw_cond (f := z_aload 0 1) rfl rfl
theorem s154_1 {x0 x2 x3 : Value} {a : Int32} : ZW zG d 154 1 [x0, .int a, x2, x3] st z Q = ZW zG d 154 2 [x0, .int a, x2, x3] (.int a :: st) z Q := zw_next (f := z_iload 1 2) rfl rfl
theorem s154_2 {x0 x1 x3 : Value} {a : Int32} : ZW zG d 154 2 [x0, x1, .int a, x3] st z Q = ZW zG d 154 3 [x0, x1, .int a, x3] (.int a :: st) z Q := zw_next (f := z_iload 2 3) rfl rfl
theorem s154_3 {ls : List Value} {w0 : Int32} {w1 : Int32} {r : Nat} : ZW zG (d + 1) 154 3 ls (.int w1 :: .int w0 :: .ref r :: st) z Q = (zcls z r = 12 ∧ zcs st = true ∧ ZC zG d 143 [.ref r, .int w0, .int w1] z (zk zG (d + 1) 154 (none) 6 ls st Q)) := zc_V2 rfl (Nat.le_of_ble_eq_true rfl)
theorem s154_6 {ls : List Value} {a : Int32} : ZW zG d 154 6 ls (.int a :: st) z Q = if a = 0 then ZW zG d 154 16 ls st z Q else ZW zG d 154 9 ls st z Q := zw_ifeq rfl
theorem s154_9 {x0 x1 x2 : Value} {a : Int32} : ZW zG d 154 9 [x0, x1, x2, .int a] st z Q = ZW zG d 154 10 [x0, x1, x2, .int a] (.int a :: st) z Q := zw_next (f := z_iload 3 10) rfl rfl
theorem s154_10 {ls : List Value} {w0 : Int32} : ZW zG (d + 1) 154 10 ls (.int w0 :: st) z Q = (zcs st = true ∧ ZC zG d 145 [.int w0] z (zk zG (d + 1) 154 (none) 13 ls st Q)) := zc_S1 rfl (Nat.le_of_ble_eq_true rfl)
theorem s154_13 {ls : List Value} {a : Int32} : ZW zG d 154 13 ls (.int a :: st) z Q = if ¬ a = 0 then ZW zG d 154 19 ls st z Q else ZW zG d 154 16 ls st z Q := zw_ifne rfl
theorem s154_16 {ls : List Value}  : ZW zG d 154 16 ls (st) z Q = ZW zG d 154 18 ls ((.int (-2)) :: st) z Q := zw_push rfl
theorem s154_18 {ls : List Value} {a : Int32} : ZW zG d 154 18 ls ([.int a]) z Q = Q (.inl (some (.int a))) z := zw_reti rfl
theorem s154_19 {x0 x1 x2 x3 : Value} : ZW zG d 154 19 [x0, x1, x2, x3] st z Q = (zir x0 = true ∧ ZW zG d 154 20 [x0, x1, x2, x3] (x0 :: st) z Q) := zw_cond (f := z_aload 0 20) rfl rfl
theorem s154_20 {x0 x2 x3 : Value} {a : Int32} : ZW zG d 154 20 [x0, .int a, x2, x3] st z Q = ZW zG d 154 21 [x0, .int a, x2, x3] (.int a :: st) z Q := zw_next (f := z_iload 1 21) rfl rfl
theorem s154_21 {x0 x1 x3 : Value} {a : Int32} : ZW zG d 154 21 [x0, x1, .int a, x3] st z Q = ZW zG d 154 22 [x0, x1, .int a, x3] (.int a :: st) z Q := zw_next (f := z_iload 2 22) rfl rfl
theorem s154_22 {x0 x1 x2 : Value} {a : Int32} : ZW zG d 154 22 [x0, x1, x2, .int a] st z Q = ZW zG d 154 23 [x0, x1, x2, .int a] (.int a :: st) z Q := zw_next (f := z_iload 3 23) rfl rfl
theorem s154_23 {ls : List Value} {w0 : Int32} {w1 : Int32} {w2 : Int32} {r : Nat} : ZW zG (d + 1) 154 23 ls (.int w2 :: .int w1 :: .int w0 :: .ref r :: st) z Q = (zcls z r = 12 ∧ zcs st = true ∧ ZC zG d 146 [.ref r, .int w0, .int w1, .int w2] z (zk zG (d + 1) 154 (none) 26 ls st Q)) := zc_V3 rfl (Nat.le_of_ble_eq_true rfl)
theorem s154_26 {ls : List Value} {a : Int32} : ZW zG d 154 26 ls (.int a :: st) z Q = if a = 0 then ZW zG d 154 32 ls st z Q else ZW zG d 154 29 ls st z Q := zw_ifeq rfl
theorem s154_29 {ls : List Value}  : ZW zG d 154 29 ls (st) z Q = ZW zG d 154 31 ls ((.int (-5)) :: st) z Q := zw_push rfl
theorem s154_31 {ls : List Value} {a : Int32} : ZW zG d 154 31 ls ([.int a]) z Q = Q (.inl (some (.int a))) z := zw_reti rfl
theorem s154_32 {x0 x1 x2 x3 : Value} : ZW zG d 154 32 [x0, x1, x2, x3] st z Q = (zir x0 = true ∧ ZW zG d 154 33 [x0, x1, x2, x3] (x0 :: st) z Q) := zw_cond (f := z_aload 0 33) rfl rfl
theorem s154_33 {ls : List Value} {r : Nat} : ZW zG d 154 33 ls (.ref r :: st) z Q = ((zcls z r = 12 ∧ zir (zfr z r 1) = true) ∧ ZW zG d 154 36 ls (zfr z r 1 :: st) (z) Q) := zw_getR rfl
theorem s154_36 {ls : List Value}  : ZW zG d 154 36 ls (st) z Q = ZW zG d 154 38 ls ((.int (nI 8)) :: st) z Q := zw_push rfl
theorem s154_38 {ls : List Value} {a : Int32} {r : Nat} : ZW zG d 154 38 ls (.int a :: .ref r :: st) z Q = ((zcls z r = 50 ∧ zin a (zlen z r) = true) ∧ ZW zG d 154 39 ls (.int (zia z r (zx a)) :: st) (z) Q) := zw_iald rfl
theorem s154_39 {ls : List Value}  : ZW zG d 154 39 ls (st) z Q = ZW zG d 154 42 ls ((.int (nI 600)) :: st) z Q := zw_push rfl
theorem s154_42 {ls : List Value} {a b : Int32} : ZW zG d 154 42 ls (.int b :: .int a :: st) z Q = if ¬ a = b then ZW zG d 154 48 ls st z Q else ZW zG d 154 45 ls st z Q := zw_icne rfl
theorem s154_45 {ls : List Value}  : ZW zG d 154 45 ls (st) z Q = ZW zG d 154 47 ls ((.int (-3)) :: st) z Q := zw_push rfl
theorem s154_47 {ls : List Value} {a : Int32} : ZW zG d 154 47 ls ([.int a]) z Q = Q (.inl (some (.int a))) z := zw_reti rfl
theorem s154_48 {x0 x1 x2 x3 : Value} : ZW zG d 154 48 [x0, x1, x2, x3] st z Q = (zir x0 = true ∧ ZW zG d 154 49 [x0, x1, x2, x3] (x0 :: st) z Q) := zw_cond (f := z_aload 0 49) rfl rfl
theorem s154_49 {x0 x2 x3 : Value} {a : Int32} : ZW zG d 154 49 [x0, .int a, x2, x3] st z Q = ZW zG d 154 50 [x0, .int a, x2, x3] (.int a :: st) z Q := zw_next (f := z_iload 1 50) rfl rfl
theorem s154_50 {x0 x1 x3 : Value} {a : Int32} : ZW zG d 154 50 [x0, x1, .int a, x3] st z Q = ZW zG d 154 51 [x0, x1, .int a, x3] (.int a :: st) z Q := zw_next (f := z_iload 2 51) rfl rfl
theorem s154_51 {x0 x1 x2 : Value} {a : Int32} : ZW zG d 154 51 [x0, x1, x2, .int a] st z Q = ZW zG d 154 52 [x0, x1, x2, .int a] (.int a :: st) z Q := zw_next (f := z_iload 3 52) rfl rfl
theorem s154_52 {ls : List Value} {w0 : Int32} {w1 : Int32} {w2 : Int32} {r : Nat} : ZW zG (d + 1) 154 52 ls (.int w2 :: .int w1 :: .int w0 :: .ref r :: st) z Q = (zcls z r = 12 ∧ zcs st = true ∧ ZC zG d 155 [.ref r, .int w0, .int w1, .int w2] z (zk zG (d + 1) 154 (none) 55 ls st Q)) := zc_V3 rfl (Nat.le_of_ble_eq_true rfl)
theorem s154_55 {ls : List Value} {a : Int32} : ZW zG d 154 55 ls ([.int a]) z Q = Q (.inl (some (.int a))) z := zw_reti rfl
/-- X12_notes (III)I -/
theorem e155 {r0 : Nat} {v0 : Int32} {v1 : Int32} {v2 : Int32} : ZC zG d 155 [.ref r0, .int v0, .int v1, .int v2] z Q = ZW zG d 155 0 [.ref r0, .int v0, .int v1, .int v2, zdum, zdum] [] z Q := rfl
theorem s155_0 {ls : List Value}  : ZW zG d 155 0 ls (st) z Q = ZW zG d 155 3 ls ((.int (nI 6680)) :: st) z Q := zw_push rfl
theorem s155_3 {ls : List Value}  : ZW zG d 155 3 ls (st) z Q = ZW zG d 155 4 ls ((.int (nI 4)) :: st) z Q := zw_push rfl
theorem s155_4 {x0 x1 x2 x3 x4 x5 : Value} : ZW zG d 155 4 [x0, x1, x2, x3, x4, x5] st z Q = (zir x0 = true ∧ ZW zG d 155 5 [x0, x1, x2, x3, x4, x5] (x0 :: st) z Q) := zw_cond (f := z_aload 0 5) rfl rfl
theorem s155_5 {ls : List Value} {r : Nat} : ZW zG d 155 5 ls (.ref r :: st) z Q = ((zcls z r = 12 ∧ zir (zfr z r 1) = true) ∧ ZW zG d 155 8 ls (zfr z r 1 :: st) (z) Q) := zw_getR rfl
theorem s155_8 {ls : List Value}  : ZW zG d 155 8 ls (st) z Q = ZW zG d 155 10 ls ((.int (nI 8)) :: st) z Q := zw_push rfl
theorem s155_10 {ls : List Value} {a : Int32} {r : Nat} : ZW zG d 155 10 ls (.int a :: .ref r :: st) z Q = ((zcls z r = 50 ∧ zin a (zlen z r) = true) ∧ ZW zG d 155 11 ls (.int (zia z r (zx a)) :: st) (z) Q) := zw_iald rfl
theorem s155_11 {ls : List Value} {a b : Int32} : ZW zG d 155 11 ls (.int b :: .int a :: st) z Q = ZW zG d 155 12 ls (.int (a * b) :: st) z Q := zw_imul rfl
theorem s155_12 {ls : List Value} {a b : Int32} : ZW zG d 155 12 ls (.int b :: .int a :: st) z Q = ZW zG d 155 13 ls (.int (a + b) :: st) z Q := zw_iadd rfl
theorem s155_13 {x0 x1 x2 x3 x4 x5 : Value} {a : Int32} : ZW zG d 155 13 [x0, x1, x2, x3, x4, x5] (.int a :: st) z Q = ZW zG d 155 15 [x0, x1, x2, zclr x3, .int a, x5] st z Q := zw_next (f := z_istore 4 15) rfl rfl
theorem s155_15 {x0 x1 x2 x3 x4 x5 : Value} : ZW zG d 155 15 [x0, x1, x2, x3, x4, x5] st z Q = (zir x0 = true ∧ ZW zG d 155 16 [x0, x1, x2, x3, x4, x5] (x0 :: st) z Q) := zw_cond (f := z_aload 0 16) rfl rfl
theorem s155_16 {ls : List Value} {r : Nat} : ZW zG d 155 16 ls (.ref r :: st) z Q = ((zcls z r = 12 ∧ zir (zfr z r 1) = true) ∧ ZW zG d 155 19 ls (zfr z r 1 :: st) (z) Q) := zw_getR rfl
theorem s155_19 {x0 x1 x2 x3 x5 : Value} {a : Int32} : ZW zG d 155 19 [x0, x1, x2, x3, .int a, x5] st z Q = ZW zG d 155 21 [x0, x1, x2, x3, .int a, x5] (.int a :: st) z Q := zw_next (f := z_iload 4 21) rfl rfl
theorem s155_21 {x0 x2 x3 x4 x5 : Value} {a : Int32} : ZW zG d 155 21 [x0, .int a, x2, x3, x4, x5] st z Q = ZW zG d 155 22 [x0, .int a, x2, x3, x4, x5] (.int a :: st) z Q := zw_next (f := z_iload 1 22) rfl rfl
theorem s155_22 {ls : List Value} {a b : Int32} {r : Nat} : ZW zG d 155 22 ls (.int b :: .int a :: .ref r :: st) z Q = ((zcls z r = 50 ∧ zin a (zlen z r) = true) ∧ ZW zG d 155 23 ls (st) (sia z r (zx a) (znar 50 b)) Q) := zw_iast rfl
theorem s155_23 {x0 x1 x2 x3 x4 x5 : Value} : ZW zG d 155 23 [x0, x1, x2, x3, x4, x5] st z Q = (zir x0 = true ∧ ZW zG d 155 24 [x0, x1, x2, x3, x4, x5] (x0 :: st) z Q) := zw_cond (f := z_aload 0 24) rfl rfl
theorem s155_24 {ls : List Value} {r : Nat} : ZW zG d 155 24 ls (.ref r :: st) z Q = ((zcls z r = 12 ∧ zir (zfr z r 1) = true) ∧ ZW zG d 155 27 ls (zfr z r 1 :: st) (z) Q) := zw_getR rfl
theorem s155_27 {x0 x1 x2 x3 x5 : Value} {a : Int32} : ZW zG d 155 27 [x0, x1, x2, x3, .int a, x5] st z Q = ZW zG d 155 29 [x0, x1, x2, x3, .int a, x5] (.int a :: st) z Q := zw_next (f := z_iload 4 29) rfl rfl
theorem s155_29 {ls : List Value}  : ZW zG d 155 29 ls (st) z Q = ZW zG d 155 30 ls ((.int (nI 1)) :: st) z Q := zw_push rfl
theorem s155_30 {ls : List Value} {a b : Int32} : ZW zG d 155 30 ls (.int b :: .int a :: st) z Q = ZW zG d 155 31 ls (.int (a + b) :: st) z Q := zw_iadd rfl
theorem s155_31 {x0 x1 x3 x4 x5 : Value} {a : Int32} : ZW zG d 155 31 [x0, x1, .int a, x3, x4, x5] st z Q = ZW zG d 155 32 [x0, x1, .int a, x3, x4, x5] (.int a :: st) z Q := zw_next (f := z_iload 2 32) rfl rfl
theorem s155_32 {ls : List Value} {a b : Int32} {r : Nat} : ZW zG d 155 32 ls (.int b :: .int a :: .ref r :: st) z Q = ((zcls z r = 50 ∧ zin a (zlen z r) = true) ∧ ZW zG d 155 33 ls (st) (sia z r (zx a) (znar 50 b)) Q) := zw_iast rfl
theorem s155_33 {x0 x1 x2 x3 x4 x5 : Value} : ZW zG d 155 33 [x0, x1, x2, x3, x4, x5] st z Q = (zir x0 = true ∧ ZW zG d 155 34 [x0, x1, x2, x3, x4, x5] (x0 :: st) z Q) := zw_cond (f := z_aload 0 34) rfl rfl
theorem s155_34 {ls : List Value} {r : Nat} : ZW zG d 155 34 ls (.ref r :: st) z Q = ((zcls z r = 12 ∧ zir (zfr z r 1) = true) ∧ ZW zG d 155 37 ls (zfr z r 1 :: st) (z) Q) := zw_getR rfl
theorem s155_37 {x0 x1 x2 x3 x5 : Value} {a : Int32} : ZW zG d 155 37 [x0, x1, x2, x3, .int a, x5] st z Q = ZW zG d 155 39 [x0, x1, x2, x3, .int a, x5] (.int a :: st) z Q := zw_next (f := z_iload 4 39) rfl rfl
theorem s155_39 {ls : List Value}  : ZW zG d 155 39 ls (st) z Q = ZW zG d 155 40 ls ((.int (nI 2)) :: st) z Q := zw_push rfl
theorem s155_40 {ls : List Value} {a b : Int32} : ZW zG d 155 40 ls (.int b :: .int a :: st) z Q = ZW zG d 155 41 ls (.int (a + b) :: st) z Q := zw_iadd rfl
theorem s155_41 {x0 x1 x2 x4 x5 : Value} {a : Int32} : ZW zG d 155 41 [x0, x1, x2, .int a, x4, x5] st z Q = ZW zG d 155 42 [x0, x1, x2, .int a, x4, x5] (.int a :: st) z Q := zw_next (f := z_iload 3 42) rfl rfl
theorem s155_42 {ls : List Value} {a b : Int32} {r : Nat} : ZW zG d 155 42 ls (.int b :: .int a :: .ref r :: st) z Q = ((zcls z r = 50 ∧ zin a (zlen z r) = true) ∧ ZW zG d 155 43 ls (st) (sia z r (zx a) (znar 50 b)) Q) := zw_iast rfl
theorem s155_43 {x0 x1 x2 x3 x4 x5 : Value} : ZW zG d 155 43 [x0, x1, x2, x3, x4, x5] st z Q = (zir x0 = true ∧ ZW zG d 155 44 [x0, x1, x2, x3, x4, x5] (x0 :: st) z Q) := zw_cond (f := z_aload 0 44) rfl rfl
theorem s155_44 {ls : List Value} {r : Nat} : ZW zG d 155 44 ls (.ref r :: st) z Q = ((zcls z r = 12 ∧ zir (zfr z r 1) = true) ∧ ZW zG d 155 47 ls (zfr z r 1 :: st) (z) Q) := zw_getR rfl
theorem s155_47 {x0 x1 x2 x3 x5 : Value} {a : Int32} : ZW zG d 155 47 [x0, x1, x2, x3, .int a, x5] st z Q = ZW zG d 155 49 [x0, x1, x2, x3, .int a, x5] (.int a :: st) z Q := zw_next (f := z_iload 4 49) rfl rfl
theorem s155_49 {ls : List Value}  : ZW zG d 155 49 ls (st) z Q = ZW zG d 155 50 ls ((.int (nI 3)) :: st) z Q := zw_push rfl
theorem s155_50 {ls : List Value} {a b : Int32} : ZW zG d 155 50 ls (.int b :: .int a :: st) z Q = ZW zG d 155 51 ls (.int (a + b) :: st) z Q := zw_iadd rfl
theorem s155_51 {x0 x1 x2 x3 x4 x5 : Value} : ZW zG d 155 51 [x0, x1, x2, x3, x4, x5] st z Q = (zir x0 = true ∧ ZW zG d 155 52 [x0, x1, x2, x3, x4, x5] (x0 :: st) z Q) := zw_cond (f := z_aload 0 52) rfl rfl
theorem s155_52 {ls : List Value}  {r : Nat} : ZW zG (d + 1) 155 52 ls (.ref r :: st) z Q = (zcls z r = 12 ∧ zcs st = true ∧ ZC zG d 141 [.ref r] z (zk zG (d + 1) 155 (none) 55 ls st Q)) := zc_V0 rfl (Nat.le_of_ble_eq_true rfl)
theorem s155_55 {ls : List Value} {a b : Int32} {r : Nat} : ZW zG d 155 55 ls (.int b :: .int a :: .ref r :: st) z Q = ((zcls z r = 50 ∧ zin a (zlen z r) = true) ∧ ZW zG d 155 56 ls (st) (sia z r (zx a) (znar 50 b)) Q) := zw_iast rfl
theorem s155_56 {x0 x1 x2 x3 x4 x5 : Value} : ZW zG d 155 56 [x0, x1, x2, x3, x4, x5] st z Q = (zir x0 = true ∧ ZW zG d 155 57 [x0, x1, x2, x3, x4, x5] (x0 :: st) z Q) := zw_cond (f := z_aload 0 57) rfl rfl
theorem s155_57 {ls : List Value} {r : Nat} : ZW zG d 155 57 ls (.ref r :: st) z Q = ((zcls z r = 12 ∧ zir (zfr z r 1) = true) ∧ ZW zG d 155 60 ls (zfr z r 1 :: st) (z) Q) := zw_getR rfl
theorem s155_60 {ls : List Value}  : ZW zG d 155 60 ls (st) z Q = ZW zG d 155 62 ls ((.int (nI 8)) :: st) z Q := zw_push rfl
theorem s155_62 {ls : List Value} {a : Int32} {r : Nat} : ZW zG d 155 62 ls (.int a :: .ref r :: st) z Q = ZW zG d 155 63 ls (.int a :: .ref r :: .int a :: .ref r :: st) z Q := zw_dup2 rfl
theorem s155_63 {ls : List Value} {a : Int32} {r : Nat} : ZW zG d 155 63 ls (.int a :: .ref r :: st) z Q = ((zcls z r = 50 ∧ zin a (zlen z r) = true) ∧ ZW zG d 155 64 ls (.int (zia z r (zx a)) :: st) (z) Q) := zw_iald rfl
theorem s155_64 {ls : List Value}  : ZW zG d 155 64 ls (st) z Q = ZW zG d 155 65 ls ((.int (nI 1)) :: st) z Q := zw_push rfl
theorem s155_65 {ls : List Value} {a b : Int32} : ZW zG d 155 65 ls (.int b :: .int a :: st) z Q = ZW zG d 155 66 ls (.int (a + b) :: st) z Q := zw_iadd rfl
theorem s155_66 {ls : List Value} {a b : Int32} {r : Nat} : ZW zG d 155 66 ls (.int b :: .int a :: .ref r :: st) z Q = ((zcls z r = 50 ∧ zin a (zlen z r) = true) ∧ ZW zG d 155 67 ls (st) (sia z r (zx a) (znar 50 b)) Q) := zw_iast rfl
theorem s155_67 {x0 x1 x2 x3 x4 x5 : Value} : ZW zG d 155 67 [x0, x1, x2, x3, x4, x5] st z Q = (zir x0 = true ∧ ZW zG d 155 68 [x0, x1, x2, x3, x4, x5] (x0 :: st) z Q) := zw_cond (f := z_aload 0 68) rfl rfl
theorem s155_68 {x0 x2 x3 x4 x5 : Value} {a : Int32} : ZW zG d 155 68 [x0, .int a, x2, x3, x4, x5] st z Q = ZW zG d 155 69 [x0, .int a, x2, x3, x4, x5] (.int a :: st) z Q := zw_next (f := z_iload 1 69) rfl rfl
theorem s155_69 {x0 x1 x3 x4 x5 : Value} {a : Int32} : ZW zG d 155 69 [x0, x1, .int a, x3, x4, x5] st z Q = ZW zG d 155 70 [x0, x1, .int a, x3, x4, x5] (.int a :: st) z Q := zw_next (f := z_iload 2 70) rfl rfl
theorem s155_70 {x0 x1 x2 x4 x5 : Value} {a : Int32} : ZW zG d 155 70 [x0, x1, x2, .int a, x4, x5] st z Q = ZW zG d 155 71 [x0, x1, x2, .int a, x4, x5] (.int a :: st) z Q := zw_next (f := z_iload 3 71) rfl rfl
theorem s155_71 {x0 x1 x2 x3 x4 x5 : Value} : ZW zG d 155 71 [x0, x1, x2, x3, x4, x5] st z Q = (zir x0 = true ∧ ZW zG d 155 72 [x0, x1, x2, x3, x4, x5] (x0 :: st) z Q) := zw_cond (f := z_aload 0 72) rfl rfl
theorem s155_72 {ls : List Value}  {r : Nat} : ZW zG (d + 1) 155 72 ls (.ref r :: st) z Q = (zcls z r = 12 ∧ zcs st = true ∧ ZC zG d 141 [.ref r] z (zk zG (d + 1) 155 (none) 75 ls st Q)) := zc_V0 rfl (Nat.le_of_ble_eq_true rfl)
theorem s155_75 {ls : List Value} {w0 : Int32} {w1 : Int32} {w2 : Int32} {w3 : Int32} {r : Nat} : ZW zG (d + 1) 155 75 ls (.int w3 :: .int w2 :: .int w1 :: .int w0 :: .ref r :: st) z Q = (zcls z r = 12 ∧ zcs st = true ∧ ZC zG d 156 [.ref r, .int w0, .int w1, .int w2, .int w3] z (zk zG (d + 1) 155 (none) 78 ls st Q)) := zc_V4 rfl (Nat.le_of_ble_eq_true rfl)
theorem s155_78 {x0 x1 x2 x3 x4 x5 : Value} {a : Int32} : ZW zG d 155 78 [x0, x1, x2, x3, x4, x5] (.int a :: st) z Q = ZW zG d 155 80 [x0, x1, x2, x3, zclr x4, .int a] st z Q := zw_next (f := z_istore 5 80) rfl rfl
theorem s155_80 {x0 x1 x2 x3 x4 x5 : Value} : ZW zG d 155 80 [x0, x1, x2, x3, x4, x5] st z Q = (zir x0 = true ∧ ZW zG d 155 81 [x0, x1, x2, x3, x4, x5] (x0 :: st) z Q) := zw_cond (f := z_aload 0 81) rfl rfl
theorem s155_81 {ls : List Value} {r : Nat} : ZW zG d 155 81 ls (.ref r :: st) z Q = ((zcls z r = 12 ∧ zir (zfr z r 1) = true) ∧ ZW zG d 155 84 ls (zfr z r 1 :: st) (z) Q) := zw_getR rfl
theorem s155_84 {ls : List Value}  : ZW zG d 155 84 ls (st) z Q = ZW zG d 155 86 ls ((.int (nI 9)) :: st) z Q := zw_push rfl
theorem s155_86 {ls : List Value} {a : Int32} {r : Nat} : ZW zG d 155 86 ls (.int a :: .ref r :: st) z Q = ZW zG d 155 87 ls (.int a :: .ref r :: .int a :: .ref r :: st) z Q := zw_dup2 rfl
theorem s155_87 {ls : List Value} {a : Int32} {r : Nat} : ZW zG d 155 87 ls (.int a :: .ref r :: st) z Q = ((zcls z r = 50 ∧ zin a (zlen z r) = true) ∧ ZW zG d 155 88 ls (.int (zia z r (zx a)) :: st) (z) Q) := zw_iald rfl
theorem s155_88 {x0 x1 x2 x3 x4 : Value} {a : Int32} : ZW zG d 155 88 [x0, x1, x2, x3, x4, .int a] st z Q = ZW zG d 155 90 [x0, x1, x2, x3, x4, .int a] (.int a :: st) z Q := zw_next (f := z_iload 5 90) rfl rfl
theorem s155_90 {ls : List Value} {a b : Int32} : ZW zG d 155 90 ls (.int b :: .int a :: st) z Q = ZW zG d 155 91 ls (.int (a + b) :: st) z Q := zw_iadd rfl
theorem s155_91 {ls : List Value} {a b : Int32} {r : Nat} : ZW zG d 155 91 ls (.int b :: .int a :: .ref r :: st) z Q = ((zcls z r = 50 ∧ zin a (zlen z r) = true) ∧ ZW zG d 155 92 ls (st) (sia z r (zx a) (znar 50 b)) Q) := zw_iast rfl
theorem s155_92 {x0 x1 x2 x3 x4 : Value} {a : Int32} : ZW zG d 155 92 [x0, x1, x2, x3, x4, .int a] st z Q = ZW zG d 155 94 [x0, x1, x2, x3, x4, .int a] (.int a :: st) z Q := zw_next (f := z_iload 5 94) rfl rfl
theorem s155_94 {ls : List Value} {a : Int32} : ZW zG d 155 94 ls ([.int a]) z Q = Q (.inl (some (.int a))) z := zw_reti rfl
/-- X12_goes (IIII)I -/
theorem e156 {r0 : Nat} {v0 : Int32} {v1 : Int32} {v2 : Int32} {v3 : Int32} : ZC zG d 156 [.ref r0, .int v0, .int v1, .int v2, .int v3] z Q = ZW zG d 156 0 [.ref r0, .int v0, .int v1, .int v2, .int v3, zdum, zdum, zdum] [] z Q := rfl
theorem s156_0 {x0 x1 x2 x4 x5 x6 x7 : Value} {a : Int32} : ZW zG d 156 0 [x0, x1, x2, .int a, x4, x5, x6, x7] st z Q = ZW zG d 156 1 [x0, x1, x2, .int a, x4, x5, x6, x7] (.int a :: st) z Q := zw_next (f := z_iload 3 1) rfl rfl
theorem s156_1 {ls : List Value}  : ZW zG d 156 1 ls (st) z Q = ZW zG d 156 2 ls ((.int (nI 4)) :: st) z Q := zw_push rfl
theorem s156_2 {ls : List Value} {a b : Int32} : ZW zG d 156 2 ls (.int b :: .int a :: st) z Q = if ¬ a = b then ZW zG d 156 13 ls st z Q else ZW zG d 156 5 ls st z Q := zw_icne rfl
theorem s156_5 {x0 x1 x2 x3 x4 x5 x6 x7 : Value} : ZW zG d 156 5 [x0, x1, x2, x3, x4, x5, x6, x7] st z Q = (zir x0 = true ∧ ZW zG d 156 6 [x0, x1, x2, x3, x4, x5, x6, x7] (x0 :: st) z Q) := zw_cond (f := z_aload 0 6) rfl rfl
theorem s156_6 {x0 x2 x3 x4 x5 x6 x7 : Value} {a : Int32} : ZW zG d 156 6 [x0, .int a, x2, x3, x4, x5, x6, x7] st z Q = ZW zG d 156 7 [x0, .int a, x2, x3, x4, x5, x6, x7] (.int a :: st) z Q := zw_next (f := z_iload 1 7) rfl rfl
theorem s156_7 {x0 x1 x3 x4 x5 x6 x7 : Value} {a : Int32} : ZW zG d 156 7 [x0, x1, .int a, x3, x4, x5, x6, x7] st z Q = ZW zG d 156 8 [x0, x1, .int a, x3, x4, x5, x6, x7] (.int a :: st) z Q := zw_next (f := z_iload 2 8) rfl rfl
theorem s156_8 {ls : List Value} {w0 : Int32} {w1 : Int32} {r : Nat} : ZW zG (d + 1) 156 8 ls (.int w1 :: .int w0 :: .ref r :: st) z Q = (zcls z r = 12 ∧ zcs st = true ∧ ZC zG d 157 [.ref r, .int w0, .int w1] z (zk zG (d + 1) 156 (none) 11 ls st Q)) := zc_V2 rfl (Nat.le_of_ble_eq_true rfl)
theorem s156_11 {ls : List Value}  : ZW zG d 156 11 ls (st) z Q = ZW zG d 156 12 ls ((.int (nI 0)) :: st) z Q := zw_push rfl
theorem s156_12 {ls : List Value} {a : Int32} : ZW zG d 156 12 ls ([.int a]) z Q = Q (.inl (some (.int a))) z := zw_reti rfl
theorem s156_13 {x0 x1 x2 x3 x4 x5 x6 x7 : Value} : ZW zG d 156 13 [x0, x1, x2, x3, x4, x5, x6, x7] st z Q = (zir x0 = true ∧ ZW zG d 156 14 [x0, x1, x2, x3, x4, x5, x6, x7] (x0 :: st) z Q) := zw_cond (f := z_aload 0 14) rfl rfl
theorem s156_14 {x0 x2 x3 x4 x5 x6 x7 : Value} {a : Int32} : ZW zG d 156 14 [x0, .int a, x2, x3, x4, x5, x6, x7] st z Q = ZW zG d 156 15 [x0, .int a, x2, x3, x4, x5, x6, x7] (.int a :: st) z Q := zw_next (f := z_iload 1 15) rfl rfl
theorem s156_15 {x0 x1 x3 x4 x5 x6 x7 : Value} {a : Int32} : ZW zG d 156 15 [x0, x1, .int a, x3, x4, x5, x6, x7] st z Q = ZW zG d 156 16 [x0, x1, .int a, x3, x4, x5, x6, x7] (.int a :: st) z Q := zw_next (f := z_iload 2 16) rfl rfl
theorem s156_16 {x0 x1 x2 x4 x5 x6 x7 : Value} {a : Int32} : ZW zG d 156 16 [x0, x1, x2, .int a, x4, x5, x6, x7] st z Q = ZW zG d 156 17 [x0, x1, x2, .int a, x4, x5, x6, x7] (.int a :: st) z Q := zw_next (f := z_iload 3 17) rfl rfl
theorem s156_17 {ls : List Value} {w0 : Int32} {w1 : Int32} {w2 : Int32} {r : Nat} : ZW zG (d + 1) 156 17 ls (.int w2 :: .int w1 :: .int w0 :: .ref r :: st) z Q = (zcls z r = 12 ∧ zcs st = true ∧ ZC zG d 158 [.ref r, .int w0, .int w1, .int w2] z (zk zG (d + 1) 156 (none) 20 ls st Q)) := zc_V3 rfl (Nat.le_of_ble_eq_true rfl)
theorem s156_20 {x0 x1 x2 x3 x4 x5 x6 x7 : Value} {a : Int32} : ZW zG d 156 20 [x0, x1, x2, x3, x4, x5, x6, x7] (.int a :: st) z Q = ZW zG d 156 22 [x0, x1, x2, x3, zclr x4, .int a, x6, x7] st z Q := zw_next (f := z_istore 5 22) rfl rfl
theorem s156_22 {x0 x1 x2 x3 x4 x5 x6 x7 : Value} : ZW zG d 156 22 [x0, x1, x2, x3, x4, x5, x6, x7] st z Q = (zir x0 = true ∧ ZW zG d 156 23 [x0, x1, x2, x3, x4, x5, x6, x7] (x0 :: st) z Q) := zw_cond (f := z_aload 0 23) rfl rfl
theorem s156_23 {x0 x2 x3 x4 x5 x6 x7 : Value} {a : Int32} : ZW zG d 156 23 [x0, .int a, x2, x3, x4, x5, x6, x7] st z Q = ZW zG d 156 24 [x0, .int a, x2, x3, x4, x5, x6, x7] (.int a :: st) z Q := zw_next (f := z_iload 1 24) rfl rfl
theorem s156_24 {x0 x1 x3 x4 x5 x6 x7 : Value} {a : Int32} : ZW zG d 156 24 [x0, x1, .int a, x3, x4, x5, x6, x7] st z Q = ZW zG d 156 25 [x0, x1, .int a, x3, x4, x5, x6, x7] (.int a :: st) z Q := zw_next (f := z_iload 2 25) rfl rfl
theorem s156_25 {x0 x1 x2 x4 x5 x6 x7 : Value} {a : Int32} : ZW zG d 156 25 [x0, x1, x2, .int a, x4, x5, x6, x7] st z Q = ZW zG d 156 26 [x0, x1, x2, .int a, x4, x5, x6, x7] (.int a :: st) z Q := zw_next (f := z_iload 3 26) rfl rfl
theorem s156_26 {x0 x1 x2 x3 x4 x5 x6 x7 : Value} : ZW zG d 156 26 [x0, x1, x2, x3, x4, x5, x6, x7] st z Q = (zir x0 = true ∧ ZW zG d 156 27 [x0, x1, x2, x3, x4, x5, x6, x7] (x0 :: st) z Q) := zw_cond (f := z_aload 0 27) rfl rfl
theorem s156_27 {x0 x2 x3 x4 x5 x6 x7 : Value} {a : Int32} : ZW zG d 156 27 [x0, .int a, x2, x3, x4, x5, x6, x7] st z Q = ZW zG d 156 28 [x0, .int a, x2, x3, x4, x5, x6, x7] (.int a :: st) z Q := zw_next (f := z_iload 1 28) rfl rfl
theorem s156_28 {x0 x1 x3 x4 x5 x6 x7 : Value} {a : Int32} : ZW zG d 156 28 [x0, x1, .int a, x3, x4, x5, x6, x7] st z Q = ZW zG d 156 29 [x0, x1, .int a, x3, x4, x5, x6, x7] (.int a :: st) z Q := zw_next (f := z_iload 2 29) rfl rfl
theorem s156_29 {ls : List Value} {w0 : Int32} {w1 : Int32} {r : Nat} : ZW zG (d + 1) 156 29 ls (.int w1 :: .int w0 :: .ref r :: st) z Q = (zcls z r = 12 ∧ zcs st = true ∧ ZC zG d 148 [.ref r, .int w0, .int w1] z (zk zG (d + 1) 156 (none) 32 ls st Q)) := zc_V2 rfl (Nat.le_of_ble_eq_true rfl)
theorem s156_32 {x0 x1 x2 x3 x5 x6 x7 : Value} {a : Int32} : ZW zG d 156 32 [x0, x1, x2, x3, .int a, x5, x6, x7] st z Q = ZW zG d 156 34 [x0, x1, x2, x3, .int a, x5, x6, x7] (.int a :: st) z Q := zw_next (f := z_iload 4 34) rfl rfl
theorem s156_34 {ls : List Value} {w0 : Int32} {w1 : Int32} {w2 : Int32} {w3 : Int32} {w4 : Int32} {r : Nat} : ZW zG (d + 1) 156 34 ls (.int w4 :: .int w3 :: .int w2 :: .int w1 :: .int w0 :: .ref r :: st) z Q = (zcls z r = 12 ∧ zcs st = true ∧ ZC zG d 161 [.ref r, .int w0, .int w1, .int w2, .int w3, .int w4] z (zk zG (d + 1) 156 (none) 37 ls st Q)) := zc_V5 rfl (Nat.le_of_ble_eq_true rfl)
theorem s156_37 {x0 x1 x2 x3 x4 x5 x6 x7 : Value} {a : Int32} : ZW zG d 156 37 [x0, x1, x2, x3, x4, x5, x6, x7] (.int a :: st) z Q = ZW zG d 156 39 [x0, x1, x2, x3, x4, zclr x5, .int a, x7] st z Q := zw_next (f := z_istore 6 39) rfl rfl
theorem s156_39 {x0 x1 x2 x3 x4 x5 x7 : Value} {a : Int32} : ZW zG d 156 39 [x0, x1, x2, x3, x4, x5, .int a, x7] st z Q = ZW zG d 156 41 [x0, x1, x2, x3, x4, x5, .int a, x7] (.int a :: st) z Q := zw_next (f := z_iload 6 41) rfl rfl
theorem s156_41 {ls : List Value}  : ZW zG d 156 41 ls (st) z Q = ZW zG d 156 42 ls ((.int (-1)) :: st) z Q := zw_push rfl
theorem s156_42 {ls : List Value} {a b : Int32} : ZW zG d 156 42 ls (.int b :: .int a :: st) z Q = if a = b then ZW zG d 156 107 ls st z Q else ZW zG d 156 45 ls st z Q := zw_iceq rfl
theorem s156_45 {x0 x1 x2 x3 x4 x5 x6 x7 : Value} : ZW zG d 156 45 [x0, x1, x2, x3, x4, x5, x6, x7] st z Q = (zir x0 = true ∧ ZW zG d 156 46 [x0, x1, x2, x3, x4, x5, x6, x7] (x0 :: st) z Q) := zw_cond (f := z_aload 0 46) rfl rfl
theorem s156_46 {ls : List Value} {r : Nat} : ZW zG d 156 46 ls (.ref r :: st) z Q = ((zcls z r = 12 ∧ zir (zfr z r 1) = true) ∧ ZW zG d 156 49 ls (zfr z r 1 :: st) (z) Q) := zw_getR rfl
theorem s156_49 {ls : List Value}  : ZW zG d 156 49 ls (st) z Q = ZW zG d 156 52 ls ((.int (nI 154)) :: st) z Q := zw_push rfl
theorem s156_52 {ls : List Value}  : ZW zG d 156 52 ls (st) z Q = ZW zG d 156 53 ls ((.int (nI 5)) :: st) z Q := zw_push rfl
theorem s156_53 {x0 x1 x2 x3 x4 x5 x7 : Value} {a : Int32} : ZW zG d 156 53 [x0, x1, x2, x3, x4, x5, .int a, x7] st z Q = ZW zG d 156 55 [x0, x1, x2, x3, x4, x5, .int a, x7] (.int a :: st) z Q := zw_next (f := z_iload 6 55) rfl rfl
theorem s156_55 {ls : List Value} {a b : Int32} : ZW zG d 156 55 ls (.int b :: .int a :: st) z Q = ZW zG d 156 56 ls (.int (a * b) :: st) z Q := zw_imul rfl
theorem s156_56 {ls : List Value} {a b : Int32} : ZW zG d 156 56 ls (.int b :: .int a :: st) z Q = ZW zG d 156 57 ls (.int (a + b) :: st) z Q := zw_iadd rfl
theorem s156_57 {ls : List Value}  : ZW zG d 156 57 ls (st) z Q = ZW zG d 156 58 ls ((.int (nI 1)) :: st) z Q := zw_push rfl
theorem s156_58 {ls : List Value} {a b : Int32} : ZW zG d 156 58 ls (.int b :: .int a :: st) z Q = ZW zG d 156 59 ls (.int (a + b) :: st) z Q := zw_iadd rfl
theorem s156_59 {ls : List Value} {a : Int32} {r : Nat} : ZW zG d 156 59 ls (.int a :: .ref r :: st) z Q = ((zcls z r = 50 ∧ zin a (zlen z r) = true) ∧ ZW zG d 156 60 ls (.int (zia z r (zx a)) :: st) (z) Q) := zw_iald rfl
theorem s156_60 {x0 x1 x2 x3 x4 x5 x6 x7 : Value} {a : Int32} : ZW zG d 156 60 [x0, x1, x2, x3, x4, x5, x6, x7] (.int a :: st) z Q = ZW zG d 156 62 [x0, x1, x2, x3, x4, x5, zclr x6, .int a] st z Q := zw_next (f := z_istore 7 62) rfl rfl
theorem s156_62 {x0 x1 x2 x3 x4 x5 x6 x7 : Value} : ZW zG d 156 62 [x0, x1, x2, x3, x4, x5, x6, x7] st z Q = (zir x0 = true ∧ ZW zG d 156 63 [x0, x1, x2, x3, x4, x5, x6, x7] (x0 :: st) z Q) := zw_cond (f := z_aload 0 63) rfl rfl
theorem s156_63 {x0 x1 x3 x4 x5 x6 x7 : Value} {a : Int32} : ZW zG d 156 63 [x0, x1, .int a, x3, x4, x5, x6, x7] st z Q = ZW zG d 156 64 [x0, x1, .int a, x3, x4, x5, x6, x7] (.int a :: st) z Q := zw_next (f := z_iload 2 64) rfl rfl
theorem s156_64 {x0 x2 x3 x4 x5 x6 x7 : Value} {a : Int32} : ZW zG d 156 64 [x0, .int a, x2, x3, x4, x5, x6, x7] st z Q = ZW zG d 156 65 [x0, .int a, x2, x3, x4, x5, x6, x7] (.int a :: st) z Q := zw_next (f := z_iload 1 65) rfl rfl
theorem s156_65 {x0 x1 x2 x3 x4 x5 x6 : Value} {a : Int32} : ZW zG d 156 65 [x0, x1, x2, x3, x4, x5, x6, .int a] st z Q = ZW zG d 156 67 [x0, x1, x2, x3, x4, x5, x6, .int a] (.int a :: st) z Q := zw_next (f := z_iload 7 67) rfl rfl
theorem s156_67 {ls : List Value} {w0 : Int32} {w1 : Int32} {w2 : Int32} {r : Nat} : ZW zG (d + 1) 156 67 ls (.int w2 :: .int w1 :: .int w0 :: .ref r :: st) z Q = (zcls z r = 12 ∧ zcs st = true ∧ ZC zG d 165 [.ref r, .int w0, .int w1, .int w2] z (zk zG (d + 1) 156 (none) 70 ls st Q)) := zc_V3 rfl (Nat.le_of_ble_eq_true rfl)
theorem s156_70 {ls : List Value} {a : Int32} : ZW zG d 156 70 ls (.int a :: st) z Q = if ¬ a = 0 then ZW zG d 156 107 ls st z Q else ZW zG d 156 73 ls st z Q := zw_ifne rfl
theorem s156_73 {x0 x1 x2 x3 x4 x5 x6 x7 : Value} : ZW zG d 156 73 [x0, x1, x2, x3, x4, x5, x6, x7] st z Q = (zir x0 = true ∧ ZW zG d 156 74 [x0, x1, x2, x3, x4, x5, x6, x7] (x0 :: st) z Q) := zw_cond (f := z_aload 0 74) rfl rfl
theorem s156_74 {x0 x1 x3 x4 x5 x6 x7 : Value} {a : Int32} : ZW zG d 156 74 [x0, x1, .int a, x3, x4, x5, x6, x7] st z Q = ZW zG d 156 75 [x0, x1, .int a, x3, x4, x5, x6, x7] (.int a :: st) z Q := zw_next (f := z_iload 2 75) rfl rfl
theorem s156_75 {x0 x2 x3 x4 x5 x6 x7 : Value} {a : Int32} : ZW zG d 156 75 [x0, .int a, x2, x3, x4, x5, x6, x7] st z Q = ZW zG d 156 76 [x0, .int a, x2, x3, x4, x5, x6, x7] (.int a :: st) z Q := zw_next (f := z_iload 1 76) rfl rfl
theorem s156_76 {x0 x1 x2 x3 x4 x5 x6 : Value} {a : Int32} : ZW zG d 156 76 [x0, x1, x2, x3, x4, x5, x6, .int a] st z Q = ZW zG d 156 78 [x0, x1, x2, x3, x4, x5, x6, .int a] (.int a :: st) z Q := zw_next (f := z_iload 7 78) rfl rfl
theorem s156_78 {ls : List Value}  : ZW zG d 156 78 ls (st) z Q = ZW zG d 156 81 ls ((.int (nI 399)) :: st) z Q := zw_push rfl
theorem s156_81 {x0 x1 x2 x3 x5 x6 x7 : Value} {a : Int32} : ZW zG d 156 81 [x0, x1, x2, x3, .int a, x5, x6, x7] st z Q = ZW zG d 156 83 [x0, x1, x2, x3, .int a, x5, x6, x7] (.int a :: st) z Q := zw_next (f := z_iload 4 83) rfl rfl
theorem s156_83 {x0 x1 x2 x3 x4 x5 x6 x7 : Value} : ZW zG d 156 83 [x0, x1, x2, x3, x4, x5, x6, x7] st z Q = (zir x0 = true ∧ ZW zG d 156 84 [x0, x1, x2, x3, x4, x5, x6, x7] (x0 :: st) z Q) := zw_cond (f := z_aload 0 84) rfl rfl
theorem s156_84 {ls : List Value} {r : Nat} : ZW zG d 156 84 ls (.ref r :: st) z Q = ((zcls z r = 12 ∧ zir (zfr z r 1) = true) ∧ ZW zG d 156 87 ls (zfr z r 1 :: st) (z) Q) := zw_getR rfl
theorem s156_87 {ls : List Value}  : ZW zG d 156 87 ls (st) z Q = ZW zG d 156 90 ls ((.int (nI 154)) :: st) z Q := zw_push rfl
theorem s156_90 {ls : List Value}  : ZW zG d 156 90 ls (st) z Q = ZW zG d 156 91 ls ((.int (nI 5)) :: st) z Q := zw_push rfl
theorem s156_91 {x0 x1 x2 x3 x4 x5 x7 : Value} {a : Int32} : ZW zG d 156 91 [x0, x1, x2, x3, x4, x5, .int a, x7] st z Q = ZW zG d 156 93 [x0, x1, x2, x3, x4, x5, .int a, x7] (.int a :: st) z Q := zw_next (f := z_iload 6 93) rfl rfl
theorem s156_93 {ls : List Value} {a b : Int32} : ZW zG d 156 93 ls (.int b :: .int a :: st) z Q = ZW zG d 156 94 ls (.int (a * b) :: st) z Q := zw_imul rfl
theorem s156_94 {ls : List Value} {a b : Int32} : ZW zG d 156 94 ls (.int b :: .int a :: st) z Q = ZW zG d 156 95 ls (.int (a + b) :: st) z Q := zw_iadd rfl
theorem s156_95 {ls : List Value}  : ZW zG d 156 95 ls (st) z Q = ZW zG d 156 96 ls ((.int (nI 2)) :: st) z Q := zw_push rfl
theorem s156_96 {ls : List Value} {a b : Int32} : ZW zG d 156 96 ls (.int b :: .int a :: st) z Q = ZW zG d 156 97 ls (.int (a + b) :: st) z Q := zw_iadd rfl
theorem s156_97 {ls : List Value} {a : Int32} {r : Nat} : ZW zG d 156 97 ls (.int a :: .ref r :: st) z Q = ((zcls z r = 50 ∧ zin a (zlen z r) = true) ∧ ZW zG d 156 98 ls (.int (zia z r (zx a)) :: st) (z) Q) := zw_iald rfl
theorem s156_98 {ls : List Value} {a b : Int32} : ZW zG d 156 98 ls (.int b :: .int a :: st) z Q = ZW zG d 156 99 ls (.int (a + b) :: st) z Q := zw_iadd rfl
theorem s156_99 {ls : List Value} {a b : Int32} : ZW zG d 156 99 ls (.int b :: .int a :: st) z Q = ((zcs st = true) ∧ ZW zG d 156 102 ls (.int (zmin a b) :: st) (z) Q) := zw_mmin rfl
theorem s156_102 {x0 x1 x2 x3 x5 x6 x7 : Value} {a : Int32} : ZW zG d 156 102 [x0, x1, x2, x3, .int a, x5, x6, x7] st z Q = ZW zG d 156 104 [x0, x1, x2, x3, .int a, x5, x6, x7] (.int a :: st) z Q := zw_next (f := z_iload 4 104) rfl rfl
theorem s156_104 {ls : List Value} {w0 : Int32} {w1 : Int32} {w2 : Int32} {w3 : Int32} {w4 : Int32} {r : Nat} : ZW zG (d + 1) 156 104 ls (.int w4 :: .int w3 :: .int w2 :: .int w1 :: .int w0 :: .ref r :: st) z Q = (zcls z r = 12 ∧ zcs st = true ∧ ZC zG d 166 [.ref r, .int w0, .int w1, .int w2, .int w3, .int w4] z (zk zG (d + 1) 156 (none) 107 ls st Q)) := zc_V5 rfl (Nat.le_of_ble_eq_true rfl)
theorem s156_107 {x0 x1 x2 x4 x5 x6 x7 : Value} {a : Int32} : ZW zG d 156 107 [x0, x1, x2, .int a, x4, x5, x6, x7] st z Q = ZW zG d 156 108 [x0, x1, x2, .int a, x4, x5, x6, x7] (.int a :: st) z Q := zw_next (f := z_iload 3 108) rfl rfl
theorem s156_108 {ls : List Value}  : ZW zG d 156 108 ls (st) z Q = ZW zG d 156 109 ls ((.int (nI 2)) :: st) z Q := zw_push rfl
theorem s156_109 {ls : List Value} {a b : Int32} : ZW zG d 156 109 ls (.int b :: .int a :: st) z Q = if a < b then ZW zG d 156 118 ls st z Q else ZW zG d 156 112 ls st z Q := zw_iclt rfl
theorem s156_112 {x0 x1 x2 x3 x4 x5 x6 x7 : Value} : ZW zG d 156 112 [x0, x1, x2, x3, x4, x5, x6, x7] st z Q = (zir x0 = true ∧ ZW zG d 156 113 [x0, x1, x2, x3, x4, x5, x6, x7] (x0 :: st) z Q) := zw_cond (f := z_aload 0 113) rfl rfl
theorem s156_113 {x0 x2 x3 x4 x5 x6 x7 : Value} {a : Int32} : ZW zG d 156 113 [x0, .int a, x2, x3, x4, x5, x6, x7] st z Q = ZW zG d 156 114 [x0, .int a, x2, x3, x4, x5, x6, x7] (.int a :: st) z Q := zw_next (f := z_iload 1 114) rfl rfl
theorem s156_114 {x0 x1 x3 x4 x5 x6 x7 : Value} {a : Int32} : ZW zG d 156 114 [x0, x1, .int a, x3, x4, x5, x6, x7] st z Q = ZW zG d 156 115 [x0, x1, .int a, x3, x4, x5, x6, x7] (.int a :: st) z Q := zw_next (f := z_iload 2 115) rfl rfl
theorem s156_115 {ls : List Value} {w0 : Int32} {w1 : Int32} {r : Nat} : ZW zG (d + 1) 156 115 ls (.int w1 :: .int w0 :: .ref r :: st) z Q = (zcls z r = 12 ∧ zcs st = true ∧ ZC zG d 157 [.ref r, .int w0, .int w1] z (zk zG (d + 1) 156 (none) 118 ls st Q)) := zc_V2 rfl (Nat.le_of_ble_eq_true rfl)
theorem s156_118 {x0 x1 x2 x3 x4 x6 x7 : Value} {a : Int32} : ZW zG d 156 118 [x0, x1, x2, x3, x4, .int a, x6, x7] st z Q = ZW zG d 156 120 [x0, x1, x2, x3, x4, .int a, x6, x7] (.int a :: st) z Q := zw_next (f := z_iload 5 120) rfl rfl
theorem s156_120 {ls : List Value} {a : Int32} : ZW zG d 156 120 ls ([.int a]) z Q = Q (.inl (some (.int a))) z := zw_reti rfl
/-- X12_meets (II)V -/
theorem e157 {r0 : Nat} {v0 : Int32} {v1 : Int32} : ZC zG d 157 [.ref r0, .int v0, .int v1] z Q = ZW zG d 157 0 [.ref r0, .int v0, .int v1] [] z Q := rfl
theorem s157_0 {x0 x1 x2 : Value} : ZW zG d 157 0 [x0, x1, x2] st z Q = (zir x0 = true ∧ ZW zG d 157 1 [x0, x1, x2] (x0 :: st) z Q) := zw_cond (f := z_aload 0 1) rfl rfl
theorem s157_1 {ls : List Value} {r : Nat} : ZW zG d 157 1 ls (.ref r :: st) z Q = ((zcls z r = 12 ∧ zir (zfr z r 1) = true) ∧ ZW zG d 157 4 ls (zfr z r 1 :: st) (z) Q) := zw_getR rfl
theorem s157_4 {ls : List Value}  : ZW zG d 157 4 ls (st) z Q = ZW zG d 157 7 ls ((.int (nI 1864)) :: st) z Q := zw_push rfl
theorem s157_7 {x0 x2 : Value} {a : Int32} : ZW zG d 157 7 [x0, .int a, x2] st z Q = ZW zG d 157 8 [x0, .int a, x2] (.int a :: st) z Q := zw_next (f := z_iload 1 8) rfl rfl
theorem s157_8 {ls : List Value} {a b : Int32} : ZW zG d 157 8 ls (.int b :: .int a :: st) z Q = ZW zG d 157 9 ls (.int (a + b) :: st) z Q := zw_iadd rfl
theorem s157_9 {ls : List Value} {a : Int32} {r : Nat} : ZW zG d 157 9 ls (.int a :: .ref r :: st) z Q = ZW zG d 157 10 ls (.int a :: .ref r :: .int a :: .ref r :: st) z Q := zw_dup2 rfl
theorem s157_10 {ls : List Value} {a : Int32} {r : Nat} : ZW zG d 157 10 ls (.int a :: .ref r :: st) z Q = ((zcls z r = 50 ∧ zin a (zlen z r) = true) ∧ ZW zG d 157 11 ls (.int (zia z r (zx a)) :: st) (z) Q) := zw_iald rfl
theorem s157_11 {ls : List Value}  : ZW zG d 157 11 ls (st) z Q = ZW zG d 157 12 ls ((.int (nI 1)) :: st) z Q := zw_push rfl
theorem s157_12 {x0 x1 : Value} {a : Int32} : ZW zG d 157 12 [x0, x1, .int a] st z Q = ZW zG d 157 13 [x0, x1, .int a] (.int a :: st) z Q := zw_next (f := z_iload 2 13) rfl rfl
theorem s157_13 {ls : List Value} {a b : Int32} : ZW zG d 157 13 ls (.int b :: .int a :: st) z Q = ZW zG d 157 14 ls (.int (a <<< (b &&& 31)) :: st) z Q := zw_ishl rfl
theorem s157_14 {ls : List Value} {a b : Int32} : ZW zG d 157 14 ls (.int b :: .int a :: st) z Q = ZW zG d 157 15 ls (.int (a ||| b) :: st) z Q := zw_ior rfl
theorem s157_15 {ls : List Value} {a b : Int32} {r : Nat} : ZW zG d 157 15 ls (.int b :: .int a :: .ref r :: st) z Q = ((zcls z r = 50 ∧ zin a (zlen z r) = true) ∧ ZW zG d 157 16 ls (st) (sia z r (zx a) (znar 50 b)) Q) := zw_iast rfl
theorem s157_16 {x0 x1 x2 : Value} : ZW zG d 157 16 [x0, x1, x2] st z Q = (zir x0 = true ∧ ZW zG d 157 17 [x0, x1, x2] (x0 :: st) z Q) := zw_cond (f := z_aload 0 17) rfl rfl
theorem s157_17 {ls : List Value} {r : Nat} : ZW zG d 157 17 ls (.ref r :: st) z Q = ((zcls z r = 12 ∧ zir (zfr z r 1) = true) ∧ ZW zG d 157 20 ls (zfr z r 1 :: st) (z) Q) := zw_getR rfl
theorem s157_20 {ls : List Value}  : ZW zG d 157 20 ls (st) z Q = ZW zG d 157 23 ls ((.int (nI 1864)) :: st) z Q := zw_push rfl
theorem s157_23 {x0 x1 : Value} {a : Int32} : ZW zG d 157 23 [x0, x1, .int a] st z Q = ZW zG d 157 24 [x0, x1, .int a] (.int a :: st) z Q := zw_next (f := z_iload 2 24) rfl rfl
theorem s157_24 {ls : List Value} {a b : Int32} : ZW zG d 157 24 ls (.int b :: .int a :: st) z Q = ZW zG d 157 25 ls (.int (a + b) :: st) z Q := zw_iadd rfl
theorem s157_25 {ls : List Value} {a : Int32} {r : Nat} : ZW zG d 157 25 ls (.int a :: .ref r :: st) z Q = ZW zG d 157 26 ls (.int a :: .ref r :: .int a :: .ref r :: st) z Q := zw_dup2 rfl
theorem s157_26 {ls : List Value} {a : Int32} {r : Nat} : ZW zG d 157 26 ls (.int a :: .ref r :: st) z Q = ((zcls z r = 50 ∧ zin a (zlen z r) = true) ∧ ZW zG d 157 27 ls (.int (zia z r (zx a)) :: st) (z) Q) := zw_iald rfl
theorem s157_27 {ls : List Value}  : ZW zG d 157 27 ls (st) z Q = ZW zG d 157 28 ls ((.int (nI 1)) :: st) z Q := zw_push rfl
theorem s157_28 {x0 x2 : Value} {a : Int32} : ZW zG d 157 28 [x0, .int a, x2] st z Q = ZW zG d 157 29 [x0, .int a, x2] (.int a :: st) z Q := zw_next (f := z_iload 1 29) rfl rfl
theorem s157_29 {ls : List Value} {a b : Int32} : ZW zG d 157 29 ls (.int b :: .int a :: st) z Q = ZW zG d 157 30 ls (.int (a <<< (b &&& 31)) :: st) z Q := zw_ishl rfl
theorem s157_30 {ls : List Value} {a b : Int32} : ZW zG d 157 30 ls (.int b :: .int a :: st) z Q = ZW zG d 157 31 ls (.int (a ||| b) :: st) z Q := zw_ior rfl
theorem s157_31 {ls : List Value} {a b : Int32} {r : Nat} : ZW zG d 157 31 ls (.int b :: .int a :: .ref r :: st) z Q = ((zcls z r = 50 ∧ zin a (zlen z r) = true) ∧ ZW zG d 157 32 ls (st) (sia z r (zx a) (znar 50 b)) Q) := zw_iast rfl
theorem s157_32 {ls : List Value}  : ZW zG d 157 32 ls ([]) z Q = Q (.inl none) z := zw_ret rfl
/-- X12_pays (III)I -/
theorem e158 {r0 : Nat} {v0 : Int32} {v1 : Int32} {v2 : Int32} : ZC zG d 158 [.ref r0, .int v0, .int v1, .int v2] z Q = ZW zG d 158 0 [.ref r0, .int v0, .int v1, .int v2, zdum, zdum] [] z Q := rfl
theorem s158_0 {ls : List Value}  : ZW zG d 158 0 ls (st) z Q = ZW zG d 158 1 ls ((.int (nI 0)) :: st) z Q := zw_push rfl
theorem s158_1 {x0 x1 x2 x3 x4 x5 : Value} {a : Int32} : ZW zG d 158 1 [x0, x1, x2, x3, x4, x5] (.int a :: st) z Q = ZW zG d 158 3 [x0, x1, x2, zclr x3, .int a, x5] st z Q := zw_next (f := z_istore 4 3) rfl rfl
theorem s158_3 {x0 x1 x2 x3 x4 x5 : Value} : ZW zG d 158 3 [x0, x1, x2, x3, x4, x5] st z Q = (zir x0 = true ∧ ZW zG d 158 4 [x0, x1, x2, x3, x4, x5] (x0 :: st) z Q) := zw_cond (f := z_aload 0 4) rfl rfl
theorem s158_4 {ls : List Value} {r : Nat} : ZW zG d 158 4 ls (.ref r :: st) z Q = ((zcls z r = 12 ∧ zir (zfr z r 1) = true) ∧ ZW zG d 158 7 ls (zfr z r 1 :: st) (z) Q) := zw_getR rfl
theorem s158_7 {ls : List Value}  : ZW zG d 158 7 ls (st) z Q = ZW zG d 158 9 ls ((.int (nI 7)) :: st) z Q := zw_push rfl
theorem s158_9 {ls : List Value} {a : Int32} {r : Nat} : ZW zG d 158 9 ls (.int a :: .ref r :: st) z Q = ((zcls z r = 50 ∧ zin a (zlen z r) = true) ∧ ZW zG d 158 10 ls (.int (zia z r (zx a)) :: st) (z) Q) := zw_iald rfl
theorem s158_10 {ls : List Value}  : ZW zG d 158 10 ls (st) z Q = ZW zG d 158 11 ls ((.int (nI 1)) :: st) z Q := zw_push rfl
theorem s158_11 {ls : List Value} {a b : Int32} : ZW zG d 158 11 ls (.int b :: .int a :: st) z Q = ZW zG d 158 12 ls (.int (a - b) :: st) z Q := zw_isub rfl
theorem s158_12 {x0 x1 x2 x3 x4 x5 : Value} {a : Int32} : ZW zG d 158 12 [x0, x1, x2, x3, x4, x5] (.int a :: st) z Q = ZW zG d 158 14 [x0, x1, x2, x3, zclr x4, .int a] st z Q := zw_next (f := z_istore 5 14) rfl rfl
theorem s158_14 {x0 x1 x2 x3 x4 : Value} {a : Int32} : ZW zG d 158 14 [x0, x1, x2, x3, x4, .int a] st z Q = ZW zG d 158 16 [x0, x1, x2, x3, x4, .int a] (.int a :: st) z Q := zw_next (f := z_iload 5 16) rfl rfl
theorem s158_16 {ls : List Value} {a : Int32} : ZW zG d 158 16 ls (.int a :: st) z Q = if a < 0 then ZW zG d 158 70 ls st z Q else ZW zG d 158 19 ls st z Q := zw_iflt rfl
theorem s158_19 {x0 x1 x2 x3 x4 x5 : Value} : ZW zG d 158 19 [x0, x1, x2, x3, x4, x5] st z Q = (zir x0 = true ∧ ZW zG d 158 20 [x0, x1, x2, x3, x4, x5] (x0 :: st) z Q) := zw_cond (f := z_aload 0 20) rfl rfl
theorem s158_20 {x0 x1 x2 x3 x4 : Value} {a : Int32} : ZW zG d 158 20 [x0, x1, x2, x3, x4, .int a] st z Q = ZW zG d 158 22 [x0, x1, x2, x3, x4, .int a] (.int a :: st) z Q := zw_next (f := z_iload 5 22) rfl rfl
theorem s158_22 {ls : List Value}  : ZW zG d 158 22 ls (st) z Q = ZW zG d 158 23 ls ((.int (nI 0)) :: st) z Q := zw_push rfl
theorem s158_23 {ls : List Value} {w0 : Int32} {w1 : Int32} {r : Nat} : ZW zG (d + 1) 158 23 ls (.int w1 :: .int w0 :: .ref r :: st) z Q = (zcls z r = 12 ∧ zcs st = true ∧ ZC zG d 159 [.ref r, .int w0, .int w1] z (zk zG (d + 1) 158 (none) 26 ls st Q)) := zc_V2 rfl (Nat.le_of_ble_eq_true rfl)
theorem s158_26 {x0 x2 x3 x4 x5 : Value} {a : Int32} : ZW zG d 158 26 [x0, .int a, x2, x3, x4, x5] st z Q = ZW zG d 158 27 [x0, .int a, x2, x3, x4, x5] (.int a :: st) z Q := zw_next (f := z_iload 1 27) rfl rfl
theorem s158_27 {ls : List Value} {a b : Int32} : ZW zG d 158 27 ls (.int b :: .int a :: st) z Q = if ¬ a = b then ZW zG d 158 64 ls st z Q else ZW zG d 158 30 ls st z Q := zw_icne rfl
theorem s158_30 {x0 x1 x2 x3 x4 x5 : Value} : ZW zG d 158 30 [x0, x1, x2, x3, x4, x5] st z Q = (zir x0 = true ∧ ZW zG d 158 31 [x0, x1, x2, x3, x4, x5] (x0 :: st) z Q) := zw_cond (f := z_aload 0 31) rfl rfl
theorem s158_31 {x0 x1 x2 x3 x4 : Value} {a : Int32} : ZW zG d 158 31 [x0, x1, x2, x3, x4, .int a] st z Q = ZW zG d 158 33 [x0, x1, x2, x3, x4, .int a] (.int a :: st) z Q := zw_next (f := z_iload 5 33) rfl rfl
theorem s158_33 {ls : List Value}  : ZW zG d 158 33 ls (st) z Q = ZW zG d 158 34 ls ((.int (nI 1)) :: st) z Q := zw_push rfl
theorem s158_34 {ls : List Value} {w0 : Int32} {w1 : Int32} {r : Nat} : ZW zG (d + 1) 158 34 ls (.int w1 :: .int w0 :: .ref r :: st) z Q = (zcls z r = 12 ∧ zcs st = true ∧ ZC zG d 159 [.ref r, .int w0, .int w1] z (zk zG (d + 1) 158 (none) 37 ls st Q)) := zc_V2 rfl (Nat.le_of_ble_eq_true rfl)
theorem s158_37 {x0 x1 x3 x4 x5 : Value} {a : Int32} : ZW zG d 158 37 [x0, x1, .int a, x3, x4, x5] st z Q = ZW zG d 158 38 [x0, x1, .int a, x3, x4, x5] (.int a :: st) z Q := zw_next (f := z_iload 2 38) rfl rfl
theorem s158_38 {ls : List Value} {a b : Int32} : ZW zG d 158 38 ls (.int b :: .int a :: st) z Q = if ¬ a = b then ZW zG d 158 64 ls st z Q else ZW zG d 158 41 ls st z Q := zw_icne rfl
theorem s158_41 {x0 x1 x2 x3 x4 x5 : Value} : ZW zG d 158 41 [x0, x1, x2, x3, x4, x5] st z Q = (zir x0 = true ∧ ZW zG d 158 42 [x0, x1, x2, x3, x4, x5] (x0 :: st) z Q) := zw_cond (f := z_aload 0 42) rfl rfl
theorem s158_42 {x0 x1 x2 x3 x4 : Value} {a : Int32} : ZW zG d 158 42 [x0, x1, x2, x3, x4, .int a] st z Q = ZW zG d 158 44 [x0, x1, x2, x3, x4, .int a] (.int a :: st) z Q := zw_next (f := z_iload 5 44) rfl rfl
theorem s158_44 {ls : List Value}  : ZW zG d 158 44 ls (st) z Q = ZW zG d 158 45 ls ((.int (nI 2)) :: st) z Q := zw_push rfl
theorem s158_45 {ls : List Value} {w0 : Int32} {w1 : Int32} {r : Nat} : ZW zG (d + 1) 158 45 ls (.int w1 :: .int w0 :: .ref r :: st) z Q = (zcls z r = 12 ∧ zcs st = true ∧ ZC zG d 159 [.ref r, .int w0, .int w1] z (zk zG (d + 1) 158 (none) 48 ls st Q)) := zc_V2 rfl (Nat.le_of_ble_eq_true rfl)
theorem s158_48 {x0 x1 x2 x4 x5 : Value} {a : Int32} : ZW zG d 158 48 [x0, x1, x2, .int a, x4, x5] st z Q = ZW zG d 158 49 [x0, x1, x2, .int a, x4, x5] (.int a :: st) z Q := zw_next (f := z_iload 3 49) rfl rfl
theorem s158_49 {ls : List Value} {a b : Int32} : ZW zG d 158 49 ls (.int b :: .int a :: st) z Q = if a ≤ b then ZW zG d 158 55 ls st z Q else ZW zG d 158 52 ls st z Q := zw_icle rfl
theorem s158_52 {ls : List Value}  : ZW zG d 158 52 ls (st) z Q = ZW zG d 158 64 ls st z Q := zw_goto rfl
theorem s158_55 {x0 x1 x2 x3 x4 x5 : Value} : ZW zG d 158 55 [x0, x1, x2, x3, x4, x5] st z Q = (zir x0 = true ∧ ZW zG d 158 56 [x0, x1, x2, x3, x4, x5] (x0 :: st) z Q) := zw_cond (f := z_aload 0 56) rfl rfl
theorem s158_56 {x0 x1 x2 x3 x4 : Value} {a : Int32} : ZW zG d 158 56 [x0, x1, x2, x3, x4, .int a] st z Q = ZW zG d 158 58 [x0, x1, x2, x3, x4, .int a] (.int a :: st) z Q := zw_next (f := z_iload 5 58) rfl rfl
theorem s158_58 {ls : List Value} {w0 : Int32} {r : Nat} : ZW zG (d + 1) 158 58 ls (.int w0 :: .ref r :: st) z Q = (zcls z r = 12 ∧ zcs st = true ∧ ZC zG d 160 [.ref r, .int w0] z (zk zG (d + 1) 158 (none) 61 ls st Q)) := zc_V1 rfl (Nat.le_of_ble_eq_true rfl)
theorem s158_61 {x0 x1 x2 x3 x5 : Value} {a : Int32} : ZW zG d 158 61 [x0, x1, x2, x3, .int a, x5] st z Q = ZW zG d 158 64 [x0, x1, x2, zclr x3, .int (a + (nI 1)), x5] st z Q := zw_next (f := z_iinc 4 (nI 1) 64) rfl rfl
theorem s158_64 {x0 x1 x2 x3 x4 : Value} {a : Int32} : ZW zG d 158 64 [x0, x1, x2, x3, x4, .int a] st z Q = ZW zG d 158 67 [x0, x1, x2, x3, zclr x4, .int (a + (-1))] st z Q := zw_next (f := z_iinc 5 (-1) 67) rfl rfl
theorem s158_67 {ls : List Value}  : ZW zG d 158 67 ls (st) z Q = ZW zG d 158 14 ls st z Q := zw_goto rfl
theorem s158_70 {x0 x1 x2 x3 x5 : Value} {a : Int32} : ZW zG d 158 70 [x0, x1, x2, x3, .int a, x5] st z Q = ZW zG d 158 72 [x0, x1, x2, x3, .int a, x5] (.int a :: st) z Q := zw_next (f := z_iload 4 72) rfl rfl
theorem s158_72 {ls : List Value} {a : Int32} : ZW zG d 158 72 ls ([.int a]) z Q = Q (.inl (some (.int a))) z := zw_reti rfl
/-- X12_ofDebt (II)I -/
theorem e159 {r0 : Nat} {v0 : Int32} {v1 : Int32} : ZC zG d 159 [.ref r0, .int v0, .int v1] z Q = ZW zG d 159 0 [.ref r0, .int v0, .int v1] [] z Q := rfl
theorem s159_0 {x0 x1 x2 : Value} : ZW zG d 159 0 [x0, x1, x2] st z Q = (zir x0 = true ∧ ZW zG d 159 1 [x0, x1, x2] (x0 :: st) z Q) := zw_cond (f := z_aload 0 1) rfl rfl
theorem s159_1 {ls : List Value} {r : Nat} : ZW zG d 159 1 ls (.ref r :: st) z Q = ((zcls z r = 12 ∧ zir (zfr z r 1) = true) ∧ ZW zG d 159 4 ls (zfr z r 1 :: st) (z) Q) := zw_getR rfl
theorem s159_4 {ls : List Value}  : ZW zG d 159 4 ls (st) z Q = ZW zG d 159 7 ls ((.int (nI 1880)) :: st) z Q := zw_push rfl
theorem s159_7 {ls : List Value}  : ZW zG d 159 7 ls (st) z Q = ZW zG d 159 8 ls ((.int (nI 5)) :: st) z Q := zw_push rfl
theorem s159_8 {x0 x2 : Value} {a : Int32} : ZW zG d 159 8 [x0, .int a, x2] st z Q = ZW zG d 159 9 [x0, .int a, x2] (.int a :: st) z Q := zw_next (f := z_iload 1 9) rfl rfl
theorem s159_9 {ls : List Value} {a b : Int32} : ZW zG d 159 9 ls (.int b :: .int a :: st) z Q = ZW zG d 159 10 ls (.int (a * b) :: st) z Q := zw_imul rfl
theorem s159_10 {ls : List Value} {a b : Int32} : ZW zG d 159 10 ls (.int b :: .int a :: st) z Q = ZW zG d 159 11 ls (.int (a + b) :: st) z Q := zw_iadd rfl
theorem s159_11 {x0 x1 : Value} {a : Int32} : ZW zG d 159 11 [x0, x1, .int a] st z Q = ZW zG d 159 12 [x0, x1, .int a] (.int a :: st) z Q := zw_next (f := z_iload 2 12) rfl rfl
theorem s159_12 {ls : List Value} {a b : Int32} : ZW zG d 159 12 ls (.int b :: .int a :: st) z Q = ZW zG d 159 13 ls (.int (a + b) :: st) z Q := zw_iadd rfl
theorem s159_13 {ls : List Value} {a : Int32} {r : Nat} : ZW zG d 159 13 ls (.int a :: .ref r :: st) z Q = ((zcls z r = 50 ∧ zin a (zlen z r) = true) ∧ ZW zG d 159 14 ls (.int (zia z r (zx a)) :: st) (z) Q) := zw_iald rfl
theorem s159_14 {ls : List Value} {a : Int32} : ZW zG d 159 14 ls ([.int a]) z Q = Q (.inl (some (.int a))) z := zw_reti rfl
/-- X12_drops (I)V -/
theorem e160 {r0 : Nat} {v0 : Int32} : ZC zG d 160 [.ref r0, .int v0] z Q = ZW zG d 160 0 [.ref r0, .int v0, zdum] [] z Q := rfl
theorem s160_0 {ls : List Value}  : ZW zG d 160 0 ls (st) z Q = ZW zG d 160 1 ls ((.int (nI 5)) :: st) z Q := zw_push rfl
theorem s160_1 {x0 x2 : Value} {a : Int32} : ZW zG d 160 1 [x0, .int a, x2] st z Q = ZW zG d 160 2 [x0, .int a, x2] (.int a :: st) z Q := zw_next (f := z_iload 1 2) rfl rfl
theorem s160_2 {ls : List Value} {a b : Int32} : ZW zG d 160 2 ls (.int b :: .int a :: st) z Q = ZW zG d 160 3 ls (.int (a * b) :: st) z Q := zw_imul rfl
theorem s160_3 {x0 x1 x2 : Value} {a : Int32} : ZW zG d 160 3 [x0, x1, x2] (.int a :: st) z Q = ZW zG d 160 4 [x0, zclr x1, .int a] st z Q := zw_next (f := z_istore 2 4) rfl rfl
theorem s160_4 {x0 x1 : Value} {a : Int32} : ZW zG d 160 4 [x0, x1, .int a] st z Q = ZW zG d 160 5 [x0, x1, .int a] (.int a :: st) z Q := zw_next (f := z_iload 2 5) rfl rfl
theorem s160_5 {ls : List Value}  : ZW zG d 160 5 ls (st) z Q = ZW zG d 160 6 ls ((.int (nI 5)) :: st) z Q := zw_push rfl
theorem s160_6 {x0 x1 x2 : Value} : ZW zG d 160 6 [x0, x1, x2] st z Q = (zir x0 = true ∧ ZW zG d 160 7 [x0, x1, x2] (x0 :: st) z Q) := zw_cond (f := z_aload 0 7) rfl rfl
theorem s160_7 {ls : List Value} {r : Nat} : ZW zG d 160 7 ls (.ref r :: st) z Q = ((zcls z r = 12 ∧ zir (zfr z r 1) = true) ∧ ZW zG d 160 10 ls (zfr z r 1 :: st) (z) Q) := zw_getR rfl
theorem s160_10 {ls : List Value}  : ZW zG d 160 10 ls (st) z Q = ZW zG d 160 12 ls ((.int (nI 7)) :: st) z Q := zw_push rfl
theorem s160_12 {ls : List Value} {a : Int32} {r : Nat} : ZW zG d 160 12 ls (.int a :: .ref r :: st) z Q = ((zcls z r = 50 ∧ zin a (zlen z r) = true) ∧ ZW zG d 160 13 ls (.int (zia z r (zx a)) :: st) (z) Q) := zw_iald rfl
theorem s160_13 {ls : List Value}  : ZW zG d 160 13 ls (st) z Q = ZW zG d 160 14 ls ((.int (nI 1)) :: st) z Q := zw_push rfl
theorem s160_14 {ls : List Value} {a b : Int32} : ZW zG d 160 14 ls (.int b :: .int a :: st) z Q = ZW zG d 160 15 ls (.int (a - b) :: st) z Q := zw_isub rfl
theorem s160_15 {ls : List Value} {a b : Int32} : ZW zG d 160 15 ls (.int b :: .int a :: st) z Q = ZW zG d 160 16 ls (.int (a * b) :: st) z Q := zw_imul rfl
theorem s160_16 {ls : List Value} {a b : Int32} : ZW zG d 160 16 ls (.int b :: .int a :: st) z Q = if b ≤ a then ZW zG d 160 47 ls st z Q else ZW zG d 160 19 ls st z Q := zw_icge rfl
theorem s160_19 {x0 x1 x2 : Value} : ZW zG d 160 19 [x0, x1, x2] st z Q = (zir x0 = true ∧ ZW zG d 160 20 [x0, x1, x2] (x0 :: st) z Q) := zw_cond (f := z_aload 0 20) rfl rfl
theorem s160_20 {ls : List Value} {r : Nat} : ZW zG d 160 20 ls (.ref r :: st) z Q = ((zcls z r = 12 ∧ zir (zfr z r 1) = true) ∧ ZW zG d 160 23 ls (zfr z r 1 :: st) (z) Q) := zw_getR rfl
theorem s160_23 {ls : List Value}  : ZW zG d 160 23 ls (st) z Q = ZW zG d 160 26 ls ((.int (nI 1880)) :: st) z Q := zw_push rfl
theorem s160_26 {x0 x1 : Value} {a : Int32} : ZW zG d 160 26 [x0, x1, .int a] st z Q = ZW zG d 160 27 [x0, x1, .int a] (.int a :: st) z Q := zw_next (f := z_iload 2 27) rfl rfl
theorem s160_27 {ls : List Value} {a b : Int32} : ZW zG d 160 27 ls (.int b :: .int a :: st) z Q = ZW zG d 160 28 ls (.int (a + b) :: st) z Q := zw_iadd rfl
theorem s160_28 {x0 x1 x2 : Value} : ZW zG d 160 28 [x0, x1, x2] st z Q = (zir x0 = true ∧ ZW zG d 160 29 [x0, x1, x2] (x0 :: st) z Q) := zw_cond (f := z_aload 0 29) rfl rfl
theorem s160_29 {ls : List Value} {r : Nat} : ZW zG d 160 29 ls (.ref r :: st) z Q = ((zcls z r = 12 ∧ zir (zfr z r 1) = true) ∧ ZW zG d 160 32 ls (zfr z r 1 :: st) (z) Q) := zw_getR rfl
theorem s160_32 {ls : List Value}  : ZW zG d 160 32 ls (st) z Q = ZW zG d 160 35 ls ((.int (nI 1880)) :: st) z Q := zw_push rfl
theorem s160_35 {x0 x1 : Value} {a : Int32} : ZW zG d 160 35 [x0, x1, .int a] st z Q = ZW zG d 160 36 [x0, x1, .int a] (.int a :: st) z Q := zw_next (f := z_iload 2 36) rfl rfl
theorem s160_36 {ls : List Value} {a b : Int32} : ZW zG d 160 36 ls (.int b :: .int a :: st) z Q = ZW zG d 160 37 ls (.int (a + b) :: st) z Q := zw_iadd rfl
theorem s160_37 {ls : List Value}  : ZW zG d 160 37 ls (st) z Q = ZW zG d 160 38 ls ((.int (nI 5)) :: st) z Q := zw_push rfl
theorem s160_38 {ls : List Value} {a b : Int32} : ZW zG d 160 38 ls (.int b :: .int a :: st) z Q = ZW zG d 160 39 ls (.int (a + b) :: st) z Q := zw_iadd rfl
theorem s160_39 {ls : List Value} {a : Int32} {r : Nat} : ZW zG d 160 39 ls (.int a :: .ref r :: st) z Q = ((zcls z r = 50 ∧ zin a (zlen z r) = true) ∧ ZW zG d 160 40 ls (.int (zia z r (zx a)) :: st) (z) Q) := zw_iald rfl
theorem s160_40 {ls : List Value} {a b : Int32} {r : Nat} : ZW zG d 160 40 ls (.int b :: .int a :: .ref r :: st) z Q = ((zcls z r = 50 ∧ zin a (zlen z r) = true) ∧ ZW zG d 160 41 ls (st) (sia z r (zx a) (znar 50 b)) Q) := zw_iast rfl
theorem s160_41 {x0 x1 : Value} {a : Int32} : ZW zG d 160 41 [x0, x1, .int a] st z Q = ZW zG d 160 44 [x0, zclr x1, .int (a + (nI 1))] st z Q := zw_next (f := z_iinc 2 (nI 1) 44) rfl rfl
theorem s160_44 {ls : List Value}  : ZW zG d 160 44 ls (st) z Q = ZW zG d 160 4 ls st z Q := zw_goto rfl
theorem s160_47 {x0 x1 x2 : Value} : ZW zG d 160 47 [x0, x1, x2] st z Q = (zir x0 = true ∧ ZW zG d 160 48 [x0, x1, x2] (x0 :: st) z Q) := zw_cond (f := z_aload 0 48) rfl rfl
theorem s160_48 {ls : List Value} {r : Nat} : ZW zG d 160 48 ls (.ref r :: st) z Q = ((zcls z r = 12 ∧ zir (zfr z r 1) = true) ∧ ZW zG d 160 51 ls (zfr z r 1 :: st) (z) Q) := zw_getR rfl
theorem s160_51 {ls : List Value}  : ZW zG d 160 51 ls (st) z Q = ZW zG d 160 53 ls ((.int (nI 7)) :: st) z Q := zw_push rfl
theorem s160_53 {ls : List Value} {a : Int32} {r : Nat} : ZW zG d 160 53 ls (.int a :: .ref r :: st) z Q = ZW zG d 160 54 ls (.int a :: .ref r :: .int a :: .ref r :: st) z Q := zw_dup2 rfl
theorem s160_54 {ls : List Value} {a : Int32} {r : Nat} : ZW zG d 160 54 ls (.int a :: .ref r :: st) z Q = ((zcls z r = 50 ∧ zin a (zlen z r) = true) ∧ ZW zG d 160 55 ls (.int (zia z r (zx a)) :: st) (z) Q) := zw_iald rfl
theorem s160_55 {ls : List Value}  : ZW zG d 160 55 ls (st) z Q = ZW zG d 160 56 ls ((.int (nI 1)) :: st) z Q := zw_push rfl
theorem s160_56 {ls : List Value} {a b : Int32} : ZW zG d 160 56 ls (.int b :: .int a :: st) z Q = ZW zG d 160 57 ls (.int (a - b) :: st) z Q := zw_isub rfl
theorem s160_57 {ls : List Value} {a b : Int32} {r : Nat} : ZW zG d 160 57 ls (.int b :: .int a :: .ref r :: st) z Q = ((zcls z r = 50 ∧ zin a (zlen z r) = true) ∧ ZW zG d 160 58 ls (st) (sia z r (zx a) (znar 50 b)) Q) := zw_iast rfl
theorem s160_58 {ls : List Value}  : ZW zG d 160 58 ls ([]) z Q = Q (.inl none) z := zw_ret rfl
/-- X12_lineFor (IIIZI)I -/
theorem e161 {r0 : Nat} {v0 : Int32} {v1 : Int32} {v2 : Int32} {v3 : Int32} {v4 : Int32} : ZC zG d 161 [.ref r0, .int v0, .int v1, .int v2, .int v3, .int v4] z Q = ZW zG d 161 0 [.ref r0, .int v0, .int v1, .int v2, .int v3, .int v4, zdum, zdum, zdum, zdum] [] z Q := rfl
theorem s161_0 {x0 x1 x2 x3 x4 x5 x6 x7 x8 x9 : Value} : ZW zG d 161 0 [x0, x1, x2, x3, x4, x5, x6, x7, x8, x9] st z Q = (zir x0 = true ∧ ZW zG d 161 1 [x0, x1, x2, x3, x4, x5, x6, x7, x8, x9] (x0 :: st) z Q) := zw_cond (f := z_aload 0 1) rfl rfl
theorem s161_1 {ls : List Value} {r : Nat} : ZW zG d 161 1 ls (.ref r :: st) z Q = ((zcls z r = 12 ∧ zir (zfr z r 15) = true) ∧ ZW zG d 161 4 ls (zfr z r 15 :: st) (z) Q) := zw_getR rfl
theorem s161_4 {ls : List Value}  : ZW zG d 161 4 ls (st) z Q = ZW zG d 161 5 ls ((.int (nI 0)) :: st) z Q := zw_push rfl
theorem s161_5 {x0 x1 x2 x3 x4 x5 x6 x7 x8 x9 : Value} : ZW zG d 161 5 [x0, x1, x2, x3, x4, x5, x6, x7, x8, x9] st z Q = (zir x0 = true ∧ ZW zG d 161 6 [x0, x1, x2, x3, x4, x5, x6, x7, x8, x9] (x0 :: st) z Q) := zw_cond (f := z_aload 0 6) rfl rfl
theorem s161_6 {x0 x2 x3 x4 x5 x6 x7 x8 x9 : Value} {a : Int32} : ZW zG d 161 6 [x0, .int a, x2, x3, x4, x5, x6, x7, x8, x9] st z Q = ZW zG d 161 7 [x0, .int a, x2, x3, x4, x5, x6, x7, x8, x9] (.int a :: st) z Q := zw_next (f := z_iload 1 7) rfl rfl
theorem s161_7 {ls : List Value}  : ZW zG d 161 7 ls (st) z Q = ZW zG d 161 8 ls ((.int (nI 2)) :: st) z Q := zw_push rfl
theorem s161_8 {ls : List Value} {w0 : Int32} {w1 : Int32} {r : Nat} : ZW zG (d + 1) 161 8 ls (.int w1 :: .int w0 :: .ref r :: st) z Q = (zcls z r = 12 ∧ zcs st = true ∧ ZC zG d 139 [.ref r, .int w0, .int w1] z (zk zG (d + 1) 161 (none) 11 ls st Q)) := zc_V2 rfl (Nat.le_of_ble_eq_true rfl)
theorem s161_11 {ls : List Value} {a b : Int32} {r : Nat} : ZW zG d 161 11 ls (.int b :: .int a :: .ref r :: st) z Q = ((zcls z r = 50 ∧ zin a (zlen z r) = true) ∧ ZW zG d 161 12 ls (st) (sia z r (zx a) (znar 50 b)) Q) := zw_iast rfl
theorem s161_12 {x0 x1 x2 x3 x4 x5 x6 x7 x8 x9 : Value} : ZW zG d 161 12 [x0, x1, x2, x3, x4, x5, x6, x7, x8, x9] st z Q = (zir x0 = true ∧ ZW zG d 161 13 [x0, x1, x2, x3, x4, x5, x6, x7, x8, x9] (x0 :: st) z Q) := zw_cond (f := z_aload 0 13) rfl rfl
theorem s161_13 {ls : List Value} {r : Nat} : ZW zG d 161 13 ls (.ref r :: st) z Q = ((zcls z r = 12 ∧ zir (zfr z r 15) = true) ∧ ZW zG d 161 16 ls (zfr z r 15 :: st) (z) Q) := zw_getR rfl
theorem s161_16 {ls : List Value}  : ZW zG d 161 16 ls (st) z Q = ZW zG d 161 17 ls ((.int (nI 1)) :: st) z Q := zw_push rfl
theorem s161_17 {x0 x1 x2 x3 x4 x5 x6 x7 x8 x9 : Value} : ZW zG d 161 17 [x0, x1, x2, x3, x4, x5, x6, x7, x8, x9] st z Q = (zir x0 = true ∧ ZW zG d 161 18 [x0, x1, x2, x3, x4, x5, x6, x7, x8, x9] (x0 :: st) z Q) := zw_cond (f := z_aload 0 18) rfl rfl
theorem s161_18 {x0 x1 x3 x4 x5 x6 x7 x8 x9 : Value} {a : Int32} : ZW zG d 161 18 [x0, x1, .int a, x3, x4, x5, x6, x7, x8, x9] st z Q = ZW zG d 161 19 [x0, x1, .int a, x3, x4, x5, x6, x7, x8, x9] (.int a :: st) z Q := zw_next (f := z_iload 2 19) rfl rfl
theorem s161_19 {ls : List Value}  : ZW zG d 161 19 ls (st) z Q = ZW zG d 161 20 ls ((.int (nI 2)) :: st) z Q := zw_push rfl
theorem s161_20 {ls : List Value} {w0 : Int32} {w1 : Int32} {r : Nat} : ZW zG (d + 1) 161 20 ls (.int w1 :: .int w0 :: .ref r :: st) z Q = (zcls z r = 12 ∧ zcs st = true ∧ ZC zG d 139 [.ref r, .int w0, .int w1] z (zk zG (d + 1) 161 (none) 23 ls st Q)) := zc_V2 rfl (Nat.le_of_ble_eq_true rfl)
theorem s161_23 {ls : List Value} {a b : Int32} {r : Nat} : ZW zG d 161 23 ls (.int b :: .int a :: .ref r :: st) z Q = ((zcls z r = 50 ∧ zin a (zlen z r) = true) ∧ ZW zG d 161 24 ls (st) (sia z r (zx a) (znar 50 b)) Q) := zw_iast rfl
theorem s161_24 {x0 x1 x2 x3 x4 x5 x6 x7 x8 x9 : Value} : ZW zG d 161 24 [x0, x1, x2, x3, x4, x5, x6, x7, x8, x9] st z Q = (zir x0 = true ∧ ZW zG d 161 25 [x0, x1, x2, x3, x4, x5, x6, x7, x8, x9] (x0 :: st) z Q) := zw_cond (f := z_aload 0 25) rfl rfl
theorem s161_25 {ls : List Value} {r : Nat} : ZW zG d 161 25 ls (.ref r :: st) z Q = ((zcls z r = 12 ∧ zir (zfr z r 15) = true) ∧ ZW zG d 161 28 ls (zfr z r 15 :: st) (z) Q) := zw_getR rfl
theorem s161_28 {ls : List Value}  : ZW zG d 161 28 ls (st) z Q = ZW zG d 161 29 ls ((.int (nI 2)) :: st) z Q := zw_push rfl
theorem s161_29 {x0 x1 x2 x3 x4 x5 x6 x7 x8 x9 : Value} : ZW zG d 161 29 [x0, x1, x2, x3, x4, x5, x6, x7, x8, x9] st z Q = (zir x0 = true ∧ ZW zG d 161 30 [x0, x1, x2, x3, x4, x5, x6, x7, x8, x9] (x0 :: st) z Q) := zw_cond (f := z_aload 0 30) rfl rfl
theorem s161_30 {x0 x1 x3 x4 x5 x6 x7 x8 x9 : Value} {a : Int32} : ZW zG d 161 30 [x0, x1, .int a, x3, x4, x5, x6, x7, x8, x9] st z Q = ZW zG d 161 31 [x0, x1, .int a, x3, x4, x5, x6, x7, x8, x9] (.int a :: st) z Q := zw_next (f := z_iload 2 31) rfl rfl
theorem s161_31 {ls : List Value} {w0 : Int32} {r : Nat} : ZW zG (d + 1) 161 31 ls (.int w0 :: .ref r :: st) z Q = (zcls z r = 12 ∧ zcs st = true ∧ ZC zG d 162 [.ref r, .int w0] z (zk zG (d + 1) 161 (none) 34 ls st Q)) := zc_V1 rfl (Nat.le_of_ble_eq_true rfl)
theorem s161_34 {ls : List Value} {a b : Int32} {r : Nat} : ZW zG d 161 34 ls (.int b :: .int a :: .ref r :: st) z Q = ((zcls z r = 50 ∧ zin a (zlen z r) = true) ∧ ZW zG d 161 35 ls (st) (sia z r (zx a) (znar 50 b)) Q) := zw_iast rfl
theorem s161_35 {x0 x1 x2 x3 x4 x5 x6 x7 x8 x9 : Value} : ZW zG d 161 35 [x0, x1, x2, x3, x4, x5, x6, x7, x8, x9] st z Q = (zir x0 = true ∧ ZW zG d 161 36 [x0, x1, x2, x3, x4, x5, x6, x7, x8, x9] (x0 :: st) z Q) := zw_cond (f := z_aload 0 36) rfl rfl
theorem s161_36 {ls : List Value} {r : Nat} : ZW zG d 161 36 ls (.ref r :: st) z Q = ((zcls z r = 12 ∧ zir (zfr z r 15) = true) ∧ ZW zG d 161 39 ls (zfr z r 15 :: st) (z) Q) := zw_getR rfl
theorem s161_39 {ls : List Value}  : ZW zG d 161 39 ls (st) z Q = ZW zG d 161 40 ls ((.int (nI 3)) :: st) z Q := zw_push rfl
theorem s161_40 {x0 x1 x2 x3 x4 x6 x7 x8 x9 : Value} {a : Int32} : ZW zG d 161 40 [x0, x1, x2, x3, x4, .int a, x6, x7, x8, x9] st z Q = ZW zG d 161 42 [x0, x1, x2, x3, x4, .int a, x6, x7, x8, x9] (.int a :: st) z Q := zw_next (f := z_iload 5 42) rfl rfl
theorem s161_42 {ls : List Value} {a b : Int32} {r : Nat} : ZW zG d 161 42 ls (.int b :: .int a :: .ref r :: st) z Q = ((zcls z r = 50 ∧ zin a (zlen z r) = true) ∧ ZW zG d 161 43 ls (st) (sia z r (zx a) (znar 50 b)) Q) := zw_iast rfl
theorem s161_43 {x0 x1 x2 x3 x4 x5 x6 x7 x8 x9 : Value} : ZW zG d 161 43 [x0, x1, x2, x3, x4, x5, x6, x7, x8, x9] st z Q = (zir x0 = true ∧ ZW zG d 161 44 [x0, x1, x2, x3, x4, x5, x6, x7, x8, x9] (x0 :: st) z Q) := zw_cond (f := z_aload 0 44) rfl rfl
theorem s161_44 {ls : List Value} {r : Nat} : ZW zG d 161 44 ls (.ref r :: st) z Q = ((zcls z r = 12 ∧ zir (zfr z r 15) = true) ∧ ZW zG d 161 47 ls (zfr z r 15 :: st) (z) Q) := zw_getR rfl
theorem s161_47 {ls : List Value}  : ZW zG d 161 47 ls (st) z Q = ZW zG d 161 48 ls ((.int (nI 4)) :: st) z Q := zw_push rfl
theorem s161_48 {x0 x1 x2 x3 x5 x6 x7 x8 x9 : Value} {a : Int32} : ZW zG d 161 48 [x0, x1, x2, x3, .int a, x5, x6, x7, x8, x9] st z Q = ZW zG d 161 50 [x0, x1, x2, x3, .int a, x5, x6, x7, x8, x9] (.int a :: st) z Q := zw_next (f := z_iload 4 50) rfl rfl
theorem s161_50 {ls : List Value} {a : Int32} : ZW zG d 161 50 ls (.int a :: st) z Q = if a = 0 then ZW zG d 161 57 ls st z Q else ZW zG d 161 53 ls st z Q := zw_ifeq rfl
theorem s161_53 {ls : List Value}  : ZW zG d 161 53 ls (st) z Q = ZW zG d 161 54 ls ((.int (nI 1)) :: st) z Q := zw_push rfl
theorem s161_54 {ls : List Value}  : ZW zG d 161 54 ls (st) z Q = ZW zG d 161 58 ls st z Q := zw_goto rfl
theorem s161_57 {ls : List Value}  : ZW zG d 161 57 ls (st) z Q = ZW zG d 161 58 ls ((.int (nI 0)) :: st) z Q := zw_push rfl
theorem s161_58 {ls : List Value} {a b : Int32} {r : Nat} : ZW zG d 161 58 ls (.int b :: .int a :: .ref r :: st) z Q = ((zcls z r = 50 ∧ zin a (zlen z r) = true) ∧ ZW zG d 161 59 ls (st) (sia z r (zx a) (znar 50 b)) Q) := zw_iast rfl
theorem s161_59 {ls : List Value}  : ZW zG d 161 59 ls (st) z Q = ZW zG d 161 60 ls ((.int (nI 0)) :: st) z Q := zw_push rfl
theorem s161_60 {x0 x1 x2 x3 x4 x5 x6 x7 x8 x9 : Value} {a : Int32} : ZW zG d 161 60 [x0, x1, x2, x3, x4, x5, x6, x7, x8, x9] (.int a :: st) z Q = ZW zG d 161 62 [x0, x1, x2, x3, x4, zclr x5, .int a, x7, x8, x9] st z Q := zw_next (f := z_istore 6 62) rfl rfl
theorem s161_62 {x0 x1 x2 x3 x4 x5 x7 x8 x9 : Value} {a : Int32} : ZW zG d 161 62 [x0, x1, x2, x3, x4, x5, .int a, x7, x8, x9] st z Q = ZW zG d 161 64 [x0, x1, x2, x3, x4, x5, .int a, x7, x8, x9] (.int a :: st) z Q := zw_next (f := z_iload 6 64) rfl rfl
theorem s161_64 {x0 x1 x2 x3 x4 x5 x6 x7 x8 x9 : Value} : ZW zG d 161 64 [x0, x1, x2, x3, x4, x5, x6, x7, x8, x9] st z Q = (zir x0 = true ∧ ZW zG d 161 65 [x0, x1, x2, x3, x4, x5, x6, x7, x8, x9] (x0 :: st) z Q) := zw_cond (f := z_aload 0 65) rfl rfl
theorem s161_65 {ls : List Value} {r : Nat} : ZW zG d 161 65 ls (.ref r :: st) z Q = ((zcls z r = 12 ∧ zir (zfr z r 1) = true) ∧ ZW zG d 161 68 ls (zfr z r 1 :: st) (z) Q) := zw_getR rfl
theorem s161_68 {ls : List Value}  : ZW zG d 161 68 ls (st) z Q = ZW zG d 161 69 ls ((.int (nI 1)) :: st) z Q := zw_push rfl
theorem s161_69 {ls : List Value} {a : Int32} {r : Nat} : ZW zG d 161 69 ls (.int a :: .ref r :: st) z Q = ((zcls z r = 50 ∧ zin a (zlen z r) = true) ∧ ZW zG d 161 70 ls (.int (zia z r (zx a)) :: st) (z) Q) := zw_iald rfl
theorem s161_70 {ls : List Value} {a b : Int32} : ZW zG d 161 70 ls (.int b :: .int a :: st) z Q = if b ≤ a then ZW zG d 161 160 ls st z Q else ZW zG d 161 73 ls st z Q := zw_icge rfl
theorem s161_73 {ls : List Value}  : ZW zG d 161 73 ls (st) z Q = ZW zG d 161 76 ls ((.int (nI 154)) :: st) z Q := zw_push rfl
theorem s161_76 {ls : List Value}  : ZW zG d 161 76 ls (st) z Q = ZW zG d 161 77 ls ((.int (nI 5)) :: st) z Q := zw_push rfl
theorem s161_77 {x0 x1 x2 x3 x4 x5 x7 x8 x9 : Value} {a : Int32} : ZW zG d 161 77 [x0, x1, x2, x3, x4, x5, .int a, x7, x8, x9] st z Q = ZW zG d 161 79 [x0, x1, x2, x3, x4, x5, .int a, x7, x8, x9] (.int a :: st) z Q := zw_next (f := z_iload 6 79) rfl rfl
theorem s161_79 {ls : List Value} {a b : Int32} : ZW zG d 161 79 ls (.int b :: .int a :: st) z Q = ZW zG d 161 80 ls (.int (a * b) :: st) z Q := zw_imul rfl
theorem s161_80 {ls : List Value} {a b : Int32} : ZW zG d 161 80 ls (.int b :: .int a :: st) z Q = ZW zG d 161 81 ls (.int (a + b) :: st) z Q := zw_iadd rfl
theorem s161_81 {x0 x1 x2 x3 x4 x5 x6 x7 x8 x9 : Value} {a : Int32} : ZW zG d 161 81 [x0, x1, x2, x3, x4, x5, x6, x7, x8, x9] (.int a :: st) z Q = ZW zG d 161 83 [x0, x1, x2, x3, x4, x5, zclr x6, .int a, x8, x9] st z Q := zw_next (f := z_istore 7 83) rfl rfl
theorem s161_83 {x0 x1 x2 x3 x4 x5 x6 x7 x8 x9 : Value} : ZW zG d 161 83 [x0, x1, x2, x3, x4, x5, x6, x7, x8, x9] st z Q = (zir x0 = true ∧ ZW zG d 161 84 [x0, x1, x2, x3, x4, x5, x6, x7, x8, x9] (x0 :: st) z Q) := zw_cond (f := z_aload 0 84) rfl rfl
theorem s161_84 {ls : List Value} {r : Nat} : ZW zG d 161 84 ls (.ref r :: st) z Q = ((zcls z r = 12 ∧ zir (zfr z r 1) = true) ∧ ZW zG d 161 87 ls (zfr z r 1 :: st) (z) Q) := zw_getR rfl
theorem s161_87 {x0 x1 x2 x3 x4 x5 x6 x8 x9 : Value} {a : Int32} : ZW zG d 161 87 [x0, x1, x2, x3, x4, x5, x6, .int a, x8, x9] st z Q = ZW zG d 161 89 [x0, x1, x2, x3, x4, x5, x6, .int a, x8, x9] (.int a :: st) z Q := zw_next (f := z_iload 7 89) rfl rfl
theorem s161_89 {ls : List Value} {a : Int32} {r : Nat} : ZW zG d 161 89 ls (.int a :: .ref r :: st) z Q = ((zcls z r = 50 ∧ zin a (zlen z r) = true) ∧ ZW zG d 161 90 ls (.int (zia z r (zx a)) :: st) (z) Q) := zw_iald rfl
theorem s161_90 {x0 x1 x2 x4 x5 x6 x7 x8 x9 : Value} {a : Int32} : ZW zG d 161 90 [x0, x1, x2, .int a, x4, x5, x6, x7, x8, x9] st z Q = ZW zG d 161 91 [x0, x1, x2, .int a, x4, x5, x6, x7, x8, x9] (.int a :: st) z Q := zw_next (f := z_iload 3 91) rfl rfl
theorem s161_91 {ls : List Value} {a b : Int32} : ZW zG d 161 91 ls (.int b :: .int a :: st) z Q = if a = b then ZW zG d 161 97 ls st z Q else ZW zG d 161 94 ls st z Q := zw_iceq rfl
theorem s161_94 {ls : List Value}  : ZW zG d 161 94 ls (st) z Q = ZW zG d 161 154 ls st z Q := zw_goto rfl
theorem s161_97 {ls : List Value}  : ZW zG d 161 97 ls (st) z Q = ZW zG d 161 98 ls ((.int (nI 1)) :: st) z Q := zw_push rfl
theorem s161_98 {x0 x1 x2 x3 x4 x5 x6 x7 x8 x9 : Value} {a : Int32} : ZW zG d 161 98 [x0, x1, x2, x3, x4, x5, x6, x7, x8, x9] (.int a :: st) z Q = ZW zG d 161 100 [x0, x1, x2, x3, x4, x5, x6, zclr x7, .int a, x9] st z Q := zw_next (f := z_istore 8 100) rfl rfl
theorem s161_100 {ls : List Value}  : ZW zG d 161 100 ls (st) z Q = ZW zG d 161 101 ls ((.int (nI 0)) :: st) z Q := zw_push rfl
theorem s161_101 {x0 x1 x2 x3 x4 x5 x6 x7 x8 x9 : Value} {a : Int32} : ZW zG d 161 101 [x0, x1, x2, x3, x4, x5, x6, x7, x8, x9] (.int a :: st) z Q = ZW zG d 161 103 [x0, x1, x2, x3, x4, x5, x6, x7, zclr x8, .int a] st z Q := zw_next (f := z_istore 9 103) rfl rfl
theorem s161_103 {x0 x1 x2 x3 x4 x5 x6 x7 x8 : Value} {a : Int32} : ZW zG d 161 103 [x0, x1, x2, x3, x4, x5, x6, x7, x8, .int a] st z Q = ZW zG d 161 105 [x0, x1, x2, x3, x4, x5, x6, x7, x8, .int a] (.int a :: st) z Q := zw_next (f := z_iload 9 105) rfl rfl
theorem s161_105 {x0 x1 x2 x3 x4 x5 x6 x7 x8 x9 : Value} : ZW zG d 161 105 [x0, x1, x2, x3, x4, x5, x6, x7, x8, x9] st z Q = (zir x0 = true ∧ ZW zG d 161 106 [x0, x1, x2, x3, x4, x5, x6, x7, x8, x9] (x0 :: st) z Q) := zw_cond (f := z_aload 0 106) rfl rfl
theorem s161_106 {ls : List Value} {r : Nat} : ZW zG d 161 106 ls (.ref r :: st) z Q = ((zcls z r = 12 ∧ zir (zfr z r 1) = true) ∧ ZW zG d 161 109 ls (zfr z r 1 :: st) (z) Q) := zw_getR rfl
theorem s161_109 {x0 x1 x2 x3 x4 x5 x6 x8 x9 : Value} {a : Int32} : ZW zG d 161 109 [x0, x1, x2, x3, x4, x5, x6, .int a, x8, x9] st z Q = ZW zG d 161 111 [x0, x1, x2, x3, x4, x5, x6, .int a, x8, x9] (.int a :: st) z Q := zw_next (f := z_iload 7 111) rfl rfl
theorem s161_111 {ls : List Value}  : ZW zG d 161 111 ls (st) z Q = ZW zG d 161 112 ls ((.int (nI 4)) :: st) z Q := zw_push rfl
theorem s161_112 {ls : List Value} {a b : Int32} : ZW zG d 161 112 ls (.int b :: .int a :: st) z Q = ZW zG d 161 113 ls (.int (a + b) :: st) z Q := zw_iadd rfl
theorem s161_113 {ls : List Value} {a : Int32} {r : Nat} : ZW zG d 161 113 ls (.int a :: .ref r :: st) z Q = ((zcls z r = 50 ∧ zin a (zlen z r) = true) ∧ ZW zG d 161 114 ls (.int (zia z r (zx a)) :: st) (z) Q) := zw_iald rfl
theorem s161_114 {ls : List Value} {a b : Int32} : ZW zG d 161 114 ls (.int b :: .int a :: st) z Q = if b ≤ a then ZW zG d 161 146 ls st z Q else ZW zG d 161 117 ls st z Q := zw_icge rfl
theorem s161_117 {x0 x1 x2 x3 x4 x5 x6 x7 x9 : Value} {a : Int32} : ZW zG d 161 117 [x0, x1, x2, x3, x4, x5, x6, x7, .int a, x9] st z Q = ZW zG d 161 119 [x0, x1, x2, x3, x4, x5, x6, x7, .int a, x9] (.int a :: st) z Q := zw_next (f := z_iload 8 119) rfl rfl
theorem s161_119 {ls : List Value} {a : Int32} : ZW zG d 161 119 ls (.int a :: st) z Q = if a = 0 then ZW zG d 161 146 ls st z Q else ZW zG d 161 122 ls st z Q := zw_ifeq rfl
theorem s161_122 {x0 x1 x2 x3 x4 x5 x6 x7 x8 x9 : Value} : ZW zG d 161 122 [x0, x1, x2, x3, x4, x5, x6, x7, x8, x9] st z Q = (zir x0 = true ∧ ZW zG d 161 123 [x0, x1, x2, x3, x4, x5, x6, x7, x8, x9] (x0 :: st) z Q) := zw_cond (f := z_aload 0 123) rfl rfl
theorem s161_123 {x0 x1 x2 x3 x4 x5 x6 x7 x8 x9 : Value} : ZW zG d 161 123 [x0, x1, x2, x3, x4, x5, x6, x7, x8, x9] st z Q = (zir x0 = true ∧ ZW zG d 161 124 [x0, x1, x2, x3, x4, x5, x6, x7, x8, x9] (x0 :: st) z Q) := zw_cond (f := z_aload 0 124) rfl rfl
theorem s161_124 {ls : List Value} {r : Nat} : ZW zG d 161 124 ls (.ref r :: st) z Q = ((zcls z r = 12 ∧ zir (zfr z r 1) = true) ∧ ZW zG d 161 127 ls (zfr z r 1 :: st) (z) Q) := zw_getR rfl
theorem s161_127 {x0 x1 x2 x3 x4 x5 x6 x8 x9 : Value} {a : Int32} : ZW zG d 161 127 [x0, x1, x2, x3, x4, x5, x6, .int a, x8, x9] st z Q = ZW zG d 161 129 [x0, x1, x2, x3, x4, x5, x6, .int a, x8, x9] (.int a :: st) z Q := zw_next (f := z_iload 7 129) rfl rfl
theorem s161_129 {ls : List Value}  : ZW zG d 161 129 ls (st) z Q = ZW zG d 161 130 ls ((.int (nI 3)) :: st) z Q := zw_push rfl
theorem s161_130 {ls : List Value} {a b : Int32} : ZW zG d 161 130 ls (.int b :: .int a :: st) z Q = ZW zG d 161 131 ls (.int (a + b) :: st) z Q := zw_iadd rfl
theorem s161_131 {ls : List Value} {a : Int32} {r : Nat} : ZW zG d 161 131 ls (.int a :: .ref r :: st) z Q = ((zcls z r = 50 ∧ zin a (zlen z r) = true) ∧ ZW zG d 161 132 ls (.int (zia z r (zx a)) :: st) (z) Q) := zw_iald rfl
theorem s161_132 {x0 x1 x2 x3 x4 x5 x6 x7 x8 : Value} {a : Int32} : ZW zG d 161 132 [x0, x1, x2, x3, x4, x5, x6, x7, x8, .int a] st z Q = ZW zG d 161 134 [x0, x1, x2, x3, x4, x5, x6, x7, x8, .int a] (.int a :: st) z Q := zw_next (f := z_iload 9 134) rfl rfl
theorem s161_134 {ls : List Value} {a b : Int32} : ZW zG d 161 134 ls (.int b :: .int a :: st) z Q = ZW zG d 161 135 ls (.int (a + b) :: st) z Q := zw_iadd rfl
theorem s161_135 {ls : List Value} {w0 : Int32} {r : Nat} : ZW zG (d + 1) 161 135 ls (.int w0 :: .ref r :: st) z Q = (zcls z r = 12 ∧ zcs st = true ∧ ZC zG d 163 [.ref r, .int w0] z (zk zG (d + 1) 161 (none) 138 ls st Q)) := zc_V1 rfl (Nat.le_of_ble_eq_true rfl)
theorem s161_138 {x0 x1 x2 x3 x4 x5 x6 x7 x8 x9 : Value} {a : Int32} : ZW zG d 161 138 [x0, x1, x2, x3, x4, x5, x6, x7, x8, x9] (.int a :: st) z Q = ZW zG d 161 140 [x0, x1, x2, x3, x4, x5, x6, zclr x7, .int a, x9] st z Q := zw_next (f := z_istore 8 140) rfl rfl
theorem s161_140 {x0 x1 x2 x3 x4 x5 x6 x7 x8 : Value} {a : Int32} : ZW zG d 161 140 [x0, x1, x2, x3, x4, x5, x6, x7, x8, .int a] st z Q = ZW zG d 161 143 [x0, x1, x2, x3, x4, x5, x6, x7, zclr x8, .int (a + (nI 1))] st z Q := zw_next (f := z_iinc 9 (nI 1) 143) rfl rfl
theorem s161_143 {ls : List Value}  : ZW zG d 161 143 ls (st) z Q = ZW zG d 161 103 ls st z Q := zw_goto rfl
theorem s161_146 {x0 x1 x2 x3 x4 x5 x6 x7 x9 : Value} {a : Int32} : ZW zG d 161 146 [x0, x1, x2, x3, x4, x5, x6, x7, .int a, x9] st z Q = ZW zG d 161 148 [x0, x1, x2, x3, x4, x5, x6, x7, .int a, x9] (.int a :: st) z Q := zw_next (f := z_iload 8 148) rfl rfl
theorem s161_148 {ls : List Value} {a : Int32} : ZW zG d 161 148 ls (.int a :: st) z Q = if a = 0 then ZW zG d 161 154 ls st z Q else ZW zG d 161 151 ls st z Q := zw_ifeq rfl
theorem s161_151 {x0 x1 x2 x3 x4 x5 x7 x8 x9 : Value} {a : Int32} : ZW zG d 161 151 [x0, x1, x2, x3, x4, x5, .int a, x7, x8, x9] st z Q = ZW zG d 161 153 [x0, x1, x2, x3, x4, x5, .int a, x7, x8, x9] (.int a :: st) z Q := zw_next (f := z_iload 6 153) rfl rfl
theorem s161_153 {ls : List Value} {a : Int32} : ZW zG d 161 153 ls ([.int a]) z Q = Q (.inl (some (.int a))) z := zw_reti rfl
theorem s161_154 {x0 x1 x2 x3 x4 x5 x7 x8 x9 : Value} {a : Int32} : ZW zG d 161 154 [x0, x1, x2, x3, x4, x5, .int a, x7, x8, x9] st z Q = ZW zG d 161 157 [x0, x1, x2, x3, x4, zclr x5, .int (a + (nI 1)), x7, x8, x9] st z Q := zw_next (f := z_iinc 6 (nI 1) 157) rfl rfl
theorem s161_157 {ls : List Value}  : ZW zG d 161 157 ls (st) z Q = ZW zG d 161 62 ls st z Q := zw_goto rfl
theorem s161_160 {ls : List Value}  : ZW zG d 161 160 ls (st) z Q = ZW zG d 161 161 ls ((.int (-1)) :: st) z Q := zw_push rfl
theorem s161_161 {ls : List Value} {a : Int32} : ZW zG d 161 161 ls ([.int a]) z Q = Q (.inl (some (.int a))) z := zw_reti rfl
/-- X12_debtsOf (I)I -/
theorem e162 {r0 : Nat} {v0 : Int32} : ZC zG d 162 [.ref r0, .int v0] z Q = ZW zG d 162 0 [.ref r0, .int v0, zdum, zdum] [] z Q := rfl
theorem s162_0 {ls : List Value}  : ZW zG d 162 0 ls (st) z Q = ZW zG d 162 1 ls ((.int (nI 0)) :: st) z Q := zw_push rfl
theorem s162_1 {x0 x1 x2 x3 : Value} {a : Int32} : ZW zG d 162 1 [x0, x1, x2, x3] (.int a :: st) z Q = ZW zG d 162 2 [x0, zclr x1, .int a, x3] st z Q := zw_next (f := z_istore 2 2) rfl rfl
theorem s162_2 {ls : List Value}  : ZW zG d 162 2 ls (st) z Q = ZW zG d 162 3 ls ((.int (nI 0)) :: st) z Q := zw_push rfl
theorem s162_3 {x0 x1 x2 x3 : Value} {a : Int32} : ZW zG d 162 3 [x0, x1, x2, x3] (.int a :: st) z Q = ZW zG d 162 4 [x0, x1, zclr x2, .int a] st z Q := zw_next (f := z_istore 3 4) rfl rfl
theorem s162_4 {x0 x1 x2 : Value} {a : Int32} : ZW zG d 162 4 [x0, x1, x2, .int a] st z Q = ZW zG d 162 5 [x0, x1, x2, .int a] (.int a :: st) z Q := zw_next (f := z_iload 3 5) rfl rfl
theorem s162_5 {x0 x1 x2 x3 : Value} : ZW zG d 162 5 [x0, x1, x2, x3] st z Q = (zir x0 = true ∧ ZW zG d 162 6 [x0, x1, x2, x3] (x0 :: st) z Q) := zw_cond (f := z_aload 0 6) rfl rfl
theorem s162_6 {ls : List Value} {r : Nat} : ZW zG d 162 6 ls (.ref r :: st) z Q = ((zcls z r = 12 ∧ zir (zfr z r 1) = true) ∧ ZW zG d 162 9 ls (zfr z r 1 :: st) (z) Q) := zw_getR rfl
theorem s162_9 {ls : List Value}  : ZW zG d 162 9 ls (st) z Q = ZW zG d 162 11 ls ((.int (nI 7)) :: st) z Q := zw_push rfl
theorem s162_11 {ls : List Value} {a : Int32} {r : Nat} : ZW zG d 162 11 ls (.int a :: .ref r :: st) z Q = ((zcls z r = 50 ∧ zin a (zlen z r) = true) ∧ ZW zG d 162 12 ls (.int (zia z r (zx a)) :: st) (z) Q) := zw_iald rfl
theorem s162_12 {ls : List Value} {a b : Int32} : ZW zG d 162 12 ls (.int b :: .int a :: st) z Q = if b ≤ a then ZW zG d 162 39 ls st z Q else ZW zG d 162 15 ls st z Q := zw_icge rfl
theorem s162_15 {x0 x1 x3 : Value} {a : Int32} : ZW zG d 162 15 [x0, x1, .int a, x3] st z Q = ZW zG d 162 16 [x0, x1, .int a, x3] (.int a :: st) z Q := zw_next (f := z_iload 2 16) rfl rfl
theorem s162_16 {x0 x1 x2 x3 : Value} : ZW zG d 162 16 [x0, x1, x2, x3] st z Q = (zir x0 = true ∧ ZW zG d 162 17 [x0, x1, x2, x3] (x0 :: st) z Q) := zw_cond (f := z_aload 0 17) rfl rfl
theorem s162_17 {x0 x1 x2 : Value} {a : Int32} : ZW zG d 162 17 [x0, x1, x2, .int a] st z Q = ZW zG d 162 18 [x0, x1, x2, .int a] (.int a :: st) z Q := zw_next (f := z_iload 3 18) rfl rfl
theorem s162_18 {ls : List Value}  : ZW zG d 162 18 ls (st) z Q = ZW zG d 162 19 ls ((.int (nI 0)) :: st) z Q := zw_push rfl
theorem s162_19 {ls : List Value} {w0 : Int32} {w1 : Int32} {r : Nat} : ZW zG (d + 1) 162 19 ls (.int w1 :: .int w0 :: .ref r :: st) z Q = (zcls z r = 12 ∧ zcs st = true ∧ ZC zG d 159 [.ref r, .int w0, .int w1] z (zk zG (d + 1) 162 (none) 22 ls st Q)) := zc_V2 rfl (Nat.le_of_ble_eq_true rfl)
theorem s162_22 {x0 x2 x3 : Value} {a : Int32} : ZW zG d 162 22 [x0, .int a, x2, x3] st z Q = ZW zG d 162 23 [x0, .int a, x2, x3] (.int a :: st) z Q := zw_next (f := z_iload 1 23) rfl rfl
theorem s162_23 {ls : List Value} {a b : Int32} : ZW zG d 162 23 ls (.int b :: .int a :: st) z Q = if ¬ a = b then ZW zG d 162 30 ls st z Q else ZW zG d 162 26 ls st z Q := zw_icne rfl
theorem s162_26 {ls : List Value}  : ZW zG d 162 26 ls (st) z Q = ZW zG d 162 27 ls ((.int (nI 1)) :: st) z Q := zw_push rfl
theorem s162_27 {ls : List Value}  : ZW zG d 162 27 ls (st) z Q = ZW zG d 162 31 ls st z Q := zw_goto rfl
theorem s162_30 {ls : List Value}  : ZW zG d 162 30 ls (st) z Q = ZW zG d 162 31 ls ((.int (nI 0)) :: st) z Q := zw_push rfl
theorem s162_31 {ls : List Value} {a b : Int32} : ZW zG d 162 31 ls (.int b :: .int a :: st) z Q = ZW zG d 162 32 ls (.int (a + b) :: st) z Q := zw_iadd rfl
theorem s162_32 {x0 x1 x2 x3 : Value} {a : Int32} : ZW zG d 162 32 [x0, x1, x2, x3] (.int a :: st) z Q = ZW zG d 162 33 [x0, zclr x1, .int a, x3] st z Q := zw_next (f := z_istore 2 33) rfl rfl
theorem s162_33 {x0 x1 x2 : Value} {a : Int32} : ZW zG d 162 33 [x0, x1, x2, .int a] st z Q = ZW zG d 162 36 [x0, x1, zclr x2, .int (a + (nI 1))] st z Q := zw_next (f := z_iinc 3 (nI 1) 36) rfl rfl
theorem s162_36 {ls : List Value}  : ZW zG d 162 36 ls (st) z Q = ZW zG d 162 4 ls st z Q := zw_goto rfl
theorem s162_39 {x0 x1 x3 : Value} {a : Int32} : ZW zG d 162 39 [x0, x1, .int a, x3] st z Q = ZW zG d 162 40 [x0, x1, .int a, x3] (.int a :: st) z Q := zw_next (f := z_iload 2 40) rfl rfl
theorem s162_40 {ls : List Value} {a : Int32} : ZW zG d 162 40 ls ([.int a]) z Q = Q (.inl (some (.int a))) z := zw_reti rfl
/-- X12_testHolds (I)Z -/
theorem e163 {r0 : Nat} {v0 : Int32} : ZC zG d 163 [.ref r0, .int v0] z Q = ZW zG d 163 0 [.ref r0, .int v0, zdum, zdum, zdum, zdum, zdum, zdum, zdum, zdum, zdum] [] z Q := rfl
theorem s163_0 {x0 x1 x2 x3 x4 x5 x6 x7 x8 x9 x10 : Value} : ZW zG d 163 0 [x0, x1, x2, x3, x4, x5, x6, x7, x8, x9, x10] st z Q = (zir x0 = true ∧ ZW zG d 163 1 [x0, x1, x2, x3, x4, x5, x6, x7, x8, x9, x10] (x0 :: st) z Q) := zw_cond (f := z_aload 0 1) rfl rfl
theorem s163_1 {ls : List Value} {r : Nat} : ZW zG d 163 1 ls (.ref r :: st) z Q = ((zcls z r = 12 ∧ zir (zfr z r 1) = true) ∧ ZW zG d 163 4 ls (zfr z r 1 :: st) (z) Q) := zw_getR rfl
theorem s163_4 {ls : List Value}  : ZW zG d 163 4 ls (st) z Q = ZW zG d 163 7 ls ((.int (nI 274)) :: st) z Q := zw_push rfl
theorem s163_7 {ls : List Value}  : ZW zG d 163 7 ls (st) z Q = ZW zG d 163 8 ls ((.int (nI 3)) :: st) z Q := zw_push rfl
theorem s163_8 {x0 x2 x3 x4 x5 x6 x7 x8 x9 x10 : Value} {a : Int32} : ZW zG d 163 8 [x0, .int a, x2, x3, x4, x5, x6, x7, x8, x9, x10] st z Q = ZW zG d 163 9 [x0, .int a, x2, x3, x4, x5, x6, x7, x8, x9, x10] (.int a :: st) z Q := zw_next (f := z_iload 1 9) rfl rfl
theorem s163_9 {ls : List Value} {a b : Int32} : ZW zG d 163 9 ls (.int b :: .int a :: st) z Q = ZW zG d 163 10 ls (.int (a * b) :: st) z Q := zw_imul rfl
theorem s163_10 {ls : List Value} {a b : Int32} : ZW zG d 163 10 ls (.int b :: .int a :: st) z Q = ZW zG d 163 11 ls (.int (a + b) :: st) z Q := zw_iadd rfl
theorem s163_11 {ls : List Value}  : ZW zG d 163 11 ls (st) z Q = ZW zG d 163 12 ls ((.int (nI 1)) :: st) z Q := zw_push rfl
theorem s163_12 {ls : List Value} {a b : Int32} : ZW zG d 163 12 ls (.int b :: .int a :: st) z Q = ZW zG d 163 13 ls (.int (a + b) :: st) z Q := zw_iadd rfl
theorem s163_13 {ls : List Value} {a : Int32} {r : Nat} : ZW zG d 163 13 ls (.int a :: .ref r :: st) z Q = ((zcls z r = 50 ∧ zin a (zlen z r) = true) ∧ ZW zG d 163 14 ls (.int (zia z r (zx a)) :: st) (z) Q) := zw_iald rfl
theorem s163_14 {x0 x1 x2 x3 x4 x5 x6 x7 x8 x9 x10 : Value} {a : Int32} : ZW zG d 163 14 [x0, x1, x2, x3, x4, x5, x6, x7, x8, x9, x10] (.int a :: st) z Q = ZW zG d 163 15 [x0, zclr x1, .int a, x3, x4, x5, x6, x7, x8, x9, x10] st z Q := zw_next (f := z_istore 2 15) rfl rfl
theorem s163_15 {x0 x1 x3 x4 x5 x6 x7 x8 x9 x10 : Value} {a : Int32} : ZW zG d 163 15 [x0, x1, .int a, x3, x4, x5, x6, x7, x8, x9, x10] st z Q = ZW zG d 163 16 [x0, x1, .int a, x3, x4, x5, x6, x7, x8, x9, x10] (.int a :: st) z Q := zw_next (f := z_iload 2 16) rfl rfl
theorem s163_16 {x0 x1 x2 x3 x4 x5 x6 x7 x8 x9 x10 : Value} : ZW zG d 163 16 [x0, x1, x2, x3, x4, x5, x6, x7, x8, x9, x10] st z Q = (zir x0 = true ∧ ZW zG d 163 17 [x0, x1, x2, x3, x4, x5, x6, x7, x8, x9, x10] (x0 :: st) z Q) := zw_cond (f := z_aload 0 17) rfl rfl
theorem s163_17 {ls : List Value} {r : Nat} : ZW zG d 163 17 ls (.ref r :: st) z Q = ((zcls z r = 12 ∧ zir (zfr z r 1) = true) ∧ ZW zG d 163 20 ls (zfr z r 1 :: st) (z) Q) := zw_getR rfl
theorem s163_20 {ls : List Value}  : ZW zG d 163 20 ls (st) z Q = ZW zG d 163 23 ls ((.int (nI 274)) :: st) z Q := zw_push rfl
theorem s163_23 {ls : List Value}  : ZW zG d 163 23 ls (st) z Q = ZW zG d 163 24 ls ((.int (nI 3)) :: st) z Q := zw_push rfl
theorem s163_24 {x0 x2 x3 x4 x5 x6 x7 x8 x9 x10 : Value} {a : Int32} : ZW zG d 163 24 [x0, .int a, x2, x3, x4, x5, x6, x7, x8, x9, x10] st z Q = ZW zG d 163 25 [x0, .int a, x2, x3, x4, x5, x6, x7, x8, x9, x10] (.int a :: st) z Q := zw_next (f := z_iload 1 25) rfl rfl
theorem s163_25 {ls : List Value} {a b : Int32} : ZW zG d 163 25 ls (.int b :: .int a :: st) z Q = ZW zG d 163 26 ls (.int (a * b) :: st) z Q := zw_imul rfl
theorem s163_26 {ls : List Value} {a b : Int32} : ZW zG d 163 26 ls (.int b :: .int a :: st) z Q = ZW zG d 163 27 ls (.int (a + b) :: st) z Q := zw_iadd rfl
theorem s163_27 {ls : List Value}  : ZW zG d 163 27 ls (st) z Q = ZW zG d 163 28 ls ((.int (nI 2)) :: st) z Q := zw_push rfl
theorem s163_28 {ls : List Value} {a b : Int32} : ZW zG d 163 28 ls (.int b :: .int a :: st) z Q = ZW zG d 163 29 ls (.int (a + b) :: st) z Q := zw_iadd rfl
theorem s163_29 {ls : List Value} {a : Int32} {r : Nat} : ZW zG d 163 29 ls (.int a :: .ref r :: st) z Q = ((zcls z r = 50 ∧ zin a (zlen z r) = true) ∧ ZW zG d 163 30 ls (.int (zia z r (zx a)) :: st) (z) Q) := zw_iald rfl
theorem s163_30 {ls : List Value} {a b : Int32} : ZW zG d 163 30 ls (.int b :: .int a :: st) z Q = ZW zG d 163 31 ls (.int (a + b) :: st) z Q := zw_iadd rfl
theorem s163_31 {x0 x1 x2 x3 x4 x5 x6 x7 x8 x9 x10 : Value} {a : Int32} : ZW zG d 163 31 [x0, x1, x2, x3, x4, x5, x6, x7, x8, x9, x10] (.int a :: st) z Q = ZW zG d 163 32 [x0, x1, zclr x2, .int a, x4, x5, x6, x7, x8, x9, x10] st z Q := zw_next (f := z_istore 3 32) rfl rfl
theorem s163_32 {ls : List Value}  : ZW zG d 163 32 ls (st) z Q = ZW zG d 163 33 ls ((.long (lN 0)) :: st) z Q := zw_push rfl
theorem s163_33 {x0 x1 x2 x3 x4 x5 x6 x7 x8 x9 x10 : Value} {a : Int64} : ZW zG d 163 33 [x0, x1, x2, x3, x4, x5, x6, x7, x8, x9, x10] (.long a :: st) z Q = ZW zG d 163 35 [x0, x1, x2, zclr x3, .long a, zdum, x6, x7, x8, x9, x10] st z Q := zw_next (f := z_lstore 4 35) rfl rfl
theorem s163_35 {ls : List Value}  : ZW zG d 163 35 ls (st) z Q = ZW zG d 163 36 ls ((.long (lN 0)) :: st) z Q := zw_push rfl
theorem s163_36 {x0 x1 x2 x3 x4 x5 x6 x7 x8 x9 x10 : Value} {a : Int64} : ZW zG d 163 36 [x0, x1, x2, x3, x4, x5, x6, x7, x8, x9, x10] (.long a :: st) z Q = ZW zG d 163 38 [x0, x1, x2, x3, x4, zclr x5, .long a, zdum, x8, x9, x10] st z Q := zw_next (f := z_lstore 6 38) rfl rfl
theorem s163_38 {x0 x1 x3 x4 x5 x6 x7 x8 x9 x10 : Value} {a : Int32} : ZW zG d 163 38 [x0, x1, .int a, x3, x4, x5, x6, x7, x8, x9, x10] st z Q = ZW zG d 163 39 [x0, x1, .int a, x3, x4, x5, x6, x7, x8, x9, x10] (.int a :: st) z Q := zw_next (f := z_iload 2 39) rfl rfl
theorem s163_39 {x0 x1 x2 x4 x5 x6 x7 x8 x9 x10 : Value} {a : Int32} : ZW zG d 163 39 [x0, x1, x2, .int a, x4, x5, x6, x7, x8, x9, x10] st z Q = ZW zG d 163 40 [x0, x1, x2, .int a, x4, x5, x6, x7, x8, x9, x10] (.int a :: st) z Q := zw_next (f := z_iload 3 40) rfl rfl
theorem s163_40 {ls : List Value} {a b : Int32} : ZW zG d 163 40 ls (.int b :: .int a :: st) z Q = if b ≤ a then ZW zG d 163 173 ls st z Q else ZW zG d 163 43 ls st z Q := zw_icge rfl
theorem s163_43 {x0 x1 x2 x3 x4 x5 x6 x7 x8 x9 x10 : Value} : ZW zG d 163 43 [x0, x1, x2, x3, x4, x5, x6, x7, x8, x9, x10] st z Q = (zir x0 = true ∧ ZW zG d 163 44 [x0, x1, x2, x3, x4, x5, x6, x7, x8, x9, x10] (x0 :: st) z Q) := zw_cond (f := z_aload 0 44) rfl rfl
theorem s163_44 {ls : List Value} {r : Nat} : ZW zG d 163 44 ls (.ref r :: st) z Q = ((zcls z r = 12 ∧ zir (zfr z r 1) = true) ∧ ZW zG d 163 47 ls (zfr z r 1 :: st) (z) Q) := zw_getR rfl
theorem s163_47 {ls : List Value}  : ZW zG d 163 47 ls (st) z Q = ZW zG d 163 50 ls ((.int (nI 814)) :: st) z Q := zw_push rfl
theorem s163_50 {ls : List Value}  : ZW zG d 163 50 ls (st) z Q = ZW zG d 163 51 ls ((.int (nI 3)) :: st) z Q := zw_push rfl
theorem s163_51 {x0 x1 x3 x4 x5 x6 x7 x8 x9 x10 : Value} {a : Int32} : ZW zG d 163 51 [x0, x1, .int a, x3, x4, x5, x6, x7, x8, x9, x10] st z Q = ZW zG d 163 52 [x0, x1, .int a, x3, x4, x5, x6, x7, x8, x9, x10] (.int a :: st) z Q := zw_next (f := z_iload 2 52) rfl rfl
theorem s163_52 {ls : List Value} {a b : Int32} : ZW zG d 163 52 ls (.int b :: .int a :: st) z Q = ZW zG d 163 53 ls (.int (a * b) :: st) z Q := zw_imul rfl
theorem s163_53 {ls : List Value} {a b : Int32} : ZW zG d 163 53 ls (.int b :: .int a :: st) z Q = ZW zG d 163 54 ls (.int (a + b) :: st) z Q := zw_iadd rfl
theorem s163_54 {ls : List Value} {a : Int32} {r : Nat} : ZW zG d 163 54 ls (.int a :: .ref r :: st) z Q = ((zcls z r = 50 ∧ zin a (zlen z r) = true) ∧ ZW zG d 163 55 ls (.int (zia z r (zx a)) :: st) (z) Q) := zw_iald rfl
theorem s163_55 {x0 x1 x2 x3 x4 x5 x6 x7 x8 x9 x10 : Value} {a : Int32} : ZW zG d 163 55 [x0, x1, x2, x3, x4, x5, x6, x7, x8, x9, x10] (.int a :: st) z Q = ZW zG d 163 57 [x0, x1, x2, x3, x4, x5, x6, zclr x7, .int a, x9, x10] st z Q := zw_next (f := z_istore 8 57) rfl rfl
theorem s163_57 {x0 x1 x2 x3 x4 x5 x6 x7 x8 x9 x10 : Value} : ZW zG d 163 57 [x0, x1, x2, x3, x4, x5, x6, x7, x8, x9, x10] st z Q = (zir x0 = true ∧ ZW zG d 163 58 [x0, x1, x2, x3, x4, x5, x6, x7, x8, x9, x10] (x0 :: st) z Q) := zw_cond (f := z_aload 0 58) rfl rfl
theorem s163_58 {x0 x1 x3 x4 x5 x6 x7 x8 x9 x10 : Value} {a : Int32} : ZW zG d 163 58 [x0, x1, .int a, x3, x4, x5, x6, x7, x8, x9, x10] st z Q = ZW zG d 163 59 [x0, x1, .int a, x3, x4, x5, x6, x7, x8, x9, x10] (.int a :: st) z Q := zw_next (f := z_iload 2 59) rfl rfl
theorem s163_59 {ls : List Value} {w0 : Int32} {r : Nat} : ZW zG (d + 1) 163 59 ls (.int w0 :: .ref r :: st) z Q = (zcls z r = 12 ∧ zcs st = true ∧ ZC zG d 164 [.ref r, .int w0] z (zk zG (d + 1) 163 (none) 62 ls st Q)) := zc_V1 rfl (Nat.le_of_ble_eq_true rfl)
theorem s163_62 {x0 x1 x2 x3 x4 x5 x6 x7 x8 x9 x10 : Value} {a : Int64} : ZW zG d 163 62 [x0, x1, x2, x3, x4, x5, x6, x7, x8, x9, x10] (.long a :: st) z Q = ZW zG d 163 64 [x0, x1, x2, x3, x4, x5, x6, x7, zclr x8, .long a, zdum] st z Q := zw_next (f := z_lstore 9 64) rfl rfl
theorem s163_64 {x0 x1 x3 x4 x5 x6 x7 x8 x9 x10 : Value} {a : Int32} : ZW zG d 163 64 [x0, x1, .int a, x3, x4, x5, x6, x7, x8, x9, x10] st z Q = ZW zG d 163 67 [x0, zclr x1, .int (a + (nI 1)), x3, x4, x5, x6, x7, x8, x9, x10] st z Q := zw_next (f := z_iinc 2 (nI 1) 67) rfl rfl
theorem s163_67 {x0 x1 x3 x4 x5 x6 x7 x8 x9 x10 : Value} {a : Int32} : ZW zG d 163 67 [x0, x1, .int a, x3, x4, x5, x6, x7, x8, x9, x10] st z Q = ZW zG d 163 68 [x0, x1, .int a, x3, x4, x5, x6, x7, x8, x9, x10] (.int a :: st) z Q := zw_next (f := z_iload 2 68) rfl rfl
theorem s163_68 {x0 x1 x2 x4 x5 x6 x7 x8 x9 x10 : Value} {a : Int32} : ZW zG d 163 68 [x0, x1, x2, .int a, x4, x5, x6, x7, x8, x9, x10] st z Q = ZW zG d 163 69 [x0, x1, x2, .int a, x4, x5, x6, x7, x8, x9, x10] (.int a :: st) z Q := zw_next (f := z_iload 3 69) rfl rfl
theorem s163_69 {ls : List Value} {a b : Int32} : ZW zG d 163 69 ls (.int b :: .int a :: st) z Q = if b ≤ a then ZW zG d 163 120 ls st z Q else ZW zG d 163 72 ls st z Q := zw_icge rfl
theorem s163_72 {x0 x1 x2 x3 x4 x5 x6 x7 x8 x9 x10 : Value} : ZW zG d 163 72 [x0, x1, x2, x3, x4, x5, x6, x7, x8, x9, x10] st z Q = (zir x0 = true ∧ ZW zG d 163 73 [x0, x1, x2, x3, x4, x5, x6, x7, x8, x9, x10] (x0 :: st) z Q) := zw_cond (f := z_aload 0 73) rfl rfl
theorem s163_73 {ls : List Value} {r : Nat} : ZW zG d 163 73 ls (.ref r :: st) z Q = ((zcls z r = 12 ∧ zir (zfr z r 1) = true) ∧ ZW zG d 163 76 ls (zfr z r 1 :: st) (z) Q) := zw_getR rfl
theorem s163_76 {ls : List Value}  : ZW zG d 163 76 ls (st) z Q = ZW zG d 163 79 ls ((.int (nI 814)) :: st) z Q := zw_push rfl
theorem s163_79 {ls : List Value}  : ZW zG d 163 79 ls (st) z Q = ZW zG d 163 80 ls ((.int (nI 3)) :: st) z Q := zw_push rfl
theorem s163_80 {x0 x1 x3 x4 x5 x6 x7 x8 x9 x10 : Value} {a : Int32} : ZW zG d 163 80 [x0, x1, .int a, x3, x4, x5, x6, x7, x8, x9, x10] st z Q = ZW zG d 163 81 [x0, x1, .int a, x3, x4, x5, x6, x7, x8, x9, x10] (.int a :: st) z Q := zw_next (f := z_iload 2 81) rfl rfl
theorem s163_81 {ls : List Value} {a b : Int32} : ZW zG d 163 81 ls (.int b :: .int a :: st) z Q = ZW zG d 163 82 ls (.int (a * b) :: st) z Q := zw_imul rfl
theorem s163_82 {ls : List Value} {a b : Int32} : ZW zG d 163 82 ls (.int b :: .int a :: st) z Q = ZW zG d 163 83 ls (.int (a + b) :: st) z Q := zw_iadd rfl
theorem s163_83 {ls : List Value} {a : Int32} {r : Nat} : ZW zG d 163 83 ls (.int a :: .ref r :: st) z Q = ((zcls z r = 50 ∧ zin a (zlen z r) = true) ∧ ZW zG d 163 84 ls (.int (zia z r (zx a)) :: st) (z) Q) := zw_iald rfl
theorem s163_84 {ls : List Value}  : ZW zG d 163 84 ls (st) z Q = ZW zG d 163 85 ls ((.int (nI 3)) :: st) z Q := zw_push rfl
theorem s163_85 {ls : List Value} {a b : Int32} : ZW zG d 163 85 ls (.int b :: .int a :: st) z Q = if ¬ a = b then ZW zG d 163 120 ls st z Q else ZW zG d 163 88 ls st z Q := zw_icne rfl
theorem s163_88 {x0 x1 x2 x3 x4 x5 x6 x7 x8 x10 : Value} {a : Int64} : ZW zG d 163 88 [x0, x1, x2, x3, x4, x5, x6, x7, x8, .long a, x10] st z Q = ZW zG d 163 90 [x0, x1, x2, x3, x4, x5, x6, x7, x8, .long a, x10] (.long a :: st) z Q := zw_next (f := z_lload 9 90) rfl rfl
theorem s163_90 {x0 x1 x2 x3 x4 x5 x6 x7 x8 x9 x10 : Value} : ZW zG d 163 90 [x0, x1, x2, x3, x4, x5, x6, x7, x8, x9, x10] st z Q = (zir x0 = true ∧ ZW zG d 163 91 [x0, x1, x2, x3, x4, x5, x6, x7, x8, x9, x10] (x0 :: st) z Q) := zw_cond (f := z_aload 0 91) rfl rfl
theorem s163_91 {x0 x1 x3 x4 x5 x6 x7 x8 x9 x10 : Value} {a : Int32} : ZW zG d 163 91 [x0, x1, .int a, x3, x4, x5, x6, x7, x8, x9, x10] st z Q = ZW zG d 163 92 [x0, x1, .int a, x3, x4, x5, x6, x7, x8, x9, x10] (.int a :: st) z Q := zw_next (f := z_iload 2 92) rfl rfl
theorem s163_92 {ls : List Value} {w0 : Int32} {r : Nat} : ZW zG (d + 1) 163 92 ls (.int w0 :: .ref r :: st) z Q = (zcls z r = 12 ∧ zcs st = true ∧ ZC zG d 164 [.ref r, .int w0] z (zk zG (d + 1) 163 (none) 95 ls st Q)) := zc_V1 rfl (Nat.le_of_ble_eq_true rfl)
theorem s163_95 {ls : List Value} {x y : Int64} : ZW zG d 163 95 ls (.long y :: .long x :: st) z Q = ZW zG d 163 96 ls (.long (x * y) :: st) z Q := zw_lmul rfl
theorem s163_96 {x0 x1 x2 x3 x4 x5 x6 x7 x8 x9 x10 : Value} {a : Int64} : ZW zG d 163 96 [x0, x1, x2, x3, x4, x5, x6, x7, x8, x9, x10] (.long a :: st) z Q = ZW zG d 163 98 [x0, x1, x2, x3, x4, x5, x6, x7, zclr x8, .long a, zdum] st z Q := zw_next (f := z_lstore 9 98) rfl rfl
theorem s163_98 {x0 x1 x2 x3 x4 x5 x6 x7 x8 x10 : Value} {a : Int64} : ZW zG d 163 98 [x0, x1, x2, x3, x4, x5, x6, x7, x8, .long a, x10] st z Q = ZW zG d 163 100 [x0, x1, x2, x3, x4, x5, x6, x7, x8, .long a, x10] (.long a :: st) z Q := zw_next (f := z_lload 9 100) rfl rfl
theorem s163_100 {ls : List Value}  : ZW zG d 163 100 ls (st) z Q = ZW zG d 163 103 ls ((.long (-1000000000)) :: st) z Q := zw_push rfl
theorem s163_103 {ls : List Value}  : ZW zG d 163 103 ls (st) z Q = ZW zG d 163 106 ls ((.long (lN 1000000000)) :: st) z Q := zw_push rfl
theorem s163_106 {ls : List Value} {w0 : Int64} {w1 : Int64} {w2 : Int64} : ZW zG (d + 1) 163 106 ls (.long w2 :: .long w1 :: .long w0 :: st) z Q = (zcs st = true ∧ ZC zG d 114 [.long w0, .long w1, .long w2] z (zk zG (d + 1) 163 (none) 109 ls st Q)) := zc_S3 rfl (Nat.le_of_ble_eq_true rfl)
theorem s163_109 {ls : List Value} {a : Int32} : ZW zG d 163 109 ls (.int a :: st) z Q = if ¬ a = 0 then ZW zG d 163 114 ls st z Q else ZW zG d 163 112 ls st z Q := zw_ifne rfl
theorem s163_112 {ls : List Value}  : ZW zG d 163 112 ls (st) z Q = ZW zG d 163 113 ls ((.int (nI 0)) :: st) z Q := zw_push rfl
theorem s163_113 {ls : List Value} {a : Int32} : ZW zG d 163 113 ls ([.int a]) z Q = ((a = 0 ∨ a = 1) ∧ Q (.inl (some (.int a))) z) := zw_retz rfl
theorem s163_114 {x0 x1 x3 x4 x5 x6 x7 x8 x9 x10 : Value} {a : Int32} : ZW zG d 163 114 [x0, x1, .int a, x3, x4, x5, x6, x7, x8, x9, x10] st z Q = ZW zG d 163 117 [x0, zclr x1, .int (a + (nI 1)), x3, x4, x5, x6, x7, x8, x9, x10] st z Q := zw_next (f := z_iinc 2 (nI 1) 117) rfl rfl
theorem s163_117 {ls : List Value}  : ZW zG d 163 117 ls (st) z Q = ZW zG d 163 67 ls st z Q := zw_goto rfl
theorem s163_120 {x0 x1 x2 x3 x4 x5 x6 x7 x9 x10 : Value} {a : Int32} : ZW zG d 163 120 [x0, x1, x2, x3, x4, x5, x6, x7, .int a, x9, x10] st z Q = ZW zG d 163 122 [x0, x1, x2, x3, x4, x5, x6, x7, .int a, x9, x10] (.int a :: st) z Q := zw_next (f := z_iload 8 122) rfl rfl
theorem s163_122 {ls : List Value}  : ZW zG d 163 122 ls (st) z Q = ZW zG d 163 123 ls ((.int (nI 4)) :: st) z Q := zw_push rfl
theorem s163_123 {ls : List Value} {a b : Int32} : ZW zG d 163 123 ls (.int b :: .int a :: st) z Q = if ¬ a = b then ZW zG d 163 133 ls st z Q else ZW zG d 163 126 ls st z Q := zw_icne rfl
theorem s163_126 {x0 x1 x2 x3 x4 x5 x7 x8 x9 x10 : Value} {a : Int64} : ZW zG d 163 126 [x0, x1, x2, x3, x4, x5, .long a, x7, x8, x9, x10] st z Q = ZW zG d 163 128 [x0, x1, x2, x3, x4, x5, .long a, x7, x8, x9, x10] (.long a :: st) z Q := zw_next (f := z_lload 6 128) rfl rfl
theorem s163_128 {x0 x1 x2 x3 x4 x5 x6 x7 x8 x9 x10 : Value} {a : Int64} : ZW zG d 163 128 [x0, x1, x2, x3, x4, x5, x6, x7, x8, x9, x10] (.long a :: st) z Q = ZW zG d 163 130 [x0, x1, x2, zclr x3, .long a, zdum, x6, x7, x8, x9, x10] st z Q := zw_next (f := z_lstore 4 130) rfl rfl
theorem s163_130 {ls : List Value}  : ZW zG d 163 130 ls (st) z Q = ZW zG d 163 131 ls ((.long (lN 0)) :: st) z Q := zw_push rfl
theorem s163_131 {x0 x1 x2 x3 x4 x5 x6 x7 x8 x9 x10 : Value} {a : Int64} : ZW zG d 163 131 [x0, x1, x2, x3, x4, x5, x6, x7, x8, x9, x10] (.long a :: st) z Q = ZW zG d 163 133 [x0, x1, x2, x3, x4, zclr x5, .long a, zdum, x8, x9, x10] st z Q := zw_next (f := z_lstore 6 133) rfl rfl
theorem s163_133 {x0 x1 x2 x3 x4 x5 x6 x7 x9 x10 : Value} {a : Int32} : ZW zG d 163 133 [x0, x1, x2, x3, x4, x5, x6, x7, .int a, x9, x10] st z Q = ZW zG d 163 135 [x0, x1, x2, x3, x4, x5, x6, x7, .int a, x9, x10] (.int a :: st) z Q := zw_next (f := z_iload 8 135) rfl rfl
theorem s163_135 {ls : List Value}  : ZW zG d 163 135 ls (st) z Q = ZW zG d 163 136 ls ((.int (nI 2)) :: st) z Q := zw_push rfl
theorem s163_136 {ls : List Value} {a b : Int32} : ZW zG d 163 136 ls (.int b :: .int a :: st) z Q = if ¬ a = b then ZW zG d 163 147 ls st z Q else ZW zG d 163 139 ls st z Q := zw_icne rfl
theorem s163_139 {x0 x1 x2 x3 x4 x5 x7 x8 x9 x10 : Value} {a : Int64} : ZW zG d 163 139 [x0, x1, x2, x3, x4, x5, .long a, x7, x8, x9, x10] st z Q = ZW zG d 163 141 [x0, x1, x2, x3, x4, x5, .long a, x7, x8, x9, x10] (.long a :: st) z Q := zw_next (f := z_lload 6 141) rfl rfl
theorem s163_141 {x0 x1 x2 x3 x4 x5 x6 x7 x8 x10 : Value} {a : Int64} : ZW zG d 163 141 [x0, x1, x2, x3, x4, x5, x6, x7, x8, .long a, x10] st z Q = ZW zG d 163 143 [x0, x1, x2, x3, x4, x5, x6, x7, x8, .long a, x10] (.long a :: st) z Q := zw_next (f := z_lload 9 143) rfl rfl
theorem s163_143 {ls : List Value} {x y : Int64} : ZW zG d 163 143 ls (.long y :: .long x :: st) z Q = ZW zG d 163 144 ls (.long (x - y) :: st) z Q := zw_lsub rfl
theorem s163_144 {ls : List Value}  : ZW zG d 163 144 ls (st) z Q = ZW zG d 163 152 ls st z Q := zw_goto rfl
theorem s163_147 {x0 x1 x2 x3 x4 x5 x7 x8 x9 x10 : Value} {a : Int64} : ZW zG d 163 147 [x0, x1, x2, x3, x4, x5, .long a, x7, x8, x9, x10] st z Q = ZW zG d 163 149 [x0, x1, x2, x3, x4, x5, .long a, x7, x8, x9, x10] (.long a :: st) z Q := zw_next (f := z_lload 6 149) rfl rfl
theorem s163_149 {x0 x1 x2 x3 x4 x5 x6 x7 x8 x10 : Value} {a : Int64} : ZW zG d 163 149 [x0, x1, x2, x3, x4, x5, x6, x7, x8, .long a, x10] st z Q = ZW zG d 163 151 [x0, x1, x2, x3, x4, x5, x6, x7, x8, .long a, x10] (.long a :: st) z Q := zw_next (f := z_lload 9 151) rfl rfl
theorem s163_151 {ls : List Value} {x y : Int64} : ZW zG d 163 151 ls (.long y :: .long x :: st) z Q = ZW zG d 163 152 ls (.long (x + y) :: st) z Q := zw_ladd rfl
theorem s163_152 {x0 x1 x2 x3 x4 x5 x6 x7 x8 x9 x10 : Value} {a : Int64} : ZW zG d 163 152 [x0, x1, x2, x3, x4, x5, x6, x7, x8, x9, x10] (.long a :: st) z Q = ZW zG d 163 154 [x0, x1, x2, x3, x4, zclr x5, .long a, zdum, x8, x9, x10] st z Q := zw_next (f := z_lstore 6 154) rfl rfl
theorem s163_154 {x0 x1 x2 x3 x4 x5 x7 x8 x9 x10 : Value} {a : Int64} : ZW zG d 163 154 [x0, x1, x2, x3, x4, x5, .long a, x7, x8, x9, x10] st z Q = ZW zG d 163 156 [x0, x1, x2, x3, x4, x5, .long a, x7, x8, x9, x10] (.long a :: st) z Q := zw_next (f := z_lload 6 156) rfl rfl
theorem s163_156 {ls : List Value}  : ZW zG d 163 156 ls (st) z Q = ZW zG d 163 159 ls ((.long (-1000000000)) :: st) z Q := zw_push rfl
theorem s163_159 {ls : List Value}  : ZW zG d 163 159 ls (st) z Q = ZW zG d 163 162 ls ((.long (lN 1000000000)) :: st) z Q := zw_push rfl
theorem s163_162 {ls : List Value} {w0 : Int64} {w1 : Int64} {w2 : Int64} : ZW zG (d + 1) 163 162 ls (.long w2 :: .long w1 :: .long w0 :: st) z Q = (zcs st = true ∧ ZC zG d 114 [.long w0, .long w1, .long w2] z (zk zG (d + 1) 163 (none) 165 ls st Q)) := zc_S3 rfl (Nat.le_of_ble_eq_true rfl)
theorem s163_165 {ls : List Value} {a : Int32} : ZW zG d 163 165 ls (.int a :: st) z Q = if ¬ a = 0 then ZW zG d 163 170 ls st z Q else ZW zG d 163 168 ls st z Q := zw_ifne rfl
theorem s163_168 {ls : List Value}  : ZW zG d 163 168 ls (st) z Q = ZW zG d 163 169 ls ((.int (nI 0)) :: st) z Q := zw_push rfl
theorem s163_169 {ls : List Value} {a : Int32} : ZW zG d 163 169 ls ([.int a]) z Q = ((a = 0 ∨ a = 1) ∧ Q (.inl (some (.int a))) z) := zw_retz rfl
theorem s163_170 {ls : List Value}  : ZW zG d 163 170 ls (st) z Q = ZW zG d 163 38 ls st z Q := zw_goto rfl
theorem s163_173 {x0 x1 x2 x3 x4 x5 x6 x7 x8 x9 x10 : Value} : ZW zG d 163 173 [x0, x1, x2, x3, x4, x5, x6, x7, x8, x9, x10] st z Q = (zir x0 = true ∧ ZW zG d 163 174 [x0, x1, x2, x3, x4, x5, x6, x7, x8, x9, x10] (x0 :: st) z Q) := zw_cond (f := z_aload 0 174) rfl rfl
theorem s163_174 {ls : List Value} {r : Nat} : ZW zG d 163 174 ls (.ref r :: st) z Q = ((zcls z r = 12 ∧ zir (zfr z r 1) = true) ∧ ZW zG d 163 177 ls (zfr z r 1 :: st) (z) Q) := zw_getR rfl
theorem s163_177 {ls : List Value}  : ZW zG d 163 177 ls (st) z Q = ZW zG d 163 180 ls ((.int (nI 274)) :: st) z Q := zw_push rfl
theorem s163_180 {ls : List Value}  : ZW zG d 163 180 ls (st) z Q = ZW zG d 163 181 ls ((.int (nI 3)) :: st) z Q := zw_push rfl
theorem s163_181 {x0 x2 x3 x4 x5 x6 x7 x8 x9 x10 : Value} {a : Int32} : ZW zG d 163 181 [x0, .int a, x2, x3, x4, x5, x6, x7, x8, x9, x10] st z Q = ZW zG d 163 182 [x0, .int a, x2, x3, x4, x5, x6, x7, x8, x9, x10] (.int a :: st) z Q := zw_next (f := z_iload 1 182) rfl rfl
theorem s163_182 {ls : List Value} {a b : Int32} : ZW zG d 163 182 ls (.int b :: .int a :: st) z Q = ZW zG d 163 183 ls (.int (a * b) :: st) z Q := zw_imul rfl
theorem s163_183 {ls : List Value} {a b : Int32} : ZW zG d 163 183 ls (.int b :: .int a :: st) z Q = ZW zG d 163 184 ls (.int (a + b) :: st) z Q := zw_iadd rfl
theorem s163_184 {ls : List Value} {a : Int32} {r : Nat} : ZW zG d 163 184 ls (.int a :: .ref r :: st) z Q = ((zcls z r = 50 ∧ zin a (zlen z r) = true) ∧ ZW zG d 163 185 ls (.int (zia z r (zx a)) :: st) (z) Q) := zw_iald rfl
theorem s163_185 {x0 x1 x2 x3 x4 x5 x6 x7 x8 x9 x10 : Value} {a : Int32} : ZW zG d 163 185 [x0, x1, x2, x3, x4, x5, x6, x7, x8, x9, x10] (.int a :: st) z Q = ZW zG d 163 187 [x0, x1, x2, x3, x4, x5, x6, zclr x7, .int a, x9, x10] st z Q := zw_next (f := z_istore 8 187) rfl rfl
theorem s163_187 {x0 x1 x2 x3 x4 x5 x6 x7 x9 x10 : Value} {a : Int32} : ZW zG d 163 187 [x0, x1, x2, x3, x4, x5, x6, x7, .int a, x9, x10] st z Q = ZW zG d 163 189 [x0, x1, x2, x3, x4, x5, x6, x7, .int a, x9, x10] (.int a :: st) z Q := zw_next (f := z_iload 8 189) rfl rfl
theorem s163_189 {ls : List Value} {a : Int32} : ZW zG d 163 189 ls (.int a :: st) z Q = if ¬ a = 0 then ZW zG d 163 208 ls st z Q else ZW zG d 163 192 ls st z Q := zw_ifne rfl
theorem s163_192 {x0 x1 x2 x3 x5 x6 x7 x8 x9 x10 : Value} {a : Int64} : ZW zG d 163 192 [x0, x1, x2, x3, .long a, x5, x6, x7, x8, x9, x10] st z Q = ZW zG d 163 194 [x0, x1, x2, x3, .long a, x5, x6, x7, x8, x9, x10] (.long a :: st) z Q := zw_next (f := z_lload 4 194) rfl rfl
theorem s163_194 {x0 x1 x2 x3 x4 x5 x7 x8 x9 x10 : Value} {a : Int64} : ZW zG d 163 194 [x0, x1, x2, x3, x4, x5, .long a, x7, x8, x9, x10] st z Q = ZW zG d 163 196 [x0, x1, x2, x3, x4, x5, .long a, x7, x8, x9, x10] (.long a :: st) z Q := zw_next (f := z_lload 6 196) rfl rfl
theorem s163_196 {ls : List Value} {x y : Int64} : ZW zG d 163 196 ls (.long y :: .long x :: st) z Q = ZW zG d 163 197 ls (.int (lg_cmp x y) :: st) z Q := zw_lcmp rfl
theorem s163_197 {ls : List Value} {a : Int32} : ZW zG d 163 197 ls (.int a :: st) z Q = if a ≤ 0 then ZW zG d 163 204 ls st z Q else ZW zG d 163 200 ls st z Q := zw_ifle rfl
theorem s163_200 {ls : List Value}  : ZW zG d 163 200 ls (st) z Q = ZW zG d 163 201 ls ((.int (nI 1)) :: st) z Q := zw_push rfl
theorem s163_201 {ls : List Value}  : ZW zG d 163 201 ls (st) z Q = ZW zG d 163 243 ls st z Q := zw_goto rfl
theorem s163_204 {ls : List Value}  : ZW zG d 163 204 ls (st) z Q = ZW zG d 163 205 ls ((.int (nI 0)) :: st) z Q := zw_push rfl
theorem s163_205 {ls : List Value}  : ZW zG d 163 205 ls (st) z Q = ZW zG d 163 243 ls st z Q := zw_goto rfl
theorem s163_208 {x0 x1 x2 x3 x4 x5 x6 x7 x9 x10 : Value} {a : Int32} : ZW zG d 163 208 [x0, x1, x2, x3, x4, x5, x6, x7, .int a, x9, x10] st z Q = ZW zG d 163 210 [x0, x1, x2, x3, x4, x5, x6, x7, .int a, x9, x10] (.int a :: st) z Q := zw_next (f := z_iload 8 210) rfl rfl
theorem s163_210 {ls : List Value}  : ZW zG d 163 210 ls (st) z Q = ZW zG d 163 211 ls ((.int (nI 1)) :: st) z Q := zw_push rfl
theorem s163_211 {ls : List Value} {a b : Int32} : ZW zG d 163 211 ls (.int b :: .int a :: st) z Q = if ¬ a = b then ZW zG d 163 230 ls st z Q else ZW zG d 163 214 ls st z Q := zw_icne rfl
theorem s163_214 {x0 x1 x2 x3 x5 x6 x7 x8 x9 x10 : Value} {a : Int64} : ZW zG d 163 214 [x0, x1, x2, x3, .long a, x5, x6, x7, x8, x9, x10] st z Q = ZW zG d 163 216 [x0, x1, x2, x3, .long a, x5, x6, x7, x8, x9, x10] (.long a :: st) z Q := zw_next (f := z_lload 4 216) rfl rfl
theorem s163_216 {x0 x1 x2 x3 x4 x5 x7 x8 x9 x10 : Value} {a : Int64} : ZW zG d 163 216 [x0, x1, x2, x3, x4, x5, .long a, x7, x8, x9, x10] st z Q = ZW zG d 163 218 [x0, x1, x2, x3, x4, x5, .long a, x7, x8, x9, x10] (.long a :: st) z Q := zw_next (f := z_lload 6 218) rfl rfl
theorem s163_218 {ls : List Value} {x y : Int64} : ZW zG d 163 218 ls (.long y :: .long x :: st) z Q = ZW zG d 163 219 ls (.int (lg_cmp x y) :: st) z Q := zw_lcmp rfl
theorem s163_219 {ls : List Value} {a : Int32} : ZW zG d 163 219 ls (.int a :: st) z Q = if 0 ≤ a then ZW zG d 163 226 ls st z Q else ZW zG d 163 222 ls st z Q := zw_ifge rfl
theorem s163_222 {ls : List Value}  : ZW zG d 163 222 ls (st) z Q = ZW zG d 163 223 ls ((.int (nI 1)) :: st) z Q := zw_push rfl
theorem s163_223 {ls : List Value}  : ZW zG d 163 223 ls (st) z Q = ZW zG d 163 243 ls st z Q := zw_goto rfl
theorem s163_226 {ls : List Value}  : ZW zG d 163 226 ls (st) z Q = ZW zG d 163 227 ls ((.int (nI 0)) :: st) z Q := zw_push rfl
theorem s163_227 {ls : List Value}  : ZW zG d 163 227 ls (st) z Q = ZW zG d 163 243 ls st z Q := zw_goto rfl
theorem s163_230 {x0 x1 x2 x3 x5 x6 x7 x8 x9 x10 : Value} {a : Int64} : ZW zG d 163 230 [x0, x1, x2, x3, .long a, x5, x6, x7, x8, x9, x10] st z Q = ZW zG d 163 232 [x0, x1, x2, x3, .long a, x5, x6, x7, x8, x9, x10] (.long a :: st) z Q := zw_next (f := z_lload 4 232) rfl rfl
theorem s163_232 {x0 x1 x2 x3 x4 x5 x7 x8 x9 x10 : Value} {a : Int64} : ZW zG d 163 232 [x0, x1, x2, x3, x4, x5, .long a, x7, x8, x9, x10] st z Q = ZW zG d 163 234 [x0, x1, x2, x3, x4, x5, .long a, x7, x8, x9, x10] (.long a :: st) z Q := zw_next (f := z_lload 6 234) rfl rfl
theorem s163_234 {ls : List Value} {x y : Int64} : ZW zG d 163 234 ls (.long y :: .long x :: st) z Q = ZW zG d 163 235 ls (.int (lg_cmp x y) :: st) z Q := zw_lcmp rfl
theorem s163_235 {ls : List Value} {a : Int32} : ZW zG d 163 235 ls (.int a :: st) z Q = if ¬ a = 0 then ZW zG d 163 242 ls st z Q else ZW zG d 163 238 ls st z Q := zw_ifne rfl
theorem s163_238 {ls : List Value}  : ZW zG d 163 238 ls (st) z Q = ZW zG d 163 239 ls ((.int (nI 1)) :: st) z Q := zw_push rfl
theorem s163_239 {ls : List Value}  : ZW zG d 163 239 ls (st) z Q = ZW zG d 163 243 ls st z Q := zw_goto rfl
theorem s163_242 {ls : List Value}  : ZW zG d 163 242 ls (st) z Q = ZW zG d 163 243 ls ((.int (nI 0)) :: st) z Q := zw_push rfl
theorem s163_243 {ls : List Value} {a : Int32} : ZW zG d 163 243 ls ([.int a]) z Q = ((a = 0 ∨ a = 1) ∧ Q (.inl (some (.int a))) z) := zw_retz rfl
/-- X12_partOf (I)J -/
theorem e164 {r0 : Nat} {v0 : Int32} : ZC zG d 164 [.ref r0, .int v0] z Q = ZW zG d 164 0 [.ref r0, .int v0, zdum] [] z Q := rfl
theorem s164_0 {x0 x1 x2 : Value} : ZW zG d 164 0 [x0, x1, x2] st z Q = (zir x0 = true ∧ ZW zG d 164 1 [x0, x1, x2] (x0 :: st) z Q) := zw_cond (f := z_aload 0 1) rfl rfl
theorem s164_1 {ls : List Value} {r : Nat} : ZW zG d 164 1 ls (.ref r :: st) z Q = ((zcls z r = 12 ∧ zir (zfr z r 1) = true) ∧ ZW zG d 164 4 ls (zfr z r 1 :: st) (z) Q) := zw_getR rfl
theorem s164_4 {ls : List Value}  : ZW zG d 164 4 ls (st) z Q = ZW zG d 164 7 ls ((.int (nI 814)) :: st) z Q := zw_push rfl
theorem s164_7 {ls : List Value}  : ZW zG d 164 7 ls (st) z Q = ZW zG d 164 8 ls ((.int (nI 3)) :: st) z Q := zw_push rfl
theorem s164_8 {x0 x2 : Value} {a : Int32} : ZW zG d 164 8 [x0, .int a, x2] st z Q = ZW zG d 164 9 [x0, .int a, x2] (.int a :: st) z Q := zw_next (f := z_iload 1 9) rfl rfl
theorem s164_9 {ls : List Value} {a b : Int32} : ZW zG d 164 9 ls (.int b :: .int a :: st) z Q = ZW zG d 164 10 ls (.int (a * b) :: st) z Q := zw_imul rfl
theorem s164_10 {ls : List Value} {a b : Int32} : ZW zG d 164 10 ls (.int b :: .int a :: st) z Q = ZW zG d 164 11 ls (.int (a + b) :: st) z Q := zw_iadd rfl
theorem s164_11 {ls : List Value}  : ZW zG d 164 11 ls (st) z Q = ZW zG d 164 12 ls ((.int (nI 1)) :: st) z Q := zw_push rfl
theorem s164_12 {ls : List Value} {a b : Int32} : ZW zG d 164 12 ls (.int b :: .int a :: st) z Q = ZW zG d 164 13 ls (.int (a + b) :: st) z Q := zw_iadd rfl
theorem s164_13 {ls : List Value} {a : Int32} {r : Nat} : ZW zG d 164 13 ls (.int a :: .ref r :: st) z Q = ((zcls z r = 50 ∧ zin a (zlen z r) = true) ∧ ZW zG d 164 14 ls (.int (zia z r (zx a)) :: st) (z) Q) := zw_iald rfl
theorem s164_14 {x0 x1 x2 : Value} {a : Int32} : ZW zG d 164 14 [x0, x1, x2] (.int a :: st) z Q = ZW zG d 164 15 [x0, zclr x1, .int a] st z Q := zw_next (f := z_istore 2 15) rfl rfl
theorem s164_15 {x0 x1 : Value} {a : Int32} : ZW zG d 164 15 [x0, x1, .int a] st z Q = ZW zG d 164 16 [x0, x1, .int a] (.int a :: st) z Q := zw_next (f := z_iload 2 16) rfl rfl
theorem s164_16 {ls : List Value}  : ZW zG d 164 16 ls (st) z Q = ZW zG d 164 17 ls ((.int (nI 5)) :: st) z Q := zw_push rfl
theorem s164_17 {ls : List Value} {a b : Int32} : ZW zG d 164 17 ls (.int b :: .int a :: st) z Q = if ¬ a = b then ZW zG d 164 38 ls st z Q else ZW zG d 164 20 ls st z Q := zw_icne rfl
theorem s164_20 {x0 x1 x2 : Value} : ZW zG d 164 20 [x0, x1, x2] st z Q = (zir x0 = true ∧ ZW zG d 164 21 [x0, x1, x2] (x0 :: st) z Q) := zw_cond (f := z_aload 0 21) rfl rfl
theorem s164_21 {ls : List Value} {r : Nat} : ZW zG d 164 21 ls (.ref r :: st) z Q = ((zcls z r = 12 ∧ zir (zfr z r 1) = true) ∧ ZW zG d 164 24 ls (zfr z r 1 :: st) (z) Q) := zw_getR rfl
theorem s164_24 {ls : List Value}  : ZW zG d 164 24 ls (st) z Q = ZW zG d 164 27 ls ((.int (nI 814)) :: st) z Q := zw_push rfl
theorem s164_27 {ls : List Value}  : ZW zG d 164 27 ls (st) z Q = ZW zG d 164 28 ls ((.int (nI 3)) :: st) z Q := zw_push rfl
theorem s164_28 {x0 x2 : Value} {a : Int32} : ZW zG d 164 28 [x0, .int a, x2] st z Q = ZW zG d 164 29 [x0, .int a, x2] (.int a :: st) z Q := zw_next (f := z_iload 1 29) rfl rfl
theorem s164_29 {ls : List Value} {a b : Int32} : ZW zG d 164 29 ls (.int b :: .int a :: st) z Q = ZW zG d 164 30 ls (.int (a * b) :: st) z Q := zw_imul rfl
theorem s164_30 {ls : List Value} {a b : Int32} : ZW zG d 164 30 ls (.int b :: .int a :: st) z Q = ZW zG d 164 31 ls (.int (a + b) :: st) z Q := zw_iadd rfl
theorem s164_31 {ls : List Value}  : ZW zG d 164 31 ls (st) z Q = ZW zG d 164 32 ls ((.int (nI 2)) :: st) z Q := zw_push rfl
theorem s164_32 {ls : List Value} {a b : Int32} : ZW zG d 164 32 ls (.int b :: .int a :: st) z Q = ZW zG d 164 33 ls (.int (a + b) :: st) z Q := zw_iadd rfl
theorem s164_33 {ls : List Value} {a : Int32} {r : Nat} : ZW zG d 164 33 ls (.int a :: .ref r :: st) z Q = ((zcls z r = 50 ∧ zin a (zlen z r) = true) ∧ ZW zG d 164 34 ls (.int (zia z r (zx a)) :: st) (z) Q) := zw_iald rfl
theorem s164_34 {ls : List Value} {a : Int32} : ZW zG d 164 34 ls (.int a :: st) z Q = ZW zG d 164 35 ls (.long a.toInt64 :: st) z Q := zw_i2l rfl
theorem s164_35 {ls : List Value}  : ZW zG d 164 35 ls (st) z Q = ZW zG d 164 45 ls st z Q := zw_goto rfl
theorem s164_38 {x0 x1 x2 : Value} : ZW zG d 164 38 [x0, x1, x2] st z Q = (zir x0 = true ∧ ZW zG d 164 39 [x0, x1, x2] (x0 :: st) z Q) := zw_cond (f := z_aload 0 39) rfl rfl
theorem s164_39 {ls : List Value} {r : Nat} : ZW zG d 164 39 ls (.ref r :: st) z Q = ((zcls z r = 12 ∧ zir (zfr z r 15) = true) ∧ ZW zG d 164 42 ls (zfr z r 15 :: st) (z) Q) := zw_getR rfl
theorem s164_42 {x0 x1 : Value} {a : Int32} : ZW zG d 164 42 [x0, x1, .int a] st z Q = ZW zG d 164 43 [x0, x1, .int a] (.int a :: st) z Q := zw_next (f := z_iload 2 43) rfl rfl
theorem s164_43 {ls : List Value} {a : Int32} {r : Nat} : ZW zG d 164 43 ls (.int a :: .ref r :: st) z Q = ((zcls z r = 50 ∧ zin a (zlen z r) = true) ∧ ZW zG d 164 44 ls (.int (zia z r (zx a)) :: st) (z) Q) := zw_iald rfl
theorem s164_44 {ls : List Value} {a : Int32} : ZW zG d 164 44 ls (.int a :: st) z Q = ZW zG d 164 45 ls (.long a.toInt64 :: st) z Q := zw_i2l rfl
theorem s164_45 {ls : List Value} {a : Int64} : ZW zG d 164 45 ls ([.long a]) z Q = Q (.inl (some (.long a))) z := zw_retl rfl
/-- X12_owesAlready (III)Z -/
theorem e165 {r0 : Nat} {v0 : Int32} {v1 : Int32} {v2 : Int32} : ZC zG d 165 [.ref r0, .int v0, .int v1, .int v2] z Q = ZW zG d 165 0 [.ref r0, .int v0, .int v1, .int v2, zdum] [] z Q := rfl
theorem s165_0 {ls : List Value}  : ZW zG d 165 0 ls (st) z Q = ZW zG d 165 1 ls ((.int (nI 0)) :: st) z Q := zw_push rfl
theorem s165_1 {x0 x1 x2 x3 x4 : Value} {a : Int32} : ZW zG d 165 1 [x0, x1, x2, x3, x4] (.int a :: st) z Q = ZW zG d 165 3 [x0, x1, x2, zclr x3, .int a] st z Q := zw_next (f := z_istore 4 3) rfl rfl
theorem s165_3 {x0 x1 x2 x3 : Value} {a : Int32} : ZW zG d 165 3 [x0, x1, x2, x3, .int a] st z Q = ZW zG d 165 5 [x0, x1, x2, x3, .int a] (.int a :: st) z Q := zw_next (f := z_iload 4 5) rfl rfl
theorem s165_5 {x0 x1 x2 x3 x4 : Value} : ZW zG d 165 5 [x0, x1, x2, x3, x4] st z Q = (zir x0 = true ∧ ZW zG d 165 6 [x0, x1, x2, x3, x4] (x0 :: st) z Q) := zw_cond (f := z_aload 0 6) rfl rfl
theorem s165_6 {ls : List Value} {r : Nat} : ZW zG d 165 6 ls (.ref r :: st) z Q = ((zcls z r = 12 ∧ zir (zfr z r 1) = true) ∧ ZW zG d 165 9 ls (zfr z r 1 :: st) (z) Q) := zw_getR rfl
theorem s165_9 {ls : List Value}  : ZW zG d 165 9 ls (st) z Q = ZW zG d 165 11 ls ((.int (nI 7)) :: st) z Q := zw_push rfl
theorem s165_11 {ls : List Value} {a : Int32} {r : Nat} : ZW zG d 165 11 ls (.int a :: .ref r :: st) z Q = ((zcls z r = 50 ∧ zin a (zlen z r) = true) ∧ ZW zG d 165 12 ls (.int (zia z r (zx a)) :: st) (z) Q) := zw_iald rfl
theorem s165_12 {ls : List Value} {a b : Int32} : ZW zG d 165 12 ls (.int b :: .int a :: st) z Q = if b ≤ a then ZW zG d 165 56 ls st z Q else ZW zG d 165 15 ls st z Q := zw_icge rfl
theorem s165_15 {x0 x1 x2 x3 x4 : Value} : ZW zG d 165 15 [x0, x1, x2, x3, x4] st z Q = (zir x0 = true ∧ ZW zG d 165 16 [x0, x1, x2, x3, x4] (x0 :: st) z Q) := zw_cond (f := z_aload 0 16) rfl rfl
theorem s165_16 {x0 x1 x2 x3 : Value} {a : Int32} : ZW zG d 165 16 [x0, x1, x2, x3, .int a] st z Q = ZW zG d 165 18 [x0, x1, x2, x3, .int a] (.int a :: st) z Q := zw_next (f := z_iload 4 18) rfl rfl
theorem s165_18 {ls : List Value}  : ZW zG d 165 18 ls (st) z Q = ZW zG d 165 19 ls ((.int (nI 0)) :: st) z Q := zw_push rfl
theorem s165_19 {ls : List Value} {w0 : Int32} {w1 : Int32} {r : Nat} : ZW zG (d + 1) 165 19 ls (.int w1 :: .int w0 :: .ref r :: st) z Q = (zcls z r = 12 ∧ zcs st = true ∧ ZC zG d 159 [.ref r, .int w0, .int w1] z (zk zG (d + 1) 165 (none) 22 ls st Q)) := zc_V2 rfl (Nat.le_of_ble_eq_true rfl)
theorem s165_22 {x0 x2 x3 x4 : Value} {a : Int32} : ZW zG d 165 22 [x0, .int a, x2, x3, x4] st z Q = ZW zG d 165 23 [x0, .int a, x2, x3, x4] (.int a :: st) z Q := zw_next (f := z_iload 1 23) rfl rfl
theorem s165_23 {ls : List Value} {a b : Int32} : ZW zG d 165 23 ls (.int b :: .int a :: st) z Q = if ¬ a = b then ZW zG d 165 50 ls st z Q else ZW zG d 165 26 ls st z Q := zw_icne rfl
theorem s165_26 {x0 x1 x2 x3 x4 : Value} : ZW zG d 165 26 [x0, x1, x2, x3, x4] st z Q = (zir x0 = true ∧ ZW zG d 165 27 [x0, x1, x2, x3, x4] (x0 :: st) z Q) := zw_cond (f := z_aload 0 27) rfl rfl
theorem s165_27 {x0 x1 x2 x3 : Value} {a : Int32} : ZW zG d 165 27 [x0, x1, x2, x3, .int a] st z Q = ZW zG d 165 29 [x0, x1, x2, x3, .int a] (.int a :: st) z Q := zw_next (f := z_iload 4 29) rfl rfl
theorem s165_29 {ls : List Value}  : ZW zG d 165 29 ls (st) z Q = ZW zG d 165 30 ls ((.int (nI 1)) :: st) z Q := zw_push rfl
theorem s165_30 {ls : List Value} {w0 : Int32} {w1 : Int32} {r : Nat} : ZW zG (d + 1) 165 30 ls (.int w1 :: .int w0 :: .ref r :: st) z Q = (zcls z r = 12 ∧ zcs st = true ∧ ZC zG d 159 [.ref r, .int w0, .int w1] z (zk zG (d + 1) 165 (none) 33 ls st Q)) := zc_V2 rfl (Nat.le_of_ble_eq_true rfl)
theorem s165_33 {x0 x1 x3 x4 : Value} {a : Int32} : ZW zG d 165 33 [x0, x1, .int a, x3, x4] st z Q = ZW zG d 165 34 [x0, x1, .int a, x3, x4] (.int a :: st) z Q := zw_next (f := z_iload 2 34) rfl rfl
theorem s165_34 {ls : List Value} {a b : Int32} : ZW zG d 165 34 ls (.int b :: .int a :: st) z Q = if ¬ a = b then ZW zG d 165 50 ls st z Q else ZW zG d 165 37 ls st z Q := zw_icne rfl
theorem s165_37 {x0 x1 x2 x3 x4 : Value} : ZW zG d 165 37 [x0, x1, x2, x3, x4] st z Q = (zir x0 = true ∧ ZW zG d 165 38 [x0, x1, x2, x3, x4] (x0 :: st) z Q) := zw_cond (f := z_aload 0 38) rfl rfl
theorem s165_38 {x0 x1 x2 x3 : Value} {a : Int32} : ZW zG d 165 38 [x0, x1, x2, x3, .int a] st z Q = ZW zG d 165 40 [x0, x1, x2, x3, .int a] (.int a :: st) z Q := zw_next (f := z_iload 4 40) rfl rfl
theorem s165_40 {ls : List Value}  : ZW zG d 165 40 ls (st) z Q = ZW zG d 165 41 ls ((.int (nI 2)) :: st) z Q := zw_push rfl
theorem s165_41 {ls : List Value} {w0 : Int32} {w1 : Int32} {r : Nat} : ZW zG (d + 1) 165 41 ls (.int w1 :: .int w0 :: .ref r :: st) z Q = (zcls z r = 12 ∧ zcs st = true ∧ ZC zG d 159 [.ref r, .int w0, .int w1] z (zk zG (d + 1) 165 (none) 44 ls st Q)) := zc_V2 rfl (Nat.le_of_ble_eq_true rfl)
theorem s165_44 {x0 x1 x2 x4 : Value} {a : Int32} : ZW zG d 165 44 [x0, x1, x2, .int a, x4] st z Q = ZW zG d 165 45 [x0, x1, x2, .int a, x4] (.int a :: st) z Q := zw_next (f := z_iload 3 45) rfl rfl
theorem s165_45 {ls : List Value} {a b : Int32} : ZW zG d 165 45 ls (.int b :: .int a :: st) z Q = if ¬ a = b then ZW zG d 165 50 ls st z Q else ZW zG d 165 48 ls st z Q := zw_icne rfl
theorem s165_48 {ls : List Value}  : ZW zG d 165 48 ls (st) z Q = ZW zG d 165 49 ls ((.int (nI 1)) :: st) z Q := zw_push rfl
theorem s165_49 {ls : List Value} {a : Int32} : ZW zG d 165 49 ls ([.int a]) z Q = ((a = 0 ∨ a = 1) ∧ Q (.inl (some (.int a))) z) := zw_retz rfl
theorem s165_50 {x0 x1 x2 x3 : Value} {a : Int32} : ZW zG d 165 50 [x0, x1, x2, x3, .int a] st z Q = ZW zG d 165 53 [x0, x1, x2, zclr x3, .int (a + (nI 1))] st z Q := zw_next (f := z_iinc 4 (nI 1) 53) rfl rfl
theorem s165_53 {ls : List Value}  : ZW zG d 165 53 ls (st) z Q = ZW zG d 165 3 ls st z Q := zw_goto rfl
theorem s165_56 {ls : List Value}  : ZW zG d 165 56 ls (st) z Q = ZW zG d 165 57 ls ((.int (nI 0)) :: st) z Q := zw_push rfl
theorem s165_57 {ls : List Value} {a : Int32} : ZW zG d 165 57 ls ([.int a]) z Q = ((a = 0 ∨ a = 1) ∧ Q (.inl (some (.int a))) z) := zw_retz rfl
/-- X12_comes (IIIII)V -/
theorem e166 {r0 : Nat} {v0 : Int32} {v1 : Int32} {v2 : Int32} {v3 : Int32} {v4 : Int32} : ZC zG d 166 [.ref r0, .int v0, .int v1, .int v2, .int v3, .int v4] z Q = ZW zG d 166 0 [.ref r0, .int v0, .int v1, .int v2, .int v3, .int v4, zdum] [] z Q := rfl
theorem s166_0 {ls : List Value}  : ZW zG d 166 0 ls (st) z Q = ZW zG d 166 3 ls ((.int (nI 1880)) :: st) z Q := zw_push rfl
theorem s166_3 {ls : List Value}  : ZW zG d 166 3 ls (st) z Q = ZW zG d 166 4 ls ((.int (nI 5)) :: st) z Q := zw_push rfl
theorem s166_4 {x0 x1 x2 x3 x4 x5 x6 : Value} : ZW zG d 166 4 [x0, x1, x2, x3, x4, x5, x6] st z Q = (zir x0 = true ∧ ZW zG d 166 5 [x0, x1, x2, x3, x4, x5, x6] (x0 :: st) z Q) := zw_cond (f := z_aload 0 5) rfl rfl
theorem s166_5 {ls : List Value} {r : Nat} : ZW zG d 166 5 ls (.ref r :: st) z Q = ((zcls z r = 12 ∧ zir (zfr z r 1) = true) ∧ ZW zG d 166 8 ls (zfr z r 1 :: st) (z) Q) := zw_getR rfl
theorem s166_8 {ls : List Value}  : ZW zG d 166 8 ls (st) z Q = ZW zG d 166 10 ls ((.int (nI 7)) :: st) z Q := zw_push rfl
theorem s166_10 {ls : List Value} {a : Int32} {r : Nat} : ZW zG d 166 10 ls (.int a :: .ref r :: st) z Q = ((zcls z r = 50 ∧ zin a (zlen z r) = true) ∧ ZW zG d 166 11 ls (.int (zia z r (zx a)) :: st) (z) Q) := zw_iald rfl
theorem s166_11 {ls : List Value} {a b : Int32} : ZW zG d 166 11 ls (.int b :: .int a :: st) z Q = ZW zG d 166 12 ls (.int (a * b) :: st) z Q := zw_imul rfl
theorem s166_12 {ls : List Value} {a b : Int32} : ZW zG d 166 12 ls (.int b :: .int a :: st) z Q = ZW zG d 166 13 ls (.int (a + b) :: st) z Q := zw_iadd rfl
theorem s166_13 {x0 x1 x2 x3 x4 x5 x6 : Value} {a : Int32} : ZW zG d 166 13 [x0, x1, x2, x3, x4, x5, x6] (.int a :: st) z Q = ZW zG d 166 15 [x0, x1, x2, x3, x4, zclr x5, .int a] st z Q := zw_next (f := z_istore 6 15) rfl rfl
theorem s166_15 {x0 x1 x2 x3 x4 x5 x6 : Value} : ZW zG d 166 15 [x0, x1, x2, x3, x4, x5, x6] st z Q = (zir x0 = true ∧ ZW zG d 166 16 [x0, x1, x2, x3, x4, x5, x6] (x0 :: st) z Q) := zw_cond (f := z_aload 0 16) rfl rfl
theorem s166_16 {ls : List Value} {r : Nat} : ZW zG d 166 16 ls (.ref r :: st) z Q = ((zcls z r = 12 ∧ zir (zfr z r 1) = true) ∧ ZW zG d 166 19 ls (zfr z r 1 :: st) (z) Q) := zw_getR rfl
theorem s166_19 {x0 x1 x2 x3 x4 x5 : Value} {a : Int32} : ZW zG d 166 19 [x0, x1, x2, x3, x4, x5, .int a] st z Q = ZW zG d 166 21 [x0, x1, x2, x3, x4, x5, .int a] (.int a :: st) z Q := zw_next (f := z_iload 6 21) rfl rfl
theorem s166_21 {x0 x2 x3 x4 x5 x6 : Value} {a : Int32} : ZW zG d 166 21 [x0, .int a, x2, x3, x4, x5, x6] st z Q = ZW zG d 166 22 [x0, .int a, x2, x3, x4, x5, x6] (.int a :: st) z Q := zw_next (f := z_iload 1 22) rfl rfl
theorem s166_22 {ls : List Value} {a b : Int32} {r : Nat} : ZW zG d 166 22 ls (.int b :: .int a :: .ref r :: st) z Q = ((zcls z r = 50 ∧ zin a (zlen z r) = true) ∧ ZW zG d 166 23 ls (st) (sia z r (zx a) (znar 50 b)) Q) := zw_iast rfl
theorem s166_23 {x0 x1 x2 x3 x4 x5 x6 : Value} : ZW zG d 166 23 [x0, x1, x2, x3, x4, x5, x6] st z Q = (zir x0 = true ∧ ZW zG d 166 24 [x0, x1, x2, x3, x4, x5, x6] (x0 :: st) z Q) := zw_cond (f := z_aload 0 24) rfl rfl
theorem s166_24 {ls : List Value} {r : Nat} : ZW zG d 166 24 ls (.ref r :: st) z Q = ((zcls z r = 12 ∧ zir (zfr z r 1) = true) ∧ ZW zG d 166 27 ls (zfr z r 1 :: st) (z) Q) := zw_getR rfl
theorem s166_27 {x0 x1 x2 x3 x4 x5 : Value} {a : Int32} : ZW zG d 166 27 [x0, x1, x2, x3, x4, x5, .int a] st z Q = ZW zG d 166 29 [x0, x1, x2, x3, x4, x5, .int a] (.int a :: st) z Q := zw_next (f := z_iload 6 29) rfl rfl
theorem s166_29 {ls : List Value}  : ZW zG d 166 29 ls (st) z Q = ZW zG d 166 30 ls ((.int (nI 1)) :: st) z Q := zw_push rfl
theorem s166_30 {ls : List Value} {a b : Int32} : ZW zG d 166 30 ls (.int b :: .int a :: st) z Q = ZW zG d 166 31 ls (.int (a + b) :: st) z Q := zw_iadd rfl
theorem s166_31 {x0 x1 x3 x4 x5 x6 : Value} {a : Int32} : ZW zG d 166 31 [x0, x1, .int a, x3, x4, x5, x6] st z Q = ZW zG d 166 32 [x0, x1, .int a, x3, x4, x5, x6] (.int a :: st) z Q := zw_next (f := z_iload 2 32) rfl rfl
theorem s166_32 {ls : List Value} {a b : Int32} {r : Nat} : ZW zG d 166 32 ls (.int b :: .int a :: .ref r :: st) z Q = ((zcls z r = 50 ∧ zin a (zlen z r) = true) ∧ ZW zG d 166 33 ls (st) (sia z r (zx a) (znar 50 b)) Q) := zw_iast rfl
theorem s166_33 {x0 x1 x2 x3 x4 x5 x6 : Value} : ZW zG d 166 33 [x0, x1, x2, x3, x4, x5, x6] st z Q = (zir x0 = true ∧ ZW zG d 166 34 [x0, x1, x2, x3, x4, x5, x6] (x0 :: st) z Q) := zw_cond (f := z_aload 0 34) rfl rfl
theorem s166_34 {ls : List Value} {r : Nat} : ZW zG d 166 34 ls (.ref r :: st) z Q = ((zcls z r = 12 ∧ zir (zfr z r 1) = true) ∧ ZW zG d 166 37 ls (zfr z r 1 :: st) (z) Q) := zw_getR rfl
theorem s166_37 {x0 x1 x2 x3 x4 x5 : Value} {a : Int32} : ZW zG d 166 37 [x0, x1, x2, x3, x4, x5, .int a] st z Q = ZW zG d 166 39 [x0, x1, x2, x3, x4, x5, .int a] (.int a :: st) z Q := zw_next (f := z_iload 6 39) rfl rfl
theorem s166_39 {ls : List Value}  : ZW zG d 166 39 ls (st) z Q = ZW zG d 166 40 ls ((.int (nI 2)) :: st) z Q := zw_push rfl
theorem s166_40 {ls : List Value} {a b : Int32} : ZW zG d 166 40 ls (.int b :: .int a :: st) z Q = ZW zG d 166 41 ls (.int (a + b) :: st) z Q := zw_iadd rfl
theorem s166_41 {x0 x1 x2 x4 x5 x6 : Value} {a : Int32} : ZW zG d 166 41 [x0, x1, x2, .int a, x4, x5, x6] st z Q = ZW zG d 166 42 [x0, x1, x2, .int a, x4, x5, x6] (.int a :: st) z Q := zw_next (f := z_iload 3 42) rfl rfl
theorem s166_42 {ls : List Value} {a b : Int32} {r : Nat} : ZW zG d 166 42 ls (.int b :: .int a :: .ref r :: st) z Q = ((zcls z r = 50 ∧ zin a (zlen z r) = true) ∧ ZW zG d 166 43 ls (st) (sia z r (zx a) (znar 50 b)) Q) := zw_iast rfl
theorem s166_43 {x0 x1 x2 x3 x4 x5 x6 : Value} : ZW zG d 166 43 [x0, x1, x2, x3, x4, x5, x6] st z Q = (zir x0 = true ∧ ZW zG d 166 44 [x0, x1, x2, x3, x4, x5, x6] (x0 :: st) z Q) := zw_cond (f := z_aload 0 44) rfl rfl
theorem s166_44 {ls : List Value} {r : Nat} : ZW zG d 166 44 ls (.ref r :: st) z Q = ((zcls z r = 12 ∧ zir (zfr z r 1) = true) ∧ ZW zG d 166 47 ls (zfr z r 1 :: st) (z) Q) := zw_getR rfl
theorem s166_47 {x0 x1 x2 x3 x4 x5 : Value} {a : Int32} : ZW zG d 166 47 [x0, x1, x2, x3, x4, x5, .int a] st z Q = ZW zG d 166 49 [x0, x1, x2, x3, x4, x5, .int a] (.int a :: st) z Q := zw_next (f := z_iload 6 49) rfl rfl
theorem s166_49 {ls : List Value}  : ZW zG d 166 49 ls (st) z Q = ZW zG d 166 50 ls ((.int (nI 3)) :: st) z Q := zw_push rfl
theorem s166_50 {ls : List Value} {a b : Int32} : ZW zG d 166 50 ls (.int b :: .int a :: st) z Q = ZW zG d 166 51 ls (.int (a + b) :: st) z Q := zw_iadd rfl
theorem s166_51 {x0 x1 x2 x3 x5 x6 : Value} {a : Int32} : ZW zG d 166 51 [x0, x1, x2, x3, .int a, x5, x6] st z Q = ZW zG d 166 53 [x0, x1, x2, x3, .int a, x5, x6] (.int a :: st) z Q := zw_next (f := z_iload 4 53) rfl rfl
theorem s166_53 {ls : List Value} {a b : Int32} {r : Nat} : ZW zG d 166 53 ls (.int b :: .int a :: .ref r :: st) z Q = ((zcls z r = 50 ∧ zin a (zlen z r) = true) ∧ ZW zG d 166 54 ls (st) (sia z r (zx a) (znar 50 b)) Q) := zw_iast rfl
theorem s166_54 {x0 x1 x2 x3 x4 x5 x6 : Value} : ZW zG d 166 54 [x0, x1, x2, x3, x4, x5, x6] st z Q = (zir x0 = true ∧ ZW zG d 166 55 [x0, x1, x2, x3, x4, x5, x6] (x0 :: st) z Q) := zw_cond (f := z_aload 0 55) rfl rfl
theorem s166_55 {ls : List Value} {r : Nat} : ZW zG d 166 55 ls (.ref r :: st) z Q = ((zcls z r = 12 ∧ zir (zfr z r 1) = true) ∧ ZW zG d 166 58 ls (zfr z r 1 :: st) (z) Q) := zw_getR rfl
theorem s166_58 {x0 x1 x2 x3 x4 x5 : Value} {a : Int32} : ZW zG d 166 58 [x0, x1, x2, x3, x4, x5, .int a] st z Q = ZW zG d 166 60 [x0, x1, x2, x3, x4, x5, .int a] (.int a :: st) z Q := zw_next (f := z_iload 6 60) rfl rfl
theorem s166_60 {ls : List Value}  : ZW zG d 166 60 ls (st) z Q = ZW zG d 166 61 ls ((.int (nI 4)) :: st) z Q := zw_push rfl
theorem s166_61 {ls : List Value} {a b : Int32} : ZW zG d 166 61 ls (.int b :: .int a :: st) z Q = ZW zG d 166 62 ls (.int (a + b) :: st) z Q := zw_iadd rfl
theorem s166_62 {x0 x1 x2 x3 x4 x6 : Value} {a : Int32} : ZW zG d 166 62 [x0, x1, x2, x3, x4, .int a, x6] st z Q = ZW zG d 166 64 [x0, x1, x2, x3, x4, .int a, x6] (.int a :: st) z Q := zw_next (f := z_iload 5 64) rfl rfl
theorem s166_64 {ls : List Value} {a b : Int32} {r : Nat} : ZW zG d 166 64 ls (.int b :: .int a :: .ref r :: st) z Q = ((zcls z r = 50 ∧ zin a (zlen z r) = true) ∧ ZW zG d 166 65 ls (st) (sia z r (zx a) (znar 50 b)) Q) := zw_iast rfl
theorem s166_65 {x0 x1 x2 x3 x4 x5 x6 : Value} : ZW zG d 166 65 [x0, x1, x2, x3, x4, x5, x6] st z Q = (zir x0 = true ∧ ZW zG d 166 66 [x0, x1, x2, x3, x4, x5, x6] (x0 :: st) z Q) := zw_cond (f := z_aload 0 66) rfl rfl
theorem s166_66 {ls : List Value} {r : Nat} : ZW zG d 166 66 ls (.ref r :: st) z Q = ((zcls z r = 12 ∧ zir (zfr z r 1) = true) ∧ ZW zG d 166 69 ls (zfr z r 1 :: st) (z) Q) := zw_getR rfl
theorem s166_69 {ls : List Value}  : ZW zG d 166 69 ls (st) z Q = ZW zG d 166 71 ls ((.int (nI 7)) :: st) z Q := zw_push rfl
theorem s166_71 {ls : List Value} {a : Int32} {r : Nat} : ZW zG d 166 71 ls (.int a :: .ref r :: st) z Q = ZW zG d 166 72 ls (.int a :: .ref r :: .int a :: .ref r :: st) z Q := zw_dup2 rfl
theorem s166_72 {ls : List Value} {a : Int32} {r : Nat} : ZW zG d 166 72 ls (.int a :: .ref r :: st) z Q = ((zcls z r = 50 ∧ zin a (zlen z r) = true) ∧ ZW zG d 166 73 ls (.int (zia z r (zx a)) :: st) (z) Q) := zw_iald rfl
theorem s166_73 {ls : List Value}  : ZW zG d 166 73 ls (st) z Q = ZW zG d 166 74 ls ((.int (nI 1)) :: st) z Q := zw_push rfl
theorem s166_74 {ls : List Value} {a b : Int32} : ZW zG d 166 74 ls (.int b :: .int a :: st) z Q = ZW zG d 166 75 ls (.int (a + b) :: st) z Q := zw_iadd rfl
theorem s166_75 {ls : List Value} {a b : Int32} {r : Nat} : ZW zG d 166 75 ls (.int b :: .int a :: .ref r :: st) z Q = ((zcls z r = 50 ∧ zin a (zlen z r) = true) ∧ ZW zG d 166 76 ls (st) (sia z r (zx a) (znar 50 b)) Q) := zw_iast rfl
theorem s166_76 {ls : List Value}  : ZW zG d 166 76 ls ([]) z Q = Q (.inl none) z := zw_ret rfl
/-- X12_meet (II)I -/
theorem e167 {r0 : Nat} {v0 : Int32} {v1 : Int32} : ZC zG d 167 [.ref r0, .int v0, .int v1] z Q = ZW zG d 167 0 [.ref r0, .int v0, .int v1, zdum] [] z Q := rfl
theorem s167_0 {x0 x1 x2 x3 : Value} : ZW zG d 167 0 [x0, x1, x2, x3] st z Q = (zir x0 = true ∧ ZW zG d 167 1 [x0, x1, x2, x3] (x0 :: st) z Q) := zw_cond (f := z_aload 0 1) rfl rfl
theorem s167_1 {x0 x2 x3 : Value} {a : Int32} : ZW zG d 167 1 [x0, .int a, x2, x3] st z Q = ZW zG d 167 2 [x0, .int a, x2, x3] (.int a :: st) z Q := zw_next (f := z_iload 1 2) rfl rfl
theorem s167_2 {x0 x1 x3 : Value} {a : Int32} : ZW zG d 167 2 [x0, x1, .int a, x3] st z Q = ZW zG d 167 3 [x0, x1, .int a, x3] (.int a :: st) z Q := zw_next (f := z_iload 2 3) rfl rfl
theorem s167_3 {ls : List Value} {w0 : Int32} {w1 : Int32} {r : Nat} : ZW zG (d + 1) 167 3 ls (.int w1 :: .int w0 :: .ref r :: st) z Q = (zcls z r = 12 ∧ zcs st = true ∧ ZC zG d 143 [.ref r, .int w0, .int w1] z (zk zG (d + 1) 167 (none) 6 ls st Q)) := zc_V2 rfl (Nat.le_of_ble_eq_true rfl)
theorem s167_6 {ls : List Value} {a : Int32} : ZW zG d 167 6 ls (.int a :: st) z Q = if ¬ a = 0 then ZW zG d 167 12 ls st z Q else ZW zG d 167 9 ls st z Q := zw_ifne rfl
theorem s167_9 {ls : List Value}  : ZW zG d 167 9 ls (st) z Q = ZW zG d 167 11 ls ((.int (-2)) :: st) z Q := zw_push rfl
theorem s167_11 {ls : List Value} {a : Int32} : ZW zG d 167 11 ls ([.int a]) z Q = Q (.inl (some (.int a))) z := zw_reti rfl
theorem s167_12 {x0 x1 x2 x3 : Value} : ZW zG d 167 12 [x0, x1, x2, x3] st z Q = (zir x0 = true ∧ ZW zG d 167 13 [x0, x1, x2, x3] (x0 :: st) z Q) := zw_cond (f := z_aload 0 13) rfl rfl
theorem s167_13 {ls : List Value} {r : Nat} : ZW zG d 167 13 ls (.ref r :: st) z Q = ((zcls z r = 12 ∧ zir (zfr z r 1) = true) ∧ ZW zG d 167 16 ls (zfr z r 1 :: st) (z) Q) := zw_getR rfl
theorem s167_16 {ls : List Value}  : ZW zG d 167 16 ls (st) z Q = ZW zG d 167 18 ls ((.int (nI 8)) :: st) z Q := zw_push rfl
theorem s167_18 {ls : List Value} {a : Int32} {r : Nat} : ZW zG d 167 18 ls (.int a :: .ref r :: st) z Q = ((zcls z r = 50 ∧ zin a (zlen z r) = true) ∧ ZW zG d 167 19 ls (.int (zia z r (zx a)) :: st) (z) Q) := zw_iald rfl
theorem s167_19 {ls : List Value}  : ZW zG d 167 19 ls (st) z Q = ZW zG d 167 22 ls ((.int (nI 600)) :: st) z Q := zw_push rfl
theorem s167_22 {ls : List Value} {a b : Int32} : ZW zG d 167 22 ls (.int b :: .int a :: st) z Q = if ¬ a = b then ZW zG d 167 28 ls st z Q else ZW zG d 167 25 ls st z Q := zw_icne rfl
theorem s167_25 {ls : List Value}  : ZW zG d 167 25 ls (st) z Q = ZW zG d 167 27 ls ((.int (-3)) :: st) z Q := zw_push rfl
theorem s167_27 {ls : List Value} {a : Int32} : ZW zG d 167 27 ls ([.int a]) z Q = Q (.inl (some (.int a))) z := zw_reti rfl
theorem s167_28 {x0 x1 x2 x3 : Value} : ZW zG d 167 28 [x0, x1, x2, x3] st z Q = (zir x0 = true ∧ ZW zG d 167 29 [x0, x1, x2, x3] (x0 :: st) z Q) := zw_cond (f := z_aload 0 29) rfl rfl
theorem s167_29 {x0 x2 x3 : Value} {a : Int32} : ZW zG d 167 29 [x0, .int a, x2, x3] st z Q = ZW zG d 167 30 [x0, .int a, x2, x3] (.int a :: st) z Q := zw_next (f := z_iload 1 30) rfl rfl
theorem s167_30 {x0 x1 x3 : Value} {a : Int32} : ZW zG d 167 30 [x0, x1, .int a, x3] st z Q = ZW zG d 167 31 [x0, x1, .int a, x3] (.int a :: st) z Q := zw_next (f := z_iload 2 31) rfl rfl
theorem s167_31 {ls : List Value} {w0 : Int32} {w1 : Int32} {r : Nat} : ZW zG (d + 1) 167 31 ls (.int w1 :: .int w0 :: .ref r :: st) z Q = (zcls z r = 12 ∧ zcs st = true ∧ ZC zG d 148 [.ref r, .int w0, .int w1] z (zk zG (d + 1) 167 (none) 34 ls st Q)) := zc_V2 rfl (Nat.le_of_ble_eq_true rfl)
theorem s167_34 {ls : List Value} {a : Int32} : ZW zG d 167 34 ls (.int a :: st) z Q = if a = 0 then ZW zG d 167 41 ls st z Q else ZW zG d 167 37 ls st z Q := zw_ifeq rfl
theorem s167_37 {ls : List Value}  : ZW zG d 167 37 ls (st) z Q = ZW zG d 167 38 ls ((.int (nI 0)) :: st) z Q := zw_push rfl
theorem s167_38 {ls : List Value}  : ZW zG d 167 38 ls (st) z Q = ZW zG d 167 42 ls st z Q := zw_goto rfl
theorem s167_41 {ls : List Value}  : ZW zG d 167 41 ls (st) z Q = ZW zG d 167 42 ls ((.int (nI 1)) :: st) z Q := zw_push rfl
theorem s167_42 {x0 x1 x2 x3 : Value} {a : Int32} : ZW zG d 167 42 [x0, x1, x2, x3] (.int a :: st) z Q = ZW zG d 167 43 [x0, x1, zclr x2, .int a] st z Q := zw_next (f := z_istore 3 43) rfl rfl
theorem s167_43 {x0 x1 x2 x3 : Value} : ZW zG d 167 43 [x0, x1, x2, x3] st z Q = (zir x0 = true ∧ ZW zG d 167 44 [x0, x1, x2, x3] (x0 :: st) z Q) := zw_cond (f := z_aload 0 44) rfl rfl
theorem s167_44 {x0 x2 x3 : Value} {a : Int32} : ZW zG d 167 44 [x0, .int a, x2, x3] st z Q = ZW zG d 167 45 [x0, .int a, x2, x3] (.int a :: st) z Q := zw_next (f := z_iload 1 45) rfl rfl
theorem s167_45 {x0 x1 x3 : Value} {a : Int32} : ZW zG d 167 45 [x0, x1, .int a, x3] st z Q = ZW zG d 167 46 [x0, x1, .int a, x3] (.int a :: st) z Q := zw_next (f := z_iload 2 46) rfl rfl
theorem s167_46 {ls : List Value}  : ZW zG d 167 46 ls (st) z Q = ZW zG d 167 47 ls ((.int (nI 4)) :: st) z Q := zw_push rfl
theorem s167_47 {ls : List Value} {w0 : Int32} {w1 : Int32} {w2 : Int32} {r : Nat} : ZW zG (d + 1) 167 47 ls (.int w2 :: .int w1 :: .int w0 :: .ref r :: st) z Q = (zcls z r = 12 ∧ zcs st = true ∧ ZC zG d 155 [.ref r, .int w0, .int w1, .int w2] z (zk zG (d + 1) 167 (none) 50 ls st Q)) := zc_V3 rfl (Nat.le_of_ble_eq_true rfl)
theorem s167_50 {ls : List Value} {a : Int32} : ZW zG d 167 50 ls (.int a :: st) z Q = ZW zG d 167 51 ls (st) z Q := zw_popi rfl
theorem s167_51 {x0 x1 x2 : Value} {a : Int32} : ZW zG d 167 51 [x0, x1, x2, .int a] st z Q = ZW zG d 167 52 [x0, x1, x2, .int a] (.int a :: st) z Q := zw_next (f := z_iload 3 52) rfl rfl
theorem s167_52 {ls : List Value} {a : Int32} : ZW zG d 167 52 ls ([.int a]) z Q = Q (.inl (some (.int a))) z := zw_reti rfl
/-- X12_done (I)I -/
theorem e168 {r0 : Nat} {v0 : Int32} : ZC zG d 168 [.ref r0, .int v0] z Q = ZW zG d 168 0 [.ref r0, .int v0, zdum, zdum, zdum, zdum, zdum, zdum, zdum, zdum, zdum] [] z Q := rfl
theorem s168_0 {x0 x2 x3 x4 x5 x6 x7 x8 x9 x10 : Value} {a : Int32} : ZW zG d 168 0 [x0, .int a, x2, x3, x4, x5, x6, x7, x8, x9, x10] st z Q = ZW zG d 168 1 [x0, .int a, x2, x3, x4, x5, x6, x7, x8, x9, x10] (.int a :: st) z Q := zw_next (f := z_iload 1 1) rfl rfl
theorem s168_1 {ls : List Value} {w0 : Int32} : ZW zG (d + 1) 168 1 ls (.int w0 :: st) z Q = (zcs st = true ∧ ZC zG d 169 [.int w0] z (zk zG (d + 1) 168 (none) 4 ls st Q)) := zc_S1 rfl (Nat.le_of_ble_eq_true rfl)
theorem s168_4 {ls : List Value} {a : Int32} : ZW zG d 168 4 ls (.int a :: st) z Q = if ¬ a = 0 then ZW zG d 168 10 ls st z Q else ZW zG d 168 7 ls st z Q := zw_ifne rfl
theorem s168_7 {ls : List Value}  : ZW zG d 168 7 ls (st) z Q = ZW zG d 168 9 ls ((.int (-2)) :: st) z Q := zw_push rfl
theorem s168_9 {ls : List Value} {a : Int32} : ZW zG d 168 9 ls ([.int a]) z Q = Q (.inl (some (.int a))) z := zw_reti rfl
theorem s168_10 {x0 x1 x2 x3 x4 x5 x6 x7 x8 x9 x10 : Value} : ZW zG d 168 10 [x0, x1, x2, x3, x4, x5, x6, x7, x8, x9, x10] st z Q = (zir x0 = true ∧ ZW zG d 168 11 [x0, x1, x2, x3, x4, x5, x6, x7, x8, x9, x10] (x0 :: st) z Q) := zw_cond (f := z_aload 0 11) rfl rfl
theorem s168_11 {ls : List Value} {r : Nat} : ZW zG d 168 11 ls (.ref r :: st) z Q = ((zcls z r = 12 ∧ zir (zfr z r 37) = true) ∧ ZW zG d 168 14 ls (zfr z r 37 :: st) (z) Q) := zw_getR rfl
theorem s168_14 {x0 x2 x3 x4 x5 x6 x7 x8 x9 x10 : Value} {a : Int32} : ZW zG d 168 14 [x0, .int a, x2, x3, x4, x5, x6, x7, x8, x9, x10] st z Q = ZW zG d 168 15 [x0, .int a, x2, x3, x4, x5, x6, x7, x8, x9, x10] (.int a :: st) z Q := zw_next (f := z_iload 1 15) rfl rfl
theorem s168_15 {ls : List Value} {a : Int32} {r : Nat} : ZW zG d 168 15 ls (.int a :: .ref r :: st) z Q = ((zcls z r = 50 ∧ zin a (zlen z r) = true) ∧ ZW zG d 168 16 ls (.int (zia z r (zx a)) :: st) (z) Q) := zw_iald rfl
theorem s168_16 {ls : List Value}  : ZW zG d 168 16 ls (st) z Q = ZW zG d 168 17 ls ((.int (-1)) :: st) z Q := zw_push rfl
theorem s168_17 {ls : List Value} {a b : Int32} : ZW zG d 168 17 ls (.int b :: .int a :: st) z Q = if ¬ a = b then ZW zG d 168 23 ls st z Q else ZW zG d 168 20 ls st z Q := zw_icne rfl
theorem s168_20 {ls : List Value}  : ZW zG d 168 20 ls (st) z Q = ZW zG d 168 22 ls ((.int (-6)) :: st) z Q := zw_push rfl
theorem s168_22 {ls : List Value} {a : Int32} : ZW zG d 168 22 ls ([.int a]) z Q = Q (.inl (some (.int a))) z := zw_reti rfl
theorem s168_23 {ls : List Value}  : ZW zG d 168 23 ls (st) z Q = ZW zG d 168 24 ls ((.int (nI 0)) :: st) z Q := zw_push rfl
theorem s168_24 {x0 x1 x2 x3 x4 x5 x6 x7 x8 x9 x10 : Value} {a : Int32} : ZW zG d 168 24 [x0, x1, x2, x3, x4, x5, x6, x7, x8, x9, x10] (.int a :: st) z Q = ZW zG d 168 25 [x0, zclr x1, .int a, x3, x4, x5, x6, x7, x8, x9, x10] st z Q := zw_next (f := z_istore 2 25) rfl rfl
theorem s168_25 {ls : List Value}  : ZW zG d 168 25 ls (st) z Q = ZW zG d 168 26 ls ((.int (nI 0)) :: st) z Q := zw_push rfl
theorem s168_26 {x0 x1 x2 x3 x4 x5 x6 x7 x8 x9 x10 : Value} {a : Int32} : ZW zG d 168 26 [x0, x1, x2, x3, x4, x5, x6, x7, x8, x9, x10] (.int a :: st) z Q = ZW zG d 168 27 [x0, x1, zclr x2, .int a, x4, x5, x6, x7, x8, x9, x10] st z Q := zw_next (f := z_istore 3 27) rfl rfl
theorem s168_27 {x0 x1 x2 x4 x5 x6 x7 x8 x9 x10 : Value} {a : Int32} : ZW zG d 168 27 [x0, x1, x2, .int a, x4, x5, x6, x7, x8, x9, x10] st z Q = ZW zG d 168 28 [x0, x1, x2, .int a, x4, x5, x6, x7, x8, x9, x10] (.int a :: st) z Q := zw_next (f := z_iload 3 28) rfl rfl
theorem s168_28 {ls : List Value}  : ZW zG d 168 28 ls (st) z Q = ZW zG d 168 29 ls ((.int (nI 2)) :: st) z Q := zw_push rfl
theorem s168_29 {ls : List Value} {a b : Int32} : ZW zG d 168 29 ls (.int b :: .int a :: st) z Q = ZW zG d 168 30 ls (.int (a + b) :: st) z Q := zw_iadd rfl
theorem s168_30 {x0 x1 x2 x3 x4 x5 x6 x7 x8 x9 x10 : Value} : ZW zG d 168 30 [x0, x1, x2, x3, x4, x5, x6, x7, x8, x9, x10] st z Q = (zir x0 = true ∧ ZW zG d 168 31 [x0, x1, x2, x3, x4, x5, x6, x7, x8, x9, x10] (x0 :: st) z Q) := zw_cond (f := z_aload 0 31) rfl rfl
theorem s168_31 {ls : List Value} {r : Nat} : ZW zG d 168 31 ls (.ref r :: st) z Q = ((zcls z r = 12 ∧ zir (zfr z r 37) = true) ∧ ZW zG d 168 34 ls (zfr z r 37 :: st) (z) Q) := zw_getR rfl
theorem s168_34 {x0 x2 x3 x4 x5 x6 x7 x8 x9 x10 : Value} {a : Int32} : ZW zG d 168 34 [x0, .int a, x2, x3, x4, x5, x6, x7, x8, x9, x10] st z Q = ZW zG d 168 35 [x0, .int a, x2, x3, x4, x5, x6, x7, x8, x9, x10] (.int a :: st) z Q := zw_next (f := z_iload 1 35) rfl rfl
theorem s168_35 {ls : List Value} {a : Int32} {r : Nat} : ZW zG d 168 35 ls (.int a :: .ref r :: st) z Q = ((zcls z r = 50 ∧ zin a (zlen z r) = true) ∧ ZW zG d 168 36 ls (.int (zia z r (zx a)) :: st) (z) Q) := zw_iald rfl
theorem s168_36 {ls : List Value} {a b : Int32} : ZW zG d 168 36 ls (.int b :: .int a :: st) z Q = if b ≤ a then ZW zG d 168 177 ls st z Q else ZW zG d 168 39 ls st z Q := zw_icge rfl
theorem s168_39 {x0 x1 x2 x3 x4 x5 x6 x7 x8 x9 x10 : Value} : ZW zG d 168 39 [x0, x1, x2, x3, x4, x5, x6, x7, x8, x9, x10] st z Q = (zir x0 = true ∧ ZW zG d 168 40 [x0, x1, x2, x3, x4, x5, x6, x7, x8, x9, x10] (x0 :: st) z Q) := zw_cond (f := z_aload 0 40) rfl rfl
theorem s168_40 {ls : List Value} {r : Nat} : ZW zG d 168 40 ls (.ref r :: st) z Q = ((zcls z r = 12 ∧ zir (zfr z r 39) = true) ∧ ZW zG d 168 43 ls (zfr z r 39 :: st) (z) Q) := zw_getR rfl
theorem s168_43 {ls : List Value}  : ZW zG d 168 43 ls (st) z Q = ZW zG d 168 45 ls ((.int (nI 60)) :: st) z Q := zw_push rfl
theorem s168_45 {x0 x2 x3 x4 x5 x6 x7 x8 x9 x10 : Value} {a : Int32} : ZW zG d 168 45 [x0, .int a, x2, x3, x4, x5, x6, x7, x8, x9, x10] st z Q = ZW zG d 168 46 [x0, .int a, x2, x3, x4, x5, x6, x7, x8, x9, x10] (.int a :: st) z Q := zw_next (f := z_iload 1 46) rfl rfl
theorem s168_46 {ls : List Value} {a b : Int32} : ZW zG d 168 46 ls (.int b :: .int a :: st) z Q = ZW zG d 168 47 ls (.int (a * b) :: st) z Q := zw_imul rfl
theorem s168_47 {x0 x1 x2 x4 x5 x6 x7 x8 x9 x10 : Value} {a : Int32} : ZW zG d 168 47 [x0, x1, x2, .int a, x4, x5, x6, x7, x8, x9, x10] st z Q = ZW zG d 168 48 [x0, x1, x2, .int a, x4, x5, x6, x7, x8, x9, x10] (.int a :: st) z Q := zw_next (f := z_iload 3 48) rfl rfl
theorem s168_48 {ls : List Value} {a b : Int32} : ZW zG d 168 48 ls (.int b :: .int a :: st) z Q = ZW zG d 168 49 ls (.int (a + b) :: st) z Q := zw_iadd rfl
theorem s168_49 {ls : List Value} {a : Int32} {r : Nat} : ZW zG d 168 49 ls (.int a :: .ref r :: st) z Q = ((zcls z r = 51 ∧ zin a (zlen z r) = true) ∧ ZW zG d 168 50 ls (.long (zla z r (zx a)) :: st) (z) Q) := zw_lald rfl
theorem s168_50 {x0 x1 x2 x3 x4 x5 x6 x7 x8 x9 x10 : Value} {a : Int64} : ZW zG d 168 50 [x0, x1, x2, x3, x4, x5, x6, x7, x8, x9, x10] (.long a :: st) z Q = ZW zG d 168 52 [x0, x1, x2, zclr x3, .long a, zdum, x6, x7, x8, x9, x10] st z Q := zw_next (f := z_lstore 4 52) rfl rfl
theorem s168_52 {x0 x1 x2 x3 x4 x5 x6 x7 x8 x9 x10 : Value} : ZW zG d 168 52 [x0, x1, x2, x3, x4, x5, x6, x7, x8, x9, x10] st z Q = (zir x0 = true ∧ ZW zG d 168 53 [x0, x1, x2, x3, x4, x5, x6, x7, x8, x9, x10] (x0 :: st) z Q) := zw_cond (f := z_aload 0 53) rfl rfl
theorem s168_53 {ls : List Value} {r : Nat} : ZW zG d 168 53 ls (.ref r :: st) z Q = ((zcls z r = 12 ∧ zir (zfr z r 39) = true) ∧ ZW zG d 168 56 ls (zfr z r 39 :: st) (z) Q) := zw_getR rfl
theorem s168_56 {ls : List Value}  : ZW zG d 168 56 ls (st) z Q = ZW zG d 168 58 ls ((.int (nI 60)) :: st) z Q := zw_push rfl
theorem s168_58 {x0 x2 x3 x4 x5 x6 x7 x8 x9 x10 : Value} {a : Int32} : ZW zG d 168 58 [x0, .int a, x2, x3, x4, x5, x6, x7, x8, x9, x10] st z Q = ZW zG d 168 59 [x0, .int a, x2, x3, x4, x5, x6, x7, x8, x9, x10] (.int a :: st) z Q := zw_next (f := z_iload 1 59) rfl rfl
theorem s168_59 {ls : List Value} {a b : Int32} : ZW zG d 168 59 ls (.int b :: .int a :: st) z Q = ZW zG d 168 60 ls (.int (a * b) :: st) z Q := zw_imul rfl
theorem s168_60 {x0 x1 x2 x4 x5 x6 x7 x8 x9 x10 : Value} {a : Int32} : ZW zG d 168 60 [x0, x1, x2, .int a, x4, x5, x6, x7, x8, x9, x10] st z Q = ZW zG d 168 61 [x0, x1, x2, .int a, x4, x5, x6, x7, x8, x9, x10] (.int a :: st) z Q := zw_next (f := z_iload 3 61) rfl rfl
theorem s168_61 {ls : List Value} {a b : Int32} : ZW zG d 168 61 ls (.int b :: .int a :: st) z Q = ZW zG d 168 62 ls (.int (a + b) :: st) z Q := zw_iadd rfl
theorem s168_62 {ls : List Value}  : ZW zG d 168 62 ls (st) z Q = ZW zG d 168 63 ls ((.int (nI 1)) :: st) z Q := zw_push rfl
theorem s168_63 {ls : List Value} {a b : Int32} : ZW zG d 168 63 ls (.int b :: .int a :: st) z Q = ZW zG d 168 64 ls (.int (a + b) :: st) z Q := zw_iadd rfl
theorem s168_64 {ls : List Value} {a : Int32} {r : Nat} : ZW zG d 168 64 ls (.int a :: .ref r :: st) z Q = ((zcls z r = 51 ∧ zin a (zlen z r) = true) ∧ ZW zG d 168 65 ls (.long (zla z r (zx a)) :: st) (z) Q) := zw_lald rfl
theorem s168_65 {x0 x1 x2 x3 x4 x5 x6 x7 x8 x9 x10 : Value} {a : Int64} : ZW zG d 168 65 [x0, x1, x2, x3, x4, x5, x6, x7, x8, x9, x10] (.long a :: st) z Q = ZW zG d 168 67 [x0, x1, x2, x3, x4, zclr x5, .long a, zdum, x8, x9, x10] st z Q := zw_next (f := z_lstore 6 67) rfl rfl
theorem s168_67 {x0 x1 x2 x3 x4 x5 x6 x7 x8 x9 x10 : Value} : ZW zG d 168 67 [x0, x1, x2, x3, x4, x5, x6, x7, x8, x9, x10] st z Q = (zir x0 = true ∧ ZW zG d 168 68 [x0, x1, x2, x3, x4, x5, x6, x7, x8, x9, x10] (x0 :: st) z Q) := zw_cond (f := z_aload 0 68) rfl rfl
theorem s168_68 {ls : List Value} {r : Nat} : ZW zG d 168 68 ls (.ref r :: st) z Q = ((zcls z r = 12 ∧ zir (zfr z r 39) = true) ∧ ZW zG d 168 71 ls (zfr z r 39 :: st) (z) Q) := zw_getR rfl
theorem s168_71 {ls : List Value}  : ZW zG d 168 71 ls (st) z Q = ZW zG d 168 73 ls ((.int (nI 60)) :: st) z Q := zw_push rfl
theorem s168_73 {x0 x2 x3 x4 x5 x6 x7 x8 x9 x10 : Value} {a : Int32} : ZW zG d 168 73 [x0, .int a, x2, x3, x4, x5, x6, x7, x8, x9, x10] st z Q = ZW zG d 168 74 [x0, .int a, x2, x3, x4, x5, x6, x7, x8, x9, x10] (.int a :: st) z Q := zw_next (f := z_iload 1 74) rfl rfl
theorem s168_74 {ls : List Value} {a b : Int32} : ZW zG d 168 74 ls (.int b :: .int a :: st) z Q = ZW zG d 168 75 ls (.int (a * b) :: st) z Q := zw_imul rfl
theorem s168_75 {x0 x1 x2 x4 x5 x6 x7 x8 x9 x10 : Value} {a : Int32} : ZW zG d 168 75 [x0, x1, x2, .int a, x4, x5, x6, x7, x8, x9, x10] st z Q = ZW zG d 168 76 [x0, x1, x2, .int a, x4, x5, x6, x7, x8, x9, x10] (.int a :: st) z Q := zw_next (f := z_iload 3 76) rfl rfl
theorem s168_76 {ls : List Value} {a b : Int32} : ZW zG d 168 76 ls (.int b :: .int a :: st) z Q = ZW zG d 168 77 ls (.int (a + b) :: st) z Q := zw_iadd rfl
theorem s168_77 {ls : List Value}  : ZW zG d 168 77 ls (st) z Q = ZW zG d 168 78 ls ((.int (nI 2)) :: st) z Q := zw_push rfl
theorem s168_78 {ls : List Value} {a b : Int32} : ZW zG d 168 78 ls (.int b :: .int a :: st) z Q = ZW zG d 168 79 ls (.int (a + b) :: st) z Q := zw_iadd rfl
theorem s168_79 {ls : List Value} {a : Int32} {r : Nat} : ZW zG d 168 79 ls (.int a :: .ref r :: st) z Q = ((zcls z r = 51 ∧ zin a (zlen z r) = true) ∧ ZW zG d 168 80 ls (.long (zla z r (zx a)) :: st) (z) Q) := zw_lald rfl
theorem s168_80 {x0 x1 x2 x3 x4 x5 x6 x7 x8 x9 x10 : Value} {a : Int64} : ZW zG d 168 80 [x0, x1, x2, x3, x4, x5, x6, x7, x8, x9, x10] (.long a :: st) z Q = ZW zG d 168 82 [x0, x1, x2, x3, x4, x5, x6, zclr x7, .long a, zdum, x10] st z Q := zw_next (f := z_lstore 8 82) rfl rfl
theorem s168_82 {x0 x1 x2 x3 x5 x6 x7 x8 x9 x10 : Value} {a : Int64} : ZW zG d 168 82 [x0, x1, x2, x3, .long a, x5, x6, x7, x8, x9, x10] st z Q = ZW zG d 168 84 [x0, x1, x2, x3, .long a, x5, x6, x7, x8, x9, x10] (.long a :: st) z Q := zw_next (f := z_lload 4 84) rfl rfl
theorem s168_84 {ls : List Value}  : ZW zG d 168 84 ls (st) z Q = ZW zG d 168 85 ls ((.long (lN 0)) :: st) z Q := zw_push rfl
theorem s168_85 {ls : List Value}  : ZW zG d 168 85 ls (st) z Q = ZW zG d 168 88 ls ((.long (lN 16)) :: st) z Q := zw_push rfl
theorem s168_88 {ls : List Value} {w0 : Int64} {w1 : Int64} {w2 : Int64} : ZW zG (d + 1) 168 88 ls (.long w2 :: .long w1 :: .long w0 :: st) z Q = (zcs st = true ∧ ZC zG d 114 [.long w0, .long w1, .long w2] z (zk zG (d + 1) 168 (none) 91 ls st Q)) := zc_S3 rfl (Nat.le_of_ble_eq_true rfl)
theorem s168_91 {ls : List Value} {a : Int32} : ZW zG d 168 91 ls (.int a :: st) z Q = if a = 0 then ZW zG d 168 171 ls st z Q else ZW zG d 168 94 ls st z Q := zw_ifeq rfl
theorem s168_94 {x0 x1 x2 x3 x4 x5 x7 x8 x9 x10 : Value} {a : Int64} : ZW zG d 168 94 [x0, x1, x2, x3, x4, x5, .long a, x7, x8, x9, x10] st z Q = ZW zG d 168 96 [x0, x1, x2, x3, x4, x5, .long a, x7, x8, x9, x10] (.long a :: st) z Q := zw_next (f := z_lload 6 96) rfl rfl
theorem s168_96 {ls : List Value}  : ZW zG d 168 96 ls (st) z Q = ZW zG d 168 97 ls ((.long (lN 0)) :: st) z Q := zw_push rfl
theorem s168_97 {ls : List Value}  : ZW zG d 168 97 ls (st) z Q = ZW zG d 168 100 ls ((.long (lN 16)) :: st) z Q := zw_push rfl
theorem s168_100 {ls : List Value} {w0 : Int64} {w1 : Int64} {w2 : Int64} : ZW zG (d + 1) 168 100 ls (.long w2 :: .long w1 :: .long w0 :: st) z Q = (zcs st = true ∧ ZC zG d 114 [.long w0, .long w1, .long w2] z (zk zG (d + 1) 168 (none) 103 ls st Q)) := zc_S3 rfl (Nat.le_of_ble_eq_true rfl)
theorem s168_103 {ls : List Value} {a : Int32} : ZW zG d 168 103 ls (.int a :: st) z Q = if a = 0 then ZW zG d 168 171 ls st z Q else ZW zG d 168 106 ls st z Q := zw_ifeq rfl
theorem s168_106 {x0 x1 x2 x3 x4 x5 x6 x7 x9 x10 : Value} {a : Int64} : ZW zG d 168 106 [x0, x1, x2, x3, x4, x5, x6, x7, .long a, x9, x10] st z Q = ZW zG d 168 108 [x0, x1, x2, x3, x4, x5, x6, x7, .long a, x9, x10] (.long a :: st) z Q := zw_next (f := z_lload 8 108) rfl rfl
theorem s168_108 {ls : List Value}  : ZW zG d 168 108 ls (st) z Q = ZW zG d 168 109 ls ((.long (lN 0)) :: st) z Q := zw_push rfl
theorem s168_109 {ls : List Value}  : ZW zG d 168 109 ls (st) z Q = ZW zG d 168 112 ls ((.long (lN 4)) :: st) z Q := zw_push rfl
theorem s168_112 {ls : List Value} {w0 : Int64} {w1 : Int64} {w2 : Int64} : ZW zG (d + 1) 168 112 ls (.long w2 :: .long w1 :: .long w0 :: st) z Q = (zcs st = true ∧ ZC zG d 114 [.long w0, .long w1, .long w2] z (zk zG (d + 1) 168 (none) 115 ls st Q)) := zc_S3 rfl (Nat.le_of_ble_eq_true rfl)
theorem s168_115 {ls : List Value} {a : Int32} : ZW zG d 168 115 ls (.int a :: st) z Q = if ¬ a = 0 then ZW zG d 168 121 ls st z Q else ZW zG d 168 118 ls st z Q := zw_ifne rfl
theorem s168_118 {ls : List Value}  : ZW zG d 168 118 ls (st) z Q = ZW zG d 168 171 ls st z Q := zw_goto rfl
theorem s168_121 {x0 x1 x2 x3 x4 x5 x6 x7 x9 x10 : Value} {a : Int64} : ZW zG d 168 121 [x0, x1, x2, x3, x4, x5, x6, x7, .long a, x9, x10] st z Q = ZW zG d 168 123 [x0, x1, x2, x3, x4, x5, x6, x7, .long a, x9, x10] (.long a :: st) z Q := zw_next (f := z_lload 8 123) rfl rfl
theorem s168_123 {ls : List Value}  : ZW zG d 168 123 ls (st) z Q = ZW zG d 168 126 ls ((.long (lN 4)) :: st) z Q := zw_push rfl
theorem s168_126 {ls : List Value} {x y : Int64} : ZW zG d 168 126 ls (.long y :: .long x :: st) z Q = ZW zG d 168 127 ls (.int (lg_cmp x y) :: st) z Q := zw_lcmp rfl
theorem s168_127 {ls : List Value} {a : Int32} : ZW zG d 168 127 ls (.int a :: st) z Q = if ¬ a = 0 then ZW zG d 168 143 ls st z Q else ZW zG d 168 130 ls st z Q := zw_ifne rfl
theorem s168_130 {x0 x1 x2 x3 x4 x5 x6 x7 x8 x9 x10 : Value} : ZW zG d 168 130 [x0, x1, x2, x3, x4, x5, x6, x7, x8, x9, x10] st z Q = (zir x0 = true ∧ ZW zG d 168 131 [x0, x1, x2, x3, x4, x5, x6, x7, x8, x9, x10] (x0 :: st) z Q) := zw_cond (f := z_aload 0 131) rfl rfl
theorem s168_131 {x0 x1 x2 x3 x5 x6 x7 x8 x9 x10 : Value} {a : Int64} : ZW zG d 168 131 [x0, x1, x2, x3, .long a, x5, x6, x7, x8, x9, x10] st z Q = ZW zG d 168 133 [x0, x1, x2, x3, .long a, x5, x6, x7, x8, x9, x10] (.long a :: st) z Q := zw_next (f := z_lload 4 133) rfl rfl
theorem s168_133 {ls : List Value} {x : Int64} : ZW zG d 168 133 ls (.long x :: st) z Q = ZW zG d 168 134 ls (.int x.toInt32 :: st) z Q := zw_l2i rfl
theorem s168_134 {x0 x1 x2 x3 x4 x5 x7 x8 x9 x10 : Value} {a : Int64} : ZW zG d 168 134 [x0, x1, x2, x3, x4, x5, .long a, x7, x8, x9, x10] st z Q = ZW zG d 168 136 [x0, x1, x2, x3, x4, x5, .long a, x7, x8, x9, x10] (.long a :: st) z Q := zw_next (f := z_lload 6 136) rfl rfl
theorem s168_136 {ls : List Value} {x : Int64} : ZW zG d 168 136 ls (.long x :: st) z Q = ZW zG d 168 137 ls (.int x.toInt32 :: st) z Q := zw_l2i rfl
theorem s168_137 {ls : List Value} {w0 : Int32} {w1 : Int32} {r : Nat} : ZW zG (d + 1) 168 137 ls (.int w1 :: .int w0 :: .ref r :: st) z Q = (zcls z r = 12 ∧ zcs st = true ∧ ZC zG d 167 [.ref r, .int w0, .int w1] z (zk zG (d + 1) 168 (none) 140 ls st Q)) := zc_V2 rfl (Nat.le_of_ble_eq_true rfl)
theorem s168_140 {ls : List Value}  : ZW zG d 168 140 ls (st) z Q = ZW zG d 168 156 ls st z Q := zw_goto rfl
theorem s168_143 {x0 x1 x2 x3 x4 x5 x6 x7 x8 x9 x10 : Value} : ZW zG d 168 143 [x0, x1, x2, x3, x4, x5, x6, x7, x8, x9, x10] st z Q = (zir x0 = true ∧ ZW zG d 168 144 [x0, x1, x2, x3, x4, x5, x6, x7, x8, x9, x10] (x0 :: st) z Q) := zw_cond (f := z_aload 0 144) rfl rfl
theorem s168_144 {x0 x1 x2 x3 x5 x6 x7 x8 x9 x10 : Value} {a : Int64} : ZW zG d 168 144 [x0, x1, x2, x3, .long a, x5, x6, x7, x8, x9, x10] st z Q = ZW zG d 168 146 [x0, x1, x2, x3, .long a, x5, x6, x7, x8, x9, x10] (.long a :: st) z Q := zw_next (f := z_lload 4 146) rfl rfl
theorem s168_146 {ls : List Value} {x : Int64} : ZW zG d 168 146 ls (.long x :: st) z Q = ZW zG d 168 147 ls (.int x.toInt32 :: st) z Q := zw_l2i rfl
theorem s168_147 {x0 x1 x2 x3 x4 x5 x7 x8 x9 x10 : Value} {a : Int64} : ZW zG d 168 147 [x0, x1, x2, x3, x4, x5, .long a, x7, x8, x9, x10] st z Q = ZW zG d 168 149 [x0, x1, x2, x3, x4, x5, .long a, x7, x8, x9, x10] (.long a :: st) z Q := zw_next (f := z_lload 6 149) rfl rfl
theorem s168_149 {ls : List Value} {x : Int64} : ZW zG d 168 149 ls (.long x :: st) z Q = ZW zG d 168 150 ls (.int x.toInt32 :: st) z Q := zw_l2i rfl
theorem s168_150 {x0 x1 x2 x3 x4 x5 x6 x7 x9 x10 : Value} {a : Int64} : ZW zG d 168 150 [x0, x1, x2, x3, x4, x5, x6, x7, .long a, x9, x10] st z Q = ZW zG d 168 152 [x0, x1, x2, x3, x4, x5, x6, x7, .long a, x9, x10] (.long a :: st) z Q := zw_next (f := z_lload 8 152) rfl rfl
theorem s168_152 {ls : List Value} {x : Int64} : ZW zG d 168 152 ls (.long x :: st) z Q = ZW zG d 168 153 ls (.int x.toInt32 :: st) z Q := zw_l2i rfl
theorem s168_153 {ls : List Value} {w0 : Int32} {w1 : Int32} {w2 : Int32} {r : Nat} : ZW zG (d + 1) 168 153 ls (.int w2 :: .int w1 :: .int w0 :: .ref r :: st) z Q = (zcls z r = 12 ∧ zcs st = true ∧ ZC zG d 154 [.ref r, .int w0, .int w1, .int w2] z (zk zG (d + 1) 168 (none) 156 ls st Q)) := zc_V3 rfl (Nat.le_of_ble_eq_true rfl)
theorem s168_156 {x0 x1 x2 x3 x4 x5 x6 x7 x8 x9 x10 : Value} {a : Int32} : ZW zG d 168 156 [x0, x1, x2, x3, x4, x5, x6, x7, x8, x9, x10] (.int a :: st) z Q = ZW zG d 168 158 [x0, x1, x2, x3, x4, x5, x6, x7, x8, zclr x9, .int a] st z Q := zw_next (f := z_istore 10 158) rfl rfl
theorem s168_158 {x0 x1 x3 x4 x5 x6 x7 x8 x9 x10 : Value} {a : Int32} : ZW zG d 168 158 [x0, x1, .int a, x3, x4, x5, x6, x7, x8, x9, x10] st z Q = ZW zG d 168 159 [x0, x1, .int a, x3, x4, x5, x6, x7, x8, x9, x10] (.int a :: st) z Q := zw_next (f := z_iload 2 159) rfl rfl
theorem s168_159 {x0 x1 x2 x3 x4 x5 x6 x7 x8 x9 : Value} {a : Int32} : ZW zG d 168 159 [x0, x1, x2, x3, x4, x5, x6, x7, x8, x9, .int a] st z Q = ZW zG d 168 161 [x0, x1, x2, x3, x4, x5, x6, x7, x8, x9, .int a] (.int a :: st) z Q := zw_next (f := z_iload 10 161) rfl rfl
theorem s168_161 {ls : List Value} {a : Int32} : ZW zG d 168 161 ls (.int a :: st) z Q = if a < 0 then ZW zG d 168 168 ls st z Q else ZW zG d 168 164 ls st z Q := zw_iflt rfl
theorem s168_164 {ls : List Value}  : ZW zG d 168 164 ls (st) z Q = ZW zG d 168 165 ls ((.int (nI 1)) :: st) z Q := zw_push rfl
theorem s168_165 {ls : List Value}  : ZW zG d 168 165 ls (st) z Q = ZW zG d 168 169 ls st z Q := zw_goto rfl
theorem s168_168 {ls : List Value}  : ZW zG d 168 168 ls (st) z Q = ZW zG d 168 169 ls ((.int (nI 0)) :: st) z Q := zw_push rfl
theorem s168_169 {ls : List Value} {a b : Int32} : ZW zG d 168 169 ls (.int b :: .int a :: st) z Q = ZW zG d 168 170 ls (.int (a + b) :: st) z Q := zw_iadd rfl
theorem s168_170 {x0 x1 x2 x3 x4 x5 x6 x7 x8 x9 x10 : Value} {a : Int32} : ZW zG d 168 170 [x0, x1, x2, x3, x4, x5, x6, x7, x8, x9, x10] (.int a :: st) z Q = ZW zG d 168 171 [x0, zclr x1, .int a, x3, x4, x5, x6, x7, x8, x9, x10] st z Q := zw_next (f := z_istore 2 171) rfl rfl
theorem s168_171 {x0 x1 x2 x4 x5 x6 x7 x8 x9 x10 : Value} {a : Int32} : ZW zG d 168 171 [x0, x1, x2, .int a, x4, x5, x6, x7, x8, x9, x10] st z Q = ZW zG d 168 174 [x0, x1, zclr x2, .int (a + (nI 3)), x4, x5, x6, x7, x8, x9, x10] st z Q := zw_next (f := z_iinc 3 (nI 3) 174) rfl rfl
theorem s168_174 {ls : List Value}  : ZW zG d 168 174 ls (st) z Q = ZW zG d 168 27 ls st z Q := zw_goto rfl
theorem s168_177 {x0 x1 x3 x4 x5 x6 x7 x8 x9 x10 : Value} {a : Int32} : ZW zG d 168 177 [x0, x1, .int a, x3, x4, x5, x6, x7, x8, x9, x10] st z Q = ZW zG d 168 178 [x0, x1, .int a, x3, x4, x5, x6, x7, x8, x9, x10] (.int a :: st) z Q := zw_next (f := z_iload 2 178) rfl rfl
theorem s168_178 {ls : List Value} {a : Int32} : ZW zG d 168 178 ls ([.int a]) z Q = Q (.inl (some (.int a))) z := zw_reti rfl
/-- X12_isSlot (I)Z -/
theorem e169 {v0 : Int32} : ZC zG d 169 [.int v0] z Q = ZW zG d 169 0 [.int v0] [] z Q := rfl
theorem s169_0 {a : Int32} : ZW zG d 169 0 [.int a] st z Q = ZW zG d 169 1 [.int a] (.int a :: st) z Q := zw_next (f := z_iload 0 1) rfl rfl
theorem s169_1 {ls : List Value} {a : Int32} : ZW zG d 169 1 ls (.int a :: st) z Q = ZW zG d 169 2 ls (.long a.toInt64 :: st) z Q := zw_i2l rfl
theorem s169_2 {ls : List Value}  : ZW zG d 169 2 ls (st) z Q = ZW zG d 169 3 ls ((.long (lN 0)) :: st) z Q := zw_push rfl
theorem s169_3 {ls : List Value}  : ZW zG d 169 3 ls (st) z Q = ZW zG d 169 6 ls ((.long (lN 3)) :: st) z Q := zw_push rfl
theorem s169_6 {ls : List Value} {w0 : Int64} {w1 : Int64} {w2 : Int64} : ZW zG (d + 1) 169 6 ls (.long w2 :: .long w1 :: .long w0 :: st) z Q = (zcs st = true ∧ ZC zG d 114 [.long w0, .long w1, .long w2] z (zk zG (d + 1) 169 (none) 9 ls st Q)) := zc_S3 rfl (Nat.le_of_ble_eq_true rfl)
theorem s169_9 {ls : List Value} {a : Int32} : ZW zG d 169 9 ls ([.int a]) z Q = ((a = 0 ∨ a = 1) ∧ Q (.inl (some (.int a))) z) := zw_retz rfl
/-- X12_debts (I)I -/
theorem e170 {r0 : Nat} {v0 : Int32} : ZC zG d 170 [.ref r0, .int v0] z Q = ZW zG d 170 0 [.ref r0, .int v0] [] z Q := rfl
theorem s170_0 {x0 x1 : Value} : ZW zG d 170 0 [x0, x1] st z Q = (zir x0 = true ∧ ZW zG d 170 1 [x0, x1] (x0 :: st) z Q) := zw_cond (f := z_aload 0 1) rfl rfl
theorem s170_1 {x0 : Value} {a : Int32} : ZW zG d 170 1 [x0, .int a] st z Q = ZW zG d 170 2 [x0, .int a] (.int a :: st) z Q := zw_next (f := z_iload 1 2) rfl rfl
theorem s170_2 {ls : List Value} {w0 : Int32} {r : Nat} : ZW zG (d + 1) 170 2 ls (.int w0 :: .ref r :: st) z Q = (zcls z r = 12 ∧ zcs st = true ∧ ZC zG d 144 [.ref r, .int w0] z (zk zG (d + 1) 170 (none) 5 ls st Q)) := zc_V1 rfl (Nat.le_of_ble_eq_true rfl)
theorem s170_5 {ls : List Value} {a : Int32} : ZW zG d 170 5 ls (.int a :: st) z Q = if a = 0 then ZW zG d 170 16 ls st z Q else ZW zG d 170 8 ls st z Q := zw_ifeq rfl
theorem s170_8 {x0 x1 : Value} : ZW zG d 170 8 [x0, x1] st z Q = (zir x0 = true ∧ ZW zG d 170 9 [x0, x1] (x0 :: st) z Q) := zw_cond (f := z_aload 0 9) rfl rfl
theorem s170_9 {x0 : Value} {a : Int32} : ZW zG d 170 9 [x0, .int a] st z Q = ZW zG d 170 10 [x0, .int a] (.int a :: st) z Q := zw_next (f := z_iload 1 10) rfl rfl
theorem s170_10 {ls : List Value} {w0 : Int32} {r : Nat} : ZW zG (d + 1) 170 10 ls (.int w0 :: .ref r :: st) z Q = (zcls z r = 12 ∧ zcs st = true ∧ ZC zG d 162 [.ref r, .int w0] z (zk zG (d + 1) 170 (none) 13 ls st Q)) := zc_V1 rfl (Nat.le_of_ble_eq_true rfl)
theorem s170_13 {ls : List Value}  : ZW zG d 170 13 ls (st) z Q = ZW zG d 170 18 ls st z Q := zw_goto rfl
theorem s170_16 {ls : List Value}  : ZW zG d 170 16 ls (st) z Q = ZW zG d 170 18 ls ((.int (-2)) :: st) z Q := zw_push rfl
theorem s170_18 {ls : List Value} {a : Int32} : ZW zG d 170 18 ls ([.int a]) z Q = Q (.inl (some (.int a))) z := zw_reti rfl
/-- X12_debt (III)I -/
theorem e171 {r0 : Nat} {v0 : Int32} {v1 : Int32} {v2 : Int32} : ZC zG d 171 [.ref r0, .int v0, .int v1, .int v2] z Q = ZW zG d 171 0 [.ref r0, .int v0, .int v1, .int v2, zdum] [] z Q := rfl
theorem s171_0 {x0 x1 x2 x3 x4 : Value} : ZW zG d 171 0 [x0, x1, x2, x3, x4] st z Q = (zir x0 = true ∧ ZW zG d 171 1 [x0, x1, x2, x3, x4] (x0 :: st) z Q) := zw_cond (f := z_aload 0 1) rfl rfl
theorem s171_1 {x0 x2 x3 x4 : Value} {a : Int32} : ZW zG d 171 1 [x0, .int a, x2, x3, x4] st z Q = ZW zG d 171 2 [x0, .int a, x2, x3, x4] (.int a :: st) z Q := zw_next (f := z_iload 1 2) rfl rfl
theorem s171_2 {ls : List Value} {w0 : Int32} {r : Nat} : ZW zG (d + 1) 171 2 ls (.int w0 :: .ref r :: st) z Q = (zcls z r = 12 ∧ zcs st = true ∧ ZC zG d 144 [.ref r, .int w0] z (zk zG (d + 1) 171 (none) 5 ls st Q)) := zc_V1 rfl (Nat.le_of_ble_eq_true rfl)
theorem s171_5 {ls : List Value} {a : Int32} : ZW zG d 171 5 ls (.int a :: st) z Q = if a = 0 then ZW zG d 171 24 ls st z Q else ZW zG d 171 8 ls st z Q := zw_ifeq rfl
theorem s171_8 {x0 x1 x3 x4 : Value} {a : Int32} : ZW zG d 171 8 [x0, x1, .int a, x3, x4] st z Q = ZW zG d 171 9 [x0, x1, .int a, x3, x4] (.int a :: st) z Q := zw_next (f := z_iload 2 9) rfl rfl
theorem s171_9 {ls : List Value} {a : Int32} : ZW zG d 171 9 ls (.int a :: st) z Q = if a < 0 then ZW zG d 171 24 ls st z Q else ZW zG d 171 12 ls st z Q := zw_iflt rfl
theorem s171_12 {x0 x1 x2 x4 : Value} {a : Int32} : ZW zG d 171 12 [x0, x1, x2, .int a, x4] st z Q = ZW zG d 171 13 [x0, x1, x2, .int a, x4] (.int a :: st) z Q := zw_next (f := z_iload 3 13) rfl rfl
theorem s171_13 {ls : List Value} {a : Int32} : ZW zG d 171 13 ls (.int a :: st) z Q = ZW zG d 171 14 ls (.long a.toInt64 :: st) z Q := zw_i2l rfl
theorem s171_14 {ls : List Value}  : ZW zG d 171 14 ls (st) z Q = ZW zG d 171 15 ls ((.long (lN 0)) :: st) z Q := zw_push rfl
theorem s171_15 {ls : List Value}  : ZW zG d 171 15 ls (st) z Q = ZW zG d 171 18 ls ((.long (lN 3)) :: st) z Q := zw_push rfl
theorem s171_18 {ls : List Value} {w0 : Int64} {w1 : Int64} {w2 : Int64} : ZW zG (d + 1) 171 18 ls (.long w2 :: .long w1 :: .long w0 :: st) z Q = (zcs st = true ∧ ZC zG d 114 [.long w0, .long w1, .long w2] z (zk zG (d + 1) 171 (none) 21 ls st Q)) := zc_S3 rfl (Nat.le_of_ble_eq_true rfl)
theorem s171_21 {ls : List Value} {a : Int32} : ZW zG d 171 21 ls (.int a :: st) z Q = if ¬ a = 0 then ZW zG d 171 26 ls st z Q else ZW zG d 171 24 ls st z Q := zw_ifne rfl
theorem s171_24 {ls : List Value}  : ZW zG d 171 24 ls (st) z Q = ZW zG d 171 25 ls ((.int (-1)) :: st) z Q := zw_push rfl
theorem s171_25 {ls : List Value} {a : Int32} : ZW zG d 171 25 ls ([.int a]) z Q = Q (.inl (some (.int a))) z := zw_reti rfl
theorem s171_26 {x0 x1 x2 x3 x4 : Value} : ZW zG d 171 26 [x0, x1, x2, x3, x4] st z Q = (zir x0 = true ∧ ZW zG d 171 27 [x0, x1, x2, x3, x4] (x0 :: st) z Q) := zw_cond (f := z_aload 0 27) rfl rfl
theorem s171_27 {x0 x2 x3 x4 : Value} {a : Int32} : ZW zG d 171 27 [x0, .int a, x2, x3, x4] st z Q = ZW zG d 171 28 [x0, .int a, x2, x3, x4] (.int a :: st) z Q := zw_next (f := z_iload 1 28) rfl rfl
theorem s171_28 {x0 x1 x3 x4 : Value} {a : Int32} : ZW zG d 171 28 [x0, x1, .int a, x3, x4] st z Q = ZW zG d 171 29 [x0, x1, .int a, x3, x4] (.int a :: st) z Q := zw_next (f := z_iload 2 29) rfl rfl
theorem s171_29 {ls : List Value} {w0 : Int32} {w1 : Int32} {r : Nat} : ZW zG (d + 1) 171 29 ls (.int w1 :: .int w0 :: .ref r :: st) z Q = (zcls z r = 12 ∧ zcs st = true ∧ ZC zG d 172 [.ref r, .int w0, .int w1] z (zk zG (d + 1) 171 (none) 32 ls st Q)) := zc_V2 rfl (Nat.le_of_ble_eq_true rfl)
theorem s171_32 {x0 x1 x2 x3 x4 : Value} {a : Int32} : ZW zG d 171 32 [x0, x1, x2, x3, x4] (.int a :: st) z Q = ZW zG d 171 34 [x0, x1, x2, zclr x3, .int a] st z Q := zw_next (f := z_istore 4 34) rfl rfl
theorem s171_34 {x0 x1 x2 x3 : Value} {a : Int32} : ZW zG d 171 34 [x0, x1, x2, x3, .int a] st z Q = ZW zG d 171 36 [x0, x1, x2, x3, .int a] (.int a :: st) z Q := zw_next (f := z_iload 4 36) rfl rfl
theorem s171_36 {ls : List Value}  : ZW zG d 171 36 ls (st) z Q = ZW zG d 171 37 ls ((.int (-1)) :: st) z Q := zw_push rfl
theorem s171_37 {ls : List Value} {a b : Int32} : ZW zG d 171 37 ls (.int b :: .int a :: st) z Q = if ¬ a = b then ZW zG d 171 44 ls st z Q else ZW zG d 171 40 ls st z Q := zw_icne rfl
theorem s171_40 {ls : List Value}  : ZW zG d 171 40 ls (st) z Q = ZW zG d 171 41 ls ((.int (-1)) :: st) z Q := zw_push rfl
theorem s171_41 {ls : List Value}  : ZW zG d 171 41 ls (st) z Q = ZW zG d 171 53 ls st z Q := zw_goto rfl
theorem s171_44 {x0 x1 x2 x3 x4 : Value} : ZW zG d 171 44 [x0, x1, x2, x3, x4] st z Q = (zir x0 = true ∧ ZW zG d 171 45 [x0, x1, x2, x3, x4] (x0 :: st) z Q) := zw_cond (f := z_aload 0 45) rfl rfl
theorem s171_45 {x0 x1 x2 x3 : Value} {a : Int32} : ZW zG d 171 45 [x0, x1, x2, x3, .int a] st z Q = ZW zG d 171 47 [x0, x1, x2, x3, .int a] (.int a :: st) z Q := zw_next (f := z_iload 4 47) rfl rfl
theorem s171_47 {x0 x1 x2 x4 : Value} {a : Int32} : ZW zG d 171 47 [x0, x1, x2, .int a, x4] st z Q = ZW zG d 171 48 [x0, x1, x2, .int a, x4] (.int a :: st) z Q := zw_next (f := z_iload 3 48) rfl rfl
theorem s171_48 {ls : List Value}  : ZW zG d 171 48 ls (st) z Q = ZW zG d 171 49 ls ((.int (nI 1)) :: st) z Q := zw_push rfl
theorem s171_49 {ls : List Value} {a b : Int32} : ZW zG d 171 49 ls (.int b :: .int a :: st) z Q = ZW zG d 171 50 ls (.int (a + b) :: st) z Q := zw_iadd rfl
theorem s171_50 {ls : List Value} {w0 : Int32} {w1 : Int32} {r : Nat} : ZW zG (d + 1) 171 50 ls (.int w1 :: .int w0 :: .ref r :: st) z Q = (zcls z r = 12 ∧ zcs st = true ∧ ZC zG d 159 [.ref r, .int w0, .int w1] z (zk zG (d + 1) 171 (none) 53 ls st Q)) := zc_V2 rfl (Nat.le_of_ble_eq_true rfl)
theorem s171_53 {ls : List Value} {a : Int32} : ZW zG d 171 53 ls ([.int a]) z Q = Q (.inl (some (.int a))) z := zw_reti rfl
end ZSITE
