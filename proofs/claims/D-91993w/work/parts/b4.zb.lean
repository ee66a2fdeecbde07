set_option maxRecDepth 100000
/-! the JDK's methods over the second program -/
section JC
variable {d : Nat} {y : ZH} {Q : ZQ} {r q N len : Nat}
theorem jc19n {i n : Nat} (h : i < n) (hn : n < 2147483648) : ZC zJ d 19 [.int (nI i), .int (nI n), .null] y Q = Q (.inl (some (.int (nI i)))) y := by
  simp (disch := omega) only [ej19n, j19_0, j19_1, j19_4, j19_5, j19_6, j19_16, j19_17, zcs_0, zcs_1, zcs_2, zcs_3, zcs_4, zcs_5, zcs_6, zcs_7, znl_i, znl_r, znl_n, Bool.and_true, Bool.true_and, zk_v, zk_n, zk_x, zir_r, zir_n, zclr_i, zclr_r, zclr_n, zclr_d, zclr_l, true_and, and_true, and_self, if_true, if_false, reduceIte, nI_add, pk_mul, zin_ok, zx_nI, nI_lt2, nI_le2, nI_eq2, nI_l0, nI_g0, nI_q0, nI_p0, nI_n0, nI_m1, Nat.add_zero, Nat.zero_add, Nat.reduceAdd, Nat.reduceMul, true_or, or_true, znar_50, bI_0, bI_1, bI_z, bft, nI_z0, nI_z1, lgc_lt, lgc_gt, lgc_le, lgc_ge, lgc_eq, not_true_eq_false, not_false_eq_true, Bool.not_eq_true, Bool.not_eq_false, reduceCtorEq, h]
theorem jc19f {i n : Nat} {x : UInt32} (h : i < n) (hn : n < 2147483648) : ZC zJ d 19 [.int (nI i), .int (nI n), .float x] y Q = Q (.inl (some (.int (nI i)))) y := by
  simp (disch := omega) only [ej19, j19_0, j19_1, j19_4, j19_5, j19_6, j19_16, j19_17, zcs_0, zcs_1, zcs_2, zcs_3, zcs_4, zcs_5, zcs_6, zcs_7, znl_i, znl_r, znl_n, Bool.and_true, Bool.true_and, zk_v, zk_n, zk_x, zir_r, zir_n, zclr_i, zclr_r, zclr_n, zclr_d, zclr_l, true_and, and_true, and_self, if_true, if_false, reduceIte, nI_add, pk_mul, zin_ok, zx_nI, nI_lt2, nI_le2, nI_eq2, nI_l0, nI_g0, nI_q0, nI_p0, nI_n0, nI_m1, Nat.add_zero, Nat.zero_add, Nat.reduceAdd, Nat.reduceMul, true_or, or_true, znar_50, bI_0, bI_1, bI_z, bft, nI_z0, nI_z1, lgc_lt, lgc_gt, lgc_le, lgc_ge, lgc_eq, not_true_eq_false, not_false_eq_true, Bool.not_eq_true, Bool.not_eq_false, reduceCtorEq, h]
theorem jc16 {i n : Nat} (h : i < n) (hn : n < 2147483648) : ZC zJ (d + 1) 16 [.int (nI i), .int (nI n)] y Q = Q (.inl (some (.int (nI i)))) y := by
  simp (disch := omega) only [ej16, j16_0, j16_1, j16_2, j16_3, j16_6, zcs_0, zcs_1, zcs_2, zcs_3, zcs_4, zcs_5, zcs_6, zcs_7, znl_i, znl_r, znl_n, Bool.and_true, Bool.true_and, zk_v, zk_n, zk_x, zir_r, zir_n, zclr_i, zclr_r, zclr_n, zclr_d, zclr_l, true_and, and_true, and_self, if_true, if_false, reduceIte, nI_add, pk_mul, zin_ok, zx_nI, nI_lt2, nI_le2, nI_eq2, nI_l0, nI_g0, nI_q0, nI_p0, nI_n0, nI_m1, Nat.add_zero, Nat.zero_add, Nat.reduceAdd, Nat.reduceMul, true_or, or_true, znar_50, bI_0, bI_1, bI_z, bft, nI_z0, nI_z1, lgc_lt, lgc_gt, lgc_le, lgc_ge, lgc_eq, not_true_eq_false, not_false_eq_true, Bool.not_eq_true, Bool.not_eq_false, reduceCtorEq, jc19n h hn]
theorem jc18 {i n : Nat} (h : i < n) (hn : n < 2147483648) : ZC zJ (d + 1) 18 [.int (nI i), .int (nI n)] y Q = Q (.inl none) y := by
  simp (disch := omega) only [ej18, j18_0, j18_1, j18_2, j18_5, j18_8, j18_9, zcs_0, zcs_1, zcs_2, zcs_3, zcs_4, zcs_5, zcs_6, zcs_7, znl_i, znl_r, znl_n, Bool.and_true, Bool.true_and, zk_v, zk_n, zk_x, zir_r, zir_n, zclr_i, zclr_r, zclr_n, zclr_d, zclr_l, true_and, and_true, and_self, if_true, if_false, reduceIte, nI_add, pk_mul, zin_ok, zx_nI, nI_lt2, nI_le2, nI_eq2, nI_l0, nI_g0, nI_q0, nI_p0, nI_n0, nI_m1, Nat.add_zero, Nat.zero_add, Nat.reduceAdd, Nat.reduceMul, true_or, or_true, znar_50, bI_0, bI_1, bI_z, bft, nI_z0, nI_z1, lgc_lt, lgc_gt, lgc_le, lgc_ge, lgc_eq, not_true_eq_false, not_false_eq_true, Bool.not_eq_true, Bool.not_eq_false, reduceCtorEq, jc19f h hn]
/-- a list laid open: its object at r, its places at q -/
def jL (y : ZH) (r q N len : Nat) : Prop := (zcls y r = 24 ∧ zfr y r 1 = .ref q ∧ zfi y r 2 = nI len) ∧ (zcls y q = 64 ∧ zlen y q = N) ∧ len ≤ N ∧ N < 1000000
theorem jc4 (h : jL y r q N len) : ZC zJ d 4 [.ref r] y Q = Q (.inl (some (.int (nI len)))) y := by
  obtain ⟨⟨h1, h2, h3⟩, ⟨h4, h5⟩, h6, h7⟩ := h
  simp (disch := omega) only [ej4, j4_0, j4_1, j4_4, zcs_0, zcs_1, zcs_2, zcs_3, zcs_4, zcs_5, zcs_6, zcs_7, znl_i, znl_r, znl_n, Bool.and_true, Bool.true_and, zk_v, zk_n, zk_x, zir_r, zir_n, zclr_i, zclr_r, zclr_n, zclr_d, zclr_l, true_and, and_true, and_self, if_true, if_false, reduceIte, nI_add, pk_mul, zin_ok, zx_nI, nI_lt2, nI_le2, nI_eq2, nI_l0, nI_g0, nI_q0, nI_p0, nI_n0, nI_m1, Nat.add_zero, Nat.zero_add, Nat.reduceAdd, Nat.reduceMul, true_or, or_true, znar_50, bI_0, bI_1, bI_z, bft, nI_z0, nI_z1, lgc_lt, lgc_gt, lgc_le, lgc_ge, lgc_eq, not_true_eq_false, not_false_eq_true, Bool.not_eq_true, Bool.not_eq_false, reduceCtorEq, h1, h3]
theorem jc10 (h : jL y r q N len) {i v : Nat} (hi : i < N) (hv : zra y q i = .ref v) : ZC zJ d 10 [.ref r, .int (nI i)] y Q = Q (.inl (some (.ref v))) y := by
  obtain ⟨⟨h1, h2, h3⟩, ⟨h4, h5⟩, h6, h7⟩ := h
  simp (disch := omega) only [ej10, j10_0, j10_1, j10_4, j10_5, j10_6, j10_6r, zcs_0, zcs_1, zcs_2, zcs_3, zcs_4, zcs_5, zcs_6, zcs_7, znl_i, znl_r, znl_n, Bool.and_true, Bool.true_and, zk_v, zk_n, zk_x, zir_r, zir_n, zclr_i, zclr_r, zclr_n, zclr_d, zclr_l, true_and, and_true, and_self, if_true, if_false, reduceIte, nI_add, pk_mul, zin_ok, zx_nI, nI_lt2, nI_le2, nI_eq2, nI_l0, nI_g0, nI_q0, nI_p0, nI_n0, nI_m1, Nat.add_zero, Nat.zero_add, Nat.reduceAdd, Nat.reduceMul, true_or, or_true, znar_50, bI_0, bI_1, bI_z, bft, nI_z0, nI_z1, lgc_lt, lgc_gt, lgc_le, lgc_ge, lgc_eq, not_true_eq_false, not_false_eq_true, Bool.not_eq_true, Bool.not_eq_false, reduceCtorEq, h1, h2, h4, h5, hv]
theorem jc10n (h : jL y r q N len) {i : Nat} (hi : i < N) (hv : zra y q i = .null) : ZC zJ d 10 [.ref r, .int (nI i)] y Q = Q (.inl (some .null)) y := by
  obtain ⟨⟨h1, h2, h3⟩, ⟨h4, h5⟩, h6, h7⟩ := h
  simp (disch := omega) only [ej10, j10_0, j10_1, j10_4, j10_5, j10_6, j10_6r, zcs_0, zcs_1, zcs_2, zcs_3, zcs_4, zcs_5, zcs_6, zcs_7, znl_i, znl_r, znl_n, Bool.and_true, Bool.true_and, zk_v, zk_n, zk_x, zir_r, zir_n, zclr_i, zclr_r, zclr_n, zclr_d, zclr_l, true_and, and_true, and_self, if_true, if_false, reduceIte, nI_add, pk_mul, zin_ok, zx_nI, nI_lt2, nI_le2, nI_eq2, nI_l0, nI_g0, nI_q0, nI_p0, nI_n0, nI_m1, Nat.add_zero, Nat.zero_add, Nat.reduceAdd, Nat.reduceMul, true_or, or_true, znar_50, bI_0, bI_1, bI_z, bft, nI_z0, nI_z1, lgc_lt, lgc_gt, lgc_le, lgc_ge, lgc_eq, not_true_eq_false, not_false_eq_true, Bool.not_eq_true, Bool.not_eq_false, reduceCtorEq, h1, h2, h4, h5, hv]
theorem jc9n (h : jL y r q N len) {i : Nat} (hi : i < len) (hv : zra y q i = .null) : ZC zJ (d + 2) 9 [.ref r, .int (nI i)] y Q = Q (.inl (some .null)) y := by
  have c10 := fun d Q => jc10n (d := d) (Q := Q) h (Nat.lt_of_lt_of_le hi h.2.2.1) hv
  have c16 := fun d Q => jc16 (d := d) (Q := Q) (y := y) hi (by have := h.2.2.1; have := h.2.2.2; omega)
  obtain ⟨⟨h1, h2, h3⟩, ⟨h4, h5⟩, h6, h7⟩ := h
  simp (disch := omega) only [ej9, j9_0, j9_1, j9_2, j9_5, j9_8, j9_9, j9_10, j9_11, j9_14, j9_14r, zcs_0, zcs_1, zcs_2, zcs_3, zcs_4, zcs_5, zcs_6, zcs_7, znl_i, znl_r, znl_n, Bool.and_true, Bool.true_and, zk_v, zk_n, zk_x, zir_r, zir_n, zclr_i, zclr_r, zclr_n, zclr_d, zclr_l, true_and, and_true, and_self, if_true, if_false, reduceIte, nI_add, pk_mul, zin_ok, zx_nI, nI_lt2, nI_le2, nI_eq2, nI_l0, nI_g0, nI_q0, nI_p0, nI_n0, nI_m1, Nat.add_zero, Nat.zero_add, Nat.reduceAdd, Nat.reduceMul, true_or, or_true, znar_50, bI_0, bI_1, bI_z, bft, nI_z0, nI_z1, lgc_lt, lgc_gt, lgc_le, lgc_ge, lgc_eq, not_true_eq_false, not_false_eq_true, Bool.not_eq_true, Bool.not_eq_false, reduceCtorEq, h1, h3, c16, c10]
theorem jc9 (h : jL y r q N len) {i v : Nat} (hi : i < len) (hv : zra y q i = .ref v) : ZC zJ (d + 2) 9 [.ref r, .int (nI i)] y Q = Q (.inl (some (.ref v))) y := by
  have c10 := fun d Q => jc10 (d := d) (Q := Q) h (Nat.lt_of_lt_of_le hi h.2.2.1) hv
  have c16 := fun d Q => jc16 (d := d) (Q := Q) (y := y) hi (by have := h.2.2.1; have := h.2.2.2; omega)
  obtain ⟨⟨h1, h2, h3⟩, ⟨h4, h5⟩, h6, h7⟩ := h
  simp (disch := omega) only [ej9, j9_0, j9_1, j9_2, j9_5, j9_8, j9_9, j9_10, j9_11, j9_14, j9_14r, zcs_0, zcs_1, zcs_2, zcs_3, zcs_4, zcs_5, zcs_6, zcs_7, znl_i, znl_r, znl_n, Bool.and_true, Bool.true_and, zk_v, zk_n, zk_x, zir_r, zir_n, zclr_i, zclr_r, zclr_n, zclr_d, zclr_l, true_and, and_true, and_self, if_true, if_false, reduceIte, nI_add, pk_mul, zin_ok, zx_nI, nI_lt2, nI_le2, nI_eq2, nI_l0, nI_g0, nI_q0, nI_p0, nI_n0, nI_m1, Nat.add_zero, Nat.zero_add, Nat.reduceAdd, Nat.reduceMul, true_or, or_true, znar_50, bI_0, bI_1, bI_z, bft, nI_z0, nI_z1, lgc_lt, lgc_gt, lgc_le, lgc_ge, lgc_eq, not_true_eq_false, not_false_eq_true, Bool.not_eq_true, Bool.not_eq_false, reduceCtorEq, h1, h3, c16, c10]
/-- the places from 0 on up to i made nothing -/
def clrH (y : ZH) (q : Nat) : Nat → ZH
  | 0 => y
  | i + 1 => sra (clrH y q i) q i .null
theorem clrH_o (y : ZH) (q : Nat) : ∀ i, zcls (clrH y q i) = zcls y ∧ zfi (clrH y q i) = zfi y ∧ zfr (clrH y q i) = zfr y ∧ zia (clrH y q i) = zia y ∧ zla (clrH y q i) = zla y ∧ zlen (clrH y q i) = zlen y ∧ zls (clrH y q i) = zls y ∧ zown (clrH y q i) = zown y ∧ zn (clrH y q i) = zn y ∧ zuc (clrH y q i) = zuc y ∧ zus (clrH y q i) = zus y
  | 0 => ⟨rfl, rfl, rfl, rfl, rfl, rfl, rfl, rfl, rfl, rfl, rfl⟩
  | i + 1 => clrH_o y q i
theorem clrH_r (y : ZH) (q : Nat) : ∀ i p k, zra (clrH y q i) p k = if p = q ∧ k < i then .null else zra y p k
  | 0, p, k => by rw [if_neg (by omega)]; rfl
  | i + 1, p, k => by
    unfold clrH
    rw [ra_sra]
    by_cases e : p = q ∧ k = i
    · rw [e.1, e.2, zu2_s, if_pos ⟨rfl, by omega⟩]
    · have e2 : zu2 (zra (clrH y q i)) q i .null p k = zra (clrH y q i) p k := if_neg e
      rw [e2, clrH_r y q i p k]
      by_cases c : p = q ∧ k < i
      · rw [if_pos c, if_pos ⟨c.1, by omega⟩]
      · rw [if_neg c, if_neg (by omega)]
def jClr (y : ZH) (r q len : Nat) : ZH := clrH (sfi (sfi y r 0 (zfi y r 0 + nI 1)) r 2 (nI 0)) q len
theorem jc3 (h : jL y r q N len) : ZC zJ d 3 [.ref r] y Q = Q (.inl none) (jClr y r q len) := by
  obtain ⟨⟨h1, h2, h3⟩, ⟨h4, h5⟩, h6, h7⟩ := h
  have st : ZC zJ d 3 [.ref r] y Q = ZW zJ d 3 27 [.ref r, .ref q, .int (nI len), .int (nI 0)] [] (jClr y r q 0) Q := by
    simp (disch := omega) only [ej3, j3_0, j3_1, j3_2, j3_5, j3_6, j3_7, j3_10, j3_11, j3_14, j3_15, j3_16, j3_19, j3_20, j3_21, j3_22, j3_23, j3_26, zcs_0, zcs_1, zcs_2, zcs_3, zcs_4, zcs_5, zcs_6, zcs_7, znl_i, znl_r, znl_n, Bool.and_true, Bool.true_and, zk_v, zk_n, zk_x, zir_r, zir_n, zclr_i, zclr_r, zclr_n, zclr_d, zclr_l, true_and, and_true, and_self, if_true, if_false, reduceIte, nI_add, pk_mul, zin_ok, zx_nI, nI_lt2, nI_le2, nI_eq2, nI_l0, nI_g0, nI_q0, nI_p0, nI_n0, nI_m1, Nat.add_zero, Nat.zero_add, Nat.reduceAdd, Nat.reduceMul, true_or, or_true, znar_50, bI_0, bI_1, bI_z, bft, nI_z0, nI_z1, lgc_lt, lgc_gt, lgc_le, lgc_ge, lgc_eq, not_true_eq_false, not_false_eq_true, Bool.not_eq_true, Bool.not_eq_false, reduceCtorEq, h1, h2, h3, cls_sfi, fr_sfi, fi_sfi, zu2_k, zu2_n, ne_eq, jClr, clrH]
  rw [st]
  have key := zl_up (P := fun k => ZW zJ d 3 27 [.ref r, .ref q, .int (nI len), .int (nI k)] [] (jClr y r q k) Q) len (by
    intro k hk
    have c := clrH_o (sfi (sfi y r 0 (zfi y r 0 + nI 1)) r 2 (nI 0)) q k
    have g1 : ¬ len ≤ k := by omega
    have hc : zcls (jClr y r q k) q = 64 := by unfold jClr; rw [c.1]; exact h4
    have hl : zlen (jClr y r q k) q = N := by unfold jClr; rw [c.2.2.2.2.2.1]; exact h5
    have e : jClr y r q (k + 1) = sra (jClr y r q k) q k .null := rfl
    refine j3_27.trans ?_
    simp (disch := omega) only [j3_28, j3_29, j3_32, j3_33, j3_34, j3_35, j3_36, j3_39, zcs_0, zcs_1, zcs_2, zcs_3, zcs_4, zcs_5, zcs_6, zcs_7, znl_i, znl_r, znl_n, Bool.and_true, Bool.true_and, zk_v, zk_n, zk_x, zir_r, zir_n, zclr_i, zclr_r, zclr_n, zclr_d, zclr_l, true_and, and_true, and_self, if_true, if_false, reduceIte, nI_add, pk_mul, zin_ok, zx_nI, nI_lt2, nI_le2, nI_eq2, nI_l0, nI_g0, nI_q0, nI_p0, nI_n0, nI_m1, Nat.add_zero, Nat.zero_add, Nat.reduceAdd, Nat.reduceMul, true_or, or_true, znar_50, bI_0, bI_1, bI_z, bft, nI_z0, nI_z1, lgc_lt, lgc_gt, lgc_le, lgc_ge, lgc_eq, not_true_eq_false, not_false_eq_true, Bool.not_eq_true, Bool.not_eq_false, reduceCtorEq, hc, hl, g1]
    rw [← e])
  refine key.trans ?_
  refine j3_27.trans ?_
  have g2 : len ≤ len := Nat.le_refl _
  simp (disch := omega) only [j3_28, j3_29, j3_42, zcs_0, zcs_1, zcs_2, zcs_3, zcs_4, zcs_5, zcs_6, zcs_7, znl_i, znl_r, znl_n, Bool.and_true, Bool.true_and, zk_v, zk_n, zk_x, zir_r, zir_n, zclr_i, zclr_r, zclr_n, zclr_d, zclr_l, true_and, and_true, and_self, if_true, if_false, reduceIte, nI_add, pk_mul, zin_ok, zx_nI, nI_lt2, nI_le2, nI_eq2, nI_l0, nI_g0, nI_q0, nI_p0, nI_n0, nI_m1, Nat.add_zero, Nat.zero_add, Nat.reduceAdd, Nat.reduceMul, true_or, or_true, znar_50, bI_0, bI_1, bI_z, bft, nI_z0, nI_z1, lgc_lt, lgc_gt, lgc_le, lgc_ge, lgc_eq, not_true_eq_false, not_false_eq_true, Bool.not_eq_true, Bool.not_eq_false, reduceCtorEq, g2]
/-- a new length: the old one and a half of it more, one at least -/
theorem jc13 {n g p : Nat} (hn : 0 < n) (hs : n + max g p < 1000000) : ZC zJ d 13 [.int (nI n), .int (nI g), .int (nI p)] y Q = Q (.inl (some (.int (nI (n + max g p))))) y := by
  have e : zmax (nI g) (nI p) = nI (max g p) := zmax_nI (by omega) (by omega)
  have g1 : ¬ n + max g p ≤ 0 := by omega
  have g2 : ¬ 2147483639 < n + max g p := by omega
  simp (disch := omega) only [ej13, j13_0, j13_1, j13_2, j13_3, j13_6, j13_7, j13_8, j13_9, j13_10, j13_13, j13_14, j13_16, j13_19, j13_20, zcs_0, zcs_1, zcs_2, zcs_3, zcs_4, zcs_5, zcs_6, zcs_7, znl_i, znl_r, znl_n, Bool.and_true, Bool.true_and, zk_v, zk_n, zk_x, zir_r, zir_n, zclr_i, zclr_r, zclr_n, zclr_d, zclr_l, true_and, and_true, and_self, if_true, if_false, reduceIte, nI_add, pk_mul, zin_ok, zx_nI, nI_lt2, nI_le2, nI_eq2, nI_l0, nI_g0, nI_q0, nI_p0, nI_n0, nI_m1, Nat.add_zero, Nat.zero_add, Nat.reduceAdd, Nat.reduceMul, true_or, or_true, znar_50, bI_0, bI_1, bI_z, bft, nI_z0, nI_z1, lgc_lt, lgc_gt, lgc_le, lgc_ge, lgc_eq, not_true_eq_false, not_false_eq_true, Bool.not_eq_true, Bool.not_eq_false, reduceCtorEq, e, g1, g2]
theorem shr1 {n : Nat} (h : n < 1000000) : nI n >>> (nI 1 &&& 31) = nI (n / 2) := by
  have k := pk_shrN (n := n) (by omega) (nI 1 &&& 31) 1 (by decide)
  rw [Nat.pow_one] at k
  exact k
/-- an array with the places of another one, longer -/
def cpyH (y : ZH) (q M N : Nat) : ZH := sRA (sarr y 64 M) (zn y) (va_cpy (zra (sarr y 64 M) q) (zra (sarr y 64 M) (zn y)) 0 0 N)
theorem jc15 {M : Nat} (hq : zcls y q = 64) (hl : zlen y q = N) (hqn : q < zn y) (hNM : N ≤ M) (hM : M < 1000000) (hel : zlels y q 0 N = true) (hlt : ∀ i v : Nat, zra y q i = .ref v → v < zn y) : ZC zJ d 15 [.ref q, .int (nI M), .ref 98] y Q = Q (.inl (some (.ref (zn y)))) (cpyH y q M N) := by
  have e : zmin (nI N) (nI M) = nI N := by rw [zmin_nI (by omega) (by omega), Nat.min_eq_left hNM]
  have ez : zlels (sarr y 64 M) q 0 N = true := by
    unfold zlels at hel ⊢
    rw [List.all_eq_true] at hel ⊢
    intro j hj
    have h2 := hel j hj
    rw [ra_sarr, zu1_n _ _ _ (by omega)]
    have h3 := hlt (0 + j)
    revert h2 h3
    cases zra y q (0 + j) with
    | ref v =>
      intro h2 h3
      have h4 := h3 v rfl
      have e5 : zlel (sarr y 64 M) (.ref v) = zlel y (.ref v) := by
        simp only [zlel]
        rw [cls_sarr, zu1_n _ _ _ (by omega)]
      rw [e5]
      exact h2
    | _ => intro h2 _; exact h2
  have g1 : N ≤ N := Nat.le_refl _
  simp (disch := omega) only [ej15, j15_0, j15_1, j15_3, j15_6, j15_7, j15_10, j15_24, j15_25, j15_26, j15_27, j15_28, j15_29, j15_30, j15_31, j15_32, j15_35, j15_38, j15_39, j15_39r, zcs_0, zcs_1, zcs_2, zcs_3, zcs_4, zcs_5, zcs_6, zcs_7, znl_i, znl_r, znl_n, Bool.and_true, Bool.true_and, zk_v, zk_n, zk_x, zir_r, zir_n, zclr_i, zclr_r, zclr_n, zclr_d, zclr_l, true_and, and_true, and_self, if_true, if_false, reduceIte, nI_add, pk_mul, zin_ok, zx_nI, nI_lt2, nI_le2, nI_eq2, nI_l0, nI_g0, nI_q0, nI_p0, nI_n0, nI_m1, Nat.add_zero, Nat.zero_add, Nat.reduceAdd, Nat.reduceMul, true_or, or_true, znar_50, bI_0, bI_1, bI_z, bft, nI_z0, nI_z1, lgc_lt, lgc_gt, lgc_le, lgc_ge, lgc_eq, not_true_eq_false, not_false_eq_true, Bool.not_eq_true, Bool.not_eq_false, reduceCtorEq, hq, hl, e, ez, g1, hNM, cls_sarr, len_sarr, zu1_s, zu1_n, ne_eq, cpyH]
theorem jc14 {M : Nat} (hq : zcls y q = 64) (hl : zlen y q = N) (hqn : q < zn y) (hNM : N ≤ M) (hM : M < 1000000) (hel : zlels y q 0 N = true) (hlt : ∀ i v : Nat, zra y q i = .ref v → v < zn y) : ZC zJ (d + 1) 14 [.ref q, .int (nI M)] y Q = Q (.inl (some (.ref (zn y)))) (cpyH y q M N) := by
  simp (disch := omega) only [ej14, j14_0, j14_1, j14_2, j14_3, j14_6, j14_9, j14_9r, zcs_0, zcs_1, zcs_2, zcs_3, zcs_4, zcs_5, zcs_6, zcs_7, znl_i, znl_r, znl_n, Bool.and_true, Bool.true_and, zk_v, zk_n, zk_x, zir_r, zir_n, zclr_i, zclr_r, zclr_n, zclr_d, zclr_l, true_and, and_true, and_self, if_true, if_false, reduceIte, nI_add, pk_mul, zin_ok, zx_nI, nI_lt2, nI_le2, nI_eq2, nI_l0, nI_g0, nI_q0, nI_p0, nI_n0, nI_m1, Nat.add_zero, Nat.zero_add, Nat.reduceAdd, Nat.reduceMul, true_or, or_true, znar_50, bI_0, bI_1, bI_z, bft, nI_z0, nI_z1, lgc_lt, lgc_gt, lgc_le, lgc_ge, lgc_eq, not_true_eq_false, not_false_eq_true, Bool.not_eq_true, Bool.not_eq_false, reduceCtorEq, hq, jc15 hq hl hqn hNM hM hel hlt]
/-- a list whose array is full has grown -/
def gH (y : ZH) (r q N : Nat) : ZH := sfr (cpyH y q (N + max 1 (N / 2)) N) r 1 (.ref (zn y))
theorem jc8 (h : jL y r q N N) (hN : 0 < N) (hN2 : N < 400000) (hr : r < zn y) (hqn : q < zn y) (hel : zlels y q 0 N = true) (hlt : ∀ i v : Nat, zra y q i = .ref v → v < zn y) : ZC zJ (d + 2) 8 [.ref r, .int (nI (N + 1))] y Q = Q (.inl (some (.ref (zn y)))) (gH y r q N) := by
  obtain ⟨⟨h1, h2, h3⟩, ⟨h4, h5⟩, h6, h7⟩ := h
  have e1 : nI (N + 1) - nI N = nI 1 := by
    have k := pk_sub (a := N + 1) (b := N) (by omega)
    rw [Nat.add_sub_cancel_left] at k
    exact k
  have e2 := shr1 (n := N) (by omega)
  have c13 := fun d Q => jc13 (d := d) (Q := Q) (y := y) (n := N) (g := 1) (p := N / 2) hN (by omega)
  have c14 := fun d Q => jc14 (d := d) (Q := Q) (M := N + max 1 (N / 2)) h4 h5 hqn (by omega) (by omega) hel hlt
  have g1 : 0 < N := hN
  have hc : zcls (cpyH y q (N + max 1 (N / 2)) N) r = 24 := by
    unfold cpyH
    rw [cls_sRA, cls_sarr, zu1_n _ _ _ (by omega)]
    exact h1
  simp (disch := omega) only [ej8, j8_0, j8_1, j8_4, j8_5, j8_6, j8_7, j8_20, j8_21, j8_22, j8_23, j8_24, j8_25, j8_26, j8_27, j8_30, j8_31, j8_32, j8_33, j8_36, j8_37, j8_40, j8_41, j8_44, j8_44r, zcs_0, zcs_1, zcs_2, zcs_3, zcs_4, zcs_5, zcs_6, zcs_7, znl_i, znl_r, znl_n, Bool.and_true, Bool.true_and, zk_v, zk_n, zk_x, zir_r, zir_n, zclr_i, zclr_r, zclr_n, zclr_d, zclr_l, true_and, and_true, and_self, if_true, if_false, reduceIte, nI_add, pk_mul, zin_ok, zx_nI, nI_lt2, nI_le2, nI_eq2, nI_l0, nI_g0, nI_q0, nI_p0, nI_n0, nI_m1, Nat.add_zero, Nat.zero_add, Nat.reduceAdd, Nat.reduceMul, true_or, or_true, znar_50, bI_0, bI_1, bI_z, bft, nI_z0, nI_z1, lgc_lt, lgc_gt, lgc_le, lgc_ge, lgc_eq, not_true_eq_false, not_false_eq_true, Bool.not_eq_true, Bool.not_eq_false, reduceCtorEq, h1, h2, h4, h5, e1, e2, c13, c14, g1, hc, gH]
theorem jc7 (h : jL y r q N N) (hN : 0 < N) (hN2 : N < 400000) (hr : r < zn y) (hqn : q < zn y) (hel : zlels y q 0 N = true) (hlt : ∀ i v : Nat, zra y q i = .ref v → v < zn y) : ZC zJ (d + 3) 7 [.ref r] y Q = Q (.inl (some (.ref (zn y)))) (gH y r q N) := by
  have c8 := fun d Q => jc8 (d := d) (Q := Q) h hN hN2 hr hqn hel hlt
  obtain ⟨⟨h1, h2, h3⟩, ⟨h4, h5⟩, h6, h7⟩ := h
  simp (disch := omega) only [ej7, j7_0, j7_1, j7_2, j7_5, j7_6, j7_7, j7_10, j7_10r, zcs_0, zcs_1, zcs_2, zcs_3, zcs_4, zcs_5, zcs_6, zcs_7, znl_i, znl_r, znl_n, Bool.and_true, Bool.true_and, zk_v, zk_n, zk_x, zir_r, zir_n, zclr_i, zclr_r, zclr_n, zclr_d, zclr_l, true_and, and_true, and_self, if_true, if_false, reduceIte, nI_add, pk_mul, zin_ok, zx_nI, nI_lt2, nI_le2, nI_eq2, nI_l0, nI_g0, nI_q0, nI_p0, nI_n0, nI_m1, Nat.add_zero, Nat.zero_add, Nat.reduceAdd, Nat.reduceMul, true_or, or_true, znar_50, bI_0, bI_1, bI_z, bft, nI_z0, nI_z1, lgc_lt, lgc_gt, lgc_le, lgc_ge, lgc_eq, not_true_eq_false, not_false_eq_true, Bool.not_eq_true, Bool.not_eq_false, reduceCtorEq, h1, h3, c8]
/-- one more, room is there -/
def aH (y : ZH) (r q len v : Nat) : ZH := sfi (sra y q len (.ref v)) r 2 (nI (len + 1))
theorem jc6 {v : Nat} (h : jL y r q N len) (hl : len < N) (hv : zlel y (.ref v) = true) : ZC zJ (d + 4) 6 [.ref r, .ref v, .ref q, .int (nI len)] y Q = Q (.inl none) (aH y r q len v) := by
  obtain ⟨⟨h1, h2, h3⟩, ⟨h4, h5⟩, h6, h7⟩ := h
  have g1 : ¬ len = N := by omega
  simp (disch := omega) only [ej6, j6_0, j6_1, j6_2, j6_3, j6_6, j6_7, j6_10, j6_11, j6_12, j6_13, j6_14, j6_15, j6_16, j6_17, j6_18, j6_19, j6_22, zcs_0, zcs_1, zcs_2, zcs_3, zcs_4, zcs_5, zcs_6, zcs_7, znl_i, znl_r, znl_n, Bool.and_true, Bool.true_and, zk_v, zk_n, zk_x, zir_r, zir_n, zclr_i, zclr_r, zclr_n, zclr_d, zclr_l, true_and, and_true, and_self, if_true, if_false, reduceIte, nI_add, pk_mul, zin_ok, zx_nI, nI_lt2, nI_le2, nI_eq2, nI_l0, nI_g0, nI_q0, nI_p0, nI_n0, nI_m1, Nat.add_zero, Nat.zero_add, Nat.reduceAdd, Nat.reduceMul, true_or, or_true, znar_50, bI_0, bI_1, bI_z, bft, nI_z0, nI_z1, lgc_lt, lgc_gt, lgc_le, lgc_ge, lgc_eq, not_true_eq_false, not_false_eq_true, Bool.not_eq_true, Bool.not_eq_false, reduceCtorEq, h1, h4, h5, g1, hv, cls_sra, aH]
theorem jc6g {v : Nat} (h : jL y r q N N) (hN : 0 < N) (hN2 : N < 400000) (hr : r < zn y) (hqn : q < zn y) (hel : zlels y q 0 N = true) (hlt : ∀ i v : Nat, zra y q i = .ref v → v < zn y) (hvn : v < zn y) (hv : zlel y (.ref v) = true) : ZC zJ (d + 4) 6 [.ref r, .ref v, .ref q, .int (nI N)] y Q = Q (.inl none) (aH (gH y r q N) r (zn y) N v) := by
  have c7 := fun d Q => jc7 (d := d) (Q := Q) h hN hN2 hr hqn hel hlt
  obtain ⟨⟨h1, h2, h3⟩, ⟨h4, h5⟩, h6, h7⟩ := h
  have k1 : zcls (gH y r q N) r = 24 := by
    unfold gH cpyH
    rw [cls_sfr, cls_sRA, cls_sarr, zu1_n _ _ _ (by omega)]
    exact h1
  have k2 : zcls (gH y r q N) (zn y) = 64 := by
    unfold gH cpyH
    rw [cls_sfr, cls_sRA, cls_sarr, zu1_s]
  have k3 : zlen (gH y r q N) (zn y) = N + max 1 (N / 2) := by
    unfold gH cpyH
    rw [len_sfr, len_sRA, len_sarr, zu1_s]
  have k4 : zlel (gH y r q N) (.ref v) = true := by
    rw [← hv]
    simp only [zlel]
    unfold gH cpyH
    rw [cls_sfr, cls_sRA, cls_sarr, zu1_n _ _ _ (by omega)]
  simp (disch := omega) only [ej6, j6_0, j6_1, j6_2, j6_3, j6_6, j6_7, j6_10, j6_11, j6_12, j6_13, j6_14, j6_15, j6_16, j6_17, j6_18, j6_19, j6_22, zcs_0, zcs_1, zcs_2, zcs_3, zcs_4, zcs_5, zcs_6, zcs_7, znl_i, znl_r, znl_n, Bool.and_true, Bool.true_and, zk_v, zk_n, zk_x, zir_r, zir_n, zclr_i, zclr_r, zclr_n, zclr_d, zclr_l, true_and, and_true, and_self, if_true, if_false, reduceIte, nI_add, pk_mul, zin_ok, zx_nI, nI_lt2, nI_le2, nI_eq2, nI_l0, nI_g0, nI_q0, nI_p0, nI_n0, nI_m1, Nat.add_zero, Nat.zero_add, Nat.reduceAdd, Nat.reduceMul, true_or, or_true, znar_50, bI_0, bI_1, bI_z, bft, nI_z0, nI_z1, lgc_lt, lgc_gt, lgc_le, lgc_ge, lgc_eq, not_true_eq_false, not_false_eq_true, Bool.not_eq_true, Bool.not_eq_false, reduceCtorEq, h1, h4, h5, c7, k1, k2, k3, k4, cls_sra, aH, eq_self]
theorem jc5 {v : Nat} (h : jL y r q N len) (hl : len < N) (hv : zlel y (.ref v) = true) : ZC zJ (d + 5) 5 [.ref r, .ref v] y Q = Q (.inl (some (.int (nI 1)))) (aH (sfi y r 0 (zfi y r 0 + nI 1)) r q len v) := by
  have h' : jL (sfi y r 0 (zfi y r 0 + nI 1)) r q N len := by
    obtain ⟨⟨h1, h2, h3⟩, ⟨h4, h5⟩, h6, h7⟩ := h
    exact ⟨⟨h1, h2, by rw [fi_sfi, zu2_k _ _ _ _ (by omega)]; exact h3⟩, ⟨h4, h5⟩, h6, h7⟩
  have c6 := fun d Q => jc6 (d := d) (Q := Q) (v := v) h' hl hv
  obtain ⟨⟨h1, h2, h3⟩, ⟨h4, h5⟩, h6, h7⟩ := h'
  have h10 : zcls y r = 24 := h1
  have e9 : (nI 1 = (1 : Int32)) = True := eq_true rfl
  simp (disch := omega) only [ej5, j5_0, j5_1, j5_2, j5_5, j5_6, j5_7, j5_10, j5_11, j5_12, j5_13, j5_16, j5_17, j5_20, j5_23, j5_24, zcs_0, zcs_1, zcs_2, zcs_3, zcs_4, zcs_5, zcs_6, zcs_7, znl_i, znl_r, znl_n, Bool.and_true, Bool.true_and, zk_v, zk_n, zk_x, zir_r, zir_n, zclr_i, zclr_r, zclr_n, zclr_d, zclr_l, true_and, and_true, and_self, if_true, if_false, reduceIte, nI_add, pk_mul, zin_ok, zx_nI, nI_lt2, nI_le2, nI_eq2, nI_l0, nI_g0, nI_q0, nI_p0, nI_n0, nI_m1, Nat.add_zero, Nat.zero_add, Nat.reduceAdd, Nat.reduceMul, true_or, or_true, znar_50, bI_0, bI_1, bI_z, bft, nI_z0, nI_z1, lgc_lt, lgc_gt, lgc_le, lgc_ge, lgc_eq, not_true_eq_false, not_false_eq_true, Bool.not_eq_true, Bool.not_eq_false, reduceCtorEq, h1, h10, h2, h3, c6, e9]
theorem jc5g {v : Nat} (h : jL y r q N N) (hN : 0 < N) (hN2 : N < 400000) (hr : r < zn y) (hqn : q < zn y) (hel : zlels y q 0 N = true) (hlt : ∀ i v : Nat, zra y q i = .ref v → v < zn y) (hvn : v < zn y) (hv : zlel y (.ref v) = true) : ZC zJ (d + 5) 5 [.ref r, .ref v] y Q = Q (.inl (some (.int (nI 1)))) (aH (gH (sfi y r 0 (zfi y r 0 + nI 1)) r q N) r (zn y) N v) := by
  have h' : jL (sfi y r 0 (zfi y r 0 + nI 1)) r q N N := by
    obtain ⟨⟨h1, h2, h3⟩, ⟨h4, h5⟩, h6, h7⟩ := h
    exact ⟨⟨h1, h2, by rw [fi_sfi, zu2_k _ _ _ _ (by omega)]; exact h3⟩, ⟨h4, h5⟩, h6, h7⟩
  have c6 := fun d Q => jc6g (d := d) (Q := Q) (v := v) h' hN hN2 hr hqn hel hlt hvn hv
  have en : zn (sfi y r 0 (zfi y r 0 + nI 1)) = zn y := rfl
  rw [en] at c6
  obtain ⟨⟨h1, h2, h3⟩, ⟨h4, h5⟩, h6, h7⟩ := h'
  have h10 : zcls y r = 24 := h1
  have e9 : (nI 1 = (1 : Int32)) = True := eq_true rfl
  simp (disch := omega) only [ej5, j5_0, j5_1, j5_2, j5_5, j5_6, j5_7, j5_10, j5_11, j5_12, j5_13, j5_16, j5_17, j5_20, j5_23, j5_24, zcs_0, zcs_1, zcs_2, zcs_3, zcs_4, zcs_5, zcs_6, zcs_7, znl_i, znl_r, znl_n, Bool.and_true, Bool.true_and, zk_v, zk_n, zk_x, zir_r, zir_n, zclr_i, zclr_r, zclr_n, zclr_d, zclr_l, true_and, and_true, and_self, if_true, if_false, reduceIte, nI_add, pk_mul, zin_ok, zx_nI, nI_lt2, nI_le2, nI_eq2, nI_l0, nI_g0, nI_q0, nI_p0, nI_n0, nI_m1, Nat.add_zero, Nat.zero_add, Nat.reduceAdd, Nat.reduceMul, true_or, or_true, znar_50, bI_0, bI_1, bI_z, bft, nI_z0, nI_z1, lgc_lt, lgc_gt, lgc_le, lgc_ge, lgc_eq, not_true_eq_false, not_false_eq_true, Bool.not_eq_true, Bool.not_eq_false, reduceCtorEq, h1, h10, h2, h3, c6, e9]
/-- one taken out -/
def rH0 (y : ZH) (r q len : Nat) : ZH := sra (sfi (sfi y r 0 (zfi y r 0 + nI 1)) r 2 (nI (len - 1))) q (len - 1) .null
def rH1 (y : ZH) (r q len i : Nat) : ZH := sra (sfi (sRA (sfi y r 0 (zfi y r 0 + nI 1)) q (va_cpy (zra y q) (zra y q) (i + 1) i (len - 1 - i))) r 2 (nI (len - 1))) q (len - 1) .null
theorem jc12 {i : Nat} (h : jL y r q N len) (hi : i < len) (hel : ∀ a b, a + b ≤ len → zlels y q a b = true) : ZC zJ d 12 [.ref r, .ref q, .int (nI i)] y Q = Q (.inl none) (if i + 1 = len then rH0 y r q len else rH1 y r q len i) := by
  obtain ⟨⟨h1, h2, h3⟩, ⟨h4, h5⟩, h6, h7⟩ := h
  have e1 : nI len - nI 1 = nI (len - 1) := pk_sub (a := len) (b := 1) (by omega)
  by_cases c : i + 1 = len
  · rw [if_pos c]
    have g1 : len - 1 ≤ i := by omega
    simp (disch := omega) only [ej12, j12_0, j12_1, j12_2, j12_5, j12_6, j12_7, j12_10, j12_11, j12_14, j12_15, j12_16, j12_17, j12_18, j12_19, j12_22, j12_23, j12_24, j12_25, j12_26, j12_27, j12_28, j12_29, j12_30, j12_31, j12_34, j12_35, j12_36, j12_37, j12_38, j12_41, j12_42, j12_43, zcs_0, zcs_1, zcs_2, zcs_3, zcs_4, zcs_5, zcs_6, zcs_7, znl_i, znl_r, znl_n, Bool.and_true, Bool.true_and, zk_v, zk_n, zk_x, zir_r, zir_n, zclr_i, zclr_r, zclr_n, zclr_d, zclr_l, true_and, and_true, and_self, if_true, if_false, reduceIte, nI_add, pk_mul, zin_ok, zx_nI, nI_lt2, nI_le2, nI_eq2, nI_l0, nI_g0, nI_q0, nI_p0, nI_n0, nI_m1, Nat.add_zero, Nat.zero_add, Nat.reduceAdd, Nat.reduceMul, true_or, or_true, znar_50, bI_0, bI_1, bI_z, bft, nI_z0, nI_z1, lgc_lt, lgc_gt, lgc_le, lgc_ge, lgc_eq, not_true_eq_false, not_false_eq_true, Bool.not_eq_true, Bool.not_eq_false, reduceCtorEq, h1, h2, h3, h4, h5, e1, g1, cls_sfi, fi_sfi, zu2_k, ne_eq, len_sfi, rH0]
  · rw [if_neg c]
    have g1 : ¬ len - 1 ≤ i := by omega
    have e2 : nI (len - 1) - nI i = nI (len - 1 - i) := pk_sub (a := len - 1) (b := i) (by omega)
    have g2 : i + 1 + (len - 1 - i) ≤ N := by omega
    have g3 : i + (len - 1 - i) ≤ N := by omega
    have ez : zlels (sfi y r 0 (zfi y r 0 + nI 1)) q (i + 1) (len - 1 - i) = true := hel _ _ (by omega)
    simp (disch := omega) only [ej12, j12_0, j12_1, j12_2, j12_5, j12_6, j12_7, j12_10, j12_11, j12_14, j12_15, j12_16, j12_17, j12_18, j12_19, j12_22, j12_23, j12_24, j12_25, j12_26, j12_27, j12_28, j12_29, j12_30, j12_31, j12_34, j12_35, j12_36, j12_37, j12_38, j12_41, j12_42, j12_43, zcs_0, zcs_1, zcs_2, zcs_3, zcs_4, zcs_5, zcs_6, zcs_7, znl_i, znl_r, znl_n, Bool.and_true, Bool.true_and, zk_v, zk_n, zk_x, zir_r, zir_n, zclr_i, zclr_r, zclr_n, zclr_d, zclr_l, true_and, and_true, and_self, if_true, if_false, reduceIte, nI_add, pk_mul, zin_ok, zx_nI, nI_lt2, nI_le2, nI_eq2, nI_l0, nI_g0, nI_q0, nI_p0, nI_n0, nI_m1, Nat.add_zero, Nat.zero_add, Nat.reduceAdd, Nat.reduceMul, true_or, or_true, znar_50, bI_0, bI_1, bI_z, bft, nI_z0, nI_z1, lgc_lt, lgc_gt, lgc_le, lgc_ge, lgc_eq, not_true_eq_false, not_false_eq_true, Bool.not_eq_true, Bool.not_eq_false, reduceCtorEq, h1, h2, h3, h4, h5, e1, e2, ez, g1, g2, g3, cls_sfi, fi_sfi, zu2_k, ne_eq, len_sfi, ra_sfi, cls_sRA, len_sRA, fi_sRA, rH1]
theorem jc11 {i v : Nat} (h : jL y r q N len) (hi : i < len) (hv : zra y q i = .ref v) (hel : ∀ a b, a + b ≤ len → zlels y q a b = true) : ZC zJ (d + 2) 11 [.ref r, .int (nI i)] y Q = Q (.inl (some (.ref v))) (if i + 1 = len then rH0 y r q len else rH1 y r q len i) := by
  have c16 := fun d Q => jc16 (d := d) (Q := Q) (y := y) hi (by have := h.2.2.1; have := h.2.2.2; omega)
  have c12 := fun d Q => jc12 (d := d) (Q := Q) h hi hel
  obtain ⟨⟨h1, h2, h3⟩, ⟨h4, h5⟩, h6, h7⟩ := h
  simp (disch := omega) only [ej11, j11_0, j11_1, j11_2, j11_5, j11_8, j11_9, j11_10, j11_13, j11_14, j11_15, j11_16, j11_17, j11_18, j11_19, j11_20, j11_21, j11_24, j11_25, j11_25r, zcs_0, zcs_1, zcs_2, zcs_3, zcs_4, zcs_5, zcs_6, zcs_7, znl_i, znl_r, znl_n, Bool.and_true, Bool.true_and, zk_v, zk_n, zk_x, zir_r, zir_n, zclr_i, zclr_r, zclr_n, zclr_d, zclr_l, true_and, and_true, and_self, if_true, if_false, reduceIte, nI_add, pk_mul, zin_ok, zx_nI, nI_lt2, nI_le2, nI_eq2, nI_l0, nI_g0, nI_q0, nI_p0, nI_n0, nI_m1, Nat.add_zero, Nat.zero_add, Nat.reduceAdd, Nat.reduceMul, true_or, or_true, znar_50, bI_0, bI_1, bI_z, bft, nI_z0, nI_z1, lgc_lt, lgc_gt, lgc_le, lgc_ge, lgc_eq, not_true_eq_false, not_false_eq_true, Bool.not_eq_true, Bool.not_eq_false, reduceCtorEq, h1, h2, h3, h4, h5, c16, c12, hv]
/-- a list made -/
def iH (y : ZH) (r n : Nat) : ZH := sfr (sarr (sfi y r 0 (nI 0)) 64 n) r 1 (.ref (zn y))
theorem jc0 : ZC zJ d 0 [.ref r] y Q = Q (.inl none) y := by
  simp (disch := omega) only [ej0, j0_0, j0_1, j0_4, zcs_0, zcs_1, zcs_2, zcs_3, zcs_4, zcs_5, zcs_6, zcs_7, znl_i, znl_r, znl_n, Bool.and_true, Bool.true_and, zk_v, zk_n, zk_x, zir_r, zir_n, zclr_i, zclr_r, zclr_n, zclr_d, zclr_l, true_and, and_true, and_self, if_true, if_false, reduceIte, nI_add, pk_mul, zin_ok, zx_nI, nI_lt2, nI_le2, nI_eq2, nI_l0, nI_g0, nI_q0, nI_p0, nI_n0, nI_m1, Nat.add_zero, Nat.zero_add, Nat.reduceAdd, Nat.reduceMul, true_or, or_true, znar_50, bI_0, bI_1, bI_z, bft, nI_z0, nI_z1, lgc_lt, lgc_gt, lgc_le, lgc_ge, lgc_eq, not_true_eq_false, not_false_eq_true, Bool.not_eq_true, Bool.not_eq_false, reduceCtorEq]
theorem jc1 (h : zcls y r = 24) : ZC zJ (d + 1) 1 [.ref r] y Q = Q (.inl none) (sfi y r 0 (nI 0)) := by
  simp (disch := omega) only [ej1, j1_0, j1_1, j1_4, j1_5, j1_6, j1_9, zcs_0, zcs_1, zcs_2, zcs_3, zcs_4, zcs_5, zcs_6, zcs_7, znl_i, znl_r, znl_n, Bool.and_true, Bool.true_and, zk_v, zk_n, zk_x, zir_r, zir_n, zclr_i, zclr_r, zclr_n, zclr_d, zclr_l, true_and, and_true, and_self, if_true, if_false, reduceIte, nI_add, pk_mul, zin_ok, zx_nI, nI_lt2, nI_le2, nI_eq2, nI_l0, nI_g0, nI_q0, nI_p0, nI_n0, nI_m1, Nat.add_zero, Nat.zero_add, Nat.reduceAdd, Nat.reduceMul, true_or, or_true, znar_50, bI_0, bI_1, bI_z, bft, nI_z0, nI_z1, lgc_lt, lgc_gt, lgc_le, lgc_ge, lgc_eq, not_true_eq_false, not_false_eq_true, Bool.not_eq_true, Bool.not_eq_false, reduceCtorEq, jc0, h]
theorem jc2 {n : Nat} (h : zcls y r = 24) (hr : r < zn y) (h0 : 0 < n) (hn : n < 1000) : ZC zJ (d + 2) 2 [.ref r, .int (nI n)] y Q = Q (.inl none) (iH y r n) := by
  have g1 : ¬ n ≤ 0 := by omega
  have g2 : ¬ n = 0 := by omega
  have c1 := fun d Q => jc1 (d := d) (Q := Q) h
  have en : zn (sfi y r 0 (nI 0)) = zn y := rfl
  simp (disch := omega) only [ej2, j2_0, j2_1, j2_4, j2_5, j2_8, j2_9, j2_10, j2_13, j2_16, j2_60, zcs_0, zcs_1, zcs_2, zcs_3, zcs_4, zcs_5, zcs_6, zcs_7, znl_i, znl_r, znl_n, Bool.and_true, Bool.true_and, zk_v, zk_n, zk_x, zir_r, zir_n, zclr_i, zclr_r, zclr_n, zclr_d, zclr_l, true_and, and_true, and_self, if_true, if_false, reduceIte, nI_add, pk_mul, zin_ok, zx_nI, nI_lt2, nI_le2, nI_eq2, nI_l0, nI_g0, nI_q0, nI_p0, nI_n0, nI_m1, Nat.add_zero, Nat.zero_add, Nat.reduceAdd, Nat.reduceMul, true_or, or_true, znar_50, bI_0, bI_1, bI_z, bft, nI_z0, nI_z1, lgc_lt, lgc_gt, lgc_le, lgc_ge, lgc_eq, not_true_eq_false, not_false_eq_true, Bool.not_eq_true, Bool.not_eq_false, reduceCtorEq, c1, g1, g2, cls_sarr, cls_sfi, n_sfi, zu1_n, ne_eq, h, iH]
/-- an exception made -/
def xH (y : ZH) (r : Nat) : ZH := sfr (sfr (sfr (sfr (sfr (sfr (sfr y r 0 (.ref r)) r 1 (.float 0)) r 2 (.float 0)) r 1 .null) r 3 .null) r 0 .null) r 2 .null
theorem jc20 (h : zcls y r = 14) : ZC zJ d 20 [.ref r, .null, .null, .int (nI 0), .int (nI 0)] y Q = Q (.inl none) (xH y r) := by
  simp (disch := omega) only [ej20, j20_0, j20_1, j20_4, j20_5, j20_6, j20_9, j20_10, j20_13, j20_16, j20_17, j20_20, j20_23, j20_25, j20_36, j20_37, j20_38, j20_41, j20_42, j20_43, j20_46, j20_47, j20_48, j20_51, j20_52, j20_55, j20_56, j20_57, j20_60, zcs_0, zcs_1, zcs_2, zcs_3, zcs_4, zcs_5, zcs_6, zcs_7, znl_i, znl_r, znl_n, Bool.and_true, Bool.true_and, zk_v, zk_n, zk_x, zir_r, zir_n, zclr_i, zclr_r, zclr_n, zclr_d, zclr_l, true_and, and_true, and_self, if_true, if_false, reduceIte, nI_add, pk_mul, zin_ok, zx_nI, nI_lt2, nI_le2, nI_eq2, nI_l0, nI_g0, nI_q0, nI_p0, nI_n0, nI_m1, Nat.add_zero, Nat.zero_add, Nat.reduceAdd, Nat.reduceMul, true_or, or_true, znar_50, bI_0, bI_1, bI_z, bft, nI_z0, nI_z1, lgc_lt, lgc_gt, lgc_le, lgc_ge, lgc_eq, not_true_eq_false, not_false_eq_true, Bool.not_eq_true, Bool.not_eq_false, reduceCtorEq, h, cls_sfr, eq_self, nI_e0, xH]
theorem jc21 (h : zcls y r = 14) : ZC zJ (d + 1) 21 [.ref r, .null, .null, .int (nI 0), .int (nI 0)] y Q = Q (.inl none) (xH y r) := by
  simp (disch := omega) only [ej21, j21_0, j21_1, j21_2, j21_3, j21_4, j21_6, j21_9, zcs_0, zcs_1, zcs_2, zcs_3, zcs_4, zcs_5, zcs_6, zcs_7, znl_i, znl_r, znl_n, Bool.and_true, Bool.true_and, zk_v, zk_n, zk_x, zir_r, zir_n, zclr_i, zclr_r, zclr_n, zclr_d, zclr_l, true_and, and_true, and_self, if_true, if_false, reduceIte, nI_add, pk_mul, zin_ok, zx_nI, nI_lt2, nI_le2, nI_eq2, nI_l0, nI_g0, nI_q0, nI_p0, nI_n0, nI_m1, Nat.add_zero, Nat.zero_add, Nat.reduceAdd, Nat.reduceMul, true_or, or_true, znar_50, bI_0, bI_1, bI_z, bft, nI_z0, nI_z1, lgc_lt, lgc_gt, lgc_le, lgc_ge, lgc_eq, not_true_eq_false, not_false_eq_true, Bool.not_eq_true, Bool.not_eq_false, reduceCtorEq, jc20 h]
theorem shr0 {n : Nat} : nI n >>> ((0 : Int32) &&& 31) = nI n := by
  rw [show (0 : Int32) &&& 31 = 0 by decide]
  apply Int32.toBitVec_inj.mp
  simp
theorem shr0n {n : Nat} : nI n >>> (nI 0 &&& 31) = nI n := shr0
theorem ztx_128 : ∀ i, i < 35 → (ztx i).length < 1000000 ∧ ∀ j, j < (ztx i).length → (ztx i).getD j 0 < 128 := by decide +kernel
theorem asc : ∀ k, k < 128 → ((nI k &&& nI 255).toUInt32 % 65536).toInt32 = nI k ∧ (0 ≤ nI k ∧ (nI k).toNatClampNeg < 128) := by decide +kernel
theorem ret6_0 : ((0 : Int32) ≤ 0 ∧ (0 : Int32).toNatClampNeg < 128) = True := eq_true (by decide +kernel)
theorem z0is : (¬ (0 : Int32) = 0) = False := eq_false (fun h => h rfl)
theorem z0is2 : ((0 : Int32) = 0) = True := eq_true rfl
theorem z1not : ((1 : Int32) = 0) = False := eq_false (by decide)
theorem jc22 {t : Nat} (ht : t < 35) : ZC zJ d 22 [.ref t] y Q = Q (.inl (some (.int 0))) y := by
  simp (disch := omega) only [ej22, j22_0, j22_3, j22_6, j22_7, j22_10, j22_14, zcs_0, zcs_1, zcs_2, zcs_3, zcs_4, zcs_5, zcs_6, zcs_7, znl_i, znl_r, znl_n, Bool.and_true, Bool.true_and, zk_v, zk_n, zk_x, zir_r, zir_n, zclr_i, zclr_r, zclr_n, zclr_d, zclr_l, true_and, and_true, and_self, if_true, if_false, reduceIte, nI_add, pk_mul, zin_ok, zx_nI, nI_lt2, nI_le2, nI_eq2, nI_l0, nI_g0, nI_q0, nI_p0, nI_n0, nI_m1, Nat.add_zero, Nat.zero_add, Nat.reduceAdd, Nat.reduceMul, true_or, or_true, znar_50, bI_0, bI_1, bI_z, bft, nI_z0, nI_z1, lgc_lt, lgc_gt, lgc_le, lgc_ge, lgc_eq, not_true_eq_false, not_false_eq_true, Bool.not_eq_true, Bool.not_eq_false, reduceCtorEq, ht, ret6_0, z0is, z0is2, z1not, nI_one, nI_e0, eq_self]
theorem jc17 {t : Nat} (ht : t < 35) : ZC zJ d 17 [.ref t] y Q = Q (.inl (some (.int (nI 1)))) y := by
  have e9 : (nI 1 = (1 : Int32)) = True := eq_true rfl
  simp (disch := omega) only [ej17, j17_0, j17_3, j17_6, j17_7, j17_10, j17_13, j17_14, j17_18, zcs_0, zcs_1, zcs_2, zcs_3, zcs_4, zcs_5, zcs_6, zcs_7, znl_i, znl_r, znl_n, Bool.and_true, Bool.true_and, zk_v, zk_n, zk_x, zir_r, zir_n, zclr_i, zclr_r, zclr_n, zclr_d, zclr_l, true_and, and_true, and_self, if_true, if_false, reduceIte, nI_add, pk_mul, zin_ok, zx_nI, nI_lt2, nI_le2, nI_eq2, nI_l0, nI_g0, nI_q0, nI_p0, nI_n0, nI_m1, Nat.add_zero, Nat.zero_add, Nat.reduceAdd, Nat.reduceMul, true_or, or_true, znar_50, bI_0, bI_1, bI_z, bft, nI_z0, nI_z1, lgc_lt, lgc_gt, lgc_le, lgc_ge, lgc_eq, not_true_eq_false, not_false_eq_true, Bool.not_eq_true, Bool.not_eq_false, reduceCtorEq, ht, z0is, z0is2, z1not, e9]
theorem jc23 {t : Nat} (ht : t < 35) : ZC zJ (d + 1) 23 [.ref t] y Q = Q (.inl (some (.int (nI (ztx t).length)))) y := by
  have c22 := fun d Q => jc22 (d := d) (Q := Q) (y := y) ht
  have h1 : 35 ≤ 35 + t := by omega
  have h2 : 35 + t < 70 := by omega
  have e1 : 35 + t - 35 = t := by omega
  simp (disch := omega) only [ej23, j23_0, j23_1, j23_4, j23_5, j23_6, j23_9, j23_10, zcs_0, zcs_1, zcs_2, zcs_3, zcs_4, zcs_5, zcs_6, zcs_7, znl_i, znl_r, znl_n, Bool.and_true, Bool.true_and, zk_v, zk_n, zk_x, zir_r, zir_n, zclr_i, zclr_r, zclr_n, zclr_d, zclr_l, true_and, and_true, and_self, if_true, if_false, reduceIte, nI_add, pk_mul, zin_ok, zx_nI, nI_lt2, nI_le2, nI_eq2, nI_l0, nI_g0, nI_q0, nI_p0, nI_n0, nI_m1, Nat.add_zero, Nat.zero_add, Nat.reduceAdd, Nat.reduceMul, true_or, or_true, znar_50, bI_0, bI_1, bI_z, bft, nI_z0, nI_z1, lgc_lt, lgc_gt, lgc_le, lgc_ge, lgc_eq, not_true_eq_false, not_false_eq_true, Bool.not_eq_true, Bool.not_eq_false, reduceCtorEq, ht, h1, h2, e1, c22, shr0]
theorem jc24 {t i : Nat} (ht : t < 35) (hi : i < (ztx t).length) : ZC zJ (d + 2) 24 [.ref (35 + t), .int (nI i)] y Q = Q (.inl (some (.int (nI ((ztx t).getD i 0))))) y := by
  have hn := (ztx_128 t ht).1
  have hk := (ztx_128 t ht).2 i hi
  have c18 := fun d Q => jc18 (d := d) (Q := Q) (y := y) hi (by omega)
  have h1 : 35 ≤ 35 + t := by omega
  have h2 : 35 + t < 70 := by omega
  have e1 : 35 + t - 35 = t := by omega
  obtain ⟨a1, a2, a3⟩ := asc _ hk
  simp (disch := omega) only [ej24, j24_0, j24_1, j24_2, j24_3, j24_6, j24_7, j24_8, j24_9, j24_12, j24_13, j24_14, zcs_0, zcs_1, zcs_2, zcs_3, zcs_4, zcs_5, zcs_6, zcs_7, znl_i, znl_r, znl_n, Bool.and_true, Bool.true_and, zk_v, zk_n, zk_x, zir_r, zir_n, zclr_i, zclr_r, zclr_n, zclr_d, zclr_l, true_and, and_true, and_self, if_true, if_false, reduceIte, nI_add, pk_mul, zin_ok, zx_nI, nI_lt2, nI_le2, nI_eq2, nI_l0, nI_g0, nI_q0, nI_p0, nI_n0, nI_m1, Nat.add_zero, Nat.zero_add, Nat.reduceAdd, Nat.reduceMul, true_or, or_true, znar_50, bI_0, bI_1, bI_z, bft, nI_z0, nI_z1, lgc_lt, lgc_gt, lgc_le, lgc_ge, lgc_eq, not_true_eq_false, not_false_eq_true, Bool.not_eq_true, Bool.not_eq_false, reduceCtorEq, c18, h1, h2, e1, hi, a1, a2, a3]
theorem jc25 {t i : Nat} (ht : t < 35) (hi : i < (ztx t).length) : ZC zJ (d + 3) 25 [.ref t, .int (nI i)] y Q = Q (.inl (some (.int (nI ((ztx t).getD i 0))))) y := by
  have hk := (ztx_128 t ht).2 i hi
  have c17 := fun d Q => jc17 (d := d) (Q := Q) (y := y) ht
  have c24 := fun d Q => jc24 (d := d) (Q := Q) (y := y) ht hi
  obtain ⟨a1, a2, a3⟩ := asc _ hk
  have e9 : (nI 1 = (0 : Int32)) = False := eq_false (by decide)
  simp (disch := omega) only [ej25, j25_0, j25_1, j25_4, j25_7, j25_8, j25_11, j25_12, j25_15, zcs_0, zcs_1, zcs_2, zcs_3, zcs_4, zcs_5, zcs_6, zcs_7, znl_i, znl_r, znl_n, Bool.and_true, Bool.true_and, zk_v, zk_n, zk_x, zir_r, zir_n, zclr_i, zclr_r, zclr_n, zclr_d, zclr_l, true_and, and_true, and_self, if_true, if_false, reduceIte, nI_add, pk_mul, zin_ok, zx_nI, nI_lt2, nI_le2, nI_eq2, nI_l0, nI_g0, nI_q0, nI_p0, nI_n0, nI_m1, Nat.add_zero, Nat.zero_add, Nat.reduceAdd, Nat.reduceMul, true_or, or_true, znar_50, bI_0, bI_1, bI_z, bft, nI_z0, nI_z1, lgc_lt, lgc_gt, lgc_le, lgc_ge, lgc_eq, not_true_eq_false, not_false_eq_true, Bool.not_eq_true, Bool.not_eq_false, reduceCtorEq, ht, c17, c24, a2, a3, e9]
end JC
