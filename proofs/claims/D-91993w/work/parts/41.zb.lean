set_option maxRecDepth 100000
/-! the model: small ones -/
def hasI (x k : Int32) : Bool := decide ((x >>> (k &&& 31)) &&& nI 1 = nI 1)
/-- how many of the lowest k bits -/
def onesN (x : Int32) : Nat → Int32
  | 0 => nI 0
  | k + 1 => onesN x k + ((x >>> (nI k &&& 31)) &&& nI 1)
section MB
variable {d : Nat} {z : ZH} {Q : ZQ} {v : Nat → Nat}
theorem m114 {x lo hi : Int64} : ZC zG d 114 [.long x, .long lo, .long hi] z Q = Q (.inl (some (.int (bI (linB x lo hi))))) z := by
  simp only [e114, s114_0, s114_1, s114_2, s114_3, s114_6, s114_7, s114_9, s114_10, s114_13, s114_14, s114_17, s114_18, zcs_0, zcs_1, zcs_2, zcs_3, zcs_4, zcs_5, zcs_6, zcs_7, znl_i, znl_r, znl_n, Bool.and_true, Bool.true_and, zk_v, zk_n, zk_x, zir_r, zir_n, zclr_i, zclr_r, zclr_n, zclr_d, zclr_l, true_and, and_true, and_self, if_true, if_false, reduceIte, nI_add, pk_mul, zin_ok, zx_nI, nI_lt2, nI_le2, nI_eq2, nI_l0, nI_g0, nI_q0, nI_p0, nI_n0, nI_m1, Nat.add_zero, Nat.zero_add, Nat.reduceAdd, Nat.reduceMul, true_or, or_true, znar_50, bI_0, bI_1, bI_z, bft, nI_z0, nI_z1, lgc_lt, lgc_gt, lgc_le, lgc_ge, lgc_eq, not_true_eq_false, not_false_eq_true, Bool.not_eq_true, Bool.not_eq_false, reduceCtorEq]
  unfold linB
  by_cases h1 : x < lo
  · have h2 : ¬ lo ≤ x := Int64.not_le.mpr h1
    simp [h1, h2, bI, nI_0]
  · have h2 : lo ≤ x := Int64.not_lt.mp h1
    by_cases h3 : hi < x
    · have h4 : ¬ x ≤ hi := Int64.not_le.mpr h3
      simp [h1, h3, h4, bI, nI_0]
    · have h4 : x ≤ hi := Int64.not_lt.mp h3
      simp [h1, h2, h3, h4, bI, nI_one]
theorem m149 {x k : Int32} : ZC zG d 149 [.int x, .int k] z Q = Q (.inl (some (.int (bI (hasI x k))))) z := by
  simp only [e149, s149_0, s149_1, s149_2, s149_3, s149_4, s149_5, s149_6, s149_9, s149_10, s149_13, s149_14, zcs_0, zcs_1, zcs_2, zcs_3, zcs_4, zcs_5, zcs_6, zcs_7, znl_i, znl_r, znl_n, Bool.and_true, Bool.true_and, zk_v, zk_n, zk_x, zir_r, zir_n, zclr_i, zclr_r, zclr_n, zclr_d, zclr_l, true_and, and_true, and_self, if_true, if_false, reduceIte, nI_add, pk_mul, zin_ok, zx_nI, nI_lt2, nI_le2, nI_eq2, nI_l0, nI_g0, nI_q0, nI_p0, nI_n0, nI_m1, Nat.add_zero, Nat.zero_add, Nat.reduceAdd, Nat.reduceMul, true_or, or_true, znar_50, bI_0, bI_1, bI_z, bft, nI_z0, nI_z1, lgc_lt, lgc_gt, lgc_le, lgc_ge, lgc_eq, not_true_eq_false, not_false_eq_true, Bool.not_eq_true, Bool.not_eq_false, reduceCtorEq]
  unfold hasI
  by_cases h1 : (x >>> (k &&& 31)) &&& nI 1 = nI 1
  · simp only [h1, not_true_eq_false, if_false, decide_true, bI, if_true]; rfl
  · simp only [h1, not_false_eq_true, if_true, decide_false, bI, Bool.false_eq_true, if_false]; rfl
theorem m152 {x : Int32} : ZC zG d 152 [.int x] z Q = Q (.inl (some (.int (onesN x 16)))) z := by
  have e : ∀ k, k < 16 → ZW zG d 152 4 [.int x, .int (onesN x k), .int (nI k)] [] z Q = ZW zG d 152 4 [.int x, .int (onesN x (k + 1)), .int (nI (k + 1))] [] z Q := by
    intro k hk
    refine s152_4.trans ?_
    have h1 : ¬ 16 ≤ k := by omega
    simp (disch := omega) only [s152_0, s152_1, s152_2, s152_3, s152_5, s152_7, s152_10, s152_11, s152_12, s152_13, s152_14, s152_15, s152_16, s152_17, s152_18, s152_21, s152_24, s152_25, zcs_0, zcs_1, zcs_2, zcs_3, zcs_4, zcs_5, zcs_6, zcs_7, znl_i, znl_r, znl_n, Bool.and_true, Bool.true_and, zk_v, zk_n, zk_x, zir_r, zir_n, zclr_i, zclr_r, zclr_n, zclr_d, zclr_l, true_and, and_true, and_self, if_true, if_false, reduceIte, nI_add, pk_mul, zin_ok, zx_nI, nI_lt2, nI_le2, nI_eq2, nI_l0, nI_g0, nI_q0, nI_p0, nI_n0, nI_m1, Nat.add_zero, Nat.zero_add, Nat.reduceAdd, Nat.reduceMul, true_or, or_true, znar_50, bI_0, bI_1, bI_z, bft, nI_z0, nI_z1, lgc_lt, lgc_gt, lgc_le, lgc_ge, lgc_eq, not_true_eq_false, not_false_eq_true, Bool.not_eq_true, Bool.not_eq_false, reduceCtorEq, h1]
    rfl
  simp only [e152, s152_0, s152_1, s152_2, s152_3, s152_5, s152_7, s152_10, s152_11, s152_12, s152_13, s152_14, s152_15, s152_16, s152_17, s152_18, s152_21, s152_24, s152_25, zcs_0, zcs_1, zcs_2, zcs_3, zcs_4, zcs_5, zcs_6, zcs_7, znl_i, znl_r, znl_n, Bool.and_true, Bool.true_and, zk_v, zk_n, zk_x, zir_r, zir_n, zclr_i, zclr_r, zclr_n, zclr_d, zclr_l, true_and, and_true, and_self, if_true, if_false, reduceIte]
  have e2 := zl_up (P := fun k => ZW zG d 152 4 [.int x, .int (onesN x k), .int (nI k)] [] z Q) 16 e
  refine Eq.trans e2 ?_
  refine s152_4.trans ?_
  simp (disch := omega) only [s152_0, s152_1, s152_2, s152_3, s152_5, s152_7, s152_10, s152_11, s152_12, s152_13, s152_14, s152_15, s152_16, s152_17, s152_18, s152_21, s152_24, s152_25, zcs_0, zcs_1, zcs_2, zcs_3, zcs_4, zcs_5, zcs_6, zcs_7, znl_i, znl_r, znl_n, Bool.and_true, Bool.true_and, zk_v, zk_n, zk_x, zir_r, zir_n, zclr_i, zclr_r, zclr_n, zclr_d, zclr_l, true_and, and_true, and_self, if_true, if_false, reduceIte, nI_add, pk_mul, zin_ok, zx_nI, nI_lt2, nI_le2, nI_eq2, nI_l0, nI_g0, nI_q0, nI_p0, nI_n0, nI_m1, Nat.add_zero, Nat.zero_add, Nat.reduceAdd, Nat.reduceMul, true_or, or_true, znar_50, bI_0, bI_1, bI_z, bft, nI_z0, nI_z1, lgc_lt, lgc_gt, lgc_le, lgc_ge, lgc_eq, not_true_eq_false, not_false_eq_true, Bool.not_eq_true, Bool.not_eq_false, reduceCtorEq, Nat.le_refl]
theorem m139 (hM : MS z) {h j : Nat} (hb : 10 + 9 * h + j < 9080) : ZC zG d 139 [.ref 135, .int (nI h), .int (nI j)] (sW z v) Q = Q (.inl (some (.int (nI (v (10 + 9 * h + j)))))) (sW z v) := by
  have h0 := hM
  unfold MS at h0
  simp (disch := omega) only [e139, s139_0, s139_1, s139_4, s139_6, s139_8, s139_9, s139_10, s139_11, s139_12, s139_13, s139_14, zcs_0, zcs_1, zcs_2, zcs_3, zcs_4, zcs_5, zcs_6, zcs_7, znl_i, znl_r, znl_n, Bool.and_true, Bool.true_and, zk_v, zk_n, zk_x, zir_r, zir_n, zclr_i, zclr_r, zclr_n, zclr_d, zclr_l, true_and, and_true, and_self, if_true, if_false, reduceIte, nI_add, pk_mul, zin_ok, zx_nI, nI_lt2, nI_le2, nI_eq2, nI_l0, nI_g0, nI_q0, nI_p0, nI_n0, nI_m1, Nat.add_zero, Nat.zero_add, Nat.reduceAdd, Nat.reduceMul, true_or, or_true, znar_50, bI_0, bI_1, bI_z, bft, nI_z0, nI_z1, lgc_lt, lgc_gt, lgc_le, lgc_ge, lgc_eq, not_true_eq_false, not_false_eq_true, Bool.not_eq_true, Bool.not_eq_false, reduceCtorEq, MS_sW, CS_sW, sW_r, sW_n, sW_w, cls_sW, fi_sW, fr_sW, la_sW, ra_sW, len_sW, ls_sW, own_sW, n_sW, uc_sW, us_sW, sW_sfi, sW_sla, sW_sLA, sW_sls, sW_spay, sW_sia, sW_sIA, ne_eq, cls_sfi, fr_sfi, ia_sfi, la_sfi, ra_sfi, len_sfi, ls_sfi, own_sfi, n_sfi, uc_sfi, us_sfi, cls_sia, fi_sia, fr_sia, la_sia, ra_sia, len_sia, ls_sia, own_sia, n_sia, uc_sia, us_sia, cls_sIA, fi_sIA, fr_sIA, la_sIA, ra_sIA, len_sIA, ls_sIA, own_sIA, n_sIA, uc_sIA, us_sIA, cls_sla, fi_sla, fr_sla, ia_sla, ra_sla, len_sla, ls_sla, own_sla, n_sla, uc_sla, us_sla, cls_sLA, fi_sLA, fr_sLA, ia_sLA, ra_sLA, len_sLA, ls_sLA, own_sLA, n_sLA, uc_sLA, us_sLA, h0]
theorem m159 (hM : MS z) {h j : Nat} (hb : 1880 + 5 * h + j < 9080) : ZC zG d 159 [.ref 135, .int (nI h), .int (nI j)] (sW z v) Q = Q (.inl (some (.int (nI (v (1880 + 5 * h + j)))))) (sW z v) := by
  have h0 := hM
  unfold MS at h0
  simp (disch := omega) only [e159, s159_0, s159_1, s159_4, s159_7, s159_8, s159_9, s159_10, s159_11, s159_12, s159_13, s159_14, zcs_0, zcs_1, zcs_2, zcs_3, zcs_4, zcs_5, zcs_6, zcs_7, znl_i, znl_r, znl_n, Bool.and_true, Bool.true_and, zk_v, zk_n, zk_x, zir_r, zir_n, zclr_i, zclr_r, zclr_n, zclr_d, zclr_l, true_and, and_true, and_self, if_true, if_false, reduceIte, nI_add, pk_mul, zin_ok, zx_nI, nI_lt2, nI_le2, nI_eq2, nI_l0, nI_g0, nI_q0, nI_p0, nI_n0, nI_m1, Nat.add_zero, Nat.zero_add, Nat.reduceAdd, Nat.reduceMul, true_or, or_true, znar_50, bI_0, bI_1, bI_z, bft, nI_z0, nI_z1, lgc_lt, lgc_gt, lgc_le, lgc_ge, lgc_eq, not_true_eq_false, not_false_eq_true, Bool.not_eq_true, Bool.not_eq_false, reduceCtorEq, MS_sW, CS_sW, sW_r, sW_n, sW_w, cls_sW, fi_sW, fr_sW, la_sW, ra_sW, len_sW, ls_sW, own_sW, n_sW, uc_sW, us_sW, sW_sfi, sW_sla, sW_sLA, sW_sls, sW_spay, sW_sia, sW_sIA, ne_eq, cls_sfi, fr_sfi, ia_sfi, la_sfi, ra_sfi, len_sfi, ls_sfi, own_sfi, n_sfi, uc_sfi, us_sfi, cls_sia, fi_sia, fr_sia, la_sia, ra_sia, len_sia, ls_sia, own_sia, n_sia, uc_sia, us_sia, cls_sIA, fi_sIA, fr_sIA, la_sIA, ra_sIA, len_sIA, ls_sIA, own_sIA, n_sIA, uc_sIA, us_sIA, cls_sla, fi_sla, fr_sla, ia_sla, ra_sla, len_sla, ls_sla, own_sla, n_sla, uc_sla, us_sla, cls_sLA, fi_sLA, fr_sLA, ia_sLA, ra_sLA, len_sLA, ls_sLA, own_sLA, n_sLA, uc_sLA, us_sLA, h0]
theorem m141 (hM : MS z) : ZC zG d 141 [.ref 135] (sW z v) Q = Q (.inl (some (.int (nI (v 6))))) (sW z v) := by
  have h0 := hM
  unfold MS at h0
  simp (disch := omega) only [e141, s141_0, s141_1, s141_4, s141_6, s141_7, zcs_0, zcs_1, zcs_2, zcs_3, zcs_4, zcs_5, zcs_6, zcs_7, znl_i, znl_r, znl_n, Bool.and_true, Bool.true_and, zk_v, zk_n, zk_x, zir_r, zir_n, zclr_i, zclr_r, zclr_n, zclr_d, zclr_l, true_and, and_true, and_self, if_true, if_false, reduceIte, nI_add, pk_mul, zin_ok, zx_nI, nI_lt2, nI_le2, nI_eq2, nI_l0, nI_g0, nI_q0, nI_p0, nI_n0, nI_m1, Nat.add_zero, Nat.zero_add, Nat.reduceAdd, Nat.reduceMul, true_or, or_true, znar_50, bI_0, bI_1, bI_z, bft, nI_z0, nI_z1, lgc_lt, lgc_gt, lgc_le, lgc_ge, lgc_eq, not_true_eq_false, not_false_eq_true, Bool.not_eq_true, Bool.not_eq_false, reduceCtorEq, MS_sW, CS_sW, sW_r, sW_n, sW_w, cls_sW, fi_sW, fr_sW, la_sW, ra_sW, len_sW, ls_sW, own_sW, n_sW, uc_sW, us_sW, sW_sfi, sW_sla, sW_sLA, sW_sls, sW_spay, sW_sia, sW_sIA, ne_eq, cls_sfi, fr_sfi, ia_sfi, la_sfi, ra_sfi, len_sfi, ls_sfi, own_sfi, n_sfi, uc_sfi, us_sfi, cls_sia, fi_sia, fr_sia, la_sia, ra_sia, len_sia, ls_sia, own_sia, n_sia, uc_sia, us_sia, cls_sIA, fi_sIA, fr_sIA, la_sIA, ra_sIA, len_sIA, ls_sIA, own_sIA, n_sIA, uc_sIA, us_sIA, cls_sla, fi_sla, fr_sla, ia_sla, ra_sla, len_sla, ls_sla, own_sla, n_sla, uc_sla, us_sla, cls_sLA, fi_sLA, fr_sLA, ia_sLA, ra_sLA, len_sLA, ls_sLA, own_sLA, n_sLA, uc_sLA, us_sLA, h0]
theorem m144 (hM : MS z) (hv : ∀ i, v i < 2147483648) {a : Int32} : ZC zG (d + 1) 144 [.ref 135, .int a] (sW z v) Q = Q (.inl (some (.int (bI (zin a (v 0)))))) (sW z v) := by
  have h0 := hM
  unfold MS at h0
  simp (disch := first | omega | exact hv _) only [e144, s144_0, s144_1, s144_2, s144_3, s144_4, s144_7, s144_8, s144_9, s144_10, s144_11, s144_12, s144_15, zcs_0, zcs_1, zcs_2, zcs_3, zcs_4, zcs_5, zcs_6, zcs_7, znl_i, znl_r, znl_n, Bool.and_true, Bool.true_and, zk_v, zk_n, zk_x, zir_r, zir_n, zclr_i, zclr_r, zclr_n, zclr_d, zclr_l, true_and, and_true, and_self, if_true, if_false, reduceIte, nI_add, pk_mul, zin_ok, zx_nI, nI_lt2, nI_le2, nI_eq2, nI_l0, nI_g0, nI_q0, nI_p0, nI_n0, nI_m1, Nat.add_zero, Nat.zero_add, Nat.reduceAdd, Nat.reduceMul, true_or, or_true, znar_50, bI_0, bI_1, bI_z, bft, nI_z0, nI_z1, lgc_lt, lgc_gt, lgc_le, lgc_ge, lgc_eq, not_true_eq_false, not_false_eq_true, Bool.not_eq_true, Bool.not_eq_false, reduceCtorEq, MS_sW, CS_sW, sW_r, sW_n, sW_w, cls_sW, fi_sW, fr_sW, la_sW, ra_sW, len_sW, ls_sW, own_sW, n_sW, uc_sW, us_sW, sW_sfi, sW_sla, sW_sLA, sW_sls, sW_spay, sW_sia, sW_sIA, ne_eq, cls_sfi, fr_sfi, ia_sfi, la_sfi, ra_sfi, len_sfi, ls_sfi, own_sfi, n_sfi, uc_sfi, us_sfi, cls_sia, fi_sia, fr_sia, la_sia, ra_sia, len_sia, ls_sia, own_sia, n_sia, uc_sia, us_sia, cls_sIA, fi_sIA, fr_sIA, la_sIA, ra_sIA, len_sIA, ls_sIA, own_sIA, n_sIA, uc_sIA, us_sIA, cls_sla, fi_sla, fr_sla, ia_sla, ra_sla, len_sla, ls_sla, own_sla, n_sla, uc_sla, us_sla, cls_sLA, fi_sLA, fr_sLA, ia_sLA, ra_sLA, len_sLA, ls_sLA, own_sLA, n_sLA, uc_sLA, us_sLA, h0, m114, lin_n]
theorem m143 (hM : MS z) (hv : ∀ i, v i < 2147483648) {a b : Int32} : ZC zG (d + 2) 143 [.ref 135, .int a, .int b] (sW z v) Q = Q (.inl (some (.int (bI (zin a (v 0) && zin b (v 0) && !decide (a = b)))))) (sW z v) := by
  have h0 := hM
  unfold MS at h0
  simp (disch := first | omega | exact hv _ | exact hM) only [e143, s143_0, s143_1, s143_2, s143_5, s143_8, s143_9, s143_10, s143_13, s143_16, s143_17, s143_18, s143_21, s143_22, s143_25, s143_26, zcs_0, zcs_1, zcs_2, zcs_3, zcs_4, zcs_5, zcs_6, zcs_7, znl_i, znl_r, znl_n, Bool.and_true, Bool.true_and, zk_v, zk_n, zk_x, zir_r, zir_n, zclr_i, zclr_r, zclr_n, zclr_d, zclr_l, true_and, and_true, and_self, if_true, if_false, reduceIte, nI_add, pk_mul, zin_ok, zx_nI, nI_lt2, nI_le2, nI_eq2, nI_l0, nI_g0, nI_q0, nI_p0, nI_n0, nI_m1, Nat.add_zero, Nat.zero_add, Nat.reduceAdd, Nat.reduceMul, true_or, or_true, znar_50, bI_0, bI_1, bI_z, bft, nI_z0, nI_z1, lgc_lt, lgc_gt, lgc_le, lgc_ge, lgc_eq, not_true_eq_false, not_false_eq_true, Bool.not_eq_true, Bool.not_eq_false, reduceCtorEq, MS_sW, CS_sW, sW_r, sW_n, sW_w, cls_sW, fi_sW, fr_sW, la_sW, ra_sW, len_sW, ls_sW, own_sW, n_sW, uc_sW, us_sW, sW_sfi, sW_sla, sW_sLA, sW_sls, sW_spay, sW_sia, sW_sIA, ne_eq, cls_sfi, fr_sfi, ia_sfi, la_sfi, ra_sfi, len_sfi, ls_sfi, own_sfi, n_sfi, uc_sfi, us_sfi, cls_sia, fi_sia, fr_sia, la_sia, ra_sia, len_sia, ls_sia, own_sia, n_sia, uc_sia, us_sia, cls_sIA, fi_sIA, fr_sIA, la_sIA, ra_sIA, len_sIA, ls_sIA, own_sIA, n_sIA, uc_sIA, us_sIA, cls_sla, fi_sla, fr_sla, ia_sla, ra_sla, len_sla, ls_sla, own_sla, n_sla, uc_sla, us_sla, cls_sLA, fi_sLA, fr_sLA, ia_sLA, ra_sLA, len_sLA, ls_sLA, own_sLA, n_sLA, uc_sLA, us_sLA, h0, m144]
  cases zin a (v 0) <;> cases zin b (v 0) <;> by_cases h : a = b <;> simp [h, bI, nI_0, nI_one]
theorem m145 {a : Int32} : ZC zG (d + 1) 145 [.int a] z Q = Q (.inl (some (.int (bI (zin a 4))))) z := by
  simp (disch := omega) only [e145, s145_0, s145_1, s145_2, s145_3, s145_6, s145_9, zcs_0, zcs_1, zcs_2, zcs_3, zcs_4, zcs_5, zcs_6, zcs_7, znl_i, znl_r, znl_n, Bool.and_true, Bool.true_and, zk_v, zk_n, zk_x, zir_r, zir_n, zclr_i, zclr_r, zclr_n, zclr_d, zclr_l, true_and, and_true, and_self, if_true, if_false, reduceIte, nI_add, pk_mul, zin_ok, zx_nI, nI_lt2, nI_le2, nI_eq2, nI_l0, nI_g0, nI_q0, nI_p0, nI_n0, nI_m1, Nat.add_zero, Nat.zero_add, Nat.reduceAdd, Nat.reduceMul, true_or, or_true, znar_50, bI_0, bI_1, bI_z, bft, nI_z0, nI_z1, lgc_lt, lgc_gt, lgc_le, lgc_ge, lgc_eq, not_true_eq_false, not_false_eq_true, Bool.not_eq_true, Bool.not_eq_false, reduceCtorEq, m114, lin_c]
theorem m169 {a : Int32} : ZC zG (d + 1) 169 [.int a] z Q = Q (.inl (some (.int (bI (zin a 4))))) z := by
  simp (disch := omega) only [e169, s169_0, s169_1, s169_2, s169_3, s169_6, s169_9, zcs_0, zcs_1, zcs_2, zcs_3, zcs_4, zcs_5, zcs_6, zcs_7, znl_i, znl_r, znl_n, Bool.and_true, Bool.true_and, zk_v, zk_n, zk_x, zir_r, zir_n, zclr_i, zclr_r, zclr_n, zclr_d, zclr_l, true_and, and_true, and_self, if_true, if_false, reduceIte, nI_add, pk_mul, zin_ok, zx_nI, nI_lt2, nI_le2, nI_eq2, nI_l0, nI_g0, nI_q0, nI_p0, nI_n0, nI_m1, Nat.add_zero, Nat.zero_add, Nat.reduceAdd, Nat.reduceMul, true_or, or_true, znar_50, bI_0, bI_1, bI_z, bft, nI_z0, nI_z1, lgc_lt, lgc_gt, lgc_le, lgc_ge, lgc_eq, not_true_eq_false, not_false_eq_true, Bool.not_eq_true, Bool.not_eq_false, reduceCtorEq, m114, lin_c]
theorem m147 (hM : MS z) {h : Nat} {x : Int32} (hb : 10 + 9 * h + 6 < 9080) : ZC zG (d + 1) 147 [.ref 135, .int (nI h), .int x] (sW z v) Q = Q (.inl (some (.int (bI (decide (nI (v (10 + 9 * h + 6)) ≤ x)))))) (sW z v) := by
  have h0 := hM
  unfold MS at h0
  simp (disch := first | omega | exact hM) only [e147, s147_0, s147_1, s147_2, s147_4, s147_7, s147_8, s147_11, s147_12, s147_15, s147_16, zcs_0, zcs_1, zcs_2, zcs_3, zcs_4, zcs_5, zcs_6, zcs_7, znl_i, znl_r, znl_n, Bool.and_true, Bool.true_and, zk_v, zk_n, zk_x, zir_r, zir_n, zclr_i, zclr_r, zclr_n, zclr_d, zclr_l, true_and, and_true, and_self, if_true, if_false, reduceIte, nI_add, pk_mul, zin_ok, zx_nI, nI_lt2, nI_le2, nI_eq2, nI_l0, nI_g0, nI_q0, nI_p0, nI_n0, nI_m1, Nat.add_zero, Nat.zero_add, Nat.reduceAdd, Nat.reduceMul, true_or, or_true, znar_50, bI_0, bI_1, bI_z, bft, nI_z0, nI_z1, lgc_lt, lgc_gt, lgc_le, lgc_ge, lgc_eq, not_true_eq_false, not_false_eq_true, Bool.not_eq_true, Bool.not_eq_false, reduceCtorEq, MS_sW, CS_sW, sW_r, sW_n, sW_w, cls_sW, fi_sW, fr_sW, la_sW, ra_sW, len_sW, ls_sW, own_sW, n_sW, uc_sW, us_sW, sW_sfi, sW_sla, sW_sLA, sW_sls, sW_spay, sW_sia, sW_sIA, ne_eq, cls_sfi, fr_sfi, ia_sfi, la_sfi, ra_sfi, len_sfi, ls_sfi, own_sfi, n_sfi, uc_sfi, us_sfi, cls_sia, fi_sia, fr_sia, la_sia, ra_sia, len_sia, ls_sia, own_sia, n_sia, uc_sia, us_sia, cls_sIA, fi_sIA, fr_sIA, la_sIA, ra_sIA, len_sIA, ls_sIA, own_sIA, n_sIA, uc_sIA, us_sIA, cls_sla, fi_sla, fr_sla, ia_sla, ra_sla, len_sla, ls_sla, own_sla, n_sla, uc_sla, us_sla, cls_sLA, fi_sLA, fr_sLA, ia_sLA, ra_sLA, len_sLA, ls_sLA, own_sLA, n_sLA, uc_sLA, us_sLA, h0, m139]
  by_cases h1 : nI (v (10 + 9 * h + 6)) ≤ x
  · have h2 : ¬ x < nI (v (10 + 9 * h + 6)) := Int32.not_lt.mpr h1
    simp [h1, h2, bI, nI_one]
  · have h2 : x < nI (v (10 + 9 * h + 6)) := Int32.not_le.mp h1
    simp [h1, h2, bI, nI_0]
theorem m148 (hM : MS z) {a : Nat} {b : Int32} (hb : a < 16) : ZC zG (d + 1) 148 [.ref 135, .int (nI a), .int b] (sW z v) Q = Q (.inl (some (.int (bI (hasI (nI (v (1864 + a))) b))))) (sW z v) := by
  have h0 := hM
  unfold MS at h0
  simp (disch := first | omega | exact hM) only [e148, s148_0, s148_1, s148_4, s148_7, s148_8, s148_9, s148_10, s148_11, s148_14, zcs_0, zcs_1, zcs_2, zcs_3, zcs_4, zcs_5, zcs_6, zcs_7, znl_i, znl_r, znl_n, Bool.and_true, Bool.true_and, zk_v, zk_n, zk_x, zir_r, zir_n, zclr_i, zclr_r, zclr_n, zclr_d, zclr_l, true_and, and_true, and_self, if_true, if_false, reduceIte, nI_add, pk_mul, zin_ok, zx_nI, nI_lt2, nI_le2, nI_eq2, nI_l0, nI_g0, nI_q0, nI_p0, nI_n0, nI_m1, Nat.add_zero, Nat.zero_add, Nat.reduceAdd, Nat.reduceMul, true_or, or_true, znar_50, bI_0, bI_1, bI_z, bft, nI_z0, nI_z1, lgc_lt, lgc_gt, lgc_le, lgc_ge, lgc_eq, not_true_eq_false, not_false_eq_true, Bool.not_eq_true, Bool.not_eq_false, reduceCtorEq, MS_sW, CS_sW, sW_r, sW_n, sW_w, cls_sW, fi_sW, fr_sW, la_sW, ra_sW, len_sW, ls_sW, own_sW, n_sW, uc_sW, us_sW, sW_sfi, sW_sla, sW_sLA, sW_sls, sW_spay, sW_sia, sW_sIA, ne_eq, cls_sfi, fr_sfi, ia_sfi, la_sfi, ra_sfi, len_sfi, ls_sfi, own_sfi, n_sfi, uc_sfi, us_sfi, cls_sia, fi_sia, fr_sia, la_sia, ra_sia, len_sia, ls_sia, own_sia, n_sia, uc_sia, us_sia, cls_sIA, fi_sIA, fr_sIA, la_sIA, ra_sIA, len_sIA, ls_sIA, own_sIA, n_sIA, uc_sIA, us_sIA, cls_sla, fi_sla, fr_sla, ia_sla, ra_sla, len_sla, ls_sla, own_sla, n_sla, uc_sla, us_sla, cls_sLA, fi_sLA, fr_sLA, ia_sLA, ra_sLA, len_sLA, ls_sLA, own_sLA, n_sLA, uc_sLA, us_sLA, h0, m149]
theorem m150 (hM : MS z) {h : Nat} (hb : 10 + 9 * h + 6 < 9080) : ZC zG (d + 1) 150 [.ref 135, .int (nI h)] (sW z v) Q = Q (.inl (some (.int (bI (decide (nI (v 6) - nI (v (10 + 9 * h + 6)) ≤ nI (v 4))))))) (sW z v) := by
  have h0 := hM
  unfold MS at h0
  simp (disch := first | omega | exact hM) only [e150, s150_0, s150_1, s150_4, s150_5, s150_6, s150_8, s150_11, s150_12, s150_13, s150_16, s150_17, s150_18, s150_21, s150_22, s150_25, s150_26, zcs_0, zcs_1, zcs_2, zcs_3, zcs_4, zcs_5, zcs_6, zcs_7, znl_i, znl_r, znl_n, Bool.and_true, Bool.true_and, zk_v, zk_n, zk_x, zir_r, zir_n, zclr_i, zclr_r, zclr_n, zclr_d, zclr_l, true_and, and_true, and_self, if_true, if_false, reduceIte, nI_add, pk_mul, zin_ok, zx_nI, nI_lt2, nI_le2, nI_eq2, nI_l0, nI_g0, nI_q0, nI_p0, nI_n0, nI_m1, Nat.add_zero, Nat.zero_add, Nat.reduceAdd, Nat.reduceMul, true_or, or_true, znar_50, bI_0, bI_1, bI_z, bft, nI_z0, nI_z1, lgc_lt, lgc_gt, lgc_le, lgc_ge, lgc_eq, not_true_eq_false, not_false_eq_true, Bool.not_eq_true, Bool.not_eq_false, reduceCtorEq, MS_sW, CS_sW, sW_r, sW_n, sW_w, cls_sW, fi_sW, fr_sW, la_sW, ra_sW, len_sW, ls_sW, own_sW, n_sW, uc_sW, us_sW, sW_sfi, sW_sla, sW_sLA, sW_sls, sW_spay, sW_sia, sW_sIA, ne_eq, cls_sfi, fr_sfi, ia_sfi, la_sfi, ra_sfi, len_sfi, ls_sfi, own_sfi, n_sfi, uc_sfi, us_sfi, cls_sia, fi_sia, fr_sia, la_sia, ra_sia, len_sia, ls_sia, own_sia, n_sia, uc_sia, us_sia, cls_sIA, fi_sIA, fr_sIA, la_sIA, ra_sIA, len_sIA, ls_sIA, own_sIA, n_sIA, uc_sIA, us_sIA, cls_sla, fi_sla, fr_sla, ia_sla, ra_sla, len_sla, ls_sla, own_sla, n_sla, uc_sla, us_sla, cls_sLA, fi_sLA, fr_sLA, ia_sLA, ra_sLA, len_sLA, ls_sLA, own_sLA, n_sLA, uc_sLA, us_sLA, h0, m139, m141]
  by_cases h1 : nI (v 6) - nI (v (10 + 9 * h + 6)) ≤ nI (v 4)
  · have h2 := Int32.not_lt.mpr h1
    simp [h1, h2, bI, nI_one]
  · have h2 := Int32.not_le.mp h1
    simp [h1, h2, bI, nI_0]
theorem m151 (hM : MS z) {b : Nat} {x : Int32} (hb : b < 16) : ZC zG (d + 1) 151 [.ref 135, .int x, .int (nI b)] (sW z v) Q = Q (.inl (some (.int (bI (decide (nI (v 5) ≤ onesN (x &&& nI (v (1864 + b))) 16)))))) (sW z v) := by
  have h0 := hM
  unfold MS at h0
  simp (disch := first | omega | exact hM) only [e151, s151_0, s151_1, s151_2, s151_5, s151_8, s151_9, s151_10, s151_11, s151_12, s151_15, s151_16, s151_19, s151_20, s151_21, s151_24, s151_25, s151_28, s151_29, zcs_0, zcs_1, zcs_2, zcs_3, zcs_4, zcs_5, zcs_6, zcs_7, znl_i, znl_r, znl_n, Bool.and_true, Bool.true_and, zk_v, zk_n, zk_x, zir_r, zir_n, zclr_i, zclr_r, zclr_n, zclr_d, zclr_l, true_and, and_true, and_self, if_true, if_false, reduceIte, nI_add, pk_mul, zin_ok, zx_nI, nI_lt2, nI_le2, nI_eq2, nI_l0, nI_g0, nI_q0, nI_p0, nI_n0, nI_m1, Nat.add_zero, Nat.zero_add, Nat.reduceAdd, Nat.reduceMul, true_or, or_true, znar_50, bI_0, bI_1, bI_z, bft, nI_z0, nI_z1, lgc_lt, lgc_gt, lgc_le, lgc_ge, lgc_eq, not_true_eq_false, not_false_eq_true, Bool.not_eq_true, Bool.not_eq_false, reduceCtorEq, MS_sW, CS_sW, sW_r, sW_n, sW_w, cls_sW, fi_sW, fr_sW, la_sW, ra_sW, len_sW, ls_sW, own_sW, n_sW, uc_sW, us_sW, sW_sfi, sW_sla, sW_sLA, sW_sls, sW_spay, sW_sia, sW_sIA, ne_eq, cls_sfi, fr_sfi, ia_sfi, la_sfi, ra_sfi, len_sfi, ls_sfi, own_sfi, n_sfi, uc_sfi, us_sfi, cls_sia, fi_sia, fr_sia, la_sia, ra_sia, len_sia, ls_sia, own_sia, n_sia, uc_sia, us_sia, cls_sIA, fi_sIA, fr_sIA, la_sIA, ra_sIA, len_sIA, ls_sIA, own_sIA, n_sIA, uc_sIA, us_sIA, cls_sla, fi_sla, fr_sla, ia_sla, ra_sla, len_sla, ls_sla, own_sla, n_sla, uc_sla, us_sla, cls_sLA, fi_sLA, fr_sLA, ia_sLA, ra_sLA, len_sLA, ls_sLA, own_sLA, n_sLA, uc_sLA, us_sLA, h0, m152]
  by_cases h1 : nI (v 5) ≤ onesN (x &&& nI (v (1864 + b))) 16
  · have h2 := Int32.not_lt.mpr h1
    simp [h1, h2, bI, nI_one]
  · have h2 := Int32.not_le.mp h1
    simp [h1, h2, bI, nI_0]
end MB
/-- may know -/
def sMay (v : Nat → Nat) (a b : Nat) : Bool := hasI (nI (v (1864 + a))) (nI b) || (decide (nI (v 6) - nI (v (10 + 9 * b + 6)) ≤ nI (v 4)) && !decide (nI (v 6) - nI (v (10 + 9 * a + 6)) ≤ nI (v 4))) || decide (nI (v 5) ≤ onesN (nI (v (1864 + a)) &&& nI (v (1864 + b))) 16)
def sBars (v : Nat → Nat) (a b : Nat) (p : Int32) : Int32 :=
  if decide (v (10 + 9 * a + 6) ≤ v 6) && decide (v (10 + 9 * b + 6) ≤ v 6) && sMay v a b then
    (if p < nI 2 then nI 0 else if ¬ v 6 % 7 = v (10 + 9 * b + 3) then nI 2 else if 0 < v (10 + 9 * a + 7) ∧ v 6 ≤ v (10 + 9 * a + 6) + v (10 + 9 * a + 7) then nI 3 else nI 0) else nI 1
section MB2
variable {d : Nat} {z : ZH} {Q : ZQ} {v : Nat → Nat}
theorem m146 (hM : MS z) (hv : ∀ i, v i < 1073741824) {a b : Nat} {p : Int32} (ha : a < 16) (hb : b < 16) : ZC zG (d + 2) 146 [.ref 135, .int (nI a), .int (nI b), .int p] (sW z v) Q = Q (.inl (some (.int (sBars v a b p)))) (sW z v) := by
  have h0 := hM
  unfold MS at h0
  have h7 : ∀ i, nI (v i) - nI (v i) / nI 7 * nI 7 = nI (v i % 7) := fun i => pk_rem (by have := hv i; omega) (by omega) (by omega)
  have b1 := hv 6
  have b2 := hv (10 + 9 * a + 6)
  have b3 := hv (10 + 9 * a + 7)
  have b4 := hv (10 + 9 * b + 6)
  have b5 := hv (10 + 9 * b + 3)
  simp (config := {maxSteps := 3000000}) (disch := first | omega | exact hM) only [e146, s146_0, s146_1, s146_2, s146_3, s146_6, s146_9, s146_12, s146_13, s146_14, s146_15, s146_18, s146_21, s146_24, s146_25, s146_28, s146_29, s146_31, s146_32, s146_33, s146_34, s146_37, s146_40, s146_41, s146_42, s146_45, s146_48, s146_49, s146_50, s146_53, s146_56, s146_57, s146_58, s146_61, s146_64, s146_65, s146_66, s146_67, s146_68, s146_71, s146_74, s146_75, s146_78, s146_79, s146_81, s146_83, s146_86, s146_88, s146_91, s146_92, s146_93, s146_94, s146_95, s146_98, s146_99, s146_100, s146_101, s146_104, s146_106, s146_107, s146_108, s146_109, s146_110, s146_113, s146_116, s146_117, s146_118, s146_119, s146_120, s146_122, s146_125, s146_128, s146_129, s146_132, s146_133, s146_134, s146_136, s146_139, s146_140, s146_141, s146_143, s146_146, s146_147, s146_150, s146_151, s146_154, s146_155, zcs_0, zcs_1, zcs_2, zcs_3, zcs_4, zcs_5, zcs_6, zcs_7, znl_i, znl_r, znl_n, Bool.and_true, Bool.true_and, zk_v, zk_n, zk_x, zir_r, zir_n, zclr_i, zclr_r, zclr_n, zclr_d, zclr_l, true_and, and_true, and_self, if_true, if_false, reduceIte, nI_add, pk_mul, zin_ok, zx_nI, nI_lt2, nI_le2, nI_eq2, nI_l0, nI_g0, nI_q0, nI_p0, nI_n0, nI_m1, Nat.add_zero, Nat.zero_add, Nat.reduceAdd, Nat.reduceMul, true_or, or_true, znar_50, bI_0, bI_1, bI_z, bft, nI_z0, nI_z1, lgc_lt, lgc_gt, lgc_le, lgc_ge, lgc_eq, not_true_eq_false, not_false_eq_true, Bool.not_eq_true, Bool.not_eq_false, reduceCtorEq, MS_sW, CS_sW, sW_r, sW_n, sW_w, cls_sW, fi_sW, fr_sW, la_sW, ra_sW, len_sW, ls_sW, own_sW, n_sW, uc_sW, us_sW, sW_sfi, sW_sla, sW_sLA, sW_sls, sW_spay, sW_sia, sW_sIA, ne_eq, cls_sfi, fr_sfi, ia_sfi, la_sfi, ra_sfi, len_sfi, ls_sfi, own_sfi, n_sfi, uc_sfi, us_sfi, cls_sia, fi_sia, fr_sia, la_sia, ra_sia, len_sia, ls_sia, own_sia, n_sia, uc_sia, us_sia, cls_sIA, fi_sIA, fr_sIA, la_sIA, ra_sIA, len_sIA, ls_sIA, own_sIA, n_sIA, uc_sIA, us_sIA, cls_sla, fi_sla, fr_sla, ia_sla, ra_sla, len_sla, ls_sla, own_sla, n_sla, uc_sla, us_sla, cls_sLA, fi_sLA, fr_sLA, ia_sLA, ra_sLA, len_sLA, ls_sLA, own_sLA, n_sLA, uc_sLA, us_sLA, h0, m139, m141, m147, m148, m150, m151, h7]
  have tail : (if nI 2 ≤ p then (if v 6 % 7 = v (10 + 9 * b + 3) then (if v (10 + 9 * a + 7) = 0 then Q (.inl (some (.int (nI 0)))) (sW z v) else (if v (10 + 9 * a + 6) + v (10 + 9 * a + 7) < v 6 then Q (.inl (some (.int (nI 0)))) (sW z v) else Q (.inl (some (.int (nI 3)))) (sW z v))) else Q (.inl (some (.int (nI 2)))) (sW z v)) else Q (.inl (some (.int (nI 0)))) (sW z v)) = Q (.inl (some (.int (if p < nI 2 then nI 0 else if ¬ v 6 % 7 = v (10 + 9 * b + 3) then nI 2 else if 0 < v (10 + 9 * a + 7) ∧ v 6 ≤ v (10 + 9 * a + 6) + v (10 + 9 * a + 7) then nI 3 else nI 0)))) (sW z v) := by
    by_cases c1 : p < nI 2
    · rw [if_neg (Int32.not_le.mpr c1), if_pos c1]
    · rw [if_pos (Int32.not_lt.mp c1), if_neg c1]
      by_cases c2 : v 6 % 7 = v (10 + 9 * b + 3)
      · by_cases c3 : v (10 + 9 * a + 7) = 0
        · simp [c2, c3]
        · by_cases c4 : v (10 + 9 * a + 6) + v (10 + 9 * a + 7) < v 6
          · have c5 : ¬ v 6 ≤ v (10 + 9 * a + 6) + v (10 + 9 * a + 7) := by omega
            simp [c2, c3, c4, c5]
          · have c5 : v 6 ≤ v (10 + 9 * a + 6) + v (10 + 9 * a + 7) := by omega
            have c6 : 0 < v (10 + 9 * a + 7) := by omega
            simp [c2, c4, c5, c6, c3]
      · simp [c2]
  simp only [tail]
  unfold sBars sMay
  generalize hasI (nI (v (1864 + a))) (nI b) = k1
  generalize decide (nI (v 6) - nI (v (10 + 9 * b + 6)) ≤ nI (v 4)) = k2
  generalize decide (nI (v 6) - nI (v (10 + 9 * a + 6)) ≤ nI (v 4)) = k3
  generalize decide (nI (v 5) ≤ onesN (nI (v (1864 + a)) &&& nI (v (1864 + b))) 16) = k4
  generalize decide (v (10 + 9 * a + 6) ≤ v 6) = k5
  generalize decide (v (10 + 9 * b + 6) ≤ v 6) = k6
  cases k5 <;> cases k6 <;> cases k1 <;> cases k2 <;> cases k3 <;> cases k4 <;> simp
end MB2
