set_option maxRecDepth 100000
/-! the model: questions -/
def rBars (v : Nat → Nat) (a b p : Int32) : Int32 := if are2 v a b && zin p 4 then sBars v (zx a) (zx b) p else -2
def rKnown (v : Nat → Nat) (a b : Int32) : Int32 := if are2 v a b then bI (hasI (nI (v (1864 + zx a))) b) else -2
def rDebts (v : Nat → Nat) (a : Int32) : Int32 := if isH v a then nI (sDebtsOf v a (v 7)) else -2
/-- the place of the i-th debt of a; v 7: none -/
def sPlace (v : Nat → Nat) (a : Int32) (i : Nat) : Nat := findN (fun k => decide (nI (v (1880 + 5 * k)) = a) && decide (sDebtsOf v a k = i)) (v 7)
def rDebt (v : Nat → Nat) (a i w : Int32) : Int32 := if isH v a && (decide (0 ≤ i) && zin w 4) then (if sPlace v a (zx i) = v 7 then -1 else nI (v (1880 + 5 * sPlace v a (zx i) + (zx w + 1)))) else -1
def sSli (v : Nat → Nat) (b : Int32) (n : Nat) : Nat := cntN (fun i => decide (nI (v (1880 + 5 * i + 1)) = b) && decide (v (1880 + 5 * i + 3) < v 6)) n
def rSli (v : Nat → Nat) (b : Int32) : Int32 := if isH v b then nI (sSli v b (v 7)) else -2
/-- the most slighted of the first n: (whether there is one, who, how often) -/
def sFirst (v : Nat → Nat) : Nat → Option Nat × Nat
  | 0 => (none, 0)
  | h + 1 => match sFirst v h with
    | (b, m) => if sSli v (nI h) (v 7) = 0 ∨ sSli v (nI h) (v 7) < m ∨ (sSli v (nI h) (v 7) = m ∧ v (10 + 9 * h + 2) ≤ v (10 + 9 * (b.getD 0) + 2)) then (b, m) else (some h, sSli v (nI h) (v 7))
def oI (o : Option Nat) : Int32 := match o with | none => -1 | some k => nI k
theorem sFirst_lt (v : Nat → Nat) : ∀ n b m, sFirst v n = (some b, m) → b < n
  | 0, b, m, h => by cases h
  | n + 1, b, m, h => by
    unfold sFirst at h
    cases e : sFirst v n with
    | mk b2 m2 =>
      rw [e] at h
      dsimp only at h
      split at h
      · cases h
        have := sFirst_lt v n b m e
        omega
      · cases h
        omega
theorem sFirst_none (v : Nat → Nat) : ∀ n m, sFirst v n = (none, m) → m = 0
  | 0, m, h => by cases h; rfl
  | n + 1, m, h => by
    unfold sFirst at h
    cases e : sFirst v n with
    | mk b2 m2 =>
      rw [e] at h
      dsimp only at h
      split at h
      · cases h
        exact sFirst_none v n m e
      · cases h
section MQ
variable {d : Nat} {z : ZH} {Q : ZQ} {v : Nat → Nat} {L : Nat → List (Nat × Nat)}
theorem m142 (hM : MS z) (hv : ∀ i, v i < 1073741824) (h16 : v 0 ≤ 16) {a b p : Int32} : ZC zG (d + 3) 142 [.ref 135, .int a, .int b, .int p] (sW z v) Q = Q (.inl (some (.int (rBars v a b p)))) (sW z v) := by
  have hvv : ∀ i, v i < 2147483648 := fun i => by have := hv i; omega
  have h0 := hM
  unfold MS at h0
  simp (disch := first | omega | exact hM | exact hvv _) only [e142, s142_0, s142_1, s142_2, s142_3, s142_6, s142_9, s142_10, s142_13, s142_16, s142_17, s142_18, s142_19, s142_20, s142_23, s142_26, s142_28, zcs_0, zcs_1, zcs_2, zcs_3, zcs_4, zcs_5, zcs_6, zcs_7, znl_i, znl_r, znl_n, Bool.and_true, Bool.true_and, zk_v, zk_n, zk_x, zir_r, zir_n, zclr_i, zclr_r, zclr_n, zclr_d, zclr_l, true_and, and_true, and_self, if_true, if_false, reduceIte, nI_add, pk_mul, zin_ok, zx_nI, nI_lt2, nI_le2, nI_eq2, nI_l0, nI_g0, nI_q0, nI_p0, nI_n0, nI_m1, Nat.add_zero, Nat.zero_add, Nat.reduceAdd, Nat.reduceMul, true_or, or_true, znar_50, bI_0, bI_1, bI_z, bft, nI_z0, nI_z1, lgc_lt, lgc_gt, lgc_le, lgc_ge, lgc_eq, not_true_eq_false, not_false_eq_true, Bool.not_eq_true, Bool.not_eq_false, reduceCtorEq, MS_sW, CS_sW, sW_r, sW_n, sW_w, cls_sW, fi_sW, fr_sW, la_sW, ra_sW, len_sW, ls_sW, own_sW, n_sW, uc_sW, us_sW, sW_sfi, sW_sla, sW_sLA, sW_sls, sW_spay, sW_sia, sW_sIA, ne_eq, cls_sfi, fr_sfi, ia_sfi, la_sfi, ra_sfi, len_sfi, ls_sfi, own_sfi, n_sfi, uc_sfi, us_sfi, cls_sia, fi_sia, fr_sia, la_sia, ra_sia, len_sia, ls_sia, own_sia, n_sia, uc_sia, us_sia, cls_sIA, fi_sIA, fr_sIA, la_sIA, ra_sIA, len_sIA, ls_sIA, own_sIA, n_sIA, uc_sIA, us_sIA, cls_sla, fi_sla, fr_sla, ia_sla, ra_sla, len_sla, ls_sla, own_sla, n_sla, uc_sla, us_sla, cls_sLA, fi_sLA, fr_sLA, ia_sLA, ra_sLA, len_sLA, ls_sLA, own_sLA, n_sLA, uc_sLA, us_sLA, h0, m143, m145]
  unfold rBars
  by_cases h : are2 v a b = true
  · obtain ⟨i, j, h1, h2, h3, h4, h5, rfl, rfl⟩ := are2_of h
    have h6 := h
    unfold are2 at h6
    have m := fun Q => m146 (d := d) (z := z) (Q := Q) hM hv (a := i) (b := j) (p := p) (by omega) (by omega)
    rw [h6, h, zx_nI h4, zx_nI h5]
    cases zin p 4
    · simp
    · simp [m, s142_0, s142_1, s142_2, s142_3, s142_6, s142_9, s142_10, s142_13, s142_16, s142_17, s142_18, s142_19, s142_20, s142_23, s142_26, s142_28, zk_v]
  · have h6 := eq_false_of_ne_true h
    have h7 := h6
    unfold are2 at h7
    rw [h7, h6]
    simp
theorem m153 (hM : MS z) (hv : ∀ i, v i < 2147483648) (h16 : v 0 ≤ 16) {a b : Int32} : ZC zG (d + 3) 153 [.ref 135, .int a, .int b] (sW z v) Q = Q (.inl (some (.int (rKnown v a b)))) (sW z v) := by
  have h0 := hM
  unfold MS at h0
  simp (disch := first | omega | exact hM | exact hv _) only [e153, s153_0, s153_1, s153_2, s153_3, s153_6, s153_9, s153_11, s153_14, s153_15, s153_16, s153_17, s153_20, s153_23, s153_24, s153_27, s153_28, zcs_0, zcs_1, zcs_2, zcs_3, zcs_4, zcs_5, zcs_6, zcs_7, znl_i, znl_r, znl_n, Bool.and_true, Bool.true_and, zk_v, zk_n, zk_x, zir_r, zir_n, zclr_i, zclr_r, zclr_n, zclr_d, zclr_l, true_and, and_true, and_self, if_true, if_false, reduceIte, nI_add, pk_mul, zin_ok, zx_nI, nI_lt2, nI_le2, nI_eq2, nI_l0, nI_g0, nI_q0, nI_p0, nI_n0, nI_m1, Nat.add_zero, Nat.zero_add, Nat.reduceAdd, Nat.reduceMul, true_or, or_true, znar_50, bI_0, bI_1, bI_z, bft, nI_z0, nI_z1, lgc_lt, lgc_gt, lgc_le, lgc_ge, lgc_eq, not_true_eq_false, not_false_eq_true, Bool.not_eq_true, Bool.not_eq_false, reduceCtorEq, MS_sW, CS_sW, sW_r, sW_n, sW_w, cls_sW, fi_sW, fr_sW, la_sW, ra_sW, len_sW, ls_sW, own_sW, n_sW, uc_sW, us_sW, sW_sfi, sW_sla, sW_sLA, sW_sls, sW_spay, sW_sia, sW_sIA, ne_eq, cls_sfi, fr_sfi, ia_sfi, la_sfi, ra_sfi, len_sfi, ls_sfi, own_sfi, n_sfi, uc_sfi, us_sfi, cls_sia, fi_sia, fr_sia, la_sia, ra_sia, len_sia, ls_sia, own_sia, n_sia, uc_sia, us_sia, cls_sIA, fi_sIA, fr_sIA, la_sIA, ra_sIA, len_sIA, ls_sIA, own_sIA, n_sIA, uc_sIA, us_sIA, cls_sla, fi_sla, fr_sla, ia_sla, ra_sla, len_sla, ls_sla, own_sla, n_sla, uc_sla, us_sla, cls_sLA, fi_sLA, fr_sLA, ia_sLA, ra_sLA, len_sLA, ls_sLA, own_sLA, n_sLA, uc_sLA, us_sLA, h0, m143]
  unfold rKnown
  by_cases h : are2 v a b = true
  · obtain ⟨i, j, h1, h2, h3, h4, h5, rfl, rfl⟩ := are2_of h
    have h6 := h
    unfold are2 at h6
    have m := fun d Q => m148 (d := d) (z := z) (v := v) (Q := Q) hM (a := i) (b := nI j) (by omega)
    rw [h6, h, zx_nI h4]
    simp only [m, s153_0, s153_1, s153_2, s153_3, s153_6, s153_9, s153_11, s153_14, s153_15, s153_16, s153_17, s153_20, s153_23, s153_24, s153_27, s153_28, zcs_0, zcs_1, zcs_2, zcs_3, zcs_4, zcs_5, zcs_6, zcs_7, znl_i, znl_r, znl_n, Bool.and_true, Bool.true_and, zk_v, zk_n, zk_x, zir_r, zir_n, zclr_i, zclr_r, zclr_n, zclr_d, zclr_l, true_and, and_true, and_self, if_true, if_false, reduceIte, nI_add, pk_mul, zin_ok, zx_nI, nI_lt2, nI_le2, nI_eq2, nI_l0, nI_g0, nI_q0, nI_p0, nI_n0, nI_m1, Nat.add_zero, Nat.zero_add, Nat.reduceAdd, Nat.reduceMul, true_or, or_true, znar_50, bI_0, bI_1, bI_z, bft, nI_z0, nI_z1, lgc_lt, lgc_gt, lgc_le, lgc_ge, lgc_eq, not_true_eq_false, not_false_eq_true, Bool.not_eq_true, Bool.not_eq_false, reduceCtorEq]
    cases hasI (nI (v (1864 + i))) (nI j) <;> simp [bI, nI_0, nI_one]
  · have h6 := eq_false_of_ne_true h
    have h7 := h6
    unfold are2 at h7
    rw [h7, h6]
    simp
theorem m170 (hM : MS z) (hv : ∀ i, v i < 2147483648) (h7 : v 7 ≤ 960) {a : Int32} : ZC zG (d + 2) 170 [.ref 135, .int a] (sW z v) Q = Q (.inl (some (.int (rDebts v a)))) (sW z v) := by
  have h0 := hM
  unfold MS at h0
  simp (disch := first | omega | exact hM | exact hv _) only [e170, s170_0, s170_1, s170_2, s170_5, s170_8, s170_9, s170_10, s170_13, s170_16, s170_18, zcs_0, zcs_1, zcs_2, zcs_3, zcs_4, zcs_5, zcs_6, zcs_7, znl_i, znl_r, znl_n, Bool.and_true, Bool.true_and, zk_v, zk_n, zk_x, zir_r, zir_n, zclr_i, zclr_r, zclr_n, zclr_d, zclr_l, true_and, and_true, and_self, if_true, if_false, reduceIte, nI_add, pk_mul, zin_ok, zx_nI, nI_lt2, nI_le2, nI_eq2, nI_l0, nI_g0, nI_q0, nI_p0, nI_n0, nI_m1, Nat.add_zero, Nat.zero_add, Nat.reduceAdd, Nat.reduceMul, true_or, or_true, znar_50, bI_0, bI_1, bI_z, bft, nI_z0, nI_z1, lgc_lt, lgc_gt, lgc_le, lgc_ge, lgc_eq, not_true_eq_false, not_false_eq_true, Bool.not_eq_true, Bool.not_eq_false, reduceCtorEq, MS_sW, CS_sW, sW_r, sW_n, sW_w, cls_sW, fi_sW, fr_sW, la_sW, ra_sW, len_sW, ls_sW, own_sW, n_sW, uc_sW, us_sW, sW_sfi, sW_sla, sW_sLA, sW_sls, sW_spay, sW_sia, sW_sIA, ne_eq, cls_sfi, fr_sfi, ia_sfi, la_sfi, ra_sfi, len_sfi, ls_sfi, own_sfi, n_sfi, uc_sfi, us_sfi, cls_sia, fi_sia, fr_sia, la_sia, ra_sia, len_sia, ls_sia, own_sia, n_sia, uc_sia, us_sia, cls_sIA, fi_sIA, fr_sIA, la_sIA, ra_sIA, len_sIA, ls_sIA, own_sIA, n_sIA, uc_sIA, us_sIA, cls_sla, fi_sla, fr_sla, ia_sla, ra_sla, len_sla, ls_sla, own_sla, n_sla, uc_sla, us_sla, cls_sLA, fi_sLA, fr_sLA, ia_sLA, ra_sLA, len_sLA, ls_sLA, own_sLA, n_sLA, uc_sLA, us_sLA, h0, m144, m162]
  unfold rDebts isH
  cases zin a (v 0) <;> simp

theorem m174 (hM : MS z) (hv : ∀ i, v i < 2147483648) (h7 : v 7 ≤ 960) {b : Int32} : ZC zG (d + 1) 174 [.ref 135, .int b] (sW z v) Q = Q (.inl (some (.int (nI (sSli v b (v 7)))))) (sW z v) := by
  have h0 := hM
  unfold MS at h0
  have e : ∀ k, k < v 7 → ZW zG (d + 1) 174 4 [.ref 135, .int b, .int (nI (sSli v b k)), .int (nI k)] [] (sW z v) Q = ZW zG (d + 1) 174 4 [.ref 135, .int b, .int (nI (sSli v b (k + 1))), .int (nI (k + 1))] [] (sW z v) Q := by
    intro k hk
    refine s174_4.trans ?_
    have h1 : ¬ v 7 ≤ k := by omega
    simp (disch := first | omega | exact hM | exact hv _ | assumption | (simp only [MS_sW, MS_sfi, MS_sia, MS_sIA, MS_sla, MS_sLA, MS_sls]; exact hM)) only [s174_0, s174_1, s174_2, s174_3, s174_5, s174_6, s174_9, s174_11, s174_12, s174_15, s174_16, s174_17, s174_18, s174_19, s174_22, s174_23, s174_26, s174_27, s174_28, s174_29, s174_32, s174_33, s174_36, s174_39, s174_40, s174_43, s174_44, s174_45, s174_46, s174_49, s174_52, s174_53, zcs_0, zcs_1, zcs_2, zcs_3, zcs_4, zcs_5, zcs_6, zcs_7, znl_i, znl_r, znl_n, Bool.and_true, Bool.true_and, zk_v, zk_n, zk_x, zir_r, zir_n, zclr_i, zclr_r, zclr_n, zclr_d, zclr_l, true_and, and_true, and_self, if_true, if_false, reduceIte, nI_add, pk_mul, zin_ok, zx_nI, nI_lt2, nI_le2, nI_eq2, nI_l0, nI_g0, nI_q0, nI_p0, nI_n0, nI_m1, Nat.add_zero, Nat.zero_add, Nat.reduceAdd, Nat.reduceMul, true_or, or_true, znar_50, bI_0, bI_1, bI_z, bft, nI_z0, nI_z1, lgc_lt, lgc_gt, lgc_le, lgc_ge, lgc_eq, not_true_eq_false, not_false_eq_true, Bool.not_eq_true, Bool.not_eq_false, reduceCtorEq, MS_sW, CS_sW, sW_r, sW_n, sW_w, cls_sW, fi_sW, fr_sW, la_sW, ra_sW, len_sW, ls_sW, own_sW, n_sW, uc_sW, us_sW, sW_sfi, sW_sla, sW_sLA, sW_sls, sW_spay, sW_sia, sW_sIA, ne_eq, cls_sfi, fr_sfi, ia_sfi, la_sfi, ra_sfi, len_sfi, ls_sfi, own_sfi, n_sfi, uc_sfi, us_sfi, cls_sia, fi_sia, fr_sia, la_sia, ra_sia, len_sia, ls_sia, own_sia, n_sia, uc_sia, us_sia, cls_sIA, fi_sIA, fr_sIA, la_sIA, ra_sIA, len_sIA, ls_sIA, own_sIA, n_sIA, uc_sIA, us_sIA, cls_sla, fi_sla, fr_sla, ia_sla, ra_sla, len_sla, ls_sla, own_sla, n_sla, uc_sla, us_sla, cls_sLA, fi_sLA, fr_sLA, ia_sLA, ra_sLA, len_sLA, ls_sLA, own_sLA, n_sLA, uc_sLA, us_sLA, h0, m159, m141, h1]
    have hs : sSli v b (k + 1) = sSli v b k + (if (decide (nI (v (1880 + 5 * k + 1)) = b) && decide (v (1880 + 5 * k + 3) < v 6)) = true then 1 else 0) := rfl
    rw [hs]
    by_cases c1 : nI (v (1880 + 5 * k + 1)) = b
    · by_cases c2 : v (1880 + 5 * k + 3) < v 6
      · have c3 : ¬ v 6 ≤ v (1880 + 5 * k + 3) := by omega
        simp [c1, c2, c3]
      · have c3 : v 6 ≤ v (1880 + 5 * k + 3) := by omega
        simp [c1, c2, c3]
    · simp [c1]
  simp (disch := first | omega | exact hM | exact hv _ | assumption | (simp only [MS_sW, MS_sfi, MS_sia, MS_sIA, MS_sla, MS_sLA, MS_sls]; exact hM)) only [e174, s174_0, s174_1, s174_2, s174_3, s174_5, s174_6, s174_9, s174_11, s174_12, s174_15, s174_16, s174_17, s174_18, s174_19, s174_22, s174_23, s174_26, s174_27, s174_28, s174_29, s174_32, s174_33, s174_36, s174_39, s174_40, s174_43, s174_44, s174_45, s174_46, s174_49, s174_52, s174_53, zcs_0, zcs_1, zcs_2, zcs_3, zcs_4, zcs_5, zcs_6, zcs_7, znl_i, znl_r, znl_n, Bool.and_true, Bool.true_and, zk_v, zk_n, zk_x, zir_r, zir_n, zclr_i, zclr_r, zclr_n, zclr_d, zclr_l, true_and, and_true, and_self, if_true, if_false, reduceIte, nI_add, pk_mul, zin_ok, zx_nI, nI_lt2, nI_le2, nI_eq2, nI_l0, nI_g0, nI_q0, nI_p0, nI_n0, nI_m1, Nat.add_zero, Nat.zero_add, Nat.reduceAdd, Nat.reduceMul, true_or, or_true, znar_50, bI_0, bI_1, bI_z, bft, nI_z0, nI_z1, lgc_lt, lgc_gt, lgc_le, lgc_ge, lgc_eq, not_true_eq_false, not_false_eq_true, Bool.not_eq_true, Bool.not_eq_false, reduceCtorEq, MS_sW, CS_sW, sW_r, sW_n, sW_w, cls_sW, fi_sW, fr_sW, la_sW, ra_sW, len_sW, ls_sW, own_sW, n_sW, uc_sW, us_sW, sW_sfi, sW_sla, sW_sLA, sW_sls, sW_spay, sW_sia, sW_sIA, ne_eq, cls_sfi, fr_sfi, ia_sfi, la_sfi, ra_sfi, len_sfi, ls_sfi, own_sfi, n_sfi, uc_sfi, us_sfi, cls_sia, fi_sia, fr_sia, la_sia, ra_sia, len_sia, ls_sia, own_sia, n_sia, uc_sia, us_sia, cls_sIA, fi_sIA, fr_sIA, la_sIA, ra_sIA, len_sIA, ls_sIA, own_sIA, n_sIA, uc_sIA, us_sIA, cls_sla, fi_sla, fr_sla, ia_sla, ra_sla, len_sla, ls_sla, own_sla, n_sla, uc_sla, us_sla, cls_sLA, fi_sLA, fr_sLA, ia_sLA, ra_sLA, len_sLA, ls_sLA, own_sLA, n_sLA, uc_sLA, us_sLA, h0, m159, m141]
  refine Eq.trans (zl_up (P := fun k => ZW zG (d + 1) 174 4 [.ref 135, .int b, .int (nI (sSli v b k)), .int (nI k)] [] (sW z v) Q) (v 7) e) ?_
  refine s174_4.trans ?_
  simp (disch := first | omega | exact hM | exact hv _ | assumption | (simp only [MS_sW, MS_sfi, MS_sia, MS_sIA, MS_sla, MS_sLA, MS_sls]; exact hM)) only [s174_0, s174_1, s174_2, s174_3, s174_5, s174_6, s174_9, s174_11, s174_12, s174_15, s174_16, s174_17, s174_18, s174_19, s174_22, s174_23, s174_26, s174_27, s174_28, s174_29, s174_32, s174_33, s174_36, s174_39, s174_40, s174_43, s174_44, s174_45, s174_46, s174_49, s174_52, s174_53, zcs_0, zcs_1, zcs_2, zcs_3, zcs_4, zcs_5, zcs_6, zcs_7, znl_i, znl_r, znl_n, Bool.and_true, Bool.true_and, zk_v, zk_n, zk_x, zir_r, zir_n, zclr_i, zclr_r, zclr_n, zclr_d, zclr_l, true_and, and_true, and_self, if_true, if_false, reduceIte, nI_add, pk_mul, zin_ok, zx_nI, nI_lt2, nI_le2, nI_eq2, nI_l0, nI_g0, nI_q0, nI_p0, nI_n0, nI_m1, Nat.add_zero, Nat.zero_add, Nat.reduceAdd, Nat.reduceMul, true_or, or_true, znar_50, bI_0, bI_1, bI_z, bft, nI_z0, nI_z1, lgc_lt, lgc_gt, lgc_le, lgc_ge, lgc_eq, not_true_eq_false, not_false_eq_true, Bool.not_eq_true, Bool.not_eq_false, reduceCtorEq, MS_sW, CS_sW, sW_r, sW_n, sW_w, cls_sW, fi_sW, fr_sW, la_sW, ra_sW, len_sW, ls_sW, own_sW, n_sW, uc_sW, us_sW, sW_sfi, sW_sla, sW_sLA, sW_sls, sW_spay, sW_sia, sW_sIA, ne_eq, cls_sfi, fr_sfi, ia_sfi, la_sfi, ra_sfi, len_sfi, ls_sfi, own_sfi, n_sfi, uc_sfi, us_sfi, cls_sia, fi_sia, fr_sia, la_sia, ra_sia, len_sia, ls_sia, own_sia, n_sia, uc_sia, us_sia, cls_sIA, fi_sIA, fr_sIA, la_sIA, ra_sIA, len_sIA, ls_sIA, own_sIA, n_sIA, uc_sIA, us_sIA, cls_sla, fi_sla, fr_sla, ia_sla, ra_sla, len_sla, ls_sla, own_sla, n_sla, uc_sla, us_sla, cls_sLA, fi_sLA, fr_sLA, ia_sLA, ra_sLA, len_sLA, ls_sLA, own_sLA, n_sLA, uc_sLA, us_sLA, h0, m159, m141, Nat.le_refl]
theorem m173 (hM : MS z) (hv : ∀ i, v i < 2147483648) (h7 : v 7 ≤ 960) {a : Int32} : ZC zG (d + 2) 173 [.ref 135, .int a] (sW z v) Q = Q (.inl (some (.int (rSli v a)))) (sW z v) := by
  have h0 := hM
  unfold MS at h0
  simp (disch := first | omega | exact hM | exact hv _) only [e173, s173_0, s173_1, s173_2, s173_5, s173_8, s173_9, s173_10, s173_13, s173_16, s173_18, zcs_0, zcs_1, zcs_2, zcs_3, zcs_4, zcs_5, zcs_6, zcs_7, znl_i, znl_r, znl_n, Bool.and_true, Bool.true_and, zk_v, zk_n, zk_x, zir_r, zir_n, zclr_i, zclr_r, zclr_n, zclr_d, zclr_l, true_and, and_true, and_self, if_true, if_false, reduceIte, nI_add, pk_mul, zin_ok, zx_nI, nI_lt2, nI_le2, nI_eq2, nI_l0, nI_g0, nI_q0, nI_p0, nI_n0, nI_m1, Nat.add_zero, Nat.zero_add, Nat.reduceAdd, Nat.reduceMul, true_or, or_true, znar_50, bI_0, bI_1, bI_z, bft, nI_z0, nI_z1, lgc_lt, lgc_gt, lgc_le, lgc_ge, lgc_eq, not_true_eq_false, not_false_eq_true, Bool.not_eq_true, Bool.not_eq_false, reduceCtorEq, MS_sW, CS_sW, sW_r, sW_n, sW_w, cls_sW, fi_sW, fr_sW, la_sW, ra_sW, len_sW, ls_sW, own_sW, n_sW, uc_sW, us_sW, sW_sfi, sW_sla, sW_sLA, sW_sls, sW_spay, sW_sia, sW_sIA, ne_eq, cls_sfi, fr_sfi, ia_sfi, la_sfi, ra_sfi, len_sfi, ls_sfi, own_sfi, n_sfi, uc_sfi, us_sfi, cls_sia, fi_sia, fr_sia, la_sia, ra_sia, len_sia, ls_sia, own_sia, n_sia, uc_sia, us_sia, cls_sIA, fi_sIA, fr_sIA, la_sIA, ra_sIA, len_sIA, ls_sIA, own_sIA, n_sIA, uc_sIA, us_sIA, cls_sla, fi_sla, fr_sla, ia_sla, ra_sla, len_sla, ls_sla, own_sla, n_sla, uc_sla, us_sla, cls_sLA, fi_sLA, fr_sLA, ia_sLA, ra_sLA, len_sLA, ls_sLA, own_sLA, n_sLA, uc_sLA, us_sLA, h0, m144, m174]
  unfold rSli isH
  cases zin a (v 0) <;> simp
theorem m172 (hM : MS z) (hv : ∀ i, v i < 2147483648) (h7 : v 7 ≤ 960) {a : Int32} {i : Nat} (hi : i < 2147483648) : ZC zG (d + 1) 172 [.ref 135, .int a, .int (nI i)] (sW z v) Q = Q (.inl (some (.int (if sPlace v a i = v 7 then -1 else nI (sPlace v a i))))) (sW z v) := by
  have h0 := hM
  unfold MS at h0
  have e : ∀ m k, k + m = v 7 → findF (fun k => decide (nI (v (1880 + 5 * k)) = a) && decide (sDebtsOf v a k = i)) m k = sPlace v a i → ZW zG (d + 1) 172 5 [.ref 135, .int a, .int (nI i), .int (nI (sDebtsOf v a k)), .int (nI k)] [] (sW z v) Q = Q (.inl (some (.int (if sPlace v a i = v 7 then -1 else nI (sPlace v a i))))) (sW z v) := by
    intro m
    induction m with
    | zero =>
      intro k hk hf
      refine s172_5.trans ?_
      have h1 : v 7 ≤ k := by omega
      simp (disch := first | omega | exact hM | exact hv _) only [s172_0, s172_1, s172_2, s172_3, s172_7, s172_8, s172_11, s172_13, s172_14, s172_17, s172_18, s172_20, s172_21, s172_24, s172_25, s172_28, s172_31, s172_32, s172_33, s172_36, s172_38, s172_39, s172_42, s172_45, s172_48, s172_49, zcs_0, zcs_1, zcs_2, zcs_3, zcs_4, zcs_5, zcs_6, zcs_7, znl_i, znl_r, znl_n, Bool.and_true, Bool.true_and, zk_v, zk_n, zk_x, zir_r, zir_n, zclr_i, zclr_r, zclr_n, zclr_d, zclr_l, true_and, and_true, and_self, if_true, if_false, reduceIte, nI_add, pk_mul, zin_ok, zx_nI, nI_lt2, nI_le2, nI_eq2, nI_l0, nI_g0, nI_q0, nI_p0, nI_n0, nI_m1, Nat.add_zero, Nat.zero_add, Nat.reduceAdd, Nat.reduceMul, true_or, or_true, znar_50, bI_0, bI_1, bI_z, bft, nI_z0, nI_z1, lgc_lt, lgc_gt, lgc_le, lgc_ge, lgc_eq, not_true_eq_false, not_false_eq_true, Bool.not_eq_true, Bool.not_eq_false, reduceCtorEq, MS_sW, CS_sW, sW_r, sW_n, sW_w, cls_sW, fi_sW, fr_sW, la_sW, ra_sW, len_sW, ls_sW, own_sW, n_sW, uc_sW, us_sW, sW_sfi, sW_sla, sW_sLA, sW_sls, sW_spay, sW_sia, sW_sIA, ne_eq, cls_sfi, fr_sfi, ia_sfi, la_sfi, ra_sfi, len_sfi, ls_sfi, own_sfi, n_sfi, uc_sfi, us_sfi, cls_sia, fi_sia, fr_sia, la_sia, ra_sia, len_sia, ls_sia, own_sia, n_sia, uc_sia, us_sia, cls_sIA, fi_sIA, fr_sIA, la_sIA, ra_sIA, len_sIA, ls_sIA, own_sIA, n_sIA, uc_sIA, us_sIA, cls_sla, fi_sla, fr_sla, ia_sla, ra_sla, len_sla, ls_sla, own_sla, n_sla, uc_sla, us_sla, cls_sLA, fi_sLA, fr_sLA, ia_sLA, ra_sLA, len_sLA, ls_sLA, own_sLA, n_sLA, uc_sLA, us_sLA, h0, h1]
      have hf2 : k = sPlace v a i := hf
      rw [← hf2, if_pos (by omega)]
    | succ m ih =>
      intro k hk hf
      refine s172_5.trans ?_
      have h1 : ¬ v 7 ≤ k := by omega
      have hle := cntN_le (fun i => decide (nI (v (1880 + 5 * i)) = a)) k
      have hb : sDebtsOf v a k < 2147483648 := by unfold sDebtsOf; omega
      have hstep : findF (fun k => decide (nI (v (1880 + 5 * k)) = a) && decide (sDebtsOf v a k = i)) (m + 1) k = if (decide (nI (v (1880 + 5 * k)) = a) && decide (sDebtsOf v a k = i)) = true then k else findF (fun k => decide (nI (v (1880 + 5 * k)) = a) && decide (sDebtsOf v a k = i)) m (k + 1) := rfl
      rw [hstep] at hf
      have hd : sDebtsOf v a (k + 1) = sDebtsOf v a k + (if decide (nI (v (1880 + 5 * k)) = a) = true then 1 else 0) := rfl
      simp (disch := first | omega | exact hM | exact hv _) only [s172_0, s172_1, s172_2, s172_3, s172_7, s172_8, s172_11, s172_13, s172_14, s172_17, s172_18, s172_20, s172_21, s172_24, s172_25, s172_28, s172_31, s172_32, s172_33, s172_36, s172_38, s172_39, s172_42, s172_45, s172_48, s172_49, zcs_0, zcs_1, zcs_2, zcs_3, zcs_4, zcs_5, zcs_6, zcs_7, znl_i, znl_r, znl_n, Bool.and_true, Bool.true_and, zk_v, zk_n, zk_x, zir_r, zir_n, zclr_i, zclr_r, zclr_n, zclr_d, zclr_l, true_and, and_true, and_self, if_true, if_false, reduceIte, nI_add, pk_mul, zin_ok, zx_nI, nI_lt2, nI_le2, nI_eq2, nI_l0, nI_g0, nI_q0, nI_p0, nI_n0, nI_m1, Nat.add_zero, Nat.zero_add, Nat.reduceAdd, Nat.reduceMul, true_or, or_true, znar_50, bI_0, bI_1, bI_z, bft, nI_z0, nI_z1, lgc_lt, lgc_gt, lgc_le, lgc_ge, lgc_eq, not_true_eq_false, not_false_eq_true, Bool.not_eq_true, Bool.not_eq_false, reduceCtorEq, MS_sW, CS_sW, sW_r, sW_n, sW_w, cls_sW, fi_sW, fr_sW, la_sW, ra_sW, len_sW, ls_sW, own_sW, n_sW, uc_sW, us_sW, sW_sfi, sW_sla, sW_sLA, sW_sls, sW_spay, sW_sia, sW_sIA, ne_eq, cls_sfi, fr_sfi, ia_sfi, la_sfi, ra_sfi, len_sfi, ls_sfi, own_sfi, n_sfi, uc_sfi, us_sfi, cls_sia, fi_sia, fr_sia, la_sia, ra_sia, len_sia, ls_sia, own_sia, n_sia, uc_sia, us_sia, cls_sIA, fi_sIA, fr_sIA, la_sIA, ra_sIA, len_sIA, ls_sIA, own_sIA, n_sIA, uc_sIA, us_sIA, cls_sla, fi_sla, fr_sla, ia_sla, ra_sla, len_sla, ls_sla, own_sla, n_sla, uc_sla, us_sla, cls_sLA, fi_sLA, fr_sLA, ia_sLA, ra_sLA, len_sLA, ls_sLA, own_sLA, n_sLA, uc_sLA, us_sLA, h0, h1, m159]
      by_cases c1 : nI (v (1880 + 5 * k)) = a
      · rw [decide_eq_true c1, if_pos rfl] at hd
        by_cases c2 : sDebtsOf v a k = i
        · rw [if_pos (by simp [c1, c2])] at hf
          rw [← hf]
          have : ¬ k = v 7 := by omega
          simp [c1, c2, this]
        · rw [if_neg (by simp [c2])] at hf
          simp only [c1, c2, not_true_eq_false, not_false_eq_true, if_true, if_false]
          have := ih (k + 1) (by omega) hf
          rw [hd] at this
          exact this
      · rw [decide_eq_false c1] at hd
        rw [if_neg (by simp [c1])] at hf
        simp only [c1, not_true_eq_false, not_false_eq_true, if_true, if_false]
        have := ih (k + 1) (by omega) hf
        rw [hd] at this
        exact this
  simp (disch := omega) only [e172, s172_0, s172_1, s172_2, s172_3, s172_7, s172_8, s172_11, s172_13, s172_14, s172_17, s172_18, s172_20, s172_21, s172_24, s172_25, s172_28, s172_31, s172_32, s172_33, s172_36, s172_38, s172_39, s172_42, s172_45, s172_48, s172_49, zcs_0, zcs_1, zcs_2, zcs_3, zcs_4, zcs_5, zcs_6, zcs_7, znl_i, znl_r, znl_n, Bool.and_true, Bool.true_and, zk_v, zk_n, zk_x, zir_r, zir_n, zclr_i, zclr_r, zclr_n, zclr_d, zclr_l, true_and, and_true, and_self, if_true, if_false, reduceIte]
  exact e (v 7) 0 (by omega) rfl
theorem m171 (hM : MS z) (hv : ∀ i, v i < 2147483648) (h7 : v 7 ≤ 960) {a i w : Int32} : ZC zG (d + 2) 171 [.ref 135, .int a, .int i, .int w] (sW z v) Q = Q (.inl (some (.int (rDebt v a i w)))) (sW z v) := by
  have h0 := hM
  unfold MS at h0
  unfold rDebt isH
  simp (disch := first | omega | exact hM | exact hv _) only [s171_0, s171_1, s171_2, s171_5, s171_8, s171_9, s171_12, s171_13, s171_14, s171_15, s171_18, s171_21, e171, zcs_0, zcs_1, zcs_2, zcs_3, zcs_4, zcs_5, zcs_6, zcs_7, znl_i, znl_r, znl_n, Bool.and_true, Bool.true_and, zk_v, zk_n, zk_x, zir_r, zir_n, zclr_i, zclr_r, zclr_n, zclr_d, zclr_l, true_and, and_true, and_self, if_true, if_false, reduceIte, nI_add, pk_mul, zin_ok, zx_nI, nI_lt2, nI_le2, nI_eq2, nI_l0, nI_g0, nI_q0, nI_p0, nI_n0, nI_m1, Nat.add_zero, Nat.zero_add, Nat.reduceAdd, Nat.reduceMul, true_or, or_true, znar_50, bI_0, bI_1, bI_z, bft, nI_z0, nI_z1, lgc_lt, lgc_gt, lgc_le, lgc_ge, lgc_eq, not_true_eq_false, not_false_eq_true, Bool.not_eq_true, Bool.not_eq_false, reduceCtorEq, MS_sW, CS_sW, sW_r, sW_n, sW_w, cls_sW, fi_sW, fr_sW, la_sW, ra_sW, len_sW, ls_sW, own_sW, n_sW, uc_sW, us_sW, sW_sfi, sW_sla, sW_sLA, sW_sls, sW_spay, sW_sia, sW_sIA, ne_eq, cls_sfi, fr_sfi, ia_sfi, la_sfi, ra_sfi, len_sfi, ls_sfi, own_sfi, n_sfi, uc_sfi, us_sfi, cls_sia, fi_sia, fr_sia, la_sia, ra_sia, len_sia, ls_sia, own_sia, n_sia, uc_sia, us_sia, cls_sIA, fi_sIA, fr_sIA, la_sIA, ra_sIA, len_sIA, ls_sIA, own_sIA, n_sIA, uc_sIA, us_sIA, cls_sla, fi_sla, fr_sla, ia_sla, ra_sla, len_sla, ls_sla, own_sla, n_sla, uc_sla, us_sla, cls_sLA, fi_sLA, fr_sLA, ia_sLA, ra_sLA, len_sLA, ls_sLA, own_sLA, n_sLA, uc_sLA, us_sLA, h0, m144, m114, lin_c]
  cases hz : zin a (v 0)
  · simp [s171_24, s171_25]
  · by_cases hi : i < 0
    · have hi2 : ¬ 0 ≤ i := Int32.not_le.mpr hi
      simp [hi, hi2, s171_24, s171_25]
    · have hi2 : 0 ≤ i := Int32.not_lt.mp hi
      cases hw : zin w 4
      · simp [hi, hi2, s171_24, s171_25]
      · obtain ⟨j, hj, rfl⟩ := nI_of hi
        obtain ⟨u, hu, hu2, rfl⟩ := zin_of hw
        have m := fun d Q => m172 (d := d) (z := z) (v := v) (Q := Q) hM hv h7 (a := a) (i := j) hj
        have hle := (findF_le (fun k => decide (nI (v (1880 + 5 * k)) = a) && decide (sDebtsOf v a k = j)) (v 7) 0).2
        rw [zx_nI hj, zx_nI hu2]
        simp only [hi, hi2, decide_true, Bool.and_true, Bool.true_and, if_true, if_false, Bool.true_eq_false, not_true_eq_false, not_false_eq_true, reduceCtorEq, s171_26, s171_27, s171_28, s171_29, s171_32, s171_34, zcs_0, zcs_1, zcs_2, zcs_3, zcs_4, zcs_5, zcs_6, zcs_7, znl_i, znl_r, znl_n, Bool.and_true, Bool.true_and, zk_v, zk_n, zk_x, zir_r, zir_n, zclr_i, zclr_r, zclr_n, zclr_d, zclr_l, true_and, and_true, and_self, if_true, if_false, reduceIte, h0, MS_sW, CS_sW, sW_r, sW_n, sW_w, cls_sW, fi_sW, fr_sW, la_sW, ra_sW, len_sW, ls_sW, own_sW, n_sW, uc_sW, us_sW, sW_sfi, sW_sla, sW_sLA, sW_sls, sW_spay, sW_sia, sW_sIA, ne_eq, cls_sfi, fr_sfi, ia_sfi, la_sfi, ra_sfi, len_sfi, ls_sfi, own_sfi, n_sfi, uc_sfi, us_sfi, cls_sia, fi_sia, fr_sia, la_sia, ra_sia, len_sia, ls_sia, own_sia, n_sia, uc_sia, us_sia, cls_sIA, fi_sIA, fr_sIA, la_sIA, ra_sIA, len_sIA, ls_sIA, own_sIA, n_sIA, uc_sIA, us_sIA, cls_sla, fi_sla, fr_sla, ia_sla, ra_sla, len_sla, ls_sla, own_sla, n_sla, uc_sla, us_sla, cls_sLA, fi_sLA, fr_sLA, ia_sLA, ra_sLA, len_sLA, ls_sLA, own_sLA, n_sLA, uc_sLA, us_sLA, m]
        by_cases hp : sPlace v a j = v 7
        · simp [hp, s171_34, s171_36, s171_37, s171_40, s171_41, s171_44, s171_45, s171_47, s171_48, s171_49, s171_50, s171_53]
        · have hlt : sPlace v a j < v 7 := by
            have : sPlace v a j ≤ 0 + v 7 := hle
            omega
          rw [if_neg hp]
          have hne : ¬ nI (sPlace v a j) = -1 := by rw [nI_m1 (by omega)]; exact fun h => h
          simp (disch := first | omega | exact hM | exact hv _) only [s171_34, s171_36, s171_37, s171_40, s171_41, s171_44, s171_45, s171_47, s171_48, s171_49, s171_50, s171_53, zcs_0, zcs_1, zcs_2, zcs_3, zcs_4, zcs_5, zcs_6, zcs_7, znl_i, znl_r, znl_n, Bool.and_true, Bool.true_and, zk_v, zk_n, zk_x, zir_r, zir_n, zclr_i, zclr_r, zclr_n, zclr_d, zclr_l, true_and, and_true, and_self, if_true, if_false, reduceIte, nI_add, pk_mul, zin_ok, zx_nI, nI_lt2, nI_le2, nI_eq2, nI_l0, nI_g0, nI_q0, nI_p0, nI_n0, nI_m1, Nat.add_zero, Nat.zero_add, Nat.reduceAdd, Nat.reduceMul, true_or, or_true, znar_50, bI_0, bI_1, bI_z, bft, nI_z0, nI_z1, lgc_lt, lgc_gt, lgc_le, lgc_ge, lgc_eq, not_true_eq_false, not_false_eq_true, Bool.not_eq_true, Bool.not_eq_false, reduceCtorEq, MS_sW, CS_sW, sW_r, sW_n, sW_w, cls_sW, fi_sW, fr_sW, la_sW, ra_sW, len_sW, ls_sW, own_sW, n_sW, uc_sW, us_sW, sW_sfi, sW_sla, sW_sLA, sW_sls, sW_spay, sW_sia, sW_sIA, ne_eq, cls_sfi, fr_sfi, ia_sfi, la_sfi, ra_sfi, len_sfi, ls_sfi, own_sfi, n_sfi, uc_sfi, us_sfi, cls_sia, fi_sia, fr_sia, la_sia, ra_sia, len_sia, ls_sia, own_sia, n_sia, uc_sia, us_sia, cls_sIA, fi_sIA, fr_sIA, la_sIA, ra_sIA, len_sIA, ls_sIA, own_sIA, n_sIA, uc_sIA, us_sIA, cls_sla, fi_sla, fr_sla, ia_sla, ra_sla, len_sla, ls_sla, own_sla, n_sla, uc_sla, us_sla, cls_sLA, fi_sLA, fr_sLA, ia_sLA, ra_sLA, len_sLA, ls_sLA, own_sLA, n_sLA, uc_sLA, us_sLA, h0, m159, hne, hp]

end MQ
