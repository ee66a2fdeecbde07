set_option maxRecDepth 100000
/-! the model: debts -/
def cntN (p : Nat → Bool) : Nat → Nat
  | 0 => 0
  | n + 1 => cntN p n + (if p n = true then 1 else 0)
def anyN (p : Nat → Bool) : Nat → Bool
  | 0 => false
  | n + 1 => anyN p n || p n
theorem cntN_le (p : Nat → Bool) : ∀ n, cntN p n ≤ n
  | 0 => Nat.le_refl 0
  | n + 1 => by
    have := cntN_le p n
    unfold cntN
    split <;> omega
theorem anyN_t (p : Nat → Bool) : ∀ n, (anyN p n = true) ↔ ∃ i, i < n ∧ p i = true
  | 0 => by simp [anyN]
  | n + 1 => by
    unfold anyN
    rw [Bool.or_eq_true, anyN_t p n]
    constructor
    · rintro (⟨i, h, h2⟩ | h)
      · exact ⟨i, by omega, h2⟩
      · exact ⟨n, by omega, h⟩
    · rintro ⟨i, h, h2⟩
      by_cases e : i = n
      · subst e; exact Or.inr h2
      · exact Or.inl ⟨i, by omega, h2⟩
theorem anyN_f (p : Nat → Bool) (n : Nat) : (anyN p n = false) ↔ ∀ i, i < n → p i = false := by
  rw [← Bool.not_eq_true, anyN_t]
  constructor
  · intro h i hi
    cases e : p i
    · rfl
    · exact absurd ⟨i, hi, e⟩ h
  · rintro h ⟨i, hi, e⟩
    rw [h i hi] at e
    cases e
/-- a debt's numbers -/
def dF (v : Nat → Nat) (i : Nat) : Nat := v (1880 + 5 * i + 0)
def sDebtsOf (v : Nat → Nat) (a : Int32) (n : Nat) : Nat := cntN (fun i => decide (nI (v (1880 + 5 * i)) = a)) n
def sShift (v : Nat → Nat) (i k : Nat) : Nat → Nat := fun q => if 1880 + 5 * i ≤ q ∧ q < 1880 + 5 * i + k then v (q + 5) else v q
def sDrop (v : Nat → Nat) (i : Nat) : Nat → Nat := zu1 (sShift v i (5 * (v 7 - 1) - 5 * i)) 7 (v 7 - 1)
def sMatch (v : Nat → Nat) (a b : Nat) (p : Nat) (i : Nat) : Bool := decide (v (1880 + 5 * i) = a) && decide (v (1880 + 5 * i + 1) = b) && decide (v (1880 + 5 * i + 2) ≤ p)
def sPays (a b p : Nat) : Nat → (Nat → Nat) → Nat → (Nat → Nat) × Nat
  | 0, v, n => (v, n)
  | i + 1, v, n => if sMatch v a b p i = true then sPays a b p i (sDrop v i) (n + 1) else sPays a b p i v n
def sOwe (v : Nat → Nat) (b a k : Nat) : Bool := anyN (fun i => decide (v (1880 + 5 * i) = b) && decide (v (1880 + 5 * i + 1) = a) && decide (v (1880 + 5 * i + 2) = k)) (v 7)
def sComes (v : Nat → Nat) (b a k due day : Nat) : Nat → Nat := zu1 (zu1 (zu1 (zu1 (zu1 (zu1 v (1880 + 5 * v 7) b) (1880 + 5 * v 7 + 1) a) (1880 + 5 * v 7 + 2) k) (1880 + 5 * v 7 + 3) due) (1880 + 5 * v 7 + 4) day) 7 (v 7 + 1)
def sMeets (v : Nat → Nat) (a b : Nat) : Nat → Nat := zu1 (zu1 v (1864 + a) (v (1864 + a) ||| 2 ^ b)) (1864 + b) ((zu1 v (1864 + a) (v (1864 + a) ||| 2 ^ b)) (1864 + b) ||| 2 ^ a)
theorem sShift_lo (v : Nat → Nat) (i k q : Nat) (h : q < 1880) : sShift v i k q = v q := if_neg (by omega)
theorem nI_or (a b : Nat) : nI a ||| nI b = nI (a ||| b) := Int32.toBitVec_inj.mp (show BitVec.ofNat 32 a ||| BitVec.ofNat 32 b = BitVec.ofNat 32 (a ||| b) from BitVec.ofNat_or.symm)
theorem nI_and (a b : Nat) : nI a &&& nI b = nI (a &&& b) := Int32.toBitVec_inj.mp (show BitVec.ofNat 32 a &&& BitVec.ofNat 32 b = BitVec.ofNat 32 (a &&& b) from BitVec.ofNat_and.symm)
theorem nI_sh1 {b : Nat} (hb : b < 31) : nI 1 <<< (nI b &&& 31) = nI (2 ^ b) := by
  have key : ∀ b, b < 31 → nI 1 <<< (nI b &&& 31) = nI (2 ^ b) := by decide +kernel
  exact key b hb
section MD
variable {d : Nat} {z : ZH} {Q : ZQ} {v : Nat → Nat}
theorem m162 (hM : MS z) (h7 : v 7 ≤ 960) {a : Int32} : ZC zG (d + 1) 162 [.ref 135, .int a] (sW z v) Q = Q (.inl (some (.int (nI (sDebtsOf v a (v 7)))))) (sW z v) := by
  have h0 := hM
  unfold MS at h0
  have e : ∀ k, k < v 7 → ZW zG (d + 1) 162 4 [.ref 135, .int a, .int (nI (sDebtsOf v a k)), .int (nI k)] [] (sW z v) Q = ZW zG (d + 1) 162 4 [.ref 135, .int a, .int (nI (sDebtsOf v a (k + 1))), .int (nI (k + 1))] [] (sW z v) Q := by
    intro k hk
    refine s162_4.trans ?_
    have h1 : ¬ v 7 ≤ k := by omega
    simp (disch := first | omega | exact hM) only [s162_0, s162_1, s162_2, s162_3, s162_5, s162_6, s162_9, s162_11, s162_12, s162_15, s162_16, s162_17, s162_18, s162_19, s162_22, s162_23, s162_26, s162_27, s162_30, s162_31, s162_32, s162_33, s162_36, s162_39, s162_40, zcs_0, zcs_1, zcs_2, zcs_3, zcs_4, zcs_5, zcs_6, zcs_7, znl_i, znl_r, znl_n, Bool.and_true, Bool.true_and, zk_v, zk_n, zk_x, zir_r, zir_n, zclr_i, zclr_r, zclr_n, zclr_d, zclr_l, true_and, and_true, and_self, if_true, if_false, reduceIte, nI_add, pk_mul, zin_ok, zx_nI, nI_lt2, nI_le2, nI_eq2, nI_l0, nI_g0, nI_q0, nI_p0, nI_n0, nI_m1, Nat.add_zero, Nat.zero_add, Nat.reduceAdd, Nat.reduceMul, true_or, or_true, znar_50, bI_0, bI_1, bI_z, bft, nI_z0, nI_z1, lgc_lt, lgc_gt, lgc_le, lgc_ge, lgc_eq, not_true_eq_false, not_false_eq_true, Bool.not_eq_true, Bool.not_eq_false, reduceCtorEq, MS_sW, CS_sW, sW_r, sW_n, sW_w, cls_sW, fi_sW, fr_sW, la_sW, ra_sW, len_sW, ls_sW, own_sW, n_sW, uc_sW, us_sW, sW_sfi, sW_sla, sW_sLA, sW_sls, sW_spay, sW_sia, sW_sIA, ne_eq, cls_sfi, fr_sfi, ia_sfi, la_sfi, ra_sfi, len_sfi, ls_sfi, own_sfi, n_sfi, uc_sfi, us_sfi, cls_sia, fi_sia, fr_sia, la_sia, ra_sia, len_sia, ls_sia, own_sia, n_sia, uc_sia, us_sia, cls_sIA, fi_sIA, fr_sIA, la_sIA, ra_sIA, len_sIA, ls_sIA, own_sIA, n_sIA, uc_sIA, us_sIA, cls_sla, fi_sla, fr_sla, ia_sla, ra_sla, len_sla, ls_sla, own_sla, n_sla, uc_sla, us_sla, cls_sLA, fi_sLA, fr_sLA, ia_sLA, ra_sLA, len_sLA, ls_sLA, own_sLA, n_sLA, uc_sLA, us_sLA, h0, h1, m159]
    by_cases h : nI (v (1880 + 5 * k)) = a
    · simp [h, sDebtsOf, cntN]
    · simp [h, sDebtsOf, cntN]
  simp only [e162, s162_0, s162_1, s162_2, s162_3, s162_5, s162_6, s162_9, s162_11, s162_12, s162_15, s162_16, s162_17, s162_18, s162_19, s162_22, s162_23, s162_26, s162_27, s162_30, s162_31, s162_32, s162_33, s162_36, s162_39, s162_40, zcs_0, zcs_1, zcs_2, zcs_3, zcs_4, zcs_5, zcs_6, zcs_7, znl_i, znl_r, znl_n, Bool.and_true, Bool.true_and, zk_v, zk_n, zk_x, zir_r, zir_n, zclr_i, zclr_r, zclr_n, zclr_d, zclr_l, true_and, and_true, and_self, if_true, if_false, reduceIte]
  refine Eq.trans (zl_up (P := fun k => ZW zG (d + 1) 162 4 [.ref 135, .int a, .int (nI (sDebtsOf v a k)), .int (nI k)] [] (sW z v) Q) (v 7) e) ?_
  refine s162_4.trans ?_
  simp (disch := first | omega | exact hM) only [s162_0, s162_1, s162_2, s162_3, s162_5, s162_6, s162_9, s162_11, s162_12, s162_15, s162_16, s162_17, s162_18, s162_19, s162_22, s162_23, s162_26, s162_27, s162_30, s162_31, s162_32, s162_33, s162_36, s162_39, s162_40, zcs_0, zcs_1, zcs_2, zcs_3, zcs_4, zcs_5, zcs_6, zcs_7, znl_i, znl_r, znl_n, Bool.and_true, Bool.true_and, zk_v, zk_n, zk_x, zir_r, zir_n, zclr_i, zclr_r, zclr_n, zclr_d, zclr_l, true_and, and_true, and_self, if_true, if_false, reduceIte, nI_add, pk_mul, zin_ok, zx_nI, nI_lt2, nI_le2, nI_eq2, nI_l0, nI_g0, nI_q0, nI_p0, nI_n0, nI_m1, Nat.add_zero, Nat.zero_add, Nat.reduceAdd, Nat.reduceMul, true_or, or_true, znar_50, bI_0, bI_1, bI_z, bft, nI_z0, nI_z1, lgc_lt, lgc_gt, lgc_le, lgc_ge, lgc_eq, not_true_eq_false, not_false_eq_true, Bool.not_eq_true, Bool.not_eq_false, reduceCtorEq, MS_sW, CS_sW, sW_r, sW_n, sW_w, cls_sW, fi_sW, fr_sW, la_sW, ra_sW, len_sW, ls_sW, own_sW, n_sW, uc_sW, us_sW, sW_sfi, sW_sla, sW_sLA, sW_sls, sW_spay, sW_sia, sW_sIA, ne_eq, cls_sfi, fr_sfi, ia_sfi, la_sfi, ra_sfi, len_sfi, ls_sfi, own_sfi, n_sfi, uc_sfi, us_sfi, cls_sia, fi_sia, fr_sia, la_sia, ra_sia, len_sia, ls_sia, own_sia, n_sia, uc_sia, us_sia, cls_sIA, fi_sIA, fr_sIA, la_sIA, ra_sIA, len_sIA, ls_sIA, own_sIA, n_sIA, uc_sIA, us_sIA, cls_sla, fi_sla, fr_sla, ia_sla, ra_sla, len_sla, ls_sla, own_sla, n_sla, uc_sla, us_sla, cls_sLA, fi_sLA, fr_sLA, ia_sLA, ra_sLA, len_sLA, ls_sLA, own_sLA, n_sLA, uc_sLA, us_sLA, h0, Nat.le_refl]
theorem m160 (hM : MS z) {i : Nat} (h7 : v 7 ≤ 960) (hi : i < v 7) : ZC zG d 160 [.ref 135, .int (nI i)] (sW z v) Q = Q (.inl none) (sW z (sDrop v i)) := by
  have h0 := hM
  unfold MS at h0
  have e : ∀ k, k < 5 * (v 7 - 1) - 5 * i → ZW zG d 160 4 [.ref 135, .int (nI i), .int (nI (5 * i + k))] [] (sW z (sShift v i k)) Q = ZW zG d 160 4 [.ref 135, .int (nI i), .int (nI (5 * i + (k + 1)))] [] (sW z (sShift v i (k + 1))) Q := by
    intro k hk
    refine s160_4.trans ?_
    have h1 : ¬ 5 * (v 7 - 1) ≤ 5 * i + k := by omega
    have h2 : sShift v i k 7 = v 7 := sShift_lo v i k 7 (by omega)
    simp (disch := first | omega | exact hM) only [s160_0, s160_1, s160_2, s160_3, s160_5, s160_6, s160_7, s160_10, s160_12, s160_13, s160_14, s160_15, s160_16, s160_19, s160_20, s160_23, s160_26, s160_27, s160_28, s160_29, s160_32, s160_35, s160_36, s160_37, s160_38, s160_39, s160_40, s160_41, s160_44, s160_47, s160_48, s160_51, s160_53, s160_54, s160_55, s160_56, s160_57, s160_58, zcs_0, zcs_1, zcs_2, zcs_3, zcs_4, zcs_5, zcs_6, zcs_7, znl_i, znl_r, znl_n, Bool.and_true, Bool.true_and, zk_v, zk_n, zk_x, zir_r, zir_n, zclr_i, zclr_r, zclr_n, zclr_d, zclr_l, true_and, and_true, and_self, if_true, if_false, reduceIte, nI_add, pk_mul, zin_ok, zx_nI, nI_lt2, nI_le2, nI_eq2, nI_l0, nI_g0, nI_q0, nI_p0, nI_n0, nI_m1, Nat.add_zero, Nat.zero_add, Nat.reduceAdd, Nat.reduceMul, true_or, or_true, znar_50, bI_0, bI_1, bI_z, bft, nI_z0, nI_z1, lgc_lt, lgc_gt, lgc_le, lgc_ge, lgc_eq, not_true_eq_false, not_false_eq_true, Bool.not_eq_true, Bool.not_eq_false, reduceCtorEq, MS_sW, CS_sW, sW_r, sW_n, sW_w, cls_sW, fi_sW, fr_sW, la_sW, ra_sW, len_sW, ls_sW, own_sW, n_sW, uc_sW, us_sW, sW_sfi, sW_sla, sW_sLA, sW_sls, sW_spay, sW_sia, sW_sIA, ne_eq, cls_sfi, fr_sfi, ia_sfi, la_sfi, ra_sfi, len_sfi, ls_sfi, own_sfi, n_sfi, uc_sfi, us_sfi, cls_sia, fi_sia, fr_sia, la_sia, ra_sia, len_sia, ls_sia, own_sia, n_sia, uc_sia, us_sia, cls_sIA, fi_sIA, fr_sIA, la_sIA, ra_sIA, len_sIA, ls_sIA, own_sIA, n_sIA, uc_sIA, us_sIA, cls_sla, fi_sla, fr_sla, ia_sla, ra_sla, len_sla, ls_sla, own_sla, n_sla, uc_sla, us_sla, cls_sLA, fi_sLA, fr_sLA, ia_sLA, ra_sLA, len_sLA, ls_sLA, own_sLA, n_sLA, uc_sLA, us_sLA, h0, h1, h2, pk_sub]
    have h3 : zu1 (sShift v i k) (1880 + (5 * i + k)) (sShift v i k (1880 + (5 * i + k) + 5)) = sShift v i (k + 1) := by
      funext q
      unfold zu1 sShift
      by_cases hq : q = 1880 + (5 * i + k)
      · rw [if_pos hq, if_neg (by omega), if_pos (by omega), hq]
      · rw [if_neg hq]
        by_cases hq2 : 1880 + 5 * i ≤ q ∧ q < 1880 + 5 * i + k
        · rw [if_pos hq2, if_pos (by omega)]
        · rw [if_neg hq2, if_neg (by omega)]
    rw [h3]
    rfl
  have e0 : sShift v i 0 = v := by
    funext q
    exact if_neg (by omega)
  have e1 := zl_up (P := fun k => ZW zG d 160 4 [.ref 135, .int (nI i), .int (nI (5 * i + k))] [] (sW z (sShift v i k)) Q) (5 * (v 7 - 1) - 5 * i) e
  rw [e0] at e1
  simp (disch := omega) only [e160, s160_0, s160_1, s160_2, s160_3, s160_5, s160_6, s160_7, s160_10, s160_12, s160_13, s160_14, s160_15, s160_16, s160_19, s160_20, s160_23, s160_26, s160_27, s160_28, s160_29, s160_32, s160_35, s160_36, s160_37, s160_38, s160_39, s160_40, s160_41, s160_44, s160_47, s160_48, s160_51, s160_53, s160_54, s160_55, s160_56, s160_57, s160_58, zcs_0, zcs_1, zcs_2, zcs_3, zcs_4, zcs_5, zcs_6, zcs_7, znl_i, znl_r, znl_n, Bool.and_true, Bool.true_and, zk_v, zk_n, zk_x, zir_r, zir_n, zclr_i, zclr_r, zclr_n, zclr_d, zclr_l, true_and, and_true, and_self, if_true, if_false, reduceIte, nI_add, pk_mul, zin_ok, zx_nI, nI_lt2, nI_le2, nI_eq2, nI_l0, nI_g0, nI_q0, nI_p0, nI_n0, nI_m1, Nat.add_zero, Nat.zero_add, Nat.reduceAdd, Nat.reduceMul, true_or, or_true, znar_50, bI_0, bI_1, bI_z, bft, nI_z0, nI_z1, lgc_lt, lgc_gt, lgc_le, lgc_ge, lgc_eq, not_true_eq_false, not_false_eq_true, Bool.not_eq_true, Bool.not_eq_false, reduceCtorEq]
  refine Eq.trans e1 ?_
  refine s160_4.trans ?_
  have h2 : sShift v i (5 * (v 7 - 1) - 5 * i) 7 = v 7 := sShift_lo v i _ 7 (by omega)
  have h1 : 5 * (v 7 - 1) ≤ 5 * i + (5 * (v 7 - 1) - 5 * i) := by omega
  simp (disch := first | omega | exact hM) only [s160_0, s160_1, s160_2, s160_3, s160_5, s160_6, s160_7, s160_10, s160_12, s160_13, s160_14, s160_15, s160_16, s160_19, s160_20, s160_23, s160_26, s160_27, s160_28, s160_29, s160_32, s160_35, s160_36, s160_37, s160_38, s160_39, s160_40, s160_41, s160_44, s160_47, s160_48, s160_51, s160_53, s160_54, s160_55, s160_56, s160_57, s160_58, zcs_0, zcs_1, zcs_2, zcs_3, zcs_4, zcs_5, zcs_6, zcs_7, znl_i, znl_r, znl_n, Bool.and_true, Bool.true_and, zk_v, zk_n, zk_x, zir_r, zir_n, zclr_i, zclr_r, zclr_n, zclr_d, zclr_l, true_and, and_true, and_self, if_true, if_false, reduceIte, nI_add, pk_mul, zin_ok, zx_nI, nI_lt2, nI_le2, nI_eq2, nI_l0, nI_g0, nI_q0, nI_p0, nI_n0, nI_m1, Nat.add_zero, Nat.zero_add, Nat.reduceAdd, Nat.reduceMul, true_or, or_true, znar_50, bI_0, bI_1, bI_z, bft, nI_z0, nI_z1, lgc_lt, lgc_gt, lgc_le, lgc_ge, lgc_eq, not_true_eq_false, not_false_eq_true, Bool.not_eq_true, Bool.not_eq_false, reduceCtorEq, MS_sW, CS_sW, sW_r, sW_n, sW_w, cls_sW, fi_sW, fr_sW, la_sW, ra_sW, len_sW, ls_sW, own_sW, n_sW, uc_sW, us_sW, sW_sfi, sW_sla, sW_sLA, sW_sls, sW_spay, sW_sia, sW_sIA, ne_eq, cls_sfi, fr_sfi, ia_sfi, la_sfi, ra_sfi, len_sfi, ls_sfi, own_sfi, n_sfi, uc_sfi, us_sfi, cls_sia, fi_sia, fr_sia, la_sia, ra_sia, len_sia, ls_sia, own_sia, n_sia, uc_sia, us_sia, cls_sIA, fi_sIA, fr_sIA, la_sIA, ra_sIA, len_sIA, ls_sIA, own_sIA, n_sIA, uc_sIA, us_sIA, cls_sla, fi_sla, fr_sla, ia_sla, ra_sla, len_sla, ls_sla, own_sla, n_sla, uc_sla, us_sla, cls_sLA, fi_sLA, fr_sLA, ia_sLA, ra_sLA, len_sLA, ls_sLA, own_sLA, n_sLA, uc_sLA, us_sLA, h0, h1, h2, pk_sub]
  rfl
theorem m165 (hM : MS z) (hv : ∀ i, v i < 2147483648) (h7 : v 7 ≤ 960) {b a k : Nat} (hb : b < 2147483648) (ha : a < 2147483648) (hk : k < 2147483648) : ZC zG (d + 1) 165 [.ref 135, .int (nI b), .int (nI a), .int (nI k)] (sW z v) Q = Q (.inl (some (.int (bI (sOwe v b a k))))) (sW z v) := by
  have h0 := hM
  unfold MS at h0
  have e : ∀ m j, j + m = v 7 → anyN (fun i => decide (v (1880 + 5 * i) = b) && decide (v (1880 + 5 * i + 1) = a) && decide (v (1880 + 5 * i + 2) = k)) j = false → ZW zG (d + 1) 165 3 [.ref 135, .int (nI b), .int (nI a), .int (nI k), .int (nI j)] [] (sW z v) Q = Q (.inl (some (.int (bI (sOwe v b a k))))) (sW z v) := by
    intro m
    induction m with
    | zero =>
      intro j hj hn
      refine s165_3.trans ?_
      have h1 : v 7 ≤ j := by omega
      simp (disch := first | omega | exact hM | exact hv _) only [s165_0, s165_1, s165_5, s165_6, s165_9, s165_11, s165_12, s165_15, s165_16, s165_18, s165_19, s165_22, s165_23, s165_26, s165_27, s165_29, s165_30, s165_33, s165_34, s165_37, s165_38, s165_40, s165_41, s165_44, s165_45, s165_48, s165_49, s165_50, s165_53, s165_56, s165_57, zcs_0, zcs_1, zcs_2, zcs_3, zcs_4, zcs_5, zcs_6, zcs_7, znl_i, znl_r, znl_n, Bool.and_true, Bool.true_and, zk_v, zk_n, zk_x, zir_r, zir_n, zclr_i, zclr_r, zclr_n, zclr_d, zclr_l, true_and, and_true, and_self, if_true, if_false, reduceIte, nI_add, pk_mul, zin_ok, zx_nI, nI_lt2, nI_le2, nI_eq2, nI_l0, nI_g0, nI_q0, nI_p0, nI_n0, nI_m1, Nat.add_zero, Nat.zero_add, Nat.reduceAdd, Nat.reduceMul, true_or, or_true, znar_50, bI_0, bI_1, bI_z, bft, nI_z0, nI_z1, lgc_lt, lgc_gt, lgc_le, lgc_ge, lgc_eq, not_true_eq_false, not_false_eq_true, Bool.not_eq_true, Bool.not_eq_false, reduceCtorEq, MS_sW, CS_sW, sW_r, sW_n, sW_w, cls_sW, fi_sW, fr_sW, la_sW, ra_sW, len_sW, ls_sW, own_sW, n_sW, uc_sW, us_sW, sW_sfi, sW_sla, sW_sLA, sW_sls, sW_spay, sW_sia, sW_sIA, ne_eq, cls_sfi, fr_sfi, ia_sfi, la_sfi, ra_sfi, len_sfi, ls_sfi, own_sfi, n_sfi, uc_sfi, us_sfi, cls_sia, fi_sia, fr_sia, la_sia, ra_sia, len_sia, ls_sia, own_sia, n_sia, uc_sia, us_sia, cls_sIA, fi_sIA, fr_sIA, la_sIA, ra_sIA, len_sIA, ls_sIA, own_sIA, n_sIA, uc_sIA, us_sIA, cls_sla, fi_sla, fr_sla, ia_sla, ra_sla, len_sla, ls_sla, own_sla, n_sla, uc_sla, us_sla, cls_sLA, fi_sLA, fr_sLA, ia_sLA, ra_sLA, len_sLA, ls_sLA, own_sLA, n_sLA, uc_sLA, us_sLA, h0, h1, m159]
      have : j = v 7 := by omega
      subst this
      unfold sOwe
      rw [hn]
      rfl
    | succ m ih =>
      intro j hj hn
      refine s165_3.trans ?_
      have h1 : ¬ v 7 ≤ j := by omega
      simp (disch := first | omega | exact hM | exact hv _) only [s165_0, s165_1, s165_5, s165_6, s165_9, s165_11, s165_12, s165_15, s165_16, s165_18, s165_19, s165_22, s165_23, s165_26, s165_27, s165_29, s165_30, s165_33, s165_34, s165_37, s165_38, s165_40, s165_41, s165_44, s165_45, s165_48, s165_49, s165_50, s165_53, s165_56, s165_57, zcs_0, zcs_1, zcs_2, zcs_3, zcs_4, zcs_5, zcs_6, zcs_7, znl_i, znl_r, znl_n, Bool.and_true, Bool.true_and, zk_v, zk_n, zk_x, zir_r, zir_n, zclr_i, zclr_r, zclr_n, zclr_d, zclr_l, true_and, and_true, and_self, if_true, if_false, reduceIte, nI_add, pk_mul, zin_ok, zx_nI, nI_lt2, nI_le2, nI_eq2, nI_l0, nI_g0, nI_q0, nI_p0, nI_n0, nI_m1, Nat.add_zero, Nat.zero_add, Nat.reduceAdd, Nat.reduceMul, true_or, or_true, znar_50, bI_0, bI_1, bI_z, bft, nI_z0, nI_z1, lgc_lt, lgc_gt, lgc_le, lgc_ge, lgc_eq, not_true_eq_false, not_false_eq_true, Bool.not_eq_true, Bool.not_eq_false, reduceCtorEq, MS_sW, CS_sW, sW_r, sW_n, sW_w, cls_sW, fi_sW, fr_sW, la_sW, ra_sW, len_sW, ls_sW, own_sW, n_sW, uc_sW, us_sW, sW_sfi, sW_sla, sW_sLA, sW_sls, sW_spay, sW_sia, sW_sIA, ne_eq, cls_sfi, fr_sfi, ia_sfi, la_sfi, ra_sfi, len_sfi, ls_sfi, own_sfi, n_sfi, uc_sfi, us_sfi, cls_sia, fi_sia, fr_sia, la_sia, ra_sia, len_sia, ls_sia, own_sia, n_sia, uc_sia, us_sia, cls_sIA, fi_sIA, fr_sIA, la_sIA, ra_sIA, len_sIA, ls_sIA, own_sIA, n_sIA, uc_sIA, us_sIA, cls_sla, fi_sla, fr_sla, ia_sla, ra_sla, len_sla, ls_sla, own_sla, n_sla, uc_sla, us_sla, cls_sLA, fi_sLA, fr_sLA, ia_sLA, ra_sLA, len_sLA, ls_sLA, own_sLA, n_sLA, uc_sLA, us_sLA, h0, h1, m159]
      have hs : anyN (fun i => decide (v (1880 + 5 * i) = b) && decide (v (1880 + 5 * i + 1) = a) && decide (v (1880 + 5 * i + 2) = k)) (j + 1) = (decide (v (1880 + 5 * j) = b) && decide (v (1880 + 5 * j + 1) = a) && decide (v (1880 + 5 * j + 2) = k)) := by
        conv => lhs; unfold anyN
        rw [hn, Bool.false_or]
      by_cases c1 : v (1880 + 5 * j) = b
      · by_cases c2 : v (1880 + 5 * j + 1) = a
        · by_cases c3 : v (1880 + 5 * j + 2) = k
          · have : sOwe v b a k = true := (anyN_t _ _).mpr ⟨j, by omega, by simp [c1, c2, c3]⟩
            simp [c1, c2, c3, this, bI, nI_one]
          · simp only [c1, c2, c3, not_true_eq_false, not_false_eq_true, if_true, if_false]
            exact ih (j + 1) (by omega) (by rw [hs]; simp [c3])
        · simp only [c1, c2, not_true_eq_false, not_false_eq_true, if_true, if_false]
          exact ih (j + 1) (by omega) (by rw [hs]; simp [c2])
      · simp only [c1, not_true_eq_false, not_false_eq_true, if_true, if_false]
        exact ih (j + 1) (by omega) (by rw [hs]; simp [c1])
  simp (disch := omega) only [e165, s165_0, s165_1, s165_5, s165_6, s165_9, s165_11, s165_12, s165_15, s165_16, s165_18, s165_19, s165_22, s165_23, s165_26, s165_27, s165_29, s165_30, s165_33, s165_34, s165_37, s165_38, s165_40, s165_41, s165_44, s165_45, s165_48, s165_49, s165_50, s165_53, s165_56, s165_57, zcs_0, zcs_1, zcs_2, zcs_3, zcs_4, zcs_5, zcs_6, zcs_7, znl_i, znl_r, znl_n, Bool.and_true, Bool.true_and, zk_v, zk_n, zk_x, zir_r, zir_n, zclr_i, zclr_r, zclr_n, zclr_d, zclr_l, true_and, and_true, and_self, if_true, if_false, reduceIte]
  exact e (v 7) 0 (by omega) rfl
theorem m166 (hM : MS z) (h7 : v 7 < 960) {b a k u y : Nat} : ZC zG d 166 [.ref 135, .int (nI b), .int (nI a), .int (nI k), .int (nI u), .int (nI y)] (sW z v) Q = Q (.inl none) (sW z (sComes v b a k u y)) := by
  have h0 := hM
  unfold MS at h0
  have n1 : ∀ (f : Nat → Nat) (k x : Nat), 1880 ≤ k → zu1 f k x 7 = f 7 := fun f k x hk => zu1_n f k x (by omega)
  simp (disch := first | omega | exact hM) only [e166, s166_0, s166_3, s166_4, s166_5, s166_8, s166_10, s166_11, s166_12, s166_13, s166_15, s166_16, s166_19, s166_21, s166_22, s166_23, s166_24, s166_27, s166_29, s166_30, s166_31, s166_32, s166_33, s166_34, s166_37, s166_39, s166_40, s166_41, s166_42, s166_43, s166_44, s166_47, s166_49, s166_50, s166_51, s166_53, s166_54, s166_55, s166_58, s166_60, s166_61, s166_62, s166_64, s166_65, s166_66, s166_69, s166_71, s166_72, s166_73, s166_74, s166_75, s166_76, zcs_0, zcs_1, zcs_2, zcs_3, zcs_4, zcs_5, zcs_6, zcs_7, znl_i, znl_r, znl_n, Bool.and_true, Bool.true_and, zk_v, zk_n, zk_x, zir_r, zir_n, zclr_i, zclr_r, zclr_n, zclr_d, zclr_l, true_and, and_true, and_self, if_true, if_false, reduceIte, nI_add, pk_mul, zin_ok, zx_nI, nI_lt2, nI_le2, nI_eq2, nI_l0, nI_g0, nI_q0, nI_p0, nI_n0, nI_m1, Nat.add_zero, Nat.zero_add, Nat.reduceAdd, Nat.reduceMul, true_or, or_true, znar_50, bI_0, bI_1, bI_z, bft, nI_z0, nI_z1, lgc_lt, lgc_gt, lgc_le, lgc_ge, lgc_eq, not_true_eq_false, not_false_eq_true, Bool.not_eq_true, Bool.not_eq_false, reduceCtorEq, MS_sW, CS_sW, sW_r, sW_n, sW_w, cls_sW, fi_sW, fr_sW, la_sW, ra_sW, len_sW, ls_sW, own_sW, n_sW, uc_sW, us_sW, sW_sfi, sW_sla, sW_sLA, sW_sls, sW_spay, sW_sia, sW_sIA, ne_eq, cls_sfi, fr_sfi, ia_sfi, la_sfi, ra_sfi, len_sfi, ls_sfi, own_sfi, n_sfi, uc_sfi, us_sfi, cls_sia, fi_sia, fr_sia, la_sia, ra_sia, len_sia, ls_sia, own_sia, n_sia, uc_sia, us_sia, cls_sIA, fi_sIA, fr_sIA, la_sIA, ra_sIA, len_sIA, ls_sIA, own_sIA, n_sIA, uc_sIA, us_sIA, cls_sla, fi_sla, fr_sla, ia_sla, ra_sla, len_sla, ls_sla, own_sla, n_sla, uc_sla, us_sla, cls_sLA, fi_sLA, fr_sLA, ia_sLA, ra_sLA, len_sLA, ls_sLA, own_sLA, n_sLA, uc_sLA, us_sLA, h0, n1]
  rfl
theorem m157 (hM : MS z) {a b : Nat} (ha : a < 16) (hb : b < 16) : ZC zG d 157 [.ref 135, .int (nI a), .int (nI b)] (sW z v) Q = Q (.inl none) (sW z (sMeets v a b)) := by
  have h0 := hM
  unfold MS at h0
  simp (disch := first | omega | exact hM) only [e157, s157_0, s157_1, s157_4, s157_7, s157_8, s157_9, s157_10, s157_11, s157_12, s157_13, s157_14, s157_15, s157_16, s157_17, s157_20, s157_23, s157_24, s157_25, s157_26, s157_27, s157_28, s157_29, s157_30, s157_31, s157_32, zcs_0, zcs_1, zcs_2, zcs_3, zcs_4, zcs_5, zcs_6, zcs_7, znl_i, znl_r, znl_n, Bool.and_true, Bool.true_and, zk_v, zk_n, zk_x, zir_r, zir_n, zclr_i, zclr_r, zclr_n, zclr_d, zclr_l, true_and, and_true, and_self, if_true, if_false, reduceIte, nI_add, pk_mul, zin_ok, zx_nI, nI_lt2, nI_le2, nI_eq2, nI_l0, nI_g0, nI_q0, nI_p0, nI_n0, nI_m1, Nat.add_zero, Nat.zero_add, Nat.reduceAdd, Nat.reduceMul, true_or, or_true, znar_50, bI_0, bI_1, bI_z, bft, nI_z0, nI_z1, lgc_lt, lgc_gt, lgc_le, lgc_ge, lgc_eq, not_true_eq_false, not_false_eq_true, Bool.not_eq_true, Bool.not_eq_false, reduceCtorEq, MS_sW, CS_sW, sW_r, sW_n, sW_w, cls_sW, fi_sW, fr_sW, la_sW, ra_sW, len_sW, ls_sW, own_sW, n_sW, uc_sW, us_sW, sW_sfi, sW_sla, sW_sLA, sW_sls, sW_spay, sW_sia, sW_sIA, ne_eq, cls_sfi, fr_sfi, ia_sfi, la_sfi, ra_sfi, len_sfi, ls_sfi, own_sfi, n_sfi, uc_sfi, us_sfi, cls_sia, fi_sia, fr_sia, la_sia, ra_sia, len_sia, ls_sia, own_sia, n_sia, uc_sia, us_sia, cls_sIA, fi_sIA, fr_sIA, la_sIA, ra_sIA, len_sIA, ls_sIA, own_sIA, n_sIA, uc_sIA, us_sIA, cls_sla, fi_sla, fr_sla, ia_sla, ra_sla, len_sla, ls_sla, own_sla, n_sla, uc_sla, us_sla, cls_sLA, fi_sLA, fr_sLA, ia_sLA, ra_sLA, len_sLA, ls_sLA, own_sLA, n_sLA, uc_sLA, us_sLA, h0, nI_sh1, nI_or]
  rfl
end MD
