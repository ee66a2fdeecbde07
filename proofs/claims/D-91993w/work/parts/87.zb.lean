set_option maxRecDepth 100000
/-! the component: count, feed -/
section CF
variable {d : Nat} {B : Nat → Prop} {z : ZH} {Q : ZQ} {v : Nat → Nat} {L : Nat → List (Nat × Nat)} {t hl kn rl : Nat} {ha ra da ea : Nat → Nat} {K : Nat}
theorem c7 (h0 : CS z) {x : Int32} {T : Nat → Int32} {tp : Nat} (ht : tp + 4 ≤ 1400) : ZC zG d 7 [.ref 100, .int x] (sfi (sIA z 127 T) 100 6 (nI tp)) Q = Q (.inl none) (sfi (sIA z 127 (zu1 (zu1 (zu1 (zu1 T tp (byt x 0)) (tp + 1) (byt x 1)) (tp + 2) (byt x 2)) (tp + 3) (byt x 3))) 100 6 (nI (tp + 4))) := by
  unfold CS at h0
  have e24 : nI 24 + (-8) = nI 16 := by decide
  have e16 : nI 16 + (-8) = nI 8 := by decide
  have e8 : nI 8 + (-8) = nI 0 := by decide
  have e0 : nI 0 + (-8) = -8 := by decide
  have en : (-8 : Int32) < 0 := by decide
  have b0 : (x >>> (nI 24 &&& 31)).toInt8.toInt32 = byt x 0 := rfl
  have b1 : (x >>> (nI 16 &&& 31)).toInt8.toInt32 = byt x 1 := rfl
  have b2 : (x >>> (nI 8 &&& 31)).toInt8.toInt32 = byt x 2 := rfl
  have b3 : (x >>> (nI 0 &&& 31)).toInt8.toInt32 = byt x 3 := rfl
  have step : ∀ (k : Int32) (T : Nat → Int32) (q : Nat), q < 1400 → ¬ k < 0 → ZW zG d 7 3 [.ref 100, .int x, .int k] [] (sfi (sIA z 127 T) 100 6 (nI q)) Q = ZW zG d 7 3 [.ref 100, .int x, .int (k + (-8))] [] (sfi (sIA z 127 (zu1 T q ((x >>> (k &&& 31)).toInt8.toInt32))) 100 6 (nI (q + 1))) Q := by
    intro k T q hq hk
    refine s7_3.trans ?_
    simp (disch := first | omega) only [s7_0, s7_2, s7_4, s7_7, s7_8, s7_11, s7_12, s7_15, s7_16, s7_17, s7_18, s7_19, s7_20, s7_21, s7_22, s7_25, s7_26, s7_27, s7_30, s7_33, s7_36, zcs_0, zcs_1, zcs_2, zcs_3, zcs_4, zcs_5, zcs_6, zcs_7, znl_i, znl_r, znl_n, Bool.and_true, Bool.true_and, zk_v, zk_n, zk_x, zir_r, zir_n, zclr_i, zclr_r, zclr_n, zclr_d, zclr_l, true_and, and_true, and_self, if_true, if_false, reduceIte, nI_add, pk_mul, zin_ok, zx_nI, nI_lt2, nI_le2, nI_eq2, nI_l0, nI_g0, nI_q0, nI_p0, nI_n0, nI_m1, Nat.add_zero, Nat.zero_add, Nat.reduceAdd, Nat.reduceMul, true_or, or_true, znar_50, bI_0, bI_1, bI_z, bft, nI_z0, nI_z1, lgc_lt, lgc_gt, lgc_le, lgc_ge, lgc_eq, not_true_eq_false, not_false_eq_true, Bool.not_eq_true, Bool.not_eq_false, reduceCtorEq, MS_sW, CS_sW, sW_r, sW_n, sW_w, cls_sW, fi_sW, fr_sW, la_sW, ra_sW, len_sW, ls_sW, own_sW, n_sW, uc_sW, us_sW, sW_sfi, sW_sla, sW_sLA, sW_sls, sW_spay, sW_sia, sW_sIA, ne_eq, cls_sfi, fr_sfi, ia_sfi, la_sfi, ra_sfi, len_sfi, ls_sfi, own_sfi, n_sfi, uc_sfi, us_sfi, cls_sia, fi_sia, fr_sia, la_sia, ra_sia, len_sia, ls_sia, own_sia, n_sia, uc_sia, us_sia, cls_sIA, fi_sIA, fr_sIA, la_sIA, ra_sIA, len_sIA, ls_sIA, own_sIA, n_sIA, uc_sIA, us_sIA, cls_sla, fi_sla, fr_sla, ia_sla, ra_sla, len_sla, ls_sla, own_sla, n_sla, uc_sla, us_sla, cls_sLA, fi_sLA, fr_sLA, ia_sLA, ra_sLA, len_sLA, ls_sLA, own_sLA, n_sLA, uc_sLA, us_sLA, h0, hk, fi_sfi, zu2_s, znar_52, sfi_sia, sfi_sfi, sIA_sia]
  have p24 : ¬ nI 24 < 0 := by decide
  have p16 : ¬ nI 16 < 0 := by decide
  have p8 : ¬ nI 8 < 0 := by decide
  have p0 : ¬ nI 0 < 0 := by decide
  simp only [e7, s7_0, s7_2, zcs_0, zcs_1, zcs_2, zcs_3, zcs_4, zcs_5, zcs_6, zcs_7, znl_i, znl_r, znl_n, Bool.and_true, Bool.true_and, zk_v, zk_n, zk_x, zir_r, zir_n, zclr_i, zclr_r, zclr_n, zclr_d, zclr_l, true_and, and_true, and_self, if_true, if_false, reduceIte]
  rw [step _ _ _ (by omega) p24, e24, step _ _ _ (by omega) p16, e16, step _ _ _ (by omega) p8, e8, step _ _ _ (by omega) p0, e0, b0, b1, b2, b3]
  refine s7_3.trans ?_
  simp (disch := omega) only [s7_0, s7_2, s7_4, s7_7, s7_8, s7_11, s7_12, s7_15, s7_16, s7_17, s7_18, s7_19, s7_20, s7_21, s7_22, s7_25, s7_26, s7_27, s7_30, s7_33, s7_36, zcs_0, zcs_1, zcs_2, zcs_3, zcs_4, zcs_5, zcs_6, zcs_7, znl_i, znl_r, znl_n, Bool.and_true, Bool.true_and, zk_v, zk_n, zk_x, zir_r, zir_n, zclr_i, zclr_r, zclr_n, zclr_d, zclr_l, true_and, and_true, and_self, if_true, if_false, reduceIte, en]
theorem tpF_s (T : Nat → Int32) (tp : Nat) (xs : Nat → Int32) (n : Nat) : zu1 (tpF T tp xs n) (tp + n) (byt (xs (n / 4)) (n % 4)) = tpF T tp xs (n + 1) := by
  funext q
  unfold zu1 tpF
  by_cases hq : q = tp + n
  · rw [if_pos hq, if_pos (by omega), hq, Nat.add_sub_cancel_left]
  · rw [if_neg hq]
    by_cases hq2 : tp ≤ q ∧ q < tp + n
    · rw [if_pos hq2, if_pos (by omega)]
    · rw [if_neg hq2, if_neg (by omega)]
theorem tpF_4 (T : Nat → Int32) (tp : Nat) (xs : Nat → Int32) (i : Nat) : zu1 (zu1 (zu1 (zu1 (tpF T tp xs (4 * i)) (tp + 4 * i) (byt (xs i) 0)) (tp + 4 * i + 1) (byt (xs i) 1)) (tp + 4 * i + 2) (byt (xs i) 2)) (tp + 4 * i + 3) (byt (xs i) 3) = tpF T tp xs (4 * i + 4) := by
  have h0 := tpF_s T tp xs (4 * i)
  have h1 := tpF_s T tp xs (4 * i + 1)
  have h2 := tpF_s T tp xs (4 * i + 2)
  have h3 := tpF_s T tp xs (4 * i + 3)
  rw [show 4 * i / 4 = i by omega, show 4 * i % 4 = 0 by omega] at h0
  rw [show (4 * i + 1) / 4 = i by omega, show (4 * i + 1) % 4 = 1 by omega, show tp + (4 * i + 1) = tp + 4 * i + 1 by omega] at h1
  rw [show (4 * i + 2) / 4 = i by omega, show (4 * i + 2) % 4 = 2 by omega, show tp + (4 * i + 2) = tp + 4 * i + 2 by omega] at h2
  rw [show (4 * i + 3) / 4 = i by omega, show (4 * i + 3) % 4 = 3 by omega, show tp + (4 * i + 3) = tp + 4 * i + 3 by omega] at h3
  rw [h0, h1, h2, h3]
theorem c6n (h0 : CS z) {a b c e f : Int32} {tp : Nat} (ht : tp ≤ 1400) (hp : zfi z 100 6 = nI tp) (h : 1400 < tp + 20) : ZC zG (d + 1) 6 [.ref 100, .int a, .int b, .int c, .int e, .int f] z Q = Q (.inl (some (.int (-1)))) z := by
  unfold CS at h0
  have g1 : ¬ tp + 20 ≤ 1400 := by omega
  simp (disch := omega) only [e6, s6_0, s6_1, s6_4, s6_6, s6_7, s6_10, s6_13, s6_14, s6_15, s6_16, s6_17, s6_20, s6_21, s6_22, s6_25, s6_26, s6_27, s6_30, s6_31, s6_33, s6_36, s6_37, s6_39, s6_42, s6_43, s6_46, zcs_0, zcs_1, zcs_2, zcs_3, zcs_4, zcs_5, zcs_6, zcs_7, znl_i, znl_r, znl_n, Bool.and_true, Bool.true_and, zk_v, zk_n, zk_x, zir_r, zir_n, zclr_i, zclr_r, zclr_n, zclr_d, zclr_l, true_and, and_true, and_self, if_true, if_false, reduceIte, nI_add, pk_mul, zin_ok, zx_nI, nI_lt2, nI_le2, nI_eq2, nI_l0, nI_g0, nI_q0, nI_p0, nI_n0, nI_m1, Nat.add_zero, Nat.zero_add, Nat.reduceAdd, Nat.reduceMul, true_or, or_true, znar_50, bI_0, bI_1, bI_z, bft, nI_z0, nI_z1, lgc_lt, lgc_gt, lgc_le, lgc_ge, lgc_eq, not_true_eq_false, not_false_eq_true, Bool.not_eq_true, Bool.not_eq_false, reduceCtorEq, h0, hp, g1]
theorem c6 (h0 : CS z) {a b c e f : Int32} {tp : Nat} (hp : zfi z 100 6 = nI tp) (h : tp + 20 ≤ 1400) (g : Nat → Int32) : ZC zG (d + 1) 6 [.ref 100, .int a, .int b, .int c, .int e, .int f] z Q = Q (.inl (some (.int (nI (tp + 20))))) (sfi (sIA z 127 (tpF (zia z 127) tp (fv5 a b c e f g) 20)) 100 6 (nI (tp + 20))) := by
  have ez : z = sfi (sIA z 127 (tpF (zia z 127) tp (fv5 a b c e f g) 0)) 100 6 (nI tp) := by
    have e1 : tpF (zia z 127) tp (fv5 a b c e f g) 0 = zia z 127 := by
      funext q
      exact if_neg (by omega)
    rw [e1, sIA_self, ← hp, sfi_self]
  have st : ∀ i (x : Int32), i < 5 → fv5 a b c e f g i = x → ∀ d Q, ZC zG d 7 [.ref 100, .int x] (sfi (sIA z 127 (tpF (zia z 127) tp (fv5 a b c e f g) (4 * i))) 100 6 (nI (tp + 4 * i))) Q = Q (.inl none) (sfi (sIA z 127 (tpF (zia z 127) tp (fv5 a b c e f g) (4 * i + 4))) 100 6 (nI (tp + 4 * i + 4))) := by
    intro i x hi hx d Q
    rw [c7 h0 (by omega), ← tpF_4, hx]
  have s0 := fun d Q => st 0 a (by omega) rfl d Q
  have s1 := fun d Q => st 1 b (by omega) rfl d Q
  have s2 := fun d Q => st 2 c (by omega) rfl d Q
  have s3 := fun d Q => st 3 e (by omega) rfl d Q
  have s4 := fun d Q => st 4 f (by omega) rfl d Q
  simp only [Nat.reduceMul, Nat.reduceAdd, Nat.add_zero, Nat.add_assoc] at s0 s1 s2 s3 s4
  unfold CS at h0
  conv => lhs; rw [ez]
  simp (disch := omega) only [e6, s6_0, s6_1, s6_4, s6_6, s6_7, s6_10, s6_13, s6_14, s6_15, s6_16, s6_17, s6_20, s6_21, s6_22, s6_25, s6_26, s6_27, s6_30, s6_31, s6_33, s6_36, s6_37, s6_39, s6_42, s6_43, s6_46, zcs_0, zcs_1, zcs_2, zcs_3, zcs_4, zcs_5, zcs_6, zcs_7, znl_i, znl_r, znl_n, Bool.and_true, Bool.true_and, zk_v, zk_n, zk_x, zir_r, zir_n, zclr_i, zclr_r, zclr_n, zclr_d, zclr_l, true_and, and_true, and_self, if_true, if_false, reduceIte, nI_add, pk_mul, zin_ok, zx_nI, nI_lt2, nI_le2, nI_eq2, nI_l0, nI_g0, nI_q0, nI_p0, nI_n0, nI_m1, Nat.add_zero, Nat.zero_add, Nat.reduceAdd, Nat.reduceMul, true_or, or_true, znar_50, bI_0, bI_1, bI_z, bft, nI_z0, nI_z1, lgc_lt, lgc_gt, lgc_le, lgc_ge, lgc_eq, not_true_eq_false, not_false_eq_true, Bool.not_eq_true, Bool.not_eq_false, reduceCtorEq, MS_sW, CS_sW, sW_r, sW_n, sW_w, cls_sW, fi_sW, fr_sW, la_sW, ra_sW, len_sW, ls_sW, own_sW, n_sW, uc_sW, us_sW, sW_sfi, sW_sla, sW_sLA, sW_sls, sW_spay, sW_sia, sW_sIA, ne_eq, cls_sfi, fr_sfi, ia_sfi, la_sfi, ra_sfi, len_sfi, ls_sfi, own_sfi, n_sfi, uc_sfi, us_sfi, cls_sia, fi_sia, fr_sia, la_sia, ra_sia, len_sia, ls_sia, own_sia, n_sia, uc_sia, us_sia, cls_sIA, fi_sIA, fr_sIA, la_sIA, ra_sIA, len_sIA, ls_sIA, own_sIA, n_sIA, uc_sIA, us_sIA, cls_sla, fi_sla, fr_sla, ia_sla, ra_sla, len_sla, ls_sla, own_sla, n_sla, uc_sla, us_sla, cls_sLA, fi_sLA, fr_sLA, ia_sLA, ra_sLA, len_sLA, ls_sLA, own_sLA, n_sLA, uc_sLA, us_sLA, h0, fi_sfi, zu2_s, h, s0, s1, s2, s3, s4, Nat.add_assoc]
end CF

