set_option maxRecDepth 100000
/-! the component: worth, over, round, may -/
section CQ
variable {d : Nat} {B : Nat → Prop} {z : ZH} {Q : ZQ} {v : Nat → Nat} {L : Nat → List (Nat × Nat)} {t hl kn rl : Nat} {ha ra da ea : Nat → Nat} {K : Nat}
variable {a dy n : Nat} {hs : Nat → Nat}
theorem c32 (h : NW B z v L t hl kn rl ha ra da ea) {x : Int32} : ZC zG (d + 1) 32 [.ref 100, .int x] z Q = Q (.inl (some (.int (bI (dyOK v x))))) z := by
  obtain ⟨h0, ⟨h1, h2, h3, h4⟩, hH, hR, hD, hK, h9, hE, h6⟩ := h
  unfold CS at h0
  simp (disch := omega) only [e32, s32_0, s32_1, s32_2, s32_3, s32_6, s32_9, s32_10, s32_13, s32_16, zcs_0, zcs_1, zcs_2, zcs_3, zcs_4, zcs_5, zcs_6, zcs_7, znl_i, znl_r, znl_n, Bool.and_true, Bool.true_and, zk_v, zk_n, zk_x, zir_r, zir_n, zclr_i, zclr_r, zclr_n, zclr_d, zclr_l, true_and, and_true, and_self, if_true, if_false, reduceIte, nI_add, pk_mul, zin_ok, zx_nI, nI_lt2, nI_le2, nI_eq2, nI_l0, nI_g0, nI_q0, nI_p0, nI_n0, nI_m1, Nat.add_zero, Nat.zero_add, Nat.reduceAdd, Nat.reduceMul, true_or, or_true, znar_50, bI_0, bI_1, bI_z, bft, nI_z0, nI_z1, lgc_lt, lgc_gt, lgc_le, lgc_ge, lgc_eq, not_true_eq_false, not_false_eq_true, Bool.not_eq_true, Bool.not_eq_false, reduceCtorEq, h0, h6, c2]
  rfl
theorem c31n (h : NW B z v L t hl kn rl ha ra da ea) {a x : Int32} (hc : (zin a (v 0) && dyOK v x) = false) : ZC zG (d + 3) 31 [.ref 100, .int a, .int x] z Q = Q (.inl (some (.int (nI 0)))) z := by
  have h0 := h.1
  unfold CS at h0
  have c := fun d Q a => c14 (d := d) (Q := Q) h (a := a)
  have c' := fun d Q x => c32 (d := d) (Q := Q) h (x := x)
  cases h1 : zin a (v 0) with
  | false => simp (disch := omega) only [e31, s31_0, s31_1, s31_2, s31_5, s31_8, s31_9, s31_10, s31_13, s31_16, s31_17, s31_18, s31_19, s31_22, s31_23, s31_24, s31_27, s31_28, s31_31, s31_34, s31_35, s31_38, s31_41, s31_42, s31_45, s31_48, s31_49, zcs_0, zcs_1, zcs_2, zcs_3, zcs_4, zcs_5, zcs_6, zcs_7, znl_i, znl_r, znl_n, Bool.and_true, Bool.true_and, zk_v, zk_n, zk_x, zir_r, zir_n, zclr_i, zclr_r, zclr_n, zclr_d, zclr_l, true_and, and_true, and_self, if_true, if_false, reduceIte, nI_add, pk_mul, zin_ok, zx_nI, nI_lt2, nI_le2, nI_eq2, nI_l0, nI_g0, nI_q0, nI_p0, nI_n0, nI_m1, Nat.add_zero, Nat.zero_add, Nat.reduceAdd, Nat.reduceMul, true_or, or_true, znar_50, bI_0, bI_1, bI_z, bft, nI_z0, nI_z1, lgc_lt, lgc_gt, lgc_le, lgc_ge, lgc_eq, not_true_eq_false, not_false_eq_true, Bool.not_eq_true, Bool.not_eq_false, reduceCtorEq, h0, c, h1]
  | true =>
    rw [h1, Bool.true_and] at hc
    simp (disch := omega) only [e31, s31_0, s31_1, s31_2, s31_5, s31_8, s31_9, s31_10, s31_13, s31_16, s31_17, s31_18, s31_19, s31_22, s31_23, s31_24, s31_27, s31_28, s31_31, s31_34, s31_35, s31_38, s31_41, s31_42, s31_45, s31_48, s31_49, zcs_0, zcs_1, zcs_2, zcs_3, zcs_4, zcs_5, zcs_6, zcs_7, znl_i, znl_r, znl_n, Bool.and_true, Bool.true_and, zk_v, zk_n, zk_x, zir_r, zir_n, zclr_i, zclr_r, zclr_n, zclr_d, zclr_l, true_and, and_true, and_self, if_true, if_false, reduceIte, nI_add, pk_mul, zin_ok, zx_nI, nI_lt2, nI_le2, nI_eq2, nI_l0, nI_g0, nI_q0, nI_p0, nI_n0, nI_m1, Nat.add_zero, Nat.zero_add, Nat.reduceAdd, Nat.reduceMul, true_or, or_true, znar_50, bI_0, bI_1, bI_z, bft, nI_z0, nI_z1, lgc_lt, lgc_gt, lgc_le, lgc_ge, lgc_eq, not_true_eq_false, not_false_eq_true, Bool.not_eq_true, Bool.not_eq_false, reduceCtorEq, h0, c, h1, c', hc]
theorem c31 (h : NW B z v L t hl kn rl ha ra da ea) (nB : ∀ q, B q → ¬ (122 ≤ q ∧ q ≤ 130)) (hT : wT v) (hv : ∀ i, v i < 1073741824) (hWD : wD v) (h8 : v 8 ≤ 600) (hav : a < v 0) (hy : dyOK v (nI dy) = true) (hdy : dy ≤ 399)
    (H : ∀ z2, cFr z z2 → aL z2 ha a dy (rdHs v a) (rdN v a) → zfi z2 122 6 = nI (rdB v a dy).1 → zfi z2 122 7 = nI (rdB v a dy).2.1 → zfi z2 122 8 = nI (rdB v a dy).2.2 → Q (.inl (some (.int (nI 1)))) z2) : ZC zG (d + 4) 31 [.ref 100, .int (nI a), .int (nI dy)] z Q := by
  have hv2 : ∀ i, v i < 2147483648 := fun i => by have := hv i; omega
  have h16 : v 0 ≤ 16 := hT.1
  have h7 := hWD.1
  have c := fun d Q a => c14 (d := d) (Q := Q) h (a := a)
  have c' := fun d Q x => c32 (d := d) (Q := Q) h (x := x)
  have z1 : zin (nI a) (v 0) = true := by rw [zin_nI (by omega)]; exact decide_eq_true hav
  have wle := fun b => sWorth_le (v := v) (a := nI a) (b := b) (v 7) (fun i hi => (hWD.2 i hi).2.2.1)
  have w4 : ∀ h, sWorth v (nI a) (nI h) (v 7) ≤ 4000 := fun h => by have := wle (nI h); omega
  have hO := rd_OK hv2 hWD h16 a
  have hinc : ∀ i j, i < j → j < rdN v a → rdHs v a i < rdHs v a j := fun i j => by rw [rdN_d, rdHs_d]; exact owL_inc 16 i j
  have h0 := h.1
  unfold CS at h0
  simp (disch := omega) only [e31, s31_0, s31_1, s31_2, s31_5, s31_8, s31_9, s31_10, s31_13, s31_16, s31_17, s31_18, s31_19, s31_22, s31_23, s31_24, s31_27, s31_28, s31_31, s31_34, s31_35, s31_38, s31_41, s31_42, s31_45, s31_48, s31_49, zcs_0, zcs_1, zcs_2, zcs_3, zcs_4, zcs_5, zcs_6, zcs_7, znl_i, znl_r, znl_n, Bool.and_true, Bool.true_and, zk_v, zk_n, zk_x, zir_r, zir_n, zclr_i, zclr_r, zclr_n, zclr_d, zclr_l, true_and, and_true, and_self, if_true, if_false, reduceIte, nI_add, pk_mul, zin_ok, zx_nI, nI_lt2, nI_le2, nI_eq2, nI_l0, nI_g0, nI_q0, nI_p0, nI_n0, nI_m1, Nat.add_zero, Nat.zero_add, Nat.reduceAdd, Nat.reduceMul, true_or, or_true, znar_50, bI_0, bI_1, bI_z, bft, nI_z0, nI_z1, lgc_lt, lgc_gt, lgc_le, lgc_ge, lgc_eq, not_true_eq_false, not_false_eq_true, Bool.not_eq_true, Bool.not_eq_false, reduceCtorEq, c, z1, c', hy, h0]
  refine c96 h nB hav (hs := rdHs v a) (fun z1 f1 g1 => ?_)
  have hN1 := NW_cFr h nB f1
  have k1 := hN1.1
  unfold CS at k1
  simp (disch := omega) only [s31_0, s31_1, s31_2, s31_5, s31_8, s31_9, s31_10, s31_13, s31_16, s31_17, s31_18, s31_19, s31_22, s31_23, s31_24, s31_27, s31_28, s31_31, s31_34, s31_35, s31_38, s31_41, s31_42, s31_45, s31_48, s31_49, zcs_0, zcs_1, zcs_2, zcs_3, zcs_4, zcs_5, zcs_6, zcs_7, znl_i, znl_r, znl_n, Bool.and_true, Bool.true_and, zk_v, zk_n, zk_x, zir_r, zir_n, zclr_i, zclr_r, zclr_n, zclr_d, zclr_l, true_and, and_true, and_self, if_true, if_false, reduceIte, nI_add, pk_mul, zin_ok, zx_nI, nI_lt2, nI_le2, nI_eq2, nI_l0, nI_g0, nI_q0, nI_p0, nI_n0, nI_m1, Nat.add_zero, Nat.zero_add, Nat.reduceAdd, Nat.reduceMul, true_or, or_true, znar_50, bI_0, bI_1, bI_z, bft, nI_z0, nI_z1, lgc_lt, lgc_gt, lgc_le, lgc_ge, lgc_eq, not_true_eq_false, not_false_eq_true, Bool.not_eq_true, Bool.not_eq_false, reduceCtorEq, k1]
  refine c97 hN1 nB hv2 hWD g1 (fun z2 f2 g2 => ?_)
  have f2' := cFr_t f1 f2
  have hN2 := NW_cFr h nB f2'
  have k2 := hN2.1
  unfold CS at k2
  simp (disch := omega) only [s31_0, s31_1, s31_2, s31_5, s31_8, s31_9, s31_10, s31_13, s31_16, s31_17, s31_18, s31_19, s31_22, s31_23, s31_24, s31_27, s31_28, s31_31, s31_34, s31_35, s31_38, s31_41, s31_42, s31_45, s31_48, s31_49, zcs_0, zcs_1, zcs_2, zcs_3, zcs_4, zcs_5, zcs_6, zcs_7, znl_i, znl_r, znl_n, Bool.and_true, Bool.true_and, zk_v, zk_n, zk_x, zir_r, zir_n, zclr_i, zclr_r, zclr_n, zclr_d, zclr_l, true_and, and_true, and_self, if_true, if_false, reduceIte, nI_add, pk_mul, zin_ok, zx_nI, nI_lt2, nI_le2, nI_eq2, nI_l0, nI_g0, nI_q0, nI_p0, nI_n0, nI_m1, Nat.add_zero, Nat.zero_add, Nat.reduceAdd, Nat.reduceMul, true_or, or_true, znar_50, bI_0, bI_1, bI_z, bft, nI_z0, nI_z1, lgc_lt, lgc_gt, lgc_le, lgc_ge, lgc_eq, not_true_eq_false, not_false_eq_true, Bool.not_eq_true, Bool.not_eq_false, reduceCtorEq, k2]
  refine c98 hN2 nB hT hv hWD g2 hO hav (by omega) (fun f hf => ?_)
  have f3' := cFr_t f2' (cFr_sIA (cFr_refl z2) (show 123 ≤ 124 ∧ 124 ≤ 130 ∧ ¬ 124 = 127 by omega) f)
  have hN3 := NW_cFr h nB f3'
  have k3 := hN3.1
  unfold CS at k3
  simp (disch := omega) only [s31_0, s31_1, s31_2, s31_5, s31_8, s31_9, s31_10, s31_13, s31_16, s31_17, s31_18, s31_19, s31_22, s31_23, s31_24, s31_27, s31_28, s31_31, s31_34, s31_35, s31_38, s31_41, s31_42, s31_45, s31_48, s31_49, zcs_0, zcs_1, zcs_2, zcs_3, zcs_4, zcs_5, zcs_6, zcs_7, znl_i, znl_r, znl_n, Bool.and_true, Bool.true_and, zk_v, zk_n, zk_x, zir_r, zir_n, zclr_i, zclr_r, zclr_n, zclr_d, zclr_l, true_and, and_true, and_self, if_true, if_false, reduceIte, nI_add, pk_mul, zin_ok, zx_nI, nI_lt2, nI_le2, nI_eq2, nI_l0, nI_g0, nI_q0, nI_p0, nI_n0, nI_m1, Nat.add_zero, Nat.zero_add, Nat.reduceAdd, Nat.reduceMul, true_or, or_true, znar_50, bI_0, bI_1, bI_z, bft, nI_z0, nI_z1, lgc_lt, lgc_gt, lgc_le, lgc_ge, lgc_eq, not_true_eq_false, not_false_eq_true, Bool.not_eq_true, Bool.not_eq_false, reduceCtorEq, k3]
  refine c102 hN3 nB (aL_124 g2 (by omega) f) hO hinc w4 (fun S l hS hl => by rw [ia_sIA, zu1_s]; exact hf S l hS hl) (fun z4 f4 g4 q1 q2 q3 => ?_)
  simp (disch := omega) only [s31_0, s31_1, s31_2, s31_5, s31_8, s31_9, s31_10, s31_13, s31_16, s31_17, s31_18, s31_19, s31_22, s31_23, s31_24, s31_27, s31_28, s31_31, s31_34, s31_35, s31_38, s31_41, s31_42, s31_45, s31_48, s31_49, zcs_0, zcs_1, zcs_2, zcs_3, zcs_4, zcs_5, zcs_6, zcs_7, znl_i, znl_r, znl_n, Bool.and_true, Bool.true_and, zk_v, zk_n, zk_x, zir_r, zir_n, zclr_i, zclr_r, zclr_n, zclr_d, zclr_l, true_and, and_true, and_self, if_true, if_false, reduceIte, nI_add, pk_mul, zin_ok, zx_nI, nI_lt2, nI_le2, nI_eq2, nI_l0, nI_g0, nI_q0, nI_p0, nI_n0, nI_m1, Nat.add_zero, Nat.zero_add, Nat.reduceAdd, Nat.reduceMul, true_or, or_true, znar_50, bI_0, bI_1, bI_z, bft, nI_z0, nI_z1, lgc_lt, lgc_gt, lgc_le, lgc_ge, lgc_eq, not_true_eq_false, not_false_eq_true, Bool.not_eq_true, Bool.not_eq_false, reduceCtorEq, nI_one, eq_self]
  exact H z4 (cFr_t f3' f4) g4 q1 q2 q3

theorem c30 (h : NW B z v L t hl kn rl ha ra da ea) (nB : ∀ q, B q → ¬ (122 ≤ q ∧ q ≤ 130)) (hT : wT v) (hv : ∀ i, v i < 1073741824) (hWD : wD v) (h8 : v 8 ≤ 600) {a x : Int32} (H : ∀ z2, cFr z z2 → Q (.inl (some (.int (rWth v a x)))) z2) : ZC zG (d + 5) 30 [.ref 100, .int a, .int x] z Q := by
  have hv2 : ∀ i, v i < 2147483648 := fun i => by have := hv i; omega
  have h0 := h.1
  unfold CS at h0
  unfold rWth at H
  cases hc : (zin a (v 0) && dyOK v x) with
  | false =>
    rw [hc, if_neg (by decide)] at H
    have cr := fun d Q => c31n (d := d) (Q := Q) h hc
    simp (disch := omega) only [e30, s30_0, s30_1, s30_2, s30_3, s30_6, s30_9, s30_10, s30_13, s30_16, s30_19, s30_21, zcs_0, zcs_1, zcs_2, zcs_3, zcs_4, zcs_5, zcs_6, zcs_7, znl_i, znl_r, znl_n, Bool.and_true, Bool.true_and, zk_v, zk_n, zk_x, zir_r, zir_n, zclr_i, zclr_r, zclr_n, zclr_d, zclr_l, true_and, and_true, and_self, if_true, if_false, reduceIte, nI_add, pk_mul, zin_ok, zx_nI, nI_lt2, nI_le2, nI_eq2, nI_l0, nI_g0, nI_q0, nI_p0, nI_n0, nI_m1, Nat.add_zero, Nat.zero_add, Nat.reduceAdd, Nat.reduceMul, true_or, or_true, znar_50, bI_0, bI_1, bI_z, bft, nI_z0, nI_z1, lgc_lt, lgc_gt, lgc_le, lgc_ge, lgc_eq, not_true_eq_false, not_false_eq_true, Bool.not_eq_true, Bool.not_eq_false, reduceCtorEq, h0, cr, nI_e0]
    exact H z (cFr_refl z)
  | true =>
    rw [hc, if_pos rfl] at H
    rw [Bool.and_eq_true] at hc
    obtain ⟨i, g1, g2, rfl⟩ := zin_of hc.1
    obtain ⟨y, y1, y2, rfl⟩ := dyOK_of (hv2 6) hc.2
    rw [zx_nI g2, zx_nI (by omega)] at H
    simp (disch := omega) only [e30, s30_0, s30_1, s30_2, s30_3, s30_6, s30_9, s30_10, s30_13, s30_16, s30_19, s30_21, zcs_0, zcs_1, zcs_2, zcs_3, zcs_4, zcs_5, zcs_6, zcs_7, znl_i, znl_r, znl_n, Bool.and_true, Bool.true_and, zk_v, zk_n, zk_x, zir_r, zir_n, zclr_i, zclr_r, zclr_n, zclr_d, zclr_l, true_and, and_true, and_self, if_true, if_false, reduceIte, nI_add, pk_mul, zin_ok, zx_nI, nI_lt2, nI_le2, nI_eq2, nI_l0, nI_g0, nI_q0, nI_p0, nI_n0, nI_m1, Nat.add_zero, Nat.zero_add, Nat.reduceAdd, Nat.reduceMul, true_or, or_true, znar_50, bI_0, bI_1, bI_z, bft, nI_z0, nI_z1, lgc_lt, lgc_gt, lgc_le, lgc_ge, lgc_eq, not_true_eq_false, not_false_eq_true, Bool.not_eq_true, Bool.not_eq_false, reduceCtorEq, h0]
    refine c31 h nB hT hv hWD h8 g1 hc.2 y2 (fun z2 f1 f2 q1 q2 q3 => ?_)
    have k0 := (NW_cFr h nB f1).1
    unfold CS at k0
    simp (disch := omega) only [s30_0, s30_1, s30_2, s30_3, s30_6, s30_9, s30_10, s30_13, s30_16, s30_19, s30_21, zcs_0, zcs_1, zcs_2, zcs_3, zcs_4, zcs_5, zcs_6, zcs_7, znl_i, znl_r, znl_n, Bool.and_true, Bool.true_and, zk_v, zk_n, zk_x, zir_r, zir_n, zclr_i, zclr_r, zclr_n, zclr_d, zclr_l, true_and, and_true, and_self, if_true, if_false, reduceIte, nI_add, pk_mul, zin_ok, zx_nI, nI_lt2, nI_le2, nI_eq2, nI_l0, nI_g0, nI_q0, nI_p0, nI_n0, nI_m1, Nat.add_zero, Nat.zero_add, Nat.reduceAdd, Nat.reduceMul, true_or, or_true, znar_50, bI_0, bI_1, bI_z, bft, nI_z0, nI_z1, lgc_lt, lgc_gt, lgc_le, lgc_ge, lgc_eq, not_true_eq_false, not_false_eq_true, Bool.not_eq_true, Bool.not_eq_false, reduceCtorEq, k0, nI_e1, q3]
    exact H z2 f1
theorem c33 (h : NW B z v L t hl kn rl ha ra da ea) (nB : ∀ q, B q → ¬ (122 ≤ q ∧ q ≤ 130)) (hT : wT v) (hv : ∀ i, v i < 1073741824) (hWD : wD v) (h8 : v 8 ≤ 600) {a x : Int32} (H : ∀ z2, cFr z z2 → Q (.inl (some (.int (rOvr v a x)))) z2) : ZC zG (d + 5) 33 [.ref 100, .int a, .int x] z Q := by
  have hv2 : ∀ i, v i < 2147483648 := fun i => by have := hv i; omega
  have h0 := h.1
  unfold CS at h0
  unfold rOvr at H
  cases hc : (zin a (v 0) && dyOK v x) with
  | false =>
    rw [hc, if_neg (by decide)] at H
    have cr := fun d Q => c31n (d := d) (Q := Q) h hc
    simp (disch := omega) only [e33, s33_0, s33_1, s33_2, s33_3, s33_6, s33_9, s33_10, s33_13, s33_16, s33_19, s33_21, zcs_0, zcs_1, zcs_2, zcs_3, zcs_4, zcs_5, zcs_6, zcs_7, znl_i, znl_r, znl_n, Bool.and_true, Bool.true_and, zk_v, zk_n, zk_x, zir_r, zir_n, zclr_i, zclr_r, zclr_n, zclr_d, zclr_l, true_and, and_true, and_self, if_true, if_false, reduceIte, nI_add, pk_mul, zin_ok, zx_nI, nI_lt2, nI_le2, nI_eq2, nI_l0, nI_g0, nI_q0, nI_p0, nI_n0, nI_m1, Nat.add_zero, Nat.zero_add, Nat.reduceAdd, Nat.reduceMul, true_or, or_true, znar_50, bI_0, bI_1, bI_z, bft, nI_z0, nI_z1, lgc_lt, lgc_gt, lgc_le, lgc_ge, lgc_eq, not_true_eq_false, not_false_eq_true, Bool.not_eq_true, Bool.not_eq_false, reduceCtorEq, h0, cr, nI_e0]
    exact H z (cFr_refl z)
  | true =>
    rw [hc, if_pos rfl] at H
    rw [Bool.and_eq_true] at hc
    obtain ⟨i, g1, g2, rfl⟩ := zin_of hc.1
    obtain ⟨y, y1, y2, rfl⟩ := dyOK_of (hv2 6) hc.2
    rw [zx_nI g2, zx_nI (by omega)] at H
    simp (disch := omega) only [e33, s33_0, s33_1, s33_2, s33_3, s33_6, s33_9, s33_10, s33_13, s33_16, s33_19, s33_21, zcs_0, zcs_1, zcs_2, zcs_3, zcs_4, zcs_5, zcs_6, zcs_7, znl_i, znl_r, znl_n, Bool.and_true, Bool.true_and, zk_v, zk_n, zk_x, zir_r, zir_n, zclr_i, zclr_r, zclr_n, zclr_d, zclr_l, true_and, and_true, and_self, if_true, if_false, reduceIte, nI_add, pk_mul, zin_ok, zx_nI, nI_lt2, nI_le2, nI_eq2, nI_l0, nI_g0, nI_q0, nI_p0, nI_n0, nI_m1, Nat.add_zero, Nat.zero_add, Nat.reduceAdd, Nat.reduceMul, true_or, or_true, znar_50, bI_0, bI_1, bI_z, bft, nI_z0, nI_z1, lgc_lt, lgc_gt, lgc_le, lgc_ge, lgc_eq, not_true_eq_false, not_false_eq_true, Bool.not_eq_true, Bool.not_eq_false, reduceCtorEq, h0]
    refine c31 h nB hT hv hWD h8 g1 hc.2 y2 (fun z2 f1 f2 q1 q2 q3 => ?_)
    have k0 := (NW_cFr h nB f1).1
    unfold CS at k0
    simp (disch := omega) only [s33_0, s33_1, s33_2, s33_3, s33_6, s33_9, s33_10, s33_13, s33_16, s33_19, s33_21, zcs_0, zcs_1, zcs_2, zcs_3, zcs_4, zcs_5, zcs_6, zcs_7, znl_i, znl_r, znl_n, Bool.and_true, Bool.true_and, zk_v, zk_n, zk_x, zir_r, zir_n, zclr_i, zclr_r, zclr_n, zclr_d, zclr_l, true_and, and_true, and_self, if_true, if_false, reduceIte, nI_add, pk_mul, zin_ok, zx_nI, nI_lt2, nI_le2, nI_eq2, nI_l0, nI_g0, nI_q0, nI_p0, nI_n0, nI_m1, Nat.add_zero, Nat.zero_add, Nat.reduceAdd, Nat.reduceMul, true_or, or_true, znar_50, bI_0, bI_1, bI_z, bft, nI_z0, nI_z1, lgc_lt, lgc_gt, lgc_le, lgc_ge, lgc_eq, not_true_eq_false, not_false_eq_true, Bool.not_eq_true, Bool.not_eq_false, reduceCtorEq, k0, nI_e1, q2]
    exact H z2 f1
theorem c34 (h : NW B z v L t hl kn rl ha ra da ea) (nB : ∀ q, B q → ¬ (122 ≤ q ∧ q ≤ 130)) (hT : wT v) (hv : ∀ i, v i < 1073741824) (hWD : wD v) (h8 : v 8 ≤ 600) {a x i : Int32} (H : ∀ z2, cFr z z2 → Q (.inl (some (.int (rRnd v a x i)))) z2) : ZC zG (d + 5) 34 [.ref 100, .int a, .int x, .int i] z Q := by
  have hv2 : ∀ i, v i < 2147483648 := fun i => by have := hv i; omega
  have h0 := h.1
  unfold CS at h0
  unfold rRnd at H
  cases hc : (zin a (v 0) && dyOK v x) with
  | false =>
    rw [hc, if_neg (by decide)] at H
    have cr := fun d Q => c31n (d := d) (Q := Q) h hc
    simp (disch := omega) only [e34, s34_0, s34_1, s34_2, s34_3, s34_6, s34_9, s34_11, s34_12, s34_13, s34_14, s34_15, s34_16, s34_19, s34_22, s34_25, s34_26, s34_27, s34_28, s34_31, s34_34, s34_35, s34_36, s34_37, s34_40, s34_43, s34_44, s34_47, s34_50, s34_51, s34_52, zcs_0, zcs_1, zcs_2, zcs_3, zcs_4, zcs_5, zcs_6, zcs_7, znl_i, znl_r, znl_n, Bool.and_true, Bool.true_and, zk_v, zk_n, zk_x, zir_r, zir_n, zclr_i, zclr_r, zclr_n, zclr_d, zclr_l, true_and, and_true, and_self, if_true, if_false, reduceIte, nI_add, pk_mul, zin_ok, zx_nI, nI_lt2, nI_le2, nI_eq2, nI_l0, nI_g0, nI_q0, nI_p0, nI_n0, nI_m1, Nat.add_zero, Nat.zero_add, Nat.reduceAdd, Nat.reduceMul, true_or, or_true, znar_50, bI_0, bI_1, bI_z, bft, nI_z0, nI_z1, lgc_lt, lgc_gt, lgc_le, lgc_ge, lgc_eq, not_true_eq_false, not_false_eq_true, Bool.not_eq_true, Bool.not_eq_false, reduceCtorEq, h0, cr, nI_e0]
    exact H z (cFr_refl z)
  | true =>
    rw [hc, if_pos rfl] at H
    rw [Bool.and_eq_true] at hc
    obtain ⟨a, g1, g2, rfl⟩ := zin_of hc.1
    obtain ⟨y, y1, y2, rfl⟩ := dyOK_of (hv2 6) hc.2
    rw [zx_nI g2, zx_nI (by omega)] at H
    have hn10 := rdN_le v a
    have hcl := cntB_le (rdB v a y).1 (rdN v a)
    simp (disch := omega) only [e34, s34_0, s34_1, s34_2, s34_3, s34_6, s34_9, s34_11, s34_12, s34_13, s34_14, s34_15, s34_16, s34_19, s34_22, s34_25, s34_26, s34_27, s34_28, s34_31, s34_34, s34_35, s34_36, s34_37, s34_40, s34_43, s34_44, s34_47, s34_50, s34_51, s34_52, zcs_0, zcs_1, zcs_2, zcs_3, zcs_4, zcs_5, zcs_6, zcs_7, znl_i, znl_r, znl_n, Bool.and_true, Bool.true_and, zk_v, zk_n, zk_x, zir_r, zir_n, zclr_i, zclr_r, zclr_n, zclr_d, zclr_l, true_and, and_true, and_self, if_true, if_false, reduceIte, nI_add, pk_mul, zin_ok, zx_nI, nI_lt2, nI_le2, nI_eq2, nI_l0, nI_g0, nI_q0, nI_p0, nI_n0, nI_m1, Nat.add_zero, Nat.zero_add, Nat.reduceAdd, Nat.reduceMul, true_or, or_true, znar_50, bI_0, bI_1, bI_z, bft, nI_z0, nI_z1, lgc_lt, lgc_gt, lgc_le, lgc_ge, lgc_eq, not_true_eq_false, not_false_eq_true, Bool.not_eq_true, Bool.not_eq_false, reduceCtorEq, h0]
    refine c31 h nB hT hv hWD h8 g1 hc.2 y2 (fun z2 f1 f2 q1 q2 q3 => ?_)
    have hN2 := NW_cFr h nB f1
    have k0 := hN2.1
    unfold CS at k0
    have hAn := rdB_lt v a y
    obtain ⟨hN, hN0⟩ := pow10 hn10
    have co : bcI (nI (rdB v a y).1) = nI (cntB (rdB v a y).1 (rdN v a)) := by
      rw [bc_ones ⟨_, by omega, rfl⟩]
      exact onesN_cnt hAn hn10
    cases hi : zin i (cntB (rdB v a y).1 (rdN v a)) with
    | false =>
      rw [hi, if_neg (by decide)] at H
      simp (disch := omega) only [s34_0, s34_1, s34_2, s34_3, s34_6, s34_9, s34_11, s34_12, s34_13, s34_14, s34_15, s34_16, s34_19, s34_22, s34_25, s34_26, s34_27, s34_28, s34_31, s34_34, s34_35, s34_36, s34_37, s34_40, s34_43, s34_44, s34_47, s34_50, s34_51, s34_52, zcs_0, zcs_1, zcs_2, zcs_3, zcs_4, zcs_5, zcs_6, zcs_7, znl_i, znl_r, znl_n, Bool.and_true, Bool.true_and, zk_v, zk_n, zk_x, zir_r, zir_n, zclr_i, zclr_r, zclr_n, zclr_d, zclr_l, true_and, and_true, and_self, if_true, if_false, reduceIte, nI_add, pk_mul, zin_ok, zx_nI, nI_lt2, nI_le2, nI_eq2, nI_l0, nI_g0, nI_q0, nI_p0, nI_n0, nI_m1, Nat.add_zero, Nat.zero_add, Nat.reduceAdd, Nat.reduceMul, true_or, or_true, znar_50, bI_0, bI_1, bI_z, bft, nI_z0, nI_z1, lgc_lt, lgc_gt, lgc_le, lgc_ge, lgc_eq, not_true_eq_false, not_false_eq_true, Bool.not_eq_true, Bool.not_eq_false, reduceCtorEq, k0, nI_e1, q1, c251, co, c2, lin_n, hi]
      exact H z2 f1
    | true =>
      rw [hi, if_pos rfl] at H
      obtain ⟨j, j1, j2, rfl⟩ := zin_of hi
      rw [zx_nI j2] at H
      simp (disch := omega) only [s34_0, s34_1, s34_2, s34_3, s34_6, s34_9, s34_11, s34_12, s34_13, s34_14, s34_15, s34_16, s34_19, s34_22, s34_25, s34_26, s34_27, s34_28, s34_31, s34_34, s34_35, s34_36, s34_37, s34_40, s34_43, s34_44, s34_47, s34_50, s34_51, s34_52, zcs_0, zcs_1, zcs_2, zcs_3, zcs_4, zcs_5, zcs_6, zcs_7, znl_i, znl_r, znl_n, Bool.and_true, Bool.true_and, zk_v, zk_n, zk_x, zir_r, zir_n, zclr_i, zclr_r, zclr_n, zclr_d, zclr_l, true_and, and_true, and_self, if_true, if_false, reduceIte, nI_add, pk_mul, zin_ok, zx_nI, nI_lt2, nI_le2, nI_eq2, nI_l0, nI_g0, nI_q0, nI_p0, nI_n0, nI_m1, Nat.add_zero, Nat.zero_add, Nat.reduceAdd, Nat.reduceMul, true_or, or_true, znar_50, bI_0, bI_1, bI_z, bft, nI_z0, nI_z1, lgc_lt, lgc_gt, lgc_le, lgc_ge, lgc_eq, not_true_eq_false, not_false_eq_true, Bool.not_eq_true, Bool.not_eq_false, reduceCtorEq, k0, nI_e1, q1, c251, co, c2, lin_n, hi]
      have hg := bSt_gP (v := v) (a := nI a) (c := rdC v a) (dy := y) (hs := rdHs v a) (n := rdN v a) (p := a) (S := 2 ^ rdN v a)
      have hb180 : (rdB v a y).2.1 ≤ 180 := by
        rcases bSt_ok (v := v) (a := nI a) (c := rdC v a) (dy := y) (hs := rdHs v a) (n := rdN v a) (p := a) (2 ^ rdN v a) with ⟨_, w⟩ | ⟨_, _, w1, w2⟩
        · unfold rdB; omega
        · unfold rdB
          rw [w1] at w2 ⊢
          exact gG_180 rA_OK w2
      refine c106 hN2 nB hT hv hWD f2 (rd_OK hv2 hWD hT.1 a) g1 (by omega) hAn q1 q2 hb180 hg.1 (fun z3 u1 u2 => ?_)
      have c0 := (NW_cFr h nB (cFr_t f1 u1)).1
      unfold CS at c0
      have u3 := u2 j j1
      simp (disch := omega) only [s34_0, s34_1, s34_2, s34_3, s34_6, s34_9, s34_11, s34_12, s34_13, s34_14, s34_15, s34_16, s34_19, s34_22, s34_25, s34_26, s34_27, s34_28, s34_31, s34_34, s34_35, s34_36, s34_37, s34_40, s34_43, s34_44, s34_47, s34_50, s34_51, s34_52, zcs_0, zcs_1, zcs_2, zcs_3, zcs_4, zcs_5, zcs_6, zcs_7, znl_i, znl_r, znl_n, Bool.and_true, Bool.true_and, zk_v, zk_n, zk_x, zir_r, zir_n, zclr_i, zclr_r, zclr_n, zclr_d, zclr_l, true_and, and_true, and_self, if_true, if_false, reduceIte, nI_add, pk_mul, zin_ok, zx_nI, nI_lt2, nI_le2, nI_eq2, nI_l0, nI_g0, nI_q0, nI_p0, nI_n0, nI_m1, Nat.add_zero, Nat.zero_add, Nat.reduceAdd, Nat.reduceMul, true_or, or_true, znar_50, bI_0, bI_1, bI_z, bft, nI_z0, nI_z1, lgc_lt, lgc_gt, lgc_le, lgc_ge, lgc_eq, not_true_eq_false, not_false_eq_true, Bool.not_eq_true, Bool.not_eq_false, reduceCtorEq, c0, u3]
      exact H z3 (cFr_t f1 u1)
/-! may -/
theorem c35n (h : NW B z v L t hl kn rl ha ra da ea) {s a x : Int32} (hc : (zin s 4 && (zin a (v 0) && dyOK v x)) = false) : ZC zG (d + 3) 35 [.ref 100, .int s, .int a, .int x] z Q = Q (.inl (some (.int (-2)))) z := by
  have h0 := h.1
  unfold CS at h0
  have c := fun d Q a => c14 (d := d) (Q := Q) h (a := a)
  have c' := fun d Q x => c32 (d := d) (Q := Q) h (x := x)
  cases h1 : zin s 4 with
  | false => simp (disch := omega) only [e35, s35_0, s35_1, s35_4, s35_7, s35_8, s35_9, s35_12, s35_15, s35_16, s35_17, s35_20, s35_23, s35_25, s35_26, s35_27, s35_30, s35_31, s35_32, s35_34, s35_36, s35_39, s35_39r, s35_42, s35_44, s35_45, s35_46, s35_49, s35_50, s35_51, s35_54, s35_55, s35_57, s35_58, s35_60, s35_61, s35_62, s35_65, s35_67, s35_68, s35_72, s35_74, s35_77, s35_80, s35_82, s35_84, s35_87, s35_88, s35_89, s35_92, s35_95, s35_98, s35_99, s35_100, s35_101, s35_104, s35_107, s35_108, s35_109, s35_111, s35_113, s35_116, s35_117, s35_119, s35_121, s35_123, s35_126, s35_129, s35_130, s35_133, s35_136, s35_137, s35_139, s35_142, s35_143, s35_146, s35_147, s35_148, s35_149, s35_152, s35_154, s35_156, s35_157, s35_159, s35_162, s35_165, s35_167, s35_170, s35_172, s35_174, s35_177, s35_180, s35_181, s35_182, s35_184, s35_185, s35_187, s35_188, s35_189, s35_191, s35_192, s35_194, s35_197, s35_199, s35_202, s35_205, s35_206, zcs_0, zcs_1, zcs_2, zcs_3, zcs_4, zcs_5, zcs_6, zcs_7, znl_i, znl_r, znl_n, Bool.and_true, Bool.true_and, zk_v, zk_n, zk_x, zir_r, zir_n, zclr_i, zclr_r, zclr_n, zclr_d, zclr_l, true_and, and_true, and_self, if_true, if_false, reduceIte, nI_add, pk_mul, zin_ok, zx_nI, nI_lt2, nI_le2, nI_eq2, nI_l0, nI_g0, nI_q0, nI_p0, nI_n0, nI_m1, Nat.add_zero, Nat.zero_add, Nat.reduceAdd, Nat.reduceMul, true_or, or_true, znar_50, bI_0, bI_1, bI_z, bft, nI_z0, nI_z1, lgc_lt, lgc_gt, lgc_le, lgc_ge, lgc_eq, not_true_eq_false, not_false_eq_true, Bool.not_eq_true, Bool.not_eq_false, reduceCtorEq, h0, c1, h1]
  | true =>
    cases h2 : zin a (v 0) with
    | false => simp (disch := omega) only [e35, s35_0, s35_1, s35_4, s35_7, s35_8, s35_9, s35_12, s35_15, s35_16, s35_17, s35_20, s35_23, s35_25, s35_26, s35_27, s35_30, s35_31, s35_32, s35_34, s35_36, s35_39, s35_39r, s35_42, s35_44, s35_45, s35_46, s35_49, s35_50, s35_51, s35_54, s35_55, s35_57, s35_58, s35_60, s35_61, s35_62, s35_65, s35_67, s35_68, s35_72, s35_74, s35_77, s35_80, s35_82, s35_84, s35_87, s35_88, s35_89, s35_92, s35_95, s35_98, s35_99, s35_100, s35_101, s35_104, s35_107, s35_108, s35_109, s35_111, s35_113, s35_116, s35_117, s35_119, s35_121, s35_123, s35_126, s35_129, s35_130, s35_133, s35_136, s35_137, s35_139, s35_142, s35_143, s35_146, s35_147, s35_148, s35_149, s35_152, s35_154, s35_156, s35_157, s35_159, s35_162, s35_165, s35_167, s35_170, s35_172, s35_174, s35_177, s35_180, s35_181, s35_182, s35_184, s35_185, s35_187, s35_188, s35_189, s35_191, s35_192, s35_194, s35_197, s35_199, s35_202, s35_205, s35_206, zcs_0, zcs_1, zcs_2, zcs_3, zcs_4, zcs_5, zcs_6, zcs_7, znl_i, znl_r, znl_n, Bool.and_true, Bool.true_and, zk_v, zk_n, zk_x, zir_r, zir_n, zclr_i, zclr_r, zclr_n, zclr_d, zclr_l, true_and, and_true, and_self, if_true, if_false, reduceIte, nI_add, pk_mul, zin_ok, zx_nI, nI_lt2, nI_le2, nI_eq2, nI_l0, nI_g0, nI_q0, nI_p0, nI_n0, nI_m1, Nat.add_zero, Nat.zero_add, Nat.reduceAdd, Nat.reduceMul, true_or, or_true, znar_50, bI_0, bI_1, bI_z, bft, nI_z0, nI_z1, lgc_lt, lgc_gt, lgc_le, lgc_ge, lgc_eq, not_true_eq_false, not_false_eq_true, Bool.not_eq_true, Bool.not_eq_false, reduceCtorEq, h0, c1, h1, c, h2]
    | true =>
      rw [h1, h2] at hc
      simp only [Bool.true_and] at hc
      simp (disch := omega) only [e35, s35_0, s35_1, s35_4, s35_7, s35_8, s35_9, s35_12, s35_15, s35_16, s35_17, s35_20, s35_23, s35_25, s35_26, s35_27, s35_30, s35_31, s35_32, s35_34, s35_36, s35_39, s35_39r, s35_42, s35_44, s35_45, s35_46, s35_49, s35_50, s35_51, s35_54, s35_55, s35_57, s35_58, s35_60, s35_61, s35_62, s35_65, s35_67, s35_68, s35_72, s35_74, s35_77, s35_80, s35_82, s35_84, s35_87, s35_88, s35_89, s35_92, s35_95, s35_98, s35_99, s35_100, s35_101, s35_104, s35_107, s35_108, s35_109, s35_111, s35_113, s35_116, s35_117, s35_119, s35_121, s35_123, s35_126, s35_129, s35_130, s35_133, s35_136, s35_137, s35_139, s35_142, s35_143, s35_146, s35_147, s35_148, s35_149, s35_152, s35_154, s35_156, s35_157, s35_159, s35_162, s35_165, s35_167, s35_170, s35_172, s35_174, s35_177, s35_180, s35_181, s35_182, s35_184, s35_185, s35_187, s35_188, s35_189, s35_191, s35_192, s35_194, s35_197, s35_199, s35_202, s35_205, s35_206, zcs_0, zcs_1, zcs_2, zcs_3, zcs_4, zcs_5, zcs_6, zcs_7, znl_i, znl_r, znl_n, Bool.and_true, Bool.true_and, zk_v, zk_n, zk_x, zir_r, zir_n, zclr_i, zclr_r, zclr_n, zclr_d, zclr_l, true_and, and_true, and_self, if_true, if_false, reduceIte, nI_add, pk_mul, zin_ok, zx_nI, nI_lt2, nI_le2, nI_eq2, nI_l0, nI_g0, nI_q0, nI_p0, nI_n0, nI_m1, Nat.add_zero, Nat.zero_add, Nat.reduceAdd, Nat.reduceMul, true_or, or_true, znar_50, bI_0, bI_1, bI_z, bft, nI_z0, nI_z1, lgc_lt, lgc_gt, lgc_le, lgc_ge, lgc_eq, not_true_eq_false, not_false_eq_true, Bool.not_eq_true, Bool.not_eq_false, reduceCtorEq, h0, c1, h1, c, h2, c', hc]
theorem c35m (h : NW B z v L t hl kn rl ha ra da ea) {s : Nat} {a x : Int32} (hs : s < 4) (hc : (zin a (v 0) && dyOK v x) = true) (hm : zfr z (131 + s) 0 = .null) : ZC zG (d + 3) 35 [.ref 100, .int (nI s), .int a, .int x] z Q = Q (.inl (some (.int (-6)))) z := by
  obtain ⟨r1, r2⟩ := slR h.1 hs
  have c := fun d Q a => c14 (d := d) (Q := Q) h (a := a)
  have c' := fun d Q x => c32 (d := d) (Q := Q) h (x := x)
  have z1 : zin (nI s) 4 = true := by rw [zin_nI (by omega)]; exact decide_eq_true hs
  rw [Bool.and_eq_true] at hc
  have h0 := h.1
  unfold CS at h0
  simp (disch := omega) only [e35, s35_0, s35_1, s35_4, s35_7, s35_8, s35_9, s35_12, s35_15, s35_16, s35_17, s35_20, s35_23, s35_25, s35_26, s35_27, s35_30, s35_31, s35_32, s35_34, s35_36, s35_39, s35_39r, s35_42, s35_44, s35_45, s35_46, s35_49, s35_50, s35_51, s35_54, s35_55, s35_57, s35_58, s35_60, s35_61, s35_62, s35_65, s35_67, s35_68, s35_72, s35_74, s35_77, s35_80, s35_82, s35_84, s35_87, s35_88, s35_89, s35_92, s35_95, s35_98, s35_99, s35_100, s35_101, s35_104, s35_107, s35_108, s35_109, s35_111, s35_113, s35_116, s35_117, s35_119, s35_121, s35_123, s35_126, s35_129, s35_130, s35_133, s35_136, s35_137, s35_139, s35_142, s35_143, s35_146, s35_147, s35_148, s35_149, s35_152, s35_154, s35_156, s35_157, s35_159, s35_162, s35_165, s35_167, s35_170, s35_172, s35_174, s35_177, s35_180, s35_181, s35_182, s35_184, s35_185, s35_187, s35_188, s35_189, s35_191, s35_192, s35_194, s35_197, s35_199, s35_202, s35_205, s35_206, zcs_0, zcs_1, zcs_2, zcs_3, zcs_4, zcs_5, zcs_6, zcs_7, znl_i, znl_r, znl_n, Bool.and_true, Bool.true_and, zk_v, zk_n, zk_x, zir_r, zir_n, zclr_i, zclr_r, zclr_n, zclr_d, zclr_l, true_and, and_true, and_self, if_true, if_false, reduceIte, nI_add, pk_mul, zin_ok, zx_nI, nI_lt2, nI_le2, nI_eq2, nI_l0, nI_g0, nI_q0, nI_p0, nI_n0, nI_m1, Nat.add_zero, Nat.zero_add, Nat.reduceAdd, Nat.reduceMul, true_or, or_true, znar_50, bI_0, bI_1, bI_z, bft, nI_z0, nI_z1, lgc_lt, lgc_gt, lgc_le, lgc_ge, lgc_eq, not_true_eq_false, not_false_eq_true, Bool.not_eq_true, Bool.not_eq_false, reduceCtorEq, c1, z1, c, hc.1, c', hc.2, h0, r1, r2, hm]
theorem c35 (h : NW B z v L t hl kn rl ha ra da ea) (nB : ∀ q, B q → ¬ (122 ≤ q ∧ q ≤ 130)) (hT : wT v) (hv : ∀ i, v i < 1073741824) (hWD : wD v) (h8 : v 8 ≤ 600) {s N q : Nat} (hs : s < 4) (hN : N ≤ 60) (hav : a < v 0) (hy : dyOK v (nI dy) = true) (hdy : dy ≤ 399) (hsl : slot z (131 + s) q N) (hq : ¬ (122 ≤ q ∧ q ≤ 130)) {nm : Nat → Int64} (hnm : ∀ i, i < N → slV z q i = nm i)
    (H : ∀ z2, cFr z z2 → Q (.inl (some (.int (rMayN v a dy nm N)))) z2) : ZC zG (d + 4) 35 [.ref 100, .int (nI s), .int (nI a), .int (nI dy)] z Q := by
  have hv2 : ∀ i, v i < 2147483648 := fun i => by have := hv i; omega
  have h16 : v 0 ≤ 16 := hT.1
  obtain ⟨r1, r2⟩ := slR h.1 hs
  have c := fun d Q a => c14 (d := d) (Q := Q) h (a := a)
  have c' := fun d Q x => c32 (d := d) (Q := Q) h (x := x)
  have z1 : zin (nI s) 4 = true := by rw [zin_nI (by omega)]; exact decide_eq_true hs
  have z2 : zin (nI a) (v 0) = true := by rw [zin_nI (by omega)]; exact decide_eq_true hav
  have h0 := h.1
  unfold CS at h0
  have hsl0 := hsl.2.1
  simp (disch := omega) only [e35, s35_0, s35_1, s35_4, s35_7, s35_8, s35_9, s35_12, s35_15, s35_16, s35_17, s35_20, s35_23, s35_25, s35_26, s35_27, s35_30, s35_31, s35_32, s35_34, s35_36, s35_39, s35_39r, s35_42, s35_44, s35_45, s35_46, s35_49, s35_50, s35_51, s35_54, s35_55, s35_57, s35_58, s35_60, s35_61, s35_62, s35_65, s35_67, s35_68, s35_72, s35_74, s35_77, s35_80, s35_82, s35_84, s35_87, s35_88, s35_89, s35_92, s35_95, s35_98, s35_99, s35_100, s35_101, s35_104, s35_107, s35_108, s35_109, s35_111, s35_113, s35_116, s35_117, s35_119, s35_121, s35_123, s35_126, s35_129, s35_130, s35_133, s35_136, s35_137, s35_139, s35_142, s35_143, s35_146, s35_147, s35_148, s35_149, s35_152, s35_154, s35_156, s35_157, s35_159, s35_162, s35_165, s35_167, s35_170, s35_172, s35_174, s35_177, s35_180, s35_181, s35_182, s35_184, s35_185, s35_187, s35_188, s35_189, s35_191, s35_192, s35_194, s35_197, s35_199, s35_202, s35_205, s35_206, zcs_0, zcs_1, zcs_2, zcs_3, zcs_4, zcs_5, zcs_6, zcs_7, znl_i, znl_r, znl_n, Bool.and_true, Bool.true_and, zk_v, zk_n, zk_x, zir_r, zir_n, zclr_i, zclr_r, zclr_n, zclr_d, zclr_l, true_and, and_true, and_self, if_true, if_false, reduceIte, nI_add, pk_mul, zin_ok, zx_nI, nI_lt2, nI_le2, nI_eq2, nI_l0, nI_g0, nI_q0, nI_p0, nI_n0, nI_m1, Nat.add_zero, Nat.zero_add, Nat.reduceAdd, Nat.reduceMul, true_or, or_true, znar_50, bI_0, bI_1, bI_z, bft, nI_z0, nI_z1, lgc_lt, lgc_gt, lgc_le, lgc_ge, lgc_eq, not_true_eq_false, not_false_eq_true, Bool.not_eq_true, Bool.not_eq_false, reduceCtorEq, c1, z1, c, z2, c', hy, h0, r1, r2, hsl0]
  refine c96 h nB hav (hs := rdHs v a) (fun z3 f1 g1' => ?_)
  have hN3 := NW_cFr h nB f1
  have k0 := hN3.1
  unfold CS at k0
  have hsl3 : slot z3 (131 + s) q N := by
    obtain ⟨s1, s2, s3, s4⟩ := hsl
    refine ⟨by rw [f1.1.1]; exact s1, by rw [f1.2.2.2.1 _ _ (by omega)]; exact s2, by rw [f1.1.1]; exact s3, by rw [f1.1.2.2.2.1]; exact s4⟩
  have hnm3 : ∀ i, i < N → slV z3 q i = nm i := fun i hi => by
    rw [← hnm i hi]
    unfold slV
    rw [f1.1.1, f1.1.2.1, f1.2.2.2.2 q (by omega)]
  have cm := fun d Q => c110 (d := d) (Q := Q) hsl3
  have cn := fun d Q i hi => c111 (d := d) (Q := Q) hsl3 (i := i) hi (by omega)
  have ct := hN3.2.2.1.1.2
  have h01 := hN3.2.1.1
  have c63' := fun d Q => c63 (d := d) (Q := Q) hN3.2.2.1
  have cat := fun d Q k hk => c17 (d := d) (Q := Q) hN3 (k := k) hk
  have hL3 := hN3.ls
  have hD3 := hN3.2.2.2.2.1
  unfold rMayN at H
  have H1 := H z3 f1
  have c2l := fun d Q x lo hi => c2 (d := d) (z := z3) (Q := Q) (x := x) (lo := lo) (hi := hi)
  simp (disch := omega) only [s35_0, s35_1, s35_4, s35_7, s35_8, s35_9, s35_12, s35_15, s35_16, s35_17, s35_20, s35_23, s35_25, s35_26, s35_27, s35_30, s35_31, s35_32, s35_34, s35_36, s35_39, s35_39r, s35_42, s35_44, s35_45, s35_46, s35_49, s35_50, s35_51, s35_54, s35_55, s35_57, s35_58, s35_60, s35_61, s35_62, s35_65, s35_67, s35_68, s35_72, s35_74, s35_77, s35_80, s35_82, s35_84, s35_87, s35_88, s35_89, s35_92, s35_95, s35_98, s35_99, s35_100, s35_101, s35_104, s35_107, s35_108, s35_109, s35_111, s35_113, s35_116, s35_117, s35_119, s35_121, s35_123, s35_126, s35_129, s35_130, s35_133, s35_136, s35_137, s35_139, s35_142, s35_143, s35_146, s35_147, s35_148, s35_149, s35_152, s35_154, s35_156, s35_157, s35_159, s35_162, s35_165, s35_167, s35_170, s35_172, s35_174, s35_177, s35_180, s35_181, s35_182, s35_184, s35_185, s35_187, s35_188, s35_189, s35_191, s35_192, s35_194, s35_197, s35_199, s35_202, s35_205, s35_206, zcs_0, zcs_1, zcs_2, zcs_3, zcs_4, zcs_5, zcs_6, zcs_7, znl_i, znl_r, znl_n, Bool.and_true, Bool.true_and, zk_v, zk_n, zk_x, zir_r, zir_n, zclr_i, zclr_r, zclr_n, zclr_d, zclr_l, true_and, and_true, and_self, if_true, if_false, reduceIte, nI_add, pk_mul, zin_ok, zx_nI, nI_lt2, nI_le2, nI_eq2, nI_l0, nI_g0, nI_q0, nI_p0, nI_n0, nI_m1, Nat.add_zero, Nat.zero_add, Nat.reduceAdd, Nat.reduceMul, true_or, or_true, znar_50, bI_0, bI_1, bI_z, bft, nI_z0, nI_z1, lgc_lt, lgc_gt, lgc_le, lgc_ge, lgc_eq, not_true_eq_false, not_false_eq_true, Bool.not_eq_true, Bool.not_eq_false, reduceCtorEq, k0, cat]
  have key : ∀ m k had p t' (x9 : Value), k + m = N → mayS v a dy nm k = some (had, p, t') → ZW zG (d + 4) 35 70 [.ref 100, .int (nI s), .int (nI a), .int (nI dy), .ref (131 + s), .int (nI t'), .int (nI had), .ref (ha p), .int (nI k), x9] [] z3 Q := by
    intro m
    induction m with
    | zero =>
      intro k had p t' x9 hk hs1
      have e : k = N := by omega
      subst e
      rw [hs1] at H1
      refine Eq.mpr s35_70 ?_
      simp (disch := omega) only [s35_0, s35_1, s35_4, s35_7, s35_8, s35_9, s35_12, s35_15, s35_16, s35_17, s35_20, s35_23, s35_25, s35_26, s35_27, s35_30, s35_31, s35_32, s35_34, s35_36, s35_39, s35_39r, s35_42, s35_44, s35_45, s35_46, s35_49, s35_50, s35_51, s35_54, s35_55, s35_57, s35_58, s35_60, s35_61, s35_62, s35_65, s35_67, s35_68, s35_72, s35_74, s35_77, s35_80, s35_82, s35_84, s35_87, s35_88, s35_89, s35_92, s35_95, s35_98, s35_99, s35_100, s35_101, s35_104, s35_107, s35_108, s35_109, s35_111, s35_113, s35_116, s35_117, s35_119, s35_121, s35_123, s35_126, s35_129, s35_130, s35_133, s35_136, s35_137, s35_139, s35_142, s35_143, s35_146, s35_147, s35_148, s35_149, s35_152, s35_154, s35_156, s35_157, s35_159, s35_162, s35_165, s35_167, s35_170, s35_172, s35_174, s35_177, s35_180, s35_181, s35_182, s35_184, s35_185, s35_187, s35_188, s35_189, s35_191, s35_192, s35_194, s35_197, s35_199, s35_202, s35_205, s35_206, zcs_0, zcs_1, zcs_2, zcs_3, zcs_4, zcs_5, zcs_6, zcs_7, znl_i, znl_r, znl_n, Bool.and_true, Bool.true_and, zk_v, zk_n, zk_x, zir_r, zir_n, zclr_i, zclr_r, zclr_n, zclr_d, zclr_l, true_and, and_true, and_self, if_true, if_false, reduceIte, nI_add, pk_mul, zin_ok, zx_nI, nI_lt2, nI_le2, nI_eq2, nI_l0, nI_g0, nI_q0, nI_p0, nI_n0, nI_m1, Nat.add_zero, Nat.zero_add, Nat.reduceAdd, Nat.reduceMul, true_or, or_true, znar_50, bI_0, bI_1, bI_z, bft, nI_z0, nI_z1, lgc_lt, lgc_gt, lgc_le, lgc_ge, lgc_eq, not_true_eq_false, not_false_eq_true, Bool.not_eq_true, Bool.not_eq_false, reduceCtorEq, k0, cm, r2, hsl3.1, Nat.le_refl]
      exact H1
    | succ m ih =>
      intro k had p t' x9 hk hs1
      obtain ⟨b1, b2, b3⟩ := mayS_ok h16 (by omega) hav k had p t' hs1
      have g1 : ¬ N ≤ k := by omega
      have hst : mayS v a dy nm (k + 1) = (if linB (nm k) (lN 0) (nI (v 0) - nI 1).toInt64 = true then (if had.testBit (zx (nm k).toInt32) = true ∨ sWorth v (nI a) (nI (zx (nm k).toInt32)) (v 7) = 0 then none else (if aA v (rdC v a (zx (nm k).toInt32)) dy (zx (nm k).toInt32) (t' + dD v p (zx (nm k).toInt32)) < 100000 then some (had ||| 2 ^ zx (nm k).toInt32, zx (nm k).toInt32, aA v (rdC v a (zx (nm k).toInt32)) dy (zx (nm k).toInt32) (t' + dD v p (zx (nm k).toInt32))) else none)) else none) := by
        conv => lhs; unfold mayS
        rw [hs1]
      have fail : mayS v a dy nm (k + 1) = none → Q (.inl (some (.int (nI 0)))) z3 := fun h => by
        have := mayS_no h m
        rw [show k + 1 + m = N by omega] at this
        rw [this] at H1
        exact H1
      have hx := hnm3 k (by omega)
      have cnk := fun d Q => cn d Q k (by omega)
      rw [hx] at cnk
      obtain ⟨_, fp1, _⟩ := hN3.2.2.1.fld b2
      refine Eq.mpr s35_70 ?_
      generalize nm k = x at hst cnk
      cases h1 : linB x (lN 0) (nI (v 0) - nI 1).toInt64 with
      | false =>
        rw [h1, if_neg (by decide)] at hst
        simp (disch := omega) only [s35_0, s35_1, s35_4, s35_7, s35_8, s35_9, s35_12, s35_15, s35_16, s35_17, s35_20, s35_23, s35_25, s35_26, s35_27, s35_30, s35_31, s35_32, s35_34, s35_36, s35_39, s35_39r, s35_42, s35_44, s35_45, s35_46, s35_49, s35_50, s35_51, s35_54, s35_55, s35_57, s35_58, s35_60, s35_61, s35_62, s35_65, s35_67, s35_68, s35_72, s35_74, s35_77, s35_80, s35_82, s35_84, s35_87, s35_88, s35_89, s35_92, s35_95, s35_98, s35_99, s35_100, s35_101, s35_104, s35_107, s35_108, s35_109, s35_111, s35_113, s35_116, s35_117, s35_119, s35_121, s35_123, s35_126, s35_129, s35_130, s35_133, s35_136, s35_137, s35_139, s35_142, s35_143, s35_146, s35_147, s35_148, s35_149, s35_152, s35_154, s35_156, s35_157, s35_159, s35_162, s35_165, s35_167, s35_170, s35_172, s35_174, s35_177, s35_180, s35_181, s35_182, s35_184, s35_185, s35_187, s35_188, s35_189, s35_191, s35_192, s35_194, s35_197, s35_199, s35_202, s35_205, s35_206, zcs_0, zcs_1, zcs_2, zcs_3, zcs_4, zcs_5, zcs_6, zcs_7, znl_i, znl_r, znl_n, Bool.and_true, Bool.true_and, zk_v, zk_n, zk_x, zir_r, zir_n, zclr_i, zclr_r, zclr_n, zclr_d, zclr_l, true_and, and_true, and_self, if_true, if_false, reduceIte, nI_add, pk_mul, zin_ok, zx_nI, nI_lt2, nI_le2, nI_eq2, nI_l0, nI_g0, nI_q0, nI_p0, nI_n0, nI_m1, Nat.add_zero, Nat.zero_add, Nat.reduceAdd, Nat.reduceMul, true_or, or_true, znar_50, bI_0, bI_1, bI_z, bft, nI_z0, nI_z1, lgc_lt, lgc_gt, lgc_le, lgc_ge, lgc_eq, not_true_eq_false, not_false_eq_true, Bool.not_eq_true, Bool.not_eq_false, reduceCtorEq, k0, h01, ct, c63', cm, cnk, g1, r2, hsl3.1, c2l, h1]
        exact fail hst
      | true =>
        obtain ⟨w, q1, q2, q3⟩ := linH_of (by omega) (by omega) h1
        rw [h1, if_pos rfl, q3, zx_nI (by omega)] at hst
        cases hb : had.testBit w with
        | true =>
          rw [if_pos (Or.inl hb)] at hst
          simp (disch := omega) only [s35_0, s35_1, s35_4, s35_7, s35_8, s35_9, s35_12, s35_15, s35_16, s35_17, s35_20, s35_23, s35_25, s35_26, s35_27, s35_30, s35_31, s35_32, s35_34, s35_36, s35_39, s35_39r, s35_42, s35_44, s35_45, s35_46, s35_49, s35_50, s35_51, s35_54, s35_55, s35_57, s35_58, s35_60, s35_61, s35_62, s35_65, s35_67, s35_68, s35_72, s35_74, s35_77, s35_80, s35_82, s35_84, s35_87, s35_88, s35_89, s35_92, s35_95, s35_98, s35_99, s35_100, s35_101, s35_104, s35_107, s35_108, s35_109, s35_111, s35_113, s35_116, s35_117, s35_119, s35_121, s35_123, s35_126, s35_129, s35_130, s35_133, s35_136, s35_137, s35_139, s35_142, s35_143, s35_146, s35_147, s35_148, s35_149, s35_152, s35_154, s35_156, s35_157, s35_159, s35_162, s35_165, s35_167, s35_170, s35_172, s35_174, s35_177, s35_180, s35_181, s35_182, s35_184, s35_185, s35_187, s35_188, s35_189, s35_191, s35_192, s35_194, s35_197, s35_199, s35_202, s35_205, s35_206, zcs_0, zcs_1, zcs_2, zcs_3, zcs_4, zcs_5, zcs_6, zcs_7, znl_i, znl_r, znl_n, Bool.and_true, Bool.true_and, zk_v, zk_n, zk_x, zir_r, zir_n, zclr_i, zclr_r, zclr_n, zclr_d, zclr_l, true_and, and_true, and_self, if_true, if_false, reduceIte, nI_add, pk_mul, zin_ok, zx_nI, nI_lt2, nI_le2, nI_eq2, nI_l0, nI_g0, nI_q0, nI_p0, nI_n0, nI_m1, Nat.add_zero, Nat.zero_add, Nat.reduceAdd, Nat.reduceMul, true_or, or_true, znar_50, bI_0, bI_1, bI_z, bft, nI_z0, nI_z1, lgc_lt, lgc_gt, lgc_le, lgc_ge, lgc_eq, not_true_eq_false, not_false_eq_true, Bool.not_eq_true, Bool.not_eq_false, reduceCtorEq, k0, h01, ct, c63', cm, cnk, g1, r2, hsl3.1, c2l, h1, q3, c18, hasI_n, hb]
          exact fail hst
        | false =>
          have cg := fun d Q => c75 (d := d) (z := z3) (Q := Q) hL3 hD3 (a := nI a) (b := nI w)
          have g0 := great0 (v := v) (a := nI a) (b := nI w) (n := v 7) (fun i hi => (hWD.2 i hi).2.2.1)
          by_cases h2 : sWorth v (nI a) (nI w) (v 7) = 0
          · rw [if_pos (Or.inr h2)] at hst
            simp (disch := omega) only [s35_0, s35_1, s35_4, s35_7, s35_8, s35_9, s35_12, s35_15, s35_16, s35_17, s35_20, s35_23, s35_25, s35_26, s35_27, s35_30, s35_31, s35_32, s35_34, s35_36, s35_39, s35_39r, s35_42, s35_44, s35_45, s35_46, s35_49, s35_50, s35_51, s35_54, s35_55, s35_57, s35_58, s35_60, s35_61, s35_62, s35_65, s35_67, s35_68, s35_72, s35_74, s35_77, s35_80, s35_82, s35_84, s35_87, s35_88, s35_89, s35_92, s35_95, s35_98, s35_99, s35_100, s35_101, s35_104, s35_107, s35_108, s35_109, s35_111, s35_113, s35_116, s35_117, s35_119, s35_121, s35_123, s35_126, s35_129, s35_130, s35_133, s35_136, s35_137, s35_139, s35_142, s35_143, s35_146, s35_147, s35_148, s35_149, s35_152, s35_154, s35_156, s35_157, s35_159, s35_162, s35_165, s35_167, s35_170, s35_172, s35_174, s35_177, s35_180, s35_181, s35_182, s35_184, s35_185, s35_187, s35_188, s35_189, s35_191, s35_192, s35_194, s35_197, s35_199, s35_202, s35_205, s35_206, zcs_0, zcs_1, zcs_2, zcs_3, zcs_4, zcs_5, zcs_6, zcs_7, znl_i, znl_r, znl_n, Bool.and_true, Bool.true_and, zk_v, zk_n, zk_x, zir_r, zir_n, zclr_i, zclr_r, zclr_n, zclr_d, zclr_l, true_and, and_true, and_self, if_true, if_false, reduceIte, nI_add, pk_mul, zin_ok, zx_nI, nI_lt2, nI_le2, nI_eq2, nI_l0, nI_g0, nI_q0, nI_p0, nI_n0, nI_m1, Nat.add_zero, Nat.zero_add, Nat.reduceAdd, Nat.reduceMul, true_or, or_true, znar_50, bI_0, bI_1, bI_z, bft, nI_z0, nI_z1, lgc_lt, lgc_gt, lgc_le, lgc_ge, lgc_eq, not_true_eq_false, not_false_eq_true, Bool.not_eq_true, Bool.not_eq_false, reduceCtorEq, k0, h01, ct, c63', cm, cnk, g1, r2, hsl3.1, c2l, h1, q3, c18, hasI_n, hb, cg, g0, h2]
            exact fail hst
          · rw [if_neg (by rw [hb]; simp [h2])] at hst
            have hd2 := dD_le hT b2 q1
            have cf := fun d Q => c248 (d := d) (Q := Q) hv hN3.2.2.1 b2 q1
            have ca := fun d Q => c100 (d := d) (Q := Q) hN3 hT hWD (a := a) (dy := dy) g1'.2.2.1 g1'.2.1 (by omega) (u := t') (f := dD v p w) (k := w) q1 (by omega) (by omega)
            obtain ⟨_, fw1, _⟩ := hN3.2.2.1.fld q1
            have hp : 2 ^ w < 2 ^ 16 := Nat.pow_lt_pow_right (by omega) (by omega)
            have haF : aA v (rdC v a w) dy w (t' + dD v p w) ≤ 180 ∨ aA v (rdC v a w) dy w (t' + dD v p w) = 100000 := aA_F
            generalize aA v (rdC v a w) dy w (t' + dD v p w) = Y at *
            by_cases h3 : Y < 100000
            · have h4 : ¬ Y = 100000 := by omega
              rw [if_pos h3] at hst
              simp (disch := omega) only [s35_0, s35_1, s35_4, s35_7, s35_8, s35_9, s35_12, s35_15, s35_16, s35_17, s35_20, s35_23, s35_25, s35_26, s35_27, s35_30, s35_31, s35_32, s35_34, s35_36, s35_39, s35_39r, s35_42, s35_44, s35_45, s35_46, s35_49, s35_50, s35_51, s35_54, s35_55, s35_57, s35_58, s35_60, s35_61, s35_62, s35_65, s35_67, s35_68, s35_72, s35_74, s35_77, s35_80, s35_82, s35_84, s35_87, s35_88, s35_89, s35_92, s35_95, s35_98, s35_99, s35_100, s35_101, s35_104, s35_107, s35_108, s35_109, s35_111, s35_113, s35_116, s35_117, s35_119, s35_121, s35_123, s35_126, s35_129, s35_130, s35_133, s35_136, s35_137, s35_139, s35_142, s35_143, s35_146, s35_147, s35_148, s35_149, s35_152, s35_154, s35_156, s35_157, s35_159, s35_162, s35_165, s35_167, s35_170, s35_172, s35_174, s35_177, s35_180, s35_181, s35_182, s35_184, s35_185, s35_187, s35_188, s35_189, s35_191, s35_192, s35_194, s35_197, s35_199, s35_202, s35_205, s35_206, zcs_0, zcs_1, zcs_2, zcs_3, zcs_4, zcs_5, zcs_6, zcs_7, znl_i, znl_r, znl_n, Bool.and_true, Bool.true_and, zk_v, zk_n, zk_x, zir_r, zir_n, zclr_i, zclr_r, zclr_n, zclr_d, zclr_l, true_and, and_true, and_self, if_true, if_false, reduceIte, nI_add, pk_mul, zin_ok, zx_nI, nI_lt2, nI_le2, nI_eq2, nI_l0, nI_g0, nI_q0, nI_p0, nI_n0, nI_m1, Nat.add_zero, Nat.zero_add, Nat.reduceAdd, Nat.reduceMul, true_or, or_true, znar_50, bI_0, bI_1, bI_z, bft, nI_z0, nI_z1, lgc_lt, lgc_gt, lgc_le, lgc_ge, lgc_eq, not_true_eq_false, not_false_eq_true, Bool.not_eq_true, Bool.not_eq_false, reduceCtorEq, k0, h01, ct, c63', cm, cnk, g1, r2, hsl3.1, c2l, h1, q3, c18, hasI_n, hb, cg, g0, h2, cat, cf, ca, fw1, fp1, h4, nI_sh1, nI_or]
              exact ih (k + 1) _ _ _ _ (by omega) hst
            · have h4 : Y = 100000 := by omega
              rw [if_neg h3] at hst
              simp (disch := omega) only [s35_0, s35_1, s35_4, s35_7, s35_8, s35_9, s35_12, s35_15, s35_16, s35_17, s35_20, s35_23, s35_25, s35_26, s35_27, s35_30, s35_31, s35_32, s35_34, s35_36, s35_39, s35_39r, s35_42, s35_44, s35_45, s35_46, s35_49, s35_50, s35_51, s35_54, s35_55, s35_57, s35_58, s35_60, s35_61, s35_62, s35_65, s35_67, s35_68, s35_72, s35_74, s35_77, s35_80, s35_82, s35_84, s35_87, s35_88, s35_89, s35_92, s35_95, s35_98, s35_99, s35_100, s35_101, s35_104, s35_107, s35_108, s35_109, s35_111, s35_113, s35_116, s35_117, s35_119, s35_121, s35_123, s35_126, s35_129, s35_130, s35_133, s35_136, s35_137, s35_139, s35_142, s35_143, s35_146, s35_147, s35_148, s35_149, s35_152, s35_154, s35_156, s35_157, s35_159, s35_162, s35_165, s35_167, s35_170, s35_172, s35_174, s35_177, s35_180, s35_181, s35_182, s35_184, s35_185, s35_187, s35_188, s35_189, s35_191, s35_192, s35_194, s35_197, s35_199, s35_202, s35_205, s35_206, zcs_0, zcs_1, zcs_2, zcs_3, zcs_4, zcs_5, zcs_6, zcs_7, znl_i, znl_r, znl_n, Bool.and_true, Bool.true_and, zk_v, zk_n, zk_x, zir_r, zir_n, zclr_i, zclr_r, zclr_n, zclr_d, zclr_l, true_and, and_true, and_self, if_true, if_false, reduceIte, nI_add, pk_mul, zin_ok, zx_nI, nI_lt2, nI_le2, nI_eq2, nI_l0, nI_g0, nI_q0, nI_p0, nI_n0, nI_m1, Nat.add_zero, Nat.zero_add, Nat.reduceAdd, Nat.reduceMul, true_or, or_true, znar_50, bI_0, bI_1, bI_z, bft, nI_z0, nI_z1, lgc_lt, lgc_gt, lgc_le, lgc_ge, lgc_eq, not_true_eq_false, not_false_eq_true, Bool.not_eq_true, Bool.not_eq_false, reduceCtorEq, k0, h01, ct, c63', cm, cnk, g1, r2, hsl3.1, c2l, h1, q3, c18, hasI_n, hb, cg, g0, h2, cat, cf, ca, fw1, fp1, h4, eq_self]
              exact fail hst
  exact key N 0 0 a 0 _ (by omega) rfl
end CQ
