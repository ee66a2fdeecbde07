set_option maxRecDepth 100000
/-! ten debts: the component; lost -/
section CT
variable {d : Nat} {B : Nat → Prop} {z : ZH} {Q : ZQ} {v : Nat → Nat} {L : Nat → List (Nat × Nat)} {t hl kn rl : Nat} {ha ra da ea : Nat → Nat} {K : Nat}
variable {a dy n S : Nat} {hs : Nat → Nat}
theorem c74t (h : NW B z v L t hl kn rl ha ra da ea) {k : Nat} (hk : k < tnN v a) : (∀ d Q, ZC zG d 74 [.ref 109, .int (nI a), .int (nI k)] z Q = Q (.inl (some (.ref (da (tnI v a k))))) z) ∧ zcls z (da (tnI v a k)) = 23 ∧ zfi z (da (tnI v a k)) 1 = nI (v (1880 + 5 * tnI v a k + 1)) ∧ zfi z (da (tnI v a k)) 3 = nI (v (1880 + 5 * tnI v a k + 3)) := by
  obtain ⟨i1, i2⟩ := tnI_at hk
  have hD := h.2.2.2.2.1
  have h10 := tnN_le v a
  obtain ⟨_, f1, _, f3, _, f5, _⟩ := RDe_f hD i1
  refine ⟨fun d Q => ?_, f1, f3, f5⟩
  have c := c74 (d := d) (Q := Q) h.ls hD (a := nI a) (i := k) (by omega)
  rw [i2, if_neg (by omega)] at c
  exact c
theorem c38 (h : NW B z v L t hl kn rl ha ra da ea) (hv : ∀ i, v i < 2147483648) (hA : zfi z 122 4 = nI n ∧ ∀ k, k < n → zia z 123 k = nI (hs k)) (hn : n ≤ 10) (h16 : ∀ k, k < n → hs k < 16) (hS : S < 1024) (hdy : dy < 1000) : ZC zG (d + 1) 38 [.ref 100, .int (nI a), .int (nI (tnN v a)), .int (nI S), .int (nI dy)] z Q = Q (.inl (some (.int (nI (cvB (cvP v hs n (tnI v a) S dy) (tnN v a)))))) z := by
  have h0 := h.1
  unfold CS at h0
  obtain ⟨h17, h143⟩ := hA
  have hm := tnN_le v a
  have z2 := zl_x (P := fun k (x : Value × Value) => ZW zG (d + 1) 38 6 [.ref 100, .int (nI a), .int (nI (tnN v a)), .int (nI S), .int (nI dy), .int (nI (cvB (cvP v hs n (tnI v a) S dy) k)), .int (nI k), x.1, x.2] [] z Q) (R := Q (.inl (some (.int (nI (cvB (cvP v hs n (tnI v a) S dy) (tnN v a)))))) z) (tnN v a) (by
    intro x
    refine s38_6.trans ?_
    simp (disch := omega) only [s38_0, s38_1, s38_3, s38_4, s38_8, s38_9, s38_12, s38_13, s38_16, s38_19, s38_20, s38_22, s38_25, s38_27, s38_28, s38_32, s38_33, s38_36, s38_39, s38_42, s38_43, s38_45, s38_48, s38_51, s38_52, s38_55, s38_58, s38_60, s38_61, s38_63, s38_66, s38_69, s38_71, s38_74, s38_76, s38_79, s38_81, s38_82, s38_84, s38_85, s38_86, s38_88, s38_91, s38_94, s38_97, s38_100, s38_102, zcs_0, zcs_1, zcs_2, zcs_3, zcs_4, zcs_5, zcs_6, zcs_7, znl_i, znl_r, znl_n, Bool.and_true, Bool.true_and, zk_v, zk_n, zk_x, zir_r, zir_n, zclr_i, zclr_r, zclr_n, zclr_d, zclr_l, true_and, and_true, and_self, if_true, if_false, reduceIte, nI_add, pk_mul, zin_ok, zx_nI, nI_lt2, nI_le2, nI_eq2, nI_l0, nI_g0, nI_q0, nI_p0, nI_n0, nI_m1, Nat.add_zero, Nat.zero_add, Nat.reduceAdd, Nat.reduceMul, true_or, or_true, znar_50, bI_0, bI_1, bI_z, bft, nI_z0, nI_z1, lgc_lt, lgc_gt, lgc_le, lgc_ge, lgc_eq, not_true_eq_false, not_false_eq_true, Bool.not_eq_true, Bool.not_eq_false, reduceCtorEq, Nat.le_refl]) (by
    intro k x hk
    have g1 : ¬ tnN v a ≤ k := by omega
    obtain ⟨cd, f0, f1, f2⟩ := c74t h hk
    have b1 := hv (1880 + 5 * tnI v a k + 1)
    have b3 := hv (1880 + 5 * tnI v a k + 3)
    have hst : cvB (cvP v hs n (tnI v a) S dy) (k + 1) = cvB (cvP v hs n (tnI v a) S dy) k ||| (if cvP v hs n (tnI v a) S dy k = true then 2 ^ k else 0) := rfl
    generalize cvB (cvP v hs n (tnI v a) S dy) k = b at hst
    have inner := zl_up (P := fun l => ZW zG (d + 1) 38 30 [.ref 100, .int (nI a), .int (nI (tnN v a)), .int (nI S), .int (nI dy), .int (nI (b ||| (if anyN (fun l => (S.testBit l && decide (hs l = v (1880 + 5 * tnI v a k + 1))) && decide (dy ≤ v (1880 + 5 * tnI v a k + 3))) l = true then 2 ^ k else 0))), .int (nI k), .ref (da (tnI v a k)), .int (nI l)] [] z Q) n (by
      intro l hl
      refine s38_30.trans ?_
      have g2 : ¬ n ≤ l := by omega
      have f3 := h143 l hl
      have f4 := h16 l hl
      have hA : anyN (fun l => (S.testBit l && decide (hs l = v (1880 + 5 * tnI v a k + 1))) && decide (dy ≤ v (1880 + 5 * tnI v a k + 3))) (l + 1) = (anyN (fun l => (S.testBit l && decide (hs l = v (1880 + 5 * tnI v a k + 1))) && decide (dy ≤ v (1880 + 5 * tnI v a k + 3))) l || ((S.testBit l && decide (hs l = v (1880 + 5 * tnI v a k + 1))) && decide (dy ≤ v (1880 + 5 * tnI v a k + 3)))) := rfl
      rw [hA]
      generalize anyN (fun l => (S.testBit l && decide (hs l = v (1880 + 5 * tnI v a k + 1))) && decide (dy ≤ v (1880 + 5 * tnI v a k + 3))) l = w
      cases hb : S.testBit l with
      | false =>
        rw [Bool.false_and, Bool.false_and, Bool.or_false]
        simp (disch := omega) only [s38_0, s38_1, s38_3, s38_4, s38_8, s38_9, s38_12, s38_13, s38_16, s38_19, s38_20, s38_22, s38_25, s38_27, s38_28, s38_32, s38_33, s38_36, s38_39, s38_42, s38_43, s38_45, s38_48, s38_51, s38_52, s38_55, s38_58, s38_60, s38_61, s38_63, s38_66, s38_69, s38_71, s38_74, s38_76, s38_79, s38_81, s38_82, s38_84, s38_85, s38_86, s38_88, s38_91, s38_94, s38_97, s38_100, s38_102, zcs_0, zcs_1, zcs_2, zcs_3, zcs_4, zcs_5, zcs_6, zcs_7, znl_i, znl_r, znl_n, Bool.and_true, Bool.true_and, zk_v, zk_n, zk_x, zir_r, zir_n, zclr_i, zclr_r, zclr_n, zclr_d, zclr_l, true_and, and_true, and_self, if_true, if_false, reduceIte, nI_add, pk_mul, zin_ok, zx_nI, nI_lt2, nI_le2, nI_eq2, nI_l0, nI_g0, nI_q0, nI_p0, nI_n0, nI_m1, Nat.add_zero, Nat.zero_add, Nat.reduceAdd, Nat.reduceMul, true_or, or_true, znar_50, bI_0, bI_1, bI_z, bft, nI_z0, nI_z1, lgc_lt, lgc_gt, lgc_le, lgc_ge, lgc_eq, not_true_eq_false, not_false_eq_true, Bool.not_eq_true, Bool.not_eq_false, reduceCtorEq, h0, h17, g2, c18, hasI_n, hb]
      | true =>
        by_cases e1 : hs l = v (1880 + 5 * tnI v a k + 1)
        · by_cases e2 : dy ≤ v (1880 + 5 * tnI v a k + 3)
          · have e3 : ¬ v (1880 + 5 * tnI v a k + 3) < dy := by omega
            rw [decide_eq_true e1, decide_eq_true e2, Bool.and_self, Bool.and_self, Bool.or_true, if_pos rfl]
            cases w with
            | true =>
              rw [if_pos rfl]
              simp (disch := omega) only [s38_0, s38_1, s38_3, s38_4, s38_8, s38_9, s38_12, s38_13, s38_16, s38_19, s38_20, s38_22, s38_25, s38_27, s38_28, s38_32, s38_33, s38_36, s38_39, s38_42, s38_43, s38_45, s38_48, s38_51, s38_52, s38_55, s38_58, s38_60, s38_61, s38_63, s38_66, s38_69, s38_71, s38_74, s38_76, s38_79, s38_81, s38_82, s38_84, s38_85, s38_86, s38_88, s38_91, s38_94, s38_97, s38_100, s38_102, zcs_0, zcs_1, zcs_2, zcs_3, zcs_4, zcs_5, zcs_6, zcs_7, znl_i, znl_r, znl_n, Bool.and_true, Bool.true_and, zk_v, zk_n, zk_x, zir_r, zir_n, zclr_i, zclr_r, zclr_n, zclr_d, zclr_l, true_and, and_true, and_self, if_true, if_false, reduceIte, nI_add, pk_mul, zin_ok, zx_nI, nI_lt2, nI_le2, nI_eq2, nI_l0, nI_g0, nI_q0, nI_p0, nI_n0, nI_m1, Nat.add_zero, Nat.zero_add, Nat.reduceAdd, Nat.reduceMul, true_or, or_true, znar_50, bI_0, bI_1, bI_z, bft, nI_z0, nI_z1, lgc_lt, lgc_gt, lgc_le, lgc_ge, lgc_eq, not_true_eq_false, not_false_eq_true, Bool.not_eq_true, Bool.not_eq_false, reduceCtorEq, h0, h17, g2, c18, hasI_n, hb, f0, f1, f2, f3, e1, e3, eq_self, nI_sh1, nI_or, or_or_self]
            | false =>
              rw [if_neg (by decide), Nat.or_zero]
              simp (disch := omega) only [s38_0, s38_1, s38_3, s38_4, s38_8, s38_9, s38_12, s38_13, s38_16, s38_19, s38_20, s38_22, s38_25, s38_27, s38_28, s38_32, s38_33, s38_36, s38_39, s38_42, s38_43, s38_45, s38_48, s38_51, s38_52, s38_55, s38_58, s38_60, s38_61, s38_63, s38_66, s38_69, s38_71, s38_74, s38_76, s38_79, s38_81, s38_82, s38_84, s38_85, s38_86, s38_88, s38_91, s38_94, s38_97, s38_100, s38_102, zcs_0, zcs_1, zcs_2, zcs_3, zcs_4, zcs_5, zcs_6, zcs_7, znl_i, znl_r, znl_n, Bool.and_true, Bool.true_and, zk_v, zk_n, zk_x, zir_r, zir_n, zclr_i, zclr_r, zclr_n, zclr_d, zclr_l, true_and, and_true, and_self, if_true, if_false, reduceIte, nI_add, pk_mul, zin_ok, zx_nI, nI_lt2, nI_le2, nI_eq2, nI_l0, nI_g0, nI_q0, nI_p0, nI_n0, nI_m1, Nat.add_zero, Nat.zero_add, Nat.reduceAdd, Nat.reduceMul, true_or, or_true, znar_50, bI_0, bI_1, bI_z, bft, nI_z0, nI_z1, lgc_lt, lgc_gt, lgc_le, lgc_ge, lgc_eq, not_true_eq_false, not_false_eq_true, Bool.not_eq_true, Bool.not_eq_false, reduceCtorEq, h0, h17, g2, c18, hasI_n, hb, f0, f1, f2, f3, e1, e3, eq_self, nI_sh1, nI_or]
          · have e3 : v (1880 + 5 * tnI v a k + 3) < dy := by omega
            rw [decide_eq_false e2, Bool.and_false, Bool.or_false]
            simp (disch := omega) only [s38_0, s38_1, s38_3, s38_4, s38_8, s38_9, s38_12, s38_13, s38_16, s38_19, s38_20, s38_22, s38_25, s38_27, s38_28, s38_32, s38_33, s38_36, s38_39, s38_42, s38_43, s38_45, s38_48, s38_51, s38_52, s38_55, s38_58, s38_60, s38_61, s38_63, s38_66, s38_69, s38_71, s38_74, s38_76, s38_79, s38_81, s38_82, s38_84, s38_85, s38_86, s38_88, s38_91, s38_94, s38_97, s38_100, s38_102, zcs_0, zcs_1, zcs_2, zcs_3, zcs_4, zcs_5, zcs_6, zcs_7, znl_i, znl_r, znl_n, Bool.and_true, Bool.true_and, zk_v, zk_n, zk_x, zir_r, zir_n, zclr_i, zclr_r, zclr_n, zclr_d, zclr_l, true_and, and_true, and_self, if_true, if_false, reduceIte, nI_add, pk_mul, zin_ok, zx_nI, nI_lt2, nI_le2, nI_eq2, nI_l0, nI_g0, nI_q0, nI_p0, nI_n0, nI_m1, Nat.add_zero, Nat.zero_add, Nat.reduceAdd, Nat.reduceMul, true_or, or_true, znar_50, bI_0, bI_1, bI_z, bft, nI_z0, nI_z1, lgc_lt, lgc_gt, lgc_le, lgc_ge, lgc_eq, not_true_eq_false, not_false_eq_true, Bool.not_eq_true, Bool.not_eq_false, reduceCtorEq, h0, h17, g2, c18, hasI_n, hb, f0, f1, f2, f3, e1, e3, eq_self]
        · rw [decide_eq_false e1, Bool.and_false, Bool.false_and, Bool.or_false]
          simp (disch := omega) only [s38_0, s38_1, s38_3, s38_4, s38_8, s38_9, s38_12, s38_13, s38_16, s38_19, s38_20, s38_22, s38_25, s38_27, s38_28, s38_32, s38_33, s38_36, s38_39, s38_42, s38_43, s38_45, s38_48, s38_51, s38_52, s38_55, s38_58, s38_60, s38_61, s38_63, s38_66, s38_69, s38_71, s38_74, s38_76, s38_79, s38_81, s38_82, s38_84, s38_85, s38_86, s38_88, s38_91, s38_94, s38_97, s38_100, s38_102, zcs_0, zcs_1, zcs_2, zcs_3, zcs_4, zcs_5, zcs_6, zcs_7, znl_i, znl_r, znl_n, Bool.and_true, Bool.true_and, zk_v, zk_n, zk_x, zir_r, zir_n, zclr_i, zclr_r, zclr_n, zclr_d, zclr_l, true_and, and_true, and_self, if_true, if_false, reduceIte, nI_add, pk_mul, zin_ok, zx_nI, nI_lt2, nI_le2, nI_eq2, nI_l0, nI_g0, nI_q0, nI_p0, nI_n0, nI_m1, Nat.add_zero, Nat.zero_add, Nat.reduceAdd, Nat.reduceMul, true_or, or_true, znar_50, bI_0, bI_1, bI_z, bft, nI_z0, nI_z1, lgc_lt, lgc_gt, lgc_le, lgc_ge, lgc_eq, not_true_eq_false, not_false_eq_true, Bool.not_eq_true, Bool.not_eq_false, reduceCtorEq, h0, h17, g2, c18, hasI_n, hb, f0, f1, f2, f3, e1])
    have e0 : anyN (fun l => (S.testBit l && decide (hs l = v (1880 + 5 * tnI v a k + 1))) && decide (dy ≤ v (1880 + 5 * tnI v a k + 3))) 0 = false := rfl
    try dsimp only at inner
    rw [e0, if_neg (by decide), Nat.or_zero] at inner
    refine ⟨(.ref (da (tnI v a k)), .int (nI n)), s38_6.trans ?_⟩
    simp (disch := omega) only [s38_0, s38_1, s38_3, s38_4, s38_8, s38_9, s38_12, s38_13, s38_16, s38_19, s38_20, s38_22, s38_25, s38_27, s38_28, s38_32, s38_33, s38_36, s38_39, s38_42, s38_43, s38_45, s38_48, s38_51, s38_52, s38_55, s38_58, s38_60, s38_61, s38_63, s38_66, s38_69, s38_71, s38_74, s38_76, s38_79, s38_81, s38_82, s38_84, s38_85, s38_86, s38_88, s38_91, s38_94, s38_97, s38_100, s38_102, zcs_0, zcs_1, zcs_2, zcs_3, zcs_4, zcs_5, zcs_6, zcs_7, znl_i, znl_r, znl_n, Bool.and_true, Bool.true_and, zk_v, zk_n, zk_x, zir_r, zir_n, zclr_i, zclr_r, zclr_n, zclr_d, zclr_l, true_and, and_true, and_self, if_true, if_false, reduceIte, nI_add, pk_mul, zin_ok, zx_nI, nI_lt2, nI_le2, nI_eq2, nI_l0, nI_g0, nI_q0, nI_p0, nI_n0, nI_m1, Nat.add_zero, Nat.zero_add, Nat.reduceAdd, Nat.reduceMul, true_or, or_true, znar_50, bI_0, bI_1, bI_z, bft, nI_z0, nI_z1, lgc_lt, lgc_gt, lgc_le, lgc_ge, lgc_eq, not_true_eq_false, not_false_eq_true, Bool.not_eq_true, Bool.not_eq_false, reduceCtorEq, h0, g1, cd]
    refine inner.trans ?_
    refine s38_30.trans ?_
    simp (disch := omega) only [s38_0, s38_1, s38_3, s38_4, s38_8, s38_9, s38_12, s38_13, s38_16, s38_19, s38_20, s38_22, s38_25, s38_27, s38_28, s38_32, s38_33, s38_36, s38_39, s38_42, s38_43, s38_45, s38_48, s38_51, s38_52, s38_55, s38_58, s38_60, s38_61, s38_63, s38_66, s38_69, s38_71, s38_74, s38_76, s38_79, s38_81, s38_82, s38_84, s38_85, s38_86, s38_88, s38_91, s38_94, s38_97, s38_100, s38_102, zcs_0, zcs_1, zcs_2, zcs_3, zcs_4, zcs_5, zcs_6, zcs_7, znl_i, znl_r, znl_n, Bool.and_true, Bool.true_and, zk_v, zk_n, zk_x, zir_r, zir_n, zclr_i, zclr_r, zclr_n, zclr_d, zclr_l, true_and, and_true, and_self, if_true, if_false, reduceIte, nI_add, pk_mul, zin_ok, zx_nI, nI_lt2, nI_le2, nI_eq2, nI_l0, nI_g0, nI_q0, nI_p0, nI_n0, nI_m1, Nat.add_zero, Nat.zero_add, Nat.reduceAdd, Nat.reduceMul, true_or, or_true, znar_50, bI_0, bI_1, bI_z, bft, nI_z0, nI_z1, lgc_lt, lgc_gt, lgc_le, lgc_ge, lgc_eq, not_true_eq_false, not_false_eq_true, Bool.not_eq_true, Bool.not_eq_false, reduceCtorEq, h0, h17, Nat.le_refl]
    rw [hst]
    rfl)
  simp (disch := omega) only [e38, s38_0, s38_1, s38_3, s38_4, s38_8, s38_9, s38_12, s38_13, s38_16, s38_19, s38_20, s38_22, s38_25, s38_27, s38_28, s38_32, s38_33, s38_36, s38_39, s38_42, s38_43, s38_45, s38_48, s38_51, s38_52, s38_55, s38_58, s38_60, s38_61, s38_63, s38_66, s38_69, s38_71, s38_74, s38_76, s38_79, s38_81, s38_82, s38_84, s38_85, s38_86, s38_88, s38_91, s38_94, s38_97, s38_100, s38_102, zcs_0, zcs_1, zcs_2, zcs_3, zcs_4, zcs_5, zcs_6, zcs_7, znl_i, znl_r, znl_n, Bool.and_true, Bool.true_and, zk_v, zk_n, zk_x, zir_r, zir_n, zclr_i, zclr_r, zclr_n, zclr_d, zclr_l, true_and, and_true, and_self, if_true, if_false, reduceIte, nI_add, pk_mul, zin_ok, zx_nI, nI_lt2, nI_le2, nI_eq2, nI_l0, nI_g0, nI_q0, nI_p0, nI_n0, nI_m1, Nat.add_zero, Nat.zero_add, Nat.reduceAdd, Nat.reduceMul, true_or, or_true, znar_50, bI_0, bI_1, bI_z, bft, nI_z0, nI_z1, lgc_lt, lgc_gt, lgc_le, lgc_ge, lgc_eq, not_true_eq_false, not_false_eq_true, Bool.not_eq_true, Bool.not_eq_false, reduceCtorEq, h0]
  exact z2 0 (zdum, zdum) (by omega)
theorem c37 (h : NW B z v L t hl kn rl ha ra da ea) (nB : ∀ q, B q → ¬ (122 ≤ q ∧ q ≤ 130)) (hv : ∀ i, v i < 2147483648) (hWD : wD v) (hav : a < v 0)
    (H : ∀ z2, cFr z z2 → aL z2 ha a (v 6) (thHs v a) (thN v a) → Q (.inl (some (.int (nI (tnN v a))))) z2) : ZC zG (d + 2) 37 [.ref 100, .int (nI a)] z Q := by
  have h16 : v 0 ≤ 16 := h.2.2.1.2.2.2.1.2
  have h0 := h.1
  unfold CS at h0
  have hm := tnN_le v a
  have h6 := h.2.2.2.2.2.2.2.2
  have h7 := h.2.2.2.2.1.2.1
  obtain ⟨s1, s2, s3⟩ := tnS_ok h16 hWD (a := nI a) (v 7) (Nat.le_refl _)
  have hth := (th_OK h16 hWD a).1
  have cd := fun d Q => c71 (d := d) (z := z) (Q := Q) h.ls h.2.2.2.2.1 (a := nI a)
  have hmin : min 10 (sDebtsOf v (nI a) (v 7)) = tnN v a := (tnL_len (v 7)).symm
  have hdle : sDebtsOf v (nI a) (v 7) ≤ v 7 := cntN_le _ _
  have hto : ∀ k, k < tnN v a → v (1880 + 5 * tnI v a k + 1) < 16 := fun k hk => by
    have := (hWD.2 _ (tnI_at hk).1).2.1
    omega
  have e1 : ∀ k, k < tnN v a → ZW zG (d + 2) 37 22 [.ref 100, .int (nI a), .int (nI (tnN v a)), .int (nI (orN (fun k => v (1880 + 5 * tnI v a k + 1)) k)), .int (nI k)] [] z Q = ZW zG (d + 2) 37 22 [.ref 100, .int (nI a), .int (nI (tnN v a)), .int (nI (orN (fun k => v (1880 + 5 * tnI v a k + 1)) (k + 1))), .int (nI (k + 1))] [] z Q := by
    intro k hk
    refine s37_22.trans ?_
    have g1 : ¬ tnN v a ≤ k := by omega
    obtain ⟨cd, f0, f1, f2⟩ := c74t h hk
    have b1 := hto k hk
    have hst : orN (fun k => v (1880 + 5 * tnI v a k + 1)) (k + 1) = orN (fun k => v (1880 + 5 * tnI v a k + 1)) k ||| 2 ^ v (1880 + 5 * tnI v a k + 1) := rfl
    rw [hst]
    simp (disch := omega) only [s37_0, s37_2, s37_3, s37_6, s37_9, s37_10, s37_13, s37_16, s37_17, s37_18, s37_19, s37_20, s37_24, s37_25, s37_28, s37_29, s37_30, s37_31, s37_34, s37_37, s37_38, s37_40, s37_43, s37_46, s37_47, s37_48, s37_49, s37_52, s37_55, s37_56, s37_59, s37_60, s37_61, s37_64, s37_67, s37_70, s37_71, s37_75, s37_77, s37_80, s37_81, s37_83, s37_86, s37_89, s37_92, s37_93, s37_96, s37_99, s37_100, s37_103, s37_106, s37_108, s37_109, s37_110, s37_113, s37_114, s37_117, s37_118, s37_119, s37_122, s37_125, s37_128, s37_129, zcs_0, zcs_1, zcs_2, zcs_3, zcs_4, zcs_5, zcs_6, zcs_7, znl_i, znl_r, znl_n, Bool.and_true, Bool.true_and, zk_v, zk_n, zk_x, zir_r, zir_n, zclr_i, zclr_r, zclr_n, zclr_d, zclr_l, true_and, and_true, and_self, if_true, if_false, reduceIte, nI_add, pk_mul, zin_ok, zx_nI, nI_lt2, nI_le2, nI_eq2, nI_l0, nI_g0, nI_q0, nI_p0, nI_n0, nI_m1, Nat.add_zero, Nat.zero_add, Nat.reduceAdd, Nat.reduceMul, true_or, or_true, znar_50, bI_0, bI_1, bI_z, bft, nI_z0, nI_z1, lgc_lt, lgc_gt, lgc_le, lgc_ge, lgc_eq, not_true_eq_false, not_false_eq_true, Bool.not_eq_true, Bool.not_eq_false, reduceCtorEq, h0, g1, cd, f0, f1, nI_sh1, nI_or]
  have z1 := zl_up (P := fun k => ZW zG (d + 2) 37 22 [.ref 100, .int (nI a), .int (nI (tnN v a)), .int (nI (orN (fun k => v (1880 + 5 * tnI v a k + 1)) k)), .int (nI k)] [] z Q) (tnN v a) e1
  have hor : orN (fun k => v (1880 + 5 * tnI v a k + 1)) (tnN v a) = tnS v (nI a) (v 7) := orN_tn (v 7)
  simp (disch := omega) only [e37, s37_0, s37_2, s37_3, s37_6, s37_9, s37_10, s37_13, s37_16, s37_17, s37_18, s37_19, s37_20, s37_24, s37_25, s37_28, s37_29, s37_30, s37_31, s37_34, s37_37, s37_38, s37_40, s37_43, s37_46, s37_47, s37_48, s37_49, s37_52, s37_55, s37_56, s37_59, s37_60, s37_61, s37_64, s37_67, s37_70, s37_71, s37_75, s37_77, s37_80, s37_81, s37_83, s37_86, s37_89, s37_92, s37_93, s37_96, s37_99, s37_100, s37_103, s37_106, s37_108, s37_109, s37_110, s37_113, s37_114, s37_117, s37_118, s37_119, s37_122, s37_125, s37_128, s37_129, zcs_0, zcs_1, zcs_2, zcs_3, zcs_4, zcs_5, zcs_6, zcs_7, znl_i, znl_r, znl_n, Bool.and_true, Bool.true_and, zk_v, zk_n, zk_x, zir_r, zir_n, zclr_i, zclr_r, zclr_n, zclr_d, zclr_l, true_and, and_true, and_self, if_true, if_false, reduceIte, nI_add, pk_mul, zin_ok, zx_nI, nI_lt2, nI_le2, nI_eq2, nI_l0, nI_g0, nI_q0, nI_p0, nI_n0, nI_m1, Nat.add_zero, Nat.zero_add, Nat.reduceAdd, Nat.reduceMul, true_or, or_true, znar_50, bI_0, bI_1, bI_z, bft, nI_z0, nI_z1, lgc_lt, lgc_gt, lgc_le, lgc_ge, lgc_eq, not_true_eq_false, not_false_eq_true, Bool.not_eq_true, Bool.not_eq_false, reduceCtorEq, h0, cd, zmin_nI, hmin]
  refine Eq.mpr z1 ?_
  rw [hor]
  refine Eq.mpr s37_22 ?_
  simp (disch := omega) only [s37_0, s37_2, s37_3, s37_6, s37_9, s37_10, s37_13, s37_16, s37_17, s37_18, s37_19, s37_20, s37_24, s37_25, s37_28, s37_29, s37_30, s37_31, s37_34, s37_37, s37_38, s37_40, s37_43, s37_46, s37_47, s37_48, s37_49, s37_52, s37_55, s37_56, s37_59, s37_60, s37_61, s37_64, s37_67, s37_70, s37_71, s37_75, s37_77, s37_80, s37_81, s37_83, s37_86, s37_89, s37_92, s37_93, s37_96, s37_99, s37_100, s37_103, s37_106, s37_108, s37_109, s37_110, s37_113, s37_114, s37_117, s37_118, s37_119, s37_122, s37_125, s37_128, s37_129, zcs_0, zcs_1, zcs_2, zcs_3, zcs_4, zcs_5, zcs_6, zcs_7, znl_i, znl_r, znl_n, Bool.and_true, Bool.true_and, zk_v, zk_n, zk_x, zir_r, zir_n, zclr_i, zclr_r, zclr_n, zclr_d, zclr_l, true_and, and_true, and_self, if_true, if_false, reduceIte, nI_add, pk_mul, zin_ok, zx_nI, nI_lt2, nI_le2, nI_eq2, nI_l0, nI_g0, nI_q0, nI_p0, nI_n0, nI_m1, Nat.add_zero, Nat.zero_add, Nat.reduceAdd, Nat.reduceMul, true_or, or_true, znar_50, bI_0, bI_1, bI_z, bft, nI_z0, nI_z1, lgc_lt, lgc_gt, lgc_le, lgc_ge, lgc_eq, not_true_eq_false, not_false_eq_true, Bool.not_eq_true, Bool.not_eq_false, reduceCtorEq, h0, Nat.le_refl, h6]
  refine c96 h nB hav (hs := thHs v a) (fun z3 f1 g1 => ?_)
  have key := zl_inv (P := fun q (z4 : ZH) => ZW zG (d + 2) 37 73 [.ref 100, .int (nI a), .int (nI (tnN v a)), .int (nI (tnS v (nI a) (v 7))), .int (nI q)] [] z4 Q) (I := fun q z4 => cFr z z4 ∧ aL z4 ha a (v 6) (hsL (thL (tnS v (nI a) (v 7)) q)) (thL (tnS v (nI a) (v 7)) q).length) 16 (by
    rintro z4 ⟨i1, i2⟩
    refine Eq.mpr s37_73 ?_
    simp (disch := omega) only [s37_0, s37_2, s37_3, s37_6, s37_9, s37_10, s37_13, s37_16, s37_17, s37_18, s37_19, s37_20, s37_24, s37_25, s37_28, s37_29, s37_30, s37_31, s37_34, s37_37, s37_38, s37_40, s37_43, s37_46, s37_47, s37_48, s37_49, s37_52, s37_55, s37_56, s37_59, s37_60, s37_61, s37_64, s37_67, s37_70, s37_71, s37_75, s37_77, s37_80, s37_81, s37_83, s37_86, s37_89, s37_92, s37_93, s37_96, s37_99, s37_100, s37_103, s37_106, s37_108, s37_109, s37_110, s37_113, s37_114, s37_117, s37_118, s37_119, s37_122, s37_125, s37_128, s37_129, zcs_0, zcs_1, zcs_2, zcs_3, zcs_4, zcs_5, zcs_6, zcs_7, znl_i, znl_r, znl_n, Bool.and_true, Bool.true_and, zk_v, zk_n, zk_x, zir_r, zir_n, zclr_i, zclr_r, zclr_n, zclr_d, zclr_l, true_and, and_true, and_self, if_true, if_false, reduceIte, nI_add, pk_mul, zin_ok, zx_nI, nI_lt2, nI_le2, nI_eq2, nI_l0, nI_g0, nI_q0, nI_p0, nI_n0, nI_m1, Nat.add_zero, Nat.zero_add, Nat.reduceAdd, Nat.reduceMul, true_or, or_true, znar_50, bI_0, bI_1, bI_z, bft, nI_z0, nI_z1, lgc_lt, lgc_gt, lgc_le, lgc_ge, lgc_eq, not_true_eq_false, not_false_eq_true, Bool.not_eq_true, Bool.not_eq_false, reduceCtorEq, Nat.le_refl]
    exact H z4 i1 (by rw [thHs_d, thN_d]; exact i2)) (by
    rintro q z4 hq ⟨i1, i2⟩ hnext
    have k0 := (NW_cFr h nB i1).1
    unfold CS at k0
    obtain ⟨a4, a5, a10, a9, as⟩ := i2
    have g1 : ¬ 16 ≤ q := by omega
    have hl : (thL (tnS v (nI a) (v 7)) q).length ≤ q := by rw [thL_len]; exact cntB_le _ q
    have hst : thL (tnS v (nI a) (v 7)) (q + 1) = if (tnS v (nI a) (v 7)).testBit q = true then thL (tnS v (nI a) (v 7)) q ++ [q] else thL (tnS v (nI a) (v 7)) q := rfl
    have hl10 : (thL (tnS v (nI a) (v 7)) q).length ≤ cntB (tnS v (nI a) (v 7)) 16 := by
      rw [thL_len]
      have := cntN_mono (fun k => (tnS v (nI a) (v 7)).testBit k) (i := q) (16 - q)
      rw [show q + (16 - q) = 16 by omega] at this
      exact this
    have hlt10 : (tnS v (nI a) (v 7)).testBit q = true → (thL (tnS v (nI a) (v 7)) q).length < 10 := fun hb => by
      have e : (thL (tnS v (nI a) (v 7)) (q + 1)).length = (thL (tnS v (nI a) (v 7)) q).length + 1 := by rw [hst, if_pos hb, List.length_append, List.length_singleton]
      have h1 : (thL (tnS v (nI a) (v 7)) (q + 1)).length ≤ cntB (tnS v (nI a) (v 7)) 16 := by
        rw [thL_len]
        have := cntN_mono (fun k => (tnS v (nI a) (v 7)).testBit k) (i := q + 1) (16 - (q + 1))
        rw [show q + 1 + (16 - (q + 1)) = 16 by omega] at this
        exact this
      have h2 : (tnL v (nI a) (v 7)).length ≤ 10 := hm
      omega
    refine Eq.mpr s37_73 ?_
    cases hb : (tnS v (nI a) (v 7)).testBit q with
    | false =>
      rw [hb, if_neg (by decide)] at hst
      simp (disch := omega) only [s37_0, s37_2, s37_3, s37_6, s37_9, s37_10, s37_13, s37_16, s37_17, s37_18, s37_19, s37_20, s37_24, s37_25, s37_28, s37_29, s37_30, s37_31, s37_34, s37_37, s37_38, s37_40, s37_43, s37_46, s37_47, s37_48, s37_49, s37_52, s37_55, s37_56, s37_59, s37_60, s37_61, s37_64, s37_67, s37_70, s37_71, s37_75, s37_77, s37_80, s37_81, s37_83, s37_86, s37_89, s37_92, s37_93, s37_96, s37_99, s37_100, s37_103, s37_106, s37_108, s37_109, s37_110, s37_113, s37_114, s37_117, s37_118, s37_119, s37_122, s37_125, s37_128, s37_129, zcs_0, zcs_1, zcs_2, zcs_3, zcs_4, zcs_5, zcs_6, zcs_7, znl_i, znl_r, znl_n, Bool.and_true, Bool.true_and, zk_v, zk_n, zk_x, zir_r, zir_n, zclr_i, zclr_r, zclr_n, zclr_d, zclr_l, true_and, and_true, and_self, if_true, if_false, reduceIte, nI_add, pk_mul, zin_ok, zx_nI, nI_lt2, nI_le2, nI_eq2, nI_l0, nI_g0, nI_q0, nI_p0, nI_n0, nI_m1, Nat.add_zero, Nat.zero_add, Nat.reduceAdd, Nat.reduceMul, true_or, or_true, znar_50, bI_0, bI_1, bI_z, bft, nI_z0, nI_z1, lgc_lt, lgc_gt, lgc_le, lgc_ge, lgc_eq, not_true_eq_false, not_false_eq_true, Bool.not_eq_true, Bool.not_eq_false, reduceCtorEq, g1, c18, hasI_n, hb]
      refine hnext z4 ?_
      rw [hst]
      exact ⟨i1, a4, a5, a10, a9, as⟩
    | true =>
      have hl9 := hlt10 hb
      rw [hb, if_pos rfl] at hst
      generalize hlen : (thL (tnS v (nI a) (v 7)) q).length = len at *
      simp (disch := omega) only [s37_0, s37_2, s37_3, s37_6, s37_9, s37_10, s37_13, s37_16, s37_17, s37_18, s37_19, s37_20, s37_24, s37_25, s37_28, s37_29, s37_30, s37_31, s37_34, s37_37, s37_38, s37_40, s37_43, s37_46, s37_47, s37_48, s37_49, s37_52, s37_55, s37_56, s37_59, s37_60, s37_61, s37_64, s37_67, s37_70, s37_71, s37_75, s37_77, s37_80, s37_81, s37_83, s37_86, s37_89, s37_92, s37_93, s37_96, s37_99, s37_100, s37_103, s37_106, s37_108, s37_109, s37_110, s37_113, s37_114, s37_117, s37_118, s37_119, s37_122, s37_125, s37_128, s37_129, zcs_0, zcs_1, zcs_2, zcs_3, zcs_4, zcs_5, zcs_6, zcs_7, znl_i, znl_r, znl_n, Bool.and_true, Bool.true_and, zk_v, zk_n, zk_x, zir_r, zir_n, zclr_i, zclr_r, zclr_n, zclr_d, zclr_l, true_and, and_true, and_self, if_true, if_false, reduceIte, nI_add, pk_mul, zin_ok, zx_nI, nI_lt2, nI_le2, nI_eq2, nI_l0, nI_g0, nI_q0, nI_p0, nI_n0, nI_m1, Nat.add_zero, Nat.zero_add, Nat.reduceAdd, Nat.reduceMul, true_or, or_true, znar_50, bI_0, bI_1, bI_z, bft, nI_z0, nI_z1, lgc_lt, lgc_gt, lgc_le, lgc_ge, lgc_eq, not_true_eq_false, not_false_eq_true, Bool.not_eq_true, Bool.not_eq_false, reduceCtorEq, k0, g1, c18, hasI_n, hb, a4, cls_sia, fi_sia, fr_sia, ia_sia, la_sia, ra_sia, len_sia, ls_sia, own_sia, n_sia, uc_sia, us_sia, cls_sfi, fi_sfi, fr_sfi, ia_sfi, la_sfi, ra_sfi, len_sfi, ls_sfi, own_sfi, n_sfi, uc_sfi, us_sfi]
      refine hnext _ ?_
      rw [hst]
      refine ⟨cFr_sfi (cFr_sia i1 (by omega) _ _) _ _, ?_, ?_, ?_, a9, fun k hk => ?_⟩
      · rw [fi_sfi, zu2_s, List.length_append, List.length_singleton, hlen]
      · rw [fi_sfi, zu2_k _ _ _ _ (by omega)]; exact a5
      · rw [fi_sfi, zu2_k _ _ _ _ (by omega)]; exact a10
      · rw [ia_sfi, ia_sia, hsL_app, hlen]
        by_cases e : k = len
        · subst e
          rw [zu2_s, if_neg (by omega), if_pos rfl]
        · rw [List.length_append, List.length_singleton, hlen] at hk
          rw [zu2_k _ _ _ _ e, if_pos (by omega)]
          exact as k (by omega))
  simp (disch := omega) only [s37_0, s37_2, s37_3, s37_6, s37_9, s37_10, s37_13, s37_16, s37_17, s37_18, s37_19, s37_20, s37_24, s37_25, s37_28, s37_29, s37_30, s37_31, s37_34, s37_37, s37_38, s37_40, s37_43, s37_46, s37_47, s37_48, s37_49, s37_52, s37_55, s37_56, s37_59, s37_60, s37_61, s37_64, s37_67, s37_70, s37_71, s37_75, s37_77, s37_80, s37_81, s37_83, s37_86, s37_89, s37_92, s37_93, s37_96, s37_99, s37_100, s37_103, s37_106, s37_108, s37_109, s37_110, s37_113, s37_114, s37_117, s37_118, s37_119, s37_122, s37_125, s37_128, s37_129, zcs_0, zcs_1, zcs_2, zcs_3, zcs_4, zcs_5, zcs_6, zcs_7, znl_i, znl_r, znl_n, Bool.and_true, Bool.true_and, zk_v, zk_n, zk_x, zir_r, zir_n, zclr_i, zclr_r, zclr_n, zclr_d, zclr_l, true_and, and_true, and_self, if_true, if_false, reduceIte, nI_add, pk_mul, zin_ok, zx_nI, nI_lt2, nI_le2, nI_eq2, nI_l0, nI_g0, nI_q0, nI_p0, nI_n0, nI_m1, Nat.add_zero, Nat.zero_add, Nat.reduceAdd, Nat.reduceMul, true_or, or_true, znar_50, bI_0, bI_1, bI_z, bft, nI_z0, nI_z1, lgc_lt, lgc_gt, lgc_le, lgc_ge, lgc_eq, not_true_eq_false, not_false_eq_true, Bool.not_eq_true, Bool.not_eq_false, reduceCtorEq]
  exact key 0 z3 (by omega) ⟨f1, g1.1, g1.2.1, g1.2.2.1, g1.2.2.2.1, fun k hk => absurd hk (by simp [thL])⟩
end CT
/-! lost -/
def lsQ (v : Nat → Nat) (a k e : Nat) : Bool := decide (aA v (rdC v a (v (1880 + 5 * tnI v a k + 1))) (v 6 + e) (v (1880 + 5 * tnI v a k + 1)) (0 + dD v a (v (1880 + 5 * tnI v a k + 1))) < 100000)
def lsP (v : Nat → Nat) (a k : Nat) : Bool := anyN (fun e => decide (v 6 + e ≤ min 399 (v (1880 + 5 * tnI v a k + 3))) && lsQ v a k e) 7
def rLost (v : Nat → Nat) (a : Int32) : Int32 := if zin a (v 0) = true then nI (cvB (fun k => !lsP v (zx a) k) (tnN v (zx a))) else -2
theorem anyN_if {P P' : Nat → Bool} {n m : Nat} (h : ∀ i, (i < n ∧ P i = true) ↔ (i < m ∧ P' i = true)) : anyN P n = anyN P' m := by
  rw [Bool.eq_iff_iff, anyN_t, anyN_t]
  constructor
  · rintro ⟨i, hi⟩; exact ⟨i, (h i).mp hi⟩
  · rintro ⟨i, hi⟩; exact ⟨i, (h i).mpr hi⟩
section ML
variable {d : Nat} {z : ZH} {Q : ZQ} {v : Nat → Nat}
theorem m193 (hM : MS z) (hT : wT v) (hv : ∀ i, v i < 1073741824) (hD : wD v) (h8 : v 8 ≤ 600) (h6 : v 6 ≤ 399) {a : Int32} (H : ∀ z2, mFr z z2 → Q (.inl (some (.int (rLost v a)))) (sW z2 v)) : ZC zG (d + 3) 193 [.ref 135, .int a] (sW z v) Q := by
  have hv2 : ∀ i, v i < 2147483648 := fun i => by have := hv i; omega
  have h0 := hM
  unfold MS at h0
  have h16 := hT.1
  have h7 := hD.1
  unfold rLost at H
  cases hz : zin a (v 0) with
  | false =>
    rw [hz, if_neg (by decide)] at H
    simp (disch := first | omega | exact hM | exact hv _ | (simp only [MS_sW, MS_sfi, MS_sia, MS_sIA, MS_sla, MS_sLA, MS_sls]; exact hM)) only [e193, s193_0, s193_1, s193_2, s193_5, s193_8, s193_10, s193_11, s193_12, s193_13, s193_16, s193_17, s193_18, s193_19, s193_21, s193_22, s193_25, s193_28, s193_29, s193_31, s193_32, s193_35, s193_39, s193_42, s193_43, s193_46, s193_48, s193_49, s193_52, s193_53, s193_54, s193_57, s193_58, s193_59, s193_60, s193_63, s193_66, s193_69, s193_71, s193_74, s193_75, s193_76, s193_77, s193_78, s193_79, s193_82, s193_83, s193_84, s193_85, s193_88, s193_90, s193_93, s193_94, s193_97, s193_98, s193_101, s193_102, s193_104, s193_107, s193_110, s193_111, s193_113, s193_116, s193_117, s193_120, s193_121, s193_122, s193_123, s193_124, s193_125, s193_128, s193_131, s193_132, zcs_0, zcs_1, zcs_2, zcs_3, zcs_4, zcs_5, zcs_6, zcs_7, znl_i, znl_r, znl_n, Bool.and_true, Bool.true_and, zk_v, zk_n, zk_x, zir_r, zir_n, zclr_i, zclr_r, zclr_n, zclr_d, zclr_l, true_and, and_true, and_self, if_true, if_false, reduceIte, nI_add, pk_mul, zin_ok, zx_nI, nI_lt2, nI_le2, nI_eq2, nI_l0, nI_g0, nI_q0, nI_p0, nI_n0, nI_m1, Nat.add_zero, Nat.zero_add, Nat.reduceAdd, Nat.reduceMul, true_or, or_true, znar_50, bI_0, bI_1, bI_z, bft, nI_z0, nI_z1, lgc_lt, lgc_gt, lgc_le, lgc_ge, lgc_eq, not_true_eq_false, not_false_eq_true, Bool.not_eq_true, Bool.not_eq_false, reduceCtorEq, MS_sW, CS_sW, sW_r, sW_n, sW_w, cls_sW, fi_sW, fr_sW, la_sW, ra_sW, len_sW, ls_sW, own_sW, n_sW, uc_sW, us_sW, sW_sfi, sW_sla, sW_sLA, sW_sls, sW_spay, sW_sia, sW_sIA, ne_eq, cls_sfi, fr_sfi, ia_sfi, la_sfi, ra_sfi, len_sfi, ls_sfi, own_sfi, n_sfi, uc_sfi, us_sfi, cls_sia, fi_sia, fr_sia, la_sia, ra_sia, len_sia, ls_sia, own_sia, n_sia, uc_sia, us_sia, cls_sIA, fi_sIA, fr_sIA, la_sIA, ra_sIA, len_sIA, ls_sIA, own_sIA, n_sIA, uc_sIA, us_sIA, cls_sla, fi_sla, fr_sla, ia_sla, ra_sla, len_sla, ls_sla, own_sla, n_sla, uc_sla, us_sla, cls_sLA, fi_sLA, fr_sLA, ia_sLA, ra_sLA, len_sLA, ls_sLA, own_sLA, n_sLA, uc_sLA, us_sLA, h0, m144, hz]
    exact H z (mFr_refl z)
  | true =>
    obtain ⟨a, g1, g2, rfl⟩ := zin_of hz
    rw [hz, if_pos rfl, zx_nI g2] at H
    have hm := tnN_le v a
    simp (disch := first | omega | exact hM | exact hv _ | (simp only [MS_sW, MS_sfi, MS_sia, MS_sIA, MS_sla, MS_sLA, MS_sls]; exact hM)) only [e193, s193_0, s193_1, s193_2, s193_5, s193_8, s193_10, s193_11, s193_12, s193_13, s193_16, s193_17, s193_18, s193_19, s193_21, s193_22, s193_25, s193_28, s193_29, s193_31, s193_32, s193_35, s193_39, s193_42, s193_43, s193_46, s193_48, s193_49, s193_52, s193_53, s193_54, s193_57, s193_58, s193_59, s193_60, s193_63, s193_66, s193_69, s193_71, s193_74, s193_75, s193_76, s193_77, s193_78, s193_79, s193_82, s193_83, s193_84, s193_85, s193_88, s193_90, s193_93, s193_94, s193_97, s193_98, s193_101, s193_102, s193_104, s193_107, s193_110, s193_111, s193_113, s193_116, s193_117, s193_120, s193_121, s193_122, s193_123, s193_124, s193_125, s193_128, s193_131, s193_132, zcs_0, zcs_1, zcs_2, zcs_3, zcs_4, zcs_5, zcs_6, zcs_7, znl_i, znl_r, znl_n, Bool.and_true, Bool.true_and, zk_v, zk_n, zk_x, zir_r, zir_n, zclr_i, zclr_r, zclr_n, zclr_d, zclr_l, true_and, and_true, and_self, if_true, if_false, reduceIte, nI_add, pk_mul, zin_ok, zx_nI, nI_lt2, nI_le2, nI_eq2, nI_l0, nI_g0, nI_q0, nI_p0, nI_n0, nI_m1, Nat.add_zero, Nat.zero_add, Nat.reduceAdd, Nat.reduceMul, true_or, or_true, znar_50, bI_0, bI_1, bI_z, bft, nI_z0, nI_z1, lgc_lt, lgc_gt, lgc_le, lgc_ge, lgc_eq, not_true_eq_false, not_false_eq_true, Bool.not_eq_true, Bool.not_eq_false, reduceCtorEq, MS_sW, CS_sW, sW_r, sW_n, sW_w, cls_sW, fi_sW, fr_sW, la_sW, ra_sW, len_sW, ls_sW, own_sW, n_sW, uc_sW, us_sW, sW_sfi, sW_sla, sW_sLA, sW_sls, sW_spay, sW_sia, sW_sIA, ne_eq, cls_sfi, fr_sfi, ia_sfi, la_sfi, ra_sfi, len_sfi, ls_sfi, own_sfi, n_sfi, uc_sfi, us_sfi, cls_sia, fi_sia, fr_sia, la_sia, ra_sia, len_sia, ls_sia, own_sia, n_sia, uc_sia, us_sia, cls_sIA, fi_sIA, fr_sIA, la_sIA, ra_sIA, len_sIA, ls_sIA, own_sIA, n_sIA, uc_sIA, us_sIA, cls_sla, fi_sla, fr_sla, ia_sla, ra_sla, len_sla, ls_sla, own_sla, n_sla, uc_sla, us_sla, cls_sLA, fi_sLA, fr_sLA, ia_sLA, ra_sLA, len_sLA, ls_sLA, own_sLA, n_sLA, uc_sLA, us_sLA, h0, m144, hz]
    refine m191 hM hv2 g2 h16 hD h8 (fun z2 f1 f2 f3 f4 => ?_)
    have k2 := mFr_MS f1 hM
    have k0 := k2
    unfold MS at k0
    have H1 := H z2 f1
    have zz := zl_x (P := fun k (x : Value × Value) => ZW zG (d + 3) 193 20 [.ref 135, .int (nI a), .int (nI (cvB (fun k => !lsP v a k) k)), .int (nI k), x.1, x.2] [] (sW z2 v) Q) (R := Q (.inl (some (.int (nI (cvB (fun k => !lsP v a k) (tnN v a)))))) (sW z2 v)) (tnN v a) (by
      intro x
      refine s193_20.trans ?_
      simp (disch := first | omega | exact k2 | exact hv _) only [s193_0, s193_1, s193_2, s193_5, s193_8, s193_10, s193_11, s193_12, s193_13, s193_16, s193_17, s193_18, s193_19, s193_21, s193_22, s193_25, s193_28, s193_29, s193_31, s193_32, s193_35, s193_39, s193_42, s193_43, s193_46, s193_48, s193_49, s193_52, s193_53, s193_54, s193_57, s193_58, s193_59, s193_60, s193_63, s193_66, s193_69, s193_71, s193_74, s193_75, s193_76, s193_77, s193_78, s193_79, s193_82, s193_83, s193_84, s193_85, s193_88, s193_90, s193_93, s193_94, s193_97, s193_98, s193_101, s193_102, s193_104, s193_107, s193_110, s193_111, s193_113, s193_116, s193_117, s193_120, s193_121, s193_122, s193_123, s193_124, s193_125, s193_128, s193_131, s193_132, zcs_0, zcs_1, zcs_2, zcs_3, zcs_4, zcs_5, zcs_6, zcs_7, znl_i, znl_r, znl_n, Bool.and_true, Bool.true_and, zk_v, zk_n, zk_x, zir_r, zir_n, zclr_i, zclr_r, zclr_n, zclr_d, zclr_l, true_and, and_true, and_self, if_true, if_false, reduceIte, nI_add, pk_mul, zin_ok, zx_nI, nI_lt2, nI_le2, nI_eq2, nI_l0, nI_g0, nI_q0, nI_p0, nI_n0, nI_m1, Nat.add_zero, Nat.zero_add, Nat.reduceAdd, Nat.reduceMul, true_or, or_true, znar_50, bI_0, bI_1, bI_z, bft, nI_z0, nI_z1, lgc_lt, lgc_gt, lgc_le, lgc_ge, lgc_eq, not_true_eq_false, not_false_eq_true, Bool.not_eq_true, Bool.not_eq_false, reduceCtorEq, MS_sW, CS_sW, sW_r, sW_n, sW_w, cls_sW, fi_sW, fr_sW, la_sW, ra_sW, len_sW, ls_sW, own_sW, n_sW, uc_sW, us_sW, sW_sfi, sW_sla, sW_sLA, sW_sls, sW_spay, sW_sia, sW_sIA, ne_eq, cls_sfi, fr_sfi, ia_sfi, la_sfi, ra_sfi, len_sfi, ls_sfi, own_sfi, n_sfi, uc_sfi, us_sfi, cls_sia, fi_sia, fr_sia, la_sia, ra_sia, len_sia, ls_sia, own_sia, n_sia, uc_sia, us_sia, cls_sIA, fi_sIA, fr_sIA, la_sIA, ra_sIA, len_sIA, ls_sIA, own_sIA, n_sIA, uc_sIA, us_sIA, cls_sla, fi_sla, fr_sla, ia_sla, ra_sla, len_sla, ls_sla, own_sla, n_sla, uc_sla, us_sla, cls_sLA, fi_sLA, fr_sLA, ia_sLA, ra_sLA, len_sLA, ls_sLA, own_sLA, n_sLA, uc_sLA, us_sLA, k0, f3, Nat.le_refl]) (by
      intro k x hk
      have q1 : ¬ tnN v a ≤ k := by omega
      have q2 := f4 k hk
      have q3 := (tnI_at hk).1
      obtain ⟨_, q4, _, q5, _⟩ := hD.2 _ q3
      have hst : cvB (fun k => !lsP v a k) (k + 1) = cvB (fun k => !lsP v a k) k ||| (if (!lsP v a k) = true then 2 ^ k else 0) := rfl
      have hlE : lsP v a k = anyN (lsQ v a k) (min 7 (min 399 (v (1880 + 5 * tnI v a k + 3)) + 1 - v 6)) := by
        unfold lsP
        refine anyN_if (fun i => ?_)
        rw [Bool.and_eq_true, decide_eq_true_iff]
        constructor
        · rintro ⟨u1, u2, u3⟩; exact ⟨by omega, u3⟩
        · rintro ⟨u1, u3⟩; exact ⟨by omega, by omega, u3⟩
      generalize cvB (fun k => !lsP v a k) k = b at hst
      have inner := zl_up (P := fun e => ZW zG (d + 3) 193 37 [.ref 135, .int (nI a), .int (nI b), .int (nI k), .int (bI (anyN (lsQ v a k) e)), .int (nI (v 6 + e))] [] (sW z2 v) Q) (min 7 (min 399 (v (1880 + 5 * tnI v a k + 3)) + 1 - v 6)) (by
        intro e he
        refine s193_37.trans ?_
        have u1 : ¬ min (min 399 (v 6 + 6)) (v (1880 + 5 * tnI v a k + 3)) < v 6 + e := by omega
        have cs := fun d Q => m183 (d := d) (Q := Q) (z := z2) k2 hT hv f2.2.2 g1 q4 (show 0 ≤ 180 by omega) (show v 6 + e < 1000 by omega)
        have hA : anyN (lsQ v a k) (e + 1) = (anyN (lsQ v a k) e || lsQ v a k e) := rfl
        have hq : lsQ v a k e = decide (aA v (rdC v a (v (1880 + 5 * tnI v a k + 1))) (v 6 + e) (v (1880 + 5 * tnI v a k + 1)) (0 + dD v a (v (1880 + 5 * tnI v a k + 1))) < 100000) := rfl
        rw [hA]
        generalize aA v (rdC v a (v (1880 + 5 * tnI v a k + 1))) (v 6 + e) (v (1880 + 5 * tnI v a k + 1)) (0 + dD v a (v (1880 + 5 * tnI v a k + 1))) = y at cs hq
        cases hw : anyN (lsQ v a k) e with
        | true =>
          rw [Bool.true_or]
          simp (disch := first | omega | exact k2 | exact hv _) only [s193_0, s193_1, s193_2, s193_5, s193_8, s193_10, s193_11, s193_12, s193_13, s193_16, s193_17, s193_18, s193_19, s193_21, s193_22, s193_25, s193_28, s193_29, s193_31, s193_32, s193_35, s193_39, s193_42, s193_43, s193_46, s193_48, s193_49, s193_52, s193_53, s193_54, s193_57, s193_58, s193_59, s193_60, s193_63, s193_66, s193_69, s193_71, s193_74, s193_75, s193_76, s193_77, s193_78, s193_79, s193_82, s193_83, s193_84, s193_85, s193_88, s193_90, s193_93, s193_94, s193_97, s193_98, s193_101, s193_102, s193_104, s193_107, s193_110, s193_111, s193_113, s193_116, s193_117, s193_120, s193_121, s193_122, s193_123, s193_124, s193_125, s193_128, s193_131, s193_132, zcs_0, zcs_1, zcs_2, zcs_3, zcs_4, zcs_5, zcs_6, zcs_7, znl_i, znl_r, znl_n, Bool.and_true, Bool.true_and, zk_v, zk_n, zk_x, zir_r, zir_n, zclr_i, zclr_r, zclr_n, zclr_d, zclr_l, true_and, and_true, and_self, if_true, if_false, reduceIte, nI_add, pk_mul, zin_ok, zx_nI, nI_lt2, nI_le2, nI_eq2, nI_l0, nI_g0, nI_q0, nI_p0, nI_n0, nI_m1, Nat.add_zero, Nat.zero_add, Nat.reduceAdd, Nat.reduceMul, true_or, or_true, znar_50, bI_0, bI_1, bI_z, bft, nI_z0, nI_z1, lgc_lt, lgc_gt, lgc_le, lgc_ge, lgc_eq, not_true_eq_false, not_false_eq_true, Bool.not_eq_true, Bool.not_eq_false, reduceCtorEq, MS_sW, CS_sW, sW_r, sW_n, sW_w, cls_sW, fi_sW, fr_sW, la_sW, ra_sW, len_sW, ls_sW, own_sW, n_sW, uc_sW, us_sW, sW_sfi, sW_sla, sW_sLA, sW_sls, sW_spay, sW_sia, sW_sIA, ne_eq, cls_sfi, fr_sfi, ia_sfi, la_sfi, ra_sfi, len_sfi, ls_sfi, own_sfi, n_sfi, uc_sfi, us_sfi, cls_sia, fi_sia, fr_sia, la_sia, ra_sia, len_sia, ls_sia, own_sia, n_sia, uc_sia, us_sia, cls_sIA, fi_sIA, fr_sIA, la_sIA, ra_sIA, len_sIA, ls_sIA, own_sIA, n_sIA, uc_sIA, us_sIA, cls_sla, fi_sla, fr_sla, ia_sla, ra_sla, len_sla, ls_sla, own_sla, n_sla, uc_sla, us_sla, cls_sLA, fi_sLA, fr_sLA, ia_sLA, ra_sLA, len_sLA, ls_sLA, own_sLA, n_sLA, uc_sLA, us_sLA, k0, m141, q2, m159, zmin_nI, u1]
          rfl
        | false =>
          by_cases hy : y < 100000
          · rw [eM_lt hy] at cs
            rw [hq, decide_eq_true hy, Bool.or_true]
            simp (disch := first | omega | exact k2 | exact hv _) only [s193_0, s193_1, s193_2, s193_5, s193_8, s193_10, s193_11, s193_12, s193_13, s193_16, s193_17, s193_18, s193_19, s193_21, s193_22, s193_25, s193_28, s193_29, s193_31, s193_32, s193_35, s193_39, s193_42, s193_43, s193_46, s193_48, s193_49, s193_52, s193_53, s193_54, s193_57, s193_58, s193_59, s193_60, s193_63, s193_66, s193_69, s193_71, s193_74, s193_75, s193_76, s193_77, s193_78, s193_79, s193_82, s193_83, s193_84, s193_85, s193_88, s193_90, s193_93, s193_94, s193_97, s193_98, s193_101, s193_102, s193_104, s193_107, s193_110, s193_111, s193_113, s193_116, s193_117, s193_120, s193_121, s193_122, s193_123, s193_124, s193_125, s193_128, s193_131, s193_132, zcs_0, zcs_1, zcs_2, zcs_3, zcs_4, zcs_5, zcs_6, zcs_7, znl_i, znl_r, znl_n, Bool.and_true, Bool.true_and, zk_v, zk_n, zk_x, zir_r, zir_n, zclr_i, zclr_r, zclr_n, zclr_d, zclr_l, true_and, and_true, and_self, if_true, if_false, reduceIte, nI_add, pk_mul, zin_ok, zx_nI, nI_lt2, nI_le2, nI_eq2, nI_l0, nI_g0, nI_q0, nI_p0, nI_n0, nI_m1, Nat.add_zero, Nat.zero_add, Nat.reduceAdd, Nat.reduceMul, true_or, or_true, znar_50, bI_0, bI_1, bI_z, bft, nI_z0, nI_z1, lgc_lt, lgc_gt, lgc_le, lgc_ge, lgc_eq, not_true_eq_false, not_false_eq_true, Bool.not_eq_true, Bool.not_eq_false, reduceCtorEq, MS_sW, CS_sW, sW_r, sW_n, sW_w, cls_sW, fi_sW, fr_sW, la_sW, ra_sW, len_sW, ls_sW, own_sW, n_sW, uc_sW, us_sW, sW_sfi, sW_sla, sW_sLA, sW_sls, sW_spay, sW_sia, sW_sIA, ne_eq, cls_sfi, fr_sfi, ia_sfi, la_sfi, ra_sfi, len_sfi, ls_sfi, own_sfi, n_sfi, uc_sfi, us_sfi, cls_sia, fi_sia, fr_sia, la_sia, ra_sia, len_sia, ls_sia, own_sia, n_sia, uc_sia, us_sia, cls_sIA, fi_sIA, fr_sIA, la_sIA, ra_sIA, len_sIA, ls_sIA, own_sIA, n_sIA, uc_sIA, us_sIA, cls_sla, fi_sla, fr_sla, ia_sla, ra_sla, len_sla, ls_sla, own_sla, n_sla, uc_sla, us_sla, cls_sLA, fi_sLA, fr_sLA, ia_sLA, ra_sLA, len_sLA, ls_sLA, own_sLA, n_sLA, uc_sLA, us_sLA, k0, m141, q2, m159, zmin_nI, u1, cs]
            rfl
          · rw [eM_ge hy] at cs
            rw [hq, decide_eq_false hy, Bool.or_false]
            simp (disch := first | omega | exact k2 | exact hv _) only [s193_0, s193_1, s193_2, s193_5, s193_8, s193_10, s193_11, s193_12, s193_13, s193_16, s193_17, s193_18, s193_19, s193_21, s193_22, s193_25, s193_28, s193_29, s193_31, s193_32, s193_35, s193_39, s193_42, s193_43, s193_46, s193_48, s193_49, s193_52, s193_53, s193_54, s193_57, s193_58, s193_59, s193_60, s193_63, s193_66, s193_69, s193_71, s193_74, s193_75, s193_76, s193_77, s193_78, s193_79, s193_82, s193_83, s193_84, s193_85, s193_88, s193_90, s193_93, s193_94, s193_97, s193_98, s193_101, s193_102, s193_104, s193_107, s193_110, s193_111, s193_113, s193_116, s193_117, s193_120, s193_121, s193_122, s193_123, s193_124, s193_125, s193_128, s193_131, s193_132, zcs_0, zcs_1, zcs_2, zcs_3, zcs_4, zcs_5, zcs_6, zcs_7, znl_i, znl_r, znl_n, Bool.and_true, Bool.true_and, zk_v, zk_n, zk_x, zir_r, zir_n, zclr_i, zclr_r, zclr_n, zclr_d, zclr_l, true_and, and_true, and_self, if_true, if_false, reduceIte, nI_add, pk_mul, zin_ok, zx_nI, nI_lt2, nI_le2, nI_eq2, nI_l0, nI_g0, nI_q0, nI_p0, nI_n0, nI_m1, Nat.add_zero, Nat.zero_add, Nat.reduceAdd, Nat.reduceMul, true_or, or_true, znar_50, bI_0, bI_1, bI_z, bft, nI_z0, nI_z1, lgc_lt, lgc_gt, lgc_le, lgc_ge, lgc_eq, not_true_eq_false, not_false_eq_true, Bool.not_eq_true, Bool.not_eq_false, reduceCtorEq, MS_sW, CS_sW, sW_r, sW_n, sW_w, cls_sW, fi_sW, fr_sW, la_sW, ra_sW, len_sW, ls_sW, own_sW, n_sW, uc_sW, us_sW, sW_sfi, sW_sla, sW_sLA, sW_sls, sW_spay, sW_sia, sW_sIA, ne_eq, cls_sfi, fr_sfi, ia_sfi, la_sfi, ra_sfi, len_sfi, ls_sfi, own_sfi, n_sfi, uc_sfi, us_sfi, cls_sia, fi_sia, fr_sia, la_sia, ra_sia, len_sia, ls_sia, own_sia, n_sia, uc_sia, us_sia, cls_sIA, fi_sIA, fr_sIA, la_sIA, ra_sIA, len_sIA, ls_sIA, own_sIA, n_sIA, uc_sIA, us_sIA, cls_sla, fi_sla, fr_sla, ia_sla, ra_sla, len_sla, ls_sla, own_sla, n_sla, uc_sla, us_sla, cls_sLA, fi_sLA, fr_sLA, ia_sLA, ra_sLA, len_sLA, ls_sLA, own_sLA, n_sLA, uc_sLA, us_sLA, k0, m141, q2, m159, zmin_nI, u1, cs, eq_self]
            rfl)
      have e0 : anyN (lsQ v a k) 0 = false := rfl
      try dsimp only at inner
      rw [e0, Nat.add_zero] at inner
      refine ⟨(.int (bI (lsP v a k)), .int (nI (v 6 + min 7 (min 399 (v (1880 + 5 * tnI v a k + 3)) + 1 - v 6)))), s193_20.trans ?_⟩
      simp (disch := first | omega | exact k2 | exact hv _) only [s193_0, s193_1, s193_2, s193_5, s193_8, s193_10, s193_11, s193_12, s193_13, s193_16, s193_17, s193_18, s193_19, s193_21, s193_22, s193_25, s193_28, s193_29, s193_31, s193_32, s193_35, s193_39, s193_42, s193_43, s193_46, s193_48, s193_49, s193_52, s193_53, s193_54, s193_57, s193_58, s193_59, s193_60, s193_63, s193_66, s193_69, s193_71, s193_74, s193_75, s193_76, s193_77, s193_78, s193_79, s193_82, s193_83, s193_84, s193_85, s193_88, s193_90, s193_93, s193_94, s193_97, s193_98, s193_101, s193_102, s193_104, s193_107, s193_110, s193_111, s193_113, s193_116, s193_117, s193_120, s193_121, s193_122, s193_123, s193_124, s193_125, s193_128, s193_131, s193_132, zcs_0, zcs_1, zcs_2, zcs_3, zcs_4, zcs_5, zcs_6, zcs_7, znl_i, znl_r, znl_n, Bool.and_true, Bool.true_and, zk_v, zk_n, zk_x, zir_r, zir_n, zclr_i, zclr_r, zclr_n, zclr_d, zclr_l, true_and, and_true, and_self, if_true, if_false, reduceIte, nI_add, pk_mul, zin_ok, zx_nI, nI_lt2, nI_le2, nI_eq2, nI_l0, nI_g0, nI_q0, nI_p0, nI_n0, nI_m1, Nat.add_zero, Nat.zero_add, Nat.reduceAdd, Nat.reduceMul, true_or, or_true, znar_50, bI_0, bI_1, bI_z, bft, nI_z0, nI_z1, lgc_lt, lgc_gt, lgc_le, lgc_ge, lgc_eq, not_true_eq_false, not_false_eq_true, Bool.not_eq_true, Bool.not_eq_false, reduceCtorEq, MS_sW, CS_sW, sW_r, sW_n, sW_w, cls_sW, fi_sW, fr_sW, la_sW, ra_sW, len_sW, ls_sW, own_sW, n_sW, uc_sW, us_sW, sW_sfi, sW_sla, sW_sLA, sW_sls, sW_spay, sW_sia, sW_sIA, ne_eq, cls_sfi, fr_sfi, ia_sfi, la_sfi, ra_sfi, len_sfi, ls_sfi, own_sfi, n_sfi, uc_sfi, us_sfi, cls_sia, fi_sia, fr_sia, la_sia, ra_sia, len_sia, ls_sia, own_sia, n_sia, uc_sia, us_sia, cls_sIA, fi_sIA, fr_sIA, la_sIA, ra_sIA, len_sIA, ls_sIA, own_sIA, n_sIA, uc_sIA, us_sIA, cls_sla, fi_sla, fr_sla, ia_sla, ra_sla, len_sla, ls_sla, own_sla, n_sla, uc_sla, us_sla, cls_sLA, fi_sLA, fr_sLA, ia_sLA, ra_sLA, len_sLA, ls_sLA, own_sLA, n_sLA, uc_sLA, us_sLA, k0, f3, q1, m141]
      refine inner.trans ?_
      rw [← hlE]
      refine s193_37.trans ?_
      have u2 : min (min 399 (v 6 + 6)) (v (1880 + 5 * tnI v a k + 3)) < v 6 + min 7 (min 399 (v (1880 + 5 * tnI v a k + 3)) + 1 - v 6) := by omega
      rw [hst]
      cases lsP v a k with
      | true =>
        rw [Bool.not_true, if_neg (by decide), Nat.or_zero]
        simp (disch := first | omega | exact k2 | exact hv _) only [s193_0, s193_1, s193_2, s193_5, s193_8, s193_10, s193_11, s193_12, s193_13, s193_16, s193_17, s193_18, s193_19, s193_21, s193_22, s193_25, s193_28, s193_29, s193_31, s193_32, s193_35, s193_39, s193_42, s193_43, s193_46, s193_48, s193_49, s193_52, s193_53, s193_54, s193_57, s193_58, s193_59, s193_60, s193_63, s193_66, s193_69, s193_71, s193_74, s193_75, s193_76, s193_77, s193_78, s193_79, s193_82, s193_83, s193_84, s193_85, s193_88, s193_90, s193_93, s193_94, s193_97, s193_98, s193_101, s193_102, s193_104, s193_107, s193_110, s193_111, s193_113, s193_116, s193_117, s193_120, s193_121, s193_122, s193_123, s193_124, s193_125, s193_128, s193_131, s193_132, zcs_0, zcs_1, zcs_2, zcs_3, zcs_4, zcs_5, zcs_6, zcs_7, znl_i, znl_r, znl_n, Bool.and_true, Bool.true_and, zk_v, zk_n, zk_x, zir_r, zir_n, zclr_i, zclr_r, zclr_n, zclr_d, zclr_l, true_and, and_true, and_self, if_true, if_false, reduceIte, nI_add, pk_mul, zin_ok, zx_nI, nI_lt2, nI_le2, nI_eq2, nI_l0, nI_g0, nI_q0, nI_p0, nI_n0, nI_m1, Nat.add_zero, Nat.zero_add, Nat.reduceAdd, Nat.reduceMul, true_or, or_true, znar_50, bI_0, bI_1, bI_z, bft, nI_z0, nI_z1, lgc_lt, lgc_gt, lgc_le, lgc_ge, lgc_eq, not_true_eq_false, not_false_eq_true, Bool.not_eq_true, Bool.not_eq_false, reduceCtorEq, MS_sW, CS_sW, sW_r, sW_n, sW_w, cls_sW, fi_sW, fr_sW, la_sW, ra_sW, len_sW, ls_sW, own_sW, n_sW, uc_sW, us_sW, sW_sfi, sW_sla, sW_sLA, sW_sls, sW_spay, sW_sia, sW_sIA, ne_eq, cls_sfi, fr_sfi, ia_sfi, la_sfi, ra_sfi, len_sfi, ls_sfi, own_sfi, n_sfi, uc_sfi, us_sfi, cls_sia, fi_sia, fr_sia, la_sia, ra_sia, len_sia, ls_sia, own_sia, n_sia, uc_sia, us_sia, cls_sIA, fi_sIA, fr_sIA, la_sIA, ra_sIA, len_sIA, ls_sIA, own_sIA, n_sIA, uc_sIA, us_sIA, cls_sla, fi_sla, fr_sla, ia_sla, ra_sla, len_sla, ls_sla, own_sla, n_sla, uc_sla, us_sla, cls_sLA, fi_sLA, fr_sLA, ia_sLA, ra_sLA, len_sLA, ls_sLA, own_sLA, n_sLA, uc_sLA, us_sLA, k0, m141, q2, m159, zmin_nI, u2, nI_or, Nat.or_zero]
      | false =>
        rw [Bool.not_false, if_pos rfl]
        simp (disch := first | omega | exact k2 | exact hv _) only [s193_0, s193_1, s193_2, s193_5, s193_8, s193_10, s193_11, s193_12, s193_13, s193_16, s193_17, s193_18, s193_19, s193_21, s193_22, s193_25, s193_28, s193_29, s193_31, s193_32, s193_35, s193_39, s193_42, s193_43, s193_46, s193_48, s193_49, s193_52, s193_53, s193_54, s193_57, s193_58, s193_59, s193_60, s193_63, s193_66, s193_69, s193_71, s193_74, s193_75, s193_76, s193_77, s193_78, s193_79, s193_82, s193_83, s193_84, s193_85, s193_88, s193_90, s193_93, s193_94, s193_97, s193_98, s193_101, s193_102, s193_104, s193_107, s193_110, s193_111, s193_113, s193_116, s193_117, s193_120, s193_121, s193_122, s193_123, s193_124, s193_125, s193_128, s193_131, s193_132, zcs_0, zcs_1, zcs_2, zcs_3, zcs_4, zcs_5, zcs_6, zcs_7, znl_i, znl_r, znl_n, Bool.and_true, Bool.true_and, zk_v, zk_n, zk_x, zir_r, zir_n, zclr_i, zclr_r, zclr_n, zclr_d, zclr_l, true_and, and_true, and_self, if_true, if_false, reduceIte, nI_add, pk_mul, zin_ok, zx_nI, nI_lt2, nI_le2, nI_eq2, nI_l0, nI_g0, nI_q0, nI_p0, nI_n0, nI_m1, Nat.add_zero, Nat.zero_add, Nat.reduceAdd, Nat.reduceMul, true_or, or_true, znar_50, bI_0, bI_1, bI_z, bft, nI_z0, nI_z1, lgc_lt, lgc_gt, lgc_le, lgc_ge, lgc_eq, not_true_eq_false, not_false_eq_true, Bool.not_eq_true, Bool.not_eq_false, reduceCtorEq, MS_sW, CS_sW, sW_r, sW_n, sW_w, cls_sW, fi_sW, fr_sW, la_sW, ra_sW, len_sW, ls_sW, own_sW, n_sW, uc_sW, us_sW, sW_sfi, sW_sla, sW_sLA, sW_sls, sW_spay, sW_sia, sW_sIA, ne_eq, cls_sfi, fr_sfi, ia_sfi, la_sfi, ra_sfi, len_sfi, ls_sfi, own_sfi, n_sfi, uc_sfi, us_sfi, cls_sia, fi_sia, fr_sia, la_sia, ra_sia, len_sia, ls_sia, own_sia, n_sia, uc_sia, us_sia, cls_sIA, fi_sIA, fr_sIA, la_sIA, ra_sIA, len_sIA, ls_sIA, own_sIA, n_sIA, uc_sIA, us_sIA, cls_sla, fi_sla, fr_sla, ia_sla, ra_sla, len_sla, ls_sla, own_sla, n_sla, uc_sla, us_sla, cls_sLA, fi_sLA, fr_sLA, ia_sLA, ra_sLA, len_sLA, ls_sLA, own_sLA, n_sLA, uc_sLA, us_sLA, k0, m141, q2, m159, zmin_nI, u2, nI_sh1, nI_or])
    simp (disch := first | omega | exact k2 | exact hv _) only [s193_0, s193_1, s193_2, s193_5, s193_8, s193_10, s193_11, s193_12, s193_13, s193_16, s193_17, s193_18, s193_19, s193_21, s193_22, s193_25, s193_28, s193_29, s193_31, s193_32, s193_35, s193_39, s193_42, s193_43, s193_46, s193_48, s193_49, s193_52, s193_53, s193_54, s193_57, s193_58, s193_59, s193_60, s193_63, s193_66, s193_69, s193_71, s193_74, s193_75, s193_76, s193_77, s193_78, s193_79, s193_82, s193_83, s193_84, s193_85, s193_88, s193_90, s193_93, s193_94, s193_97, s193_98, s193_101, s193_102, s193_104, s193_107, s193_110, s193_111, s193_113, s193_116, s193_117, s193_120, s193_121, s193_122, s193_123, s193_124, s193_125, s193_128, s193_131, s193_132, zcs_0, zcs_1, zcs_2, zcs_3, zcs_4, zcs_5, zcs_6, zcs_7, znl_i, znl_r, znl_n, Bool.and_true, Bool.true_and, zk_v, zk_n, zk_x, zir_r, zir_n, zclr_i, zclr_r, zclr_n, zclr_d, zclr_l, true_and, and_true, and_self, if_true, if_false, reduceIte, nI_add, pk_mul, zin_ok, zx_nI, nI_lt2, nI_le2, nI_eq2, nI_l0, nI_g0, nI_q0, nI_p0, nI_n0, nI_m1, Nat.add_zero, Nat.zero_add, Nat.reduceAdd, Nat.reduceMul, true_or, or_true, znar_50, bI_0, bI_1, bI_z, bft, nI_z0, nI_z1, lgc_lt, lgc_gt, lgc_le, lgc_ge, lgc_eq, not_true_eq_false, not_false_eq_true, Bool.not_eq_true, Bool.not_eq_false, reduceCtorEq]
    refine Eq.mpr (zz 0 (zdum, zdum) (by omega)) ?_
    exact H1
end ML
section CLo
variable {d : Nat} {B : Nat → Prop} {z : ZH} {Q : ZQ} {v : Nat → Nat} {L : Nat → List (Nat × Nat)} {t hl kn rl : Nat} {ha ra da ea : Nat → Nat} {K : Nat}
theorem aL_5 {z2 : ZH} {a dy n : Nat} {hs : Nat → Nat} (h : aL z2 ha a dy hs n) (y : Nat) : aL (sfi z2 122 5 (nI y)) ha a y hs n := ⟨by rw [fi_sfi, zu2_k _ _ _ _ (by omega)]; exact h.1, by rw [fi_sfi, zu2_s], by rw [fi_sfi, zu2_k _ _ _ _ (by omega)]; exact h.2.2.1, h.2.2.2.1, h.2.2.2.2⟩
/-- what stays of the bits behind e days and i debts of the next one -/
def lsB (v : Nat → Nat) (a e i : Nat) : Nat := cvB (fun k => !anyN (fun e => decide (v 6 + e ≤ v (1880 + 5 * tnI v a k + 3)) && lsQ v a k e) (if k < i then e + 1 else e)) (tnN v a)
theorem c39 (h : NW B z v L t hl kn rl ha ra da ea) (nB : ∀ q, B q → ¬ (122 ≤ q ∧ q ≤ 130)) (hT : wT v) (hv : ∀ i, v i < 1073741824) (hWD : wD v) (h8 : v 8 ≤ 600) (h6 : v 6 ≤ 399) {a : Int32} (H : ∀ z2, cFr z z2 → Q (.inl (some (.int (rLost v a)))) z2) : ZC zG (d + 3) 39 [.ref 100, .int a] z Q := by
  have h0 := h.1
  unfold CS at h0
  have hv2 : ∀ i, v i < 2147483648 := fun i => by have := hv i; omega
  have c := fun d Q a => c14 (d := d) (Q := Q) h (a := a)
  unfold rLost at H
  cases hz : zin a (v 0) with
  | false =>
    rw [hz, if_neg (by decide)] at H
    simp (disch := omega) only [e39, s39_0, s39_1, s39_2, s39_5, s39_8, s39_10, s39_11, s39_12, s39_13, s39_16, s39_17, s39_18, s39_19, s39_20, s39_21, s39_22, s39_23, s39_24, s39_27, s39_30, s39_34, s39_35, s39_38, s39_41, s39_43, s39_44, s39_47, s39_49, s39_52, s39_55, s39_56, s39_59, s39_61, s39_64, s39_65, s39_69, s39_70, s39_73, s39_74, s39_77, s39_80, s39_81, s39_83, s39_86, s39_88, s39_90, s39_93, s39_95, s39_98, s39_99, s39_102, s39_103, s39_104, s39_105, s39_108, s39_109, s39_111, s39_114, s39_117, s39_120, s39_122, s39_125, s39_128, s39_131, s39_134, s39_135, s39_136, s39_138, s39_139, s39_140, s39_141, s39_142, s39_143, s39_146, s39_149, s39_152, s39_155, s39_156, zcs_0, zcs_1, zcs_2, zcs_3, zcs_4, zcs_5, zcs_6, zcs_7, znl_i, znl_r, znl_n, Bool.and_true, Bool.true_and, zk_v, zk_n, zk_x, zir_r, zir_n, zclr_i, zclr_r, zclr_n, zclr_d, zclr_l, true_and, and_true, and_self, if_true, if_false, reduceIte, nI_add, pk_mul, zin_ok, zx_nI, nI_lt2, nI_le2, nI_eq2, nI_l0, nI_g0, nI_q0, nI_p0, nI_n0, nI_m1, Nat.add_zero, Nat.zero_add, Nat.reduceAdd, Nat.reduceMul, true_or, or_true, znar_50, bI_0, bI_1, bI_z, bft, nI_z0, nI_z1, lgc_lt, lgc_gt, lgc_le, lgc_ge, lgc_eq, not_true_eq_false, not_false_eq_true, Bool.not_eq_true, Bool.not_eq_false, reduceCtorEq, h0, c, hz]
    exact H z (cFr_refl z)
  | true =>
    obtain ⟨a, g1, g2, rfl⟩ := zin_of hz
    rw [hz, if_pos rfl, zx_nI g2] at H
    have hm := tnN_le v a
    obtain ⟨hN, hN0⟩ := pow10 hm
    simp (disch := omega) only [e39, s39_0, s39_1, s39_2, s39_5, s39_8, s39_10, s39_11, s39_12, s39_13, s39_16, s39_17, s39_18, s39_19, s39_20, s39_21, s39_22, s39_23, s39_24, s39_27, s39_30, s39_34, s39_35, s39_38, s39_41, s39_43, s39_44, s39_47, s39_49, s39_52, s39_55, s39_56, s39_59, s39_61, s39_64, s39_65, s39_69, s39_70, s39_73, s39_74, s39_77, s39_80, s39_81, s39_83, s39_86, s39_88, s39_90, s39_93, s39_95, s39_98, s39_99, s39_102, s39_103, s39_104, s39_105, s39_108, s39_109, s39_111, s39_114, s39_117, s39_120, s39_122, s39_125, s39_128, s39_131, s39_134, s39_135, s39_136, s39_138, s39_139, s39_140, s39_141, s39_142, s39_143, s39_146, s39_149, s39_152, s39_155, s39_156, zcs_0, zcs_1, zcs_2, zcs_3, zcs_4, zcs_5, zcs_6, zcs_7, znl_i, znl_r, znl_n, Bool.and_true, Bool.true_and, zk_v, zk_n, zk_x, zir_r, zir_n, zclr_i, zclr_r, zclr_n, zclr_d, zclr_l, true_and, and_true, and_self, if_true, if_false, reduceIte, nI_add, pk_mul, zin_ok, zx_nI, nI_lt2, nI_le2, nI_eq2, nI_l0, nI_g0, nI_q0, nI_p0, nI_n0, nI_m1, Nat.add_zero, Nat.zero_add, Nat.reduceAdd, Nat.reduceMul, true_or, or_true, znar_50, bI_0, bI_1, bI_z, bft, nI_z0, nI_z1, lgc_lt, lgc_gt, lgc_le, lgc_ge, lgc_eq, not_true_eq_false, not_false_eq_true, Bool.not_eq_true, Bool.not_eq_false, reduceCtorEq, h0, c, hz]
    refine c37 h nB hv2 hWD g1 (fun z2 f1 f2 => ?_)
    have key := zl_inv (P := fun e (w : ZH × Value × Value) => ZW zG (d + 3) 39 32 [.ref 100, .int (nI a), .int (nI (tnN v a)), .int (nI (lsB v a e 0)), .int (nI (v 6 + e)), w.2.1, w.2.2] [] w.1 Q) (I := fun e w => cFr z w.1 ∧ ∃ y, aL w.1 ha a y (thHs v a) (thN v a)) (min 7 (400 - v 6)) (by
      rintro ⟨z3, x5, x6⟩ ⟨i1, i2⟩
      dsimp only at i1
      have hN3 := NW_cFr h nB i1
      have k0 := hN3.1
      unfold CS at k0
      have k6 := hN3.2.2.2.2.2.2.2.2
      have H1 := H z3 i1
      have e : lsB v a (min 7 (400 - v 6)) 0 = cvB (fun k => !lsP v a k) (tnN v a) := by
        unfold lsB
        refine cvB_c (fun k hk => ?_)
        rw [if_neg (by omega)]
        congr 1
        unfold lsP
        refine anyN_if (fun i => ?_)
        rw [Bool.and_eq_true, Bool.and_eq_true, decide_eq_true_iff, decide_eq_true_iff]
        constructor
        · rintro ⟨u1, u2, u3⟩; exact ⟨by omega, by omega, u3⟩
        · rintro ⟨u1, u2, u3⟩; exact ⟨by omega, by omega, u3⟩
      rw [← e] at H1
      refine Eq.mpr s39_32 ?_
      by_cases c7 : v 6 + 7 ≤ v 6 + min 7 (400 - v 6)
      · simp (disch := omega) only [s39_0, s39_1, s39_2, s39_5, s39_8, s39_10, s39_11, s39_12, s39_13, s39_16, s39_17, s39_18, s39_19, s39_20, s39_21, s39_22, s39_23, s39_24, s39_27, s39_30, s39_34, s39_35, s39_38, s39_41, s39_43, s39_44, s39_47, s39_49, s39_52, s39_55, s39_56, s39_59, s39_61, s39_64, s39_65, s39_69, s39_70, s39_73, s39_74, s39_77, s39_80, s39_81, s39_83, s39_86, s39_88, s39_90, s39_93, s39_95, s39_98, s39_99, s39_102, s39_103, s39_104, s39_105, s39_108, s39_109, s39_111, s39_114, s39_117, s39_120, s39_122, s39_125, s39_128, s39_131, s39_134, s39_135, s39_136, s39_138, s39_139, s39_140, s39_141, s39_142, s39_143, s39_146, s39_149, s39_152, s39_155, s39_156, zcs_0, zcs_1, zcs_2, zcs_3, zcs_4, zcs_5, zcs_6, zcs_7, znl_i, znl_r, znl_n, Bool.and_true, Bool.true_and, zk_v, zk_n, zk_x, zir_r, zir_n, zclr_i, zclr_r, zclr_n, zclr_d, zclr_l, true_and, and_true, and_self, if_true, if_false, reduceIte, nI_add, pk_mul, zin_ok, zx_nI, nI_lt2, nI_le2, nI_eq2, nI_l0, nI_g0, nI_q0, nI_p0, nI_n0, nI_m1, Nat.add_zero, Nat.zero_add, Nat.reduceAdd, Nat.reduceMul, true_or, or_true, znar_50, bI_0, bI_1, bI_z, bft, nI_z0, nI_z1, lgc_lt, lgc_gt, lgc_le, lgc_ge, lgc_eq, not_true_eq_false, not_false_eq_true, Bool.not_eq_true, Bool.not_eq_false, reduceCtorEq, k0, k6, c7]
        exact H1
      · have c8 : 399 < v 6 + min 7 (400 - v 6) := by omega
        simp (disch := omega) only [s39_0, s39_1, s39_2, s39_5, s39_8, s39_10, s39_11, s39_12, s39_13, s39_16, s39_17, s39_18, s39_19, s39_20, s39_21, s39_22, s39_23, s39_24, s39_27, s39_30, s39_34, s39_35, s39_38, s39_41, s39_43, s39_44, s39_47, s39_49, s39_52, s39_55, s39_56, s39_59, s39_61, s39_64, s39_65, s39_69, s39_70, s39_73, s39_74, s39_77, s39_80, s39_81, s39_83, s39_86, s39_88, s39_90, s39_93, s39_95, s39_98, s39_99, s39_102, s39_103, s39_104, s39_105, s39_108, s39_109, s39_111, s39_114, s39_117, s39_120, s39_122, s39_125, s39_128, s39_131, s39_134, s39_135, s39_136, s39_138, s39_139, s39_140, s39_141, s39_142, s39_143, s39_146, s39_149, s39_152, s39_155, s39_156, zcs_0, zcs_1, zcs_2, zcs_3, zcs_4, zcs_5, zcs_6, zcs_7, znl_i, znl_r, znl_n, Bool.and_true, Bool.true_and, zk_v, zk_n, zk_x, zir_r, zir_n, zclr_i, zclr_r, zclr_n, zclr_d, zclr_l, true_and, and_true, and_self, if_true, if_false, reduceIte, nI_add, pk_mul, zin_ok, zx_nI, nI_lt2, nI_le2, nI_eq2, nI_l0, nI_g0, nI_q0, nI_p0, nI_n0, nI_m1, Nat.add_zero, Nat.zero_add, Nat.reduceAdd, Nat.reduceMul, true_or, or_true, znar_50, bI_0, bI_1, bI_z, bft, nI_z0, nI_z1, lgc_lt, lgc_gt, lgc_le, lgc_ge, lgc_eq, not_true_eq_false, not_false_eq_true, Bool.not_eq_true, Bool.not_eq_false, reduceCtorEq, k0, k6, c7, c8]
        exact H1) (by
      rintro e ⟨z3, x5, x6⟩ he ⟨i1, y, i2⟩ hnext
      dsimp only at i1 i2
      replace hnext := fun z4 x5 x6 h => hnext (z4, x5, x6) h
      dsimp only at hnext
      have k0 := (NW_cFr h nB i1).1
      unfold CS at k0
      have k6 := (NW_cFr h nB i1).2.2.2.2.2.2.2.2
      have i1' : cFr z (sfi z3 122 5 (nI (v 6 + e))) := cFr_sfi i1 _ _
      have i2' := aL_5 i2 (v 6 + e)
      have c7 : ¬ v 6 + 7 ≤ v 6 + e := by omega
      have c8 : ¬ 399 < v 6 + e := by omega
      refine Eq.mpr s39_32 ?_
      simp (disch := omega) only [s39_0, s39_1, s39_2, s39_5, s39_8, s39_10, s39_11, s39_12, s39_13, s39_16, s39_17, s39_18, s39_19, s39_20, s39_21, s39_22, s39_23, s39_24, s39_27, s39_30, s39_34, s39_35, s39_38, s39_41, s39_43, s39_44, s39_47, s39_49, s39_52, s39_55, s39_56, s39_59, s39_61, s39_64, s39_65, s39_69, s39_70, s39_73, s39_74, s39_77, s39_80, s39_81, s39_83, s39_86, s39_88, s39_90, s39_93, s39_95, s39_98, s39_99, s39_102, s39_103, s39_104, s39_105, s39_108, s39_109, s39_111, s39_114, s39_117, s39_120, s39_122, s39_125, s39_128, s39_131, s39_134, s39_135, s39_136, s39_138, s39_139, s39_140, s39_141, s39_142, s39_143, s39_146, s39_149, s39_152, s39_155, s39_156, zcs_0, zcs_1, zcs_2, zcs_3, zcs_4, zcs_5, zcs_6, zcs_7, znl_i, znl_r, znl_n, Bool.and_true, Bool.true_and, zk_v, zk_n, zk_x, zir_r, zir_n, zclr_i, zclr_r, zclr_n, zclr_d, zclr_l, true_and, and_true, and_self, if_true, if_false, reduceIte, nI_add, pk_mul, zin_ok, zx_nI, nI_lt2, nI_le2, nI_eq2, nI_l0, nI_g0, nI_q0, nI_p0, nI_n0, nI_m1, Nat.add_zero, Nat.zero_add, Nat.reduceAdd, Nat.reduceMul, true_or, or_true, znar_50, bI_0, bI_1, bI_z, bft, nI_z0, nI_z1, lgc_lt, lgc_gt, lgc_le, lgc_ge, lgc_eq, not_true_eq_false, not_false_eq_true, Bool.not_eq_true, Bool.not_eq_false, reduceCtorEq, k0, k6, c7, c8]
      generalize sfi z3 122 5 (nI (v 6 + e)) = z4 at i1' i2'
      have hN4 := NW_cFr h nB i1'
      have j0 := hN4.1
      unfold CS at j0
      have inner := zl_inv (P := fun i (x : Value) => ZW zG (d + 3) 39 67 [.ref 100, .int (nI a), .int (nI (tnN v a)), .int (nI (lsB v a e i)), .int (nI (v 6 + e)), .int (nI i), x] [] z4 Q) (I := fun _ _ => True) (tnN v a) (by
        intro x _
        have e9 : lsB v a e (tnN v a) = lsB v a (e + 1) 0 := by
          unfold lsB
          refine cvB_c (fun k hk => ?_)
          rw [if_pos hk, if_neg (by omega)]
        refine Eq.mpr s39_67 ?_
        simp (disch := omega) only [s39_0, s39_1, s39_2, s39_5, s39_8, s39_10, s39_11, s39_12, s39_13, s39_16, s39_17, s39_18, s39_19, s39_20, s39_21, s39_22, s39_23, s39_24, s39_27, s39_30, s39_34, s39_35, s39_38, s39_41, s39_43, s39_44, s39_47, s39_49, s39_52, s39_55, s39_56, s39_59, s39_61, s39_64, s39_65, s39_69, s39_70, s39_73, s39_74, s39_77, s39_80, s39_81, s39_83, s39_86, s39_88, s39_90, s39_93, s39_95, s39_98, s39_99, s39_102, s39_103, s39_104, s39_105, s39_108, s39_109, s39_111, s39_114, s39_117, s39_120, s39_122, s39_125, s39_128, s39_131, s39_134, s39_135, s39_136, s39_138, s39_139, s39_140, s39_141, s39_142, s39_143, s39_146, s39_149, s39_152, s39_155, s39_156, zcs_0, zcs_1, zcs_2, zcs_3, zcs_4, zcs_5, zcs_6, zcs_7, znl_i, znl_r, znl_n, Bool.and_true, Bool.true_and, zk_v, zk_n, zk_x, zir_r, zir_n, zclr_i, zclr_r, zclr_n, zclr_d, zclr_l, true_and, and_true, and_self, if_true, if_false, reduceIte, nI_add, pk_mul, zin_ok, zx_nI, nI_lt2, nI_le2, nI_eq2, nI_l0, nI_g0, nI_q0, nI_p0, nI_n0, nI_m1, Nat.add_zero, Nat.zero_add, Nat.reduceAdd, Nat.reduceMul, true_or, or_true, znar_50, bI_0, bI_1, bI_z, bft, nI_z0, nI_z1, lgc_lt, lgc_gt, lgc_le, lgc_ge, lgc_eq, not_true_eq_false, not_false_eq_true, Bool.not_eq_true, Bool.not_eq_false, reduceCtorEq, Nat.le_refl, e9, Nat.add_assoc]
        exact hnext z4 _ _ ⟨i1', _, i2'⟩) (by
        intro i x hi _ hn4
        have q1 : ¬ tnN v a ≤ i := by omega
        obtain ⟨cd, u0, u1, u2⟩ := c74t hN4 hi
        have q3 := (tnI_at hi).1
        obtain ⟨_, q4, _, q5, _⟩ := hWD.2 _ q3
        have cat := fun d Q k hk => c17 (d := d) (Q := Q) hN4 (k := k) hk
        have cf := fun d Q => c248 (d := d) (Q := Q) hv hN4.2.2.1 g1 q4
        have hd2 := dD_le hT g1 q4
        have ca := fun d Q => c100 (d := d) (Q := Q) hN4 hT hWD (a := a) (dy := v 6 + e) i2'.2.2.1 i2'.2.1 (by omega) (u := 0) (f := dD v a (v (1880 + 5 * tnI v a i + 1))) (k := v (1880 + 5 * tnI v a i + 1)) q4 (by omega) (by omega)
        obtain ⟨_, fa1, _⟩ := hN4.2.2.1.fld g1
        obtain ⟨_, fb1, _⟩ := hN4.2.2.1.fld q4
        have hq : lsQ v a i e = decide (aA v (rdC v a (v (1880 + 5 * tnI v a i + 1))) (v 6 + e) (v (1880 + 5 * tnI v a i + 1)) (0 + dD v a (v (1880 + 5 * tnI v a i + 1))) < 100000) := rfl
        have hF : aA v (rdC v a (v (1880 + 5 * tnI v a i + 1))) (v 6 + e) (v (1880 + 5 * tnI v a i + 1)) (0 + dD v a (v (1880 + 5 * tnI v a i + 1))) ≤ 180 ∨ aA v (rdC v a (v (1880 + 5 * tnI v a i + 1))) (v 6 + e) (v (1880 + 5 * tnI v a i + 1)) (0 + dD v a (v (1880 + 5 * tnI v a i + 1))) = 100000 := aA_F
        have same : (decide (v 6 + e ≤ v (1880 + 5 * tnI v a i + 3)) && lsQ v a i e) = false → lsB v a e (i + 1) = lsB v a e i := by
          intro hf
          unfold lsB
          refine cvB_c (fun k hk => ?_)
          by_cases ek : k = i
          · subst ek
            rw [if_pos (by omega), if_neg (Nat.lt_irrefl _)]
            congr 1
            show (anyN _ e || _) = _
            dsimp only
            rw [hf, Bool.or_false]
          · by_cases e2 : k < i
            · rw [if_pos e2, if_pos (by omega)]
            · rw [if_neg e2, if_neg (by omega)]
        have less : (decide (v 6 + e ≤ v (1880 + 5 * tnI v a i + 3)) && lsQ v a i e) = true → nI (lsB v a e i) &&& (nI (2 ^ i) ^^^ (-1)) = nI (lsB v a e (i + 1)) := by
          intro hf
          refine andn_eq (by omega) (fun q _ => ?_)
          unfold lsB
          rw [cvB_tb, cvB_tb]
          by_cases ek : q = i
          · subst ek
            rw [if_pos (show q < q + 1 by omega), decide_eq_true (rfl : q = q), Bool.not_true, Bool.and_false]
            have : anyN (fun e => decide (v 6 + e ≤ v (1880 + 5 * tnI v a q + 3)) && lsQ v a q e) (e + 1) = true := by
              show (anyN _ e || _) = _
              dsimp only
              rw [hf, Bool.or_true]
            rw [this, Bool.not_true, Bool.and_false]
          · rw [decide_eq_false ek, Bool.not_false, Bool.and_true]
            by_cases e2 : q < i
            · rw [if_pos e2, if_pos (by omega)]
            · rw [if_neg e2, if_neg (by omega)]
        refine Eq.mpr s39_67 ?_
        generalize aA v (rdC v a (v (1880 + 5 * tnI v a i + 1))) (v 6 + e) (v (1880 + 5 * tnI v a i + 1)) (0 + dD v a (v (1880 + 5 * tnI v a i + 1))) = y at ca hq hF
        by_cases d1 : v 6 + e ≤ v (1880 + 5 * tnI v a i + 3)
        · have d2 : ¬ v (1880 + 5 * tnI v a i + 3) < v 6 + e := by omega
          by_cases d3 : y = 100000
          · have e5 := same (by rw [hq, decide_eq_false (show ¬ y < 100000 by omega), Bool.and_false])
            simp (disch := omega) only [s39_0, s39_1, s39_2, s39_5, s39_8, s39_10, s39_11, s39_12, s39_13, s39_16, s39_17, s39_18, s39_19, s39_20, s39_21, s39_22, s39_23, s39_24, s39_27, s39_30, s39_34, s39_35, s39_38, s39_41, s39_43, s39_44, s39_47, s39_49, s39_52, s39_55, s39_56, s39_59, s39_61, s39_64, s39_65, s39_69, s39_70, s39_73, s39_74, s39_77, s39_80, s39_81, s39_83, s39_86, s39_88, s39_90, s39_93, s39_95, s39_98, s39_99, s39_102, s39_103, s39_104, s39_105, s39_108, s39_109, s39_111, s39_114, s39_117, s39_120, s39_122, s39_125, s39_128, s39_131, s39_134, s39_135, s39_136, s39_138, s39_139, s39_140, s39_141, s39_142, s39_143, s39_146, s39_149, s39_152, s39_155, s39_156, zcs_0, zcs_1, zcs_2, zcs_3, zcs_4, zcs_5, zcs_6, zcs_7, znl_i, znl_r, znl_n, Bool.and_true, Bool.true_and, zk_v, zk_n, zk_x, zir_r, zir_n, zclr_i, zclr_r, zclr_n, zclr_d, zclr_l, true_and, and_true, and_self, if_true, if_false, reduceIte, nI_add, pk_mul, zin_ok, zx_nI, nI_lt2, nI_le2, nI_eq2, nI_l0, nI_g0, nI_q0, nI_p0, nI_n0, nI_m1, Nat.add_zero, Nat.zero_add, Nat.reduceAdd, Nat.reduceMul, true_or, or_true, znar_50, bI_0, bI_1, bI_z, bft, nI_z0, nI_z1, lgc_lt, lgc_gt, lgc_le, lgc_ge, lgc_eq, not_true_eq_false, not_false_eq_true, Bool.not_eq_true, Bool.not_eq_false, reduceCtorEq, j0, q1, cd, u0, u1, u2, d2, cat, cf, ca, fa1, fb1, d3, eq_self]
            rw [← e5]
            exact hn4 _ trivial
          · have e5 := less (by rw [hq, decide_eq_true d1, decide_eq_true (show y < 100000 by omega)]; rfl)
            simp (disch := omega) only [s39_0, s39_1, s39_2, s39_5, s39_8, s39_10, s39_11, s39_12, s39_13, s39_16, s39_17, s39_18, s39_19, s39_20, s39_21, s39_22, s39_23, s39_24, s39_27, s39_30, s39_34, s39_35, s39_38, s39_41, s39_43, s39_44, s39_47, s39_49, s39_52, s39_55, s39_56, s39_59, s39_61, s39_64, s39_65, s39_69, s39_70, s39_73, s39_74, s39_77, s39_80, s39_81, s39_83, s39_86, s39_88, s39_90, s39_93, s39_95, s39_98, s39_99, s39_102, s39_103, s39_104, s39_105, s39_108, s39_109, s39_111, s39_114, s39_117, s39_120, s39_122, s39_125, s39_128, s39_131, s39_134, s39_135, s39_136, s39_138, s39_139, s39_140, s39_141, s39_142, s39_143, s39_146, s39_149, s39_152, s39_155, s39_156, zcs_0, zcs_1, zcs_2, zcs_3, zcs_4, zcs_5, zcs_6, zcs_7, znl_i, znl_r, znl_n, Bool.and_true, Bool.true_and, zk_v, zk_n, zk_x, zir_r, zir_n, zclr_i, zclr_r, zclr_n, zclr_d, zclr_l, true_and, and_true, and_self, if_true, if_false, reduceIte, nI_add, pk_mul, zin_ok, zx_nI, nI_lt2, nI_le2, nI_eq2, nI_l0, nI_g0, nI_q0, nI_p0, nI_n0, nI_m1, Nat.add_zero, Nat.zero_add, Nat.reduceAdd, Nat.reduceMul, true_or, or_true, znar_50, bI_0, bI_1, bI_z, bft, nI_z0, nI_z1, lgc_lt, lgc_gt, lgc_le, lgc_ge, lgc_eq, not_true_eq_false, not_false_eq_true, Bool.not_eq_true, Bool.not_eq_false, reduceCtorEq, j0, q1, cd, u0, u1, u2, d2, cat, cf, ca, fa1, fb1, d3, nI_sh1, e5]
            exact hn4 _ trivial
        · have d2 : v (1880 + 5 * tnI v a i + 3) < v 6 + e := by omega
          have e5 := same (by rw [decide_eq_false d1, Bool.false_and])
          simp (disch := omega) only [s39_0, s39_1, s39_2, s39_5, s39_8, s39_10, s39_11, s39_12, s39_13, s39_16, s39_17, s39_18, s39_19, s39_20, s39_21, s39_22, s39_23, s39_24, s39_27, s39_30, s39_34, s39_35, s39_38, s39_41, s39_43, s39_44, s39_47, s39_49, s39_52, s39_55, s39_56, s39_59, s39_61, s39_64, s39_65, s39_69, s39_70, s39_73, s39_74, s39_77, s39_80, s39_81, s39_83, s39_86, s39_88, s39_90, s39_93, s39_95, s39_98, s39_99, s39_102, s39_103, s39_104, s39_105, s39_108, s39_109, s39_111, s39_114, s39_117, s39_120, s39_122, s39_125, s39_128, s39_131, s39_134, s39_135, s39_136, s39_138, s39_139, s39_140, s39_141, s39_142, s39_143, s39_146, s39_149, s39_152, s39_155, s39_156, zcs_0, zcs_1, zcs_2, zcs_3, zcs_4, zcs_5, zcs_6, zcs_7, znl_i, znl_r, znl_n, Bool.and_true, Bool.true_and, zk_v, zk_n, zk_x, zir_r, zir_n, zclr_i, zclr_r, zclr_n, zclr_d, zclr_l, true_and, and_true, and_self, if_true, if_false, reduceIte, nI_add, pk_mul, zin_ok, zx_nI, nI_lt2, nI_le2, nI_eq2, nI_l0, nI_g0, nI_q0, nI_p0, nI_n0, nI_m1, Nat.add_zero, Nat.zero_add, Nat.reduceAdd, Nat.reduceMul, true_or, or_true, znar_50, bI_0, bI_1, bI_z, bft, nI_z0, nI_z1, lgc_lt, lgc_gt, lgc_le, lgc_ge, lgc_eq, not_true_eq_false, not_false_eq_true, Bool.not_eq_true, Bool.not_eq_false, reduceCtorEq, j0, q1, cd, u0, u1, u2, d2]
          rw [← e5]
          exact hn4 _ trivial)
      exact inner 0 _ (Nat.zero_le _) trivial)
    have e0 : lsB v a 0 0 = 2 ^ tnN v a - 1 := by
      apply Nat.eq_of_testBit_eq
      intro i
      unfold lsB
      rw [cvB_tb, Nat.testBit_two_pow_sub_one, if_neg (by omega)]
      show (_ && !false) = _
      rw [Bool.not_false, Bool.and_true]
    have k1 := key 0 (z2, zdum, zdum) (Nat.zero_le _) ⟨f1, _, f2⟩
    dsimp only at k1
    rw [e0, Nat.add_zero] at k1
    have hN2 := NW_cFr h nB f1
    have k0 := hN2.1
    unfold CS at k0
    have k6 := hN2.2.2.2.2.2.2.2.2
    simp (disch := omega) only [s39_0, s39_1, s39_2, s39_5, s39_8, s39_10, s39_11, s39_12, s39_13, s39_16, s39_17, s39_18, s39_19, s39_20, s39_21, s39_22, s39_23, s39_24, s39_27, s39_30, s39_34, s39_35, s39_38, s39_41, s39_43, s39_44, s39_47, s39_49, s39_52, s39_55, s39_56, s39_59, s39_61, s39_64, s39_65, s39_69, s39_70, s39_73, s39_74, s39_77, s39_80, s39_81, s39_83, s39_86, s39_88, s39_90, s39_93, s39_95, s39_98, s39_99, s39_102, s39_103, s39_104, s39_105, s39_108, s39_109, s39_111, s39_114, s39_117, s39_120, s39_122, s39_125, s39_128, s39_131, s39_134, s39_135, s39_136, s39_138, s39_139, s39_140, s39_141, s39_142, s39_143, s39_146, s39_149, s39_152, s39_155, s39_156, zcs_0, zcs_1, zcs_2, zcs_3, zcs_4, zcs_5, zcs_6, zcs_7, znl_i, znl_r, znl_n, Bool.and_true, Bool.true_and, zk_v, zk_n, zk_x, zir_r, zir_n, zclr_i, zclr_r, zclr_n, zclr_d, zclr_l, true_and, and_true, and_self, if_true, if_false, reduceIte, nI_add, pk_mul, zin_ok, zx_nI, nI_lt2, nI_le2, nI_eq2, nI_l0, nI_g0, nI_q0, nI_p0, nI_n0, nI_m1, Nat.add_zero, Nat.zero_add, Nat.reduceAdd, Nat.reduceMul, true_or, or_true, znar_50, bI_0, bI_1, bI_z, bft, nI_z0, nI_z1, lgc_lt, lgc_gt, lgc_le, lgc_ge, lgc_eq, not_true_eq_false, not_false_eq_true, Bool.not_eq_true, Bool.not_eq_false, reduceCtorEq, k0, k6, nI_sh1, pk_sub]
    exact k1
end CLo
