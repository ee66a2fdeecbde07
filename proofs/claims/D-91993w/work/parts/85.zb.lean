set_option maxRecDepth 100000
/-! the ring of a house -/
def rgI (bt : Nat → Nat) (n a : Nat) : Int32 := if onesN (cmI bt 16 a) 16 < nI 2 then nI 0 else if anyN (fun h => hasI (cmI bt 16 a) (nI h) && !decide (cmI bt 16 h = cmI bt 16 a)) n = true then nI 0 else cmI bt 16 a
section RG
variable {d : Nat} {B : Nat → Prop} {z : ZH} {Q : ZQ} {v : Nat → Nat} {L : Nat → List (Nat × Nat)} {t hl kn rl : Nat} {ha ra da ea : Nat → Nat} {K : Nat}
theorem m204 (hM : MS z) {bt : Nat → Nat} (hz : ∀ h, h < 16 → zia z 156 h = nI (bt h)) (hbt : ∀ h, h < 16 → bt h < 65536) {a : Nat} (ha9 : a < 16) : ZC zG (d + 2) 204 [.ref 135, .int (nI a)] z Q = Q (.inl (some (.int (rgI bt (16) a)))) z := by
  have h0 := hM
  unfold MS at h0
  have cc := fun d Q h h9 => m205 (d := d) (Q := Q) hM hz hbt (a := h) h9
  have key : ∀ m h, h + m = 16 → anyN (fun h => hasI (cmI bt 16 a) (nI h) && !decide (cmI bt 16 h = cmI bt 16 a)) h = false → ZW zG (d + 2) 204 18 [.ref 135, .int (nI a), .int (cmI bt 16 a), .int (nI h)] [] z Q = Q (.inl (some (.int (if anyN (fun h => hasI (cmI bt 16 a) (nI h) && !decide (cmI bt 16 h = cmI bt 16 a)) (16) = true then nI 0 else cmI bt 16 a)))) z := by
    intro m
    induction m with
    | zero =>
      intro h hh hf
      have : h = 16 := by omega
      subst this
      rw [hf]
      refine s204_18.trans ?_
      simp (disch := first | omega | exact hM) only [s204_0, s204_1, s204_2, s204_5, s204_6, s204_7, s204_10, s204_11, s204_14, s204_15, s204_16, s204_17, s204_19, s204_21, s204_24, s204_25, s204_26, s204_29, s204_32, s204_33, s204_34, s204_37, s204_38, s204_41, s204_42, s204_43, s204_46, s204_49, s204_50, zcs_0, zcs_1, zcs_2, zcs_3, zcs_4, zcs_5, zcs_6, zcs_7, znl_i, znl_r, znl_n, Bool.and_true, Bool.true_and, zk_v, zk_n, zk_x, zir_r, zir_n, zclr_i, zclr_r, zclr_n, zclr_d, zclr_l, true_and, and_true, and_self, if_true, if_false, reduceIte, nI_add, pk_mul, zin_ok, zx_nI, nI_lt2, nI_le2, nI_eq2, nI_l0, nI_g0, nI_q0, nI_p0, nI_n0, nI_m1, Nat.add_zero, Nat.zero_add, Nat.reduceAdd, Nat.reduceMul, true_or, or_true, znar_50, bI_0, bI_1, bI_z, bft, nI_z0, nI_z1, lgc_lt, lgc_gt, lgc_le, lgc_ge, lgc_eq, not_true_eq_false, not_false_eq_true, Bool.not_eq_true, Bool.not_eq_false, reduceCtorEq, h0, m149, m152, Nat.le_refl, Bool.false_eq_true, if_false]
    | succ m ih =>
      intro h hh hf
      have g1 : ¬ 16 ≤ h := by omega
      have g16 : h < 16 := by omega
      have hs : anyN (fun h => hasI (cmI bt 16 a) (nI h) && !decide (cmI bt 16 h = cmI bt 16 a)) (h + 1) = (hasI (cmI bt 16 a) (nI h) && !decide (cmI bt 16 h = cmI bt 16 a)) := by
        conv => lhs; unfold anyN
        rw [hf, Bool.false_or]
      refine s204_18.trans ?_
      cases hb : hasI (cmI bt 16 a) (nI h) with
      | false =>
        simp (disch := first | omega | exact hM) only [s204_0, s204_1, s204_2, s204_5, s204_6, s204_7, s204_10, s204_11, s204_14, s204_15, s204_16, s204_17, s204_19, s204_21, s204_24, s204_25, s204_26, s204_29, s204_32, s204_33, s204_34, s204_37, s204_38, s204_41, s204_42, s204_43, s204_46, s204_49, s204_50, zcs_0, zcs_1, zcs_2, zcs_3, zcs_4, zcs_5, zcs_6, zcs_7, znl_i, znl_r, znl_n, Bool.and_true, Bool.true_and, zk_v, zk_n, zk_x, zir_r, zir_n, zclr_i, zclr_r, zclr_n, zclr_d, zclr_l, true_and, and_true, and_self, if_true, if_false, reduceIte, nI_add, pk_mul, zin_ok, zx_nI, nI_lt2, nI_le2, nI_eq2, nI_l0, nI_g0, nI_q0, nI_p0, nI_n0, nI_m1, Nat.add_zero, Nat.zero_add, Nat.reduceAdd, Nat.reduceMul, true_or, or_true, znar_50, bI_0, bI_1, bI_z, bft, nI_z0, nI_z1, lgc_lt, lgc_gt, lgc_le, lgc_ge, lgc_eq, not_true_eq_false, not_false_eq_true, Bool.not_eq_true, Bool.not_eq_false, reduceCtorEq, h0, m149, m152, g1, hb, eq_self]
        exact ih (h + 1) (by omega) (by rw [hs, hb, Bool.false_and])
      | true =>
        have ch := fun d Q => cc d Q h g16
        by_cases c1 : cmI bt 16 h = cmI bt 16 a
        · simp (disch := first | omega | exact hM) only [s204_0, s204_1, s204_2, s204_5, s204_6, s204_7, s204_10, s204_11, s204_14, s204_15, s204_16, s204_17, s204_19, s204_21, s204_24, s204_25, s204_26, s204_29, s204_32, s204_33, s204_34, s204_37, s204_38, s204_41, s204_42, s204_43, s204_46, s204_49, s204_50, zcs_0, zcs_1, zcs_2, zcs_3, zcs_4, zcs_5, zcs_6, zcs_7, znl_i, znl_r, znl_n, Bool.and_true, Bool.true_and, zk_v, zk_n, zk_x, zir_r, zir_n, zclr_i, zclr_r, zclr_n, zclr_d, zclr_l, true_and, and_true, and_self, if_true, if_false, reduceIte, nI_add, pk_mul, zin_ok, zx_nI, nI_lt2, nI_le2, nI_eq2, nI_l0, nI_g0, nI_q0, nI_p0, nI_n0, nI_m1, Nat.add_zero, Nat.zero_add, Nat.reduceAdd, Nat.reduceMul, true_or, or_true, znar_50, bI_0, bI_1, bI_z, bft, nI_z0, nI_z1, lgc_lt, lgc_gt, lgc_le, lgc_ge, lgc_eq, not_true_eq_false, not_false_eq_true, Bool.not_eq_true, Bool.not_eq_false, reduceCtorEq, h0, m149, m152, g1, hb, ch, c1, eq_self]
          exact ih (h + 1) (by omega) (by rw [hs, hb, decide_eq_true c1]; rfl)
        · have hany : anyN (fun h => hasI (cmI bt 16 a) (nI h) && !decide (cmI bt 16 h = cmI bt 16 a)) (16) = true := (anyN_t _ _).mpr ⟨h, by omega, by simp [hb, c1]⟩
          rw [hany]
          simp (disch := first | omega | exact hM) only [s204_0, s204_1, s204_2, s204_5, s204_6, s204_7, s204_10, s204_11, s204_14, s204_15, s204_16, s204_17, s204_19, s204_21, s204_24, s204_25, s204_26, s204_29, s204_32, s204_33, s204_34, s204_37, s204_38, s204_41, s204_42, s204_43, s204_46, s204_49, s204_50, zcs_0, zcs_1, zcs_2, zcs_3, zcs_4, zcs_5, zcs_6, zcs_7, znl_i, znl_r, znl_n, Bool.and_true, Bool.true_and, zk_v, zk_n, zk_x, zir_r, zir_n, zclr_i, zclr_r, zclr_n, zclr_d, zclr_l, true_and, and_true, and_self, if_true, if_false, reduceIte, nI_add, pk_mul, zin_ok, zx_nI, nI_lt2, nI_le2, nI_eq2, nI_l0, nI_g0, nI_q0, nI_p0, nI_n0, nI_m1, Nat.add_zero, Nat.zero_add, Nat.reduceAdd, Nat.reduceMul, true_or, or_true, znar_50, bI_0, bI_1, bI_z, bft, nI_z0, nI_z1, lgc_lt, lgc_gt, lgc_le, lgc_ge, lgc_eq, not_true_eq_false, not_false_eq_true, Bool.not_eq_true, Bool.not_eq_false, reduceCtorEq, h0, m149, m152, g1, hb, ch, c1, eq_self, if_true]
  have ca := fun d Q => cc d Q a ha9
  have k0 := key (16) 0 (by omega) rfl
  unfold rgI
  by_cases c2 : onesN (cmI bt 16 a) 16 < nI 2
  · have c3 : ¬ nI 2 ≤ onesN (cmI bt 16 a) 16 := Int32.not_le.mpr c2
    rw [if_pos c2]
    simp (disch := first | omega | exact hM) only [e204, s204_0, s204_1, s204_2, s204_5, s204_6, s204_7, s204_10, s204_11, s204_14, s204_15, s204_16, s204_17, s204_19, s204_21, s204_24, s204_25, s204_26, s204_29, s204_32, s204_33, s204_34, s204_37, s204_38, s204_41, s204_42, s204_43, s204_46, s204_49, s204_50, zcs_0, zcs_1, zcs_2, zcs_3, zcs_4, zcs_5, zcs_6, zcs_7, znl_i, znl_r, znl_n, Bool.and_true, Bool.true_and, zk_v, zk_n, zk_x, zir_r, zir_n, zclr_i, zclr_r, zclr_n, zclr_d, zclr_l, true_and, and_true, and_self, if_true, if_false, reduceIte, nI_add, pk_mul, zin_ok, zx_nI, nI_lt2, nI_le2, nI_eq2, nI_l0, nI_g0, nI_q0, nI_p0, nI_n0, nI_m1, Nat.add_zero, Nat.zero_add, Nat.reduceAdd, Nat.reduceMul, true_or, or_true, znar_50, bI_0, bI_1, bI_z, bft, nI_z0, nI_z1, lgc_lt, lgc_gt, lgc_le, lgc_ge, lgc_eq, not_true_eq_false, not_false_eq_true, Bool.not_eq_true, Bool.not_eq_false, reduceCtorEq, h0, m149, m152, ca, c3]
  · have c3 : nI 2 ≤ onesN (cmI bt 16 a) 16 := Int32.not_lt.mp c2
    rw [if_neg c2]
    simp (disch := first | omega | exact hM) only [e204, s204_0, s204_1, s204_2, s204_5, s204_6, s204_7, s204_10, s204_11, s204_14, s204_15, s204_16, s204_17, s204_19, s204_21, s204_24, s204_25, s204_26, s204_29, s204_32, s204_33, s204_34, s204_37, s204_38, s204_41, s204_42, s204_43, s204_46, s204_49, s204_50, zcs_0, zcs_1, zcs_2, zcs_3, zcs_4, zcs_5, zcs_6, zcs_7, znl_i, znl_r, znl_n, Bool.and_true, Bool.true_and, zk_v, zk_n, zk_x, zir_r, zir_n, zclr_i, zclr_r, zclr_n, zclr_d, zclr_l, true_and, and_true, and_self, if_true, if_false, reduceIte, nI_add, pk_mul, zin_ok, zx_nI, nI_lt2, nI_le2, nI_eq2, nI_l0, nI_g0, nI_q0, nI_p0, nI_n0, nI_m1, Nat.add_zero, Nat.zero_add, Nat.reduceAdd, Nat.reduceMul, true_or, or_true, znar_50, bI_0, bI_1, bI_z, bft, nI_z0, nI_z1, lgc_lt, lgc_gt, lgc_le, lgc_ge, lgc_eq, not_true_eq_false, not_false_eq_true, Bool.not_eq_true, Bool.not_eq_false, reduceCtorEq, h0, m149, m152, ca, c3]
    exact k0
theorem c49 (h : NW B z v L t hl kn rl ha ra da ea) (hv : ∀ i, v i < 2147483648) (hE1 : ∀ i, i < v 8 → v (6680 + 4 * i + 1) < 16) {bt : Nat → Nat} (hz : ∀ h, h < 16 → clB v h (v 8) = bt h) (hz0 : ∀ h, v 0 ≤ h → h < 16 → bt h = 0) (hbt : ∀ h, h < 16 → bt h < 65536) {a : Nat} (ha9 : a < 16) : ZC zG (d + 3) 49 [.ref 100, .int (nI a)] z Q = Q (.inl (some (.int (rgI bt (v 0) a)))) z := by
  have h16 : v 0 ≤ 16 := h.2.2.1.2.2.2.1.2
  have cc := fun d Q q h9 => c50 (d := d) (Q := Q) h hv hE1 hz hbt (a := q) h9
  have mo := fun q h9 => cmI_more (bt := bt) (n := v 0) (a := q) h16 hbt hz0 h9
  have cc : ∀ d Q q, q < 16 → ZC zG (d + 2) 50 [.ref 100, .int (nI q)] z Q = Q (.inl (some (.int (cmI bt 16 q)))) z := fun d Q q h9 => by rw [cc d Q q h9, mo q h9]
  have c63' := fun d Q => c63 (d := d) (Q := Q) h.2.2.1
  have ct := h.2.2.1.1.2
  have h1 := h.2.1.1
  have h0 := h.1
  unfold CS at h0
  have bc : bcI (cmI bt 16 a) = onesN (cmI bt 16 a) 16 := by
    have h2a : (2 : Nat) ^ a < 2 ^ 16 := Nat.pow_lt_pow_right (by omega) ha9
    obtain ⟨c, g1, g2, g3⟩ := fixB_N (bt := bt) (N := 16) (n := 16) hbt 65536 (2 ^ a) h2a
    have e : cmI bt 16 a = nI c := g3
    rw [e, bc_pc g2, ones_pc (by omega) 16 (Nat.le_refl _)]
  have key : ∀ m h, h + m = v 0 → anyN (fun h => hasI (cmI bt 16 a) (nI h) && !decide (cmI bt 16 h = cmI bt 16 a)) h = false → ZW zG (d + 3) 49 18 [.ref 100, .int (nI a), .int (cmI bt 16 a), .int (nI h)] [] z Q = Q (.inl (some (.int (if anyN (fun h => hasI (cmI bt 16 a) (nI h) && !decide (cmI bt 16 h = cmI bt 16 a)) (v 0) = true then nI 0 else cmI bt 16 a)))) z := by
    intro m
    induction m with
    | zero =>
      intro h hh hf
      have : h = v 0 := by omega
      subst this
      rw [hf]
      refine s49_18.trans ?_
      simp (disch := omega) only [s49_0, s49_1, s49_2, s49_5, s49_6, s49_7, s49_10, s49_11, s49_14, s49_15, s49_16, s49_17, s49_19, s49_20, s49_23, s49_26, s49_29, s49_32, s49_33, s49_34, s49_37, s49_40, s49_41, s49_42, s49_45, s49_46, s49_49, s49_50, s49_51, s49_54, s49_57, s49_58, zcs_0, zcs_1, zcs_2, zcs_3, zcs_4, zcs_5, zcs_6, zcs_7, znl_i, znl_r, znl_n, Bool.and_true, Bool.true_and, zk_v, zk_n, zk_x, zir_r, zir_n, zclr_i, zclr_r, zclr_n, zclr_d, zclr_l, true_and, and_true, and_self, if_true, if_false, reduceIte, nI_add, pk_mul, zin_ok, zx_nI, nI_lt2, nI_le2, nI_eq2, nI_l0, nI_g0, nI_q0, nI_p0, nI_n0, nI_m1, Nat.add_zero, Nat.zero_add, Nat.reduceAdd, Nat.reduceMul, true_or, or_true, znar_50, bI_0, bI_1, bI_z, bft, nI_z0, nI_z1, lgc_lt, lgc_gt, lgc_le, lgc_ge, lgc_eq, not_true_eq_false, not_false_eq_true, Bool.not_eq_true, Bool.not_eq_false, reduceCtorEq, h0, h1, ct, c63', c18, c251, bc, Nat.le_refl, Bool.false_eq_true, if_false]
    | succ m ih =>
      intro h hh hf
      have g1 : ¬ v 0 ≤ h := by omega
      have g16 : h < 16 := by omega
      have hs : anyN (fun h => hasI (cmI bt 16 a) (nI h) && !decide (cmI bt 16 h = cmI bt 16 a)) (h + 1) = (hasI (cmI bt 16 a) (nI h) && !decide (cmI bt 16 h = cmI bt 16 a)) := by
        conv => lhs; unfold anyN
        rw [hf, Bool.false_or]
      refine s49_18.trans ?_
      cases hb : hasI (cmI bt 16 a) (nI h) with
      | false =>
        simp (disch := omega) only [s49_0, s49_1, s49_2, s49_5, s49_6, s49_7, s49_10, s49_11, s49_14, s49_15, s49_16, s49_17, s49_19, s49_20, s49_23, s49_26, s49_29, s49_32, s49_33, s49_34, s49_37, s49_40, s49_41, s49_42, s49_45, s49_46, s49_49, s49_50, s49_51, s49_54, s49_57, s49_58, zcs_0, zcs_1, zcs_2, zcs_3, zcs_4, zcs_5, zcs_6, zcs_7, znl_i, znl_r, znl_n, Bool.and_true, Bool.true_and, zk_v, zk_n, zk_x, zir_r, zir_n, zclr_i, zclr_r, zclr_n, zclr_d, zclr_l, true_and, and_true, and_self, if_true, if_false, reduceIte, nI_add, pk_mul, zin_ok, zx_nI, nI_lt2, nI_le2, nI_eq2, nI_l0, nI_g0, nI_q0, nI_p0, nI_n0, nI_m1, Nat.add_zero, Nat.zero_add, Nat.reduceAdd, Nat.reduceMul, true_or, or_true, znar_50, bI_0, bI_1, bI_z, bft, nI_z0, nI_z1, lgc_lt, lgc_gt, lgc_le, lgc_ge, lgc_eq, not_true_eq_false, not_false_eq_true, Bool.not_eq_true, Bool.not_eq_false, reduceCtorEq, h0, h1, ct, c63', c18, c251, bc, g1, hb, eq_self]
        exact ih (h + 1) (by omega) (by rw [hs, hb, Bool.false_and])
      | true =>
        have ch := fun d Q => cc d Q h g16
        by_cases c1 : cmI bt 16 h = cmI bt 16 a
        · simp (disch := omega) only [s49_0, s49_1, s49_2, s49_5, s49_6, s49_7, s49_10, s49_11, s49_14, s49_15, s49_16, s49_17, s49_19, s49_20, s49_23, s49_26, s49_29, s49_32, s49_33, s49_34, s49_37, s49_40, s49_41, s49_42, s49_45, s49_46, s49_49, s49_50, s49_51, s49_54, s49_57, s49_58, zcs_0, zcs_1, zcs_2, zcs_3, zcs_4, zcs_5, zcs_6, zcs_7, znl_i, znl_r, znl_n, Bool.and_true, Bool.true_and, zk_v, zk_n, zk_x, zir_r, zir_n, zclr_i, zclr_r, zclr_n, zclr_d, zclr_l, true_and, and_true, and_self, if_true, if_false, reduceIte, nI_add, pk_mul, zin_ok, zx_nI, nI_lt2, nI_le2, nI_eq2, nI_l0, nI_g0, nI_q0, nI_p0, nI_n0, nI_m1, Nat.add_zero, Nat.zero_add, Nat.reduceAdd, Nat.reduceMul, true_or, or_true, znar_50, bI_0, bI_1, bI_z, bft, nI_z0, nI_z1, lgc_lt, lgc_gt, lgc_le, lgc_ge, lgc_eq, not_true_eq_false, not_false_eq_true, Bool.not_eq_true, Bool.not_eq_false, reduceCtorEq, h0, h1, ct, c63', c18, c251, bc, g1, hb, ch, c1, eq_self]
          exact ih (h + 1) (by omega) (by rw [hs, hb, decide_eq_true c1]; rfl)
        · have hany : anyN (fun h => hasI (cmI bt 16 a) (nI h) && !decide (cmI bt 16 h = cmI bt 16 a)) (v 0) = true := (anyN_t _ _).mpr ⟨h, by omega, by simp [hb, c1]⟩
          rw [hany]
          simp (disch := omega) only [s49_0, s49_1, s49_2, s49_5, s49_6, s49_7, s49_10, s49_11, s49_14, s49_15, s49_16, s49_17, s49_19, s49_20, s49_23, s49_26, s49_29, s49_32, s49_33, s49_34, s49_37, s49_40, s49_41, s49_42, s49_45, s49_46, s49_49, s49_50, s49_51, s49_54, s49_57, s49_58, zcs_0, zcs_1, zcs_2, zcs_3, zcs_4, zcs_5, zcs_6, zcs_7, znl_i, znl_r, znl_n, Bool.and_true, Bool.true_and, zk_v, zk_n, zk_x, zir_r, zir_n, zclr_i, zclr_r, zclr_n, zclr_d, zclr_l, true_and, and_true, and_self, if_true, if_false, reduceIte, nI_add, pk_mul, zin_ok, zx_nI, nI_lt2, nI_le2, nI_eq2, nI_l0, nI_g0, nI_q0, nI_p0, nI_n0, nI_m1, Nat.add_zero, Nat.zero_add, Nat.reduceAdd, Nat.reduceMul, true_or, or_true, znar_50, bI_0, bI_1, bI_z, bft, nI_z0, nI_z1, lgc_lt, lgc_gt, lgc_le, lgc_ge, lgc_eq, not_true_eq_false, not_false_eq_true, Bool.not_eq_true, Bool.not_eq_false, reduceCtorEq, h0, h1, ct, c63', c18, c251, bc, g1, hb, ch, c1, eq_self, if_true]
  have ca := fun d Q => cc d Q a ha9
  have k0 := key (v 0) 0 (by omega) rfl
  unfold rgI
  by_cases c2 : onesN (cmI bt 16 a) 16 < nI 2
  · have c3 : ¬ nI 2 ≤ onesN (cmI bt 16 a) 16 := Int32.not_le.mpr c2
    rw [if_pos c2]
    simp (disch := omega) only [e49, s49_0, s49_1, s49_2, s49_5, s49_6, s49_7, s49_10, s49_11, s49_14, s49_15, s49_16, s49_17, s49_19, s49_20, s49_23, s49_26, s49_29, s49_32, s49_33, s49_34, s49_37, s49_40, s49_41, s49_42, s49_45, s49_46, s49_49, s49_50, s49_51, s49_54, s49_57, s49_58, zcs_0, zcs_1, zcs_2, zcs_3, zcs_4, zcs_5, zcs_6, zcs_7, znl_i, znl_r, znl_n, Bool.and_true, Bool.true_and, zk_v, zk_n, zk_x, zir_r, zir_n, zclr_i, zclr_r, zclr_n, zclr_d, zclr_l, true_and, and_true, and_self, if_true, if_false, reduceIte, nI_add, pk_mul, zin_ok, zx_nI, nI_lt2, nI_le2, nI_eq2, nI_l0, nI_g0, nI_q0, nI_p0, nI_n0, nI_m1, Nat.add_zero, Nat.zero_add, Nat.reduceAdd, Nat.reduceMul, true_or, or_true, znar_50, bI_0, bI_1, bI_z, bft, nI_z0, nI_z1, lgc_lt, lgc_gt, lgc_le, lgc_ge, lgc_eq, not_true_eq_false, not_false_eq_true, Bool.not_eq_true, Bool.not_eq_false, reduceCtorEq, h0, h1, ct, c63', c18, c251, bc, ca, c3]
  · have c3 : nI 2 ≤ onesN (cmI bt 16 a) 16 := Int32.not_lt.mp c2
    rw [if_neg c2]
    simp (disch := omega) only [e49, s49_0, s49_1, s49_2, s49_5, s49_6, s49_7, s49_10, s49_11, s49_14, s49_15, s49_16, s49_17, s49_19, s49_20, s49_23, s49_26, s49_29, s49_32, s49_33, s49_34, s49_37, s49_40, s49_41, s49_42, s49_45, s49_46, s49_49, s49_50, s49_51, s49_54, s49_57, s49_58, zcs_0, zcs_1, zcs_2, zcs_3, zcs_4, zcs_5, zcs_6, zcs_7, znl_i, znl_r, znl_n, Bool.and_true, Bool.true_and, zk_v, zk_n, zk_x, zir_r, zir_n, zclr_i, zclr_r, zclr_n, zclr_d, zclr_l, true_and, and_true, and_self, if_true, if_false, reduceIte, nI_add, pk_mul, zin_ok, zx_nI, nI_lt2, nI_le2, nI_eq2, nI_l0, nI_g0, nI_q0, nI_p0, nI_n0, nI_m1, Nat.add_zero, Nat.zero_add, Nat.reduceAdd, Nat.reduceMul, true_or, or_true, znar_50, bI_0, bI_1, bI_z, bft, nI_z0, nI_z1, lgc_lt, lgc_gt, lgc_le, lgc_ge, lgc_eq, not_true_eq_false, not_false_eq_true, Bool.not_eq_true, Bool.not_eq_false, reduceCtorEq, h0, h1, ct, c63', c18, c251, bc, ca, c3]
    exact k0
end RG
