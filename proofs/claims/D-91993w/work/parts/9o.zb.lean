set_option maxRecDepth 100000
/-! the model: a step; words, numbers -/
theorem lin_nn {c lo hi : Nat} (hc : c < 2147483648) (hl : lo < 2147483648) (hh : hi < 2147483648) : linB (nI c).toInt64 (lN lo) (lN hi) = (decide (lo ≤ c) && decide (c ≤ hi)) := by
  have h1 : lN lo = (nI lo).toInt64 := (nI_l hl).symm
  have h2 : lN hi = (nI hi).toInt64 := (nI_l hh).symm
  unfold linB
  rw [h1, h2]
  simp only [lele, nI_le2 hl hc, nI_le2 hc hh]
theorem lin_le {c : Nat} (hc : c < 256) : linB (nI c).toInt64 (lN 97) (lN 122) = isLe c := lin_nn (by omega) (by omega) (by omega)
theorem lin_di {c : Nat} (hc : c < 256) : linB (nI c).toInt64 (lN 48) (lN 57) = isDi c := lin_nn (by omega) (by omega) (by omega)
theorem lin_l1 : linB (-1 : Int32).toInt64 (lN 97) (lN 122) = false := by decide
theorem lin_d1 : linB (-1 : Int32).toInt64 (lN 48) (lN 57) = false := by decide
theorem m1_32 : ((-1 : Int32) = nI 32) = False := by decide
theorem m1_10 : ((-1 : Int32) = nI 10) = False := by decide
section MT2
variable {d : Nat} {z : ZH} {Q : ZQ} {b : Nat → Nat} {sz : Nat} {S : YS} {F : Nat → Int32}
theorem m120 (hM : MS z) (hT : TPm z b sz) (o2 : yAt S ≤ sz) : ZC zG (d + 1) 120 [.ref 135] (mP z S F) Q = Q (.inl none) (mP z (yAdv b sz S) F) := by
  have h0 := hM
  unfold MS at h0
  have hT2 := hT
  obtain ⟨t1, t2, t3⟩ := hT2
  have see := fun (S : YS) (d : Nat) (Q : ZQ) (a : Nat) (ha : a < 2147483648) => m121 (d := d) (Q := Q) (F := F) (S := S) (a := a) hM hT ha
  have k1 : ∀ (x : Value) (n a : Nat), sz ≤ a + n → a ≤ sz → ZW zG (d + 1) 120 0 [.ref 135, x] [] (mP z (a, yFr S, yTk S, yVl S, yFk S, yFp S) F) Q = ZW zG (d + 1) 120 39 [.ref 135, x] [] (mP z (skp b sz isSp n a, yFr S, yTk S, yVl S, yFk S, yFp S) F) Q := by
    intro x n
    induction n with
    | zero =>
      intro a h1 h2
      have h3 : ¬ a < sz := by omega
      refine s120_0.trans ?_
      unfold skp
      simp (disch := omega) only [s120_1, s120_2, s120_5, s120_8, s120_10, s120_13, s120_14, s120_15, s120_18, s120_21, s120_23, s120_26, s120_27, s120_28, s120_31, s120_32, s120_33, s120_36, zcs_0, zcs_1, zcs_2, zcs_3, zcs_4, zcs_5, zcs_6, zcs_7, znl_i, znl_r, znl_n, Bool.and_true, Bool.true_and, zk_v, zk_n, zk_x, zir_r, zir_n, zclr_i, zclr_r, zclr_n, zclr_d, zclr_l, true_and, and_true, and_self, if_true, if_false, reduceIte, nI_add, pk_mul, zin_ok, zx_nI, nI_lt2, nI_le2, nI_eq2, nI_l0, nI_g0, nI_q0, nI_p0, nI_n0, nI_m1, Nat.add_zero, Nat.zero_add, Nat.reduceAdd, Nat.reduceMul, true_or, or_true, znar_50, bI_0, bI_1, bI_z, bft, nI_z0, nI_z1, lgc_lt, lgc_gt, lgc_le, lgc_ge, lgc_eq, not_true_eq_false, not_false_eq_true, Bool.not_eq_true, Bool.not_eq_false, reduceCtorEq, eq_self, nI_e0, nI_e1, i10, i01, decide_false, decide_true, Bool.false_eq_true, cls_mP, fr_mP, len_mP, mP_8, h0, see, h3, yAt_mk, m1_32, m1_10]
    | succ n ih =>
      intro a h1 h2
      by_cases h3 : a < sz
      · obtain ⟨u1, u2⟩ := t3 a (by omega)
        by_cases c1 : b a = 32
        · have h4 : isSp (b a) = true := by unfold isSp; simp [c1]
          have e : skp b sz isSp (n + 1) a = skp b sz isSp n (a + 1) := if_pos ⟨h3, h4⟩
          rw [e, ← ih (a + 1) (by omega) (by omega)]
          refine s120_0.trans ?_
          simp (disch := omega) only [s120_1, s120_2, s120_5, s120_8, s120_10, s120_13, s120_14, s120_15, s120_18, s120_21, s120_23, s120_26, s120_27, s120_28, s120_31, s120_32, s120_33, s120_36, zcs_0, zcs_1, zcs_2, zcs_3, zcs_4, zcs_5, zcs_6, zcs_7, znl_i, znl_r, znl_n, Bool.and_true, Bool.true_and, zk_v, zk_n, zk_x, zir_r, zir_n, zclr_i, zclr_r, zclr_n, zclr_d, zclr_l, true_and, and_true, and_self, if_true, if_false, reduceIte, nI_add, pk_mul, zin_ok, zx_nI, nI_lt2, nI_le2, nI_eq2, nI_l0, nI_g0, nI_q0, nI_p0, nI_n0, nI_m1, Nat.add_zero, Nat.zero_add, Nat.reduceAdd, Nat.reduceMul, true_or, or_true, znar_50, bI_0, bI_1, bI_z, bft, nI_z0, nI_z1, lgc_lt, lgc_gt, lgc_le, lgc_ge, lgc_eq, not_true_eq_false, not_false_eq_true, Bool.not_eq_true, Bool.not_eq_false, reduceCtorEq, eq_self, nI_e0, nI_e1, i10, i01, decide_false, decide_true, Bool.false_eq_true, cls_mP, fr_mP, len_mP, mP_8, mP_s8, h0, see, h3, c1, yAt_mk, yFr_mk, yTk_mk, yVl_mk, yFk_mk, yFp_mk]
        · by_cases c2 : b a = 10
          · have h4 : isSp (b a) = true := by unfold isSp; simp [c2]
            have e : skp b sz isSp (n + 1) a = skp b sz isSp n (a + 1) := if_pos ⟨h3, h4⟩
            rw [e, ← ih (a + 1) (by omega) (by omega)]
            refine s120_0.trans ?_
            have c3 : ¬ (10 : Nat) = 32 := by omega
            simp (disch := omega) only [s120_1, s120_2, s120_5, s120_8, s120_10, s120_13, s120_14, s120_15, s120_18, s120_21, s120_23, s120_26, s120_27, s120_28, s120_31, s120_32, s120_33, s120_36, zcs_0, zcs_1, zcs_2, zcs_3, zcs_4, zcs_5, zcs_6, zcs_7, znl_i, znl_r, znl_n, Bool.and_true, Bool.true_and, zk_v, zk_n, zk_x, zir_r, zir_n, zclr_i, zclr_r, zclr_n, zclr_d, zclr_l, true_and, and_true, and_self, if_true, if_false, reduceIte, nI_add, pk_mul, zin_ok, zx_nI, nI_lt2, nI_le2, nI_eq2, nI_l0, nI_g0, nI_q0, nI_p0, nI_n0, nI_m1, Nat.add_zero, Nat.zero_add, Nat.reduceAdd, Nat.reduceMul, true_or, or_true, znar_50, bI_0, bI_1, bI_z, bft, nI_z0, nI_z1, lgc_lt, lgc_gt, lgc_le, lgc_ge, lgc_eq, not_true_eq_false, not_false_eq_true, Bool.not_eq_true, Bool.not_eq_false, reduceCtorEq, eq_self, nI_e0, nI_e1, i10, i01, decide_false, decide_true, Bool.false_eq_true, cls_mP, fr_mP, len_mP, mP_8, mP_s8, h0, see, h3, c2, c3, yAt_mk, yFr_mk, yTk_mk, yVl_mk, yFk_mk, yFp_mk]
          · have h4 : ¬ (a < sz ∧ isSp (b a) = true) := by unfold isSp; simp [c1, c2]
            have e : skp b sz isSp (n + 1) a = a := if_neg h4
            rw [e]
            refine s120_0.trans ?_
            simp (disch := omega) only [s120_1, s120_2, s120_5, s120_8, s120_10, s120_13, s120_14, s120_15, s120_18, s120_21, s120_23, s120_26, s120_27, s120_28, s120_31, s120_32, s120_33, s120_36, zcs_0, zcs_1, zcs_2, zcs_3, zcs_4, zcs_5, zcs_6, zcs_7, znl_i, znl_r, znl_n, Bool.and_true, Bool.true_and, zk_v, zk_n, zk_x, zir_r, zir_n, zclr_i, zclr_r, zclr_n, zclr_d, zclr_l, true_and, and_true, and_self, if_true, if_false, reduceIte, nI_add, pk_mul, zin_ok, zx_nI, nI_lt2, nI_le2, nI_eq2, nI_l0, nI_g0, nI_q0, nI_p0, nI_n0, nI_m1, Nat.add_zero, Nat.zero_add, Nat.reduceAdd, Nat.reduceMul, true_or, or_true, znar_50, bI_0, bI_1, bI_z, bft, nI_z0, nI_z1, lgc_lt, lgc_gt, lgc_le, lgc_ge, lgc_eq, not_true_eq_false, not_false_eq_true, Bool.not_eq_true, Bool.not_eq_false, reduceCtorEq, eq_self, nI_e0, nI_e1, i10, i01, decide_false, decide_true, Bool.false_eq_true, cls_mP, fr_mP, len_mP, mP_8, mP_s8, h0, see, h3, c1, c2, yAt_mk]
      · have h4 : ¬ (a < sz ∧ isSp (b a) = true) := fun q => h3 q.1
        have e : skp b sz isSp (n + 1) a = a := if_neg h4
        rw [e]
        refine s120_0.trans ?_
        simp (disch := omega) only [s120_1, s120_2, s120_5, s120_8, s120_10, s120_13, s120_14, s120_15, s120_18, s120_21, s120_23, s120_26, s120_27, s120_28, s120_31, s120_32, s120_33, s120_36, zcs_0, zcs_1, zcs_2, zcs_3, zcs_4, zcs_5, zcs_6, zcs_7, znl_i, znl_r, znl_n, Bool.and_true, Bool.true_and, zk_v, zk_n, zk_x, zir_r, zir_n, zclr_i, zclr_r, zclr_n, zclr_d, zclr_l, true_and, and_true, and_self, if_true, if_false, reduceIte, nI_add, pk_mul, zin_ok, zx_nI, nI_lt2, nI_le2, nI_eq2, nI_l0, nI_g0, nI_q0, nI_p0, nI_n0, nI_m1, Nat.add_zero, Nat.zero_add, Nat.reduceAdd, Nat.reduceMul, true_or, or_true, znar_50, bI_0, bI_1, bI_z, bft, nI_z0, nI_z1, lgc_lt, lgc_gt, lgc_le, lgc_ge, lgc_eq, not_true_eq_false, not_false_eq_true, Bool.not_eq_true, Bool.not_eq_false, reduceCtorEq, eq_self, nI_e0, nI_e1, i10, i01, decide_false, decide_true, Bool.false_eq_true, cls_mP, fr_mP, len_mP, mP_8, h0, see, h3, yAt_mk, m1_32, m1_10]
  have k2 : ∀ (x : Value) (fr tk vl fk : Nat) (fp : Int32) (n a : Nat), sz ≤ a + n → a ≤ sz → ZW zG (d + 1) 120 83 [.ref 135, x] [] (mP z (a, fr, tk, vl, fk, fp) F) Q = ZW zG (d + 1) 120 117 [.ref 135, x] [] (mP z (skp b sz isLe n a, fr, tk, vl, fk, fp) F) Q := by
    intro x fr tk vl fk fp n
    induction n with
    | zero =>
      intro a h1 h2
      have h3 : ¬ a < sz := by omega
      refine s120_83.trans ?_
      unfold skp
      simp (disch := omega) only [s120_84, s120_85, s120_88, s120_91, s120_92, s120_95, s120_98, s120_101, s120_104, s120_105, s120_106, s120_109, s120_110, s120_111, s120_114, zcs_0, zcs_1, zcs_2, zcs_3, zcs_4, zcs_5, zcs_6, zcs_7, znl_i, znl_r, znl_n, Bool.and_true, Bool.true_and, zk_v, zk_n, zk_x, zir_r, zir_n, zclr_i, zclr_r, zclr_n, zclr_d, zclr_l, true_and, and_true, and_self, if_true, if_false, reduceIte, nI_add, pk_mul, zin_ok, zx_nI, nI_lt2, nI_le2, nI_eq2, nI_l0, nI_g0, nI_q0, nI_p0, nI_n0, nI_m1, Nat.add_zero, Nat.zero_add, Nat.reduceAdd, Nat.reduceMul, true_or, or_true, znar_50, bI_0, bI_1, bI_z, bft, nI_z0, nI_z1, lgc_lt, lgc_gt, lgc_le, lgc_ge, lgc_eq, not_true_eq_false, not_false_eq_true, Bool.not_eq_true, Bool.not_eq_false, reduceCtorEq, eq_self, nI_e0, nI_e1, i10, i01, decide_false, decide_true, Bool.false_eq_true, cls_mP, fr_mP, len_mP, mP_8, h0, see, h3, yAt_mk, m114, lin_l1]
    | succ n ih =>
      intro a h1 h2
      by_cases h3 : a < sz
      · obtain ⟨u1, u2⟩ := t3 a (by omega)
        by_cases h4 : isLe (b a) = true
        · have e : skp b sz isLe (n + 1) a = skp b sz isLe n (a + 1) := if_pos ⟨h3, h4⟩
          rw [e, ← ih (a + 1) (by omega) (by omega)]
          refine s120_83.trans ?_
          simp (disch := omega) only [s120_84, s120_85, s120_88, s120_91, s120_92, s120_95, s120_98, s120_101, s120_104, s120_105, s120_106, s120_109, s120_110, s120_111, s120_114, zcs_0, zcs_1, zcs_2, zcs_3, zcs_4, zcs_5, zcs_6, zcs_7, znl_i, znl_r, znl_n, Bool.and_true, Bool.true_and, zk_v, zk_n, zk_x, zir_r, zir_n, zclr_i, zclr_r, zclr_n, zclr_d, zclr_l, true_and, and_true, and_self, if_true, if_false, reduceIte, nI_add, pk_mul, zin_ok, zx_nI, nI_lt2, nI_le2, nI_eq2, nI_l0, nI_g0, nI_q0, nI_p0, nI_n0, nI_m1, Nat.add_zero, Nat.zero_add, Nat.reduceAdd, Nat.reduceMul, true_or, or_true, znar_50, bI_0, bI_1, bI_z, bft, nI_z0, nI_z1, lgc_lt, lgc_gt, lgc_le, lgc_ge, lgc_eq, not_true_eq_false, not_false_eq_true, Bool.not_eq_true, Bool.not_eq_false, reduceCtorEq, eq_self, nI_e0, nI_e1, i10, i01, decide_false, decide_true, Bool.false_eq_true, cls_mP, fr_mP, len_mP, mP_8, mP_s8, h0, see, h3, m114, lin_le, h4, yAt_mk, yFr_mk, yTk_mk, yVl_mk, yFk_mk, yFp_mk]
        · have e : skp b sz isLe (n + 1) a = a := if_neg (fun q => h4 q.2)
          have h5 : isLe (b a) = false := by simpa using h4
          rw [e]
          refine s120_83.trans ?_
          simp (disch := omega) only [s120_84, s120_85, s120_88, s120_91, s120_92, s120_95, s120_98, s120_101, s120_104, s120_105, s120_106, s120_109, s120_110, s120_111, s120_114, zcs_0, zcs_1, zcs_2, zcs_3, zcs_4, zcs_5, zcs_6, zcs_7, znl_i, znl_r, znl_n, Bool.and_true, Bool.true_and, zk_v, zk_n, zk_x, zir_r, zir_n, zclr_i, zclr_r, zclr_n, zclr_d, zclr_l, true_and, and_true, and_self, if_true, if_false, reduceIte, nI_add, pk_mul, zin_ok, zx_nI, nI_lt2, nI_le2, nI_eq2, nI_l0, nI_g0, nI_q0, nI_p0, nI_n0, nI_m1, Nat.add_zero, Nat.zero_add, Nat.reduceAdd, Nat.reduceMul, true_or, or_true, znar_50, bI_0, bI_1, bI_z, bft, nI_z0, nI_z1, lgc_lt, lgc_gt, lgc_le, lgc_ge, lgc_eq, not_true_eq_false, not_false_eq_true, Bool.not_eq_true, Bool.not_eq_false, reduceCtorEq, eq_self, nI_e0, nI_e1, i10, i01, decide_false, decide_true, Bool.false_eq_true, cls_mP, fr_mP, len_mP, mP_8, h0, see, h3, m114, lin_le, h5, yAt_mk]
      · have e : skp b sz isLe (n + 1) a = a := if_neg (fun q => h3 q.1)
        rw [e]
        refine s120_83.trans ?_
        simp (disch := omega) only [s120_84, s120_85, s120_88, s120_91, s120_92, s120_95, s120_98, s120_101, s120_104, s120_105, s120_106, s120_109, s120_110, s120_111, s120_114, zcs_0, zcs_1, zcs_2, zcs_3, zcs_4, zcs_5, zcs_6, zcs_7, znl_i, znl_r, znl_n, Bool.and_true, Bool.true_and, zk_v, zk_n, zk_x, zir_r, zir_n, zclr_i, zclr_r, zclr_n, zclr_d, zclr_l, true_and, and_true, and_self, if_true, if_false, reduceIte, nI_add, pk_mul, zin_ok, zx_nI, nI_lt2, nI_le2, nI_eq2, nI_l0, nI_g0, nI_q0, nI_p0, nI_n0, nI_m1, Nat.add_zero, Nat.zero_add, Nat.reduceAdd, Nat.reduceMul, true_or, or_true, znar_50, bI_0, bI_1, bI_z, bft, nI_z0, nI_z1, lgc_lt, lgc_gt, lgc_le, lgc_ge, lgc_eq, not_true_eq_false, not_false_eq_true, Bool.not_eq_true, Bool.not_eq_false, reduceCtorEq, eq_self, nI_e0, nI_e1, i10, i01, decide_false, decide_true, Bool.false_eq_true, cls_mP, fr_mP, len_mP, mP_8, h0, see, h3, yAt_mk, m114, lin_l1]
  have k3 : ∀ (x : Value) (fr tk fk : Nat) (fp : Int32) (n a vl : Nat), sz ≤ a + n → a ≤ sz → vl < 10000 → ZW zG (d + 1) 120 144 [.ref 135, x] [] (mP z (a, fr, tk, vl, fk, fp) F) Q = ZW zG (d + 1) 120 207 [.ref 135, x] [] (mP z (skp b sz isDi n a, fr, tk, numV b sz 9999 n a vl, fk, fp) F) Q := by
    intro x fr tk fk fp n
    induction n with
    | zero =>
      intro a vl h1 h2 hv
      have h3 : ¬ a < sz := by omega
      refine s120_144.trans ?_
      unfold skp numV
      simp (disch := omega) only [s120_145, s120_146, s120_149, s120_152, s120_153, s120_156, s120_159, s120_162, s120_165, s120_166, s120_169, s120_171, s120_172, s120_175, s120_176, s120_177, s120_178, s120_181, s120_184, s120_185, s120_187, s120_188, s120_191, s120_194, s120_195, s120_196, s120_199, s120_200, s120_201, s120_204, zcs_0, zcs_1, zcs_2, zcs_3, zcs_4, zcs_5, zcs_6, zcs_7, znl_i, znl_r, znl_n, Bool.and_true, Bool.true_and, zk_v, zk_n, zk_x, zir_r, zir_n, zclr_i, zclr_r, zclr_n, zclr_d, zclr_l, true_and, and_true, and_self, if_true, if_false, reduceIte, nI_add, pk_mul, zin_ok, zx_nI, nI_lt2, nI_le2, nI_eq2, nI_l0, nI_g0, nI_q0, nI_p0, nI_n0, nI_m1, Nat.add_zero, Nat.zero_add, Nat.reduceAdd, Nat.reduceMul, true_or, or_true, znar_50, bI_0, bI_1, bI_z, bft, nI_z0, nI_z1, lgc_lt, lgc_gt, lgc_le, lgc_ge, lgc_eq, not_true_eq_false, not_false_eq_true, Bool.not_eq_true, Bool.not_eq_false, reduceCtorEq, eq_self, nI_e0, nI_e1, i10, i01, decide_false, decide_true, Bool.false_eq_true, cls_mP, fr_mP, len_mP, mP_8, h0, see, h3, yAt_mk, m114, lin_d1]
    | succ n ih =>
      intro a vl h1 h2 hv
      by_cases h3 : a < sz
      · obtain ⟨u1, u2⟩ := t3 a (by omega)
        by_cases h4 : isDi (b a) = true
        · have e : skp b sz isDi (n + 1) a = skp b sz isDi n (a + 1) := if_pos ⟨h3, h4⟩
          have e2 : numV b sz 9999 (n + 1) a vl = numV b sz 9999 n (a + 1) (min 9999 (10 * vl + b a - 48)) := if_pos ⟨h3, h4⟩
          rw [e, e2, ← ih (a + 1) _ (by omega) (by omega) (by omega)]
          have h6 : 48 ≤ b a := by
            unfold isDi at h4
            simp only [Bool.and_eq_true, decide_eq_true_iff] at h4
            exact h4.1
          refine s120_144.trans ?_
          simp (disch := omega) only [s120_145, s120_146, s120_149, s120_152, s120_153, s120_156, s120_159, s120_162, s120_165, s120_166, s120_169, s120_171, s120_172, s120_175, s120_176, s120_177, s120_178, s120_181, s120_184, s120_185, s120_187, s120_188, s120_191, s120_194, s120_195, s120_196, s120_199, s120_200, s120_201, s120_204, zcs_0, zcs_1, zcs_2, zcs_3, zcs_4, zcs_5, zcs_6, zcs_7, znl_i, znl_r, znl_n, Bool.and_true, Bool.true_and, zk_v, zk_n, zk_x, zir_r, zir_n, zclr_i, zclr_r, zclr_n, zclr_d, zclr_l, true_and, and_true, and_self, if_true, if_false, reduceIte, nI_add, pk_mul, zin_ok, zx_nI, nI_lt2, nI_le2, nI_eq2, nI_l0, nI_g0, nI_q0, nI_p0, nI_n0, nI_m1, Nat.add_zero, Nat.zero_add, Nat.reduceAdd, Nat.reduceMul, true_or, or_true, znar_50, bI_0, bI_1, bI_z, bft, nI_z0, nI_z1, lgc_lt, lgc_gt, lgc_le, lgc_ge, lgc_eq, not_true_eq_false, not_false_eq_true, Bool.not_eq_true, Bool.not_eq_false, reduceCtorEq, eq_self, nI_e0, nI_e1, i10, i01, decide_false, decide_true, Bool.false_eq_true, cls_mP, fr_mP, len_mP, mP_8, mP_11, mP_s8, mP_s11, h0, see, h3, m114, lin_di, h4, nI_sbn, zmin_nI, yAt_mk, yFr_mk, yTk_mk, yVl_mk, yFk_mk, yFp_mk]
        · have e : skp b sz isDi (n + 1) a = a := if_neg (fun q => h4 q.2)
          have e2 : numV b sz 9999 (n + 1) a vl = vl := if_neg (fun q => h4 q.2)
          have h5 : isDi (b a) = false := by simpa using h4
          rw [e, e2]
          refine s120_144.trans ?_
          simp (disch := omega) only [s120_145, s120_146, s120_149, s120_152, s120_153, s120_156, s120_159, s120_162, s120_165, s120_166, s120_169, s120_171, s120_172, s120_175, s120_176, s120_177, s120_178, s120_181, s120_184, s120_185, s120_187, s120_188, s120_191, s120_194, s120_195, s120_196, s120_199, s120_200, s120_201, s120_204, zcs_0, zcs_1, zcs_2, zcs_3, zcs_4, zcs_5, zcs_6, zcs_7, znl_i, znl_r, znl_n, Bool.and_true, Bool.true_and, zk_v, zk_n, zk_x, zir_r, zir_n, zclr_i, zclr_r, zclr_n, zclr_d, zclr_l, true_and, and_true, and_self, if_true, if_false, reduceIte, nI_add, pk_mul, zin_ok, zx_nI, nI_lt2, nI_le2, nI_eq2, nI_l0, nI_g0, nI_q0, nI_p0, nI_n0, nI_m1, Nat.add_zero, Nat.zero_add, Nat.reduceAdd, Nat.reduceMul, true_or, or_true, znar_50, bI_0, bI_1, bI_z, bft, nI_z0, nI_z1, lgc_lt, lgc_gt, lgc_le, lgc_ge, lgc_eq, not_true_eq_false, not_false_eq_true, Bool.not_eq_true, Bool.not_eq_false, reduceCtorEq, eq_self, nI_e0, nI_e1, i10, i01, decide_false, decide_true, Bool.false_eq_true, cls_mP, fr_mP, len_mP, mP_8, h0, see, h3, m114, lin_di, h5, yAt_mk]
      · have e : skp b sz isDi (n + 1) a = a := if_neg (fun q => h3 q.1)
        have e2 : numV b sz 9999 (n + 1) a vl = vl := if_neg (fun q => h3 q.1)
        rw [e, e2]
        refine s120_144.trans ?_
        simp (disch := omega) only [s120_145, s120_146, s120_149, s120_152, s120_153, s120_156, s120_159, s120_162, s120_165, s120_166, s120_169, s120_171, s120_172, s120_175, s120_176, s120_177, s120_178, s120_181, s120_184, s120_185, s120_187, s120_188, s120_191, s120_194, s120_195, s120_196, s120_199, s120_200, s120_201, s120_204, zcs_0, zcs_1, zcs_2, zcs_3, zcs_4, zcs_5, zcs_6, zcs_7, znl_i, znl_r, znl_n, Bool.and_true, Bool.true_and, zk_v, zk_n, zk_x, zir_r, zir_n, zclr_i, zclr_r, zclr_n, zclr_d, zclr_l, true_and, and_true, and_self, if_true, if_false, reduceIte, nI_add, pk_mul, zin_ok, zx_nI, nI_lt2, nI_le2, nI_eq2, nI_l0, nI_g0, nI_q0, nI_p0, nI_n0, nI_m1, Nat.add_zero, Nat.zero_add, Nat.reduceAdd, Nat.reduceMul, true_or, or_true, znar_50, bI_0, bI_1, bI_z, bft, nI_z0, nI_z1, lgc_lt, lgc_gt, lgc_le, lgc_ge, lgc_eq, not_true_eq_false, not_false_eq_true, Bool.not_eq_true, Bool.not_eq_false, reduceCtorEq, eq_self, nI_e0, nI_e1, i10, i01, decide_false, decide_true, Bool.false_eq_true, cls_mP, fr_mP, len_mP, mP_8, h0, see, h3, yAt_mk, m114, lin_d1]
  have q1 := fun x => k1 x sz (yAt S) (by omega) o2
  rw [yS_eta] at q1
  refine e120.trans ?_
  refine (q1 _).trans ?_
  have ha : skp b sz isSp sz (yAt S) ≤ sz := (skp_le b sz isSp sz (yAt S)).2 o2
  unfold yAdv yTok
  generalize skp b sz isSp sz (yAt S) = a at ha
  by_cases h3 : a < sz
  · obtain ⟨u1, u2⟩ := t3 a (by omega)
    by_cases h4 : isLe (b a) = true
    · have k2' := fun x fr tk vl fk fp => k2 x fr tk vl fk fp sz a (by omega) ha
      simp (disch := omega) only [s120_39, s120_40, s120_41, s120_44, s120_47, s120_48, s120_49, s120_52, s120_55, s120_56, s120_57, s120_58, s120_61, s120_62, s120_63, s120_66, s120_69, s120_70, s120_71, s120_74, s120_77, s120_80, s120_117, s120_118, s120_119, s120_122, s120_240, zcs_0, zcs_1, zcs_2, zcs_3, zcs_4, zcs_5, zcs_6, zcs_7, znl_i, znl_r, znl_n, Bool.and_true, Bool.true_and, zk_v, zk_n, zk_x, zir_r, zir_n, zclr_i, zclr_r, zclr_n, zclr_d, zclr_l, true_and, and_true, and_self, if_true, if_false, reduceIte, nI_add, pk_mul, zin_ok, zx_nI, nI_lt2, nI_le2, nI_eq2, nI_l0, nI_g0, nI_q0, nI_p0, nI_n0, nI_m1, Nat.add_zero, Nat.zero_add, Nat.reduceAdd, Nat.reduceMul, true_or, or_true, znar_50, bI_0, bI_1, bI_z, bft, nI_z0, nI_z1, lgc_lt, lgc_gt, lgc_le, lgc_ge, lgc_eq, not_true_eq_false, not_false_eq_true, Bool.not_eq_true, Bool.not_eq_false, reduceCtorEq, eq_self, nI_e0, nI_e1, i10, i01, decide_false, decide_true, Bool.false_eq_true, cls_mP, fr_mP, len_mP, mP_8, mP_s9, mP_s10, h0, see, h3, h4, m114, lin_le, k2', yAt_mk, yFr_mk, yTk_mk, yVl_mk, yFk_mk, yFp_mk]
    · have h5 : isLe (b a) = false := by simpa using h4
      by_cases h6 : isDi (b a) = true
      · have k3' := fun x fr tk fk fp vl => k3 x fr tk fk fp sz a vl (by omega) ha
        simp (disch := omega) only [s120_39, s120_40, s120_41, s120_44, s120_47, s120_48, s120_49, s120_52, s120_55, s120_56, s120_57, s120_58, s120_61, s120_62, s120_63, s120_66, s120_69, s120_70, s120_71, s120_74, s120_77, s120_80, s120_125, s120_126, s120_127, s120_130, s120_133, s120_136, s120_139, s120_140, s120_141, s120_207, s120_208, s120_209, s120_212, s120_240, zcs_0, zcs_1, zcs_2, zcs_3, zcs_4, zcs_5, zcs_6, zcs_7, znl_i, znl_r, znl_n, Bool.and_true, Bool.true_and, zk_v, zk_n, zk_x, zir_r, zir_n, zclr_i, zclr_r, zclr_n, zclr_d, zclr_l, true_and, and_true, and_self, if_true, if_false, reduceIte, nI_add, pk_mul, zin_ok, zx_nI, nI_lt2, nI_le2, nI_eq2, nI_l0, nI_g0, nI_q0, nI_p0, nI_n0, nI_m1, Nat.add_zero, Nat.zero_add, Nat.reduceAdd, Nat.reduceMul, true_or, or_true, znar_50, bI_0, bI_1, bI_z, bft, nI_z0, nI_z1, lgc_lt, lgc_gt, lgc_le, lgc_ge, lgc_eq, not_true_eq_false, not_false_eq_true, Bool.not_eq_true, Bool.not_eq_false, reduceCtorEq, eq_self, nI_e0, nI_e1, i10, i01, decide_false, decide_true, Bool.false_eq_true, cls_mP, fr_mP, len_mP, mP_8, mP_s9, mP_s10, mP_s11, h0, see, h3, h5, h6, m114, lin_le, lin_di, k3', yAt_mk, yFr_mk, yTk_mk, yVl_mk, yFk_mk, yFp_mk, Bool.false_eq_true]
      · have h7 : isDi (b a) = false := by simpa using h6
        by_cases h8 : b a = 59
        · have i1 : isLe 59 = false := by decide
          have i2 : isDi 59 = false := by decide
          simp (disch := omega) only [s120_39, s120_40, s120_41, s120_44, s120_47, s120_48, s120_49, s120_52, s120_55, s120_56, s120_57, s120_58, s120_61, s120_62, s120_63, s120_66, s120_69, s120_70, s120_71, s120_74, s120_77, s120_80, s120_125, s120_126, s120_127, s120_130, s120_133, s120_136, s120_215, s120_216, s120_217, s120_219, s120_222, s120_223, s120_226, s120_227, s120_230, s120_231, s120_232, s120_235, s120_236, s120_237, s120_240, zcs_0, zcs_1, zcs_2, zcs_3, zcs_4, zcs_5, zcs_6, zcs_7, znl_i, znl_r, znl_n, Bool.and_true, Bool.true_and, zk_v, zk_n, zk_x, zir_r, zir_n, zclr_i, zclr_r, zclr_n, zclr_d, zclr_l, true_and, and_true, and_self, if_true, if_false, reduceIte, nI_add, pk_mul, zin_ok, zx_nI, nI_lt2, nI_le2, nI_eq2, nI_l0, nI_g0, nI_q0, nI_p0, nI_n0, nI_m1, Nat.add_zero, Nat.zero_add, Nat.reduceAdd, Nat.reduceMul, true_or, or_true, znar_50, bI_0, bI_1, bI_z, bft, nI_z0, nI_z1, lgc_lt, lgc_gt, lgc_le, lgc_ge, lgc_eq, not_true_eq_false, not_false_eq_true, Bool.not_eq_true, Bool.not_eq_false, reduceCtorEq, eq_self, nI_e0, nI_e1, i10, i01, decide_false, decide_true, Bool.false_eq_true, cls_mP, fr_mP, len_mP, mP_8, mP_s8, mP_s9, mP_s10, h0, see, h3, h8, i1, i2, m114, lin_le, lin_di, yAt_mk, yFr_mk, yTk_mk, yVl_mk, yFk_mk, yFp_mk, Bool.false_eq_true]
        · simp (disch := omega) only [s120_39, s120_40, s120_41, s120_44, s120_47, s120_48, s120_49, s120_52, s120_55, s120_56, s120_57, s120_58, s120_61, s120_62, s120_63, s120_66, s120_69, s120_70, s120_71, s120_74, s120_77, s120_80, s120_125, s120_126, s120_127, s120_130, s120_133, s120_136, s120_215, s120_216, s120_217, s120_219, s120_222, s120_223, s120_226, s120_227, s120_230, s120_231, s120_232, s120_235, s120_236, s120_237, s120_240, zcs_0, zcs_1, zcs_2, zcs_3, zcs_4, zcs_5, zcs_6, zcs_7, znl_i, znl_r, znl_n, Bool.and_true, Bool.true_and, zk_v, zk_n, zk_x, zir_r, zir_n, zclr_i, zclr_r, zclr_n, zclr_d, zclr_l, true_and, and_true, and_self, if_true, if_false, reduceIte, nI_add, pk_mul, zin_ok, zx_nI, nI_lt2, nI_le2, nI_eq2, nI_l0, nI_g0, nI_q0, nI_p0, nI_n0, nI_m1, Nat.add_zero, Nat.zero_add, Nat.reduceAdd, Nat.reduceMul, true_or, or_true, znar_50, bI_0, bI_1, bI_z, bft, nI_z0, nI_z1, lgc_lt, lgc_gt, lgc_le, lgc_ge, lgc_eq, not_true_eq_false, not_false_eq_true, Bool.not_eq_true, Bool.not_eq_false, reduceCtorEq, eq_self, nI_e0, nI_e1, i10, i01, decide_false, decide_true, Bool.false_eq_true, cls_mP, fr_mP, len_mP, mP_8, mP_s8, mP_s9, mP_s10, h0, see, h3, h5, h7, h8, m114, lin_le, lin_di, yAt_mk, yFr_mk, yTk_mk, yVl_mk, yFk_mk, yFp_mk, Bool.false_eq_true]
  · simp (disch := omega) only [s120_39, s120_40, s120_41, s120_44, s120_47, s120_48, s120_49, s120_52, s120_55, s120_56, s120_57, s120_58, s120_61, s120_62, s120_63, s120_66, s120_240, zcs_0, zcs_1, zcs_2, zcs_3, zcs_4, zcs_5, zcs_6, zcs_7, znl_i, znl_r, znl_n, Bool.and_true, Bool.true_and, zk_v, zk_n, zk_x, zir_r, zir_n, zclr_i, zclr_r, zclr_n, zclr_d, zclr_l, true_and, and_true, and_self, if_true, if_false, reduceIte, nI_add, pk_mul, zin_ok, zx_nI, nI_lt2, nI_le2, nI_eq2, nI_l0, nI_g0, nI_q0, nI_p0, nI_n0, nI_m1, Nat.add_zero, Nat.zero_add, Nat.reduceAdd, Nat.reduceMul, true_or, or_true, znar_50, bI_0, bI_1, bI_z, bft, nI_z0, nI_z1, lgc_lt, lgc_gt, lgc_le, lgc_ge, lgc_eq, not_true_eq_false, not_false_eq_true, Bool.not_eq_true, Bool.not_eq_false, reduceCtorEq, eq_self, nI_e0, nI_e1, i10, i01, decide_false, decide_true, Bool.false_eq_true, cls_mP, fr_mP, len_mP, mP_8, mP_s9, mP_s10, h0, see, h3, yAt_mk, yFr_mk, yTk_mk, yVl_mk, yFk_mk, yFp_mk]
theorem m130 (hM : MS z) (hT : TPm z b sz) (hS : yOK sz S) {r : Nat} (hr : r < 35) : ZC zG (d + 2) 130 [.ref 135, .ref r] (mP z S F) Q = Q (.inl (some (.int (bI (yIs b S r))))) (mP z (yTake b sz r S) F) := by
  have h0 := hM
  unfold MS at h0
  have c1 := fun d Q => m125 (d := d) (Q := Q) (F := F) hM hT hS hr
  have c2 := fun d Q => m120 (d := d) (Q := Q) (F := F) hM hT hS.1.2
  unfold yTake
  cases h : yIs b S r
  · simp (disch := omega) only [e130, s130_0, s130_1, s130_2, s130_5, s130_6, s130_7, s130_10, s130_11, s130_14, s130_15, zcs_0, zcs_1, zcs_2, zcs_3, zcs_4, zcs_5, zcs_6, zcs_7, znl_i, znl_r, znl_n, Bool.and_true, Bool.true_and, zk_v, zk_n, zk_x, zir_r, zir_n, zclr_i, zclr_r, zclr_n, zclr_d, zclr_l, true_and, and_true, and_self, if_true, if_false, reduceIte, nI_add, pk_mul, zin_ok, zx_nI, nI_lt2, nI_le2, nI_eq2, nI_l0, nI_g0, nI_q0, nI_p0, nI_n0, nI_m1, Nat.add_zero, Nat.zero_add, Nat.reduceAdd, Nat.reduceMul, true_or, or_true, znar_50, bI_0, bI_1, bI_z, bft, nI_z0, nI_z1, lgc_lt, lgc_gt, lgc_le, lgc_ge, lgc_eq, not_true_eq_false, not_false_eq_true, Bool.not_eq_true, Bool.not_eq_false, reduceCtorEq, eq_self, nI_e0, nI_e1, i10, i01, decide_false, decide_true, Bool.false_eq_true, cls_mP, h0, c1, c2, h, bI_f, Bool.false_eq_true]
  · simp (disch := omega) only [e130, s130_0, s130_1, s130_2, s130_5, s130_6, s130_7, s130_10, s130_11, s130_14, s130_15, zcs_0, zcs_1, zcs_2, zcs_3, zcs_4, zcs_5, zcs_6, zcs_7, znl_i, znl_r, znl_n, Bool.and_true, Bool.true_and, zk_v, zk_n, zk_x, zir_r, zir_n, zclr_i, zclr_r, zclr_n, zclr_d, zclr_l, true_and, and_true, and_self, if_true, if_false, reduceIte, nI_add, pk_mul, zin_ok, zx_nI, nI_lt2, nI_le2, nI_eq2, nI_l0, nI_g0, nI_q0, nI_p0, nI_n0, nI_m1, Nat.add_zero, Nat.zero_add, Nat.reduceAdd, Nat.reduceMul, true_or, or_true, znar_50, bI_0, bI_1, bI_z, bft, nI_z0, nI_z1, lgc_lt, lgc_gt, lgc_le, lgc_ge, lgc_eq, not_true_eq_false, not_false_eq_true, Bool.not_eq_true, Bool.not_eq_false, reduceCtorEq, eq_self, nI_e0, nI_e1, i10, i01, decide_false, decide_true, Bool.false_eq_true, cls_mP, h0, c1, c2, h, bI_t]
theorem m129 (hM : MS z) (hT : TPm z b sz) (hS : yOK sz S) {r : Nat} (hr : r < 35) : ZC zG (d + 3) 129 [.ref 135, .ref r] (mP z S F) Q = Q (.inl none) (mP z (yNeed b sz r S) F) := by
  have h0 := hM
  unfold MS at h0
  have c1 := fun d Q => m130 (d := d) (Q := Q) (F := F) hM hT hS hr
  have hk : yFk S < 4 := hS.2.2.2.2
  have c2 := fun d Q x => m126 (d := d) (Q := Q) (F := F) (S := S) (x := x) hM (by omega)
  unfold yTake at c1
  unfold yNeed
  cases h : yIs b S r
  · rw [h] at c1
    simp only [Bool.false_eq_true, if_false] at c1
    simp (disch := omega) only [e129, s129_0, s129_1, s129_2, s129_5, s129_8, s129_9, s129_10, s129_13, zcs_0, zcs_1, zcs_2, zcs_3, zcs_4, zcs_5, zcs_6, zcs_7, znl_i, znl_r, znl_n, Bool.and_true, Bool.true_and, zk_v, zk_n, zk_x, zir_r, zir_n, zclr_i, zclr_r, zclr_n, zclr_d, zclr_l, true_and, and_true, and_self, if_true, if_false, reduceIte, nI_add, pk_mul, zin_ok, zx_nI, nI_lt2, nI_le2, nI_eq2, nI_l0, nI_g0, nI_q0, nI_p0, nI_n0, nI_m1, Nat.add_zero, Nat.zero_add, Nat.reduceAdd, Nat.reduceMul, true_or, or_true, znar_50, bI_0, bI_1, bI_z, bft, nI_z0, nI_z1, lgc_lt, lgc_gt, lgc_le, lgc_ge, lgc_eq, not_true_eq_false, not_false_eq_true, Bool.not_eq_true, Bool.not_eq_false, reduceCtorEq, eq_self, nI_e0, nI_e1, i10, i01, decide_false, decide_true, Bool.false_eq_true, cls_mP, h0, c1, c2, bI_f, Bool.false_eq_true]
  · rw [h] at c1
    simp only [if_true] at c1
    simp (disch := omega) only [e129, s129_0, s129_1, s129_2, s129_5, s129_8, s129_9, s129_10, s129_13, zcs_0, zcs_1, zcs_2, zcs_3, zcs_4, zcs_5, zcs_6, zcs_7, znl_i, znl_r, znl_n, Bool.and_true, Bool.true_and, zk_v, zk_n, zk_x, zir_r, zir_n, zclr_i, zclr_r, zclr_n, zclr_d, zclr_l, true_and, and_true, and_self, if_true, if_false, reduceIte, nI_add, pk_mul, zin_ok, zx_nI, nI_lt2, nI_le2, nI_eq2, nI_l0, nI_g0, nI_q0, nI_p0, nI_n0, nI_m1, Nat.add_zero, Nat.zero_add, Nat.reduceAdd, Nat.reduceMul, true_or, or_true, znar_50, bI_0, bI_1, bI_z, bft, nI_z0, nI_z1, lgc_lt, lgc_gt, lgc_le, lgc_ge, lgc_eq, not_true_eq_false, not_false_eq_true, Bool.not_eq_true, Bool.not_eq_false, reduceCtorEq, eq_self, nI_e0, nI_e1, i10, i01, decide_false, decide_true, Bool.false_eq_true, cls_mP, h0, c1, c2, bI_t]
theorem lin_v {c lo n : Nat} (hc : c < 10000) (hl : lo < 10000) (hn : n < 10000) : linB (nI c).toInt64 (nI lo).toInt64 (nI n - nI 1).toInt64 = decide (lo ≤ c ∧ c < n) := by
  unfold linB
  simp only [lele]
  rw [Bool.eq_iff_iff, Bool.and_eq_true, decide_eq_true_iff, decide_eq_true_iff, decide_eq_true_iff, nI_le2 (by omega) (by omega)]
  cases n with
  | zero =>
    constructor
    · rintro ⟨h1, h2⟩
      have h3 : (nI 0 - nI 1 : Int32) < 0 := by decide
      exact absurd (Int32.lt_of_le_of_lt h2 h3) (nI_pos (by omega))
    · rintro ⟨h1, h2⟩
      omega
  | succ n =>
    have e : nI (n + 1) - nI 1 = nI n := nI_pred n
    rw [e, nI_le2 (by omega) (by omega)]
    omega
theorem lin_w {c lo n : Nat} (hc : c < 10000) (hl : lo < 10000) (hn : n < 10000) : linB (nI c).toInt64 (nI lo).toInt64 (nI n).toInt64 = decide (lo ≤ c ∧ c < n + 1) := by
  have := lin_v (c := c) (lo := lo) (n := n + 1) hc hl
  unfold linB
  simp only [lele]
  rw [Bool.eq_iff_iff, Bool.and_eq_true, decide_eq_true_iff, decide_eq_true_iff, decide_eq_true_iff, nI_le2 (by omega) (by omega), nI_le2 (by omega) (by omega)]
  omega
/-- a number; x: the bound as an int -/
theorem m132x (hM : MS z) (hT : TPm z b sz) (hS : yOK sz S) {lo n : Nat} {x : Int32} (hx : ∀ c, c < 10000 → linB (nI c).toInt64 (nI lo).toInt64 x.toInt64 = decide (lo ≤ c ∧ c < n)) : ZC zG (d + 2) 132 [.ref 135, .int (nI lo), .int x] (mP z S F) Q = Q (.inl (some (.int (nI (yNum b sz lo n S).2)))) (mP z (yNum b sz lo n S).1 F) := by
  have h0 := hM
  unfold MS at h0
  obtain ⟨o1, o3, o4, o5, o6⟩ := hS
  have hS : yOK sz S := ⟨o1, o3, o4, o5, o6⟩
  have good := fun (S : YS) (d : Nat) (Q : ZQ) (hk : yFk S < 2147483648) => m122 (d := d) (Q := Q) (F := F) (S := S) hM hk
  have err := fun (S : YS) (d : Nat) (Q : ZQ) (x : Nat) (hk : yFk S < 2147483648) => m126 (d := d) (Q := Q) (F := F) (S := S) (x := x) hM hk
  have adv := fun d Q => m120 (d := d) (Q := Q) (F := F) hM hT hS.1.2
  have hx2 := hx (yVl S) o5
  unfold yNum
  by_cases g1 : yFk S = 0
  · by_cases g2 : yTk S = 2
    · by_cases g3 : lo ≤ yVl S ∧ yVl S < n
      · have g4 : decide (lo ≤ yVl S ∧ yVl S < n) = true := decide_eq_true g3
        simp (disch := omega) only [e132, s132_0, s132_1, s132_4, s132_7, s132_8, s132_11, s132_12, s132_15, s132_16, s132_17, s132_20, s132_21, s132_24, s132_27, s132_28, s132_31, s132_32, s132_33, s132_34, s132_35, s132_36, s132_39, s132_42, s132_43, s132_44, s132_47, s132_48, s132_51, s132_54, s132_55, s132_56, s132_57, s132_60, s132_61, s132_62, s132_65, s132_66, zcs_0, zcs_1, zcs_2, zcs_3, zcs_4, zcs_5, zcs_6, zcs_7, znl_i, znl_r, znl_n, Bool.and_true, Bool.true_and, zk_v, zk_n, zk_x, zir_r, zir_n, zclr_i, zclr_r, zclr_n, zclr_d, zclr_l, true_and, and_true, and_self, if_true, if_false, reduceIte, nI_add, pk_mul, zin_ok, zx_nI, nI_lt2, nI_le2, nI_eq2, nI_l0, nI_g0, nI_q0, nI_p0, nI_n0, nI_m1, Nat.add_zero, Nat.zero_add, Nat.reduceAdd, Nat.reduceMul, true_or, or_true, znar_50, bI_0, bI_1, bI_z, bft, nI_z0, nI_z1, lgc_lt, lgc_gt, lgc_le, lgc_ge, lgc_eq, not_true_eq_false, not_false_eq_true, Bool.not_eq_true, Bool.not_eq_false, reduceCtorEq, eq_self, nI_e0, nI_e1, i10, i01, decide_false, decide_true, Bool.false_eq_true, cls_mP, mP_10, mP_11, h0, good, adv, g1, g2, g3, g4, m114, hx2]
      · have g4 : decide (lo ≤ yVl S ∧ yVl S < n) = false := decide_eq_false g3
        have e1 : yErr 2 S = (yAt S, yFr S, yTk S, yVl S, 2, nI (yFr S)) := if_pos g1
        have g6 : yFk (yErr 2 S) = 2 := by rw [e1]; rfl
        have g5 : decide (yFk (yErr 2 S) = 0) = false := by rw [g6]; rfl
        have good2 := fun d Q => good (yErr 2 S) d Q (by omega)
        have err2 := fun d Q => err S d Q 2 (by omega)
        rw [g5] at good2
        have good1 := fun d Q => good S d Q (by omega)
        rw [decide_eq_true g1] at good1
        rw [if_neg g3]
        simp (disch := omega) only [e132, s132_0, s132_1, s132_4, s132_7, s132_8, s132_11, s132_12, s132_15, s132_16, s132_17, s132_20, s132_21, s132_24, s132_27, s132_28, s132_31, s132_32, s132_33, s132_34, s132_35, s132_36, s132_39, s132_42, s132_43, s132_44, s132_47, s132_48, s132_51, s132_54, s132_55, s132_56, s132_57, s132_60, s132_61, s132_62, s132_65, s132_66, zcs_0, zcs_1, zcs_2, zcs_3, zcs_4, zcs_5, zcs_6, zcs_7, znl_i, znl_r, znl_n, Bool.and_true, Bool.true_and, zk_v, zk_n, zk_x, zir_r, zir_n, zclr_i, zclr_r, zclr_n, zclr_d, zclr_l, true_and, and_true, and_self, if_true, if_false, reduceIte, nI_add, pk_mul, zin_ok, zx_nI, nI_lt2, nI_le2, nI_eq2, nI_l0, nI_g0, nI_q0, nI_p0, nI_n0, nI_m1, Nat.add_zero, Nat.zero_add, Nat.reduceAdd, Nat.reduceMul, true_or, or_true, znar_50, bI_0, bI_1, bI_z, bft, nI_z0, nI_z1, lgc_lt, lgc_gt, lgc_le, lgc_ge, lgc_eq, not_true_eq_false, not_false_eq_true, Bool.not_eq_true, Bool.not_eq_false, reduceCtorEq, eq_self, nI_e0, nI_e1, i10, i01, decide_false, decide_true, Bool.false_eq_true, cls_mP, mP_10, mP_11, h0, good1, good2, err2, g1, g2, g4, m114, hx2, bI_t, bI_f]
    · have e1 : yErr 1 S = (yAt S, yFr S, yTk S, yVl S, 1, nI (yFr S)) := if_pos g1
      have g6 : yFk (yErr 1 S) = 1 := by rw [e1]; rfl
      have g5 : decide (yFk (yErr 1 S) = 0) = false := by rw [g6]; rfl
      have good2 := fun d Q => good (yErr 1 S) d Q (by omega)
      have err2 := fun d Q => err S d Q 1 (by omega)
      rw [g5] at good2
      have good1 := fun d Q => good S d Q (by omega)
      rw [decide_eq_true g1] at good1
      simp (disch := omega) only [e132, s132_0, s132_1, s132_4, s132_7, s132_8, s132_11, s132_12, s132_15, s132_16, s132_17, s132_20, s132_21, s132_24, s132_27, s132_28, s132_31, s132_32, s132_33, s132_34, s132_35, s132_36, s132_39, s132_42, s132_43, s132_44, s132_47, s132_48, s132_51, s132_54, s132_55, s132_56, s132_57, s132_60, s132_61, s132_62, s132_65, s132_66, zcs_0, zcs_1, zcs_2, zcs_3, zcs_4, zcs_5, zcs_6, zcs_7, znl_i, znl_r, znl_n, Bool.and_true, Bool.true_and, zk_v, zk_n, zk_x, zir_r, zir_n, zclr_i, zclr_r, zclr_n, zclr_d, zclr_l, true_and, and_true, and_self, if_true, if_false, reduceIte, nI_add, pk_mul, zin_ok, zx_nI, nI_lt2, nI_le2, nI_eq2, nI_l0, nI_g0, nI_q0, nI_p0, nI_n0, nI_m1, Nat.add_zero, Nat.zero_add, Nat.reduceAdd, Nat.reduceMul, true_or, or_true, znar_50, bI_0, bI_1, bI_z, bft, nI_z0, nI_z1, lgc_lt, lgc_gt, lgc_le, lgc_ge, lgc_eq, not_true_eq_false, not_false_eq_true, Bool.not_eq_true, Bool.not_eq_false, reduceCtorEq, eq_self, nI_e0, nI_e1, i10, i01, decide_false, decide_true, Bool.false_eq_true, cls_mP, mP_10, mP_11, h0, good1, good2, err2, g1, g2, bI_t, bI_f]
  · have good1 := fun d Q => good S d Q (by omega)
    rw [decide_eq_false g1] at good1
    simp (disch := omega) only [e132, s132_0, s132_1, s132_4, s132_7, s132_8, s132_11, s132_12, s132_15, s132_16, s132_17, s132_20, s132_21, s132_24, s132_27, s132_28, s132_31, s132_32, s132_33, s132_34, s132_35, s132_36, s132_39, s132_42, s132_43, s132_44, s132_47, s132_48, s132_51, s132_54, s132_55, s132_56, s132_57, s132_60, s132_61, s132_62, s132_65, s132_66, zcs_0, zcs_1, zcs_2, zcs_3, zcs_4, zcs_5, zcs_6, zcs_7, znl_i, znl_r, znl_n, Bool.and_true, Bool.true_and, zk_v, zk_n, zk_x, zir_r, zir_n, zclr_i, zclr_r, zclr_n, zclr_d, zclr_l, true_and, and_true, and_self, if_true, if_false, reduceIte, nI_add, pk_mul, zin_ok, zx_nI, nI_lt2, nI_le2, nI_eq2, nI_l0, nI_g0, nI_q0, nI_p0, nI_n0, nI_m1, Nat.add_zero, Nat.zero_add, Nat.reduceAdd, Nat.reduceMul, true_or, or_true, znar_50, bI_0, bI_1, bI_z, bft, nI_z0, nI_z1, lgc_lt, lgc_gt, lgc_le, lgc_ge, lgc_eq, not_true_eq_false, not_false_eq_true, Bool.not_eq_true, Bool.not_eq_false, reduceCtorEq, eq_self, nI_e0, nI_e1, i10, i01, decide_false, decide_true, Bool.false_eq_true, cls_mP, mP_10, mP_11, h0, good1, g1, bI_f]
theorem m132 (hM : MS z) (hT : TPm z b sz) (hS : yOK sz S) {lo n : Nat} (hl : lo < 10000) (hn : n < 10000) : ZC zG (d + 2) 132 [.ref 135, .int (nI lo), .int (nI n)] (mP z S F) Q = Q (.inl (some (.int (nI (yNum b sz lo (n + 1) S).2)))) (mP z (yNum b sz lo (n + 1) S).1 F) := m132x hM hT hS (fun c hc => lin_w hc hl hn)
theorem m132n (hM : MS z) (hT : TPm z b sz) (hS : yOK sz S) {lo n : Nat} (hl : lo < 10000) (hn : n < 10000) : ZC zG (d + 2) 132 [.ref 135, .int (nI lo), .int (nI n - nI 1)] (mP z S F) Q = Q (.inl (some (.int (nI (yNum b sz lo n S).2)))) (mP z (yNum b sz lo n S).1 F) := m132x hM hT hS (fun c hc => lin_v hc hl hn)
theorem m131 (hM : MS z) (hT : TPm z b sz) (hS : yOK sz S) {r lo n : Nat} (hr : r < 35) (hl : lo < 10000) (hn : n < 10000) : ZC zG (d + 4) 131 [.ref 135, .ref r, .int (nI lo), .int (nI n)] (mP z S F) Q = Q (.inl (some (.int (nI (yNum b sz lo (n + 1) (yNeed b sz r S)).2)))) (mP z (yNum b sz lo (n + 1) (yNeed b sz r S)).1 F) := by
  have h0 := hM
  unfold MS at h0
  have c1 := fun d Q => m129 (d := d) (Q := Q) (F := F) hM hT hS hr
  have c2 := fun d Q => m132 (d := d) (Q := Q) (F := F) hM hT (yNeed_ok (b := b) (r := r) hS) hl hn
  simp (disch := omega) only [e131, s131_0, s131_1, s131_2, s131_5, s131_6, s131_7, s131_8, s131_11, zcs_0, zcs_1, zcs_2, zcs_3, zcs_4, zcs_5, zcs_6, zcs_7, znl_i, znl_r, znl_n, Bool.and_true, Bool.true_and, zk_v, zk_n, zk_x, zir_r, zir_n, zclr_i, zclr_r, zclr_n, zclr_d, zclr_l, true_and, and_true, and_self, if_true, if_false, reduceIte, nI_add, pk_mul, zin_ok, zx_nI, nI_lt2, nI_le2, nI_eq2, nI_l0, nI_g0, nI_q0, nI_p0, nI_n0, nI_m1, Nat.add_zero, Nat.zero_add, Nat.reduceAdd, Nat.reduceMul, true_or, or_true, znar_50, bI_0, bI_1, bI_z, bft, nI_z0, nI_z1, lgc_lt, lgc_gt, lgc_le, lgc_ge, lgc_eq, not_true_eq_false, not_false_eq_true, Bool.not_eq_true, Bool.not_eq_false, reduceCtorEq, eq_self, nI_e0, nI_e1, i10, i01, decide_false, decide_true, Bool.false_eq_true, cls_mP, h0, c1, c2]
theorem wI_m1 {n k : Nat} (hn : n < 100) : (wI n k = -1) = (n ≤ k) := by
  unfold wI
  by_cases h : k < n
  · rw [if_pos h, nI_m1 (by omega)]
    exact propext ⟨False.elim, fun q => by omega⟩
  · rw [if_neg h]
    exact propext ⟨fun _ => by omega, fun _ => rfl⟩
theorem m128 (hM : MS z) (hT : TPm z b sz) (hS : yOK sz S) {n k : Nat} (hn : n < 100) : ZC zG (d + 2) 128 [.ref 135, .int (wI n k)] (mP z S F) Q = Q (.inl (some (.int (wI n k)))) (mP z (yTkn b sz n k S) F) := by
  have h0 := hM
  unfold MS at h0
  obtain ⟨o1, o3, o4, o5, o6⟩ := hS
  have hS : yOK sz S := ⟨o1, o3, o4, o5, o6⟩
  have good := fun (S : YS) (d : Nat) (Q : ZQ) (hk : yFk S < 2147483648) => m122 (d := d) (Q := Q) (F := F) (S := S) hM hk
  have err := fun (S : YS) (d : Nat) (Q : ZQ) (x : Nat) (hk : yFk S < 2147483648) => m126 (d := d) (Q := Q) (F := F) (S := S) (x := x) hM hk
  have adv := fun d Q => m120 (d := d) (Q := Q) (F := F) hM hT hS.1.2
  have good1 := fun d Q => good S d Q (by omega)
  have e := wI_m1 (n := n) (k := k) hn
  unfold yTkn
  by_cases hk : k < n
  · have hk2 : ¬ n ≤ k := by omega
    by_cases g1 : yFk S = 0
    · rw [decide_eq_true g1] at good1
      simp (disch := omega) only [e128, s128_0, s128_1, s128_2, s128_5, s128_6, s128_7, s128_10, s128_11, s128_14, s128_17, s128_18, s128_21, s128_22, zcs_0, zcs_1, zcs_2, zcs_3, zcs_4, zcs_5, zcs_6, zcs_7, znl_i, znl_r, znl_n, Bool.and_true, Bool.true_and, zk_v, zk_n, zk_x, zir_r, zir_n, zclr_i, zclr_r, zclr_n, zclr_d, zclr_l, true_and, and_true, and_self, if_true, if_false, reduceIte, nI_add, pk_mul, zin_ok, zx_nI, nI_lt2, nI_le2, nI_eq2, nI_l0, nI_g0, nI_q0, nI_p0, nI_n0, nI_m1, Nat.add_zero, Nat.zero_add, Nat.reduceAdd, Nat.reduceMul, true_or, or_true, znar_50, bI_0, bI_1, bI_z, bft, nI_z0, nI_z1, lgc_lt, lgc_gt, lgc_le, lgc_ge, lgc_eq, not_true_eq_false, not_false_eq_true, Bool.not_eq_true, Bool.not_eq_false, reduceCtorEq, eq_self, nI_e0, nI_e1, i10, i01, decide_false, decide_true, Bool.false_eq_true, cls_mP, h0, e, hk, hk2, good1, adv, g1, bI_t]
    · rw [decide_eq_false g1] at good1
      simp (disch := omega) only [e128, s128_0, s128_1, s128_2, s128_5, s128_6, s128_7, s128_10, s128_11, s128_14, s128_17, s128_18, s128_21, s128_22, zcs_0, zcs_1, zcs_2, zcs_3, zcs_4, zcs_5, zcs_6, zcs_7, znl_i, znl_r, znl_n, Bool.and_true, Bool.true_and, zk_v, zk_n, zk_x, zir_r, zir_n, zclr_i, zclr_r, zclr_n, zclr_d, zclr_l, true_and, and_true, and_self, if_true, if_false, reduceIte, nI_add, pk_mul, zin_ok, zx_nI, nI_lt2, nI_le2, nI_eq2, nI_l0, nI_g0, nI_q0, nI_p0, nI_n0, nI_m1, Nat.add_zero, Nat.zero_add, Nat.reduceAdd, Nat.reduceMul, true_or, or_true, znar_50, bI_0, bI_1, bI_z, bft, nI_z0, nI_z1, lgc_lt, lgc_gt, lgc_le, lgc_ge, lgc_eq, not_true_eq_false, not_false_eq_true, Bool.not_eq_true, Bool.not_eq_false, reduceCtorEq, eq_self, nI_e0, nI_e1, i10, i01, decide_false, decide_true, Bool.false_eq_true, cls_mP, h0, e, hk, hk2, good1, g1, bI_f]
  · have hk2 : n ≤ k := by omega
    have g6 := yErr_fk (S := S) (x := 1) (by omega)
    have g7 : yFk (yErr 1 S) < 4 := (yErr_ok hS (by omega)).2.2.2.2
    have good2 := fun d Q => good (yErr 1 S) d Q (by omega)
    rw [decide_eq_false g6] at good2
    have err2 := fun d Q => err S d Q 1 (by omega)
    simp (disch := omega) only [e128, s128_0, s128_1, s128_2, s128_5, s128_6, s128_7, s128_10, s128_11, s128_14, s128_17, s128_18, s128_21, s128_22, zcs_0, zcs_1, zcs_2, zcs_3, zcs_4, zcs_5, zcs_6, zcs_7, znl_i, znl_r, znl_n, Bool.and_true, Bool.true_and, zk_v, zk_n, zk_x, zir_r, zir_n, zclr_i, zclr_r, zclr_n, zclr_d, zclr_l, true_and, and_true, and_self, if_true, if_false, reduceIte, nI_add, pk_mul, zin_ok, zx_nI, nI_lt2, nI_le2, nI_eq2, nI_l0, nI_g0, nI_q0, nI_p0, nI_n0, nI_m1, Nat.add_zero, Nat.zero_add, Nat.reduceAdd, Nat.reduceMul, true_or, or_true, znar_50, bI_0, bI_1, bI_z, bft, nI_z0, nI_z1, lgc_lt, lgc_gt, lgc_le, lgc_ge, lgc_eq, not_true_eq_false, not_false_eq_true, Bool.not_eq_true, Bool.not_eq_false, reduceCtorEq, eq_self, nI_e0, nI_e1, i10, i01, decide_false, decide_true, Bool.false_eq_true, cls_mP, h0, e, hk, hk2, good2, err2, bI_f]
end MT2
