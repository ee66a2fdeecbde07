set_option maxRecDepth 100000
/-! beside: the model's walk -/
section BW
variable {d : Nat} {z : ZH} {Q : ZQ} {v u : Nat → Nat} {L LI : Nat → List (Nat × Nat)} {K KI : Nat}
theorem m208 (hM : MS z) (hv : WF v L K) (hu : WF u LI KI) {k : Nat} (hk : k < 3) (hI : zia z 138 k = 1) (hi : ∀ i, i < 9080 → zia z 137 (9080 * k + i) = nI (u i))
    (H : ∀ pt sv, Q (.inl (some (.int (nI (bsF LI (bsV v u) (v 8) 7))))) (sW (sIA (sIA z 157 sv) 142 pt) v)) : ZC zG (d + 5) 208 [.ref 135, .int (nI k)] (sW z v) Q := by
  have h0 := hM
  unfold MS at h0
  have hz : zin (nI k) 3 = true := by rw [zin_nI (by omega)]; exact decide_eq_true hk
  obtain ⟨b0, bv0, bv8, bvq⟩ := bsV_0 hv hu
  have hB := hv.1
  have uB := hu.1
  have hE := hv.2.2.2.2.1
  have h16 := hv.2.1.1
  -- all is saved
  have k1 := zl_up (P := fun i => ZW zG (d + 5) 208 29 [.ref 135, .int (nI k), .int (nI i), zdum, zdum] [] (sW (sIA z 157 (fun j => if j < i then nI (v j) else zia z 157 j)) v) Q) 9080 (by
    intro i hi'
    have h1 : ¬ 9080 ≤ i := by omega
    have e : zu1 (fun j => if j < i then nI (v j) else zia z 157 j) i (nI (v i)) = fun j => if j < i + 1 then nI (v j) else zia z 157 j := by
      funext j
      unfold zu1
      by_cases c : j = i
      · rw [if_pos c, if_pos (by omega), c]
      · rw [if_neg c]
        dsimp only
        by_cases c2 : j < i
        · rw [if_pos c2, if_pos (by omega)]
        · rw [if_neg c2, if_neg (by omega)]
    rw [← e]
    refine s208_29.trans ?_
    simp (disch := omega) only [s208_30, s208_33, s208_36, s208_37, s208_40, s208_41, s208_42, s208_45, s208_46, s208_47, s208_48, s208_51, zcs_0, zcs_1, zcs_2, zcs_3, zcs_4, zcs_5, zcs_6, zcs_7, znl_i, znl_r, znl_n, Bool.and_true, Bool.true_and, zk_v, zk_n, zk_x, zir_r, zir_n, zclr_i, zclr_r, zclr_n, zclr_d, zclr_l, true_and, and_true, and_self, if_true, if_false, reduceIte, nI_add, pk_mul, zin_ok, zx_nI, nI_lt2, nI_le2, nI_eq2, nI_l0, nI_g0, nI_q0, nI_p0, nI_n0, nI_m1, Nat.add_zero, Nat.zero_add, Nat.reduceAdd, Nat.reduceMul, true_or, or_true, znar_50, bI_0, bI_1, bI_z, bft, nI_z0, nI_z1, lgc_lt, lgc_gt, lgc_le, lgc_ge, lgc_eq, not_true_eq_false, not_false_eq_true, Bool.not_eq_true, Bool.not_eq_false, reduceCtorEq, eq_self, nI_e0, nI_e1, i10, i01, decide_false, decide_true, Bool.false_eq_true, MS_sW, CS_sW, sW_r, sW_n, sW_w, cls_sW, fi_sW, fr_sW, la_sW, ra_sW, len_sW, ls_sW, own_sW, n_sW, uc_sW, us_sW, sW_sfi, sW_sla, sW_sLA, sW_sls, sW_spay, sW_sia, sW_sIA, ne_eq, cls_sfi, fr_sfi, ia_sfi, la_sfi, ra_sfi, len_sfi, ls_sfi, own_sfi, n_sfi, uc_sfi, us_sfi, cls_sia, fi_sia, fr_sia, la_sia, ra_sia, len_sia, ls_sia, own_sia, n_sia, uc_sia, us_sia, cls_sIA, fi_sIA, fr_sIA, la_sIA, ra_sIA, len_sIA, ls_sIA, own_sIA, n_sIA, uc_sIA, us_sIA, cls_sla, fi_sla, fr_sla, ia_sla, ra_sla, len_sla, ls_sla, own_sla, n_sla, uc_sla, us_sla, cls_sLA, fi_sLA, fr_sLA, ia_sLA, ra_sLA, len_sLA, ls_sLA, own_sLA, n_sLA, uc_sLA, us_sLA, h0, h1, sIA_sia, cls_sIA, fr_sIA, len_sIA])
  have z1 : sIA z 157 (fun j => if j < 0 then nI (v j) else zia z 157 j) = z := by
    have : (fun j => if j < 0 then nI (v j) else zia z 157 j) = zia z 157 := by
      funext j
      rw [if_neg (by omega)]
    rw [this]
    exact sIA_self z 157
  rw [z1] at k1
  have s0 : ZC zG (d + 5) 208 [.ref 135, .int (nI k)] (sW z v) Q = ZW zG (d + 5) 208 29 [.ref 135, .int (nI k), .int (nI 0), zdum, zdum] [] (sW z v) Q := by
    simp (disch := omega) only [e208, s208_0, s208_1, s208_2, s208_3, s208_6, s208_9, s208_12, s208_14, s208_15, s208_16, s208_19, s208_20, s208_21, s208_24, s208_26, s208_27, s208_28, zcs_0, zcs_1, zcs_2, zcs_3, zcs_4, zcs_5, zcs_6, zcs_7, znl_i, znl_r, znl_n, Bool.and_true, Bool.true_and, zk_v, zk_n, zk_x, zir_r, zir_n, zclr_i, zclr_r, zclr_n, zclr_d, zclr_l, true_and, and_true, and_self, if_true, if_false, reduceIte, nI_add, pk_mul, zin_ok, zx_nI, nI_lt2, nI_le2, nI_eq2, nI_l0, nI_g0, nI_q0, nI_p0, nI_n0, nI_m1, Nat.add_zero, Nat.zero_add, Nat.reduceAdd, Nat.reduceMul, true_or, or_true, znar_50, bI_0, bI_1, bI_z, bft, nI_z0, nI_z1, lgc_lt, lgc_gt, lgc_le, lgc_ge, lgc_eq, not_true_eq_false, not_false_eq_true, Bool.not_eq_true, Bool.not_eq_false, reduceCtorEq, eq_self, nI_e0, nI_e1, i10, i01, decide_false, decide_true, Bool.false_eq_true, MS_sW, CS_sW, sW_r, sW_n, sW_w, cls_sW, fi_sW, fr_sW, la_sW, ra_sW, len_sW, ls_sW, own_sW, n_sW, uc_sW, us_sW, sW_sfi, sW_sla, sW_sLA, sW_sls, sW_spay, sW_sia, sW_sIA, ne_eq, cls_sfi, fr_sfi, ia_sfi, la_sfi, ra_sfi, len_sfi, ls_sfi, own_sfi, n_sfi, uc_sfi, us_sfi, cls_sia, fi_sia, fr_sia, la_sia, ra_sia, len_sia, ls_sia, own_sia, n_sia, uc_sia, us_sia, cls_sIA, fi_sIA, fr_sIA, la_sIA, ra_sIA, len_sIA, ls_sIA, own_sIA, n_sIA, uc_sIA, us_sIA, cls_sla, fi_sla, fr_sla, ia_sla, ra_sla, len_sla, ls_sla, own_sla, n_sla, uc_sla, us_sla, cls_sLA, fi_sLA, fr_sLA, ia_sLA, ra_sLA, len_sLA, ls_sLA, own_sLA, n_sLA, uc_sLA, us_sLA, h0, m114, lin_c, hz, hI]
  rw [s0, k1]
  have hMS : MS (sIA z 157 (fun j => if j < 9080 then nI (v j) else zia z 157 j)) := hM
  have hi2 : ∀ i, i < 9080 → zia (sIA z 157 (fun j => if j < 9080 then nI (v j) else zia z 157 j)) 137 (9080 * k + i) = nI (u i) := fun i h => by
    rw [ia_sIA, zu1_n _ _ _ (by omega)]; exact hi i h
  have hsv : ∀ i, i < 9080 → zia (sIA z 157 (fun j => if j < 9080 then nI (v j) else zia z 157 j)) 157 i = nI (v i) := fun i h => by
    rw [ia_sIA, zu1_s]; exact if_pos h
  have H := fun pt => H pt (fun j => if j < 9080 then nI (v j) else zia z 157 j)
  clear s0 k1 z1
  generalize sIA z 157 (fun j => if j < 9080 then nI (v j) else zia z 157 j) = zs at *
  have h0 := hMS
  unfold MS at h0
  -- the code
  have k2 := zl_upf (P := fun i => ZW zG (d + 5) 208 58 [.ref 135, .int (nI k), .int (nI i), zdum, zdum] [] (sW zs (fun j => if 154 ≤ j ∧ j < i then u j else v j)) Q) 154 1864 (by omega) (by
    intro i h1 h2
    have h3 : ¬ 1864 ≤ i := by omega
    have e : zu1 (fun j => if 154 ≤ j ∧ j < i then u j else v j) i (u i) = fun j => if 154 ≤ j ∧ j < i + 1 then u j else v j := by
      funext j
      unfold zu1
      by_cases c : j = i
      · rw [if_pos c, if_pos (by omega), c]
      · rw [if_neg c]
        dsimp only
        by_cases c2 : 154 ≤ j ∧ j < i
        · rw [if_pos c2, if_pos (by omega)]
        · rw [if_neg c2, if_neg (by omega)]
    have er := hi2 i (by omega)
    rw [← e]
    refine s208_58.trans ?_
    simp (disch := omega) only [s208_59, s208_62, s208_65, s208_66, s208_69, s208_70, s208_71, s208_74, s208_77, s208_78, s208_79, s208_80, s208_81, s208_82, s208_83, s208_86, zcs_0, zcs_1, zcs_2, zcs_3, zcs_4, zcs_5, zcs_6, zcs_7, znl_i, znl_r, znl_n, Bool.and_true, Bool.true_and, zk_v, zk_n, zk_x, zir_r, zir_n, zclr_i, zclr_r, zclr_n, zclr_d, zclr_l, true_and, and_true, and_self, if_true, if_false, reduceIte, nI_add, pk_mul, zin_ok, zx_nI, nI_lt2, nI_le2, nI_eq2, nI_l0, nI_g0, nI_q0, nI_p0, nI_n0, nI_m1, Nat.add_zero, Nat.zero_add, Nat.reduceAdd, Nat.reduceMul, true_or, or_true, znar_50, bI_0, bI_1, bI_z, bft, nI_z0, nI_z1, lgc_lt, lgc_gt, lgc_le, lgc_ge, lgc_eq, not_true_eq_false, not_false_eq_true, Bool.not_eq_true, Bool.not_eq_false, reduceCtorEq, eq_self, nI_e0, nI_e1, i10, i01, decide_false, decide_true, Bool.false_eq_true, MS_sW, CS_sW, sW_r, sW_n, sW_w, cls_sW, fi_sW, fr_sW, la_sW, ra_sW, len_sW, ls_sW, own_sW, n_sW, uc_sW, us_sW, sW_sfi, sW_sla, sW_sLA, sW_sls, sW_spay, sW_sia, sW_sIA, ne_eq, cls_sfi, fr_sfi, ia_sfi, la_sfi, ra_sfi, len_sfi, ls_sfi, own_sfi, n_sfi, uc_sfi, us_sfi, cls_sia, fi_sia, fr_sia, la_sia, ra_sia, len_sia, ls_sia, own_sia, n_sia, uc_sia, us_sia, cls_sIA, fi_sIA, fr_sIA, la_sIA, ra_sIA, len_sIA, ls_sIA, own_sIA, n_sIA, uc_sIA, us_sIA, cls_sla, fi_sla, fr_sla, ia_sla, ra_sla, len_sla, ls_sla, own_sla, n_sla, uc_sla, us_sla, cls_sLA, fi_sLA, fr_sLA, ia_sLA, ra_sLA, len_sLA, ls_sLA, own_sLA, n_sLA, uc_sLA, us_sLA, h0, h3, er])
  have e2 : (fun j => if 154 ≤ j ∧ j < 154 then u j else v j) = v := by
    funext j
    rw [if_neg (by omega)]
  rw [e2] at k2
  have s29 : ZW zG (d + 5) 208 29 [.ref 135, .int (nI k), .int (nI 9080), zdum, zdum] [] (sW zs v) Q = ZW zG (d + 5) 208 58 [.ref 135, .int (nI k), .int (nI 154), zdum, zdum] [] (sW zs v) Q := by
    refine s208_29.trans ?_
    simp (disch := omega) only [s208_30, s208_33, s208_54, s208_57, zcs_0, zcs_1, zcs_2, zcs_3, zcs_4, zcs_5, zcs_6, zcs_7, znl_i, znl_r, znl_n, Bool.and_true, Bool.true_and, zk_v, zk_n, zk_x, zir_r, zir_n, zclr_i, zclr_r, zclr_n, zclr_d, zclr_l, true_and, and_true, and_self, if_true, if_false, reduceIte, nI_add, pk_mul, zin_ok, zx_nI, nI_lt2, nI_le2, nI_eq2, nI_l0, nI_g0, nI_q0, nI_p0, nI_n0, nI_m1, Nat.add_zero, Nat.zero_add, Nat.reduceAdd, Nat.reduceMul, true_or, or_true, znar_50, bI_0, bI_1, bI_z, bft, nI_z0, nI_z1, lgc_lt, lgc_gt, lgc_le, lgc_ge, lgc_eq, not_true_eq_false, not_false_eq_true, Bool.not_eq_true, Bool.not_eq_false, reduceCtorEq, eq_self, nI_e0, nI_e1, i10, i01, decide_false, decide_true, Bool.false_eq_true, Nat.le_refl]
  rw [s29, k2]
  have k3 := zl_upf (P := fun i => ZW zG (d + 5) 208 91 [.ref 135, .int (nI k), .int (nI i), zdum, zdum] [] (sW zs (fun j => if (1 ≤ j ∧ j < i) ∨ (154 ≤ j ∧ j < 1864) then u j else v j)) Q) 1 4 (by omega) (by
    intro i h1 h2
    have h3 : ¬ 3 < i := by omega
    have e : zu1 (fun j => if (1 ≤ j ∧ j < i) ∨ (154 ≤ j ∧ j < 1864) then u j else v j) i (u i) = fun j => if (1 ≤ j ∧ j < i + 1) ∨ (154 ≤ j ∧ j < 1864) then u j else v j := by
      funext j
      unfold zu1
      by_cases c : j = i
      · rw [if_pos c, if_pos (by omega), c]
      · rw [if_neg c]
        dsimp only
        by_cases c2 : (1 ≤ j ∧ j < i) ∨ (154 ≤ j ∧ j < 1864)
        · rw [if_pos c2, if_pos (by omega)]
        · rw [if_neg c2, if_neg (by omega)]
    have er := hi2 i (by omega)
    rw [← e]
    refine s208_91.trans ?_
    simp (disch := omega) only [s208_92, s208_93, s208_96, s208_97, s208_100, s208_101, s208_102, s208_105, s208_108, s208_109, s208_110, s208_111, s208_112, s208_113, s208_114, s208_117, zcs_0, zcs_1, zcs_2, zcs_3, zcs_4, zcs_5, zcs_6, zcs_7, znl_i, znl_r, znl_n, Bool.and_true, Bool.true_and, zk_v, zk_n, zk_x, zir_r, zir_n, zclr_i, zclr_r, zclr_n, zclr_d, zclr_l, true_and, and_true, and_self, if_true, if_false, reduceIte, nI_add, pk_mul, zin_ok, zx_nI, nI_lt2, nI_le2, nI_eq2, nI_l0, nI_g0, nI_q0, nI_p0, nI_n0, nI_m1, Nat.add_zero, Nat.zero_add, Nat.reduceAdd, Nat.reduceMul, true_or, or_true, znar_50, bI_0, bI_1, bI_z, bft, nI_z0, nI_z1, lgc_lt, lgc_gt, lgc_le, lgc_ge, lgc_eq, not_true_eq_false, not_false_eq_true, Bool.not_eq_true, Bool.not_eq_false, reduceCtorEq, eq_self, nI_e0, nI_e1, i10, i01, decide_false, decide_true, Bool.false_eq_true, MS_sW, CS_sW, sW_r, sW_n, sW_w, cls_sW, fi_sW, fr_sW, la_sW, ra_sW, len_sW, ls_sW, own_sW, n_sW, uc_sW, us_sW, sW_sfi, sW_sla, sW_sLA, sW_sls, sW_spay, sW_sia, sW_sIA, ne_eq, cls_sfi, fr_sfi, ia_sfi, la_sfi, ra_sfi, len_sfi, ls_sfi, own_sfi, n_sfi, uc_sfi, us_sfi, cls_sia, fi_sia, fr_sia, la_sia, ra_sia, len_sia, ls_sia, own_sia, n_sia, uc_sia, us_sia, cls_sIA, fi_sIA, fr_sIA, la_sIA, ra_sIA, len_sIA, ls_sIA, own_sIA, n_sIA, uc_sIA, us_sIA, cls_sla, fi_sla, fr_sla, ia_sla, ra_sla, len_sla, ls_sla, own_sla, n_sla, uc_sla, us_sla, cls_sLA, fi_sLA, fr_sLA, ia_sLA, ra_sLA, len_sLA, ls_sLA, own_sLA, n_sLA, uc_sLA, us_sLA, h0, h3, er])
  have e3 : (fun j => if (1 ≤ j ∧ j < 1) ∨ (154 ≤ j ∧ j < 1864) then u j else v j) = fun j => if 154 ≤ j ∧ j < 1864 then u j else v j := by
    funext j
    by_cases c : 154 ≤ j ∧ j < 1864
    · rw [if_pos c, if_pos (Or.inr c)]
    · rw [if_neg c, if_neg (by omega)]
  rw [e3] at k3
  have s58 : ∀ w, ZW zG (d + 5) 208 58 [.ref 135, .int (nI k), .int (nI 1864), zdum, zdum] [] (sW zs w) Q = ZW zG (d + 5) 208 91 [.ref 135, .int (nI k), .int (nI 1), zdum, zdum] [] (sW zs w) Q := fun w => by
    refine s208_58.trans ?_
    simp (disch := omega) only [s208_59, s208_62, s208_89, s208_90, zcs_0, zcs_1, zcs_2, zcs_3, zcs_4, zcs_5, zcs_6, zcs_7, znl_i, znl_r, znl_n, Bool.and_true, Bool.true_and, zk_v, zk_n, zk_x, zir_r, zir_n, zclr_i, zclr_r, zclr_n, zclr_d, zclr_l, true_and, and_true, and_self, if_true, if_false, reduceIte, nI_add, pk_mul, zin_ok, zx_nI, nI_lt2, nI_le2, nI_eq2, nI_l0, nI_g0, nI_q0, nI_p0, nI_n0, nI_m1, Nat.add_zero, Nat.zero_add, Nat.reduceAdd, Nat.reduceMul, true_or, or_true, znar_50, bI_0, bI_1, bI_z, bft, nI_z0, nI_z1, lgc_lt, lgc_gt, lgc_le, lgc_ge, lgc_eq, not_true_eq_false, not_false_eq_true, Bool.not_eq_true, Bool.not_eq_false, reduceCtorEq, eq_self, nI_e0, nI_e1, i10, i01, decide_false, decide_true, Bool.false_eq_true, Nat.le_refl]
  rw [s58, k3]
  clear s58 s29 k2 k3 e2 e3
  -- who knows whom
  have k4 := zl_up (P := fun h => ZW zG (d + 5) 208 122 [.ref 135, .int (nI k), .int (nI h), zdum, zdum] [] (sW zs (fun j => if 1864 ≤ j ∧ j < 1864 + h then v (10 + 9 * (j - 1864) + 8) else if (1 ≤ j ∧ j < 4) ∨ (154 ≤ j ∧ j < 1864) then u j else v j)) Q) 16 (by
    intro h hh
    have h3 : ¬ 16 ≤ h := by omega
    have e : zu1 (fun j => if 1864 ≤ j ∧ j < 1864 + h then v (10 + 9 * (j - 1864) + 8) else if (1 ≤ j ∧ j < 4) ∨ (154 ≤ j ∧ j < 1864) then u j else v j) (1864 + h) (v (10 + 9 * h + 8)) = fun j => if 1864 ≤ j ∧ j < 1864 + (h + 1) then v (10 + 9 * (j - 1864) + 8) else if (1 ≤ j ∧ j < 4) ∨ (154 ≤ j ∧ j < 1864) then u j else v j := by
      funext j
      unfold zu1
      by_cases c : j = 1864 + h
      · rw [if_pos c, if_pos (by omega), c, Nat.add_sub_cancel_left]
      · rw [if_neg c]
        dsimp only
        by_cases c2 : 1864 ≤ j ∧ j < 1864 + h
        · rw [if_pos c2, if_pos (by omega)]
        · rw [if_neg c2, if_neg (show ¬ (1864 ≤ j ∧ j < 1864 + (h + 1)) by omega)]
    have oh := fun d Q => m139 (d := d) (Q := Q) (z := zs) (v := fun j => if 1864 ≤ j ∧ j < 1864 + h then v (10 + 9 * (j - 1864) + 8) else if (1 ≤ j ∧ j < 4) ∨ (154 ≤ j ∧ j < 1864) then u j else v j) (h := h) (j := 8) hMS (by omega)
    have er : (if 1864 ≤ 10 + 9 * h + 8 ∧ 10 + 9 * h + 8 < 1864 + h then v (10 + 9 * (10 + 9 * h + 8 - 1864) + 8) else if (1 ≤ 10 + 9 * h + 8 ∧ 10 + 9 * h + 8 < 4) ∨ (154 ≤ 10 + 9 * h + 8 ∧ 10 + 9 * h + 8 < 1864) then u (10 + 9 * h + 8) else v (10 + 9 * h + 8)) = v (10 + 9 * h + 8) := by
      rw [if_neg (by omega), if_neg (by omega)]
    simp only [er] at oh
    rw [← e]
    refine s208_122.trans ?_
    simp (disch := omega) only [s208_123, s208_125, s208_128, s208_129, s208_132, s208_135, s208_136, s208_137, s208_138, s208_139, s208_141, s208_144, s208_145, s208_148, zcs_0, zcs_1, zcs_2, zcs_3, zcs_4, zcs_5, zcs_6, zcs_7, znl_i, znl_r, znl_n, Bool.and_true, Bool.true_and, zk_v, zk_n, zk_x, zir_r, zir_n, zclr_i, zclr_r, zclr_n, zclr_d, zclr_l, true_and, and_true, and_self, if_true, if_false, reduceIte, nI_add, pk_mul, zin_ok, zx_nI, nI_lt2, nI_le2, nI_eq2, nI_l0, nI_g0, nI_q0, nI_p0, nI_n0, nI_m1, Nat.add_zero, Nat.zero_add, Nat.reduceAdd, Nat.reduceMul, true_or, or_true, znar_50, bI_0, bI_1, bI_z, bft, nI_z0, nI_z1, lgc_lt, lgc_gt, lgc_le, lgc_ge, lgc_eq, not_true_eq_false, not_false_eq_true, Bool.not_eq_true, Bool.not_eq_false, reduceCtorEq, eq_self, nI_e0, nI_e1, i10, i01, decide_false, decide_true, Bool.false_eq_true, MS_sW, CS_sW, sW_r, sW_n, sW_w, cls_sW, fi_sW, fr_sW, la_sW, ra_sW, len_sW, ls_sW, own_sW, n_sW, uc_sW, us_sW, sW_sfi, sW_sla, sW_sLA, sW_sls, sW_spay, sW_sia, sW_sIA, ne_eq, cls_sfi, fr_sfi, ia_sfi, la_sfi, ra_sfi, len_sfi, ls_sfi, own_sfi, n_sfi, uc_sfi, us_sfi, cls_sia, fi_sia, fr_sia, la_sia, ra_sia, len_sia, ls_sia, own_sia, n_sia, uc_sia, us_sia, cls_sIA, fi_sIA, fr_sIA, la_sIA, ra_sIA, len_sIA, ls_sIA, own_sIA, n_sIA, uc_sIA, us_sIA, cls_sla, fi_sla, fr_sla, ia_sla, ra_sla, len_sla, ls_sla, own_sla, n_sla, uc_sla, us_sla, cls_sLA, fi_sLA, fr_sLA, ia_sLA, ra_sLA, len_sLA, ls_sLA, own_sLA, n_sLA, uc_sLA, us_sLA, h0, h3, oh])
  have e4 : (fun j => if 1864 ≤ j ∧ j < 1864 + 0 then v (10 + 9 * (j - 1864) + 8) else if (1 ≤ j ∧ j < 4) ∨ (154 ≤ j ∧ j < 1864) then u j else v j) = fun j => if (1 ≤ j ∧ j < 4) ∨ (154 ≤ j ∧ j < 1864) then u j else v j := by
    funext j
    rw [if_neg (by omega)]
  rw [e4] at k4
  have s91 : ∀ w, ZW zG (d + 5) 208 91 [.ref 135, .int (nI k), .int (nI 4), zdum, zdum] [] (sW zs w) Q = ZW zG (d + 5) 208 122 [.ref 135, .int (nI k), .int (nI 0), zdum, zdum] [] (sW zs w) Q := fun w => by
    refine s208_91.trans ?_
    simp (disch := omega) only [s208_92, s208_93, s208_120, s208_121, zcs_0, zcs_1, zcs_2, zcs_3, zcs_4, zcs_5, zcs_6, zcs_7, znl_i, znl_r, znl_n, Bool.and_true, Bool.true_and, zk_v, zk_n, zk_x, zir_r, zir_n, zclr_i, zclr_r, zclr_n, zclr_d, zclr_l, true_and, and_true, and_self, if_true, if_false, reduceIte, nI_add, pk_mul, zin_ok, zx_nI, nI_lt2, nI_le2, nI_eq2, nI_l0, nI_g0, nI_q0, nI_p0, nI_n0, nI_m1, Nat.add_zero, Nat.zero_add, Nat.reduceAdd, Nat.reduceMul, true_or, or_true, znar_50, bI_0, bI_1, bI_z, bft, nI_z0, nI_z1, lgc_lt, lgc_gt, lgc_le, lgc_ge, lgc_eq, not_true_eq_false, not_false_eq_true, Bool.not_eq_true, Bool.not_eq_false, reduceCtorEq, eq_self, nI_e0, nI_e1, i10, i01, decide_false, decide_true, Bool.false_eq_true, Nat.reduceLT]
  rw [s91, k4]
  have eW : zu1 (fun j => if 1864 ≤ j ∧ j < 1864 + 16 then v (10 + 9 * (j - 1864) + 8) else if (1 ≤ j ∧ j < 4) ∨ (154 ≤ j ∧ j < 1864) then u j else v j) 7 0 = bsV v u := by
    funext j
    unfold zu1 bsV
    by_cases c : j = 7
    · rw [if_pos c, if_pos c]
    · rw [if_neg c, if_neg c]
      dsimp only
      by_cases c1 : 1864 ≤ j ∧ j < 1880
      · rw [if_pos (by omega), if_pos c1]
      · rw [if_neg (by omega), if_neg c1]
        by_cases c2 : (1 ≤ j ∧ j < 4) ∨ (154 ≤ j ∧ j < 1864)
        · rw [if_pos c2, if_pos (by omega)]
        · rw [if_neg c2, if_neg (by omega)]
  have s122 : ZW zG (d + 5) 208 122 [.ref 135, .int (nI k), .int (nI 16), zdum, zdum] [] (sW zs (fun j => if 1864 ≤ j ∧ j < 1864 + 16 then v (10 + 9 * (j - 1864) + 8) else if (1 ≤ j ∧ j < 4) ∨ (154 ≤ j ∧ j < 1864) then u j else v j)) Q = ZW zG (d + 5) 208 161 [.ref 135, .int (nI k), .int (nI 0), zdum, zdum] [] (sW zs (bsV v u)) Q := by
    rw [← eW]
    refine s208_122.trans ?_
    simp (disch := omega) only [s208_123, s208_125, s208_151, s208_152, s208_155, s208_157, s208_158, s208_159, s208_160, zcs_0, zcs_1, zcs_2, zcs_3, zcs_4, zcs_5, zcs_6, zcs_7, znl_i, znl_r, znl_n, Bool.and_true, Bool.true_and, zk_v, zk_n, zk_x, zir_r, zir_n, zclr_i, zclr_r, zclr_n, zclr_d, zclr_l, true_and, and_true, and_self, if_true, if_false, reduceIte, nI_add, pk_mul, zin_ok, zx_nI, nI_lt2, nI_le2, nI_eq2, nI_l0, nI_g0, nI_q0, nI_p0, nI_n0, nI_m1, Nat.add_zero, Nat.zero_add, Nat.reduceAdd, Nat.reduceMul, true_or, or_true, znar_50, bI_0, bI_1, bI_z, bft, nI_z0, nI_z1, lgc_lt, lgc_gt, lgc_le, lgc_ge, lgc_eq, not_true_eq_false, not_false_eq_true, Bool.not_eq_true, Bool.not_eq_false, reduceCtorEq, eq_self, nI_e0, nI_e1, i10, i01, decide_false, decide_true, Bool.false_eq_true, MS_sW, CS_sW, sW_r, sW_n, sW_w, cls_sW, fi_sW, fr_sW, la_sW, ra_sW, len_sW, ls_sW, own_sW, n_sW, uc_sW, us_sW, sW_sfi, sW_sla, sW_sLA, sW_sls, sW_spay, sW_sia, sW_sIA, ne_eq, cls_sfi, fr_sfi, ia_sfi, la_sfi, ra_sfi, len_sfi, ls_sfi, own_sfi, n_sfi, uc_sfi, us_sfi, cls_sia, fi_sia, fr_sia, la_sia, ra_sia, len_sia, ls_sia, own_sia, n_sia, uc_sia, us_sia, cls_sIA, fi_sIA, fr_sIA, la_sIA, ra_sIA, len_sIA, ls_sIA, own_sIA, n_sIA, uc_sIA, us_sIA, cls_sla, fi_sla, fr_sla, ia_sla, ra_sla, len_sla, ls_sla, own_sla, n_sla, uc_sla, us_sla, cls_sLA, fi_sLA, fr_sLA, ia_sLA, ra_sLA, len_sLA, ls_sLA, own_sLA, n_sLA, uc_sLA, us_sLA, h0, Nat.le_refl]
  rw [s122]
  clear s122 s91 k4 e4
  -- the deeds
  have hdd : ∀ i, i < bsV v u 8 → bsV v u (6680 + 4 * i) < bsV v u 0 ∧ bsV v u (6680 + 4 * i + 1) < bsV v u 0 ∧ bsV v u (6680 + 4 * i + 2) < 5 ∧ bsV v u (6680 + 4 * i + 3) ≤ 399 ∧ ¬ bsV v u (6680 + 4 * i) = bsV v u (6680 + 4 * i + 1) := fun i hi => by
    rw [bv8] at hi
    rw [bvq (6680 + 4 * i) (by omega), bvq (6680 + 4 * i + 1) (by omega), bvq (6680 + 4 * i + 2) (by omega), bvq (6680 + 4 * i + 3) (by omega), bv0]
    exact hE.2.2 i hi
  have hn := bsO_n b0 (by omega) (by have := hE.1; omega) hdd
  have hE1 := hE.1
  have k5 : ∀ n x3 x4 zt, n ≤ v 8 → (∃ pt, zt = sIA zs 142 pt) → ∀ m, m + n = v 8 → ZW zG (d + 5) 208 161 [.ref 135, .int (nI k), .int (nI m), x3, x4] [] (sW zt (bsF LI (bsV v u) m)) Q := by
    intro n
    induction n with
    | zero =>
      intro x3 x4 zt _ hzt m hm
      obtain ⟨pt, rfl⟩ := hzt
      have em : m = v 8 := by omega
      subst em
      obtain ⟨c1, c2, c3, c4, c5, c6, c7⟩ := hn (v 8) (by omega)
      have e8 := c6 8 (by omega)
      rw [bv8] at e8
      have bB := fun i => c1 i
      generalize hy : bsF LI (bsV v u) (v 8) = y at *
      have hMt : MS (sIA zs 142 pt) := hMS
      have svt : ∀ i, i < 9080 → zia (sIA zs 142 pt) 157 i = nI (v i) := fun i h => by
        rw [ia_sIA, zu1_n _ _ _ (by omega)]; exact hsv i h
      have hy9 : ∀ i, 9080 ≤ i → y i = v i := fun i h => by rw [c6 i (by omega)]; exact bvq i (by omega)
      have Hp := H pt
      generalize sIA zs 142 pt = zt at *
      have h0 := hMt
      unfold MS at h0
      have k6 := zl_up (P := fun i => ZW zG (d + 5) 208 232 [.ref 135, .int (nI k), .int (nI (y 7)), .int (nI i), x4] [] (sW zt (fun j => if j < i then v j else y j)) Q) 9080 (by
        intro i hi'
        have h1 : ¬ 9080 ≤ i := by omega
        have e : zu1 (fun j => if j < i then v j else y j) i (v i) = fun j => if j < i + 1 then v j else y j := by
          funext j
          unfold zu1
          by_cases c : j = i
          · rw [if_pos c, if_pos (by omega), c]
          · rw [if_neg c]
            dsimp only
            by_cases c2 : j < i
            · rw [if_pos c2, if_pos (by omega)]
            · rw [if_neg c2, if_neg (by omega)]
        have er := svt i hi'
        rw [← e]
        refine s208_232.trans ?_
        simp (disch := omega) only [s208_233, s208_236, s208_239, s208_240, s208_243, s208_244, s208_245, s208_248, s208_249, s208_250, s208_251, s208_254, zcs_0, zcs_1, zcs_2, zcs_3, zcs_4, zcs_5, zcs_6, zcs_7, znl_i, znl_r, znl_n, Bool.and_true, Bool.true_and, zk_v, zk_n, zk_x, zir_r, zir_n, zclr_i, zclr_r, zclr_n, zclr_d, zclr_l, true_and, and_true, and_self, if_true, if_false, reduceIte, nI_add, pk_mul, zin_ok, zx_nI, nI_lt2, nI_le2, nI_eq2, nI_l0, nI_g0, nI_q0, nI_p0, nI_n0, nI_m1, Nat.add_zero, Nat.zero_add, Nat.reduceAdd, Nat.reduceMul, true_or, or_true, znar_50, bI_0, bI_1, bI_z, bft, nI_z0, nI_z1, lgc_lt, lgc_gt, lgc_le, lgc_ge, lgc_eq, not_true_eq_false, not_false_eq_true, Bool.not_eq_true, Bool.not_eq_false, reduceCtorEq, eq_self, nI_e0, nI_e1, i10, i01, decide_false, decide_true, Bool.false_eq_true, MS_sW, CS_sW, sW_r, sW_n, sW_w, cls_sW, fi_sW, fr_sW, la_sW, ra_sW, len_sW, ls_sW, own_sW, n_sW, uc_sW, us_sW, sW_sfi, sW_sla, sW_sLA, sW_sls, sW_spay, sW_sia, sW_sIA, ne_eq, cls_sfi, fr_sfi, ia_sfi, la_sfi, ra_sfi, len_sfi, ls_sfi, own_sfi, n_sfi, uc_sfi, us_sfi, cls_sia, fi_sia, fr_sia, la_sia, ra_sia, len_sia, ls_sia, own_sia, n_sia, uc_sia, us_sia, cls_sIA, fi_sIA, fr_sIA, la_sIA, ra_sIA, len_sIA, ls_sIA, own_sIA, n_sIA, uc_sIA, us_sIA, cls_sla, fi_sla, fr_sla, ia_sla, ra_sla, len_sla, ls_sla, own_sla, n_sla, uc_sla, us_sla, cls_sLA, fi_sLA, fr_sLA, ia_sLA, ra_sLA, len_sLA, ls_sLA, own_sLA, n_sLA, uc_sLA, us_sLA, h0, h1, er])
      have e6 : (fun j => if j < 0 then v j else y j) = y := by
        funext j
        rw [if_neg (by omega)]
      have e7 : (fun j => if j < 9080 then v j else y j) = v := by
        funext j
        by_cases c : j < 9080
        · rw [if_pos c]
        · rw [if_neg c]; exact hy9 j (by omega)
      rw [e6, e7] at k6
      refine Eq.mpr s208_161 ?_
      have b7 := bB 7
      simp (disch := omega) only [s208_162, s208_163, s208_166, s208_168, s208_169, s208_222, s208_223, s208_226, s208_228, s208_229, s208_230, s208_231, zcs_0, zcs_1, zcs_2, zcs_3, zcs_4, zcs_5, zcs_6, zcs_7, znl_i, znl_r, znl_n, Bool.and_true, Bool.true_and, zk_v, zk_n, zk_x, zir_r, zir_n, zclr_i, zclr_r, zclr_n, zclr_d, zclr_l, true_and, and_true, and_self, if_true, if_false, reduceIte, nI_add, pk_mul, zin_ok, zx_nI, nI_lt2, nI_le2, nI_eq2, nI_l0, nI_g0, nI_q0, nI_p0, nI_n0, nI_m1, Nat.add_zero, Nat.zero_add, Nat.reduceAdd, Nat.reduceMul, true_or, or_true, znar_50, bI_0, bI_1, bI_z, bft, nI_z0, nI_z1, lgc_lt, lgc_gt, lgc_le, lgc_ge, lgc_eq, not_true_eq_false, not_false_eq_true, Bool.not_eq_true, Bool.not_eq_false, reduceCtorEq, eq_self, nI_e0, nI_e1, i10, i01, decide_false, decide_true, Bool.false_eq_true, MS_sW, CS_sW, sW_r, sW_n, sW_w, cls_sW, fi_sW, fr_sW, la_sW, ra_sW, len_sW, ls_sW, own_sW, n_sW, uc_sW, us_sW, sW_sfi, sW_sla, sW_sLA, sW_sls, sW_spay, sW_sia, sW_sIA, ne_eq, cls_sfi, fr_sfi, ia_sfi, la_sfi, ra_sfi, len_sfi, ls_sfi, own_sfi, n_sfi, uc_sfi, us_sfi, cls_sia, fi_sia, fr_sia, la_sia, ra_sia, len_sia, ls_sia, own_sia, n_sia, uc_sia, us_sia, cls_sIA, fi_sIA, fr_sIA, la_sIA, ra_sIA, len_sIA, ls_sIA, own_sIA, n_sIA, uc_sIA, us_sIA, cls_sla, fi_sla, fr_sla, ia_sla, ra_sla, len_sla, ls_sla, own_sla, n_sla, uc_sla, us_sla, cls_sLA, fi_sLA, fr_sLA, ia_sLA, ra_sLA, len_sLA, ls_sLA, own_sLA, n_sLA, uc_sLA, us_sLA, h0, e8, Nat.le_refl]
      rw [k6]
      refine Eq.mpr s208_232 ?_
      simp (disch := omega) only [s208_233, s208_236, s208_257, s208_258, zcs_0, zcs_1, zcs_2, zcs_3, zcs_4, zcs_5, zcs_6, zcs_7, znl_i, znl_r, znl_n, Bool.and_true, Bool.true_and, zk_v, zk_n, zk_x, zir_r, zir_n, zclr_i, zclr_r, zclr_n, zclr_d, zclr_l, true_and, and_true, and_self, if_true, if_false, reduceIte, nI_add, pk_mul, zin_ok, zx_nI, nI_lt2, nI_le2, nI_eq2, nI_l0, nI_g0, nI_q0, nI_p0, nI_n0, nI_m1, Nat.add_zero, Nat.zero_add, Nat.reduceAdd, Nat.reduceMul, true_or, or_true, znar_50, bI_0, bI_1, bI_z, bft, nI_z0, nI_z1, lgc_lt, lgc_gt, lgc_le, lgc_ge, lgc_eq, not_true_eq_false, not_false_eq_true, Bool.not_eq_true, Bool.not_eq_false, reduceCtorEq, eq_self, nI_e0, nI_e1, i10, i01, decide_false, decide_true, Bool.false_eq_true, Nat.le_refl]
      exact Hp
    | succ n ih =>
      intro x3 x4 zt hn' hzt m hm
      obtain ⟨pt, rfl⟩ := hzt
      have O := hn m (by omega)
      obtain ⟨c1, c2, c3, c4, c5, c6, c7⟩ := O
      have e8 := c6 8 (by omega)
      rw [bv8] at e8
      obtain ⟨d1, d2, d3, d4, d5⟩ := hdd m (by omega)
      have q0 := c6 (6680 + 4 * m) (by omega)
      have q1 := c6 (6680 + 4 * m + 1) (by omega)
      have q2 := c6 (6680 + 4 * m + 2) (by omega)
      have q3 := c6 (6680 + 4 * m + 3) (by omega)
      have hMt : MS (sIA zs 142 pt) := hMS
      have ihn := fun x3 x4 pt2 => ih x3 x4 (sIA zs 142 pt2) (by omega) ⟨pt2, rfl⟩ (m + 1) (by omega)
      have eF : bsF LI (bsV v u) (m + 1) = (sGoes (bsF LI (bsV v u) m) LI (bsV v u (6680 + 4 * m)) (bsV v u (6680 + 4 * m + 1)) (bsV v u (6680 + 4 * m + 2)) (bsV v u (6680 + 4 * m + 3))).1 := rfl
      rw [eF] at ihn
      generalize bsF LI (bsV v u) m = y at *
      have h0 := hMt
      unfold MS at h0
      have h3 : ¬ v 8 ≤ m := by omega
      refine Eq.mpr s208_161 ?_
      simp (disch := omega) only [s208_162, s208_163, s208_166, s208_168, s208_169, s208_172, s208_175, s208_176, s208_177, s208_178, s208_179, s208_180, s208_181, s208_182, s208_185, s208_186, s208_187, s208_188, s208_191, s208_192, s208_193, s208_194, s208_195, s208_196, s208_199, s208_200, s208_201, s208_202, s208_203, s208_204, s208_207, s208_208, s208_209, s208_210, s208_211, zcs_0, zcs_1, zcs_2, zcs_3, zcs_4, zcs_5, zcs_6, zcs_7, znl_i, znl_r, znl_n, Bool.and_true, Bool.true_and, zk_v, zk_n, zk_x, zir_r, zir_n, zclr_i, zclr_r, zclr_n, zclr_d, zclr_l, true_and, and_true, and_self, if_true, if_false, reduceIte, nI_add, pk_mul, zin_ok, zx_nI, nI_lt2, nI_le2, nI_eq2, nI_l0, nI_g0, nI_q0, nI_p0, nI_n0, nI_m1, Nat.add_zero, Nat.zero_add, Nat.reduceAdd, Nat.reduceMul, true_or, or_true, znar_50, bI_0, bI_1, bI_z, bft, nI_z0, nI_z1, lgc_lt, lgc_gt, lgc_le, lgc_ge, lgc_eq, not_true_eq_false, not_false_eq_true, Bool.not_eq_true, Bool.not_eq_false, reduceCtorEq, eq_self, nI_e0, nI_e1, i10, i01, decide_false, decide_true, Bool.false_eq_true, MS_sW, CS_sW, sW_r, sW_n, sW_w, cls_sW, fi_sW, fr_sW, la_sW, ra_sW, len_sW, ls_sW, own_sW, n_sW, uc_sW, us_sW, sW_sfi, sW_sla, sW_sLA, sW_sls, sW_spay, sW_sia, sW_sIA, ne_eq, cls_sfi, fr_sfi, ia_sfi, la_sfi, ra_sfi, len_sfi, ls_sfi, own_sfi, n_sfi, uc_sfi, us_sfi, cls_sia, fi_sia, fr_sia, la_sia, ra_sia, len_sia, ls_sia, own_sia, n_sia, uc_sia, us_sia, cls_sIA, fi_sIA, fr_sIA, la_sIA, ra_sIA, len_sIA, ls_sIA, own_sIA, n_sIA, uc_sIA, us_sIA, cls_sla, fi_sla, fr_sla, ia_sla, ra_sla, len_sla, ls_sla, own_sla, n_sla, uc_sla, us_sla, cls_sLA, fi_sLA, fr_sLA, ia_sLA, ra_sLA, len_sLA, ls_sLA, own_sLA, n_sLA, uc_sLA, us_sLA, h0, e8, h3, q0, q1, q2, q3]
      refine m156 (d := d) hMt (fun i => by have := c1 i; omega) (by omega) c7 (by omega) (by omega) d3 (by omega) (fun pt2 => ?_)
      rw [sIA_sIA]
      simp (disch := omega) only [s208_214, s208_216, s208_219, zcs_0, zcs_1, zcs_2, zcs_3, zcs_4, zcs_5, zcs_6, zcs_7, znl_i, znl_r, znl_n, Bool.and_true, Bool.true_and, zk_v, zk_n, zk_x, zir_r, zir_n, zclr_i, zclr_r, zclr_n, zclr_d, zclr_l, true_and, and_true, and_self, if_true, if_false, reduceIte, nI_add, pk_mul, zin_ok, zx_nI, nI_lt2, nI_le2, nI_eq2, nI_l0, nI_g0, nI_q0, nI_p0, nI_n0, nI_m1, Nat.add_zero, Nat.zero_add, Nat.reduceAdd, Nat.reduceMul, true_or, or_true, znar_50, bI_0, bI_1, bI_z, bft, nI_z0, nI_z1, lgc_lt, lgc_gt, lgc_le, lgc_ge, lgc_eq, not_true_eq_false, not_false_eq_true, Bool.not_eq_true, Bool.not_eq_false, reduceCtorEq, eq_self, nI_e0, nI_e1, i10, i01, decide_false, decide_true, Bool.false_eq_true]
      exact ihn _ _ pt2
  have := k5 (v 8) zdum zdum zs (Nat.le_refl _) ⟨zia zs 142, (sIA_self zs 142).symm⟩ 0 (by omega)
  exact this
end BW
