set_option maxRecDepth 100000
/-! on whom one called -/
def isS (v : Nat → Nat) (i : Nat) : Bool := decide (2 ≤ v (6680 + 4 * i + 2)) && decide (v (6680 + 4 * i + 2) ≤ 3)
def clB (v : Nat → Nat) (h : Nat) : Nat → Nat
  | 0 => 0
  | k + 1 => if (isS v k && decide (v (6680 + 4 * k) = h)) = true then clB v h k ||| 2 ^ v (6680 + 4 * k + 1) else clB v h k
def clA (v : Nat → Nat) (f : Nat → Int32) (k : Nat) : Nat → Int32 := fun h => if h < 16 then nI (clB v h k) else f h
theorem clB_lt {v : Nat → Nat} (hE : ∀ i, i < v 8 → v (6680 + 4 * i + 1) < 16) {h : Nat} : ∀ k, k ≤ v 8 → clB v h k < 65536
  | 0, _ => by unfold clB; omega
  | k + 1, hk => by
    have ih := clB_lt hE (h := h) k (by omega)
    unfold clB
    split
    · have h2 : (2 : Nat) ^ v (6680 + 4 * k + 1) < 2 ^ 16 := Nat.pow_lt_pow_right (by omega) (hE k (by omega))
      exact Nat.or_lt_two_pow (n := 16) ih h2
    · exact ih
/-- one pass over rows of bits -/
def passB (bt : Nat → Nat) (w : Int32) : Nat → Int32
  | 0 => w
  | h + 1 => if hasI w (nI h) = true then passB bt w h ||| nI (bt h) else passB bt w h
theorem passB_ok {bt : Nat → Nat} {s : Nat} (hs : s < 65536) : ∀ n, (∀ h, h < n → bt h < 65536) → ∃ c, s ≤ c ∧ c < 65536 ∧ passB bt (nI s) n = nI c
  | 0, _ => ⟨s, Nat.le_refl _, hs, rfl⟩
  | n + 1, hv => by
    obtain ⟨c, h1, h2, h3⟩ := passB_ok hs n (fun h hh => hv h (by omega))
    unfold passB
    split
    · rw [h3, nI_or]
      have hvn := hv n (by omega)
      have g1 : c ≤ c ||| bt n := Nat.left_le_or
      have g2 : c ||| bt n < 2 ^ 16 := Nat.or_lt_two_pow (show c < 2 ^ 16 by omega) (show bt n < 2 ^ 16 by omega)
      exact ⟨c ||| bt n, by omega, g2, rfl⟩
    · exact ⟨c, h1, h2, h3⟩
section CB
variable {d : Nat} {B : Nat → Prop} {z : ZH} {Q : ZQ} {v : Nat → Nat} {L : Nat → List (Nat × Nat)} {t hl kn rl : Nat} {ha ra da ea : Nat → Nat} {K : Nat}
theorem m203 (hM : MS z) (hv : ∀ i, v i < 2147483648) (h8 : v 8 ≤ 600) (hA : ∀ i, i < v 8 → v (6680 + 4 * i) < 16) (hE : ∀ i, i < v 8 → v (6680 + 4 * i + 1) < 16) : ZC zG (d + 1) 203 [.ref 135] (sW z v) Q = Q (.inl none) (sW (sIA z 156 (clA v (zia z 156) (v 8))) v) := by
  have h0 := hM
  unfold MS at h0
  have e1 : ∀ k, k < 16 → ZW zG (d + 1) 203 2 [.ref 135, .int (nI k)] [] (sW (sIA z 156 (ovr (zia z 156) (fun _ => nI 0) 0 k)) v) Q = ZW zG (d + 1) 203 2 [.ref 135, .int (nI (k + 1))] [] (sW (sIA z 156 (ovr (zia z 156) (fun _ => nI 0) 0 (k + 1))) v) Q := by
    intro k hk
    refine s203_2.trans ?_
    have g1 : ¬ 16 ≤ k := by omega
    have hs := ovr_s (zia z 156) (fun _ => nI 0) 0 k
    rw [Nat.zero_add] at hs
    simp (disch := first | omega | exact hM | exact hv _ | (simp only [MS_sW, MS_sfi, MS_sia, MS_sIA, MS_sla, MS_sLA, MS_sls]; exact hM)) only [s203_0, s203_1, s203_3, s203_5, s203_8, s203_9, s203_12, s203_13, s203_14, s203_15, s203_18, s203_21, s203_22, s203_24, s203_25, s203_28, s203_30, s203_31, s203_34, s203_35, s203_38, s203_41, s203_42, s203_43, s203_44, s203_45, s203_46, s203_47, s203_48, s203_49, s203_52, s203_55, s203_58, s203_61, s203_62, s203_65, s203_66, s203_69, s203_72, s203_73, s203_74, s203_75, s203_76, s203_77, s203_78, s203_79, s203_80, s203_81, s203_84, s203_87, s203_88, s203_89, s203_90, s203_91, s203_92, s203_93, s203_94, s203_95, s203_96, s203_97, s203_100, s203_103, zcs_0, zcs_1, zcs_2, zcs_3, zcs_4, zcs_5, zcs_6, zcs_7, znl_i, znl_r, znl_n, Bool.and_true, Bool.true_and, zk_v, zk_n, zk_x, zir_r, zir_n, zclr_i, zclr_r, zclr_n, zclr_d, zclr_l, true_and, and_true, and_self, if_true, if_false, reduceIte, nI_add, pk_mul, zin_ok, zx_nI, nI_lt2, nI_le2, nI_eq2, nI_l0, nI_g0, nI_q0, nI_p0, nI_n0, nI_m1, Nat.add_zero, Nat.zero_add, Nat.reduceAdd, Nat.reduceMul, true_or, or_true, znar_50, bI_0, bI_1, bI_z, bft, nI_z0, nI_z1, lgc_lt, lgc_gt, lgc_le, lgc_ge, lgc_eq, not_true_eq_false, not_false_eq_true, Bool.not_eq_true, Bool.not_eq_false, reduceCtorEq, MS_sW, CS_sW, sW_r, sW_n, sW_w, cls_sW, fi_sW, fr_sW, la_sW, ra_sW, len_sW, ls_sW, own_sW, n_sW, uc_sW, us_sW, sW_sfi, sW_sla, sW_sLA, sW_sls, sW_spay, sW_sia, sW_sIA, ne_eq, cls_sfi, fr_sfi, ia_sfi, la_sfi, ra_sfi, len_sfi, ls_sfi, own_sfi, n_sfi, uc_sfi, us_sfi, cls_sia, fi_sia, fr_sia, la_sia, ra_sia, len_sia, ls_sia, own_sia, n_sia, uc_sia, us_sia, cls_sIA, fi_sIA, fr_sIA, la_sIA, ra_sIA, len_sIA, ls_sIA, own_sIA, n_sIA, uc_sIA, us_sIA, cls_sla, fi_sla, fr_sla, ia_sla, ra_sla, len_sla, ls_sla, own_sla, n_sla, uc_sla, us_sla, cls_sLA, fi_sLA, fr_sLA, ia_sLA, ra_sLA, len_sLA, ls_sLA, own_sLA, n_sLA, uc_sLA, us_sLA, h0, g1, sIA_sia, hs]
  have z1 := zl_up (P := fun k => ZW zG (d + 1) 203 2 [.ref 135, .int (nI k)] [] (sW (sIA z 156 (ovr (zia z 156) (fun _ => nI 0) 0 k)) v) Q) 16 e1
  rw [ovr_0, sIA_self] at z1
  have hc0 : ovr (zia z 156) (fun _ => nI 0) 0 16 = clA v (zia z 156) 0 := by
    funext q
    unfold ovr clA clB
    by_cases hq : q < 16
    · rw [if_pos (by omega), if_pos hq]
    · rw [if_neg (by omega), if_neg hq]
  have e2 : ∀ k, k < v 8 → ZW zG (d + 1) 203 23 [.ref 135, .int (nI k)] [] (sW (sIA z 156 (clA v (zia z 156) k)) v) Q = ZW zG (d + 1) 203 23 [.ref 135, .int (nI (k + 1))] [] (sW (sIA z 156 (clA v (zia z 156) (k + 1))) v) Q := by
    intro k hk
    refine s203_23.trans ?_
    have g1 : ¬ v 8 ≤ k := by omega
    have ga := hA k hk
    have gb := hE k hk
    have hS : (decide (2 ≤ v (6680 + 4 * k + 2)) && decide (v (6680 + 4 * k + 2) ≤ 3)) = isS v k := rfl
    cases hc : isS v k with
    | false =>
      have hs : clA v (zia z 156) (k + 1) = clA v (zia z 156) k := by
        funext q
        unfold clA
        split
        · conv => lhs; unfold clB
          rw [hc, Bool.false_and, if_neg (by decide)]
        · rfl
      simp (disch := first | omega | exact hM | exact hv _ | (simp only [MS_sW, MS_sfi, MS_sia, MS_sIA, MS_sla, MS_sLA, MS_sls]; exact hM)) only [s203_0, s203_1, s203_3, s203_5, s203_8, s203_9, s203_12, s203_13, s203_14, s203_15, s203_18, s203_21, s203_22, s203_24, s203_25, s203_28, s203_30, s203_31, s203_34, s203_35, s203_38, s203_41, s203_42, s203_43, s203_44, s203_45, s203_46, s203_47, s203_48, s203_49, s203_52, s203_55, s203_58, s203_61, s203_62, s203_65, s203_66, s203_69, s203_72, s203_73, s203_74, s203_75, s203_76, s203_77, s203_78, s203_79, s203_80, s203_81, s203_84, s203_87, s203_88, s203_89, s203_90, s203_91, s203_92, s203_93, s203_94, s203_95, s203_96, s203_97, s203_100, s203_103, zcs_0, zcs_1, zcs_2, zcs_3, zcs_4, zcs_5, zcs_6, zcs_7, znl_i, znl_r, znl_n, Bool.and_true, Bool.true_and, zk_v, zk_n, zk_x, zir_r, zir_n, zclr_i, zclr_r, zclr_n, zclr_d, zclr_l, true_and, and_true, and_self, if_true, if_false, reduceIte, nI_add, pk_mul, zin_ok, zx_nI, nI_lt2, nI_le2, nI_eq2, nI_l0, nI_g0, nI_q0, nI_p0, nI_n0, nI_m1, Nat.add_zero, Nat.zero_add, Nat.reduceAdd, Nat.reduceMul, true_or, or_true, znar_50, bI_0, bI_1, bI_z, bft, nI_z0, nI_z1, lgc_lt, lgc_gt, lgc_le, lgc_ge, lgc_eq, not_true_eq_false, not_false_eq_true, Bool.not_eq_true, Bool.not_eq_false, reduceCtorEq, MS_sW, CS_sW, sW_r, sW_n, sW_w, cls_sW, fi_sW, fr_sW, la_sW, ra_sW, len_sW, ls_sW, own_sW, n_sW, uc_sW, us_sW, sW_sfi, sW_sla, sW_sLA, sW_sls, sW_spay, sW_sia, sW_sIA, ne_eq, cls_sfi, fr_sfi, ia_sfi, la_sfi, ra_sfi, len_sfi, ls_sfi, own_sfi, n_sfi, uc_sfi, us_sfi, cls_sia, fi_sia, fr_sia, la_sia, ra_sia, len_sia, ls_sia, own_sia, n_sia, uc_sia, us_sia, cls_sIA, fi_sIA, fr_sIA, la_sIA, ra_sIA, len_sIA, ls_sIA, own_sIA, n_sIA, uc_sIA, us_sIA, cls_sla, fi_sla, fr_sla, ia_sla, ra_sla, len_sla, ls_sla, own_sla, n_sla, uc_sla, us_sla, cls_sLA, fi_sLA, fr_sLA, ia_sLA, ra_sLA, len_sLA, ls_sLA, own_sLA, n_sLA, uc_sLA, us_sLA, h0, g1, m114, lin_ab, hS, hc, hs, eq_self]
    | true =>
      have hg : clA v (zia z 156) k (v (6680 + 4 * k)) = nI (clB v (v (6680 + 4 * k)) k) := if_pos ga
      have hs : zu1 (clA v (zia z 156) k) (v (6680 + 4 * k)) (nI (clB v (v (6680 + 4 * k)) k ||| 2 ^ v (6680 + 4 * k + 1))) = clA v (zia z 156) (k + 1) := by
        funext q
        unfold zu1 clA
        by_cases hq : q = v (6680 + 4 * k)
        · rw [if_pos hq, if_pos (by omega)]
          conv => rhs; unfold clB
          rw [hc, Bool.true_and, if_pos (decide_eq_true hq.symm), hq]
        · rw [if_neg hq]
          split
          · conv => rhs; unfold clB
            rw [hc, Bool.true_and, if_neg (by rw [decide_eq_true_eq]; exact fun e => hq e.symm)]
          · rfl
      simp (disch := first | omega | exact hM | exact hv _) only [s203_0, s203_1, s203_3, s203_5, s203_8, s203_9, s203_12, s203_13, s203_14, s203_15, s203_18, s203_21, s203_22, s203_24, s203_25, s203_28, s203_30, s203_31, s203_34, s203_35, s203_38, s203_41, s203_42, s203_43, s203_44, s203_45, s203_46, s203_47, s203_48, s203_49, s203_52, s203_55, s203_58, s203_61, s203_62, s203_65, s203_66, s203_69, s203_72, s203_73, s203_74, s203_75, s203_76, s203_77, s203_78, s203_79, s203_80, s203_81, s203_84, s203_87, s203_88, s203_89, s203_90, s203_91, s203_92, s203_93, s203_94, s203_95, s203_96, s203_97, s203_100, s203_103, zcs_0, zcs_1, zcs_2, zcs_3, zcs_4, zcs_5, zcs_6, zcs_7, znl_i, znl_r, znl_n, Bool.and_true, Bool.true_and, zk_v, zk_n, zk_x, zir_r, zir_n, zclr_i, zclr_r, zclr_n, zclr_d, zclr_l, true_and, and_true, and_self, if_true, if_false, reduceIte, nI_add, pk_mul, zin_ok, zx_nI, nI_lt2, nI_le2, nI_eq2, nI_l0, nI_g0, nI_q0, nI_p0, nI_n0, nI_m1, Nat.add_zero, Nat.zero_add, Nat.reduceAdd, Nat.reduceMul, true_or, or_true, znar_50, bI_0, bI_1, bI_z, bft, nI_z0, nI_z1, lgc_lt, lgc_gt, lgc_le, lgc_ge, lgc_eq, not_true_eq_false, not_false_eq_true, Bool.not_eq_true, Bool.not_eq_false, reduceCtorEq, MS_sW, CS_sW, sW_r, sW_n, sW_w, cls_sW, fi_sW, fr_sW, la_sW, ra_sW, len_sW, ls_sW, own_sW, n_sW, uc_sW, us_sW, sW_sfi, sW_sla, sW_sLA, sW_sls, sW_spay, sW_sia, sW_sIA, ne_eq, cls_sfi, fr_sfi, ia_sfi, la_sfi, ra_sfi, len_sfi, ls_sfi, own_sfi, n_sfi, uc_sfi, us_sfi, cls_sia, fi_sia, fr_sia, la_sia, ra_sia, len_sia, ls_sia, own_sia, n_sia, uc_sia, us_sia, cls_sIA, fi_sIA, fr_sIA, la_sIA, ra_sIA, len_sIA, ls_sIA, own_sIA, n_sIA, uc_sIA, us_sIA, cls_sla, fi_sla, fr_sla, ia_sla, ra_sla, len_sla, ls_sla, own_sla, n_sla, uc_sla, us_sla, cls_sLA, fi_sLA, fr_sLA, ia_sLA, ra_sLA, len_sLA, ls_sLA, own_sLA, n_sLA, uc_sLA, us_sLA, h0, g1, m114, lin_ab, hS, hc, ia_sIA, zu1_s, hg, nI_sh1, nI_or, sIA_sia, hs]
  have z2 := zl_up (P := fun k => ZW zG (d + 1) 203 23 [.ref 135, .int (nI k)] [] (sW (sIA z 156 (clA v (zia z 156) k)) v) Q) (v 8) e2
  simp (disch := first | omega | exact hM | exact hv _ | (simp only [MS_sW, MS_sfi, MS_sia, MS_sIA, MS_sla, MS_sLA, MS_sls]; exact hM)) only [s203_0, s203_1, e203, zcs_0, zcs_1, zcs_2, zcs_3, zcs_4, zcs_5, zcs_6, zcs_7, znl_i, znl_r, znl_n, Bool.and_true, Bool.true_and, zk_v, zk_n, zk_x, zir_r, zir_n, zclr_i, zclr_r, zclr_n, zclr_d, zclr_l, true_and, and_true, and_self, if_true, if_false, reduceIte]
  refine z1.trans ?_
  rw [hc0]
  refine s203_2.trans ?_
  simp (disch := first | omega | exact hM | exact hv _ | (simp only [MS_sW, MS_sfi, MS_sia, MS_sIA, MS_sla, MS_sLA, MS_sls]; exact hM)) only [s203_0, s203_1, s203_3, s203_5, s203_8, s203_9, s203_12, s203_13, s203_14, s203_15, s203_18, s203_21, s203_22, s203_24, s203_25, s203_28, s203_30, s203_31, s203_34, s203_35, s203_38, s203_41, s203_42, s203_43, s203_44, s203_45, s203_46, s203_47, s203_48, s203_49, s203_52, s203_55, s203_58, s203_61, s203_62, s203_65, s203_66, s203_69, s203_72, s203_73, s203_74, s203_75, s203_76, s203_77, s203_78, s203_79, s203_80, s203_81, s203_84, s203_87, s203_88, s203_89, s203_90, s203_91, s203_92, s203_93, s203_94, s203_95, s203_96, s203_97, s203_100, s203_103, zcs_0, zcs_1, zcs_2, zcs_3, zcs_4, zcs_5, zcs_6, zcs_7, znl_i, znl_r, znl_n, Bool.and_true, Bool.true_and, zk_v, zk_n, zk_x, zir_r, zir_n, zclr_i, zclr_r, zclr_n, zclr_d, zclr_l, true_and, and_true, and_self, if_true, if_false, reduceIte, nI_add, pk_mul, zin_ok, zx_nI, nI_lt2, nI_le2, nI_eq2, nI_l0, nI_g0, nI_q0, nI_p0, nI_n0, nI_m1, Nat.add_zero, Nat.zero_add, Nat.reduceAdd, Nat.reduceMul, true_or, or_true, znar_50, bI_0, bI_1, bI_z, bft, nI_z0, nI_z1, lgc_lt, lgc_gt, lgc_le, lgc_ge, lgc_eq, not_true_eq_false, not_false_eq_true, Bool.not_eq_true, Bool.not_eq_false, reduceCtorEq, Nat.le_refl]
  refine z2.trans ?_
  refine s203_23.trans ?_
  simp (disch := first | omega | exact hM | exact hv _ | (simp only [MS_sW, MS_sfi, MS_sia, MS_sIA, MS_sla, MS_sLA, MS_sls]; exact hM)) only [s203_0, s203_1, s203_3, s203_5, s203_8, s203_9, s203_12, s203_13, s203_14, s203_15, s203_18, s203_21, s203_22, s203_24, s203_25, s203_28, s203_30, s203_31, s203_34, s203_35, s203_38, s203_41, s203_42, s203_43, s203_44, s203_45, s203_46, s203_47, s203_48, s203_49, s203_52, s203_55, s203_58, s203_61, s203_62, s203_65, s203_66, s203_69, s203_72, s203_73, s203_74, s203_75, s203_76, s203_77, s203_78, s203_79, s203_80, s203_81, s203_84, s203_87, s203_88, s203_89, s203_90, s203_91, s203_92, s203_93, s203_94, s203_95, s203_96, s203_97, s203_100, s203_103, zcs_0, zcs_1, zcs_2, zcs_3, zcs_4, zcs_5, zcs_6, zcs_7, znl_i, znl_r, znl_n, Bool.and_true, Bool.true_and, zk_v, zk_n, zk_x, zir_r, zir_n, zclr_i, zclr_r, zclr_n, zclr_d, zclr_l, true_and, and_true, and_self, if_true, if_false, reduceIte, nI_add, pk_mul, zin_ok, zx_nI, nI_lt2, nI_le2, nI_eq2, nI_l0, nI_g0, nI_q0, nI_p0, nI_n0, nI_m1, Nat.add_zero, Nat.zero_add, Nat.reduceAdd, Nat.reduceMul, true_or, or_true, znar_50, bI_0, bI_1, bI_z, bft, nI_z0, nI_z1, lgc_lt, lgc_gt, lgc_le, lgc_ge, lgc_eq, not_true_eq_false, not_false_eq_true, Bool.not_eq_true, Bool.not_eq_false, reduceCtorEq, MS_sW, CS_sW, sW_r, sW_n, sW_w, cls_sW, fi_sW, fr_sW, la_sW, ra_sW, len_sW, ls_sW, own_sW, n_sW, uc_sW, us_sW, sW_sfi, sW_sla, sW_sLA, sW_sls, sW_spay, sW_sia, sW_sIA, ne_eq, cls_sfi, fr_sfi, ia_sfi, la_sfi, ra_sfi, len_sfi, ls_sfi, own_sfi, n_sfi, uc_sfi, us_sfi, cls_sia, fi_sia, fr_sia, la_sia, ra_sia, len_sia, ls_sia, own_sia, n_sia, uc_sia, us_sia, cls_sIA, fi_sIA, fr_sIA, la_sIA, ra_sIA, len_sIA, ls_sIA, own_sIA, n_sIA, uc_sIA, us_sIA, cls_sla, fi_sla, fr_sla, ia_sla, ra_sla, len_sla, ls_sla, own_sla, n_sla, uc_sla, us_sla, cls_sLA, fi_sLA, fr_sLA, ia_sLA, ra_sLA, len_sLA, ls_sLA, own_sLA, n_sLA, uc_sLA, us_sLA, h0, Nat.le_refl]
theorem c51 (h : NW B z v L t hl kn rl ha ra da ea) (hv : ∀ i, v i < 2147483648) (hE1 : ∀ i, i < v 8 → v (6680 + 4 * i + 1) < 16) {a : Nat} (ha' : a < 2147483648) : ZC zG (d + 1) 51 [.ref 100, .int (nI a)] z Q = Q (.inl (some (.int (nI (clB v a (v 8)))))) z := by
  obtain ⟨h0, ⟨h1, h2, h3, h4⟩, hH, hR, hD, hK, h9, hE, h6⟩ := h
  unfold CS at h0
  have hlen : (zls z 114).length = v 8 := hE.1
  have h8 := hE.2.1
  have e : ∀ k, k < v 8 → ZW zG (d + 1) 51 4 [.ref 100, .int (nI a), .int (nI (clB v a k)), .int (nI k)] [] z Q = ZW zG (d + 1) 51 4 [.ref 100, .int (nI a), .int (nI (clB v a (k + 1))), .int (nI (k + 1))] [] z Q := by
    intro k hk
    have g1 : ¬ v 8 ≤ k := by omega
    obtain ⟨w1, w2, w3, w4, w5, w6⟩ := hE.fld hk
    have cs := fun d Q => c52 (d := d) (z := z) (Q := Q) w2 w5 (hv _)
    have hS : (decide (2 ≤ v (6680 + 4 * k + 2)) && decide (v (6680 + 4 * k + 2) ≤ 3)) = isS v k := rfl
    rw [hS] at cs
    have gb := hE1 k hk
    have hs : clB v a (k + 1) = if (isS v k && decide (v (6680 + 4 * k) = a)) = true then clB v a k ||| 2 ^ v (6680 + 4 * k + 1) else clB v a k := rfl
    refine s51_4.trans ?_
    by_cases c1 : v (6680 + 4 * k) = a
    · cases hc : isS v k with
      | false =>
        rw [hc, Bool.false_and, if_neg (by decide)] at hs
        rw [hs]
        simp (disch := first | omega | exact hv _) only [s51_0, s51_1, s51_2, s51_3, s51_5, s51_6, s51_9, s51_12, s51_17, s51_20, s51_21, s51_24, s51_27, s51_28, s51_33, s51_36, s51_39, s51_40, s51_43, s51_44, s51_47, s51_50, s51_51, s51_56, s51_59, s51_62, s51_65, s51_66, s51_67, s51_68, s51_71, s51_74, s51_75, s51_80, s51_83, s51_86, s51_87, s51_88, s51_89, s51_92, s51_95, s51_96, zcs_0, zcs_1, zcs_2, zcs_3, zcs_4, zcs_5, zcs_6, zcs_7, znl_i, znl_r, znl_n, Bool.and_true, Bool.true_and, zk_v, zk_n, zk_x, zir_r, zir_n, zclr_i, zclr_r, zclr_n, zclr_d, zclr_l, true_and, and_true, and_self, if_true, if_false, reduceIte, nI_add, pk_mul, zin_ok, zx_nI, nI_lt2, nI_le2, nI_eq2, nI_l0, nI_g0, nI_q0, nI_p0, nI_n0, nI_m1, Nat.add_zero, Nat.zero_add, Nat.reduceAdd, Nat.reduceMul, true_or, or_true, znar_50, bI_0, bI_1, bI_z, bft, nI_z0, nI_z1, lgc_lt, lgc_gt, lgc_le, lgc_ge, lgc_eq, not_true_eq_false, not_false_eq_true, Bool.not_eq_true, Bool.not_eq_false, reduceCtorEq, h0, hlen, g1, w1, w2, w3, cs, hc, c1, eq_self]
      | true =>
        rw [hc, Bool.true_and, if_pos (decide_eq_true c1)] at hs
        rw [hs]
        simp (disch := first | omega | exact hv _) only [s51_0, s51_1, s51_2, s51_3, s51_5, s51_6, s51_9, s51_12, s51_17, s51_20, s51_21, s51_24, s51_27, s51_28, s51_33, s51_36, s51_39, s51_40, s51_43, s51_44, s51_47, s51_50, s51_51, s51_56, s51_59, s51_62, s51_65, s51_66, s51_67, s51_68, s51_71, s51_74, s51_75, s51_80, s51_83, s51_86, s51_87, s51_88, s51_89, s51_92, s51_95, s51_96, zcs_0, zcs_1, zcs_2, zcs_3, zcs_4, zcs_5, zcs_6, zcs_7, znl_i, znl_r, znl_n, Bool.and_true, Bool.true_and, zk_v, zk_n, zk_x, zir_r, zir_n, zclr_i, zclr_r, zclr_n, zclr_d, zclr_l, true_and, and_true, and_self, if_true, if_false, reduceIte, nI_add, pk_mul, zin_ok, zx_nI, nI_lt2, nI_le2, nI_eq2, nI_l0, nI_g0, nI_q0, nI_p0, nI_n0, nI_m1, Nat.add_zero, Nat.zero_add, Nat.reduceAdd, Nat.reduceMul, true_or, or_true, znar_50, bI_0, bI_1, bI_z, bft, nI_z0, nI_z1, lgc_lt, lgc_gt, lgc_le, lgc_ge, lgc_eq, not_true_eq_false, not_false_eq_true, Bool.not_eq_true, Bool.not_eq_false, reduceCtorEq, h0, hlen, g1, w1, w2, w3, w4, cs, hc, c1, eq_self, nI_sh1, nI_or]
    · rw [decide_eq_false c1, Bool.and_false, if_neg (by decide)] at hs
      rw [hs]
      simp (disch := first | omega | exact hv _) only [s51_0, s51_1, s51_2, s51_3, s51_5, s51_6, s51_9, s51_12, s51_17, s51_20, s51_21, s51_24, s51_27, s51_28, s51_33, s51_36, s51_39, s51_40, s51_43, s51_44, s51_47, s51_50, s51_51, s51_56, s51_59, s51_62, s51_65, s51_66, s51_67, s51_68, s51_71, s51_74, s51_75, s51_80, s51_83, s51_86, s51_87, s51_88, s51_89, s51_92, s51_95, s51_96, zcs_0, zcs_1, zcs_2, zcs_3, zcs_4, zcs_5, zcs_6, zcs_7, znl_i, znl_r, znl_n, Bool.and_true, Bool.true_and, zk_v, zk_n, zk_x, zir_r, zir_n, zclr_i, zclr_r, zclr_n, zclr_d, zclr_l, true_and, and_true, and_self, if_true, if_false, reduceIte, nI_add, pk_mul, zin_ok, zx_nI, nI_lt2, nI_le2, nI_eq2, nI_l0, nI_g0, nI_q0, nI_p0, nI_n0, nI_m1, Nat.add_zero, Nat.zero_add, Nat.reduceAdd, Nat.reduceMul, true_or, or_true, znar_50, bI_0, bI_1, bI_z, bft, nI_z0, nI_z1, lgc_lt, lgc_gt, lgc_le, lgc_ge, lgc_eq, not_true_eq_false, not_false_eq_true, Bool.not_eq_true, Bool.not_eq_false, reduceCtorEq, h0, hlen, g1, w1, w2, w3, c1]
  simp (disch := omega) only [e51, s51_0, s51_1, s51_2, s51_3, s51_5, s51_6, s51_9, s51_12, s51_17, s51_20, s51_21, s51_24, s51_27, s51_28, s51_33, s51_36, s51_39, s51_40, s51_43, s51_44, s51_47, s51_50, s51_51, s51_56, s51_59, s51_62, s51_65, s51_66, s51_67, s51_68, s51_71, s51_74, s51_75, s51_80, s51_83, s51_86, s51_87, s51_88, s51_89, s51_92, s51_95, s51_96, zcs_0, zcs_1, zcs_2, zcs_3, zcs_4, zcs_5, zcs_6, zcs_7, znl_i, znl_r, znl_n, Bool.and_true, Bool.true_and, zk_v, zk_n, zk_x, zir_r, zir_n, zclr_i, zclr_r, zclr_n, zclr_d, zclr_l, true_and, and_true, and_self, if_true, if_false, reduceIte]
  refine Eq.trans (zl_up (P := fun k => ZW zG (d + 1) 51 4 [.ref 100, .int (nI a), .int (nI (clB v a k)), .int (nI k)] [] z Q) (v 8) e) ?_
  refine s51_4.trans ?_
  simp (disch := omega) only [s51_0, s51_1, s51_2, s51_3, s51_5, s51_6, s51_9, s51_12, s51_17, s51_20, s51_21, s51_24, s51_27, s51_28, s51_33, s51_36, s51_39, s51_40, s51_43, s51_44, s51_47, s51_50, s51_51, s51_56, s51_59, s51_62, s51_65, s51_66, s51_67, s51_68, s51_71, s51_74, s51_75, s51_80, s51_83, s51_86, s51_87, s51_88, s51_89, s51_92, s51_95, s51_96, zcs_0, zcs_1, zcs_2, zcs_3, zcs_4, zcs_5, zcs_6, zcs_7, znl_i, znl_r, znl_n, Bool.and_true, Bool.true_and, zk_v, zk_n, zk_x, zir_r, zir_n, zclr_i, zclr_r, zclr_n, zclr_d, zclr_l, true_and, and_true, and_self, if_true, if_false, reduceIte, nI_add, pk_mul, zin_ok, zx_nI, nI_lt2, nI_le2, nI_eq2, nI_l0, nI_g0, nI_q0, nI_p0, nI_n0, nI_m1, Nat.add_zero, Nat.zero_add, Nat.reduceAdd, Nat.reduceMul, true_or, or_true, znar_50, bI_0, bI_1, bI_z, bft, nI_z0, nI_z1, lgc_lt, lgc_gt, lgc_le, lgc_ge, lgc_eq, not_true_eq_false, not_false_eq_true, Bool.not_eq_true, Bool.not_eq_false, reduceCtorEq, h0, hlen, Nat.le_refl]
end CB

