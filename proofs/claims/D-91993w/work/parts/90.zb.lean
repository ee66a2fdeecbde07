set_option maxRecDepth 100000
/-! the model: what one owes to each -/
def sCall (v : Nat → Nat) (a b : Int32) (n : Nat) : Bool := anyN (fun i => (decide (nI (v (1880 + 5 * i)) = a) && decide (nI (v (1880 + 5 * i + 1)) = b)) && decide (2 ≤ v (1880 + 5 * i + 2))) n
def wtA (v : Nat → Nat) (a : Int32) (f : Nat → Int32) (k : Nat) : Nat → Int32 := fun h => if h < 16 then nI (sWorth v a (nI h) k) else f h
def cbA (v : Nat → Nat) (a : Int32) (f : Nat → Int32) (k : Nat) : Nat → Int32 := fun h => if h < 16 then bI (sCall v a (nI h) k) else f h
theorem znar_54 (b : Bool) : znar 54 (bI b) = bI b := by cases b <;> decide
theorem znar_540 : znar 54 (nI 0) = nI 0 := by decide
theorem znar_541 : znar 54 (nI 1) = nI 1 := by decide
theorem wtA_s {v : Nat → Nat} {a : Int32} {f : Nat → Int32} {k : Nat} (hv : ∀ i, v i < 2147483648) (c : nI (v (1880 + 5 * k)) = a) (h16 : v (1880 + 5 * k + 1) < 16) : zu1 (wtA v a f k) (v (1880 + 5 * k + 1)) (nI (sWorth v a (nI (v (1880 + 5 * k + 1))) k + (v (1880 + 5 * k + 2) + 1))) = wtA v a f (k + 1) := by
  funext q
  unfold zu1 wtA
  by_cases hq : q = v (1880 + 5 * k + 1)
  · rw [if_pos hq, if_pos (by omega)]
    conv => rhs; unfold sWorth
    rw [if_pos ⟨c, by rw [hq]⟩, hq]
  · rw [if_neg hq]
    split
    · conv => rhs; unfold sWorth
      rw [if_neg (fun e => hq (by have := e.2; rw [nI_eq2 (by omega) (by omega)] at this; exact this.symm)), Nat.add_zero]
    · rfl
theorem wtA_n {v : Nat → Nat} {a : Int32} {f : Nat → Int32} {k : Nat} (c : ¬ nI (v (1880 + 5 * k)) = a) : wtA v a f (k + 1) = wtA v a f k := by
  funext q
  unfold wtA
  split
  · conv => lhs; unfold sWorth
    rw [if_neg (fun e => c e.1), Nat.add_zero]
  · rfl
theorem cbA_n {v : Nat → Nat} {a : Int32} {f : Nat → Int32} {k : Nat} (c : ¬ nI (v (1880 + 5 * k)) = a) : cbA v a f (k + 1) = cbA v a f k := by
  funext q
  unfold cbA
  split
  · conv => lhs; unfold sCall anyN
    rw [decide_eq_false c, Bool.false_and, Bool.false_and, Bool.or_false]
    rfl
  · rfl
theorem cbA_s {v : Nat → Nat} {a : Int32} {f : Nat → Int32} {k : Nat} (hv : ∀ i, v i < 2147483648) (c : nI (v (1880 + 5 * k)) = a) (h16 : v (1880 + 5 * k + 1) < 16) : zu1 (cbA v a f k) (v (1880 + 5 * k + 1)) (bI (sCall v a (nI (v (1880 + 5 * k + 1))) k || decide (2 ≤ v (1880 + 5 * k + 2)))) = cbA v a f (k + 1) := by
  funext q
  unfold zu1 cbA
  by_cases hq : q = v (1880 + 5 * k + 1)
  · rw [if_pos hq, if_pos (by omega)]
    conv => rhs; unfold sCall anyN
    rw [decide_eq_true c, hq, decide_eq_true (rfl : nI (v (1880 + 5 * k + 1)) = _), Bool.true_and, Bool.true_and]
    rfl
  · rw [if_neg hq]
    split
    · conv => rhs; unfold sCall anyN
      rw [decide_eq_false (fun e => hq (by rw [nI_eq2 (by omega) (by omega)] at e; exact e.symm) : ¬ nI (v (1880 + 5 * k + 1)) = nI q), Bool.and_false, Bool.false_and, Bool.or_false]
      rfl
    · rfl
section WG
variable {d : Nat} {B : Nat → Prop} {z : ZH} {Q : ZQ} {v : Nat → Nat} {L : Nat → List (Nat × Nat)} {t hl kn rl : Nat} {ha ra da ea : Nat → Nat} {K : Nat}
/-- the heap behind weighs -/
def sWg (z : ZH) (v : Nat → Nat) (a : Int32) : ZH := sIA (sIA z 144 (wtA v a (zia z 144) (v 7))) 145 (cbA v a (zia z 145) (v 7))
theorem m181 (hM : MS z) (hv : ∀ i, v i < 2147483648) (h7 : v 7 ≤ 960) (hT : ∀ i, i < v 7 → v (1880 + 5 * i + 1) < 16) {a : Int32} : ZC zG (d + 1) 181 [.ref 135, .int a] (sW z v) Q = Q (.inl none) (sW (sWg z v a) v) := by
  have h0 := hM
  unfold MS at h0
  have e1 : ∀ k, k < 16 → ZW zG (d + 1) 181 2 [.ref 135, .int a, .int (nI k), zdum] [] (sW (sIA (sIA z 144 (ovr (zia z 144) (fun _ => nI 0) 0 k)) 145 (ovr (zia z 145) (fun _ => nI 0) 0 k)) v) Q = ZW zG (d + 1) 181 2 [.ref 135, .int a, .int (nI (k + 1)), zdum] [] (sW (sIA (sIA z 144 (ovr (zia z 144) (fun _ => nI 0) 0 (k + 1))) 145 (ovr (zia z 145) (fun _ => nI 0) 0 (k + 1))) v) Q := by
    intro k hk
    refine s181_2.trans ?_
    have g1 : ¬ 16 ≤ k := by omega
    have hs := ovr_s (zia z 144) (fun _ => nI 0) 0 k
    have hs2 := ovr_s (zia z 145) (fun _ => nI 0) 0 k
    rw [Nat.zero_add] at hs hs2
    simp (disch := first | omega | exact hM | exact hv _ | (simp only [MS_sW, MS_sfi, MS_sia, MS_sIA, MS_sla, MS_sLA, MS_sls]; exact hM)) only [s181_0, s181_1, s181_3, s181_5, s181_8, s181_9, s181_12, s181_13, s181_14, s181_15, s181_16, s181_19, s181_20, s181_21, s181_22, s181_25, s181_28, s181_29, s181_31, s181_32, s181_35, s181_37, s181_38, s181_41, s181_42, s181_43, s181_44, s181_47, s181_48, s181_51, s181_54, s181_55, s181_56, s181_57, s181_60, s181_61, s181_62, s181_65, s181_66, s181_67, s181_68, s181_69, s181_70, s181_71, s181_74, s181_75, s181_76, s181_77, s181_78, s181_79, s181_82, s181_83, s181_84, s181_87, s181_88, s181_89, s181_92, s181_93, s181_94, s181_95, s181_98, s181_99, s181_102, s181_103, s181_106, s181_107, s181_108, s181_111, s181_114, zcs_0, zcs_1, zcs_2, zcs_3, zcs_4, zcs_5, zcs_6, zcs_7, znl_i, znl_r, znl_n, Bool.and_true, Bool.true_and, zk_v, zk_n, zk_x, zir_r, zir_n, zclr_i, zclr_r, zclr_n, zclr_d, zclr_l, true_and, and_true, and_self, if_true, if_false, reduceIte, nI_add, pk_mul, zin_ok, zx_nI, nI_lt2, nI_le2, nI_eq2, nI_l0, nI_g0, nI_q0, nI_p0, nI_n0, nI_m1, Nat.add_zero, Nat.zero_add, Nat.reduceAdd, Nat.reduceMul, true_or, or_true, znar_50, bI_0, bI_1, bI_z, bft, nI_z0, nI_z1, lgc_lt, lgc_gt, lgc_le, lgc_ge, lgc_eq, not_true_eq_false, not_false_eq_true, Bool.not_eq_true, Bool.not_eq_false, reduceCtorEq, MS_sW, CS_sW, sW_r, sW_n, sW_w, cls_sW, fi_sW, fr_sW, la_sW, ra_sW, len_sW, ls_sW, own_sW, n_sW, uc_sW, us_sW, sW_sfi, sW_sla, sW_sLA, sW_sls, sW_spay, sW_sia, sW_sIA, ne_eq, cls_sfi, fr_sfi, ia_sfi, la_sfi, ra_sfi, len_sfi, ls_sfi, own_sfi, n_sfi, uc_sfi, us_sfi, cls_sia, fi_sia, fr_sia, la_sia, ra_sia, len_sia, ls_sia, own_sia, n_sia, uc_sia, us_sia, cls_sIA, fi_sIA, fr_sIA, la_sIA, ra_sIA, len_sIA, ls_sIA, own_sIA, n_sIA, uc_sIA, us_sIA, cls_sla, fi_sla, fr_sla, ia_sla, ra_sla, len_sla, ls_sla, own_sla, n_sla, uc_sla, us_sla, cls_sLA, fi_sLA, fr_sLA, ia_sLA, ra_sLA, len_sLA, ls_sLA, own_sLA, n_sLA, uc_sLA, us_sLA, h0, g1, sIA_siaN, sIA_sia, znar_540, hs, hs2]
  have z1 := zl_up (P := fun k => ZW zG (d + 1) 181 2 [.ref 135, .int a, .int (nI k), zdum] [] (sW (sIA (sIA z 144 (ovr (zia z 144) (fun _ => nI 0) 0 k)) 145 (ovr (zia z 145) (fun _ => nI 0) 0 k)) v) Q) 16 e1
  have i45 : ovr (zia z 145) (fun _ => nI 0) 0 0 = zia (sIA z 144 (zia z 144)) 145 := by rw [ovr_0, sIA_self]
  rw [i45, ovr_0, sIA_self, sIA_self] at z1
  have hc0 : ovr (zia z 144) (fun _ => nI 0) 0 16 = wtA v a (zia z 144) 0 := by
    funext q
    unfold ovr wtA
    by_cases hq : q < 16
    · rw [if_pos (by omega), if_pos hq]; rfl
    · rw [if_neg (by omega), if_neg hq]
  have hc1 : ovr (zia z 145) (fun _ => nI 0) 0 16 = cbA v a (zia z 145) 0 := by
    funext q
    unfold ovr cbA
    by_cases hq : q < 16
    · rw [if_pos (by omega), if_pos hq]; rfl
    · rw [if_neg (by omega), if_neg hq]
  have z2 := zl_x (P := fun k x => ZW zG (d + 1) 181 30 [.ref 135, .int a, .int (nI k), x] [] (sW (sIA (sIA z 144 (wtA v a (zia z 144) k)) 145 (cbA v a (zia z 145) k)) v) Q) (R := Q (.inl none) (sW (sWg z v a) v)) (v 7) (by
    intro x
    refine s181_30.trans ?_
    simp (disch := first | omega | exact hM | exact hv _ | (simp only [MS_sW, MS_sfi, MS_sia, MS_sIA, MS_sla, MS_sLA, MS_sls]; exact hM)) only [s181_0, s181_1, s181_3, s181_5, s181_8, s181_9, s181_12, s181_13, s181_14, s181_15, s181_16, s181_19, s181_20, s181_21, s181_22, s181_25, s181_28, s181_29, s181_31, s181_32, s181_35, s181_37, s181_38, s181_41, s181_42, s181_43, s181_44, s181_47, s181_48, s181_51, s181_54, s181_55, s181_56, s181_57, s181_60, s181_61, s181_62, s181_65, s181_66, s181_67, s181_68, s181_69, s181_70, s181_71, s181_74, s181_75, s181_76, s181_77, s181_78, s181_79, s181_82, s181_83, s181_84, s181_87, s181_88, s181_89, s181_92, s181_93, s181_94, s181_95, s181_98, s181_99, s181_102, s181_103, s181_106, s181_107, s181_108, s181_111, s181_114, zcs_0, zcs_1, zcs_2, zcs_3, zcs_4, zcs_5, zcs_6, zcs_7, znl_i, znl_r, znl_n, Bool.and_true, Bool.true_and, zk_v, zk_n, zk_x, zir_r, zir_n, zclr_i, zclr_r, zclr_n, zclr_d, zclr_l, true_and, and_true, and_self, if_true, if_false, reduceIte, nI_add, pk_mul, zin_ok, zx_nI, nI_lt2, nI_le2, nI_eq2, nI_l0, nI_g0, nI_q0, nI_p0, nI_n0, nI_m1, Nat.add_zero, Nat.zero_add, Nat.reduceAdd, Nat.reduceMul, true_or, or_true, znar_50, bI_0, bI_1, bI_z, bft, nI_z0, nI_z1, lgc_lt, lgc_gt, lgc_le, lgc_ge, lgc_eq, not_true_eq_false, not_false_eq_true, Bool.not_eq_true, Bool.not_eq_false, reduceCtorEq, MS_sW, CS_sW, sW_r, sW_n, sW_w, cls_sW, fi_sW, fr_sW, la_sW, ra_sW, len_sW, ls_sW, own_sW, n_sW, uc_sW, us_sW, sW_sfi, sW_sla, sW_sLA, sW_sls, sW_spay, sW_sia, sW_sIA, ne_eq, cls_sfi, fr_sfi, ia_sfi, la_sfi, ra_sfi, len_sfi, ls_sfi, own_sfi, n_sfi, uc_sfi, us_sfi, cls_sia, fi_sia, fr_sia, la_sia, ra_sia, len_sia, ls_sia, own_sia, n_sia, uc_sia, us_sia, cls_sIA, fi_sIA, fr_sIA, la_sIA, ra_sIA, len_sIA, ls_sIA, own_sIA, n_sIA, uc_sIA, us_sIA, cls_sla, fi_sla, fr_sla, ia_sla, ra_sla, len_sla, ls_sla, own_sla, n_sla, uc_sla, us_sla, cls_sLA, fi_sLA, fr_sLA, ia_sLA, ra_sLA, len_sLA, ls_sLA, own_sLA, n_sLA, uc_sLA, us_sLA, h0, Nat.le_refl]
    rfl) (by
    intro k x hk
    have g1 : ¬ v 7 ≤ k := by omega
    have gb := hT k hk
    by_cases c1 : nI (v (1880 + 5 * k)) = a
    · refine ⟨.int (nI (v (1880 + 5 * k + 1))), s181_30.trans ?_⟩
      have w1 := wtA_s (f := zia z 144) hv c1 gb
      have w2 := cbA_s (f := zia z 145) hv c1 gb
      have r1 : wtA v a (zia z 144) k (v (1880 + 5 * k + 1)) = nI (sWorth v a (nI (v (1880 + 5 * k + 1))) k) := if_pos gb
      have r2 : cbA v a (zia z 145) k (v (1880 + 5 * k + 1)) = bI (sCall v a (nI (v (1880 + 5 * k + 1))) k) := if_pos gb
      cases hc : sCall v a (nI (v (1880 + 5 * k + 1))) k with
      | true =>
        rw [hc] at r2 w2
        simp only [Bool.true_or] at w2
        rw [show bI true = nI 1 from rfl] at w2
        simp (disch := first | omega | exact hM | exact hv _ | (simp only [MS_sW, MS_sfi, MS_sia, MS_sIA, MS_sla, MS_sLA, MS_sls]; exact hM)) only [s181_0, s181_1, s181_3, s181_5, s181_8, s181_9, s181_12, s181_13, s181_14, s181_15, s181_16, s181_19, s181_20, s181_21, s181_22, s181_25, s181_28, s181_29, s181_31, s181_32, s181_35, s181_37, s181_38, s181_41, s181_42, s181_43, s181_44, s181_47, s181_48, s181_51, s181_54, s181_55, s181_56, s181_57, s181_60, s181_61, s181_62, s181_65, s181_66, s181_67, s181_68, s181_69, s181_70, s181_71, s181_74, s181_75, s181_76, s181_77, s181_78, s181_79, s181_82, s181_83, s181_84, s181_87, s181_88, s181_89, s181_92, s181_93, s181_94, s181_95, s181_98, s181_99, s181_102, s181_103, s181_106, s181_107, s181_108, s181_111, s181_114, zcs_0, zcs_1, zcs_2, zcs_3, zcs_4, zcs_5, zcs_6, zcs_7, znl_i, znl_r, znl_n, Bool.and_true, Bool.true_and, zk_v, zk_n, zk_x, zir_r, zir_n, zclr_i, zclr_r, zclr_n, zclr_d, zclr_l, true_and, and_true, and_self, if_true, if_false, reduceIte, nI_add, pk_mul, zin_ok, zx_nI, nI_lt2, nI_le2, nI_eq2, nI_l0, nI_g0, nI_q0, nI_p0, nI_n0, nI_m1, Nat.add_zero, Nat.zero_add, Nat.reduceAdd, Nat.reduceMul, true_or, or_true, znar_50, bI_0, bI_1, bI_z, bft, nI_z0, nI_z1, lgc_lt, lgc_gt, lgc_le, lgc_ge, lgc_eq, not_true_eq_false, not_false_eq_true, Bool.not_eq_true, Bool.not_eq_false, reduceCtorEq, MS_sW, CS_sW, sW_r, sW_n, sW_w, cls_sW, fi_sW, fr_sW, la_sW, ra_sW, len_sW, ls_sW, own_sW, n_sW, uc_sW, us_sW, sW_sfi, sW_sla, sW_sLA, sW_sls, sW_spay, sW_sia, sW_sIA, ne_eq, cls_sfi, fr_sfi, ia_sfi, la_sfi, ra_sfi, len_sfi, ls_sfi, own_sfi, n_sfi, uc_sfi, us_sfi, cls_sia, fi_sia, fr_sia, la_sia, ra_sia, len_sia, ls_sia, own_sia, n_sia, uc_sia, us_sia, cls_sIA, fi_sIA, fr_sIA, la_sIA, ra_sIA, len_sIA, ls_sIA, own_sIA, n_sIA, uc_sIA, us_sIA, cls_sla, fi_sla, fr_sla, ia_sla, ra_sla, len_sla, ls_sla, own_sla, n_sla, uc_sla, us_sla, cls_sLA, fi_sLA, fr_sLA, ia_sLA, ra_sLA, len_sLA, ls_sLA, own_sLA, n_sLA, uc_sLA, us_sLA, h0, m159, g1, c1, eq_self, ia_sIA, zu1_s, zu1_n, r1, r2, sIA_siaN, sIA_sia, znar_541, w1, w2]
      | false =>
        rw [hc] at r2 w2
        simp only [Bool.false_or] at w2
        by_cases c2 : 2 ≤ v (1880 + 5 * k + 2)
        · have c3 : ¬ v (1880 + 5 * k + 2) < 2 := by omega
          rw [decide_eq_true c2] at w2
          rw [show bI true = nI 1 from rfl] at w2
          simp (disch := first | omega | exact hM | exact hv _ | (simp only [MS_sW, MS_sfi, MS_sia, MS_sIA, MS_sla, MS_sLA, MS_sls]; exact hM)) only [s181_0, s181_1, s181_3, s181_5, s181_8, s181_9, s181_12, s181_13, s181_14, s181_15, s181_16, s181_19, s181_20, s181_21, s181_22, s181_25, s181_28, s181_29, s181_31, s181_32, s181_35, s181_37, s181_38, s181_41, s181_42, s181_43, s181_44, s181_47, s181_48, s181_51, s181_54, s181_55, s181_56, s181_57, s181_60, s181_61, s181_62, s181_65, s181_66, s181_67, s181_68, s181_69, s181_70, s181_71, s181_74, s181_75, s181_76, s181_77, s181_78, s181_79, s181_82, s181_83, s181_84, s181_87, s181_88, s181_89, s181_92, s181_93, s181_94, s181_95, s181_98, s181_99, s181_102, s181_103, s181_106, s181_107, s181_108, s181_111, s181_114, zcs_0, zcs_1, zcs_2, zcs_3, zcs_4, zcs_5, zcs_6, zcs_7, znl_i, znl_r, znl_n, Bool.and_true, Bool.true_and, zk_v, zk_n, zk_x, zir_r, zir_n, zclr_i, zclr_r, zclr_n, zclr_d, zclr_l, true_and, and_true, and_self, if_true, if_false, reduceIte, nI_add, pk_mul, zin_ok, zx_nI, nI_lt2, nI_le2, nI_eq2, nI_l0, nI_g0, nI_q0, nI_p0, nI_n0, nI_m1, Nat.add_zero, Nat.zero_add, Nat.reduceAdd, Nat.reduceMul, true_or, or_true, znar_50, bI_0, bI_1, bI_z, bft, nI_z0, nI_z1, lgc_lt, lgc_gt, lgc_le, lgc_ge, lgc_eq, not_true_eq_false, not_false_eq_true, Bool.not_eq_true, Bool.not_eq_false, reduceCtorEq, MS_sW, CS_sW, sW_r, sW_n, sW_w, cls_sW, fi_sW, fr_sW, la_sW, ra_sW, len_sW, ls_sW, own_sW, n_sW, uc_sW, us_sW, sW_sfi, sW_sla, sW_sLA, sW_sls, sW_spay, sW_sia, sW_sIA, ne_eq, cls_sfi, fr_sfi, ia_sfi, la_sfi, ra_sfi, len_sfi, ls_sfi, own_sfi, n_sfi, uc_sfi, us_sfi, cls_sia, fi_sia, fr_sia, la_sia, ra_sia, len_sia, ls_sia, own_sia, n_sia, uc_sia, us_sia, cls_sIA, fi_sIA, fr_sIA, la_sIA, ra_sIA, len_sIA, ls_sIA, own_sIA, n_sIA, uc_sIA, us_sIA, cls_sla, fi_sla, fr_sla, ia_sla, ra_sla, len_sla, ls_sla, own_sla, n_sla, uc_sla, us_sla, cls_sLA, fi_sLA, fr_sLA, ia_sLA, ra_sLA, len_sLA, ls_sLA, own_sLA, n_sLA, uc_sLA, us_sLA, h0, m159, g1, c1, c3, eq_self, ia_sIA, zu1_s, zu1_n, r1, r2, sIA_siaN, sIA_sia, znar_541, w1, w2]
        · have c3 : v (1880 + 5 * k + 2) < 2 := by omega
          rw [decide_eq_false c2] at w2
          rw [show bI false = nI 0 from rfl] at w2
          simp (disch := first | omega | exact hM | exact hv _ | (simp only [MS_sW, MS_sfi, MS_sia, MS_sIA, MS_sla, MS_sLA, MS_sls]; exact hM)) only [s181_0, s181_1, s181_3, s181_5, s181_8, s181_9, s181_12, s181_13, s181_14, s181_15, s181_16, s181_19, s181_20, s181_21, s181_22, s181_25, s181_28, s181_29, s181_31, s181_32, s181_35, s181_37, s181_38, s181_41, s181_42, s181_43, s181_44, s181_47, s181_48, s181_51, s181_54, s181_55, s181_56, s181_57, s181_60, s181_61, s181_62, s181_65, s181_66, s181_67, s181_68, s181_69, s181_70, s181_71, s181_74, s181_75, s181_76, s181_77, s181_78, s181_79, s181_82, s181_83, s181_84, s181_87, s181_88, s181_89, s181_92, s181_93, s181_94, s181_95, s181_98, s181_99, s181_102, s181_103, s181_106, s181_107, s181_108, s181_111, s181_114, zcs_0, zcs_1, zcs_2, zcs_3, zcs_4, zcs_5, zcs_6, zcs_7, znl_i, znl_r, znl_n, Bool.and_true, Bool.true_and, zk_v, zk_n, zk_x, zir_r, zir_n, zclr_i, zclr_r, zclr_n, zclr_d, zclr_l, true_and, and_true, and_self, if_true, if_false, reduceIte, nI_add, pk_mul, zin_ok, zx_nI, nI_lt2, nI_le2, nI_eq2, nI_l0, nI_g0, nI_q0, nI_p0, nI_n0, nI_m1, Nat.add_zero, Nat.zero_add, Nat.reduceAdd, Nat.reduceMul, true_or, or_true, znar_50, bI_0, bI_1, bI_z, bft, nI_z0, nI_z1, lgc_lt, lgc_gt, lgc_le, lgc_ge, lgc_eq, not_true_eq_false, not_false_eq_true, Bool.not_eq_true, Bool.not_eq_false, reduceCtorEq, MS_sW, CS_sW, sW_r, sW_n, sW_w, cls_sW, fi_sW, fr_sW, la_sW, ra_sW, len_sW, ls_sW, own_sW, n_sW, uc_sW, us_sW, sW_sfi, sW_sla, sW_sLA, sW_sls, sW_spay, sW_sia, sW_sIA, ne_eq, cls_sfi, fr_sfi, ia_sfi, la_sfi, ra_sfi, len_sfi, ls_sfi, own_sfi, n_sfi, uc_sfi, us_sfi, cls_sia, fi_sia, fr_sia, la_sia, ra_sia, len_sia, ls_sia, own_sia, n_sia, uc_sia, us_sia, cls_sIA, fi_sIA, fr_sIA, la_sIA, ra_sIA, len_sIA, ls_sIA, own_sIA, n_sIA, uc_sIA, us_sIA, cls_sla, fi_sla, fr_sla, ia_sla, ra_sla, len_sla, ls_sla, own_sla, n_sla, uc_sla, us_sla, cls_sLA, fi_sLA, fr_sLA, ia_sLA, ra_sLA, len_sLA, ls_sLA, own_sLA, n_sLA, uc_sLA, us_sLA, h0, m159, g1, c1, c3, eq_self, ia_sIA, zu1_s, zu1_n, r1, r2, sIA_siaN, sIA_sia, znar_540, w1, w2]
    · refine ⟨x, s181_30.trans ?_⟩
      have w1 := wtA_n (f := zia z 144) c1
      have w2 := cbA_n (f := zia z 145) c1
      simp (disch := first | omega | exact hM | exact hv _ | (simp only [MS_sW, MS_sfi, MS_sia, MS_sIA, MS_sla, MS_sLA, MS_sls]; exact hM)) only [s181_0, s181_1, s181_3, s181_5, s181_8, s181_9, s181_12, s181_13, s181_14, s181_15, s181_16, s181_19, s181_20, s181_21, s181_22, s181_25, s181_28, s181_29, s181_31, s181_32, s181_35, s181_37, s181_38, s181_41, s181_42, s181_43, s181_44, s181_47, s181_48, s181_51, s181_54, s181_55, s181_56, s181_57, s181_60, s181_61, s181_62, s181_65, s181_66, s181_67, s181_68, s181_69, s181_70, s181_71, s181_74, s181_75, s181_76, s181_77, s181_78, s181_79, s181_82, s181_83, s181_84, s181_87, s181_88, s181_89, s181_92, s181_93, s181_94, s181_95, s181_98, s181_99, s181_102, s181_103, s181_106, s181_107, s181_108, s181_111, s181_114, zcs_0, zcs_1, zcs_2, zcs_3, zcs_4, zcs_5, zcs_6, zcs_7, znl_i, znl_r, znl_n, Bool.and_true, Bool.true_and, zk_v, zk_n, zk_x, zir_r, zir_n, zclr_i, zclr_r, zclr_n, zclr_d, zclr_l, true_and, and_true, and_self, if_true, if_false, reduceIte, nI_add, pk_mul, zin_ok, zx_nI, nI_lt2, nI_le2, nI_eq2, nI_l0, nI_g0, nI_q0, nI_p0, nI_n0, nI_m1, Nat.add_zero, Nat.zero_add, Nat.reduceAdd, Nat.reduceMul, true_or, or_true, znar_50, bI_0, bI_1, bI_z, bft, nI_z0, nI_z1, lgc_lt, lgc_gt, lgc_le, lgc_ge, lgc_eq, not_true_eq_false, not_false_eq_true, Bool.not_eq_true, Bool.not_eq_false, reduceCtorEq, MS_sW, CS_sW, sW_r, sW_n, sW_w, cls_sW, fi_sW, fr_sW, la_sW, ra_sW, len_sW, ls_sW, own_sW, n_sW, uc_sW, us_sW, sW_sfi, sW_sla, sW_sLA, sW_sls, sW_spay, sW_sia, sW_sIA, ne_eq, cls_sfi, fr_sfi, ia_sfi, la_sfi, ra_sfi, len_sfi, ls_sfi, own_sfi, n_sfi, uc_sfi, us_sfi, cls_sia, fi_sia, fr_sia, la_sia, ra_sia, len_sia, ls_sia, own_sia, n_sia, uc_sia, us_sia, cls_sIA, fi_sIA, fr_sIA, la_sIA, ra_sIA, len_sIA, ls_sIA, own_sIA, n_sIA, uc_sIA, us_sIA, cls_sla, fi_sla, fr_sla, ia_sla, ra_sla, len_sla, ls_sla, own_sla, n_sla, uc_sla, us_sla, cls_sLA, fi_sLA, fr_sLA, ia_sLA, ra_sLA, len_sLA, ls_sLA, own_sLA, n_sLA, uc_sLA, us_sLA, h0, m159, g1, c1, w1, w2])
  simp (disch := first | omega | exact hM | exact hv _ | (simp only [MS_sW, MS_sfi, MS_sia, MS_sIA, MS_sla, MS_sLA, MS_sls]; exact hM)) only [s181_0, s181_1, e181, zcs_0, zcs_1, zcs_2, zcs_3, zcs_4, zcs_5, zcs_6, zcs_7, znl_i, znl_r, znl_n, Bool.and_true, Bool.true_and, zk_v, zk_n, zk_x, zir_r, zir_n, zclr_i, zclr_r, zclr_n, zclr_d, zclr_l, true_and, and_true, and_self, if_true, if_false, reduceIte]
  refine z1.trans ?_
  rw [hc0, hc1]
  refine s181_2.trans ?_
  simp (disch := first | omega | exact hM | exact hv _ | (simp only [MS_sW, MS_sfi, MS_sia, MS_sIA, MS_sla, MS_sLA, MS_sls]; exact hM)) only [s181_0, s181_1, s181_3, s181_5, s181_8, s181_9, s181_12, s181_13, s181_14, s181_15, s181_16, s181_19, s181_20, s181_21, s181_22, s181_25, s181_28, s181_29, s181_31, s181_32, s181_35, s181_37, s181_38, s181_41, s181_42, s181_43, s181_44, s181_47, s181_48, s181_51, s181_54, s181_55, s181_56, s181_57, s181_60, s181_61, s181_62, s181_65, s181_66, s181_67, s181_68, s181_69, s181_70, s181_71, s181_74, s181_75, s181_76, s181_77, s181_78, s181_79, s181_82, s181_83, s181_84, s181_87, s181_88, s181_89, s181_92, s181_93, s181_94, s181_95, s181_98, s181_99, s181_102, s181_103, s181_106, s181_107, s181_108, s181_111, s181_114, zcs_0, zcs_1, zcs_2, zcs_3, zcs_4, zcs_5, zcs_6, zcs_7, znl_i, znl_r, znl_n, Bool.and_true, Bool.true_and, zk_v, zk_n, zk_x, zir_r, zir_n, zclr_i, zclr_r, zclr_n, zclr_d, zclr_l, true_and, and_true, and_self, if_true, if_false, reduceIte, nI_add, pk_mul, zin_ok, zx_nI, nI_lt2, nI_le2, nI_eq2, nI_l0, nI_g0, nI_q0, nI_p0, nI_n0, nI_m1, Nat.add_zero, Nat.zero_add, Nat.reduceAdd, Nat.reduceMul, true_or, or_true, znar_50, bI_0, bI_1, bI_z, bft, nI_z0, nI_z1, lgc_lt, lgc_gt, lgc_le, lgc_ge, lgc_eq, not_true_eq_false, not_false_eq_true, Bool.not_eq_true, Bool.not_eq_false, reduceCtorEq, Nat.le_refl]
  exact z2 0 _ (by omega)
end WG

