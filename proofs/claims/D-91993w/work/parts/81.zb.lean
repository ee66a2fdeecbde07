set_option maxRecDepth 100000
/-! who hangs together: the two programs -/
section HG
variable {d : Nat} {B : Nat → Prop} {z : ZH} {Q : ZQ} {v : Nat → Nat} {L : Nat → List (Nat × Nat)} {t hl kn rl : Nat} {ha ra da ea : Nat → Nat} {K : Nat}
theorem m199i (hM : MS z) (h16 : v 0 ≤ 16) {a x y w : Int32} : ∀ m h (x7 : Value), h + m = v 0 → ∃ y6 y7, ZW zG (d + 1) 199 22 [.ref 135, .int a, .int x, .int y, .int (passI v x y w h), .int w, .int (nI h), x7] [] (sW z v) Q = ZW zG (d + 1) 199 8 [.ref 135, .int a, .int x, .int y, .int (passI v x y w (v 0)), .int w, y6, y7] [] (sW z v) Q := by
  have h0 := hM
  unfold MS at h0
  intro m
  induction m with
  | zero =>
    intro h x7 hh
    have : h = v 0 := by omega
    subst this
    refine ⟨.int (nI (v 0)), x7, s199_22.trans ?_⟩
    simp (disch := first | omega | exact hM) only [s199_0, s199_1, s199_2, s199_3, s199_5, s199_6, s199_10, s199_12, s199_15, s199_17, s199_19, s199_20, s199_24, s199_25, s199_28, s199_29, s199_30, s199_33, s199_35, s199_37, s199_40, s199_43, s199_46, s199_47, s199_50, s199_53, s199_55, s199_56, s199_57, s199_59, s199_61, s199_62, s199_65, s199_67, s199_68, s199_69, s199_70, s199_71, s199_72, s199_73, s199_75, s199_77, s199_78, s199_81, s199_83, s199_84, s199_85, s199_86, s199_87, s199_88, s199_89, s199_91, s199_93, s199_95, s199_96, s199_98, s199_101, s199_104, s199_107, s199_109, zcs_0, zcs_1, zcs_2, zcs_3, zcs_4, zcs_5, zcs_6, zcs_7, znl_i, znl_r, znl_n, Bool.and_true, Bool.true_and, zk_v, zk_n, zk_x, zir_r, zir_n, zclr_i, zclr_r, zclr_n, zclr_d, zclr_l, true_and, and_true, and_self, if_true, if_false, reduceIte, nI_add, pk_mul, zin_ok, zx_nI, nI_lt2, nI_le2, nI_eq2, nI_l0, nI_g0, nI_q0, nI_p0, nI_n0, nI_m1, Nat.add_zero, Nat.zero_add, Nat.reduceAdd, Nat.reduceMul, true_or, or_true, znar_50, bI_0, bI_1, bI_z, bft, nI_z0, nI_z1, lgc_lt, lgc_gt, lgc_le, lgc_ge, lgc_eq, not_true_eq_false, not_false_eq_true, Bool.not_eq_true, Bool.not_eq_false, reduceCtorEq, MS_sW, CS_sW, sW_r, sW_n, sW_w, cls_sW, fi_sW, fr_sW, la_sW, ra_sW, len_sW, ls_sW, own_sW, n_sW, uc_sW, us_sW, sW_sfi, sW_sla, sW_sLA, sW_sls, sW_spay, sW_sia, sW_sIA, ne_eq, cls_sfi, fr_sfi, ia_sfi, la_sfi, ra_sfi, len_sfi, ls_sfi, own_sfi, n_sfi, uc_sfi, us_sfi, cls_sia, fi_sia, fr_sia, la_sia, ra_sia, len_sia, ls_sia, own_sia, n_sia, uc_sia, us_sia, cls_sIA, fi_sIA, fr_sIA, la_sIA, ra_sIA, len_sIA, ls_sIA, own_sIA, n_sIA, uc_sIA, us_sIA, cls_sla, fi_sla, fr_sla, ia_sla, ra_sla, len_sla, ls_sla, own_sla, n_sla, uc_sla, us_sla, cls_sLA, fi_sLA, fr_sLA, ia_sLA, ra_sLA, len_sLA, ls_sLA, own_sLA, n_sLA, uc_sLA, us_sLA, h0, m149, Nat.le_refl]
  | succ m ih =>
    intro h x7 hh
    have g1 : ¬ v 0 ≤ h := by omega
    have kf : h < 16 := by omega
    skip
    have hs : passI v x y w (h + 1) = if hasI w (nI h) = true then passI v x y w h ||| bitsI v x y h else passI v x y w h := rfl
    cases hb : hasI w (nI h) with
    | false =>
      rw [hb] at hs
      obtain ⟨y6, y7, e⟩ := ih (h + 1) x7 (by omega)
      refine ⟨y6, y7, (s199_22.trans ?_).trans e⟩
      rw [hs]
      simp (disch := first | omega | exact hM) only [s199_0, s199_1, s199_2, s199_3, s199_5, s199_6, s199_10, s199_12, s199_15, s199_17, s199_19, s199_20, s199_24, s199_25, s199_28, s199_29, s199_30, s199_33, s199_35, s199_37, s199_40, s199_43, s199_46, s199_47, s199_50, s199_53, s199_55, s199_56, s199_57, s199_59, s199_61, s199_62, s199_65, s199_67, s199_68, s199_69, s199_70, s199_71, s199_72, s199_73, s199_75, s199_77, s199_78, s199_81, s199_83, s199_84, s199_85, s199_86, s199_87, s199_88, s199_89, s199_91, s199_93, s199_95, s199_96, s199_98, s199_101, s199_104, s199_107, s199_109, zcs_0, zcs_1, zcs_2, zcs_3, zcs_4, zcs_5, zcs_6, zcs_7, znl_i, znl_r, znl_n, Bool.and_true, Bool.true_and, zk_v, zk_n, zk_x, zir_r, zir_n, zclr_i, zclr_r, zclr_n, zclr_d, zclr_l, true_and, and_true, and_self, if_true, if_false, reduceIte, nI_add, pk_mul, zin_ok, zx_nI, nI_lt2, nI_le2, nI_eq2, nI_l0, nI_g0, nI_q0, nI_p0, nI_n0, nI_m1, Nat.add_zero, Nat.zero_add, Nat.reduceAdd, Nat.reduceMul, true_or, or_true, znar_50, bI_0, bI_1, bI_z, bft, nI_z0, nI_z1, lgc_lt, lgc_gt, lgc_le, lgc_ge, lgc_eq, not_true_eq_false, not_false_eq_true, Bool.not_eq_true, Bool.not_eq_false, reduceCtorEq, MS_sW, CS_sW, sW_r, sW_n, sW_w, cls_sW, fi_sW, fr_sW, la_sW, ra_sW, len_sW, ls_sW, own_sW, n_sW, uc_sW, us_sW, sW_sfi, sW_sla, sW_sLA, sW_sls, sW_spay, sW_sia, sW_sIA, ne_eq, cls_sfi, fr_sfi, ia_sfi, la_sfi, ra_sfi, len_sfi, ls_sfi, own_sfi, n_sfi, uc_sfi, us_sfi, cls_sia, fi_sia, fr_sia, la_sia, ra_sia, len_sia, ls_sia, own_sia, n_sia, uc_sia, us_sia, cls_sIA, fi_sIA, fr_sIA, la_sIA, ra_sIA, len_sIA, ls_sIA, own_sIA, n_sIA, uc_sIA, us_sIA, cls_sla, fi_sla, fr_sla, ia_sla, ra_sla, len_sla, ls_sla, own_sla, n_sla, uc_sla, us_sla, cls_sLA, fi_sLA, fr_sLA, ia_sLA, ra_sLA, len_sLA, ls_sLA, own_sLA, n_sLA, uc_sLA, us_sLA, h0, m149, g1, hb, Bool.false_eq_true, if_false]
    | true =>
      rw [hb, if_pos rfl] at hs
      have e := fun x7 => ih (h + 1) x7 (by omega)
      unfold bitsI at hs
      dsimp only at hs
      by_cases c1 : nI h = x
      · by_cases c2 : nI h = y
        · rw [if_pos c1, if_pos c2] at hs
          obtain ⟨y6, y7, e⟩ := e (.int (nI (v (1864 + h)) &&& ((nI 1 <<< (y &&& 31)) ^^^ (-1)) &&& ((nI 1 <<< (x &&& 31)) ^^^ (-1))))
          subst c1
          subst c2
          refine ⟨y6, y7, (s199_22.trans ?_).trans e⟩
          rw [hs]
          simp (disch := first | omega | exact hM) only [s199_0, s199_1, s199_2, s199_3, s199_5, s199_6, s199_10, s199_12, s199_15, s199_17, s199_19, s199_20, s199_24, s199_25, s199_28, s199_29, s199_30, s199_33, s199_35, s199_37, s199_40, s199_43, s199_46, s199_47, s199_50, s199_53, s199_55, s199_56, s199_57, s199_59, s199_61, s199_62, s199_65, s199_67, s199_68, s199_69, s199_70, s199_71, s199_72, s199_73, s199_75, s199_77, s199_78, s199_81, s199_83, s199_84, s199_85, s199_86, s199_87, s199_88, s199_89, s199_91, s199_93, s199_95, s199_96, s199_98, s199_101, s199_104, s199_107, s199_109, zcs_0, zcs_1, zcs_2, zcs_3, zcs_4, zcs_5, zcs_6, zcs_7, znl_i, znl_r, znl_n, Bool.and_true, Bool.true_and, zk_v, zk_n, zk_x, zir_r, zir_n, zclr_i, zclr_r, zclr_n, zclr_d, zclr_l, true_and, and_true, and_self, if_true, if_false, reduceIte, nI_add, pk_mul, zin_ok, zx_nI, nI_lt2, nI_le2, nI_eq2, nI_l0, nI_g0, nI_q0, nI_p0, nI_n0, nI_m1, Nat.add_zero, Nat.zero_add, Nat.reduceAdd, Nat.reduceMul, true_or, or_true, znar_50, bI_0, bI_1, bI_z, bft, nI_z0, nI_z1, lgc_lt, lgc_gt, lgc_le, lgc_ge, lgc_eq, not_true_eq_false, not_false_eq_true, Bool.not_eq_true, Bool.not_eq_false, reduceCtorEq, MS_sW, CS_sW, sW_r, sW_n, sW_w, cls_sW, fi_sW, fr_sW, la_sW, ra_sW, len_sW, ls_sW, own_sW, n_sW, uc_sW, us_sW, sW_sfi, sW_sla, sW_sLA, sW_sls, sW_spay, sW_sia, sW_sIA, ne_eq, cls_sfi, fr_sfi, ia_sfi, la_sfi, ra_sfi, len_sfi, ls_sfi, own_sfi, n_sfi, uc_sfi, us_sfi, cls_sia, fi_sia, fr_sia, la_sia, ra_sia, len_sia, ls_sia, own_sia, n_sia, uc_sia, us_sia, cls_sIA, fi_sIA, fr_sIA, la_sIA, ra_sIA, len_sIA, ls_sIA, own_sIA, n_sIA, uc_sIA, us_sIA, cls_sla, fi_sla, fr_sla, ia_sla, ra_sla, len_sla, ls_sla, own_sla, n_sla, uc_sla, us_sla, cls_sLA, fi_sLA, fr_sLA, ia_sLA, ra_sLA, len_sLA, ls_sLA, own_sLA, n_sLA, uc_sLA, us_sLA, h0, m149, g1, hb, eq_self]
        · rw [if_pos c1, if_neg c2] at hs
          obtain ⟨y6, y7, e⟩ := e (.int (nI (v (1864 + h)) &&& ((nI 1 <<< (y &&& 31)) ^^^ (-1))))
          subst c1
          refine ⟨y6, y7, (s199_22.trans ?_).trans e⟩
          rw [hs]
          simp (disch := first | omega | exact hM) only [s199_0, s199_1, s199_2, s199_3, s199_5, s199_6, s199_10, s199_12, s199_15, s199_17, s199_19, s199_20, s199_24, s199_25, s199_28, s199_29, s199_30, s199_33, s199_35, s199_37, s199_40, s199_43, s199_46, s199_47, s199_50, s199_53, s199_55, s199_56, s199_57, s199_59, s199_61, s199_62, s199_65, s199_67, s199_68, s199_69, s199_70, s199_71, s199_72, s199_73, s199_75, s199_77, s199_78, s199_81, s199_83, s199_84, s199_85, s199_86, s199_87, s199_88, s199_89, s199_91, s199_93, s199_95, s199_96, s199_98, s199_101, s199_104, s199_107, s199_109, zcs_0, zcs_1, zcs_2, zcs_3, zcs_4, zcs_5, zcs_6, zcs_7, znl_i, znl_r, znl_n, Bool.and_true, Bool.true_and, zk_v, zk_n, zk_x, zir_r, zir_n, zclr_i, zclr_r, zclr_n, zclr_d, zclr_l, true_and, and_true, and_self, if_true, if_false, reduceIte, nI_add, pk_mul, zin_ok, zx_nI, nI_lt2, nI_le2, nI_eq2, nI_l0, nI_g0, nI_q0, nI_p0, nI_n0, nI_m1, Nat.add_zero, Nat.zero_add, Nat.reduceAdd, Nat.reduceMul, true_or, or_true, znar_50, bI_0, bI_1, bI_z, bft, nI_z0, nI_z1, lgc_lt, lgc_gt, lgc_le, lgc_ge, lgc_eq, not_true_eq_false, not_false_eq_true, Bool.not_eq_true, Bool.not_eq_false, reduceCtorEq, MS_sW, CS_sW, sW_r, sW_n, sW_w, cls_sW, fi_sW, fr_sW, la_sW, ra_sW, len_sW, ls_sW, own_sW, n_sW, uc_sW, us_sW, sW_sfi, sW_sla, sW_sLA, sW_sls, sW_spay, sW_sia, sW_sIA, ne_eq, cls_sfi, fr_sfi, ia_sfi, la_sfi, ra_sfi, len_sfi, ls_sfi, own_sfi, n_sfi, uc_sfi, us_sfi, cls_sia, fi_sia, fr_sia, la_sia, ra_sia, len_sia, ls_sia, own_sia, n_sia, uc_sia, us_sia, cls_sIA, fi_sIA, fr_sIA, la_sIA, ra_sIA, len_sIA, ls_sIA, own_sIA, n_sIA, uc_sIA, us_sIA, cls_sla, fi_sla, fr_sla, ia_sla, ra_sla, len_sla, ls_sla, own_sla, n_sla, uc_sla, us_sla, cls_sLA, fi_sLA, fr_sLA, ia_sLA, ra_sLA, len_sLA, ls_sLA, own_sLA, n_sLA, uc_sLA, us_sLA, h0, m149, g1, hb, c2, eq_self]
      · by_cases c2 : nI h = y
        · rw [if_neg c1, if_pos c2] at hs
          obtain ⟨y6, y7, e⟩ := e (.int (nI (v (1864 + h)) &&& ((nI 1 <<< (x &&& 31)) ^^^ (-1))))
          subst c2
          refine ⟨y6, y7, (s199_22.trans ?_).trans e⟩
          rw [hs]
          simp (disch := first | omega | exact hM) only [s199_0, s199_1, s199_2, s199_3, s199_5, s199_6, s199_10, s199_12, s199_15, s199_17, s199_19, s199_20, s199_24, s199_25, s199_28, s199_29, s199_30, s199_33, s199_35, s199_37, s199_40, s199_43, s199_46, s199_47, s199_50, s199_53, s199_55, s199_56, s199_57, s199_59, s199_61, s199_62, s199_65, s199_67, s199_68, s199_69, s199_70, s199_71, s199_72, s199_73, s199_75, s199_77, s199_78, s199_81, s199_83, s199_84, s199_85, s199_86, s199_87, s199_88, s199_89, s199_91, s199_93, s199_95, s199_96, s199_98, s199_101, s199_104, s199_107, s199_109, zcs_0, zcs_1, zcs_2, zcs_3, zcs_4, zcs_5, zcs_6, zcs_7, znl_i, znl_r, znl_n, Bool.and_true, Bool.true_and, zk_v, zk_n, zk_x, zir_r, zir_n, zclr_i, zclr_r, zclr_n, zclr_d, zclr_l, true_and, and_true, and_self, if_true, if_false, reduceIte, nI_add, pk_mul, zin_ok, zx_nI, nI_lt2, nI_le2, nI_eq2, nI_l0, nI_g0, nI_q0, nI_p0, nI_n0, nI_m1, Nat.add_zero, Nat.zero_add, Nat.reduceAdd, Nat.reduceMul, true_or, or_true, znar_50, bI_0, bI_1, bI_z, bft, nI_z0, nI_z1, lgc_lt, lgc_gt, lgc_le, lgc_ge, lgc_eq, not_true_eq_false, not_false_eq_true, Bool.not_eq_true, Bool.not_eq_false, reduceCtorEq, MS_sW, CS_sW, sW_r, sW_n, sW_w, cls_sW, fi_sW, fr_sW, la_sW, ra_sW, len_sW, ls_sW, own_sW, n_sW, uc_sW, us_sW, sW_sfi, sW_sla, sW_sLA, sW_sls, sW_spay, sW_sia, sW_sIA, ne_eq, cls_sfi, fr_sfi, ia_sfi, la_sfi, ra_sfi, len_sfi, ls_sfi, own_sfi, n_sfi, uc_sfi, us_sfi, cls_sia, fi_sia, fr_sia, la_sia, ra_sia, len_sia, ls_sia, own_sia, n_sia, uc_sia, us_sia, cls_sIA, fi_sIA, fr_sIA, la_sIA, ra_sIA, len_sIA, ls_sIA, own_sIA, n_sIA, uc_sIA, us_sIA, cls_sla, fi_sla, fr_sla, ia_sla, ra_sla, len_sla, ls_sla, own_sla, n_sla, uc_sla, us_sla, cls_sLA, fi_sLA, fr_sLA, ia_sLA, ra_sLA, len_sLA, ls_sLA, own_sLA, n_sLA, uc_sLA, us_sLA, h0, m149, g1, hb, c1, eq_self]
        · rw [if_neg c1, if_neg c2] at hs
          obtain ⟨y6, y7, e⟩ := e (.int (nI (v (1864 + h))))
          refine ⟨y6, y7, (s199_22.trans ?_).trans e⟩
          rw [hs]
          simp (disch := first | omega | exact hM) only [s199_0, s199_1, s199_2, s199_3, s199_5, s199_6, s199_10, s199_12, s199_15, s199_17, s199_19, s199_20, s199_24, s199_25, s199_28, s199_29, s199_30, s199_33, s199_35, s199_37, s199_40, s199_43, s199_46, s199_47, s199_50, s199_53, s199_55, s199_56, s199_57, s199_59, s199_61, s199_62, s199_65, s199_67, s199_68, s199_69, s199_70, s199_71, s199_72, s199_73, s199_75, s199_77, s199_78, s199_81, s199_83, s199_84, s199_85, s199_86, s199_87, s199_88, s199_89, s199_91, s199_93, s199_95, s199_96, s199_98, s199_101, s199_104, s199_107, s199_109, zcs_0, zcs_1, zcs_2, zcs_3, zcs_4, zcs_5, zcs_6, zcs_7, znl_i, znl_r, znl_n, Bool.and_true, Bool.true_and, zk_v, zk_n, zk_x, zir_r, zir_n, zclr_i, zclr_r, zclr_n, zclr_d, zclr_l, true_and, and_true, and_self, if_true, if_false, reduceIte, nI_add, pk_mul, zin_ok, zx_nI, nI_lt2, nI_le2, nI_eq2, nI_l0, nI_g0, nI_q0, nI_p0, nI_n0, nI_m1, Nat.add_zero, Nat.zero_add, Nat.reduceAdd, Nat.reduceMul, true_or, or_true, znar_50, bI_0, bI_1, bI_z, bft, nI_z0, nI_z1, lgc_lt, lgc_gt, lgc_le, lgc_ge, lgc_eq, not_true_eq_false, not_false_eq_true, Bool.not_eq_true, Bool.not_eq_false, reduceCtorEq, MS_sW, CS_sW, sW_r, sW_n, sW_w, cls_sW, fi_sW, fr_sW, la_sW, ra_sW, len_sW, ls_sW, own_sW, n_sW, uc_sW, us_sW, sW_sfi, sW_sla, sW_sLA, sW_sls, sW_spay, sW_sia, sW_sIA, ne_eq, cls_sfi, fr_sfi, ia_sfi, la_sfi, ra_sfi, len_sfi, ls_sfi, own_sfi, n_sfi, uc_sfi, us_sfi, cls_sia, fi_sia, fr_sia, la_sia, ra_sia, len_sia, ls_sia, own_sia, n_sia, uc_sia, us_sia, cls_sIA, fi_sIA, fr_sIA, la_sIA, ra_sIA, len_sIA, ls_sIA, own_sIA, n_sIA, uc_sIA, us_sIA, cls_sla, fi_sla, fr_sla, ia_sla, ra_sla, len_sla, ls_sla, own_sla, n_sla, uc_sla, us_sla, cls_sLA, fi_sLA, fr_sLA, ia_sLA, ra_sLA, len_sLA, ls_sLA, own_sLA, n_sLA, uc_sLA, us_sLA, h0, m149, g1, hb, c1, c2]
theorem m199 (hM : MS z) (h16 : v 0 ≤ 16) (hv : ∀ h, h < 16 → v (1864 + h) < 65536) {a : Nat} (ha : a < 16) {x y : Int32} : ZC zG (d + 1) 199 [.ref 135, .int (nI a), .int x, .int y] (sW z v) Q = Q (.inl (some (.int (fixI (fun s => passI v x y s (v 0)) 65536 (nI (2 ^ a)))))) (sW z v) := by
  have h0 := hM
  unfold MS at h0
  have key : ∀ m s (w : Int32) (x6 x7 : Value), s < 65536 → 65536 - s ≤ m → ¬ w = nI s → ZW zG (d + 1) 199 8 [.ref 135, .int (nI a), .int x, .int y, .int (nI s), .int w, x6, x7] [] (sW z v) Q = Q (.inl (some (.int (fixI (fun s => passI v x y s (v 0)) m (nI s))))) (sW z v) := by
    intro m
    induction m with
    | zero => intro s w x6 x7 hs hm; omega
    | succ m ih =>
      intro s w x6 x7 hs hm hw
      obtain ⟨c, p1, p2, p3⟩ := passI_ok (v := v) (x := x) (y := y) hs (v 0) (fun h hh => hv h (by omega))
      obtain ⟨y6, y7, e⟩ := m199i (z := z) (d := d) (Q := Q) hM h16 (a := nI a) (x := x) (y := y) (w := nI s) (v 0) 0 x7 (by omega)
      have e2 : passI v x y (nI s) 0 = nI s := rfl
      rw [e2] at e
      refine s199_8.trans ?_
      simp (disch := first | omega | exact hM) only [s199_10, s199_12, s199_15, s199_17, s199_19, s199_20, zcs_0, zcs_1, zcs_2, zcs_3, zcs_4, zcs_5, zcs_6, zcs_7, znl_i, znl_r, znl_n, Bool.and_true, Bool.true_and, zk_v, zk_n, zk_x, zir_r, zir_n, zclr_i, zclr_r, zclr_n, zclr_d, zclr_l, true_and, and_true, and_self, if_true, if_false, reduceIte, nI_add, pk_mul, zin_ok, zx_nI, nI_lt2, nI_le2, nI_eq2, nI_l0, nI_g0, nI_q0, nI_p0, nI_n0, nI_m1, Nat.add_zero, Nat.zero_add, Nat.reduceAdd, Nat.reduceMul, true_or, or_true, znar_50, bI_0, bI_1, bI_z, bft, nI_z0, nI_z1, lgc_lt, lgc_gt, lgc_le, lgc_ge, lgc_eq, not_true_eq_false, not_false_eq_true, Bool.not_eq_true, Bool.not_eq_false, reduceCtorEq, hw]
      refine e.trans ?_
      rw [p3]
      have hf : fixI (fun s => passI v x y s (v 0)) (m + 1) (nI s) = if passI v x y (nI s) (v 0) = nI s then nI s else fixI (fun s => passI v x y s (v 0)) m (passI v x y (nI s) (v 0)) := rfl
      rw [hf, p3]
      by_cases c0 : c = s
      · subst c0
        rw [if_pos rfl]
        refine s199_8.trans ?_
        simp (disch := first | omega | exact hM) only [s199_0, s199_1, s199_2, s199_3, s199_5, s199_6, s199_10, s199_12, s199_15, s199_17, s199_19, s199_20, s199_24, s199_25, s199_28, s199_29, s199_30, s199_33, s199_35, s199_37, s199_40, s199_43, s199_46, s199_47, s199_50, s199_53, s199_55, s199_56, s199_57, s199_59, s199_61, s199_62, s199_65, s199_67, s199_68, s199_69, s199_70, s199_71, s199_72, s199_73, s199_75, s199_77, s199_78, s199_81, s199_83, s199_84, s199_85, s199_86, s199_87, s199_88, s199_89, s199_91, s199_93, s199_95, s199_96, s199_98, s199_101, s199_104, s199_107, s199_109, zcs_0, zcs_1, zcs_2, zcs_3, zcs_4, zcs_5, zcs_6, zcs_7, znl_i, znl_r, znl_n, Bool.and_true, Bool.true_and, zk_v, zk_n, zk_x, zir_r, zir_n, zclr_i, zclr_r, zclr_n, zclr_d, zclr_l, true_and, and_true, and_self, if_true, if_false, reduceIte, nI_add, pk_mul, zin_ok, zx_nI, nI_lt2, nI_le2, nI_eq2, nI_l0, nI_g0, nI_q0, nI_p0, nI_n0, nI_m1, Nat.add_zero, Nat.zero_add, Nat.reduceAdd, Nat.reduceMul, true_or, or_true, znar_50, bI_0, bI_1, bI_z, bft, nI_z0, nI_z1, lgc_lt, lgc_gt, lgc_le, lgc_ge, lgc_eq, not_true_eq_false, not_false_eq_true, Bool.not_eq_true, Bool.not_eq_false, reduceCtorEq, eq_self]
      · have cn : ¬ nI c = nI s := by rw [nI_eq2 (by omega) (by omega)]; exact c0
        rw [if_neg cn]
        exact ih c (nI s) y6 y7 p2 (by omega) (fun h => cn h.symm)
  have h2a : 2 ^ a < 65536 := by
    have : (2 : Nat) ^ a < 2 ^ 16 := Nat.pow_lt_pow_right (by omega) ha
    omega
  have hpos := Nat.two_pow_pos a
  have hne : ¬ nI 0 = nI (2 ^ a) := by rw [nI_eq2 (by omega) (by omega)]; omega
  simp (disch := first | omega | exact hM) only [s199_0, s199_1, s199_2, s199_3, s199_5, s199_6, e199, zcs_0, zcs_1, zcs_2, zcs_3, zcs_4, zcs_5, zcs_6, zcs_7, znl_i, znl_r, znl_n, Bool.and_true, Bool.true_and, zk_v, zk_n, zk_x, zir_r, zir_n, zclr_i, zclr_r, zclr_n, zclr_d, zclr_l, true_and, and_true, and_self, if_true, if_false, reduceIte, nI_sh1]
  exact key 65536 (2 ^ a) (nI 0) _ _ h2a (by omega) hne
theorem c77i {l : Nat} (hL : LdS z l) (hK : RKn z l v) {a x y w : Int32} : ∀ m h (x7 : Value), h + m = 16 → ∃ y6 y7, ZW zG (d + 1) 77 22 [.ref l, .int a, .int x, .int y, .int (passI v x y w h), .int w, .int (nI h), x7] [] (z) Q = ZW zG (d + 1) 77 8 [.ref l, .int a, .int x, .int y, .int (passI v x y w (16)), .int w, y6, y7] [] (z) Q := by
  have hL2 := hL
  unfold LdS at hL2
  intro m
  induction m with
  | zero =>
    intro h x7 hh
    have : h = 16 := by omega
    subst this
    refine ⟨.int (nI (16)), x7, s77_22.trans ?_⟩
    simp (disch := omega) only [s77_0, s77_1, s77_2, s77_3, s77_5, s77_6, s77_10, s77_12, s77_15, s77_17, s77_19, s77_20, s77_24, s77_26, s77_29, s77_31, s77_33, s77_36, s77_39, s77_42, s77_43, s77_46, s77_48, s77_49, s77_51, s77_53, s77_54, s77_57, s77_59, s77_60, s77_61, s77_62, s77_63, s77_64, s77_65, s77_67, s77_69, s77_70, s77_73, s77_75, s77_76, s77_77, s77_78, s77_79, s77_80, s77_81, s77_83, s77_85, s77_87, s77_88, s77_90, s77_93, s77_96, s77_99, s77_101, zcs_0, zcs_1, zcs_2, zcs_3, zcs_4, zcs_5, zcs_6, zcs_7, znl_i, znl_r, znl_n, Bool.and_true, Bool.true_and, zk_v, zk_n, zk_x, zir_r, zir_n, zclr_i, zclr_r, zclr_n, zclr_d, zclr_l, true_and, and_true, and_self, if_true, if_false, reduceIte, nI_add, pk_mul, zin_ok, zx_nI, nI_lt2, nI_le2, nI_eq2, nI_l0, nI_g0, nI_q0, nI_p0, nI_n0, nI_m1, Nat.add_zero, Nat.zero_add, Nat.reduceAdd, Nat.reduceMul, true_or, or_true, znar_50, bI_0, bI_1, bI_z, bft, nI_z0, nI_z1, lgc_lt, lgc_gt, lgc_le, lgc_ge, lgc_eq, not_true_eq_false, not_false_eq_true, Bool.not_eq_true, Bool.not_eq_false, reduceCtorEq, hL2, c18, Nat.le_refl]
  | succ m ih =>
    intro h x7 hh
    have g1 : ¬ 16 ≤ h := by omega
    have kf : h < 16 := by omega
    have kk := hK h kf
    have hs : passI v x y w (h + 1) = if hasI w (nI h) = true then passI v x y w h ||| bitsI v x y h else passI v x y w h := rfl
    cases hb : hasI w (nI h) with
    | false =>
      rw [hb] at hs
      obtain ⟨y6, y7, e⟩ := ih (h + 1) x7 (by omega)
      refine ⟨y6, y7, (s77_22.trans ?_).trans e⟩
      rw [hs]
      simp (disch := omega) only [s77_0, s77_1, s77_2, s77_3, s77_5, s77_6, s77_10, s77_12, s77_15, s77_17, s77_19, s77_20, s77_24, s77_26, s77_29, s77_31, s77_33, s77_36, s77_39, s77_42, s77_43, s77_46, s77_48, s77_49, s77_51, s77_53, s77_54, s77_57, s77_59, s77_60, s77_61, s77_62, s77_63, s77_64, s77_65, s77_67, s77_69, s77_70, s77_73, s77_75, s77_76, s77_77, s77_78, s77_79, s77_80, s77_81, s77_83, s77_85, s77_87, s77_88, s77_90, s77_93, s77_96, s77_99, s77_101, zcs_0, zcs_1, zcs_2, zcs_3, zcs_4, zcs_5, zcs_6, zcs_7, znl_i, znl_r, znl_n, Bool.and_true, Bool.true_and, zk_v, zk_n, zk_x, zir_r, zir_n, zclr_i, zclr_r, zclr_n, zclr_d, zclr_l, true_and, and_true, and_self, if_true, if_false, reduceIte, nI_add, pk_mul, zin_ok, zx_nI, nI_lt2, nI_le2, nI_eq2, nI_l0, nI_g0, nI_q0, nI_p0, nI_n0, nI_m1, Nat.add_zero, Nat.zero_add, Nat.reduceAdd, Nat.reduceMul, true_or, or_true, znar_50, bI_0, bI_1, bI_z, bft, nI_z0, nI_z1, lgc_lt, lgc_gt, lgc_le, lgc_ge, lgc_eq, not_true_eq_false, not_false_eq_true, Bool.not_eq_true, Bool.not_eq_false, reduceCtorEq, hL2, c18, g1, hb, Bool.false_eq_true, if_false]
    | true =>
      rw [hb, if_pos rfl] at hs
      have e := fun x7 => ih (h + 1) x7 (by omega)
      unfold bitsI at hs
      dsimp only at hs
      by_cases c1 : nI h = x
      · by_cases c2 : nI h = y
        · rw [if_pos c1, if_pos c2] at hs
          obtain ⟨y6, y7, e⟩ := e (.int (nI (v (1864 + h)) &&& ((nI 1 <<< (y &&& 31)) ^^^ (-1)) &&& ((nI 1 <<< (x &&& 31)) ^^^ (-1))))
          subst c1
          subst c2
          refine ⟨y6, y7, (s77_22.trans ?_).trans e⟩
          rw [hs]
          simp (disch := omega) only [s77_0, s77_1, s77_2, s77_3, s77_5, s77_6, s77_10, s77_12, s77_15, s77_17, s77_19, s77_20, s77_24, s77_26, s77_29, s77_31, s77_33, s77_36, s77_39, s77_42, s77_43, s77_46, s77_48, s77_49, s77_51, s77_53, s77_54, s77_57, s77_59, s77_60, s77_61, s77_62, s77_63, s77_64, s77_65, s77_67, s77_69, s77_70, s77_73, s77_75, s77_76, s77_77, s77_78, s77_79, s77_80, s77_81, s77_83, s77_85, s77_87, s77_88, s77_90, s77_93, s77_96, s77_99, s77_101, zcs_0, zcs_1, zcs_2, zcs_3, zcs_4, zcs_5, zcs_6, zcs_7, znl_i, znl_r, znl_n, Bool.and_true, Bool.true_and, zk_v, zk_n, zk_x, zir_r, zir_n, zclr_i, zclr_r, zclr_n, zclr_d, zclr_l, true_and, and_true, and_self, if_true, if_false, reduceIte, nI_add, pk_mul, zin_ok, zx_nI, nI_lt2, nI_le2, nI_eq2, nI_l0, nI_g0, nI_q0, nI_p0, nI_n0, nI_m1, Nat.add_zero, Nat.zero_add, Nat.reduceAdd, Nat.reduceMul, true_or, or_true, znar_50, bI_0, bI_1, bI_z, bft, nI_z0, nI_z1, lgc_lt, lgc_gt, lgc_le, lgc_ge, lgc_eq, not_true_eq_false, not_false_eq_true, Bool.not_eq_true, Bool.not_eq_false, reduceCtorEq, hL2, c18, g1, hb, eq_self, kk]
        · rw [if_pos c1, if_neg c2] at hs
          obtain ⟨y6, y7, e⟩ := e (.int (nI (v (1864 + h)) &&& ((nI 1 <<< (y &&& 31)) ^^^ (-1))))
          subst c1
          refine ⟨y6, y7, (s77_22.trans ?_).trans e⟩
          rw [hs]
          simp (disch := omega) only [s77_0, s77_1, s77_2, s77_3, s77_5, s77_6, s77_10, s77_12, s77_15, s77_17, s77_19, s77_20, s77_24, s77_26, s77_29, s77_31, s77_33, s77_36, s77_39, s77_42, s77_43, s77_46, s77_48, s77_49, s77_51, s77_53, s77_54, s77_57, s77_59, s77_60, s77_61, s77_62, s77_63, s77_64, s77_65, s77_67, s77_69, s77_70, s77_73, s77_75, s77_76, s77_77, s77_78, s77_79, s77_80, s77_81, s77_83, s77_85, s77_87, s77_88, s77_90, s77_93, s77_96, s77_99, s77_101, zcs_0, zcs_1, zcs_2, zcs_3, zcs_4, zcs_5, zcs_6, zcs_7, znl_i, znl_r, znl_n, Bool.and_true, Bool.true_and, zk_v, zk_n, zk_x, zir_r, zir_n, zclr_i, zclr_r, zclr_n, zclr_d, zclr_l, true_and, and_true, and_self, if_true, if_false, reduceIte, nI_add, pk_mul, zin_ok, zx_nI, nI_lt2, nI_le2, nI_eq2, nI_l0, nI_g0, nI_q0, nI_p0, nI_n0, nI_m1, Nat.add_zero, Nat.zero_add, Nat.reduceAdd, Nat.reduceMul, true_or, or_true, znar_50, bI_0, bI_1, bI_z, bft, nI_z0, nI_z1, lgc_lt, lgc_gt, lgc_le, lgc_ge, lgc_eq, not_true_eq_false, not_false_eq_true, Bool.not_eq_true, Bool.not_eq_false, reduceCtorEq, hL2, c18, g1, hb, c2, eq_self, kk]
      · by_cases c2 : nI h = y
        · rw [if_neg c1, if_pos c2] at hs
          obtain ⟨y6, y7, e⟩ := e (.int (nI (v (1864 + h)) &&& ((nI 1 <<< (x &&& 31)) ^^^ (-1))))
          subst c2
          refine ⟨y6, y7, (s77_22.trans ?_).trans e⟩
          rw [hs]
          simp (disch := omega) only [s77_0, s77_1, s77_2, s77_3, s77_5, s77_6, s77_10, s77_12, s77_15, s77_17, s77_19, s77_20, s77_24, s77_26, s77_29, s77_31, s77_33, s77_36, s77_39, s77_42, s77_43, s77_46, s77_48, s77_49, s77_51, s77_53, s77_54, s77_57, s77_59, s77_60, s77_61, s77_62, s77_63, s77_64, s77_65, s77_67, s77_69, s77_70, s77_73, s77_75, s77_76, s77_77, s77_78, s77_79, s77_80, s77_81, s77_83, s77_85, s77_87, s77_88, s77_90, s77_93, s77_96, s77_99, s77_101, zcs_0, zcs_1, zcs_2, zcs_3, zcs_4, zcs_5, zcs_6, zcs_7, znl_i, znl_r, znl_n, Bool.and_true, Bool.true_and, zk_v, zk_n, zk_x, zir_r, zir_n, zclr_i, zclr_r, zclr_n, zclr_d, zclr_l, true_and, and_true, and_self, if_true, if_false, reduceIte, nI_add, pk_mul, zin_ok, zx_nI, nI_lt2, nI_le2, nI_eq2, nI_l0, nI_g0, nI_q0, nI_p0, nI_n0, nI_m1, Nat.add_zero, Nat.zero_add, Nat.reduceAdd, Nat.reduceMul, true_or, or_true, znar_50, bI_0, bI_1, bI_z, bft, nI_z0, nI_z1, lgc_lt, lgc_gt, lgc_le, lgc_ge, lgc_eq, not_true_eq_false, not_false_eq_true, Bool.not_eq_true, Bool.not_eq_false, reduceCtorEq, hL2, c18, g1, hb, c1, eq_self, kk]
        · rw [if_neg c1, if_neg c2] at hs
          obtain ⟨y6, y7, e⟩ := e (.int (nI (v (1864 + h))))
          refine ⟨y6, y7, (s77_22.trans ?_).trans e⟩
          rw [hs]
          simp (disch := omega) only [s77_0, s77_1, s77_2, s77_3, s77_5, s77_6, s77_10, s77_12, s77_15, s77_17, s77_19, s77_20, s77_24, s77_26, s77_29, s77_31, s77_33, s77_36, s77_39, s77_42, s77_43, s77_46, s77_48, s77_49, s77_51, s77_53, s77_54, s77_57, s77_59, s77_60, s77_61, s77_62, s77_63, s77_64, s77_65, s77_67, s77_69, s77_70, s77_73, s77_75, s77_76, s77_77, s77_78, s77_79, s77_80, s77_81, s77_83, s77_85, s77_87, s77_88, s77_90, s77_93, s77_96, s77_99, s77_101, zcs_0, zcs_1, zcs_2, zcs_3, zcs_4, zcs_5, zcs_6, zcs_7, znl_i, znl_r, znl_n, Bool.and_true, Bool.true_and, zk_v, zk_n, zk_x, zir_r, zir_n, zclr_i, zclr_r, zclr_n, zclr_d, zclr_l, true_and, and_true, and_self, if_true, if_false, reduceIte, nI_add, pk_mul, zin_ok, zx_nI, nI_lt2, nI_le2, nI_eq2, nI_l0, nI_g0, nI_q0, nI_p0, nI_n0, nI_m1, Nat.add_zero, Nat.zero_add, Nat.reduceAdd, Nat.reduceMul, true_or, or_true, znar_50, bI_0, bI_1, bI_z, bft, nI_z0, nI_z1, lgc_lt, lgc_gt, lgc_le, lgc_ge, lgc_eq, not_true_eq_false, not_false_eq_true, Bool.not_eq_true, Bool.not_eq_false, reduceCtorEq, hL2, c18, g1, hb, c1, c2, kk]
theorem c77 {l : Nat} (hL : LdS z l) (hK : RKn z l v) (hv : ∀ h, h < 16 → v (1864 + h) < 65536) {a : Nat} (ha : a < 16) {x y : Int32} : ZC zG (d + 1) 77 [.ref l, .int (nI a), .int x, .int y] (z) Q = Q (.inl (some (.int (fixI (fun s => passI v x y s (16)) 65536 (nI (2 ^ a)))))) (z) := by
  have hL2 := hL
  unfold LdS at hL2
  have key : ∀ m s (w : Int32) (x6 x7 : Value), s < 65536 → 65536 - s ≤ m → ¬ w = nI s → ZW zG (d + 1) 77 8 [.ref l, .int (nI a), .int x, .int y, .int (nI s), .int w, x6, x7] [] (z) Q = Q (.inl (some (.int (fixI (fun s => passI v x y s (16)) m (nI s))))) (z) := by
    intro m
    induction m with
    | zero => intro s w x6 x7 hs hm; omega
    | succ m ih =>
      intro s w x6 x7 hs hm hw
      obtain ⟨c, p1, p2, p3⟩ := passI_ok (v := v) (x := x) (y := y) hs (16) (fun h hh => hv h (by omega))
      obtain ⟨y6, y7, e⟩ := c77i (z := z) (d := d) (Q := Q) (l := l) hL hK (a := nI a) (x := x) (y := y) (w := nI s) (16) 0 x7 (by omega)
      have e2 : passI v x y (nI s) 0 = nI s := rfl
      rw [e2] at e
      refine s77_8.trans ?_
      simp (disch := omega) only [s77_10, s77_12, s77_15, s77_17, s77_19, s77_20, zcs_0, zcs_1, zcs_2, zcs_3, zcs_4, zcs_5, zcs_6, zcs_7, znl_i, znl_r, znl_n, Bool.and_true, Bool.true_and, zk_v, zk_n, zk_x, zir_r, zir_n, zclr_i, zclr_r, zclr_n, zclr_d, zclr_l, true_and, and_true, and_self, if_true, if_false, reduceIte, nI_add, pk_mul, zin_ok, zx_nI, nI_lt2, nI_le2, nI_eq2, nI_l0, nI_g0, nI_q0, nI_p0, nI_n0, nI_m1, Nat.add_zero, Nat.zero_add, Nat.reduceAdd, Nat.reduceMul, true_or, or_true, znar_50, bI_0, bI_1, bI_z, bft, nI_z0, nI_z1, lgc_lt, lgc_gt, lgc_le, lgc_ge, lgc_eq, not_true_eq_false, not_false_eq_true, Bool.not_eq_true, Bool.not_eq_false, reduceCtorEq, hw]
      refine e.trans ?_
      rw [p3]
      have hf : fixI (fun s => passI v x y s (16)) (m + 1) (nI s) = if passI v x y (nI s) (16) = nI s then nI s else fixI (fun s => passI v x y s (16)) m (passI v x y (nI s) (16)) := rfl
      rw [hf, p3]
      by_cases c0 : c = s
      · subst c0
        rw [if_pos rfl]
        refine s77_8.trans ?_
        simp (disch := omega) only [s77_0, s77_1, s77_2, s77_3, s77_5, s77_6, s77_10, s77_12, s77_15, s77_17, s77_19, s77_20, s77_24, s77_26, s77_29, s77_31, s77_33, s77_36, s77_39, s77_42, s77_43, s77_46, s77_48, s77_49, s77_51, s77_53, s77_54, s77_57, s77_59, s77_60, s77_61, s77_62, s77_63, s77_64, s77_65, s77_67, s77_69, s77_70, s77_73, s77_75, s77_76, s77_77, s77_78, s77_79, s77_80, s77_81, s77_83, s77_85, s77_87, s77_88, s77_90, s77_93, s77_96, s77_99, s77_101, zcs_0, zcs_1, zcs_2, zcs_3, zcs_4, zcs_5, zcs_6, zcs_7, znl_i, znl_r, znl_n, Bool.and_true, Bool.true_and, zk_v, zk_n, zk_x, zir_r, zir_n, zclr_i, zclr_r, zclr_n, zclr_d, zclr_l, true_and, and_true, and_self, if_true, if_false, reduceIte, nI_add, pk_mul, zin_ok, zx_nI, nI_lt2, nI_le2, nI_eq2, nI_l0, nI_g0, nI_q0, nI_p0, nI_n0, nI_m1, Nat.add_zero, Nat.zero_add, Nat.reduceAdd, Nat.reduceMul, true_or, or_true, znar_50, bI_0, bI_1, bI_z, bft, nI_z0, nI_z1, lgc_lt, lgc_gt, lgc_le, lgc_ge, lgc_eq, not_true_eq_false, not_false_eq_true, Bool.not_eq_true, Bool.not_eq_false, reduceCtorEq, eq_self]
      · have cn : ¬ nI c = nI s := by rw [nI_eq2 (by omega) (by omega)]; exact c0
        rw [if_neg cn]
        exact ih c (nI s) y6 y7 p2 (by omega) (fun h => cn h.symm)
  have h2a : 2 ^ a < 65536 := by
    have : (2 : Nat) ^ a < 2 ^ 16 := Nat.pow_lt_pow_right (by omega) ha
    omega
  have hpos := Nat.two_pow_pos a
  have hne : ¬ nI 0 = nI (2 ^ a) := by rw [nI_eq2 (by omega) (by omega)]; omega
  simp (disch := omega) only [s77_0, s77_1, s77_2, s77_3, s77_5, s77_6, e77, zcs_0, zcs_1, zcs_2, zcs_3, zcs_4, zcs_5, zcs_6, zcs_7, znl_i, znl_r, znl_n, Bool.and_true, Bool.true_and, zk_v, zk_n, zk_x, zir_r, zir_n, zclr_i, zclr_r, zclr_n, zclr_d, zclr_l, true_and, and_true, and_self, if_true, if_false, reduceIte, nI_sh1]
  exact key 65536 (2 ^ a) (nI 0) _ _ h2a (by omega) hne
end HG
