set_option maxRecDepth 100000
/-! the component's ledger: questions -/
def sGreat (v : Nat → Nat) (a b : Int32) : Nat → Int32
  | 0 => -1
  | n + 1 => if nI (v (1880 + 5 * n)) = a ∧ nI (v (1880 + 5 * n + 1)) = b then zmax (sGreat v a b n) (nI (v (1880 + 5 * n + 2))) else sGreat v a b n
def sWorth (v : Nat → Nat) (a b : Int32) : Nat → Nat
  | 0 => 0
  | n + 1 => sWorth v a b n + (if nI (v (1880 + 5 * n)) = a ∧ nI (v (1880 + 5 * n + 1)) = b then v (1880 + 5 * n + 2) + 1 else 0)
def sOpenN (v : Nat → Nat) (a b c : Int32) (n : Nat) : Bool := anyN (fun i => decide (nI (v (1880 + 5 * i)) = a) && decide (nI (v (1880 + 5 * i + 1)) = b) && decide (nI (v (1880 + 5 * i + 2)) = c)) n
section CL
variable {d : Nat} {B : Nat → Prop} {z : ZH} {Q : ZQ} {v da : Nat → Nat} {l : Nat}
theorem RDe_0 (hD : RDe B z l da v) {k : Nat} (hk : k < v 7) : zfi z (da k) 0 = nI (v (1880 + 5 * k)) := (hD.2.2 k hk).2.2.2 0 (by omega)
theorem RDe_f (hD : RDe B z l da v) {k : Nat} (hk : k < v 7) : (zls z (l + 2)).getD k .null = .ref (da k) ∧ zcls z (da k) = 23 ∧ zfi z (da k) 0 = nI (v (1880 + 5 * k)) ∧ zfi z (da k) 1 = nI (v (1880 + 5 * k + 1)) ∧ zfi z (da k) 2 = nI (v (1880 + 5 * k + 2)) ∧ zfi z (da k) 3 = nI (v (1880 + 5 * k + 3)) ∧ zfi z (da k) 4 = nI (v (1880 + 5 * k + 4)) := by
  obtain ⟨a, _, b, c⟩ := hD.2.2 k hk
  exact ⟨a, b, c 0 (by omega), c 1 (by omega), c 2 (by omega), c 3 (by omega), c 4 (by omega)⟩
theorem c18 {x k : Int32} : ZC zG d 18 [.int x, .int k] z Q = Q (.inl (some (.int (bI (hasI x k))))) z := by
  simp only [e18, s18_0, s18_1, s18_2, s18_3, s18_4, s18_5, s18_6, s18_9, s18_10, s18_13, s18_14, zcs_0, zcs_1, zcs_2, zcs_3, zcs_4, zcs_5, zcs_6, zcs_7, znl_i, znl_r, znl_n, Bool.and_true, Bool.true_and, zk_v, zk_n, zk_x, zir_r, zir_n, zclr_i, zclr_r, zclr_n, zclr_d, zclr_l, true_and, and_true, and_self, if_true, if_false, reduceIte, nI_add, pk_mul, zin_ok, zx_nI, nI_lt2, nI_le2, nI_eq2, nI_l0, nI_g0, nI_q0, nI_p0, nI_n0, nI_m1, Nat.add_zero, Nat.zero_add, Nat.reduceAdd, Nat.reduceMul, true_or, or_true, znar_50, bI_0, bI_1, bI_z, bft, nI_z0, nI_z1, lgc_lt, lgc_gt, lgc_le, lgc_ge, lgc_eq, not_true_eq_false, not_false_eq_true, Bool.not_eq_true, Bool.not_eq_false, reduceCtorEq]
  unfold hasI
  by_cases h1 : (x >>> (k &&& 31)) &&& nI 1 = nI 1
  · simp only [h1, not_true_eq_false, if_false, decide_true, bI, if_true]; rfl
  · simp only [h1, not_false_eq_true, if_true, decide_false, bI, Bool.false_eq_true, if_false]; rfl
theorem c2 {x lo hi : Int64} : ZC zG d 2 [.long x, .long lo, .long hi] z Q = Q (.inl (some (.int (bI (linB x lo hi))))) z := by
  simp only [e2, s2_0, s2_1, s2_2, s2_3, s2_6, s2_7, s2_9, s2_10, s2_13, s2_14, s2_17, s2_18, zcs_0, zcs_1, zcs_2, zcs_3, zcs_4, zcs_5, zcs_6, zcs_7, znl_i, znl_r, znl_n, Bool.and_true, Bool.true_and, zk_v, zk_n, zk_x, zir_r, zir_n, zclr_i, zclr_r, zclr_n, zclr_d, zclr_l, true_and, and_true, and_self, if_true, if_false, reduceIte, nI_add, pk_mul, zin_ok, zx_nI, nI_lt2, nI_le2, nI_eq2, nI_l0, nI_g0, nI_q0, nI_p0, nI_n0, nI_m1, Nat.add_zero, Nat.zero_add, Nat.reduceAdd, Nat.reduceMul, true_or, or_true, znar_50, bI_0, bI_1, bI_z, bft, nI_z0, nI_z1, lgc_lt, lgc_gt, lgc_le, lgc_ge, lgc_eq, not_true_eq_false, not_false_eq_true, Bool.not_eq_true, Bool.not_eq_false, reduceCtorEq]
  unfold linB
  by_cases h1 : x < lo
  · have h2 : ¬ lo ≤ x := Int64.not_le.mpr h1
    simp [h1, h2, bI, nI_0]
  · have h2 : lo ≤ x := Int64.not_lt.mp h1
    by_cases h3 : hi < x
    · have h4 : ¬ x ≤ hi := Int64.not_le.mpr h3
      simp [h1, h3, h4, bI, nI_0]
    · have h4 : x ≤ hi := Int64.not_lt.mp h3
      simp [h1, h2, h3, h4, bI, nI_one]
theorem c1 {a : Int32} : ZC zG (d + 1) 1 [.int a] z Q = Q (.inl (some (.int (bI (zin a 4))))) z := by
  simp (disch := omega) only [e1, s1_0, s1_1, s1_2, s1_3, s1_6, s1_9, zcs_0, zcs_1, zcs_2, zcs_3, zcs_4, zcs_5, zcs_6, zcs_7, znl_i, znl_r, znl_n, Bool.and_true, Bool.true_and, zk_v, zk_n, zk_x, zir_r, zir_n, zclr_i, zclr_r, zclr_n, zclr_d, zclr_l, true_and, and_true, and_self, if_true, if_false, reduceIte, nI_add, pk_mul, zin_ok, zx_nI, nI_lt2, nI_le2, nI_eq2, nI_l0, nI_g0, nI_q0, nI_p0, nI_n0, nI_m1, Nat.add_zero, Nat.zero_add, Nat.reduceAdd, Nat.reduceMul, true_or, or_true, znar_50, bI_0, bI_1, bI_z, bft, nI_z0, nI_z1, lgc_lt, lgc_gt, lgc_le, lgc_ge, lgc_eq, not_true_eq_false, not_false_eq_true, Bool.not_eq_true, Bool.not_eq_false, reduceCtorEq, c2, lin_c]
theorem c68 (hL : LdS z l) (hK : RKn z l v) {a : Nat} {b : Int32} (ha : a < 16) : ZC zG (d + 1) 68 [.ref l, .int (nI a), .int b] z Q = Q (.inl (some (.int (bI (hasI (nI (v (1864 + a))) b))))) z := by
  unfold LdS at hL
  have hk := hK a ha
  simp (disch := omega) only [e68, s68_0, s68_1, s68_4, s68_5, s68_6, s68_7, s68_10, zcs_0, zcs_1, zcs_2, zcs_3, zcs_4, zcs_5, zcs_6, zcs_7, znl_i, znl_r, znl_n, Bool.and_true, Bool.true_and, zk_v, zk_n, zk_x, zir_r, zir_n, zclr_i, zclr_r, zclr_n, zclr_d, zclr_l, true_and, and_true, and_self, if_true, if_false, reduceIte, nI_add, pk_mul, zin_ok, zx_nI, nI_lt2, nI_le2, nI_eq2, nI_l0, nI_g0, nI_q0, nI_p0, nI_n0, nI_m1, Nat.add_zero, Nat.zero_add, Nat.reduceAdd, Nat.reduceMul, true_or, or_true, znar_50, bI_0, bI_1, bI_z, bft, nI_z0, nI_z1, lgc_lt, lgc_gt, lgc_le, lgc_ge, lgc_eq, not_true_eq_false, not_false_eq_true, Bool.not_eq_true, Bool.not_eq_false, reduceCtorEq, hL, hk, c18]

theorem c71 (hL : LdS z l) (hD : RDe B z l da v) {a : Int32} : ZC zG (d) 71 [.ref l, .int a] (z) Q = Q (.inl (some (.int (nI (sDebtsOf v a (v 7)))))) z := by
  have hL2 := hL
  unfold LdS at hL2
  have hlen := hD.1
  have h6 := hD.2.1
  have e : ∀ k, k < v 7 → ZW zG (d) 71 4 [.ref l, .int a, .int (nI (sDebtsOf v a k)), .int (nI k)] [] (z) Q = ZW zG (d) 71 4 [.ref l, .int a, .int (nI (sDebtsOf v a (k + 1))), .int (nI (k + 1))] [] (z) Q := by
    intro k hk
    obtain ⟨f1, f2, f3, f4, f5, f6, f7⟩ := RDe_f hD hk
    refine s71_4.trans ?_
    have h1 : ¬ v 7 ≤ k := by omega
    simp (disch := first | omega | assumption) only [s71_0, s71_1, s71_2, s71_3, s71_5, s71_6, s71_9, s71_14, s71_17, s71_18, s71_19, s71_22, s71_23, s71_28, s71_31, s71_34, s71_35, s71_38, s71_39, s71_42, s71_43, s71_44, s71_45, s71_48, s71_51, s71_52, zcs_0, zcs_1, zcs_2, zcs_3, zcs_4, zcs_5, zcs_6, zcs_7, znl_i, znl_r, znl_n, Bool.and_true, Bool.true_and, zk_v, zk_n, zk_x, zir_r, zir_n, zclr_i, zclr_r, zclr_n, zclr_d, zclr_l, true_and, and_true, and_self, if_true, if_false, reduceIte, nI_add, pk_mul, zin_ok, zx_nI, nI_lt2, nI_le2, nI_eq2, nI_l0, nI_g0, nI_q0, nI_p0, nI_n0, nI_m1, Nat.add_zero, Nat.zero_add, Nat.reduceAdd, Nat.reduceMul, true_or, or_true, znar_50, bI_0, bI_1, bI_z, bft, nI_z0, nI_z1, lgc_lt, lgc_gt, lgc_le, lgc_ge, lgc_eq, not_true_eq_false, not_false_eq_true, Bool.not_eq_true, Bool.not_eq_false, reduceCtorEq, hL2, hlen, f1, f2, f3, f4, f5, f6, f7, h1]
    by_cases h : nI (v (1880 + 5 * k)) = a
    · simp [h, sDebtsOf, cntN]
    · simp [h, sDebtsOf, cntN]
  simp (disch := first | omega | assumption) only [e71, s71_0, s71_1, s71_2, s71_3, s71_5, s71_6, s71_9, s71_14, s71_17, s71_18, s71_19, s71_22, s71_23, s71_28, s71_31, s71_34, s71_35, s71_38, s71_39, s71_42, s71_43, s71_44, s71_45, s71_48, s71_51, s71_52, zcs_0, zcs_1, zcs_2, zcs_3, zcs_4, zcs_5, zcs_6, zcs_7, znl_i, znl_r, znl_n, Bool.and_true, Bool.true_and, zk_v, zk_n, zk_x, zir_r, zir_n, zclr_i, zclr_r, zclr_n, zclr_d, zclr_l, true_and, and_true, and_self, if_true, if_false, reduceIte, nI_add, pk_mul, zin_ok, zx_nI, nI_lt2, nI_le2, nI_eq2, nI_l0, nI_g0, nI_q0, nI_p0, nI_n0, nI_m1, Nat.add_zero, Nat.zero_add, Nat.reduceAdd, Nat.reduceMul, true_or, or_true, znar_50, bI_0, bI_1, bI_z, bft, nI_z0, nI_z1, lgc_lt, lgc_gt, lgc_le, lgc_ge, lgc_eq, not_true_eq_false, not_false_eq_true, Bool.not_eq_true, Bool.not_eq_false, reduceCtorEq, hL2, hlen]
  refine Eq.trans (zl_up (P := fun k => ZW zG (d) 71 4 [.ref l, .int a, .int (nI (sDebtsOf v a k)), .int (nI k)] [] (z) Q) (v 7) e) ?_
  refine s71_4.trans ?_
  simp (disch := first | omega | assumption) only [s71_0, s71_1, s71_2, s71_3, s71_5, s71_6, s71_9, s71_14, s71_17, s71_18, s71_19, s71_22, s71_23, s71_28, s71_31, s71_34, s71_35, s71_38, s71_39, s71_42, s71_43, s71_44, s71_45, s71_48, s71_51, s71_52, zcs_0, zcs_1, zcs_2, zcs_3, zcs_4, zcs_5, zcs_6, zcs_7, znl_i, znl_r, znl_n, Bool.and_true, Bool.true_and, zk_v, zk_n, zk_x, zir_r, zir_n, zclr_i, zclr_r, zclr_n, zclr_d, zclr_l, true_and, and_true, and_self, if_true, if_false, reduceIte, nI_add, pk_mul, zin_ok, zx_nI, nI_lt2, nI_le2, nI_eq2, nI_l0, nI_g0, nI_q0, nI_p0, nI_n0, nI_m1, Nat.add_zero, Nat.zero_add, Nat.reduceAdd, Nat.reduceMul, true_or, or_true, znar_50, bI_0, bI_1, bI_z, bft, nI_z0, nI_z1, lgc_lt, lgc_gt, lgc_le, lgc_ge, lgc_eq, not_true_eq_false, not_false_eq_true, Bool.not_eq_true, Bool.not_eq_false, reduceCtorEq, hL2, hlen, Nat.le_refl]
theorem c75 (hL : LdS z l) (hD : RDe B z l da v) {a b : Int32} : ZC zG (d) 75 [.ref l, .int a, .int b] (z) Q = Q (.inl (some (.int (sGreat v a b (v 7))))) z := by
  have hL2 := hL
  unfold LdS at hL2
  have hlen := hD.1
  have h6 := hD.2.1
  have e : ∀ k, k < v 7 → ZW zG (d) 75 5 [.ref l, .int a, .int b, .int (sGreat v a b k), .int (nI k)] [] (z) Q = ZW zG (d) 75 5 [.ref l, .int a, .int b, .int (sGreat v a b (k + 1)), .int (nI (k + 1))] [] (z) Q := by
    intro k hk
    obtain ⟨f1, f2, f3, f4, f5, f6, f7⟩ := RDe_f hD hk
    refine s75_5.trans ?_
    have h1 : ¬ v 7 ≤ k := by omega
    simp (disch := first | omega | assumption) only [s75_0, s75_1, s75_2, s75_3, s75_7, s75_8, s75_11, s75_16, s75_19, s75_20, s75_23, s75_25, s75_30, s75_33, s75_36, s75_37, s75_40, s75_41, s75_44, s75_46, s75_51, s75_54, s75_57, s75_58, s75_61, s75_62, s75_63, s75_66, s75_68, s75_73, s75_76, s75_79, s75_82, s75_83, s75_86, s75_89, s75_90, zcs_0, zcs_1, zcs_2, zcs_3, zcs_4, zcs_5, zcs_6, zcs_7, znl_i, znl_r, znl_n, Bool.and_true, Bool.true_and, zk_v, zk_n, zk_x, zir_r, zir_n, zclr_i, zclr_r, zclr_n, zclr_d, zclr_l, true_and, and_true, and_self, if_true, if_false, reduceIte, nI_add, pk_mul, zin_ok, zx_nI, nI_lt2, nI_le2, nI_eq2, nI_l0, nI_g0, nI_q0, nI_p0, nI_n0, nI_m1, Nat.add_zero, Nat.zero_add, Nat.reduceAdd, Nat.reduceMul, true_or, or_true, znar_50, bI_0, bI_1, bI_z, bft, nI_z0, nI_z1, lgc_lt, lgc_gt, lgc_le, lgc_ge, lgc_eq, not_true_eq_false, not_false_eq_true, Bool.not_eq_true, Bool.not_eq_false, reduceCtorEq, hL2, hlen, f1, f2, f3, f4, f5, f6, f7, h1]
    by_cases h : nI (v (1880 + 5 * k)) = a
    · by_cases h2 : nI (v (1880 + 5 * k + 1)) = b
      · simp [h, h2, sGreat]
      · simp [h, h2, sGreat]
    · simp [h, sGreat]
  simp (disch := first | omega | assumption) only [e75, s75_0, s75_1, s75_2, s75_3, s75_7, s75_8, s75_11, s75_16, s75_19, s75_20, s75_23, s75_25, s75_30, s75_33, s75_36, s75_37, s75_40, s75_41, s75_44, s75_46, s75_51, s75_54, s75_57, s75_58, s75_61, s75_62, s75_63, s75_66, s75_68, s75_73, s75_76, s75_79, s75_82, s75_83, s75_86, s75_89, s75_90, zcs_0, zcs_1, zcs_2, zcs_3, zcs_4, zcs_5, zcs_6, zcs_7, znl_i, znl_r, znl_n, Bool.and_true, Bool.true_and, zk_v, zk_n, zk_x, zir_r, zir_n, zclr_i, zclr_r, zclr_n, zclr_d, zclr_l, true_and, and_true, and_self, if_true, if_false, reduceIte, nI_add, pk_mul, zin_ok, zx_nI, nI_lt2, nI_le2, nI_eq2, nI_l0, nI_g0, nI_q0, nI_p0, nI_n0, nI_m1, Nat.add_zero, Nat.zero_add, Nat.reduceAdd, Nat.reduceMul, true_or, or_true, znar_50, bI_0, bI_1, bI_z, bft, nI_z0, nI_z1, lgc_lt, lgc_gt, lgc_le, lgc_ge, lgc_eq, not_true_eq_false, not_false_eq_true, Bool.not_eq_true, Bool.not_eq_false, reduceCtorEq, hL2, hlen]
  refine Eq.trans (zl_up (P := fun k => ZW zG (d) 75 5 [.ref l, .int a, .int b, .int (sGreat v a b k), .int (nI k)] [] (z) Q) (v 7) e) ?_
  refine s75_5.trans ?_
  simp (disch := first | omega | assumption) only [s75_0, s75_1, s75_2, s75_3, s75_7, s75_8, s75_11, s75_16, s75_19, s75_20, s75_23, s75_25, s75_30, s75_33, s75_36, s75_37, s75_40, s75_41, s75_44, s75_46, s75_51, s75_54, s75_57, s75_58, s75_61, s75_62, s75_63, s75_66, s75_68, s75_73, s75_76, s75_79, s75_82, s75_83, s75_86, s75_89, s75_90, zcs_0, zcs_1, zcs_2, zcs_3, zcs_4, zcs_5, zcs_6, zcs_7, znl_i, znl_r, znl_n, Bool.and_true, Bool.true_and, zk_v, zk_n, zk_x, zir_r, zir_n, zclr_i, zclr_r, zclr_n, zclr_d, zclr_l, true_and, and_true, and_self, if_true, if_false, reduceIte, nI_add, pk_mul, zin_ok, zx_nI, nI_lt2, nI_le2, nI_eq2, nI_l0, nI_g0, nI_q0, nI_p0, nI_n0, nI_m1, Nat.add_zero, Nat.zero_add, Nat.reduceAdd, Nat.reduceMul, true_or, or_true, znar_50, bI_0, bI_1, bI_z, bft, nI_z0, nI_z1, lgc_lt, lgc_gt, lgc_le, lgc_ge, lgc_eq, not_true_eq_false, not_false_eq_true, Bool.not_eq_true, Bool.not_eq_false, reduceCtorEq, hL2, hlen, Nat.le_refl]
theorem c76 (hL : LdS z l) (hD : RDe B z l da v) {a b : Int32} : ZC zG (d) 76 [.ref l, .int a, .int b] (z) Q = Q (.inl (some (.int (nI (sWorth v a b (v 7)))))) z := by
  have hL2 := hL
  unfold LdS at hL2
  have hlen := hD.1
  have h6 := hD.2.1
  have e : ∀ k, k < v 7 → ZW zG (d) 76 5 [.ref l, .int a, .int b, .int (nI (sWorth v a b k)), .int (nI k)] [] (z) Q = ZW zG (d) 76 5 [.ref l, .int a, .int b, .int (nI (sWorth v a b (k + 1))), .int (nI (k + 1))] [] (z) Q := by
    intro k hk
    obtain ⟨f1, f2, f3, f4, f5, f6, f7⟩ := RDe_f hD hk
    refine s76_5.trans ?_
    have h1 : ¬ v 7 ≤ k := by omega
    simp (disch := first | omega | assumption) only [s76_0, s76_1, s76_2, s76_3, s76_7, s76_8, s76_11, s76_16, s76_19, s76_20, s76_21, s76_24, s76_26, s76_31, s76_34, s76_37, s76_38, s76_41, s76_42, s76_45, s76_47, s76_52, s76_55, s76_58, s76_59, s76_62, s76_63, s76_66, s76_68, s76_73, s76_76, s76_79, s76_80, s76_81, s76_84, s76_85, s76_86, s76_87, s76_90, s76_93, s76_94, zcs_0, zcs_1, zcs_2, zcs_3, zcs_4, zcs_5, zcs_6, zcs_7, znl_i, znl_r, znl_n, Bool.and_true, Bool.true_and, zk_v, zk_n, zk_x, zir_r, zir_n, zclr_i, zclr_r, zclr_n, zclr_d, zclr_l, true_and, and_true, and_self, if_true, if_false, reduceIte, nI_add, pk_mul, zin_ok, zx_nI, nI_lt2, nI_le2, nI_eq2, nI_l0, nI_g0, nI_q0, nI_p0, nI_n0, nI_m1, Nat.add_zero, Nat.zero_add, Nat.reduceAdd, Nat.reduceMul, true_or, or_true, znar_50, bI_0, bI_1, bI_z, bft, nI_z0, nI_z1, lgc_lt, lgc_gt, lgc_le, lgc_ge, lgc_eq, not_true_eq_false, not_false_eq_true, Bool.not_eq_true, Bool.not_eq_false, reduceCtorEq, hL2, hlen, f1, f2, f3, f4, f5, f6, f7, h1]
    by_cases h : nI (v (1880 + 5 * k)) = a
    · by_cases h2 : nI (v (1880 + 5 * k + 1)) = b
      · simp [h, h2, sWorth]
      · simp [h, h2, sWorth]
    · simp [h, sWorth]
  simp (disch := first | omega | assumption) only [e76, s76_0, s76_1, s76_2, s76_3, s76_7, s76_8, s76_11, s76_16, s76_19, s76_20, s76_21, s76_24, s76_26, s76_31, s76_34, s76_37, s76_38, s76_41, s76_42, s76_45, s76_47, s76_52, s76_55, s76_58, s76_59, s76_62, s76_63, s76_66, s76_68, s76_73, s76_76, s76_79, s76_80, s76_81, s76_84, s76_85, s76_86, s76_87, s76_90, s76_93, s76_94, zcs_0, zcs_1, zcs_2, zcs_3, zcs_4, zcs_5, zcs_6, zcs_7, znl_i, znl_r, znl_n, Bool.and_true, Bool.true_and, zk_v, zk_n, zk_x, zir_r, zir_n, zclr_i, zclr_r, zclr_n, zclr_d, zclr_l, true_and, and_true, and_self, if_true, if_false, reduceIte, nI_add, pk_mul, zin_ok, zx_nI, nI_lt2, nI_le2, nI_eq2, nI_l0, nI_g0, nI_q0, nI_p0, nI_n0, nI_m1, Nat.add_zero, Nat.zero_add, Nat.reduceAdd, Nat.reduceMul, true_or, or_true, znar_50, bI_0, bI_1, bI_z, bft, nI_z0, nI_z1, lgc_lt, lgc_gt, lgc_le, lgc_ge, lgc_eq, not_true_eq_false, not_false_eq_true, Bool.not_eq_true, Bool.not_eq_false, reduceCtorEq, hL2, hlen]
  refine Eq.trans (zl_up (P := fun k => ZW zG (d) 76 5 [.ref l, .int a, .int b, .int (nI (sWorth v a b k)), .int (nI k)] [] (z) Q) (v 7) e) ?_
  refine s76_5.trans ?_
  simp (disch := first | omega | assumption) only [s76_0, s76_1, s76_2, s76_3, s76_7, s76_8, s76_11, s76_16, s76_19, s76_20, s76_21, s76_24, s76_26, s76_31, s76_34, s76_37, s76_38, s76_41, s76_42, s76_45, s76_47, s76_52, s76_55, s76_58, s76_59, s76_62, s76_63, s76_66, s76_68, s76_73, s76_76, s76_79, s76_80, s76_81, s76_84, s76_85, s76_86, s76_87, s76_90, s76_93, s76_94, zcs_0, zcs_1, zcs_2, zcs_3, zcs_4, zcs_5, zcs_6, zcs_7, znl_i, znl_r, znl_n, Bool.and_true, Bool.true_and, zk_v, zk_n, zk_x, zir_r, zir_n, zclr_i, zclr_r, zclr_n, zclr_d, zclr_l, true_and, and_true, and_self, if_true, if_false, reduceIte, nI_add, pk_mul, zin_ok, zx_nI, nI_lt2, nI_le2, nI_eq2, nI_l0, nI_g0, nI_q0, nI_p0, nI_n0, nI_m1, Nat.add_zero, Nat.zero_add, Nat.reduceAdd, Nat.reduceMul, true_or, or_true, znar_50, bI_0, bI_1, bI_z, bft, nI_z0, nI_z1, lgc_lt, lgc_gt, lgc_le, lgc_ge, lgc_eq, not_true_eq_false, not_false_eq_true, Bool.not_eq_true, Bool.not_eq_false, reduceCtorEq, hL2, hlen, Nat.le_refl]
theorem c72 (hL : LdS z l) (hD : RDe B z l da v) {a b c : Int32} : ZC zG (d) 72 [.ref l, .int a, .int b, .int c] (z) Q = Q (.inl (some (.int (bI (sOpenN v a b c (v 7)))))) z := by
  have hL2 := hL
  unfold LdS at hL2
  have hlen := hD.1
  have h6 := hD.2.1
  have e : ∀ k, k < v 7 → ZW zG (d) 72 6 [.ref l, .int a, .int b, .int c, .int (bI (sOpenN v a b c k)), .int (nI k)] [] (z) Q = ZW zG (d) 72 6 [.ref l, .int a, .int b, .int c, .int (bI (sOpenN v a b c (k + 1))), .int (nI (k + 1))] [] (z) Q := by
    intro k hk
    obtain ⟨f1, f2, f3, f4, f5, f6, f7⟩ := RDe_f hD hk
    refine s72_6.trans ?_
    have h1 : ¬ v 7 ≤ k := by omega
    simp (disch := first | omega | assumption) only [s72_0, s72_1, s72_3, s72_4, s72_8, s72_9, s72_12, s72_17, s72_20, s72_22, s72_25, s72_26, s72_29, s72_31, s72_36, s72_39, s72_42, s72_43, s72_46, s72_47, s72_50, s72_52, s72_57, s72_60, s72_63, s72_64, s72_67, s72_68, s72_71, s72_73, s72_78, s72_81, s72_84, s72_85, s72_88, s72_89, s72_92, s72_93, s72_95, s72_98, s72_101, s72_103, zcs_0, zcs_1, zcs_2, zcs_3, zcs_4, zcs_5, zcs_6, zcs_7, znl_i, znl_r, znl_n, Bool.and_true, Bool.true_and, zk_v, zk_n, zk_x, zir_r, zir_n, zclr_i, zclr_r, zclr_n, zclr_d, zclr_l, true_and, and_true, and_self, if_true, if_false, reduceIte, nI_add, pk_mul, zin_ok, zx_nI, nI_lt2, nI_le2, nI_eq2, nI_l0, nI_g0, nI_q0, nI_p0, nI_n0, nI_m1, Nat.add_zero, Nat.zero_add, Nat.reduceAdd, Nat.reduceMul, true_or, or_true, znar_50, bI_0, bI_1, bI_z, bft, nI_z0, nI_z1, lgc_lt, lgc_gt, lgc_le, lgc_ge, lgc_eq, not_true_eq_false, not_false_eq_true, Bool.not_eq_true, Bool.not_eq_false, reduceCtorEq, hL2, hlen, f1, f2, f3, f4, f5, f6, f7, h1]
    have hs : sOpenN v a b c (k + 1) = (sOpenN v a b c k || (decide (nI (v (1880 + 5 * k)) = a) && decide (nI (v (1880 + 5 * k + 1)) = b) && decide (nI (v (1880 + 5 * k + 2)) = c))) := rfl
    rw [hs]
    cases sOpenN v a b c k
    · by_cases h : nI (v (1880 + 5 * k)) = a
      · by_cases h2 : nI (v (1880 + 5 * k + 1)) = b
        · by_cases h3 : nI (v (1880 + 5 * k + 2)) = c
          · simp [h, h2, h3, bI, nI_one]
          · simp [h, h2, h3, bI, nI_0]
        · simp [h, h2, bI, nI_0]
      · simp [h, bI, nI_0]
    · simp [bI, nI_one]
  simp (disch := first | omega | assumption) only [e72, s72_0, s72_1, s72_3, s72_4, s72_8, s72_9, s72_12, s72_17, s72_20, s72_22, s72_25, s72_26, s72_29, s72_31, s72_36, s72_39, s72_42, s72_43, s72_46, s72_47, s72_50, s72_52, s72_57, s72_60, s72_63, s72_64, s72_67, s72_68, s72_71, s72_73, s72_78, s72_81, s72_84, s72_85, s72_88, s72_89, s72_92, s72_93, s72_95, s72_98, s72_101, s72_103, zcs_0, zcs_1, zcs_2, zcs_3, zcs_4, zcs_5, zcs_6, zcs_7, znl_i, znl_r, znl_n, Bool.and_true, Bool.true_and, zk_v, zk_n, zk_x, zir_r, zir_n, zclr_i, zclr_r, zclr_n, zclr_d, zclr_l, true_and, and_true, and_self, if_true, if_false, reduceIte, nI_add, pk_mul, zin_ok, zx_nI, nI_lt2, nI_le2, nI_eq2, nI_l0, nI_g0, nI_q0, nI_p0, nI_n0, nI_m1, Nat.add_zero, Nat.zero_add, Nat.reduceAdd, Nat.reduceMul, true_or, or_true, znar_50, bI_0, bI_1, bI_z, bft, nI_z0, nI_z1, lgc_lt, lgc_gt, lgc_le, lgc_ge, lgc_eq, not_true_eq_false, not_false_eq_true, Bool.not_eq_true, Bool.not_eq_false, reduceCtorEq, hL2, hlen]
  refine Eq.trans (zl_up (P := fun k => ZW zG (d) 72 6 [.ref l, .int a, .int b, .int c, .int (bI (sOpenN v a b c k)), .int (nI k)] [] (z) Q) (v 7) e) ?_
  refine s72_6.trans ?_
  simp (disch := first | omega | assumption) only [s72_0, s72_1, s72_3, s72_4, s72_8, s72_9, s72_12, s72_17, s72_20, s72_22, s72_25, s72_26, s72_29, s72_31, s72_36, s72_39, s72_42, s72_43, s72_46, s72_47, s72_50, s72_52, s72_57, s72_60, s72_63, s72_64, s72_67, s72_68, s72_71, s72_73, s72_78, s72_81, s72_84, s72_85, s72_88, s72_89, s72_92, s72_93, s72_95, s72_98, s72_101, s72_103, zcs_0, zcs_1, zcs_2, zcs_3, zcs_4, zcs_5, zcs_6, zcs_7, znl_i, znl_r, znl_n, Bool.and_true, Bool.true_and, zk_v, zk_n, zk_x, zir_r, zir_n, zclr_i, zclr_r, zclr_n, zclr_d, zclr_l, true_and, and_true, and_self, if_true, if_false, reduceIte, nI_add, pk_mul, zin_ok, zx_nI, nI_lt2, nI_le2, nI_eq2, nI_l0, nI_g0, nI_q0, nI_p0, nI_n0, nI_m1, Nat.add_zero, Nat.zero_add, Nat.reduceAdd, Nat.reduceMul, true_or, or_true, znar_50, bI_0, bI_1, bI_z, bft, nI_z0, nI_z1, lgc_lt, lgc_gt, lgc_le, lgc_ge, lgc_eq, not_true_eq_false, not_false_eq_true, Bool.not_eq_true, Bool.not_eq_false, reduceCtorEq, hL2, hlen, Nat.le_refl]
end CL
