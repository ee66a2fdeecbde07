set_option maxRecDepth 100000
/-! the model: what is done -/
def allN (p : Nat → Bool) : Nat → Bool
  | 0 => true
  | n + 1 => allN p n && p n
theorem allN_t (p : Nat → Bool) : ∀ n, (allN p n = true) ↔ ∀ i, i < n → p i = true
  | 0 => by simp [allN]
  | n + 1 => by
    unfold allN
    rw [Bool.and_eq_true, allN_t p n]
    constructor
    · rintro ⟨h, h2⟩ i hi
      by_cases e : i = n
      · subst e; exact h2
      · exact h i (by omega)
    · intro h
      exact ⟨fun i hi => h i (by omega), h n (by omega)⟩
theorem allN_f {p : Nat → Bool} {k n : Nat} (h : k ≤ n) (hf : allN p k = false) : allN p n = false := by
  rw [← Bool.not_eq_true, allN_t] at hf ⊢
  exact fun h2 => hf (fun i hi => h2 i (by omega))
def findF (q : Nat → Bool) : Nat → Nat → Nat
  | 0, k => k
  | m + 1, k => if q k = true then k else findF q m (k + 1)
/-- the first one below n; n: none -/
def findN (q : Nat → Bool) (n : Nat) : Nat := findF q n 0
theorem findF_le (q : Nat → Bool) : ∀ m k, k ≤ findF q m k ∧ findF q m k ≤ k + m
  | 0, k => ⟨Nat.le_refl k, Nat.le_refl k⟩
  | m + 1, k => by
    have := findF_le q m (k + 1)
    unfold findF
    split <;> omega
theorem findF_t (q : Nat → Bool) : ∀ m k, findF q m k < k + m → q (findF q m k) = true
  | 0, k => fun h => absurd h (by unfold findF; omega)
  | m + 1, k => by
    unfold findF
    split
    · rename_i h; exact fun _ => h
    · exact fun h => findF_t q m (k + 1) (by omega)
def ptA (r1 r2 n dy kn : Int32) (g : Nat → Int32) : Nat → Int32 := zu1 (zu1 (zu1 (zu1 (zu1 g 0 r1) 1 r2) 2 n) 3 dy) 4 kn
/-- test t holds; L: where the terms of tests lie -/
def tHold (v : Nat → Nat) (pt : Nat → Int32) (L : Nat → List (Nat × Nat)) (t : Nat) : Bool := tVal v pt (L t) (v (274 + 3 * t))
def sLineOK (v : Nat → Nat) (pt : Nat → Int32) (L : Nat → List (Nat × Nat)) (p l : Nat) : Bool := decide (v (154 + 5 * l) = p) && allN (fun j => tHold v pt L (v (154 + 5 * l + 3) + j)) (v (154 + 5 * l + 4))
def sLine (v : Nat → Nat) (pt : Nat → Int32) (L : Nat → List (Nat × Nat)) (p : Nat) : Nat := findN (sLineOK v pt L p) (v 1)
/-- lines, tests and parts are as they may be -/
def cOK (v : Nat → Nat) (L : Nat → List (Nat × Nat)) : Prop :=
  v 1 ≤ 24 ∧ v 2 ≤ 180 ∧ v 3 ≤ 350 ∧ pOK v ∧
  (∀ l, l < v 1 → v (154 + 5 * l) < 4 ∧ v (154 + 5 * l + 1) < 4 ∧ v (154 + 5 * l + 2) < 100 ∧ v (154 + 5 * l + 3) + v (154 + 5 * l + 4) ≤ v 2) ∧
  (∀ t, t < v 2 → tLay v (v (274 + 3 * t + 1) + v (274 + 3 * t + 2)) (L t) (v (274 + 3 * t + 1)) ∧ v (274 + 3 * t + 1) + v (274 + 3 * t + 2) ≤ v 3)
def ptOf (v : Nat → Nat) (a b dy : Nat) (kn : Bool) (g : Nat → Int32) : Nat → Int32 := ptA (nI (v (10 + 9 * a + 2))) (nI (v (10 + 9 * b + 2))) (nI (sDebtsOf v (nI b) (v 7))) (nI dy) (bI kn) g
/-- what a paying makes owed -/
def sAfter (v : Nat → Nat) (pt : Nat → Int32) (L : Nat → List (Nat × Nat)) (a b p dy : Nat) : Nat → Nat :=
  if sLine v pt L p = v 1 then v else if sOwe v b a (v (154 + 5 * sLine v pt L p + 1)) = true then v else sComes v b a (v (154 + 5 * sLine v pt L p + 1)) (min 399 (dy + v (154 + 5 * sLine v pt L p + 2))) dy
theorem sia5 (z : ZH) (r1 r2 n dy kn : Int32) : sia (sia (sia (sia (sia z 142 0 r1) 142 1 r2) 142 2 n) 142 3 dy) 142 4 kn = sIA z 142 (ptA r1 r2 n dy kn (zia z 142)) := by
  conv => lhs; rw [← sIA_self z 142]
  simp only [sIA_sia]
  rfl
section ME
variable {d : Nat} {z : ZH} {Q : ZQ} {v : Nat → Nat} {L : Nat → List (Nat × Nat)}
theorem m161i (hM : MS z) (hv : ∀ i, v i < 2147483648) (hc : cOK v L) {a b p kn dy : Int32} {l : Nat} (hl : l < v 1) : ∀ m k, k + m = v (154 + 5 * l + 4) →
    (allN (fun j => tHold v (zia z 142) L (v (154 + 5 * l + 3) + j)) (v (154 + 5 * l + 4)) = true → ZW zG (d + 3) 161 103 [.ref 135, .int a, .int b, .int p, .int kn, .int dy, .int (nI l), .int (nI (154 + 5 * l)), .int (bI (allN (fun j => tHold v (zia z 142) L (v (154 + 5 * l + 3) + j)) k)), .int (nI k)] [] (sW z v) Q = Q (.inl (some (.int (nI l)))) (sW z v)) ∧
    (allN (fun j => tHold v (zia z 142) L (v (154 + 5 * l + 3) + j)) (v (154 + 5 * l + 4)) = false → ∃ x7 x8 x9, ZW zG (d + 3) 161 103 [.ref 135, .int a, .int b, .int p, .int kn, .int dy, .int (nI l), .int (nI (154 + 5 * l)), .int (bI (allN (fun j => tHold v (zia z 142) L (v (154 + 5 * l + 3) + j)) k)), .int (nI k)] [] (sW z v) Q = ZW zG (d + 3) 161 62 [.ref 135, .int a, .int b, .int p, .int kn, .int dy, .int (nI (l + 1)), x7, x8, x9] [] (sW z v) Q) := by
  have h0 := hM
  unfold MS at h0
  obtain ⟨c1, c2, c3, c4, c5, c6⟩ := hc
  obtain ⟨c51, c52, c53, c54⟩ := c5 l hl
  intro m
  induction m with
  | zero =>
    intro k hk
    have hk2 : k = v (154 + 5 * l + 4) := by omega
    subst hk2
    constructor
    · intro ha
      refine s161_103.trans ?_
      simp (disch := first | omega | exact hM | exact hv _) only [s161_0, s161_1, s161_4, s161_5, s161_6, s161_7, s161_8, s161_11, s161_12, s161_13, s161_16, s161_17, s161_18, s161_19, s161_20, s161_23, s161_24, s161_25, s161_28, s161_29, s161_30, s161_31, s161_34, s161_35, s161_36, s161_39, s161_40, s161_42, s161_43, s161_44, s161_47, s161_48, s161_50, s161_53, s161_54, s161_57, s161_58, s161_59, s161_60, s161_64, s161_65, s161_68, s161_69, s161_70, s161_73, s161_76, s161_77, s161_79, s161_80, s161_81, s161_83, s161_84, s161_87, s161_89, s161_90, s161_91, s161_94, s161_97, s161_98, s161_100, s161_101, s161_105, s161_106, s161_109, s161_111, s161_112, s161_113, s161_114, s161_117, s161_119, s161_122, s161_123, s161_124, s161_127, s161_129, s161_130, s161_131, s161_132, s161_134, s161_135, s161_138, s161_140, s161_143, s161_146, s161_148, s161_151, s161_153, s161_154, s161_157, s161_160, s161_161, zcs_0, zcs_1, zcs_2, zcs_3, zcs_4, zcs_5, zcs_6, zcs_7, znl_i, znl_r, znl_n, Bool.and_true, Bool.true_and, zk_v, zk_n, zk_x, zir_r, zir_n, zclr_i, zclr_r, zclr_n, zclr_d, zclr_l, true_and, and_true, and_self, if_true, if_false, reduceIte, nI_add, pk_mul, zin_ok, zx_nI, nI_lt2, nI_le2, nI_eq2, nI_l0, nI_g0, nI_q0, nI_p0, nI_n0, nI_m1, Nat.add_zero, Nat.zero_add, Nat.reduceAdd, Nat.reduceMul, true_or, or_true, znar_50, bI_0, bI_1, bI_z, bft, nI_z0, nI_z1, lgc_lt, lgc_gt, lgc_le, lgc_ge, lgc_eq, not_true_eq_false, not_false_eq_true, Bool.not_eq_true, Bool.not_eq_false, reduceCtorEq, MS_sW, CS_sW, sW_r, sW_n, sW_w, cls_sW, fi_sW, fr_sW, la_sW, ra_sW, len_sW, ls_sW, own_sW, n_sW, uc_sW, us_sW, sW_sfi, sW_sla, sW_sLA, sW_sls, sW_spay, sW_sia, sW_sIA, ne_eq, cls_sfi, fr_sfi, ia_sfi, la_sfi, ra_sfi, len_sfi, ls_sfi, own_sfi, n_sfi, uc_sfi, us_sfi, cls_sia, fi_sia, fr_sia, la_sia, ra_sia, len_sia, ls_sia, own_sia, n_sia, uc_sia, us_sia, cls_sIA, fi_sIA, fr_sIA, la_sIA, ra_sIA, len_sIA, ls_sIA, own_sIA, n_sIA, uc_sIA, us_sIA, cls_sla, fi_sla, fr_sla, ia_sla, ra_sla, len_sla, ls_sla, own_sla, n_sla, uc_sla, us_sla, cls_sLA, fi_sLA, fr_sLA, ia_sLA, ra_sLA, len_sLA, ls_sLA, own_sLA, n_sLA, uc_sLA, us_sLA, h0, Nat.le_refl, ha]
    · intro ha
      refine ⟨.int (nI (154 + 5 * l)), .int (bI (allN (fun j => tHold v (zia z 142) L (v (154 + 5 * l + 3) + j)) (v (154 + 5 * l + 4)))), .int (nI (v (154 + 5 * l + 4))), s161_103.trans ?_⟩
      simp (disch := first | omega | exact hM | exact hv _) only [s161_0, s161_1, s161_4, s161_5, s161_6, s161_7, s161_8, s161_11, s161_12, s161_13, s161_16, s161_17, s161_18, s161_19, s161_20, s161_23, s161_24, s161_25, s161_28, s161_29, s161_30, s161_31, s161_34, s161_35, s161_36, s161_39, s161_40, s161_42, s161_43, s161_44, s161_47, s161_48, s161_50, s161_53, s161_54, s161_57, s161_58, s161_59, s161_60, s161_64, s161_65, s161_68, s161_69, s161_70, s161_73, s161_76, s161_77, s161_79, s161_80, s161_81, s161_83, s161_84, s161_87, s161_89, s161_90, s161_91, s161_94, s161_97, s161_98, s161_100, s161_101, s161_105, s161_106, s161_109, s161_111, s161_112, s161_113, s161_114, s161_117, s161_119, s161_122, s161_123, s161_124, s161_127, s161_129, s161_130, s161_131, s161_132, s161_134, s161_135, s161_138, s161_140, s161_143, s161_146, s161_148, s161_151, s161_153, s161_154, s161_157, s161_160, s161_161, zcs_0, zcs_1, zcs_2, zcs_3, zcs_4, zcs_5, zcs_6, zcs_7, znl_i, znl_r, znl_n, Bool.and_true, Bool.true_and, zk_v, zk_n, zk_x, zir_r, zir_n, zclr_i, zclr_r, zclr_n, zclr_d, zclr_l, true_and, and_true, and_self, if_true, if_false, reduceIte, nI_add, pk_mul, zin_ok, zx_nI, nI_lt2, nI_le2, nI_eq2, nI_l0, nI_g0, nI_q0, nI_p0, nI_n0, nI_m1, Nat.add_zero, Nat.zero_add, Nat.reduceAdd, Nat.reduceMul, true_or, or_true, znar_50, bI_0, bI_1, bI_z, bft, nI_z0, nI_z1, lgc_lt, lgc_gt, lgc_le, lgc_ge, lgc_eq, not_true_eq_false, not_false_eq_true, Bool.not_eq_true, Bool.not_eq_false, reduceCtorEq, MS_sW, CS_sW, sW_r, sW_n, sW_w, cls_sW, fi_sW, fr_sW, la_sW, ra_sW, len_sW, ls_sW, own_sW, n_sW, uc_sW, us_sW, sW_sfi, sW_sla, sW_sLA, sW_sls, sW_spay, sW_sia, sW_sIA, ne_eq, cls_sfi, fr_sfi, ia_sfi, la_sfi, ra_sfi, len_sfi, ls_sfi, own_sfi, n_sfi, uc_sfi, us_sfi, cls_sia, fi_sia, fr_sia, la_sia, ra_sia, len_sia, ls_sia, own_sia, n_sia, uc_sia, us_sia, cls_sIA, fi_sIA, fr_sIA, la_sIA, ra_sIA, len_sIA, ls_sIA, own_sIA, n_sIA, uc_sIA, us_sIA, cls_sla, fi_sla, fr_sla, ia_sla, ra_sla, len_sla, ls_sla, own_sla, n_sla, uc_sla, us_sla, cls_sLA, fi_sLA, fr_sLA, ia_sLA, ra_sLA, len_sLA, ls_sLA, own_sLA, n_sLA, uc_sLA, us_sLA, h0, Nat.le_refl, ha]
  | succ m ih =>
    intro k hk
    have h1 : ¬ v (154 + 5 * l + 4) ≤ k := by omega
    cases hA : allN (fun j => tHold v (zia z 142) L (v (154 + 5 * l + 3) + j)) k with
    | false =>
      have hF := allN_f (show k ≤ v (154 + 5 * l + 4) by omega) hA
      constructor
      · intro ha
        rw [hF] at ha
        cases ha
      · intro ha
        refine ⟨.int (nI (154 + 5 * l)), .int (bI false), .int (nI k), s161_103.trans ?_⟩
        simp (disch := first | omega | exact hM | exact hv _) only [s161_0, s161_1, s161_4, s161_5, s161_6, s161_7, s161_8, s161_11, s161_12, s161_13, s161_16, s161_17, s161_18, s161_19, s161_20, s161_23, s161_24, s161_25, s161_28, s161_29, s161_30, s161_31, s161_34, s161_35, s161_36, s161_39, s161_40, s161_42, s161_43, s161_44, s161_47, s161_48, s161_50, s161_53, s161_54, s161_57, s161_58, s161_59, s161_60, s161_64, s161_65, s161_68, s161_69, s161_70, s161_73, s161_76, s161_77, s161_79, s161_80, s161_81, s161_83, s161_84, s161_87, s161_89, s161_90, s161_91, s161_94, s161_97, s161_98, s161_100, s161_101, s161_105, s161_106, s161_109, s161_111, s161_112, s161_113, s161_114, s161_117, s161_119, s161_122, s161_123, s161_124, s161_127, s161_129, s161_130, s161_131, s161_132, s161_134, s161_135, s161_138, s161_140, s161_143, s161_146, s161_148, s161_151, s161_153, s161_154, s161_157, s161_160, s161_161, zcs_0, zcs_1, zcs_2, zcs_3, zcs_4, zcs_5, zcs_6, zcs_7, znl_i, znl_r, znl_n, Bool.and_true, Bool.true_and, zk_v, zk_n, zk_x, zir_r, zir_n, zclr_i, zclr_r, zclr_n, zclr_d, zclr_l, true_and, and_true, and_self, if_true, if_false, reduceIte, nI_add, pk_mul, zin_ok, zx_nI, nI_lt2, nI_le2, nI_eq2, nI_l0, nI_g0, nI_q0, nI_p0, nI_n0, nI_m1, Nat.add_zero, Nat.zero_add, Nat.reduceAdd, Nat.reduceMul, true_or, or_true, znar_50, bI_0, bI_1, bI_z, bft, nI_z0, nI_z1, lgc_lt, lgc_gt, lgc_le, lgc_ge, lgc_eq, not_true_eq_false, not_false_eq_true, Bool.not_eq_true, Bool.not_eq_false, reduceCtorEq, MS_sW, CS_sW, sW_r, sW_n, sW_w, cls_sW, fi_sW, fr_sW, la_sW, ra_sW, len_sW, ls_sW, own_sW, n_sW, uc_sW, us_sW, sW_sfi, sW_sla, sW_sLA, sW_sls, sW_spay, sW_sia, sW_sIA, ne_eq, cls_sfi, fr_sfi, ia_sfi, la_sfi, ra_sfi, len_sfi, ls_sfi, own_sfi, n_sfi, uc_sfi, us_sfi, cls_sia, fi_sia, fr_sia, la_sia, ra_sia, len_sia, ls_sia, own_sia, n_sia, uc_sia, us_sia, cls_sIA, fi_sIA, fr_sIA, la_sIA, ra_sIA, len_sIA, ls_sIA, own_sIA, n_sIA, uc_sIA, us_sIA, cls_sla, fi_sla, fr_sla, ia_sla, ra_sla, len_sla, ls_sla, own_sla, n_sla, uc_sla, us_sla, cls_sLA, fi_sLA, fr_sLA, ia_sLA, ra_sLA, len_sLA, ls_sLA, own_sLA, n_sLA, uc_sLA, us_sLA, h0, h1]
    | true =>
      have hst : allN (fun j => tHold v (zia z 142) L (v (154 + 5 * l + 3) + j)) (k + 1) = tHold v (zia z 142) L (v (154 + 5 * l + 3) + k) := by
        conv => lhs; unfold allN
        rw [hA, Bool.true_and]
      obtain ⟨c61, c62⟩ := c6 (v (154 + 5 * l + 3) + k) (by omega)
      have hstep : ZW zG (d + 3) 161 103 [.ref 135, .int a, .int b, .int p, .int kn, .int dy, .int (nI l), .int (nI (154 + 5 * l)), .int (bI true), .int (nI k)] [] (sW z v) Q = ZW zG (d + 3) 161 103 [.ref 135, .int a, .int b, .int p, .int kn, .int dy, .int (nI l), .int (nI (154 + 5 * l)), .int (bI (allN (fun j => tHold v (zia z 142) L (v (154 + 5 * l + 3) + j)) (k + 1))), .int (nI (k + 1))] [] (sW z v) Q := by
        refine s161_103.trans ?_
        have hm := m163 (d := d) (z := z) (Q := zk zG (d + 3) 161 none 138 [.ref 135, .int a, .int b, .int p, .int kn, .int dy, .int (nI l), .int (nI (154 + 5 * l)), .int (bI true), .int (nI k)] [] Q) hM hv c4 c2 c3 (t := v (154 + 5 * l + 3) + k) (by omega) c61 c62
        simp (disch := first | omega | exact hM | exact hv _) only [s161_0, s161_1, s161_4, s161_5, s161_6, s161_7, s161_8, s161_11, s161_12, s161_13, s161_16, s161_17, s161_18, s161_19, s161_20, s161_23, s161_24, s161_25, s161_28, s161_29, s161_30, s161_31, s161_34, s161_35, s161_36, s161_39, s161_40, s161_42, s161_43, s161_44, s161_47, s161_48, s161_50, s161_53, s161_54, s161_57, s161_58, s161_59, s161_60, s161_64, s161_65, s161_68, s161_69, s161_70, s161_73, s161_76, s161_77, s161_79, s161_80, s161_81, s161_83, s161_84, s161_87, s161_89, s161_90, s161_91, s161_94, s161_97, s161_98, s161_100, s161_101, s161_105, s161_106, s161_109, s161_111, s161_112, s161_113, s161_114, s161_117, s161_119, s161_122, s161_123, s161_124, s161_127, s161_129, s161_130, s161_131, s161_132, s161_134, s161_135, s161_138, s161_140, s161_143, s161_146, s161_148, s161_151, s161_153, s161_154, s161_157, s161_160, s161_161, zcs_0, zcs_1, zcs_2, zcs_3, zcs_4, zcs_5, zcs_6, zcs_7, znl_i, znl_r, znl_n, Bool.and_true, Bool.true_and, zk_v, zk_n, zk_x, zir_r, zir_n, zclr_i, zclr_r, zclr_n, zclr_d, zclr_l, true_and, and_true, and_self, if_true, if_false, reduceIte, nI_add, pk_mul, zin_ok, zx_nI, nI_lt2, nI_le2, nI_eq2, nI_l0, nI_g0, nI_q0, nI_p0, nI_n0, nI_m1, Nat.add_zero, Nat.zero_add, Nat.reduceAdd, Nat.reduceMul, true_or, or_true, znar_50, bI_0, bI_1, bI_z, bft, nI_z0, nI_z1, lgc_lt, lgc_gt, lgc_le, lgc_ge, lgc_eq, not_true_eq_false, not_false_eq_true, Bool.not_eq_true, Bool.not_eq_false, reduceCtorEq, MS_sW, CS_sW, sW_r, sW_n, sW_w, cls_sW, fi_sW, fr_sW, la_sW, ra_sW, len_sW, ls_sW, own_sW, n_sW, uc_sW, us_sW, sW_sfi, sW_sla, sW_sLA, sW_sls, sW_spay, sW_sia, sW_sIA, ne_eq, cls_sfi, fr_sfi, ia_sfi, la_sfi, ra_sfi, len_sfi, ls_sfi, own_sfi, n_sfi, uc_sfi, us_sfi, cls_sia, fi_sia, fr_sia, la_sia, ra_sia, len_sia, ls_sia, own_sia, n_sia, uc_sia, us_sia, cls_sIA, fi_sIA, fr_sIA, la_sIA, ra_sIA, len_sIA, ls_sIA, own_sIA, n_sIA, uc_sIA, us_sIA, cls_sla, fi_sla, fr_sla, ia_sla, ra_sla, len_sla, ls_sla, own_sla, n_sla, uc_sla, us_sla, cls_sLA, fi_sLA, fr_sLA, ia_sLA, ra_sLA, len_sLA, ls_sLA, own_sLA, n_sLA, uc_sLA, us_sLA, h0, h1, hm]
        rw [hst]
        rfl
      have := ih (k + 1) (by omega)
      rw [hstep]
      exact this
theorem m161 (hM : MS z) (hv : ∀ i, v i < 2147483648) (h7 : v 7 ≤ 960) (hc : cOK v L) {a b p dy : Nat} {kn : Bool} (ha : a < 16) (hb : b < 16) (hp : p < 4) (pt : Nat → Int32) (hpt : pt = ptOf v a b dy kn (zia z 142)) :
    ZC zG (d + 3) 161 [.ref 135, .int (nI a), .int (nI b), .int (nI p), .int (bI kn), .int (nI dy)] (sW z v) Q = Q (.inl (some (.int (if sLine v pt L p = v 1 then -1 else nI (sLine v pt L p))))) (sW (sIA z 142 pt) v) := by
  have key : ∀ (z : ZH) (hM : MS z) (m k : Nat) (x7 x8 x9 : Value), k + m = v 1 → findF (sLineOK v (zia z 142) L p) m k = sLine v (zia z 142) L p → ZW zG (d + 3) 161 62 [.ref 135, .int (nI a), .int (nI b), .int (nI p), .int (bI kn), .int (nI dy), .int (nI k), x7, x8, x9] [] (sW z v) Q = Q (.inl (some (.int (if sLine v (zia z 142) L p = v 1 then -1 else nI (sLine v (zia z 142) L p))))) (sW z v) := by
    intro z hM m
    have h0 := hM
    unfold MS at h0
    have hc' := hc
    obtain ⟨c1, c2, c3, c4, c5, c6⟩ := hc'
    induction m with
    | zero =>
      intro k x7 x8 x9 hk hf
      have hk2 : k = v 1 := by omega
      subst hk2
      refine s161_62.trans ?_
      simp (disch := first | omega | exact hM | exact hv _) only [s161_0, s161_1, s161_4, s161_5, s161_6, s161_7, s161_8, s161_11, s161_12, s161_13, s161_16, s161_17, s161_18, s161_19, s161_20, s161_23, s161_24, s161_25, s161_28, s161_29, s161_30, s161_31, s161_34, s161_35, s161_36, s161_39, s161_40, s161_42, s161_43, s161_44, s161_47, s161_48, s161_50, s161_53, s161_54, s161_57, s161_58, s161_59, s161_60, s161_64, s161_65, s161_68, s161_69, s161_70, s161_73, s161_76, s161_77, s161_79, s161_80, s161_81, s161_83, s161_84, s161_87, s161_89, s161_90, s161_91, s161_94, s161_97, s161_98, s161_100, s161_101, s161_105, s161_106, s161_109, s161_111, s161_112, s161_113, s161_114, s161_117, s161_119, s161_122, s161_123, s161_124, s161_127, s161_129, s161_130, s161_131, s161_132, s161_134, s161_135, s161_138, s161_140, s161_143, s161_146, s161_148, s161_151, s161_153, s161_154, s161_157, s161_160, s161_161, zcs_0, zcs_1, zcs_2, zcs_3, zcs_4, zcs_5, zcs_6, zcs_7, znl_i, znl_r, znl_n, Bool.and_true, Bool.true_and, zk_v, zk_n, zk_x, zir_r, zir_n, zclr_i, zclr_r, zclr_n, zclr_d, zclr_l, true_and, and_true, and_self, if_true, if_false, reduceIte, nI_add, pk_mul, zin_ok, zx_nI, nI_lt2, nI_le2, nI_eq2, nI_l0, nI_g0, nI_q0, nI_p0, nI_n0, nI_m1, Nat.add_zero, Nat.zero_add, Nat.reduceAdd, Nat.reduceMul, true_or, or_true, znar_50, bI_0, bI_1, bI_z, bft, nI_z0, nI_z1, lgc_lt, lgc_gt, lgc_le, lgc_ge, lgc_eq, not_true_eq_false, not_false_eq_true, Bool.not_eq_true, Bool.not_eq_false, reduceCtorEq, MS_sW, CS_sW, sW_r, sW_n, sW_w, cls_sW, fi_sW, fr_sW, la_sW, ra_sW, len_sW, ls_sW, own_sW, n_sW, uc_sW, us_sW, sW_sfi, sW_sla, sW_sLA, sW_sls, sW_spay, sW_sia, sW_sIA, ne_eq, cls_sfi, fr_sfi, ia_sfi, la_sfi, ra_sfi, len_sfi, ls_sfi, own_sfi, n_sfi, uc_sfi, us_sfi, cls_sia, fi_sia, fr_sia, la_sia, ra_sia, len_sia, ls_sia, own_sia, n_sia, uc_sia, us_sia, cls_sIA, fi_sIA, fr_sIA, la_sIA, ra_sIA, len_sIA, ls_sIA, own_sIA, n_sIA, uc_sIA, us_sIA, cls_sla, fi_sla, fr_sla, ia_sla, ra_sla, len_sla, ls_sla, own_sla, n_sla, uc_sla, us_sla, cls_sLA, fi_sLA, fr_sLA, ia_sLA, ra_sLA, len_sLA, ls_sLA, own_sLA, n_sLA, uc_sLA, us_sLA, h0, Nat.le_refl]
      have hf2 : v 1 = sLine v (zia z 142) L p := hf
      rw [← hf2, if_pos rfl]
    | succ m ih =>
      intro k x7 x8 x9 hk hf
      have h1 : ¬ v 1 ≤ k := by omega
      have hfl : findF (sLineOK v (zia z 142) L p) (m + 1) k = if sLineOK v (zia z 142) L p k = true then k else findF (sLineOK v (zia z 142) L p) m (k + 1) := rfl
      rw [hfl] at hf
      refine s161_62.trans ?_
      obtain ⟨c51, c52, c53, c54⟩ := c5 k (by omega)
      by_cases hp1 : v (154 + 5 * k) = p
      · simp (disch := first | omega | exact hM | exact hv _) only [s161_64, s161_65, s161_68, s161_69, s161_70, s161_73, s161_76, s161_77, s161_79, s161_80, s161_81, s161_83, s161_84, s161_87, s161_89, s161_90, s161_91, s161_94, s161_97, s161_98, s161_100, s161_101, zcs_0, zcs_1, zcs_2, zcs_3, zcs_4, zcs_5, zcs_6, zcs_7, znl_i, znl_r, znl_n, Bool.and_true, Bool.true_and, zk_v, zk_n, zk_x, zir_r, zir_n, zclr_i, zclr_r, zclr_n, zclr_d, zclr_l, true_and, and_true, and_self, if_true, if_false, reduceIte, nI_add, pk_mul, zin_ok, zx_nI, nI_lt2, nI_le2, nI_eq2, nI_l0, nI_g0, nI_q0, nI_p0, nI_n0, nI_m1, Nat.add_zero, Nat.zero_add, Nat.reduceAdd, Nat.reduceMul, true_or, or_true, znar_50, bI_0, bI_1, bI_z, bft, nI_z0, nI_z1, lgc_lt, lgc_gt, lgc_le, lgc_ge, lgc_eq, not_true_eq_false, not_false_eq_true, Bool.not_eq_true, Bool.not_eq_false, reduceCtorEq, MS_sW, CS_sW, sW_r, sW_n, sW_w, cls_sW, fi_sW, fr_sW, la_sW, ra_sW, len_sW, ls_sW, own_sW, n_sW, uc_sW, us_sW, sW_sfi, sW_sla, sW_sLA, sW_sls, sW_spay, sW_sia, sW_sIA, ne_eq, cls_sfi, fr_sfi, ia_sfi, la_sfi, ra_sfi, len_sfi, ls_sfi, own_sfi, n_sfi, uc_sfi, us_sfi, cls_sia, fi_sia, fr_sia, la_sia, ra_sia, len_sia, ls_sia, own_sia, n_sia, uc_sia, us_sia, cls_sIA, fi_sIA, fr_sIA, la_sIA, ra_sIA, len_sIA, ls_sIA, own_sIA, n_sIA, uc_sIA, us_sIA, cls_sla, fi_sla, fr_sla, ia_sla, ra_sla, len_sla, ls_sla, own_sla, n_sla, uc_sla, us_sla, cls_sLA, fi_sLA, fr_sLA, ia_sLA, ra_sLA, len_sLA, ls_sLA, own_sLA, n_sLA, uc_sLA, us_sLA, h0, h1, hp1]
        obtain ⟨i1, i2⟩ := m161i (Q := Q) (d := d) hM hv hc (a := nI a) (b := nI b) (p := nI p) (kn := bI kn) (dy := nI dy) (l := k) (by omega) (v (154 + 5 * k + 4)) 0 (by omega)
        cases hA : allN (fun j => tHold v (zia z 142) L (v (154 + 5 * k + 3) + j)) (v (154 + 5 * k + 4)) with
        | true =>
          have hok : sLineOK v (zia z 142) L p k = true := by
            unfold sLineOK
            rw [hA, Bool.and_true]
            exact decide_eq_true hp1
          rw [if_pos hok] at hf
          refine (i1 hA).trans ?_
          rw [← hf, if_neg (by omega)]
        | false =>
          have hok : ¬ sLineOK v (zia z 142) L p k = true := by
            unfold sLineOK
            rw [hA, Bool.and_false]
            exact fun h => by cases h
          rw [if_neg hok] at hf
          obtain ⟨y7, y8, y9, hy⟩ := i2 hA
          refine hy.trans ?_
          exact ih (k + 1) _ _ _ (by omega) hf
      · have hok : ¬ sLineOK v (zia z 142) L p k = true := by
          unfold sLineOK
          rw [decide_eq_false hp1, Bool.false_and]
          exact fun h => by cases h
        rw [if_neg hok] at hf
        simp (disch := first | omega | exact hM | exact hv _) only [s161_0, s161_1, s161_4, s161_5, s161_6, s161_7, s161_8, s161_11, s161_12, s161_13, s161_16, s161_17, s161_18, s161_19, s161_20, s161_23, s161_24, s161_25, s161_28, s161_29, s161_30, s161_31, s161_34, s161_35, s161_36, s161_39, s161_40, s161_42, s161_43, s161_44, s161_47, s161_48, s161_50, s161_53, s161_54, s161_57, s161_58, s161_59, s161_60, s161_64, s161_65, s161_68, s161_69, s161_70, s161_73, s161_76, s161_77, s161_79, s161_80, s161_81, s161_83, s161_84, s161_87, s161_89, s161_90, s161_91, s161_94, s161_97, s161_98, s161_100, s161_101, s161_105, s161_106, s161_109, s161_111, s161_112, s161_113, s161_114, s161_117, s161_119, s161_122, s161_123, s161_124, s161_127, s161_129, s161_130, s161_131, s161_132, s161_134, s161_135, s161_138, s161_140, s161_143, s161_146, s161_148, s161_151, s161_153, s161_154, s161_157, s161_160, s161_161, zcs_0, zcs_1, zcs_2, zcs_3, zcs_4, zcs_5, zcs_6, zcs_7, znl_i, znl_r, znl_n, Bool.and_true, Bool.true_and, zk_v, zk_n, zk_x, zir_r, zir_n, zclr_i, zclr_r, zclr_n, zclr_d, zclr_l, true_and, and_true, and_self, if_true, if_false, reduceIte, nI_add, pk_mul, zin_ok, zx_nI, nI_lt2, nI_le2, nI_eq2, nI_l0, nI_g0, nI_q0, nI_p0, nI_n0, nI_m1, Nat.add_zero, Nat.zero_add, Nat.reduceAdd, Nat.reduceMul, true_or, or_true, znar_50, bI_0, bI_1, bI_z, bft, nI_z0, nI_z1, lgc_lt, lgc_gt, lgc_le, lgc_ge, lgc_eq, not_true_eq_false, not_false_eq_true, Bool.not_eq_true, Bool.not_eq_false, reduceCtorEq, MS_sW, CS_sW, sW_r, sW_n, sW_w, cls_sW, fi_sW, fr_sW, la_sW, ra_sW, len_sW, ls_sW, own_sW, n_sW, uc_sW, us_sW, sW_sfi, sW_sla, sW_sLA, sW_sls, sW_spay, sW_sia, sW_sIA, ne_eq, cls_sfi, fr_sfi, ia_sfi, la_sfi, ra_sfi, len_sfi, ls_sfi, own_sfi, n_sfi, uc_sfi, us_sfi, cls_sia, fi_sia, fr_sia, la_sia, ra_sia, len_sia, ls_sia, own_sia, n_sia, uc_sia, us_sia, cls_sIA, fi_sIA, fr_sIA, la_sIA, ra_sIA, len_sIA, ls_sIA, own_sIA, n_sIA, uc_sIA, us_sIA, cls_sla, fi_sla, fr_sla, ia_sla, ra_sla, len_sla, ls_sla, own_sla, n_sla, uc_sla, us_sla, cls_sLA, fi_sLA, fr_sLA, ia_sLA, ra_sLA, len_sLA, ls_sLA, own_sLA, n_sLA, uc_sLA, us_sLA, h0, h1, hp1]
        exact ih (k + 1) _ _ _ (by omega) hf
  have h0 := hM
  unfold MS at h0
  have hz : ∀ f, MS (sIA z 142 f) := fun f => hM
  have k2 := key (sIA z 142 pt) hM (v 1) 0 zdum zdum zdum (by omega)
  have hr : zia (sIA z 142 pt) 142 = pt := by rw [ia_sIA, zu1_s]
  rw [hr] at k2
  have k3 := k2 rfl
  have e1 : sW (sIA z 142 pt) v = sW (sia (sia (sia (sia (sia z 142 0 (nI (v (10 + 9 * a + 2)))) 142 1 (nI (v (10 + 9 * b + 2)))) 142 2 (nI (sDebtsOf v (nI b) (v 7)))) 142 3 (nI dy)) 142 4 (bI kn)) v := by
    rw [sia5, hpt]
    rfl
  rw [e1] at k3 ⊢
  have hbk : (if kn = false then nI 0 else nI 1) = bI kn := by cases kn <;> rfl
  cases kn <;>
  · simp (disch := first | omega | exact hM | exact hv _ | (simp only [MS_sW, MS_sfi, MS_sia, MS_sIA, MS_sla, MS_sLA, MS_sls]; exact hM)) only [s161_0, s161_1, s161_4, s161_5, s161_6, s161_7, s161_8, s161_11, s161_12, s161_13, s161_16, s161_17, s161_18, s161_19, s161_20, s161_23, s161_24, s161_25, s161_28, s161_29, s161_30, s161_31, s161_34, s161_35, s161_36, s161_39, s161_40, s161_42, s161_43, s161_44, s161_47, s161_48, s161_50, s161_53, s161_54, s161_57, s161_58, s161_59, s161_60, e161, zcs_0, zcs_1, zcs_2, zcs_3, zcs_4, zcs_5, zcs_6, zcs_7, znl_i, znl_r, znl_n, Bool.and_true, Bool.true_and, zk_v, zk_n, zk_x, zir_r, zir_n, zclr_i, zclr_r, zclr_n, zclr_d, zclr_l, true_and, and_true, and_self, if_true, if_false, reduceIte, nI_add, pk_mul, zin_ok, zx_nI, nI_lt2, nI_le2, nI_eq2, nI_l0, nI_g0, nI_q0, nI_p0, nI_n0, nI_m1, Nat.add_zero, Nat.zero_add, Nat.reduceAdd, Nat.reduceMul, true_or, or_true, znar_50, bI_0, bI_1, bI_z, bft, nI_z0, nI_z1, lgc_lt, lgc_gt, lgc_le, lgc_ge, lgc_eq, not_true_eq_false, not_false_eq_true, Bool.not_eq_true, Bool.not_eq_false, reduceCtorEq, MS_sW, CS_sW, sW_r, sW_n, sW_w, cls_sW, fi_sW, fr_sW, la_sW, ra_sW, len_sW, ls_sW, own_sW, n_sW, uc_sW, us_sW, sW_sfi, sW_sla, sW_sLA, sW_sls, sW_spay, sW_sia, sW_sIA, ne_eq, cls_sfi, fr_sfi, ia_sfi, la_sfi, ra_sfi, len_sfi, ls_sfi, own_sfi, n_sfi, uc_sfi, us_sfi, cls_sia, fi_sia, fr_sia, la_sia, ra_sia, len_sia, ls_sia, own_sia, n_sia, uc_sia, us_sia, cls_sIA, fi_sIA, fr_sIA, la_sIA, ra_sIA, len_sIA, ls_sIA, own_sIA, n_sIA, uc_sIA, us_sIA, cls_sla, fi_sla, fr_sla, ia_sla, ra_sla, len_sla, ls_sla, own_sla, n_sla, uc_sla, us_sla, cls_sLA, fi_sLA, fr_sLA, ia_sLA, ra_sLA, len_sLA, ls_sLA, own_sLA, n_sLA, uc_sLA, us_sLA, h0, m139, m162]
    exact k3
theorem m158 {a b p : Nat} (ha : a < 2147483648) (hb : b < 2147483648) (hp : p < 2147483648) (hM : MS z) : ∀ (k : Nat) (v : Nat → Nat) (n : Nat), (∀ i, v i < 2147483648) → v 7 ≤ 960 → k ≤ v 7 → ZW zG (d + 1) 158 14 [.ref 135, .int (nI a), .int (nI b), .int (nI p), .int (nI n), .int (nI k + (-1))] [] (sW z v) Q = Q (.inl (some (.int (nI (sPays a b p k v n).2)))) (sW z (sPays a b p k v n).1) := by
  have h0 := hM
  unfold MS at h0
  intro k
  induction k with
  | zero =>
    intro v n hv h7 hk
    refine s158_14.trans ?_
    have e0 : nI 0 + (-1) = -1 := by decide +kernel
    have e1 : ((-1 : Int32) < 0) = True := by simp
    simp (disch := first | omega | exact hM | exact hv _) only [s158_0, s158_1, s158_3, s158_4, s158_7, s158_9, s158_10, s158_11, s158_12, s158_16, s158_19, s158_20, s158_22, s158_23, s158_26, s158_27, s158_30, s158_31, s158_33, s158_34, s158_37, s158_38, s158_41, s158_42, s158_44, s158_45, s158_48, s158_49, s158_52, s158_55, s158_56, s158_58, s158_61, s158_64, s158_67, s158_70, s158_72, zcs_0, zcs_1, zcs_2, zcs_3, zcs_4, zcs_5, zcs_6, zcs_7, znl_i, znl_r, znl_n, Bool.and_true, Bool.true_and, zk_v, zk_n, zk_x, zir_r, zir_n, zclr_i, zclr_r, zclr_n, zclr_d, zclr_l, true_and, and_true, and_self, if_true, if_false, reduceIte, e0, e1]
    rfl
  | succ k ih =>
    intro v n hv h7 hk
    refine s158_14.trans ?_
    rw [pk_m1]
    simp (disch := first | omega | exact hM | exact hv _) only [s158_0, s158_1, s158_3, s158_4, s158_7, s158_9, s158_10, s158_11, s158_12, s158_16, s158_19, s158_20, s158_22, s158_23, s158_26, s158_27, s158_30, s158_31, s158_33, s158_34, s158_37, s158_38, s158_41, s158_42, s158_44, s158_45, s158_48, s158_49, s158_52, s158_55, s158_56, s158_58, s158_61, s158_64, s158_67, s158_70, s158_72, zcs_0, zcs_1, zcs_2, zcs_3, zcs_4, zcs_5, zcs_6, zcs_7, znl_i, znl_r, znl_n, Bool.and_true, Bool.true_and, zk_v, zk_n, zk_x, zir_r, zir_n, zclr_i, zclr_r, zclr_n, zclr_d, zclr_l, true_and, and_true, and_self, if_true, if_false, reduceIte, nI_add, pk_mul, zin_ok, zx_nI, nI_lt2, nI_le2, nI_eq2, nI_l0, nI_g0, nI_q0, nI_p0, nI_n0, nI_m1, Nat.add_zero, Nat.zero_add, Nat.reduceAdd, Nat.reduceMul, true_or, or_true, znar_50, bI_0, bI_1, bI_z, bft, nI_z0, nI_z1, lgc_lt, lgc_gt, lgc_le, lgc_ge, lgc_eq, not_true_eq_false, not_false_eq_true, Bool.not_eq_true, Bool.not_eq_false, reduceCtorEq, MS_sW, CS_sW, sW_r, sW_n, sW_w, cls_sW, fi_sW, fr_sW, la_sW, ra_sW, len_sW, ls_sW, own_sW, n_sW, uc_sW, us_sW, sW_sfi, sW_sla, sW_sLA, sW_sls, sW_spay, sW_sia, sW_sIA, ne_eq, cls_sfi, fr_sfi, ia_sfi, la_sfi, ra_sfi, len_sfi, ls_sfi, own_sfi, n_sfi, uc_sfi, us_sfi, cls_sia, fi_sia, fr_sia, la_sia, ra_sia, len_sia, ls_sia, own_sia, n_sia, uc_sia, us_sia, cls_sIA, fi_sIA, fr_sIA, la_sIA, ra_sIA, len_sIA, ls_sIA, own_sIA, n_sIA, uc_sIA, us_sIA, cls_sla, fi_sla, fr_sla, ia_sla, ra_sla, len_sla, ls_sla, own_sla, n_sla, uc_sla, us_sla, cls_sLA, fi_sLA, fr_sLA, ia_sLA, ra_sLA, len_sLA, ls_sLA, own_sLA, n_sLA, uc_sLA, us_sLA, h0, m159, m160]
    have hvd : ∀ i, sDrop v k i < 2147483648 := by
      intro i
      unfold sDrop zu1 sShift
      split
      · omega
      · split <;> exact hv _
    have h7d : sDrop v k 7 = v 7 - 1 := zu1_s _ _ _
    have hs : sPays a b p (k + 1) v n = if sMatch v a b p k = true then sPays a b p k (sDrop v k) (n + 1) else sPays a b p k v n := rfl
    rw [hs]
    by_cases c1 : v (1880 + 5 * k) = a
    · by_cases c2 : v (1880 + 5 * k + 1) = b
      · by_cases c3 : v (1880 + 5 * k + 2) ≤ p
        · have hm : sMatch v a b p k = true := by unfold sMatch; simp [c1, c2, c3]
          rw [if_pos hm]
          simp only [c1, c2, c3, not_true_eq_false, not_false_eq_true, if_true, if_false]
          exact ih (sDrop v k) (n + 1) hvd (by omega) (by omega)
        · have hm : ¬ sMatch v a b p k = true := by unfold sMatch; simp [c3]
          rw [if_neg hm]
          simp only [c1, c2, c3, not_true_eq_false, not_false_eq_true, if_true, if_false]
          exact ih v n hv h7 (by omega)
      · have hm : ¬ sMatch v a b p k = true := by unfold sMatch; simp [c2]
        rw [if_neg hm]
        simp only [c1, c2, not_true_eq_false, not_false_eq_true, if_true, if_false]
        exact ih v n hv h7 (by omega)
    · have hm : ¬ sMatch v a b p k = true := by unfold sMatch; simp [c1]
      rw [if_neg hm]
      simp only [c1, not_true_eq_false, not_false_eq_true, if_true, if_false]
      exact ih v n hv h7 (by omega)
theorem m158c (hM : MS z) (hv : ∀ i, v i < 2147483648) (h7 : v 7 ≤ 960) {a b p : Nat} (ha : a < 2147483648) (hb : b < 2147483648) (hp : p < 2147483648) : ZC zG (d + 1) 158 [.ref 135, .int (nI a), .int (nI b), .int (nI p)] (sW z v) Q = Q (.inl (some (.int (nI (sPays a b p (v 7) v 0).2)))) (sW z (sPays a b p (v 7) v 0).1) := by
  have h0 := hM
  unfold MS at h0
  have e1 : nI (v 7) - nI 1 = nI (v 7) + (-1) := by rw [Int32.sub_eq_add_neg]; rfl
  simp (disch := first | omega | exact hM | exact hv _) only [s158_0, s158_1, s158_3, s158_4, s158_7, s158_9, s158_10, s158_11, s158_12, e158, zcs_0, zcs_1, zcs_2, zcs_3, zcs_4, zcs_5, zcs_6, zcs_7, znl_i, znl_r, znl_n, Bool.and_true, Bool.true_and, zk_v, zk_n, zk_x, zir_r, zir_n, zclr_i, zclr_r, zclr_n, zclr_d, zclr_l, true_and, and_true, and_self, if_true, if_false, reduceIte, nI_add, pk_mul, zin_ok, zx_nI, nI_lt2, nI_le2, nI_eq2, nI_l0, nI_g0, nI_q0, nI_p0, nI_n0, nI_m1, Nat.add_zero, Nat.zero_add, Nat.reduceAdd, Nat.reduceMul, true_or, or_true, znar_50, bI_0, bI_1, bI_z, bft, nI_z0, nI_z1, lgc_lt, lgc_gt, lgc_le, lgc_ge, lgc_eq, not_true_eq_false, not_false_eq_true, Bool.not_eq_true, Bool.not_eq_false, reduceCtorEq, MS_sW, CS_sW, sW_r, sW_n, sW_w, cls_sW, fi_sW, fr_sW, la_sW, ra_sW, len_sW, ls_sW, own_sW, n_sW, uc_sW, us_sW, sW_sfi, sW_sla, sW_sLA, sW_sls, sW_spay, sW_sia, sW_sIA, ne_eq, cls_sfi, fr_sfi, ia_sfi, la_sfi, ra_sfi, len_sfi, ls_sfi, own_sfi, n_sfi, uc_sfi, us_sfi, cls_sia, fi_sia, fr_sia, la_sia, ra_sia, len_sia, ls_sia, own_sia, n_sia, uc_sia, us_sia, cls_sIA, fi_sIA, fr_sIA, la_sIA, ra_sIA, len_sIA, ls_sIA, own_sIA, n_sIA, uc_sIA, us_sIA, cls_sla, fi_sla, fr_sla, ia_sla, ra_sla, len_sla, ls_sla, own_sla, n_sla, uc_sla, us_sla, cls_sLA, fi_sLA, fr_sLA, ia_sLA, ra_sLA, len_sLA, ls_sLA, own_sLA, n_sLA, uc_sLA, us_sLA, h0, e1]
  exact m158 ha hb hp hM (v 7) v 0 hv h7 (Nat.le_refl _)
end ME
