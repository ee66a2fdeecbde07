set_option maxRecDepth 100000
/-! the component: now, and its questions -/
def NW (B : Nat → Prop) (z : ZH) (v : Nat → Nat) (L : Nat → List (Nat × Nat)) (t hl kn rl : Nat) (ha ra da ea : Nat → Nat) : Prop :=
  CS z ∧ (zfr z 102 0 = .ref t ∧ zfr z 109 0 = .ref t ∧ zfr z t 2 = .ref rl ∧ zfr z 109 1 = .ref rl) ∧ RHo B z t hl kn ha v ∧ RRu B z rl ra v L ∧ RDe B z 109 da v ∧ RKn z 109 v ∧ zfi z 109 5 = nI (v 9) ∧ RDd B z 102 ea v ∧ zfi z 102 3 = nI (v 6)
section CN
variable {d : Nat} {B : Nat → Prop} {z : ZH} {Q : ZQ} {v : Nat → Nat} {L : Nat → List (Nat × Nat)} {t hl kn rl : Nat} {ha ra da ea : Nat → Nat} {K : Nat}
theorem NW.ls (h : NW B z v L t hl kn rl ha ra da ea) : LdS z 109 := by
  have h0 := h.1
  unfold CS at h0
  unfold LdS
  simp only [h0, Nat.reduceAdd, and_self]
theorem c14 (h : NW B z v L t hl kn rl ha ra da ea) {a : Int32} : ZC zG (d + 2) 14 [.ref 100, .int a] z Q = Q (.inl (some (.int (bI (zin a (v 0)))))) z := by
  obtain ⟨h0, ⟨h1, h2, h3, h4⟩, hH, hR, hD, hK, h9, hE, h6⟩ := h
  unfold CS at h0
  have ct := hH.1.2
  simp (disch := omega) only [e14, s14_0, s14_1, s14_4, s14_7, s14_8, s14_11, zcs_0, zcs_1, zcs_2, zcs_3, zcs_4, zcs_5, zcs_6, zcs_7, znl_i, znl_r, znl_n, Bool.and_true, Bool.true_and, zk_v, zk_n, zk_x, zir_r, zir_n, zclr_i, zclr_r, zclr_n, zclr_d, zclr_l, true_and, and_true, and_self, if_true, if_false, reduceIte, nI_add, pk_mul, zin_ok, zx_nI, nI_lt2, nI_le2, nI_eq2, nI_l0, nI_g0, nI_q0, nI_p0, nI_n0, nI_m1, Nat.add_zero, Nat.zero_add, Nat.reduceAdd, Nat.reduceMul, true_or, or_true, znar_50, bI_0, bI_1, bI_z, bft, nI_z0, nI_z1, lgc_lt, lgc_gt, lgc_le, lgc_ge, lgc_eq, not_true_eq_false, not_false_eq_true, Bool.not_eq_true, Bool.not_eq_false, reduceCtorEq, h0, h1, ct, c64 hH]
theorem c13 (h : NW B z v L t hl kn rl ha ra da ea) {a b : Int32} : ZC zG (d + 3) 13 [.ref 100, .int a, .int b] z Q = Q (.inl (some (.int (bI (are2 v a b))))) z := by
  have h0 := h.1
  unfold CS at h0
  simp (disch := omega) only [e13, s13_0, s13_1, s13_2, s13_5, s13_8, s13_9, s13_10, s13_13, s13_16, s13_17, s13_18, s13_21, s13_22, s13_25, s13_26, zcs_0, zcs_1, zcs_2, zcs_3, zcs_4, zcs_5, zcs_6, zcs_7, znl_i, znl_r, znl_n, Bool.and_true, Bool.true_and, zk_v, zk_n, zk_x, zir_r, zir_n, zclr_i, zclr_r, zclr_n, zclr_d, zclr_l, true_and, and_true, and_self, if_true, if_false, reduceIte, nI_add, pk_mul, zin_ok, zx_nI, nI_lt2, nI_le2, nI_eq2, nI_l0, nI_g0, nI_q0, nI_p0, nI_n0, nI_m1, Nat.add_zero, Nat.zero_add, Nat.reduceAdd, Nat.reduceMul, true_or, or_true, znar_50, bI_0, bI_1, bI_z, bft, nI_z0, nI_z1, lgc_lt, lgc_gt, lgc_le, lgc_ge, lgc_eq, not_true_eq_false, not_false_eq_true, Bool.not_eq_true, Bool.not_eq_false, reduceCtorEq, h0, c14 h]
  unfold are2
  cases zin a (v 0) <;> cases zin b (v 0) <;> by_cases h : a = b <;> simp [h, bI, nI_0, nI_one]
theorem c17 (h : NW B z v L t hl kn rl ha ra da ea) {k : Nat} (hk : k < v 0) : ZC zG (d + 1) 17 [.ref 100, .int (nI k)] z Q = Q (.inl (some (.ref (ha k)))) z := by
  obtain ⟨h0, ⟨h1, h2, h3, h4⟩, hH, hR, hD, hK, h9, hE, h6⟩ := h
  unfold CS at h0
  have ct := hH.1.2
  simp (disch := omega) only [e17, s17_0, s17_1, s17_4, s17_7, s17_8, s17_11, s17_11r, zcs_0, zcs_1, zcs_2, zcs_3, zcs_4, zcs_5, zcs_6, zcs_7, znl_i, znl_r, znl_n, Bool.and_true, Bool.true_and, zk_v, zk_n, zk_x, zir_r, zir_n, zclr_i, zclr_r, zclr_n, zclr_d, zclr_l, true_and, and_true, and_self, if_true, if_false, reduceIte, nI_add, pk_mul, zin_ok, zx_nI, nI_lt2, nI_le2, nI_eq2, nI_l0, nI_g0, nI_q0, nI_p0, nI_n0, nI_m1, Nat.add_zero, Nat.zero_add, Nat.reduceAdd, Nat.reduceMul, true_or, or_true, znar_50, bI_0, bI_1, bI_z, bft, nI_z0, nI_z1, lgc_lt, lgc_gt, lgc_le, lgc_ge, lgc_eq, not_true_eq_false, not_false_eq_true, Bool.not_eq_true, Bool.not_eq_false, reduceCtorEq, h0, h1, ct, c65 hH hk]
theorem c19 (h : NW B z v L t hl kn rl ha ra da ea) {k : Nat} (hk : k < v 0) : ZC zG (d + 2) 19 [.ref 100, .int (nI k)] z Q = Q (.inl (some (.int (bI (decide (nI (v 6) - nI (v (10 + 9 * k + 6)) ≤ nI (v 4))))))) z := by
  have c := fun d Q => c17 (d := d) (Q := Q) h hk
  obtain ⟨h0, ⟨h1, h2, h3, h4⟩, hH, hR, hD, hK, h9, hE, h6⟩ := h
  unfold CS at h0
  have ct := hH.1.2
  obtain ⟨f0, f1, _, _, _, _, _, _, f2, _⟩ := hH.fld hk
  have f4 := hH.2.2.2.2.2.2.1
  simp (disch := omega) only [e19, s19_0, s19_1, s19_4, s19_7, s19_8, s19_9, s19_12, s19_15, s19_16, s19_17, s19_20, s19_23, s19_26, s19_29, s19_30, s19_33, s19_34, zcs_0, zcs_1, zcs_2, zcs_3, zcs_4, zcs_5, zcs_6, zcs_7, znl_i, znl_r, znl_n, Bool.and_true, Bool.true_and, zk_v, zk_n, zk_x, zir_r, zir_n, zclr_i, zclr_r, zclr_n, zclr_d, zclr_l, true_and, and_true, and_self, if_true, if_false, reduceIte, nI_add, pk_mul, zin_ok, zx_nI, nI_lt2, nI_le2, nI_eq2, nI_l0, nI_g0, nI_q0, nI_p0, nI_n0, nI_m1, Nat.add_zero, Nat.zero_add, Nat.reduceAdd, Nat.reduceMul, true_or, or_true, znar_50, bI_0, bI_1, bI_z, bft, nI_z0, nI_z1, lgc_lt, lgc_gt, lgc_le, lgc_ge, lgc_eq, not_true_eq_false, not_false_eq_true, Bool.not_eq_true, Bool.not_eq_false, reduceCtorEq, h0, h1, ct, c, f1, f2, f4, h6]
  by_cases h1 : nI (v 6) - nI (v (10 + 9 * k + 6)) ≤ nI (v 4)
  · have h2 := Int32.not_lt.mpr h1
    simp [h1, h2, bI, nI_one]
  · have h2 := Int32.not_le.mp h1
    simp [h1, h2, bI, nI_0]
theorem c246 {q : Nat} (hq : zcls z q = 21) {x : Int32} : ZC zG d 246 [.ref q, .int x] z Q = Q (.inl (some (.int (bI (decide (zfi z q 6 ≤ x)))))) z := by
  simp (disch := omega) only [e246, s246_0, s246_1, s246_2, s246_5, s246_8, s246_9, s246_12, s246_13, zcs_0, zcs_1, zcs_2, zcs_3, zcs_4, zcs_5, zcs_6, zcs_7, znl_i, znl_r, znl_n, Bool.and_true, Bool.true_and, zk_v, zk_n, zk_x, zir_r, zir_n, zclr_i, zclr_r, zclr_n, zclr_d, zclr_l, true_and, and_true, and_self, if_true, if_false, reduceIte, nI_add, pk_mul, zin_ok, zx_nI, nI_lt2, nI_le2, nI_eq2, nI_l0, nI_g0, nI_q0, nI_p0, nI_n0, nI_m1, Nat.add_zero, Nat.zero_add, Nat.reduceAdd, Nat.reduceMul, true_or, or_true, znar_50, bI_0, bI_1, bI_z, bft, nI_z0, nI_z1, lgc_lt, lgc_gt, lgc_le, lgc_ge, lgc_eq, not_true_eq_false, not_false_eq_true, Bool.not_eq_true, Bool.not_eq_false, reduceCtorEq, hq]
  by_cases h1 : zfi z q 6 ≤ x
  · have h2 := Int32.not_lt.mpr h1
    simp [h1, h2, bI, nI_one]
  · have h2 := Int32.not_le.mp h1
    simp [h1, h2, bI, nI_0]
theorem and_lt16 {a b n : Nat} (h : a < 2 ^ n) (hn : n ≤ 16) : a &&& b < 65536 := by
  have h1 : a &&& b ≤ a := Nat.and_le_left
  have h2 : (2 : Nat) ^ n ≤ 2 ^ 16 := Nat.pow_le_pow_right (by omega) hn
  have h3 : (2 : Nat) ^ 16 = 65536 := rfl
  omega
theorem c16 (h : NW B z v L t hl kn rl ha ra da ea) (hK2 : wK v) (hv : ∀ i, v i < 2147483648) {a b : Nat} (ha' : a < v 0) (hb' : b < v 0) : ZC zG (d + 3) 16 [.ref 100, .int (nI a), .int (nI b)] z Q = Q (.inl (some (.int (bI (decide (v (10 + 9 * a + 6) ≤ v 6) && decide (v (10 + 9 * b + 6) ≤ v 6) && sMay v a b))))) z := by
  have hL := h.ls
  have ca := fun d Q => c17 (d := d) (Q := Q) h ha'
  have cb := fun d Q => c17 (d := d) (Q := Q) h hb'
  have na := fun d Q => c19 (d := d) (Q := Q) h ha'
  have nb := fun d Q => c19 (d := d) (Q := Q) h hb'
  obtain ⟨h0, ⟨h1, h2, h3, h4⟩, hH, hR, hD, hK, h9, hE, h6⟩ := h
  have h16 : v 0 ≤ 16 := hH.2.2.2.1.2
  have ck := fun d Q => c68 (d := d) (z := z) (v := v) (Q := Q) hL hK (a := a) (b := nI b) (by omega)
  unfold CS at h0
  have ct := hH.1.2
  obtain ⟨_, a1, _, _, _, _, _, _, a2, _⟩ := hH.fld ha'
  obtain ⟨_, b1, _, _, _, _, _, _, b2, _⟩ := hH.fld hb'
  have f5 := hH.2.2.2.2.2.2.2
  have k1 : zia z 110 a = nI (v (1864 + a)) := hK a (by omega)
  have k2 : zia z 110 b = nI (v (1864 + b)) := hK b (by omega)
  have d1 := fun d Q x => c246 (d := d) (z := z) (Q := Q) a1 (x := x)
  have d2 := fun d Q x => c246 (d := d) (z := z) (Q := Q) b1 (x := x)
  rw [a2] at d1
  rw [b2] at d2
  have w16 := (hK2 a (by omega)).1
  have bc : bcI (nI (v (1864 + a) &&& v (1864 + b))) = onesN (nI (v (1864 + a) &&& v (1864 + b))) 16 := by
    have hlt : v (1864 + a) &&& v (1864 + b) < 65536 := and_lt16 w16 h16
    rw [bc_pc hlt, ones_pc (by omega) 16 (Nat.le_refl _)]
  simp (config := {maxSteps := 3000000}) (disch := first | omega | exact hv _) only [e16, s16_0, s16_1, s16_2, s16_5, s16_6, s16_9, s16_12, s16_15, s16_18, s16_19, s16_20, s16_23, s16_24, s16_27, s16_30, s16_33, s16_36, s16_37, s16_38, s16_39, s16_42, s16_45, s16_46, s16_47, s16_50, s16_53, s16_54, s16_55, s16_58, s16_61, s16_62, s16_63, s16_66, s16_69, s16_70, s16_71, s16_72, s16_75, s16_78, s16_81, s16_82, s16_83, s16_84, s16_87, s16_90, s16_93, s16_94, s16_95, s16_96, s16_99, s16_100, s16_103, s16_106, s16_109, s16_112, s16_113, s16_116, s16_117, zcs_0, zcs_1, zcs_2, zcs_3, zcs_4, zcs_5, zcs_6, zcs_7, znl_i, znl_r, znl_n, Bool.and_true, Bool.true_and, zk_v, zk_n, zk_x, zir_r, zir_n, zclr_i, zclr_r, zclr_n, zclr_d, zclr_l, true_and, and_true, and_self, if_true, if_false, reduceIte, nI_add, pk_mul, zin_ok, zx_nI, nI_lt2, nI_le2, nI_eq2, nI_l0, nI_g0, nI_q0, nI_p0, nI_n0, nI_m1, Nat.add_zero, Nat.zero_add, Nat.reduceAdd, Nat.reduceMul, true_or, or_true, znar_50, bI_0, bI_1, bI_z, bft, nI_z0, nI_z1, lgc_lt, lgc_gt, lgc_le, lgc_ge, lgc_eq, not_true_eq_false, not_false_eq_true, Bool.not_eq_true, Bool.not_eq_false, reduceCtorEq, h0, h1, ct, ca, cb, na, nb, ck, d1, d2, a1, b1, a2, b2, f5, h6, k1, k2, nI_and, c251, bc]
  unfold sMay
  rw [nI_and]
  generalize hasI (nI (v (1864 + a))) (nI b) = k1
  generalize decide (nI (v 6) - nI (v (10 + 9 * b + 6)) ≤ nI (v 4)) = k2
  generalize decide (nI (v 6) - nI (v (10 + 9 * a + 6)) ≤ nI (v 4)) = k3
  generalize decide (v (10 + 9 * a + 6) ≤ v 6) = k5
  generalize decide (v (10 + 9 * b + 6) ≤ v 6) = k6
  by_cases c : nI (v 5) ≤ onesN (nI (v (1864 + a) &&& v (1864 + b))) 16
  · have c2 := Int32.not_lt.mpr c
    cases k5 <;> cases k6 <;> cases k1 <;> cases k2 <;> cases k3 <;> simp [c, c2, bI, nI_0, nI_one]
  · have c2 := Int32.not_le.mp c
    cases k5 <;> cases k6 <;> cases k1 <;> cases k2 <;> cases k3 <;> simp [c, c2, bI, nI_0, nI_one]
end CN

