set_option maxRecDepth 100000
/-! the component's questions -/
section CQ
variable {d : Nat} {B : Nat → Prop} {z : ZH} {Q : ZQ} {v : Nat → Nat} {L : Nat → List (Nat × Nat)} {t hl kn rl : Nat} {ha ra da ea : Nat → Nat} {K : Nat}
theorem c247 {q : Nat} (hq : zcls z q = 21) {x a b : Nat} (h6 : zfi z q 6 = nI a) (h7 : zfi z q 7 = nI b) (hx : x < 2147483648) (hb : b < 2147483648) (hab : a + b < 2147483648) : ZC zG d 247 [.ref q, .int (nI x)] z Q = Q (.inl (some (.int (bI (decide (0 < b) && decide (x ≤ a + b)))))) z := by
  simp (disch := omega) only [e247, s247_0, s247_1, s247_4, s247_7, s247_8, s247_9, s247_12, s247_13, s247_16, s247_17, s247_20, s247_21, s247_24, s247_25, zcs_0, zcs_1, zcs_2, zcs_3, zcs_4, zcs_5, zcs_6, zcs_7, znl_i, znl_r, znl_n, Bool.and_true, Bool.true_and, zk_v, zk_n, zk_x, zir_r, zir_n, zclr_i, zclr_r, zclr_n, zclr_d, zclr_l, true_and, and_true, and_self, if_true, if_false, reduceIte, nI_add, pk_mul, zin_ok, zx_nI, nI_lt2, nI_le2, nI_eq2, nI_l0, nI_g0, nI_q0, nI_p0, nI_n0, nI_m1, Nat.add_zero, Nat.zero_add, Nat.reduceAdd, Nat.reduceMul, true_or, or_true, znar_50, bI_0, bI_1, bI_z, bft, nI_z0, nI_z1, lgc_lt, lgc_gt, lgc_le, lgc_ge, lgc_eq, not_true_eq_false, not_false_eq_true, Bool.not_eq_true, Bool.not_eq_false, reduceCtorEq, hq, h6, h7]
  by_cases c : b = 0
  · simp [c, bI, nI_0]
  · have c1 : 0 < b := by omega
    by_cases c2 : a + b < x
    · have c3 : ¬ x ≤ a + b := by omega
      simp [c, c1, c2, c3, bI, nI_0]
    · have c3 : x ≤ a + b := by omega
      simp [c, c1, c2, c3, bI, nI_one]
theorem c15 (h : NW B z v L t hl kn rl ha ra da ea) (hK2 : wK v) (hv : ∀ i, v i < 1073741824) {a b p : Nat} (ha' : a < v 0) (hb' : b < v 0) (hp : p < 4) : ZC zG (d + 4) 15 [.ref 100, .int (nI a), .int (nI b), .int (nI p)] z Q = Q (.inl (some (.int (sBars v a b (nI p))))) z := by
  have hvv : ∀ i, v i < 2147483648 := fun i => by have := hv i; omega
  have c16' := fun d Q => c16 (d := d) (Q := Q) h hK2 hvv ha' hb'
  have ca := fun d Q => c17 (d := d) (Q := Q) h ha'
  have cb := fun d Q => c17 (d := d) (Q := Q) h hb'
  obtain ⟨h0, ⟨h1, h2, h3, h4⟩, hH, hR, hD, hK, h9, hE, h6⟩ := h
  unfold CS at h0
  obtain ⟨_, a1, _, _, _, _, _, _, a2, a3⟩ := hH.fld ha'
  obtain ⟨_, b1, _, _, _, b2, _⟩ := hH.fld hb'
  have B1 := hv 6
  have B2 := hv (10 + 9 * a + 6)
  have B3 := hv (10 + 9 * a + 7)
  have B4 := hv (10 + 9 * b + 3)
  have h7 : ∀ i, nI (v i) - nI (v i) / nI 7 * nI 7 = nI (v i % 7) := fun i => pk_rem (by have := hv i; omega) (by omega) (by omega)
  have cw := fun d Q => c247 (d := d) (z := z) (Q := Q) a1 (x := v 6) a2 a3 (by omega) (by omega) (by omega)
  have h70 : ¬ nI 7 = 0 := by rw [nI_q0 (by omega)]; omega
  have cv : ∃ k1, zra z 117 p = .ref (118 + p) ∧ [(6, 82), (7, 82), (8, 90), (9, 90)].lookup (zcls z (118 + p)) = some k1 ∧ (zent [.ref (118 + p), .ref (ha a), .ref (ha b), .int (nI (v 6))]).length ≤ zMl k1 ∧ ∀ d Q, ZC zG (d + 1) k1 [.ref (118 + p), .ref (ha a), .ref (ha b), .int (nI (v 6))] z Q = Q (.inl (some (.int (if nI p < nI 2 then nI 0 else if ¬ v 6 % 7 = v (10 + 9 * b + 3) then nI 2 else if 0 < v (10 + 9 * a + 7) ∧ v 6 ≤ v (10 + 9 * a + 6) + v (10 + 9 * a + 7) then nI 3 else nI 0)))) z := by
    have call : ∀ (q d : Nat) (Q : ZQ), ZC zG (d + 1) 90 [.ref q, .ref (ha a), .ref (ha b), .int (nI (v 6))] z Q = Q (.inl (some (.int (if ¬ v 6 % 7 = v (10 + 9 * b + 3) then nI 2 else if 0 < v (10 + 9 * a + 7) ∧ v 6 ≤ v (10 + 9 * a + 6) + v (10 + 9 * a + 7) then nI 3 else nI 0)))) z := by
      intro q d Q
      simp (disch := omega) only [e90, s90_0, s90_1, s90_3, s90_4, s90_5, s90_8, s90_11, s90_12, s90_15, s90_16, s90_17, s90_20, s90_23, s90_24, s90_27, s90_28, zcs_0, zcs_1, zcs_2, zcs_3, zcs_4, zcs_5, zcs_6, zcs_7, znl_i, znl_r, znl_n, Bool.and_true, Bool.true_and, zk_v, zk_n, zk_x, zir_r, zir_n, zclr_i, zclr_r, zclr_n, zclr_d, zclr_l, true_and, and_true, and_self, if_true, if_false, reduceIte, nI_add, pk_mul, zin_ok, zx_nI, nI_lt2, nI_le2, nI_eq2, nI_l0, nI_g0, nI_q0, nI_p0, nI_n0, nI_m1, Nat.add_zero, Nat.zero_add, Nat.reduceAdd, Nat.reduceMul, true_or, or_true, znar_50, bI_0, bI_1, bI_z, bft, nI_z0, nI_z1, lgc_lt, lgc_gt, lgc_le, lgc_ge, lgc_eq, not_true_eq_false, not_false_eq_true, Bool.not_eq_true, Bool.not_eq_false, reduceCtorEq, h7, h70, a1, b1, b2, cw]
      by_cases c : v 6 % 7 = v (10 + 9 * b + 3)
      · by_cases c2 : 0 < v (10 + 9 * a + 7)
        · by_cases c3 : v 6 ≤ v (10 + 9 * a + 6) + v (10 + 9 * a + 7)
          · simp [c, c2, c3]
          · simp [c, c2, c3]
        · simp [c, c2]
      · simp [c]
    match p, hp with
    | 0, _ => exact ⟨82, by simp only [h0], by simp only [h0]; rfl, Nat.le_of_ble_eq_true rfl, fun d Q => by simp only [e82, s82_0, s82_1, zcs_0, zcs_1, zcs_2, zcs_3, zcs_4, zcs_5, zcs_6, zcs_7, znl_i, znl_r, znl_n, Bool.and_true, Bool.true_and, zk_v, zk_n, zk_x, zir_r, zir_n, zclr_i, zclr_r, zclr_n, zclr_d, zclr_l, true_and, and_true, and_self, if_true, if_false, reduceIte]; rfl⟩
    | 1, _ => exact ⟨82, by simp only [h0], by simp only [h0]; rfl, Nat.le_of_ble_eq_true rfl, fun d Q => by simp only [e82, s82_0, s82_1, zcs_0, zcs_1, zcs_2, zcs_3, zcs_4, zcs_5, zcs_6, zcs_7, znl_i, znl_r, znl_n, Bool.and_true, Bool.true_and, zk_v, zk_n, zk_x, zir_r, zir_n, zclr_i, zclr_r, zclr_n, zclr_d, zclr_l, true_and, and_true, and_self, if_true, if_false, reduceIte]; rfl⟩
    | 2, _ => exact ⟨90, by simp only [h0], by simp only [h0]; rfl, Nat.le_of_ble_eq_true rfl, fun d Q => by rw [call, if_neg (show ¬ nI 2 < nI 2 by decide)]⟩
    | 3, _ => exact ⟨90, by simp only [h0], by simp only [h0]; rfl, Nat.le_of_ble_eq_true rfl, fun d Q => by rw [call, if_neg (show ¬ nI 3 < nI 2 by decide)]⟩
  obtain ⟨k1, v1, v2, v3, v4⟩ := cv
  have u1 := fun ls st Q => s15_32 (d := d + 3) (z := z) (Q := Q) (ls := ls) (st := st) (w0 := ha a) (w1 := ha b) (w2 := nI (v 6)) (r := 118 + p) (k1 := k1) v2 v3
  have v5 := fun Q => v4 (d + 2) Q
  unfold sBars
  cases hm : (decide (v (10 + 9 * a + 6) ≤ v 6) && decide (v (10 + 9 * b + 6) ≤ v 6) && sMay v a b) with
  | false =>
    simp (disch := omega) only [e15, s15_0, s15_1, s15_2, s15_3, s15_6, s15_9, s15_10, s15_13, s15_14, s15_15, s15_16, s15_17, s15_20, s15_21, s15_22, s15_25, s15_26, s15_29, s15_35, s15_38, s15_39, zcs_0, zcs_1, zcs_2, zcs_3, zcs_4, zcs_5, zcs_6, zcs_7, znl_i, znl_r, znl_n, Bool.and_true, Bool.true_and, zk_v, zk_n, zk_x, zir_r, zir_n, zclr_i, zclr_r, zclr_n, zclr_d, zclr_l, true_and, and_true, and_self, if_true, if_false, reduceIte, nI_add, pk_mul, zin_ok, zx_nI, nI_lt2, nI_le2, nI_eq2, nI_l0, nI_g0, nI_q0, nI_p0, nI_n0, nI_m1, Nat.add_zero, Nat.zero_add, Nat.reduceAdd, Nat.reduceMul, true_or, or_true, znar_50, bI_0, bI_1, bI_z, bft, nI_z0, nI_z1, lgc_lt, lgc_gt, lgc_le, lgc_ge, lgc_eq, not_true_eq_false, not_false_eq_true, Bool.not_eq_true, Bool.not_eq_false, reduceCtorEq, h0, c16', hm, Bool.false_eq_true, if_false]
  | true =>
    simp (disch := omega) only [e15, s15_0, s15_1, s15_2, s15_3, s15_6, s15_9, s15_10, s15_13, s15_14, s15_15, s15_16, s15_17, s15_20, s15_21, s15_22, s15_25, s15_26, s15_29, s15_35, s15_38, s15_39, u1, v5, zcs_0, zcs_1, zcs_2, zcs_3, zcs_4, zcs_5, zcs_6, zcs_7, znl_i, znl_r, znl_n, Bool.and_true, Bool.true_and, zk_v, zk_n, zk_x, zir_r, zir_n, zclr_i, zclr_r, zclr_n, zclr_d, zclr_l, true_and, and_true, and_self, if_true, if_false, reduceIte, nI_add, pk_mul, zin_ok, zx_nI, nI_lt2, nI_le2, nI_eq2, nI_l0, nI_g0, nI_q0, nI_p0, nI_n0, nI_m1, Nat.add_zero, Nat.zero_add, Nat.reduceAdd, Nat.reduceMul, true_or, or_true, znar_50, bI_0, bI_1, bI_z, bft, nI_z0, nI_z1, lgc_lt, lgc_gt, lgc_le, lgc_ge, lgc_eq, not_true_eq_false, not_false_eq_true, Bool.not_eq_true, Bool.not_eq_false, reduceCtorEq, h0, c16', hm, ca, cb, v1, h6, if_true]
theorem c12 (h : NW B z v L t hl kn rl ha ra da ea) (hK2 : wK v) (hv : ∀ i, v i < 1073741824) {a b p : Int32} : ZC zG (d + 5) 12 [.ref 100, .int a, .int b, .int p] z Q = Q (.inl (some (.int (rBars v a b p)))) z := by
  have c := fun d Q => c13 (d := d) (Q := Q) h (a := a) (b := b)
  have c15' := fun d Q a b p ha hb hp => c15 (d := d) (Q := Q) h hK2 hv (a := a) (b := b) (p := p) ha hb hp
  obtain ⟨h0, ⟨h1, h2, h3, h4⟩, hH, hR, hD, hK, h9, hE, h6⟩ := h
  unfold CS at h0
  unfold rBars
  cases hh : are2 v a b with
  | false => simp (disch := omega) only [e12, s12_0, s12_1, s12_2, s12_3, s12_6, s12_9, s12_10, s12_11, s12_12, s12_15, s12_18, s12_21, s12_22, s12_23, s12_24, s12_25, s12_28, s12_31, s12_33, zcs_0, zcs_1, zcs_2, zcs_3, zcs_4, zcs_5, zcs_6, zcs_7, znl_i, znl_r, znl_n, Bool.and_true, Bool.true_and, zk_v, zk_n, zk_x, zir_r, zir_n, zclr_i, zclr_r, zclr_n, zclr_d, zclr_l, true_and, and_true, and_self, if_true, if_false, reduceIte, nI_add, pk_mul, zin_ok, zx_nI, nI_lt2, nI_le2, nI_eq2, nI_l0, nI_g0, nI_q0, nI_p0, nI_n0, nI_m1, Nat.add_zero, Nat.zero_add, Nat.reduceAdd, Nat.reduceMul, true_or, or_true, znar_50, bI_0, bI_1, bI_z, bft, nI_z0, nI_z1, lgc_lt, lgc_gt, lgc_le, lgc_ge, lgc_eq, not_true_eq_false, not_false_eq_true, Bool.not_eq_true, Bool.not_eq_false, reduceCtorEq, h0, c, hh, Bool.false_and, Bool.false_eq_true, if_false]
  | true =>
    cases hz : zin p 4 with
    | false => simp (disch := omega) only [e12, s12_0, s12_1, s12_2, s12_3, s12_6, s12_9, s12_10, s12_11, s12_12, s12_15, s12_18, s12_21, s12_22, s12_23, s12_24, s12_25, s12_28, s12_31, s12_33, zcs_0, zcs_1, zcs_2, zcs_3, zcs_4, zcs_5, zcs_6, zcs_7, znl_i, znl_r, znl_n, Bool.and_true, Bool.true_and, zk_v, zk_n, zk_x, zir_r, zir_n, zclr_i, zclr_r, zclr_n, zclr_d, zclr_l, true_and, and_true, and_self, if_true, if_false, reduceIte, nI_add, pk_mul, zin_ok, zx_nI, nI_lt2, nI_le2, nI_eq2, nI_l0, nI_g0, nI_q0, nI_p0, nI_n0, nI_m1, Nat.add_zero, Nat.zero_add, Nat.reduceAdd, Nat.reduceMul, true_or, or_true, znar_50, bI_0, bI_1, bI_z, bft, nI_z0, nI_z1, lgc_lt, lgc_gt, lgc_le, lgc_ge, lgc_eq, not_true_eq_false, not_false_eq_true, Bool.not_eq_true, Bool.not_eq_false, reduceCtorEq, h0, c, c2, lin_c, hh, hz, Bool.and_false, Bool.false_eq_true, if_false]
    | true =>
      obtain ⟨i, j, g1, g2, g3, g4, g5, rfl, rfl⟩ := are2_of hh
      obtain ⟨k, hk, hk2, rfl⟩ := zin_of hz
      rw [zx_nI g4, zx_nI g5]
      simp (disch := omega) only [e12, s12_0, s12_1, s12_2, s12_3, s12_6, s12_9, s12_10, s12_11, s12_12, s12_15, s12_18, s12_21, s12_22, s12_23, s12_24, s12_25, s12_28, s12_31, s12_33, zcs_0, zcs_1, zcs_2, zcs_3, zcs_4, zcs_5, zcs_6, zcs_7, znl_i, znl_r, znl_n, Bool.and_true, Bool.true_and, zk_v, zk_n, zk_x, zir_r, zir_n, zclr_i, zclr_r, zclr_n, zclr_d, zclr_l, true_and, and_true, and_self, if_true, if_false, reduceIte, nI_add, pk_mul, zin_ok, zx_nI, nI_lt2, nI_le2, nI_eq2, nI_l0, nI_g0, nI_q0, nI_p0, nI_n0, nI_m1, Nat.add_zero, Nat.zero_add, Nat.reduceAdd, Nat.reduceMul, true_or, or_true, znar_50, bI_0, bI_1, bI_z, bft, nI_z0, nI_z1, lgc_lt, lgc_gt, lgc_le, lgc_ge, lgc_eq, not_true_eq_false, not_false_eq_true, Bool.not_eq_true, Bool.not_eq_false, reduceCtorEq, h0, c, c2, lin_c, hh, hz, c15', Bool.and_self, if_true]
theorem c23 (h : NW B z v L t hl kn rl ha ra da ea) {a b : Int32} : ZC zG (d + 4) 23 [.ref 100, .int a, .int b] z Q = Q (.inl (some (.int (rKnown v a b)))) z := by
  have c := fun d Q => c13 (d := d) (Q := Q) h (a := a) (b := b)
  have hL := h.ls
  obtain ⟨h0, ⟨h1, h2, h3, h4⟩, hH, hR, hD, hK, h9, hE, h6⟩ := h
  unfold CS at h0
  have h16 : v 0 ≤ 16 := hH.2.2.2.1.2
  unfold rKnown
  cases hh : are2 v a b with
  | false => simp (disch := omega) only [e23, s23_0, s23_1, s23_2, s23_3, s23_6, s23_9, s23_11, s23_14, s23_15, s23_18, s23_21, s23_22, s23_23, s23_26, s23_29, s23_30, s23_33, s23_34, zcs_0, zcs_1, zcs_2, zcs_3, zcs_4, zcs_5, zcs_6, zcs_7, znl_i, znl_r, znl_n, Bool.and_true, Bool.true_and, zk_v, zk_n, zk_x, zir_r, zir_n, zclr_i, zclr_r, zclr_n, zclr_d, zclr_l, true_and, and_true, and_self, if_true, if_false, reduceIte, nI_add, pk_mul, zin_ok, zx_nI, nI_lt2, nI_le2, nI_eq2, nI_l0, nI_g0, nI_q0, nI_p0, nI_n0, nI_m1, Nat.add_zero, Nat.zero_add, Nat.reduceAdd, Nat.reduceMul, true_or, or_true, znar_50, bI_0, bI_1, bI_z, bft, nI_z0, nI_z1, lgc_lt, lgc_gt, lgc_le, lgc_ge, lgc_eq, not_true_eq_false, not_false_eq_true, Bool.not_eq_true, Bool.not_eq_false, reduceCtorEq, h0, c, hh, Bool.false_eq_true, if_false]
  | true =>
    obtain ⟨i, j, g1, g2, g3, g4, g5, rfl, rfl⟩ := are2_of hh
    have ck := fun d Q => c68 (d := d) (z := z) (v := v) (Q := Q) hL hK (a := i) (b := nI j) (by omega)
    rw [zx_nI g4]
    simp (disch := omega) only [e23, s23_0, s23_1, s23_2, s23_3, s23_6, s23_9, s23_11, s23_14, s23_15, s23_18, s23_21, s23_22, s23_23, s23_26, s23_29, s23_30, s23_33, s23_34, zcs_0, zcs_1, zcs_2, zcs_3, zcs_4, zcs_5, zcs_6, zcs_7, znl_i, znl_r, znl_n, Bool.and_true, Bool.true_and, zk_v, zk_n, zk_x, zir_r, zir_n, zclr_i, zclr_r, zclr_n, zclr_d, zclr_l, true_and, and_true, and_self, if_true, if_false, reduceIte, nI_add, pk_mul, zin_ok, zx_nI, nI_lt2, nI_le2, nI_eq2, nI_l0, nI_g0, nI_q0, nI_p0, nI_n0, nI_m1, Nat.add_zero, Nat.zero_add, Nat.reduceAdd, Nat.reduceMul, true_or, or_true, znar_50, bI_0, bI_1, bI_z, bft, nI_z0, nI_z1, lgc_lt, lgc_gt, lgc_le, lgc_ge, lgc_eq, not_true_eq_false, not_false_eq_true, Bool.not_eq_true, Bool.not_eq_false, reduceCtorEq, h0, c, hh, ck, if_true]
    cases hasI (nI (v (1864 + i))) (nI j) <;> simp [bI, nI_0, nI_one]
theorem c24 (h : NW B z v L t hl kn rl ha ra da ea) {a : Int32} : ZC zG (d + 3) 24 [.ref 100, .int a] z Q = Q (.inl (some (.int (rDebts v a)))) z := by
  have c := fun d Q => c14 (d := d) (Q := Q) h (a := a)
  have hL := h.ls
  obtain ⟨h0, ⟨h1, h2, h3, h4⟩, hH, hR, hD, hK, h9, hE, h6⟩ := h
  unfold CS at h0
  have ck := fun d Q => c71 (d := d) (z := z) (v := v) (Q := Q) hL hD (a := a)
  unfold rDebts isH
  cases hh : zin a (v 0) with
  | false => simp (disch := omega) only [e24, s24_0, s24_1, s24_2, s24_5, s24_8, s24_9, s24_12, s24_15, s24_16, s24_19, s24_22, s24_24, zcs_0, zcs_1, zcs_2, zcs_3, zcs_4, zcs_5, zcs_6, zcs_7, znl_i, znl_r, znl_n, Bool.and_true, Bool.true_and, zk_v, zk_n, zk_x, zir_r, zir_n, zclr_i, zclr_r, zclr_n, zclr_d, zclr_l, true_and, and_true, and_self, if_true, if_false, reduceIte, nI_add, pk_mul, zin_ok, zx_nI, nI_lt2, nI_le2, nI_eq2, nI_l0, nI_g0, nI_q0, nI_p0, nI_n0, nI_m1, Nat.add_zero, Nat.zero_add, Nat.reduceAdd, Nat.reduceMul, true_or, or_true, znar_50, bI_0, bI_1, bI_z, bft, nI_z0, nI_z1, lgc_lt, lgc_gt, lgc_le, lgc_ge, lgc_eq, not_true_eq_false, not_false_eq_true, Bool.not_eq_true, Bool.not_eq_false, reduceCtorEq, h0, c, hh, Bool.false_eq_true, if_false]
  | true => simp (disch := omega) only [e24, s24_0, s24_1, s24_2, s24_5, s24_8, s24_9, s24_12, s24_15, s24_16, s24_19, s24_22, s24_24, zcs_0, zcs_1, zcs_2, zcs_3, zcs_4, zcs_5, zcs_6, zcs_7, znl_i, znl_r, znl_n, Bool.and_true, Bool.true_and, zk_v, zk_n, zk_x, zir_r, zir_n, zclr_i, zclr_r, zclr_n, zclr_d, zclr_l, true_and, and_true, and_self, if_true, if_false, reduceIte, nI_add, pk_mul, zin_ok, zx_nI, nI_lt2, nI_le2, nI_eq2, nI_l0, nI_g0, nI_q0, nI_p0, nI_n0, nI_m1, Nat.add_zero, Nat.zero_add, Nat.reduceAdd, Nat.reduceMul, true_or, or_true, znar_50, bI_0, bI_1, bI_z, bft, nI_z0, nI_z1, lgc_lt, lgc_gt, lgc_le, lgc_ge, lgc_eq, not_true_eq_false, not_false_eq_true, Bool.not_eq_true, Bool.not_eq_false, reduceCtorEq, h0, c, hh, ck, if_true]
theorem c74 {l : Nat} (hL : LdS z l) (hD : RDe B z l da v) {a : Int32} {i : Nat} (hi : i < 2147483648) : ZC zG d 74 [.ref l, .int a, .int (nI i)] z Q = Q (.inl (some (if sPlace v a i = v 7 then .null else .ref (da (sPlace v a i))))) z := by
  have hL2 := hL
  unfold LdS at hL2
  have hlen := hD.1
  have h7 := hD.2.1
  have key : ∀ m k, k + m = v 7 → findF (fun k => decide (nI (v (1880 + 5 * k)) = a) && decide (sDebtsOf v a k = i)) m k = sPlace v a i → sDebtsOf v a k ≤ i → ZW zG d 74 5 [.ref l, .int a, .int (nI i), .int (nI (i - sDebtsOf v a k)), .int (nI k)] [] z Q = Q (.inl (some (if sPlace v a i = v 7 then .null else .ref (da (sPlace v a i))))) z := by
    intro m
    induction m with
    | zero =>
      intro k hk hf hle
      refine s74_5.trans ?_
      have h1 : v 7 ≤ k := by omega
      simp (disch := omega) only [s74_0, s74_1, s74_2, s74_3, s74_7, s74_8, s74_11, s74_16, s74_19, s74_20, s74_23, s74_25, s74_30, s74_33, s74_36, s74_37, s74_40, s74_43, s74_44, s74_47, s74_48, s74_51, s74_53, s74_58, s74_61, s74_61r, s74_62, s74_65, s74_68, s74_71, s74_72, s74_72r, zcs_0, zcs_1, zcs_2, zcs_3, zcs_4, zcs_5, zcs_6, zcs_7, znl_i, znl_r, znl_n, Bool.and_true, Bool.true_and, zk_v, zk_n, zk_x, zir_r, zir_n, zclr_i, zclr_r, zclr_n, zclr_d, zclr_l, true_and, and_true, and_self, if_true, if_false, reduceIte, nI_add, pk_mul, zin_ok, zx_nI, nI_lt2, nI_le2, nI_eq2, nI_l0, nI_g0, nI_q0, nI_p0, nI_n0, nI_m1, Nat.add_zero, Nat.zero_add, Nat.reduceAdd, Nat.reduceMul, true_or, or_true, znar_50, bI_0, bI_1, bI_z, bft, nI_z0, nI_z1, lgc_lt, lgc_gt, lgc_le, lgc_ge, lgc_eq, not_true_eq_false, not_false_eq_true, Bool.not_eq_true, Bool.not_eq_false, reduceCtorEq, hL2, hlen, h1]
      have hf2 : k = sPlace v a i := hf
      rw [← hf2, if_pos (by omega)]
    | succ m ih =>
      intro k hk hf hle
      have h1 : ¬ v 7 ≤ k := by omega
      obtain ⟨f1, f2, f3, f4, f5, f6, f7⟩ := RDe_f hD (k := k) (by omega)
      have hstep : findF (fun k => decide (nI (v (1880 + 5 * k)) = a) && decide (sDebtsOf v a k = i)) (m + 1) k = if (decide (nI (v (1880 + 5 * k)) = a) && decide (sDebtsOf v a k = i)) = true then k else findF (fun k => decide (nI (v (1880 + 5 * k)) = a) && decide (sDebtsOf v a k = i)) m (k + 1) := rfl
      rw [hstep] at hf
      have hd : sDebtsOf v a (k + 1) = sDebtsOf v a k + (if decide (nI (v (1880 + 5 * k)) = a) = true then 1 else 0) := rfl
      refine s74_5.trans ?_
      by_cases c1 : nI (v (1880 + 5 * k)) = a
      · rw [decide_eq_true c1, if_pos rfl] at hd
        by_cases c2 : sDebtsOf v a k = i
        · rw [if_pos (by simp [c1, c2])] at hf
          have c3 : i - sDebtsOf v a k = 0 := by omega
          rw [← hf, if_neg (by omega)]
          simp (disch := omega) only [s74_0, s74_1, s74_2, s74_3, s74_7, s74_8, s74_11, s74_16, s74_19, s74_20, s74_23, s74_25, s74_30, s74_33, s74_36, s74_37, s74_40, s74_43, s74_44, s74_47, s74_48, s74_51, s74_53, s74_58, s74_61, s74_61r, s74_62, s74_65, s74_68, s74_71, s74_72, s74_72r, zcs_0, zcs_1, zcs_2, zcs_3, zcs_4, zcs_5, zcs_6, zcs_7, znl_i, znl_r, znl_n, Bool.and_true, Bool.true_and, zk_v, zk_n, zk_x, zir_r, zir_n, zclr_i, zclr_r, zclr_n, zclr_d, zclr_l, true_and, and_true, and_self, if_true, if_false, reduceIte, nI_add, pk_mul, zin_ok, zx_nI, nI_lt2, nI_le2, nI_eq2, nI_l0, nI_g0, nI_q0, nI_p0, nI_n0, nI_m1, Nat.add_zero, Nat.zero_add, Nat.reduceAdd, Nat.reduceMul, true_or, or_true, znar_50, bI_0, bI_1, bI_z, bft, nI_z0, nI_z1, lgc_lt, lgc_gt, lgc_le, lgc_ge, lgc_eq, not_true_eq_false, not_false_eq_true, Bool.not_eq_true, Bool.not_eq_false, reduceCtorEq, hL2, hlen, h1, f1, f2, f3, c1, c3]
        · rw [if_neg (by simp [c2])] at hf
          have c3 : ¬ i - sDebtsOf v a k = 0 := by omega
          have c4 : nI (i - sDebtsOf v a k) + -1 = nI (i - sDebtsOf v a (k + 1)) := by
            rw [hd, show i - sDebtsOf v a k = (i - (sDebtsOf v a k + 1)) + 1 by omega, pk_m1]
          simp (disch := omega) only [s74_0, s74_1, s74_2, s74_3, s74_7, s74_8, s74_11, s74_16, s74_19, s74_20, s74_23, s74_25, s74_30, s74_33, s74_36, s74_37, s74_40, s74_43, s74_44, s74_47, s74_48, s74_51, s74_53, s74_58, s74_61, s74_61r, s74_62, s74_65, s74_68, s74_71, s74_72, s74_72r, zcs_0, zcs_1, zcs_2, zcs_3, zcs_4, zcs_5, zcs_6, zcs_7, znl_i, znl_r, znl_n, Bool.and_true, Bool.true_and, zk_v, zk_n, zk_x, zir_r, zir_n, zclr_i, zclr_r, zclr_n, zclr_d, zclr_l, true_and, and_true, and_self, if_true, if_false, reduceIte, nI_add, pk_mul, zin_ok, zx_nI, nI_lt2, nI_le2, nI_eq2, nI_l0, nI_g0, nI_q0, nI_p0, nI_n0, nI_m1, Nat.add_zero, Nat.zero_add, Nat.reduceAdd, Nat.reduceMul, true_or, or_true, znar_50, bI_0, bI_1, bI_z, bft, nI_z0, nI_z1, lgc_lt, lgc_gt, lgc_le, lgc_ge, lgc_eq, not_true_eq_false, not_false_eq_true, Bool.not_eq_true, Bool.not_eq_false, reduceCtorEq, hL2, hlen, h1, f1, f2, f3, c1, c3, c4]
          exact ih (k + 1) (by omega) hf (by omega)
      · rw [decide_eq_false c1] at hd
        rw [if_neg (by simp [c1])] at hf
        have i2 := ih (k + 1) (by omega) hf (by rw [hd]; simpa using hle)
        rw [hd] at i2
        simp (disch := omega) only [s74_0, s74_1, s74_2, s74_3, s74_7, s74_8, s74_11, s74_16, s74_19, s74_20, s74_23, s74_25, s74_30, s74_33, s74_36, s74_37, s74_40, s74_43, s74_44, s74_47, s74_48, s74_51, s74_53, s74_58, s74_61, s74_61r, s74_62, s74_65, s74_68, s74_71, s74_72, s74_72r, zcs_0, zcs_1, zcs_2, zcs_3, zcs_4, zcs_5, zcs_6, zcs_7, znl_i, znl_r, znl_n, Bool.and_true, Bool.true_and, zk_v, zk_n, zk_x, zir_r, zir_n, zclr_i, zclr_r, zclr_n, zclr_d, zclr_l, true_and, and_true, and_self, if_true, if_false, reduceIte, nI_add, pk_mul, zin_ok, zx_nI, nI_lt2, nI_le2, nI_eq2, nI_l0, nI_g0, nI_q0, nI_p0, nI_n0, nI_m1, Nat.add_zero, Nat.zero_add, Nat.reduceAdd, Nat.reduceMul, true_or, or_true, znar_50, bI_0, bI_1, bI_z, bft, nI_z0, nI_z1, lgc_lt, lgc_gt, lgc_le, lgc_ge, lgc_eq, not_true_eq_false, not_false_eq_true, Bool.not_eq_true, Bool.not_eq_false, reduceCtorEq, hL2, hlen, h1, f1, f2, f3, c1]
        exact i2
  simp (disch := omega) only [e74, s74_0, s74_1, s74_2, s74_3, s74_7, s74_8, s74_11, s74_16, s74_19, s74_20, s74_23, s74_25, s74_30, s74_33, s74_36, s74_37, s74_40, s74_43, s74_44, s74_47, s74_48, s74_51, s74_53, s74_58, s74_61, s74_61r, s74_62, s74_65, s74_68, s74_71, s74_72, s74_72r, zcs_0, zcs_1, zcs_2, zcs_3, zcs_4, zcs_5, zcs_6, zcs_7, znl_i, znl_r, znl_n, Bool.and_true, Bool.true_and, zk_v, zk_n, zk_x, zir_r, zir_n, zclr_i, zclr_r, zclr_n, zclr_d, zclr_l, true_and, and_true, and_self, if_true, if_false, reduceIte]
  exact key (v 7) 0 (by omega) rfl (Nat.zero_le _)
theorem c25 (h : NW B z v L t hl kn rl ha ra da ea) {a i w : Int32} : ZC zG (d + 3) 25 [.ref 100, .int a, .int i, .int w] z Q = Q (.inl (some (.int (rDebt v a i w)))) z := by
  have c := fun d Q => c14 (d := d) (Q := Q) h (a := a)
  have hL := h.ls
  obtain ⟨h0, ⟨h1, h2, h3, h4⟩, hH, hR, hD, hK, h9, hE, h6⟩ := h
  unfold CS at h0
  unfold rDebt isH
  cases hz : zin a (v 0)
  · simp (disch := omega) only [e25, s25_0, s25_1, s25_2, s25_5, s25_8, s25_9, s25_12, s25_13, s25_16, s25_19, s25_20, s25_21, s25_24, s25_27, s25_28, s25_30, s25_32, s25_32r, s25_35, s25_36, s25_37, s25_38, s25_68, s25_70, s25_73, s25_74, s25_76, s25_79, s25_80, s25_82, s25_85, s25_86, s25_88, s25_91, s25_92, s25_93, zcs_0, zcs_1, zcs_2, zcs_3, zcs_4, zcs_5, zcs_6, zcs_7, znl_i, znl_r, znl_n, Bool.and_true, Bool.true_and, zk_v, zk_n, zk_x, zir_r, zir_n, zclr_i, zclr_r, zclr_n, zclr_d, zclr_l, true_and, and_true, and_self, if_true, if_false, reduceIte, nI_add, pk_mul, zin_ok, zx_nI, nI_lt2, nI_le2, nI_eq2, nI_l0, nI_g0, nI_q0, nI_p0, nI_n0, nI_m1, Nat.add_zero, Nat.zero_add, Nat.reduceAdd, Nat.reduceMul, true_or, or_true, znar_50, bI_0, bI_1, bI_z, bft, nI_z0, nI_z1, lgc_lt, lgc_gt, lgc_le, lgc_ge, lgc_eq, not_true_eq_false, not_false_eq_true, Bool.not_eq_true, Bool.not_eq_false, reduceCtorEq, h0, c, hz, Bool.false_and, Bool.false_eq_true, if_false]
  · by_cases hi : i < 0
    · have hi2 : ¬ 0 ≤ i := Int32.not_le.mpr hi
      simp (disch := omega) only [e25, s25_0, s25_1, s25_2, s25_5, s25_8, s25_9, s25_12, s25_13, s25_16, s25_19, s25_20, s25_21, s25_24, s25_27, s25_28, s25_30, s25_32, s25_32r, s25_35, s25_36, s25_37, s25_38, s25_68, s25_70, s25_73, s25_74, s25_76, s25_79, s25_80, s25_82, s25_85, s25_86, s25_88, s25_91, s25_92, s25_93, zcs_0, zcs_1, zcs_2, zcs_3, zcs_4, zcs_5, zcs_6, zcs_7, znl_i, znl_r, znl_n, Bool.and_true, Bool.true_and, zk_v, zk_n, zk_x, zir_r, zir_n, zclr_i, zclr_r, zclr_n, zclr_d, zclr_l, true_and, and_true, and_self, if_true, if_false, reduceIte, nI_add, pk_mul, zin_ok, zx_nI, nI_lt2, nI_le2, nI_eq2, nI_l0, nI_g0, nI_q0, nI_p0, nI_n0, nI_m1, Nat.add_zero, Nat.zero_add, Nat.reduceAdd, Nat.reduceMul, true_or, or_true, znar_50, bI_0, bI_1, bI_z, bft, nI_z0, nI_z1, lgc_lt, lgc_gt, lgc_le, lgc_ge, lgc_eq, not_true_eq_false, not_false_eq_true, Bool.not_eq_true, Bool.not_eq_false, reduceCtorEq, h0, c, hz, hi, hi2, decide_false, Bool.false_and, Bool.and_false, Bool.false_eq_true, if_false]
    · have hi2 : 0 ≤ i := Int32.not_lt.mp hi
      obtain ⟨j, hj, rfl⟩ := nI_of hi
      have ck := fun d Q => c74 (d := d) (z := z) (v := v) (Q := Q) hL hD (a := a) (i := j) hj
      rw [zx_nI hj]
      have hle := (findF_le (fun k => decide (nI (v (1880 + 5 * k)) = a) && decide (sDebtsOf v a k = j)) (v 7) 0).2
      by_cases hp : sPlace v a j = v 7
      · rw [if_pos hp] at ck
        have hpos : ¬ nI j < 0 := nI_pos hj
        simp (disch := omega) only [e25, s25_0, s25_1, s25_2, s25_5, s25_8, s25_9, s25_12, s25_13, s25_16, s25_19, s25_20, s25_21, s25_24, s25_27, s25_28, s25_30, s25_32, s25_32r, s25_35, s25_36, s25_37, s25_38, s25_68, s25_70, s25_73, s25_74, s25_76, s25_79, s25_80, s25_82, s25_85, s25_86, s25_88, s25_91, s25_92, s25_93, zcs_0, zcs_1, zcs_2, zcs_3, zcs_4, zcs_5, zcs_6, zcs_7, znl_i, znl_r, znl_n, Bool.and_true, Bool.true_and, zk_v, zk_n, zk_x, zir_r, zir_n, zclr_i, zclr_r, zclr_n, zclr_d, zclr_l, true_and, and_true, and_self, if_true, if_false, reduceIte, nI_add, pk_mul, zin_ok, zx_nI, nI_lt2, nI_le2, nI_eq2, nI_l0, nI_g0, nI_q0, nI_p0, nI_n0, nI_m1, Nat.add_zero, Nat.zero_add, Nat.reduceAdd, Nat.reduceMul, true_or, or_true, znar_50, bI_0, bI_1, bI_z, bft, nI_z0, nI_z1, lgc_lt, lgc_gt, lgc_le, lgc_ge, lgc_eq, not_true_eq_false, not_false_eq_true, Bool.not_eq_true, Bool.not_eq_false, reduceCtorEq, h0, c, hz, hi, hpos, ck, hp, if_true]
        cases zin w 4 <;> simp [hi2]
      · rw [if_neg hp] at ck
        have hlt : sPlace v a j < v 7 := by
          have : sPlace v a j ≤ 0 + v 7 := hle
          omega
        obtain ⟨f1, f2, f3, f4, f5, f6, f7⟩ := RDe_f hD hlt
        have hpos : ¬ nI j < 0 := nI_pos hj
        cases hw : zin w 4
        · have ht : ztsw [68, 74, 80, 86] 92 w = 92 := ztsw_o hw
          simp (disch := omega) only [e25, s25_0, s25_1, s25_2, s25_5, s25_8, s25_9, s25_12, s25_13, s25_16, s25_19, s25_20, s25_21, s25_24, s25_27, s25_28, s25_30, s25_32, s25_32r, s25_35, s25_36, s25_37, s25_38, s25_68, s25_70, s25_73, s25_74, s25_76, s25_79, s25_80, s25_82, s25_85, s25_86, s25_88, s25_91, s25_92, s25_93, zcs_0, zcs_1, zcs_2, zcs_3, zcs_4, zcs_5, zcs_6, zcs_7, znl_i, znl_r, znl_n, Bool.and_true, Bool.true_and, zk_v, zk_n, zk_x, zir_r, zir_n, zclr_i, zclr_r, zclr_n, zclr_d, zclr_l, true_and, and_true, and_self, if_true, if_false, reduceIte, nI_add, pk_mul, zin_ok, zx_nI, nI_lt2, nI_le2, nI_eq2, nI_l0, nI_g0, nI_q0, nI_p0, nI_n0, nI_m1, Nat.add_zero, Nat.zero_add, Nat.reduceAdd, Nat.reduceMul, true_or, or_true, znar_50, bI_0, bI_1, bI_z, bft, nI_z0, nI_z1, lgc_lt, lgc_gt, lgc_le, lgc_ge, lgc_eq, not_true_eq_false, not_false_eq_true, Bool.not_eq_true, Bool.not_eq_false, reduceCtorEq, h0, c, hz, hi, hpos, ck, hp, ht, Bool.and_false, Bool.false_eq_true, if_false]
        · obtain ⟨u, hu, hu2, rfl⟩ := zin_of hw
          have ht : ztsw [68, 74, 80, 86] 92 (nI u) = [68, 74, 80, 86].getD u 92 := ztsw_n hu2
          rw [zx_nI hu2]
          match u, hu with
          | 0, _ => simp (disch := omega) only [e25, s25_0, s25_1, s25_2, s25_5, s25_8, s25_9, s25_12, s25_13, s25_16, s25_19, s25_20, s25_21, s25_24, s25_27, s25_28, s25_30, s25_32, s25_32r, s25_35, s25_36, s25_37, s25_38, s25_68, s25_70, s25_73, s25_74, s25_76, s25_79, s25_80, s25_82, s25_85, s25_86, s25_88, s25_91, s25_92, s25_93, zcs_0, zcs_1, zcs_2, zcs_3, zcs_4, zcs_5, zcs_6, zcs_7, znl_i, znl_r, znl_n, Bool.and_true, Bool.true_and, zk_v, zk_n, zk_x, zir_r, zir_n, zclr_i, zclr_r, zclr_n, zclr_d, zclr_l, true_and, and_true, and_self, if_true, if_false, reduceIte, nI_add, pk_mul, zin_ok, zx_nI, nI_lt2, nI_le2, nI_eq2, nI_l0, nI_g0, nI_q0, nI_p0, nI_n0, nI_m1, Nat.add_zero, Nat.zero_add, Nat.reduceAdd, Nat.reduceMul, true_or, or_true, znar_50, bI_0, bI_1, bI_z, bft, nI_z0, nI_z1, lgc_lt, lgc_gt, lgc_le, lgc_ge, lgc_eq, not_true_eq_false, not_false_eq_true, Bool.not_eq_true, Bool.not_eq_false, reduceCtorEq, h0, c, hz, hi, hi2, hpos, ck, hp, ht, f2, f4, List.getD_cons_zero, List.getD_cons_succ, decide_true, Bool.and_self, if_true]
          | 1, _ => simp (disch := omega) only [e25, s25_0, s25_1, s25_2, s25_5, s25_8, s25_9, s25_12, s25_13, s25_16, s25_19, s25_20, s25_21, s25_24, s25_27, s25_28, s25_30, s25_32, s25_32r, s25_35, s25_36, s25_37, s25_38, s25_68, s25_70, s25_73, s25_74, s25_76, s25_79, s25_80, s25_82, s25_85, s25_86, s25_88, s25_91, s25_92, s25_93, zcs_0, zcs_1, zcs_2, zcs_3, zcs_4, zcs_5, zcs_6, zcs_7, znl_i, znl_r, znl_n, Bool.and_true, Bool.true_and, zk_v, zk_n, zk_x, zir_r, zir_n, zclr_i, zclr_r, zclr_n, zclr_d, zclr_l, true_and, and_true, and_self, if_true, if_false, reduceIte, nI_add, pk_mul, zin_ok, zx_nI, nI_lt2, nI_le2, nI_eq2, nI_l0, nI_g0, nI_q0, nI_p0, nI_n0, nI_m1, Nat.add_zero, Nat.zero_add, Nat.reduceAdd, Nat.reduceMul, true_or, or_true, znar_50, bI_0, bI_1, bI_z, bft, nI_z0, nI_z1, lgc_lt, lgc_gt, lgc_le, lgc_ge, lgc_eq, not_true_eq_false, not_false_eq_true, Bool.not_eq_true, Bool.not_eq_false, reduceCtorEq, h0, c, hz, hi, hi2, hpos, ck, hp, ht, f2, f5, List.getD_cons_zero, List.getD_cons_succ, decide_true, Bool.and_self, if_true]
          | 2, _ => simp (disch := omega) only [e25, s25_0, s25_1, s25_2, s25_5, s25_8, s25_9, s25_12, s25_13, s25_16, s25_19, s25_20, s25_21, s25_24, s25_27, s25_28, s25_30, s25_32, s25_32r, s25_35, s25_36, s25_37, s25_38, s25_68, s25_70, s25_73, s25_74, s25_76, s25_79, s25_80, s25_82, s25_85, s25_86, s25_88, s25_91, s25_92, s25_93, zcs_0, zcs_1, zcs_2, zcs_3, zcs_4, zcs_5, zcs_6, zcs_7, znl_i, znl_r, znl_n, Bool.and_true, Bool.true_and, zk_v, zk_n, zk_x, zir_r, zir_n, zclr_i, zclr_r, zclr_n, zclr_d, zclr_l, true_and, and_true, and_self, if_true, if_false, reduceIte, nI_add, pk_mul, zin_ok, zx_nI, nI_lt2, nI_le2, nI_eq2, nI_l0, nI_g0, nI_q0, nI_p0, nI_n0, nI_m1, Nat.add_zero, Nat.zero_add, Nat.reduceAdd, Nat.reduceMul, true_or, or_true, znar_50, bI_0, bI_1, bI_z, bft, nI_z0, nI_z1, lgc_lt, lgc_gt, lgc_le, lgc_ge, lgc_eq, not_true_eq_false, not_false_eq_true, Bool.not_eq_true, Bool.not_eq_false, reduceCtorEq, h0, c, hz, hi, hi2, hpos, ck, hp, ht, f2, f6, List.getD_cons_zero, List.getD_cons_succ, decide_true, Bool.and_self, if_true]
          | 3, _ => simp (disch := omega) only [e25, s25_0, s25_1, s25_2, s25_5, s25_8, s25_9, s25_12, s25_13, s25_16, s25_19, s25_20, s25_21, s25_24, s25_27, s25_28, s25_30, s25_32, s25_32r, s25_35, s25_36, s25_37, s25_38, s25_68, s25_70, s25_73, s25_74, s25_76, s25_79, s25_80, s25_82, s25_85, s25_86, s25_88, s25_91, s25_92, s25_93, zcs_0, zcs_1, zcs_2, zcs_3, zcs_4, zcs_5, zcs_6, zcs_7, znl_i, znl_r, znl_n, Bool.and_true, Bool.true_and, zk_v, zk_n, zk_x, zir_r, zir_n, zclr_i, zclr_r, zclr_n, zclr_d, zclr_l, true_and, and_true, and_self, if_true, if_false, reduceIte, nI_add, pk_mul, zin_ok, zx_nI, nI_lt2, nI_le2, nI_eq2, nI_l0, nI_g0, nI_q0, nI_p0, nI_n0, nI_m1, Nat.add_zero, Nat.zero_add, Nat.reduceAdd, Nat.reduceMul, true_or, or_true, znar_50, bI_0, bI_1, bI_z, bft, nI_z0, nI_z1, lgc_lt, lgc_gt, lgc_le, lgc_ge, lgc_eq, not_true_eq_false, not_false_eq_true, Bool.not_eq_true, Bool.not_eq_false, reduceCtorEq, h0, c, hz, hi, hi2, hpos, ck, hp, ht, f2, f7, List.getD_cons_zero, List.getD_cons_succ, decide_true, Bool.and_self, if_true]
theorem c27 (h : NW B z v L t hl kn rl ha ra da ea) (hv : ∀ i, v i < 2147483648) {b : Int32} : ZC zG d 27 [.ref 100, .int b] z Q = Q (.inl (some (.int (nI (cntN (fun i => (decide (b = -1) || decide (nI (v (1880 + 5 * i + 1)) = b)) && decide (v (1880 + 5 * i + 3) < v 6)) (v 7)))))) z := by
  obtain ⟨h0, ⟨h1, h2, h3, h4⟩, hH, hR, hD, hK, h9, hE, h6⟩ := h
  unfold CS at h0
  have hlen : (zls z 111).length = v 7 := hD.1
  have h7 := hD.2.1
  have e : ∀ k, k < v 7 → ZW zG d 27 4 [.ref 100, .int b, .int (nI (cntN (fun i => (decide (b = -1) || decide (nI (v (1880 + 5 * i + 1)) = b)) && decide (v (1880 + 5 * i + 3) < v 6)) k)), .int (nI k)] [] z Q = ZW zG d 27 4 [.ref 100, .int b, .int (nI (cntN (fun i => (decide (b = -1) || decide (nI (v (1880 + 5 * i + 1)) = b)) && decide (v (1880 + 5 * i + 3) < v 6)) (k + 1))), .int (nI (k + 1))] [] z Q := by
    intro k hk
    have g1 : ¬ v 7 ≤ k := by omega
    obtain ⟨f1, f2, f3, f4, f5, f6, f7⟩ := RDe_f hD hk
    have f1' : (zls z 111).getD k .null = .ref (da k) := f1
    refine s27_4.trans ?_
    have hs : cntN (fun i => (decide (b = -1) || decide (nI (v (1880 + 5 * i + 1)) = b)) && decide (v (1880 + 5 * i + 3) < v 6)) (k + 1) = cntN (fun i => (decide (b = -1) || decide (nI (v (1880 + 5 * i + 1)) = b)) && decide (v (1880 + 5 * i + 3) < v 6)) k + (if ((decide (b = -1) || decide (nI (v (1880 + 5 * k + 1)) = b)) && decide (v (1880 + 5 * k + 3) < v 6)) = true then 1 else 0) := rfl
    rw [hs]
    simp (disch := first | omega | exact hv _) only [s27_0, s27_1, s27_2, s27_3, s27_5, s27_6, s27_9, s27_12, s27_15, s27_20, s27_23, s27_24, s27_25, s27_26, s27_29, s27_30, s27_33, s27_36, s27_39, s27_40, s27_45, s27_48, s27_51, s27_52, s27_55, s27_56, s27_59, s27_62, s27_65, s27_66, s27_71, s27_74, s27_77, s27_78, s27_81, s27_84, s27_87, s27_88, s27_91, s27_92, s27_93, s27_94, s27_97, s27_100, s27_101, zcs_0, zcs_1, zcs_2, zcs_3, zcs_4, zcs_5, zcs_6, zcs_7, znl_i, znl_r, znl_n, Bool.and_true, Bool.true_and, zk_v, zk_n, zk_x, zir_r, zir_n, zclr_i, zclr_r, zclr_n, zclr_d, zclr_l, true_and, and_true, and_self, if_true, if_false, reduceIte, nI_add, pk_mul, zin_ok, zx_nI, nI_lt2, nI_le2, nI_eq2, nI_l0, nI_g0, nI_q0, nI_p0, nI_n0, nI_m1, Nat.add_zero, Nat.zero_add, Nat.reduceAdd, Nat.reduceMul, true_or, or_true, znar_50, bI_0, bI_1, bI_z, bft, nI_z0, nI_z1, lgc_lt, lgc_gt, lgc_le, lgc_ge, lgc_eq, not_true_eq_false, not_false_eq_true, Bool.not_eq_true, Bool.not_eq_false, reduceCtorEq, h0, hlen, g1, f1', f2, f4, f6, h6]
    by_cases c2 : v (1880 + 5 * k + 3) < v 6
    · have c3 : ¬ v 6 ≤ v (1880 + 5 * k + 3) := by omega
      by_cases c1 : b = -1
      · simp [c1, c2, c3]
      · by_cases c4 : nI (v (1880 + 5 * k + 1)) = b
        · simp [c1, c2, c3, c4]
        · simp [c1, c4]
    · have c3 : v 6 ≤ v (1880 + 5 * k + 3) := by omega
      by_cases c1 : b = -1
      · simp [c1, c2, c3]
      · by_cases c4 : nI (v (1880 + 5 * k + 1)) = b
        · simp [c1, c2, c3, c4]
        · simp [c1, c4]
  simp (disch := omega) only [e27, s27_0, s27_1, s27_2, s27_3, s27_5, s27_6, s27_9, s27_12, s27_15, s27_20, s27_23, s27_24, s27_25, s27_26, s27_29, s27_30, s27_33, s27_36, s27_39, s27_40, s27_45, s27_48, s27_51, s27_52, s27_55, s27_56, s27_59, s27_62, s27_65, s27_66, s27_71, s27_74, s27_77, s27_78, s27_81, s27_84, s27_87, s27_88, s27_91, s27_92, s27_93, s27_94, s27_97, s27_100, s27_101, zcs_0, zcs_1, zcs_2, zcs_3, zcs_4, zcs_5, zcs_6, zcs_7, znl_i, znl_r, znl_n, Bool.and_true, Bool.true_and, zk_v, zk_n, zk_x, zir_r, zir_n, zclr_i, zclr_r, zclr_n, zclr_d, zclr_l, true_and, and_true, and_self, if_true, if_false, reduceIte]
  refine Eq.trans (zl_up (P := fun k => ZW zG d 27 4 [.ref 100, .int b, .int (nI (cntN (fun i => (decide (b = -1) || decide (nI (v (1880 + 5 * i + 1)) = b)) && decide (v (1880 + 5 * i + 3) < v 6)) k)), .int (nI k)] [] z Q) (v 7) e) ?_
  refine s27_4.trans ?_
  simp (disch := omega) only [s27_0, s27_1, s27_2, s27_3, s27_5, s27_6, s27_9, s27_12, s27_15, s27_20, s27_23, s27_24, s27_25, s27_26, s27_29, s27_30, s27_33, s27_36, s27_39, s27_40, s27_45, s27_48, s27_51, s27_52, s27_55, s27_56, s27_59, s27_62, s27_65, s27_66, s27_71, s27_74, s27_77, s27_78, s27_81, s27_84, s27_87, s27_88, s27_91, s27_92, s27_93, s27_94, s27_97, s27_100, s27_101, zcs_0, zcs_1, zcs_2, zcs_3, zcs_4, zcs_5, zcs_6, zcs_7, znl_i, znl_r, znl_n, Bool.and_true, Bool.true_and, zk_v, zk_n, zk_x, zir_r, zir_n, zclr_i, zclr_r, zclr_n, zclr_d, zclr_l, true_and, and_true, and_self, if_true, if_false, reduceIte, nI_add, pk_mul, zin_ok, zx_nI, nI_lt2, nI_le2, nI_eq2, nI_l0, nI_g0, nI_q0, nI_p0, nI_n0, nI_m1, Nat.add_zero, Nat.zero_add, Nat.reduceAdd, Nat.reduceMul, true_or, or_true, znar_50, bI_0, bI_1, bI_z, bft, nI_z0, nI_z1, lgc_lt, lgc_gt, lgc_le, lgc_ge, lgc_eq, not_true_eq_false, not_false_eq_true, Bool.not_eq_true, Bool.not_eq_false, reduceCtorEq, h0, hlen, Nat.le_refl]
theorem c27h (h : NW B z v L t hl kn rl ha ra da ea) (hv : ∀ i, v i < 2147483648) {k : Nat} (hk : k < 2147483648) : ZC zG d 27 [.ref 100, .int (nI k)] z Q = Q (.inl (some (.int (nI (sSli v (nI k) (v 7)))))) z := by
  rw [c27 h hv]
  have : ¬ nI k = -1 := by rw [nI_m1 hk]; exact fun x => x
  simp only [this, decide_false, Bool.false_or]
  rfl
theorem c26 (h : NW B z v L t hl kn rl ha ra da ea) (hv : ∀ i, v i < 2147483648) {a : Int32} : ZC zG (d + 3) 26 [.ref 100, .int a] z Q = Q (.inl (some (.int (rSli v a)))) z := by
  have c := fun d Q => c14 (d := d) (Q := Q) h (a := a)
  have c27' := fun d Q k hk => c27h (d := d) (Q := Q) h hv (k := k) hk
  obtain ⟨h0, ⟨h1, h2, h3, h4⟩, hH, hR, hD, hK, h9, hE, h6⟩ := h
  unfold CS at h0
  unfold rSli isH
  cases hh : zin a (v 0) with
  | false => simp (disch := omega) only [e26, s26_0, s26_1, s26_2, s26_5, s26_8, s26_9, s26_10, s26_13, s26_16, s26_18, zcs_0, zcs_1, zcs_2, zcs_3, zcs_4, zcs_5, zcs_6, zcs_7, znl_i, znl_r, znl_n, Bool.and_true, Bool.true_and, zk_v, zk_n, zk_x, zir_r, zir_n, zclr_i, zclr_r, zclr_n, zclr_d, zclr_l, true_and, and_true, and_self, if_true, if_false, reduceIte, nI_add, pk_mul, zin_ok, zx_nI, nI_lt2, nI_le2, nI_eq2, nI_l0, nI_g0, nI_q0, nI_p0, nI_n0, nI_m1, Nat.add_zero, Nat.zero_add, Nat.reduceAdd, Nat.reduceMul, true_or, or_true, znar_50, bI_0, bI_1, bI_z, bft, nI_z0, nI_z1, lgc_lt, lgc_gt, lgc_le, lgc_ge, lgc_eq, not_true_eq_false, not_false_eq_true, Bool.not_eq_true, Bool.not_eq_false, reduceCtorEq, h0, c, hh, Bool.false_eq_true, if_false]
  | true =>
    obtain ⟨k, hk, hk2, rfl⟩ := zin_of hh
    simp (disch := omega) only [e26, s26_0, s26_1, s26_2, s26_5, s26_8, s26_9, s26_10, s26_13, s26_16, s26_18, zcs_0, zcs_1, zcs_2, zcs_3, zcs_4, zcs_5, zcs_6, zcs_7, znl_i, znl_r, znl_n, Bool.and_true, Bool.true_and, zk_v, zk_n, zk_x, zir_r, zir_n, zclr_i, zclr_r, zclr_n, zclr_d, zclr_l, true_and, and_true, and_self, if_true, if_false, reduceIte, nI_add, pk_mul, zin_ok, zx_nI, nI_lt2, nI_le2, nI_eq2, nI_l0, nI_g0, nI_q0, nI_p0, nI_n0, nI_m1, Nat.add_zero, Nat.zero_add, Nat.reduceAdd, Nat.reduceMul, true_or, or_true, znar_50, bI_0, bI_1, bI_z, bft, nI_z0, nI_z1, lgc_lt, lgc_gt, lgc_le, lgc_ge, lgc_eq, not_true_eq_false, not_false_eq_true, Bool.not_eq_true, Bool.not_eq_false, reduceCtorEq, h0, c, hh, c27', if_true]
theorem c28 (h : NW B z v L t hl kn rl ha ra da ea) (hv : ∀ i, v i < 2147483648) : ZC zG (d + 3) 28 [.ref 100] z Q = Q (.inl (some (.int (oI (sFirst v (v 0)).1)))) z := by
  have c27' := fun d Q k hk => c27h (d := d) (Q := Q) h hv (k := k) hk
  have c17' := fun d Q k hk => c17 (d := d) (Q := Q) h (k := k) hk
  obtain ⟨h0, ⟨h1, h2, h3, h4⟩, hH, hR, hD, hK, h9, hE, h6⟩ := h
  unfold CS at h0
  have h16 : v 0 ≤ 16 := hH.2.2.2.1.2
  have h7 := hD.2.1
  have ct := hH.1.2
  have c63' := fun d Q => c63 (d := d) (Q := Q) hH
  have fl := fun k hk => hH.fld (h := k) hk
  have key : ∀ m h (x4 : Value), h + m = v 0 → ZW zG (d + 3) 28 6 [.ref 100, .int (oI (sFirst v h).1), .int (nI (sFirst v h).2), .int (nI h), x4] [] z Q = Q (.inl (some (.int (oI (sFirst v (v 0)).1)))) z := by
    intro m
    induction m with
    | zero =>
      intro h x4 hh
      have : h = v 0 := by omega
      subst this
      refine s28_6.trans ?_
      simp (disch := omega) only [s28_0, s28_1, s28_2, s28_3, s28_4, s28_5, s28_7, s28_8, s28_11, s28_14, s28_17, s28_20, s28_21, s28_22, s28_25, s28_27, s28_29, s28_32, s28_34, s28_35, s28_38, s28_40, s28_41, s28_44, s28_45, s28_46, s28_49, s28_52, s28_53, s28_54, s28_57, s28_60, s28_63, s28_66, s28_67, s28_68, s28_70, s28_71, s28_74, s28_77, s28_78, zcs_0, zcs_1, zcs_2, zcs_3, zcs_4, zcs_5, zcs_6, zcs_7, znl_i, znl_r, znl_n, Bool.and_true, Bool.true_and, zk_v, zk_n, zk_x, zir_r, zir_n, zclr_i, zclr_r, zclr_n, zclr_d, zclr_l, true_and, and_true, and_self, if_true, if_false, reduceIte, nI_add, pk_mul, zin_ok, zx_nI, nI_lt2, nI_le2, nI_eq2, nI_l0, nI_g0, nI_q0, nI_p0, nI_n0, nI_m1, Nat.add_zero, Nat.zero_add, Nat.reduceAdd, Nat.reduceMul, true_or, or_true, znar_50, bI_0, bI_1, bI_z, bft, nI_z0, nI_z1, lgc_lt, lgc_gt, lgc_le, lgc_ge, lgc_eq, not_true_eq_false, not_false_eq_true, Bool.not_eq_true, Bool.not_eq_false, reduceCtorEq, h0, h1, ct, c63', Nat.le_refl]
    | succ m ih =>
      intro h x4 hh
      have g1 : ¬ v 0 ≤ h := by omega
      have hs : sFirst v (h + 1) = match sFirst v h with | (b, m) => if sSli v (nI h) (v 7) = 0 ∨ sSli v (nI h) (v 7) < m ∨ (sSli v (nI h) (v 7) = m ∧ v (10 + 9 * h + 2) ≤ v (10 + 9 * (b.getD 0) + 2)) then (b, m) else (some h, sSli v (nI h) (v 7)) := rfl
      have hN : sSli v (nI h) (v 7) < 2147483648 := by have := cntN_le (fun i => decide (nI (v (1880 + 5 * i + 1)) = nI h) && decide (v (1880 + 5 * i + 3) < v 6)) (v 7); unfold sSli; omega
      obtain ⟨_, q1, _, _, q2, _⟩ := fl h (by omega)
      have ih2 := fun x => ih (h + 1) x (by omega)
      refine s28_6.trans ?_
      cases e : sFirst v h with
      | mk b mo =>
        rw [e] at hs
        dsimp only at hs
        have hmo : mo < 2147483648 := by
          have gen : ∀ k b m, sFirst v k = (b, m) → m < 2147483648 := by
            intro k
            induction k with
            | zero => intro b m h; cases h; omega
            | succ k ihk =>
              intro b m h
              unfold sFirst at h
              cases e2 : sFirst v k with
              | mk b2 m2 =>
                rw [e2] at h
                dsimp only at h
                split at h
                · cases h; exact ihk _ _ e2
                · cases h
                  have := cntN_le (fun i => decide (nI (v (1880 + 5 * i + 1)) = nI k) && decide (v (1880 + 5 * i + 3) < v 6)) (v 7)
                  unfold sSli
                  omega
          exact gen h b mo e
        by_cases c1 : sSli v (nI h) (v 7) = 0
        · rw [if_pos (Or.inl c1)] at hs
          rw [hs] at ih2
          simp (disch := first | omega | exact hv _) only [s28_0, s28_1, s28_2, s28_3, s28_4, s28_5, s28_7, s28_8, s28_11, s28_14, s28_17, s28_20, s28_21, s28_22, s28_25, s28_27, s28_29, s28_32, s28_34, s28_35, s28_38, s28_40, s28_41, s28_44, s28_45, s28_46, s28_49, s28_52, s28_53, s28_54, s28_57, s28_60, s28_63, s28_66, s28_67, s28_68, s28_70, s28_71, s28_74, s28_77, s28_78, zcs_0, zcs_1, zcs_2, zcs_3, zcs_4, zcs_5, zcs_6, zcs_7, znl_i, znl_r, znl_n, Bool.and_true, Bool.true_and, zk_v, zk_n, zk_x, zir_r, zir_n, zclr_i, zclr_r, zclr_n, zclr_d, zclr_l, true_and, and_true, and_self, if_true, if_false, reduceIte, nI_add, pk_mul, zin_ok, zx_nI, nI_lt2, nI_le2, nI_eq2, nI_l0, nI_g0, nI_q0, nI_p0, nI_n0, nI_m1, Nat.add_zero, Nat.zero_add, Nat.reduceAdd, Nat.reduceMul, true_or, or_true, znar_50, bI_0, bI_1, bI_z, bft, nI_z0, nI_z1, lgc_lt, lgc_gt, lgc_le, lgc_ge, lgc_eq, not_true_eq_false, not_false_eq_true, Bool.not_eq_true, Bool.not_eq_false, reduceCtorEq, h0, h1, ct, c63', g1, c27', c1]
          exact ih2 _
        · by_cases c2 : sSli v (nI h) (v 7) < mo
          · rw [if_pos (Or.inr (Or.inl c2))] at hs
            rw [hs] at ih2
            simp (disch := first | omega | exact hv _) only [s28_0, s28_1, s28_2, s28_3, s28_4, s28_5, s28_7, s28_8, s28_11, s28_14, s28_17, s28_20, s28_21, s28_22, s28_25, s28_27, s28_29, s28_32, s28_34, s28_35, s28_38, s28_40, s28_41, s28_44, s28_45, s28_46, s28_49, s28_52, s28_53, s28_54, s28_57, s28_60, s28_63, s28_66, s28_67, s28_68, s28_70, s28_71, s28_74, s28_77, s28_78, zcs_0, zcs_1, zcs_2, zcs_3, zcs_4, zcs_5, zcs_6, zcs_7, znl_i, znl_r, znl_n, Bool.and_true, Bool.true_and, zk_v, zk_n, zk_x, zir_r, zir_n, zclr_i, zclr_r, zclr_n, zclr_d, zclr_l, true_and, and_true, and_self, if_true, if_false, reduceIte, nI_add, pk_mul, zin_ok, zx_nI, nI_lt2, nI_le2, nI_eq2, nI_l0, nI_g0, nI_q0, nI_p0, nI_n0, nI_m1, Nat.add_zero, Nat.zero_add, Nat.reduceAdd, Nat.reduceMul, true_or, or_true, znar_50, bI_0, bI_1, bI_z, bft, nI_z0, nI_z1, lgc_lt, lgc_gt, lgc_le, lgc_ge, lgc_eq, not_true_eq_false, not_false_eq_true, Bool.not_eq_true, Bool.not_eq_false, reduceCtorEq, h0, h1, ct, c63', g1, c27', c1, c2]
            exact ih2 _
          · by_cases c3 : sSli v (nI h) (v 7) = mo
            · cases b with
              | none => exact absurd (sFirst_none v h mo e) (by omega)
              | some b =>
                have hb := sFirst_lt v h b mo e
                obtain ⟨_, r1, _, _, r2, _⟩ := fl b (by omega)
                simp only [Option.getD_some] at hs
                have c6 : ¬ mo = 0 := by omega
                by_cases c4 : v (10 + 9 * h + 2) ≤ v (10 + 9 * b + 2)
                · rw [if_pos (Or.inr (Or.inr ⟨c3, c4⟩))] at hs
                  rw [hs] at ih2
                  have c5 : ¬ v (10 + 9 * b + 2) < v (10 + 9 * h + 2) := by omega
                  simp only [oI] at ih2 ⊢
                  simp (disch := first | omega | exact hv _) only [s28_0, s28_1, s28_2, s28_3, s28_4, s28_5, s28_7, s28_8, s28_11, s28_14, s28_17, s28_20, s28_21, s28_22, s28_25, s28_27, s28_29, s28_32, s28_34, s28_35, s28_38, s28_40, s28_41, s28_44, s28_45, s28_46, s28_49, s28_52, s28_53, s28_54, s28_57, s28_60, s28_63, s28_66, s28_67, s28_68, s28_70, s28_71, s28_74, s28_77, s28_78, zcs_0, zcs_1, zcs_2, zcs_3, zcs_4, zcs_5, zcs_6, zcs_7, znl_i, znl_r, znl_n, Bool.and_true, Bool.true_and, zk_v, zk_n, zk_x, zir_r, zir_n, zclr_i, zclr_r, zclr_n, zclr_d, zclr_l, true_and, and_true, and_self, if_true, if_false, reduceIte, nI_add, pk_mul, zin_ok, zx_nI, nI_lt2, nI_le2, nI_eq2, nI_l0, nI_g0, nI_q0, nI_p0, nI_n0, nI_m1, Nat.add_zero, Nat.zero_add, Nat.reduceAdd, Nat.reduceMul, true_or, or_true, znar_50, bI_0, bI_1, bI_z, bft, nI_z0, nI_z1, lgc_lt, lgc_gt, lgc_le, lgc_ge, lgc_eq, not_true_eq_false, not_false_eq_true, Bool.not_eq_true, Bool.not_eq_false, reduceCtorEq, h0, h1, ct, c63', g1, c27', c17', q1, q2, r1, r2, c3, c5, c6, Nat.lt_irrefl]
                  exact ih2 _
                · rw [if_neg (by omega)] at hs
                  rw [hs] at ih2
                  have c5 : v (10 + 9 * b + 2) < v (10 + 9 * h + 2) := by omega
                  simp only [oI] at ih2 ⊢
                  rw [c3] at ih2
                  simp (disch := first | omega | exact hv _) only [s28_0, s28_1, s28_2, s28_3, s28_4, s28_5, s28_7, s28_8, s28_11, s28_14, s28_17, s28_20, s28_21, s28_22, s28_25, s28_27, s28_29, s28_32, s28_34, s28_35, s28_38, s28_40, s28_41, s28_44, s28_45, s28_46, s28_49, s28_52, s28_53, s28_54, s28_57, s28_60, s28_63, s28_66, s28_67, s28_68, s28_70, s28_71, s28_74, s28_77, s28_78, zcs_0, zcs_1, zcs_2, zcs_3, zcs_4, zcs_5, zcs_6, zcs_7, znl_i, znl_r, znl_n, Bool.and_true, Bool.true_and, zk_v, zk_n, zk_x, zir_r, zir_n, zclr_i, zclr_r, zclr_n, zclr_d, zclr_l, true_and, and_true, and_self, if_true, if_false, reduceIte, nI_add, pk_mul, zin_ok, zx_nI, nI_lt2, nI_le2, nI_eq2, nI_l0, nI_g0, nI_q0, nI_p0, nI_n0, nI_m1, Nat.add_zero, Nat.zero_add, Nat.reduceAdd, Nat.reduceMul, true_or, or_true, znar_50, bI_0, bI_1, bI_z, bft, nI_z0, nI_z1, lgc_lt, lgc_gt, lgc_le, lgc_ge, lgc_eq, not_true_eq_false, not_false_eq_true, Bool.not_eq_true, Bool.not_eq_false, reduceCtorEq, h0, h1, ct, c63', g1, c27', c17', q1, q2, r1, r2, c3, c5, c6, Nat.lt_irrefl]
                  exact ih2 _
            · rw [if_neg (by omega)] at hs
              rw [hs] at ih2
              simp (disch := first | omega | exact hv _) only [s28_0, s28_1, s28_2, s28_3, s28_4, s28_5, s28_7, s28_8, s28_11, s28_14, s28_17, s28_20, s28_21, s28_22, s28_25, s28_27, s28_29, s28_32, s28_34, s28_35, s28_38, s28_40, s28_41, s28_44, s28_45, s28_46, s28_49, s28_52, s28_53, s28_54, s28_57, s28_60, s28_63, s28_66, s28_67, s28_68, s28_70, s28_71, s28_74, s28_77, s28_78, zcs_0, zcs_1, zcs_2, zcs_3, zcs_4, zcs_5, zcs_6, zcs_7, znl_i, znl_r, znl_n, Bool.and_true, Bool.true_and, zk_v, zk_n, zk_x, zir_r, zir_n, zclr_i, zclr_r, zclr_n, zclr_d, zclr_l, true_and, and_true, and_self, if_true, if_false, reduceIte, nI_add, pk_mul, zin_ok, zx_nI, nI_lt2, nI_le2, nI_eq2, nI_l0, nI_g0, nI_q0, nI_p0, nI_n0, nI_m1, Nat.add_zero, Nat.zero_add, Nat.reduceAdd, Nat.reduceMul, true_or, or_true, znar_50, bI_0, bI_1, bI_z, bft, nI_z0, nI_z1, lgc_lt, lgc_gt, lgc_le, lgc_ge, lgc_eq, not_true_eq_false, not_false_eq_true, Bool.not_eq_true, Bool.not_eq_false, reduceCtorEq, h0, h1, ct, c63', g1, c27', c1, c2, c3]
              exact ih2 _
  simp (disch := omega) only [e28, s28_0, s28_1, s28_2, s28_3, s28_4, s28_5, s28_7, s28_8, s28_11, s28_14, s28_17, s28_20, s28_21, s28_22, s28_25, s28_27, s28_29, s28_32, s28_34, s28_35, s28_38, s28_40, s28_41, s28_44, s28_45, s28_46, s28_49, s28_52, s28_53, s28_54, s28_57, s28_60, s28_63, s28_66, s28_67, s28_68, s28_70, s28_71, s28_74, s28_77, s28_78, zcs_0, zcs_1, zcs_2, zcs_3, zcs_4, zcs_5, zcs_6, zcs_7, znl_i, znl_r, znl_n, Bool.and_true, Bool.true_and, zk_v, zk_n, zk_x, zir_r, zir_n, zclr_i, zclr_r, zclr_n, zclr_d, zclr_l, true_and, and_true, and_self, if_true, if_false, reduceIte]
  exact key (v 0) 0 zdum (by omega)
end CQ

