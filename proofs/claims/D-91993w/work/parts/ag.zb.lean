set_option maxRecDepth 100000
/-! the component: beside, the whole -/
section BG8
variable {d : Nat} {B : Nat → Prop} {z : ZH} {Q : ZQ} {v u : Nat → Nat} {L LI : Nat → List (Nat × Nat)} {t hl rl : Nat} {ha ra da ea : Nat → Nat} {K KI : Nat}
theorem c55n (h : NW B z v L t hl (t + 3) rl ha ra da ea) {a : Int32} (ha3 : zin a 3 = false) : ZC zG (d + 1) 55 [.ref 100, .int a] z Q = Q (.inl (some (.int (-2)))) z := by
  simp (disch := omega) only [e55, s55_0, s55_1, s55_2, s55_3, s55_6, s55_9, s55_12, s55_14, zcs_0, zcs_1, zcs_2, zcs_3, zcs_4, zcs_5, zcs_6, zcs_7, znl_i, znl_r, znl_n, Bool.and_true, Bool.true_and, zk_v, zk_n, zk_x, zir_r, zir_n, zclr_i, zclr_r, zclr_n, zclr_d, zclr_l, true_and, and_true, and_self, if_true, if_false, reduceIte, nI_add, pk_mul, zin_ok, zx_nI, nI_lt2, nI_le2, nI_eq2, nI_l0, nI_g0, nI_q0, nI_p0, nI_n0, nI_m1, Nat.add_zero, Nat.zero_add, Nat.reduceAdd, Nat.reduceMul, true_or, or_true, znar_50, bI_0, bI_1, bI_z, bft, nI_z0, nI_z1, lgc_lt, lgc_gt, lgc_le, lgc_ge, lgc_eq, not_true_eq_false, not_false_eq_true, Bool.not_eq_true, Bool.not_eq_false, reduceCtorEq, eq_self, nI_e0, nI_e1, i10, i01, decide_false, decide_true, Bool.false_eq_true, c2, lin_c, ha3]
theorem c55m (h : NW B z v L t hl (t + 3) rl ha ra da ea) {k : Nat} (hk : k < 3) (hn : zra z 116 k = .null) : ZC zG (d + 1) 55 [.ref 100, .int (nI k)] z Q = Q (.inl (some (.int (-6)))) z := by
  have h0 := h.1
  unfold CS at h0
  have hz : zin (nI k) 3 = true := by rw [zin_nI (by omega)]; exact decide_eq_true hk
  simp (disch := omega) only [e55, s55_0, s55_1, s55_2, s55_3, s55_6, s55_9, s55_12, s55_14, s55_15, s55_16, s55_19, s55_20, s55_21, s55_21r, s55_24, s55_26, zcs_0, zcs_1, zcs_2, zcs_3, zcs_4, zcs_5, zcs_6, zcs_7, znl_i, znl_r, znl_n, Bool.and_true, Bool.true_and, zk_v, zk_n, zk_x, zir_r, zir_n, zclr_i, zclr_r, zclr_n, zclr_d, zclr_l, true_and, and_true, and_self, if_true, if_false, reduceIte, nI_add, pk_mul, zin_ok, zx_nI, nI_lt2, nI_le2, nI_eq2, nI_l0, nI_g0, nI_q0, nI_p0, nI_n0, nI_m1, Nat.add_zero, Nat.zero_add, Nat.reduceAdd, Nat.reduceMul, true_or, or_true, znar_50, bI_0, bI_1, bI_z, bft, nI_z0, nI_z1, lgc_lt, lgc_gt, lgc_le, lgc_ge, lgc_eq, not_true_eq_false, not_false_eq_true, Bool.not_eq_true, Bool.not_eq_false, reduceCtorEq, eq_self, nI_e0, nI_e1, i10, i01, decide_false, decide_true, Bool.false_eq_true, c2, lin_c, hz, h0, hn]
theorem c55 (h : NW B z v L t hl (t + 3) rl ha ra da ea) (hB : ∀ q, B q → 100 ≤ q ∧ q < zn z) (hz : 162 ≤ zn z) (ht : t + 4 < zn z) (hv : WF v L K) (hu : WF u LI KI) {k s tI rlI : Nat} {raI : Nat → Nat} (hk : k < 3) (hs : zra z 116 k = .ref s) (s1 : zcls z s = 1) (sn : s < zn z) (sT : zfr z s 0 = .ref tI) (tc : zcls z tI = 2) (tn : tI < zn z) (tr : zfr z tI 2 = .ref rlI) (hRI : RRu B z rlI raI u LI) (hLl : ∀ t, t < u 2 → (LI t).length ≤ 350) (hd : 1010 ≤ d)
    (H : ∀ z2, FN z z2 → (zuc z ≤ zuc z2 ∧ zuc z2 ≤ zuc z + 1300) → (zus z ≤ zus z2 ∧ zus z2 ≤ zus z + 8000) → Q (.inl (some (.int (nI (bsF LI (bsV v u) (v 8) 7))))) z2) : ZC zG (d + 1) 55 [.ref 100, .int (nI k)] z Q := by
  obtain ⟨w, rfl⟩ : ∃ w, d = w + 1 := ⟨d - 1, by omega⟩
  have hzk : zin (nI k) 3 = true := by rw [zin_nI (by omega)]; exact decide_eq_true hk
  have hH := h.2.2.1
  have h1 := h.2.1.1
  have hc := h.1
  unfold CS at hc
  have k1 : zcls z 100 = 0 := by simp only [hc]
  have k2 : zfr z 100 1 = .ref 102 := by simp only [hc]
  have k3 : zcls z 102 = 1 := by simp only [hc]
  have k4 : zfr z 100 2 = .ref 116 := by simp only [hc]
  have k5 : zcls z 116 = 61 := by simp only [hc]
  have k6 : zlen z 116 = 3 := by simp only [hc]
  clear hc
  obtain ⟨z1, c66', z2, c67', F1, l1, F2, n2, L2, r0, r1, ls2, kn2, p2, cap2, u2, w2⟩ := c55l (d := w) (z := z) (t := t) (r := rlI) hz ht hH.1.2 hH.2.2.1.1 hH.2.2.1.2.2.1 hH.2.2.1.2.2.2
  have x100 := F1.2 100 (by omega) (fun w => w)
  have x102 := F1.2 102 (by omega) (fun w => w)
  have x116 := F1.2 116 (by omega) (fun w => w)
  have xs := F1.2 s sn (fun w => w)
  have xt := F1.2 tI tn (fun w => w)
  have m1 : zcls z1 100 = 0 := by rw [x100.1]; exact k1
  have m2 : zfr z1 100 1 = .ref 102 := by rw [x100.2.2.1]; exact k2
  have m3 : zcls z1 102 = 1 := by rw [x102.1]; exact k3
  have m4 : zfr z1 100 2 = .ref 116 := by rw [x100.2.2.1]; exact k4
  have m5 : zcls z1 116 = 61 := by rw [x116.1]; exact k5
  have m6 : zlen z1 116 = 3 := by rw [x116.2.2.2.2.2.2.1]; exact k6
  have m7 : zra z1 116 k = .ref s := by rw [x116.2.2.2.2.2.1]; exact hs
  have m8 : zcls z1 s = 1 := by rw [xs.1]; exact s1
  have m9 : zfr z1 s 0 = .ref tI := by rw [xs.2.2.1]; exact sT
  have m10 : zcls z1 tI = 2 := by rw [xt.1]; exact tc
  have m11 : zfr z1 tI 2 = .ref rlI := by rw [xt.2.2.1]; exact tr
  have m12 : zfr z1 102 0 = .ref t := by rw [x102.2.2.1]; exact h1
  have sA : ∀ Q, ZC zG (w + 1 + 1) 55 [.ref 100, .int (nI k)] z Q = ZW zG (w + 1 + 1) 55 60 [.ref 100, .int (nI k), .ref (zn z), .int (nI 0), zdum] [] z2 Q := fun Q => by
    simp (disch := omega) only [e55, s55_0, s55_1, s55_2, s55_3, s55_6, s55_9, s55_12, s55_14, s55_15, s55_16, s55_19, s55_20, s55_21, s55_21r, s55_24, s55_26, s55_27, s55_30, s55_31, s55_34, s55_35, s55_36, s55_37, s55_40, s55_43, s55_44, s55_47, s55_48, s55_49, s55_52, s55_55, s55_58, s55_59, zcs_0, zcs_1, zcs_2, zcs_3, zcs_4, zcs_5, zcs_6, zcs_7, znl_i, znl_r, znl_n, Bool.and_true, Bool.true_and, zk_v, zk_n, zk_x, zir_r, zir_n, zclr_i, zclr_r, zclr_n, zclr_d, zclr_l, true_and, and_true, and_self, if_true, if_false, reduceIte, nI_add, pk_mul, zin_ok, zx_nI, nI_lt2, nI_le2, nI_eq2, nI_l0, nI_g0, nI_q0, nI_p0, nI_n0, nI_m1, Nat.add_zero, Nat.zero_add, Nat.reduceAdd, Nat.reduceMul, true_or, or_true, znar_50, bI_0, bI_1, bI_z, bft, nI_z0, nI_z1, lgc_lt, lgc_gt, lgc_le, lgc_ge, lgc_eq, not_true_eq_false, not_false_eq_true, Bool.not_eq_true, Bool.not_eq_false, reduceCtorEq, eq_self, nI_e0, nI_e1, i10, i01, decide_false, decide_true, Bool.false_eq_true, c2, lin_c, hzk, k1, k4, k5, k6, hs, c66', m1, m2, m3, m4, m5, m6, m7, m8, m9, m10, m11, m12, l1, c67']
  rw [sA]
  obtain ⟨b0, bv0, bv8, bvq⟩ := bsV_0 hv hu
  have e7 : bsV v u 7 = 0 := rfl
  refine c55l2 (d := w + 1) h hB hz hv hu hRI hLl hd H (v 8) 0 z2 B (fun _ => 0) zdum (by omega) ⟨F2, L2, r0, r1, fun q hq => hq, fun q hq => ⟨(hB q hq).1, by have := (hB q hq).2; omega, Or.inl hq⟩, ⟨?_, ?_, fun i hi => ?_⟩, fun x hx => ?_, by omega, ⟨by omega, by omega⟩, ⟨by omega, by omega⟩, by omega⟩
  · rw [ls2]; exact e7.symm
  · show bsV v u 7 ≤ 600; omega
  · have hi : i < bsV v u 7 := hi
    omega
  · show zia z2 (zn z + 1) x = nI (bsV v u (1864 + x))
    have e : bsV v u (1864 + x) = v (10 + 9 * x + 8) := by
      unfold bsV
      rw [if_neg (by omega), if_pos (by omega), Nat.add_sub_cancel_left]
    rw [kn2 x hx, e]
    exact hH.2.2.2.2.2.1 x hx
end BG8
