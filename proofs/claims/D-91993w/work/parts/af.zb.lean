set_option maxRecDepth 100000
/-! the component: beside -/
section BF8
variable {d : Nat} {B : Nat → Prop} {z : ZH} {Q : ZQ} {v u : Nat → Nat} {L LI : Nat → List (Nat × Nat)} {t hl rl : Nat} {ha ra da ea : Nat → Nat} {K KI : Nat}
theorem c55l2 (h : NW B z v L t hl (t + 3) rl ha ra da ea) (hB : ∀ q, B q → 100 ≤ q ∧ q < zn z) (hz : 162 ≤ zn z) (hv : WF v L K) (hu : WF u LI KI) {rlI : Nat} {raI : Nat → Nat} (hRI : RRu B z rlI raI u LI) (hLl : ∀ t, t < u 2 → (LI t).length ≤ 350) (hd : 1010 ≤ d) {x1 : Value}
    (H : ∀ z2, FN z z2 → (zuc z ≤ zuc z2 ∧ zuc z2 ≤ zuc z + 1300) → (zus z ≤ zus z2 ∧ zus z2 ≤ zus z + 8000) → Q (.inl (some (.int (nI (bsF LI (bsV v u) (v 8) 7))))) z2) : ∀ (n i : Nat) (zi : ZH) (Bi : Nat → Prop) (dai : Nat → Nat) (x4 : Value), i + n = v 8 → bsP B z zi (zn z) t rlI Bi dai (bsF LI (bsV v u) i) i → ZW zG (d + 1) 55 60 [.ref 100, x1, .ref (zn z), .int (nI i), x4] [] zi Q := by
  obtain ⟨b0, bv0, bv8, bvq⟩ := bsV_0 hv hu
  have hE := hv.2.2.2.2.1
  have h16 := hv.2.1.1
  have h600 := hE.1
  have hdd : ∀ i, i < bsV v u 8 → bsV v u (6680 + 4 * i) < bsV v u 0 ∧ bsV v u (6680 + 4 * i + 1) < bsV v u 0 ∧ bsV v u (6680 + 4 * i + 2) < 5 ∧ bsV v u (6680 + 4 * i + 3) ≤ 399 ∧ ¬ bsV v u (6680 + 4 * i) = bsV v u (6680 + 4 * i + 1) := fun i hi => by
    rw [bv8] at hi
    rw [bvq (6680 + 4 * i) (by omega), bvq (6680 + 4 * i + 1) (by omega), bvq (6680 + 4 * i + 2) (by omega), bvq (6680 + 4 * i + 3) (by omega), bv0]
    exact hE.2.2 i hi
  have hn := bsO_n b0 (by omega) (by omega) hdd
  have hCS := h.1
  have hH := h.2.2.1
  have hEd := h.2.2.2.2.2.2.2.1
  have bvl : ∀ j, j = 0 ∨ j = 4 ∨ j = 5 ∨ (10 ≤ j ∧ j < 154) → bsV v u j = v j := fun j hj => by unfold bsV; rw [if_neg (by omega), if_neg (by omega), if_neg (by omega)]
  have bvm : ∀ j, (1 ≤ j ∧ j ≤ 3) ∨ (154 ≤ j ∧ j < 1864) → bsV v u j = u j := fun j hj => by unfold bsV; rw [if_neg (by omega), if_neg (by omega), if_pos hj]
  intro n
  induction n with
  | zero =>
    intro i zi Bi dai x4 hi hP
    have ei : i = v 8 := by omega
    subst ei
    obtain ⟨F, hL, h0, h1, mB, bB, hD, hK, hnn, ⟨u1, u2⟩, ⟨w1, w2⟩, cp⟩ := hP
    have hc := hCS
    unfold CS at hc
    have c100 := F.2 100 (by omega) (fun w => w)
    have c102 := F.2 102 (by omega) (fun w => w)
    have c114 := F.2 114 (by omega) (fun w => w)
    have k1 : zcls zi 100 = 0 := by rw [c100.1]; simp only [hc]
    have k2 : zfr zi 100 1 = .ref 102 := by rw [c100.2.2.1]; simp only [hc]
    have k3 : zcls zi 102 = 1 := by rw [c102.1]; simp only [hc]
    have k4 : zfr zi 102 2 = .ref 114 := by rw [c102.2.2.1]; simp only [hc]
    have k5 : zcls zi 114 = 90 := by rw [c114.1]; simp only [hc]
    have k6 : (zls zi 114).length = v 8 := by rw [c114.2.2.2.2.2.2.2]; exact hEd.1
    have l1 : zcls zi (zn z) = 3 := hL.1
    have l2 : zfr zi (zn z) 3 = .ref (zn z + 2) := hL.2.2.2.2.1
    have l3 : zcls zi (zn z + 2) = 90 := hL.2.2.2.2.2.1
    have l4 := hD.1
    refine Eq.mpr s55_60 ?_
    simp (disch := omega) only [s55_61, s55_62, s55_65, s55_68, s55_73, s55_156, s55_157, s55_160, s55_165, zcs_0, zcs_1, zcs_2, zcs_3, zcs_4, zcs_5, zcs_6, zcs_7, znl_i, znl_r, znl_n, Bool.and_true, Bool.true_and, zk_v, zk_n, zk_x, zir_r, zir_n, zclr_i, zclr_r, zclr_n, zclr_d, zclr_l, true_and, and_true, and_self, if_true, if_false, reduceIte, nI_add, pk_mul, zin_ok, zx_nI, nI_lt2, nI_le2, nI_eq2, nI_l0, nI_g0, nI_q0, nI_p0, nI_n0, nI_m1, Nat.add_zero, Nat.zero_add, Nat.reduceAdd, Nat.reduceMul, true_or, or_true, znar_50, bI_0, bI_1, bI_z, bft, nI_z0, nI_z1, lgc_lt, lgc_gt, lgc_le, lgc_ge, lgc_eq, not_true_eq_false, not_false_eq_true, Bool.not_eq_true, Bool.not_eq_false, reduceCtorEq, eq_self, nI_e0, nI_e1, i10, i01, decide_false, decide_true, Bool.false_eq_true, k1, k2, k3, k4, k5, k6, l1, l2, l3, l4, Nat.le_refl]
    exact H zi F (by omega) (by omega)
  | succ n ih =>
    intro i zi Bi dai x4 hi hP
    have hP2 := hP
    obtain ⟨F, hL, h0, h1, mB, bB, hD, hK, hnn, _, _, _⟩ := hP2
    have hc := hCS
    unfold CS at hc
    have c100 := F.2 100 (by omega) (fun w => w)
    have c102 := F.2 102 (by omega) (fun w => w)
    have c114 := F.2 114 (by omega) (fun w => w)
    have c117 := F.2 117 (by omega) (fun w => w)
    have k1 : zcls zi 100 = 0 := by rw [c100.1]; simp only [hc]
    have k2 : zfr zi 100 1 = .ref 102 := by rw [c100.2.2.1]; simp only [hc]
    have k3 : zcls zi 102 = 1 := by rw [c102.1]; simp only [hc]
    have k4 : zfr zi 102 2 = .ref 114 := by rw [c102.2.2.1]; simp only [hc]
    have k5 : zcls zi 114 = 90 := by rw [c114.1]; simp only [hc]
    have k6 : (zls zi 114).length = v 8 := by rw [c114.2.2.2.2.2.2.2]; exact hEd.1
    have k7 : zfr zi 100 3 = .ref 117 := by rw [c100.2.2.1]; simp only [hc]
    have k8 : zcls zi 117 = 62 ∧ zlen zi 117 = 4 := ⟨by rw [c117.1]; simp only [hc], by rw [c117.2.2.2.2.2.2.1]; simp only [hc]⟩
    obtain ⟨k81, k82⟩ := k8
    clear hc
    obtain ⟨e1, e2, e3, e4⟩ := hEd.2.2 i (by omega)
    have eb := hB _ e2
    have ce := F.2 (ea i) eb.2 (fun w => w)
    have g1 : (zls zi 114).getD i .null = .ref (ea i) := by rw [c114.2.2.2.2.2.2.2]; exact e1
    have g2 : zcls zi (ea i) = 22 := by rw [ce.1]; exact e3
    have f0 : zfi zi (ea i) 0 = nI (v (6680 + 4 * i)) := by rw [ce.2.1]; exact e4 0 (by omega)
    have f1 : zfi zi (ea i) 1 = nI (v (6680 + 4 * i + 1)) := by rw [ce.2.1]; exact e4 1 (by omega)
    have f2 : zfi zi (ea i) 2 = nI (v (6680 + 4 * i + 2)) := by rw [ce.2.1]; exact e4 2 (by omega)
    have f3 : zfi zi (ea i) 3 = nI (v (6680 + 4 * i + 3)) := by rw [ce.2.1]; exact e4 3 (by omega)
    obtain ⟨d1, d2, d3, d4, d5⟩ := hE.2.2 i (by omega)
    have O := hn i (by omega)
    obtain ⟨o1, o2, o3, o4, o5, o6, o7⟩ := O
    have o0 := o5 0 (by omega)
    have eF : bsF LI (bsV v u) (i + 1) = (sGoes (bsF LI (bsV v u) i) LI (v (6680 + 4 * i)) (v (6680 + 4 * i + 1)) (v (6680 + 4 * i + 2)) (v (6680 + 4 * i + 3))).1 := by
      show (sGoes _ LI (bsV v u (6680 + 4 * i)) (bsV v u (6680 + 4 * i + 1)) (bsV v u (6680 + 4 * i + 2)) (bsV v u (6680 + 4 * i + 3))).1 = _
      rw [bvq (6680 + 4 * i) (by omega), bvq (6680 + 4 * i + 1) (by omega), bvq (6680 + 4 * i + 2) (by omega), bvq (6680 + 4 * i + 3) (by omega)]
    have ih2 := fun zi Bi dai x4 => ih (i + 1) zi Bi dai x4 (by omega)
    rw [eF] at ih2
    have h3 : ¬ v 8 ≤ i := by omega
    have l1 : zcls zi (zn z) = 3 := hL.1
    refine Eq.mpr s55_60 ?_
    by_cases c4 : v (6680 + 4 * i + 2) = 4
    · rw [c4] at ih2 f2
      simp (disch := omega) only [s55_61, s55_62, s55_65, s55_68, s55_73, s55_76, s55_77, s55_80, s55_83, s55_84, s55_89, s55_92, s55_94, s55_96, s55_99, s55_100, s55_103, s55_104, s55_106, s55_109, s55_111, s55_114, zcs_0, zcs_1, zcs_2, zcs_3, zcs_4, zcs_5, zcs_6, zcs_7, znl_i, znl_r, znl_n, Bool.and_true, Bool.true_and, zk_v, zk_n, zk_x, zir_r, zir_n, zclr_i, zclr_r, zclr_n, zclr_d, zclr_l, true_and, and_true, and_self, if_true, if_false, reduceIte, nI_add, pk_mul, zin_ok, zx_nI, nI_lt2, nI_le2, nI_eq2, nI_l0, nI_g0, nI_q0, nI_p0, nI_n0, nI_m1, Nat.add_zero, Nat.zero_add, Nat.reduceAdd, Nat.reduceMul, true_or, or_true, znar_50, bI_0, bI_1, bI_z, bft, nI_z0, nI_z1, lgc_lt, lgc_gt, lgc_le, lgc_ge, lgc_eq, not_true_eq_false, not_false_eq_true, Bool.not_eq_true, Bool.not_eq_false, reduceCtorEq, eq_self, nI_e0, nI_e1, i10, i01, decide_false, decide_true, Bool.false_eq_true, k1, k2, k3, k4, k5, k6, h3, g1, g2, f0, f1, f2, l1]
      refine bsP_m (d := d) (LI := LI) (y := v (6680 + 4 * i + 3)) hP hB (by omega) (by omega) d5 (fun z2 B2 da2 hP2 => ?_)
      simp (disch := omega) only [s55_117, s55_150, s55_153, zcs_0, zcs_1, zcs_2, zcs_3, zcs_4, zcs_5, zcs_6, zcs_7, znl_i, znl_r, znl_n, Bool.and_true, Bool.true_and, zk_v, zk_n, zk_x, zir_r, zir_n, zclr_i, zclr_r, zclr_n, zclr_d, zclr_l, true_and, and_true, and_self, if_true, if_false, reduceIte, nI_add, pk_mul, zin_ok, zx_nI, nI_lt2, nI_le2, nI_eq2, nI_l0, nI_g0, nI_q0, nI_p0, nI_n0, nI_m1, Nat.add_zero, Nat.zero_add, Nat.reduceAdd, Nat.reduceMul, true_or, or_true, znar_50, bI_0, bI_1, bI_z, bft, nI_z0, nI_z1, lgc_lt, lgc_gt, lgc_le, lgc_ge, lgc_eq, not_true_eq_false, not_false_eq_true, Bool.not_eq_true, Bool.not_eq_false, reduceCtorEq, eq_self, nI_e0, nI_e1, i10, i01, decide_false, decide_true, Bool.false_eq_true]
      exact ih2 z2 B2 da2 _ hP2
    · have p4 : v (6680 + 4 * i + 2) < 4 := by omega
      obtain ⟨y1, y2⟩ := CS_pay hCS p4
      have cp := F.2 (118 + v (6680 + 4 * i + 2)) (by omega) (fun w => w)
      have y3 : zra zi 117 (v (6680 + 4 * i + 2)) = .ref (118 + v (6680 + 4 * i + 2)) := by rw [c117.2.2.2.2.2.1]; exact y1
      have y4 : zcls zi (118 + v (6680 + 4 * i + 2)) = 6 + v (6680 + 4 * i + 2) := by rw [cp.1]; exact y2
      simp (disch := omega) only [s55_61, s55_62, s55_65, s55_68, s55_73, s55_76, s55_77, s55_80, s55_83, s55_84, s55_89, s55_92, s55_94, s55_96, s55_99, s55_100, s55_120, s55_121, s55_123, s55_126, s55_128, s55_131, s55_132, s55_135, s55_137, s55_140, s55_141, s55_143, s55_146, zcs_0, zcs_1, zcs_2, zcs_3, zcs_4, zcs_5, zcs_6, zcs_7, znl_i, znl_r, znl_n, Bool.and_true, Bool.true_and, zk_v, zk_n, zk_x, zir_r, zir_n, zclr_i, zclr_r, zclr_n, zclr_d, zclr_l, true_and, and_true, and_self, if_true, if_false, reduceIte, nI_add, pk_mul, zin_ok, zx_nI, nI_lt2, nI_le2, nI_eq2, nI_l0, nI_g0, nI_q0, nI_p0, nI_n0, nI_m1, Nat.add_zero, Nat.zero_add, Nat.reduceAdd, Nat.reduceMul, true_or, or_true, znar_50, bI_0, bI_1, bI_z, bft, nI_z0, nI_z1, lgc_lt, lgc_gt, lgc_le, lgc_ge, lgc_eq, not_true_eq_false, not_false_eq_true, Bool.not_eq_true, Bool.not_eq_false, reduceCtorEq, eq_self, nI_e0, nI_e1, i10, i01, decide_false, decide_true, Bool.false_eq_true, k1, k2, k3, k4, k5, k6, k7, k81, k82, h3, g1, g2, f0, f1, f2, f3, c4, y3, l1]
      refine bsP_s (d := d) hP hH hRI hB hz (fun j hj => by rw [o5 j (by omega)]; exact bvl j hj) (fun j hj => by rw [o5 j (by omega)]; exact bvm j hj) o1 hLl hd (by omega) (by omega) d5 p4 d4 (by omega) y4 (by omega) (fun z2 B2 da2 hP2 => ?_)
      simp (disch := omega) only [s55_149, s55_150, s55_153, zcs_0, zcs_1, zcs_2, zcs_3, zcs_4, zcs_5, zcs_6, zcs_7, znl_i, znl_r, znl_n, Bool.and_true, Bool.true_and, zk_v, zk_n, zk_x, zir_r, zir_n, zclr_i, zclr_r, zclr_n, zclr_d, zclr_l, true_and, and_true, and_self, if_true, if_false, reduceIte, nI_add, pk_mul, zin_ok, zx_nI, nI_lt2, nI_le2, nI_eq2, nI_l0, nI_g0, nI_q0, nI_p0, nI_n0, nI_m1, Nat.add_zero, Nat.zero_add, Nat.reduceAdd, Nat.reduceMul, true_or, or_true, znar_50, bI_0, bI_1, bI_z, bft, nI_z0, nI_z1, lgc_lt, lgc_gt, lgc_le, lgc_ge, lgc_eq, not_true_eq_false, not_false_eq_true, Bool.not_eq_true, Bool.not_eq_false, reduceCtorEq, eq_self, nI_e0, nI_e1, i10, i01, decide_false, decide_true, Bool.false_eq_true]
      exact ih2 z2 B2 da2 _ hP2
end BF8
