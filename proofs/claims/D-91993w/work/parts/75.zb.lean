set_option maxRecDepth 100000
/-! the component: a row read, what is done by a row -/
/-- the number at a place of a row -/
def slV (z : ZH) (q i : Nat) : Int64 := if zcls z q = 51 then zla z q i else (zia z q i).toInt64
/-- the slot r holds the row q of n numbers -/
def slot (z : ZH) (r q n : Nat) : Prop := zcls z r = 11 ∧ zfr z r 0 = .ref q ∧ (zcls z q = 50 ∨ zcls z q = 51 ∨ zcls z q = 52 ∨ zcls z q = 53) ∧ zlen z q = n
section CX
variable {d : Nat} {B : Nat → Prop} {z : ZH} {Q : ZQ} {v : Nat → Nat} {L : Nat → List (Nat × Nat)} {t hl kn rl : Nat} {ha ra da ea : Nat → Nat} {K : Nat}
variable {r q n : Nat}
theorem c110 (h : slot z r q n) : ZC zG d 110 [.ref r] z Q = Q (.inl (some (.int (nI n)))) z := by
  obtain ⟨h1, h2, h3, h4⟩ := h
  have f10 : ((1 : Int32) = 0) = False := by simp
  rcases h3 with h3 | h3 | h3 | h3 <;>
  · simp only [e110, s110_0, s110_1, s110_4, s110_4r, s110_7, s110_10, s110_11, s110_14, s110_17, s110_18, s110_19, s110_20, s110_23, s110_23r, s110_26, s110_29, s110_30, s110_33, s110_36, s110_37, s110_38, s110_39, s110_42, s110_42r, s110_45, s110_48, s110_49, s110_52, s110_55, s110_56, s110_59, s110_60, s110_63, s110_66, s110_67, zcs_0, zcs_1, zcs_2, zcs_3, zcs_4, zcs_5, zcs_6, zcs_7, znl_i, znl_r, znl_n, Bool.and_true, Bool.true_and, zk_v, zk_n, zk_x, zir_r, zir_n, zclr_i, zclr_r, zclr_n, zclr_d, zclr_l, true_and, and_true, and_self, if_true, if_false, reduceIte, h1, h2, h3, h4, Nat.reduceLeDiff, Nat.reduceLT, Nat.reduceEqDiff, and_self, eq_self, reduceCtorEq, not_true_eq_false, not_false_eq_true, ne_eq, f10]
theorem c111 (h : slot z r q n) {i : Nat} (hi : i < n) (hn : n < 2147483648) : ZC zG d 111 [.ref r, .int (nI i)] z Q = Q (.inl (some (.long (slV z q i)))) z := by
  obtain ⟨h1, h2, h3, h4⟩ := h
  unfold slV
  have f10 : ((1 : Int32) = 0) = False := by simp
  rcases h3 with h3 | h3 | h3 | h3 <;>
  · simp (disch := omega) only [e111, s111_0, s111_1, s111_4, s111_4r, s111_7, s111_10, s111_11, s111_14, s111_17, s111_18, s111_19, s111_20, s111_21, s111_22, s111_25, s111_25r, s111_28, s111_31, s111_32, s111_35, s111_38, s111_39, s111_40, s111_41, s111_42, s111_43, s111_46, s111_46r, s111_49, s111_52, s111_53, s111_56, s111_59, s111_60, s111_61, s111_62, s111_65, s111_66, s111_69, s111_72, s111_73, s111_74, zcs_0, zcs_1, zcs_2, zcs_3, zcs_4, zcs_5, zcs_6, zcs_7, znl_i, znl_r, znl_n, Bool.and_true, Bool.true_and, zk_v, zk_n, zk_x, zir_r, zir_n, zclr_i, zclr_r, zclr_n, zclr_d, zclr_l, true_and, and_true, and_self, if_true, if_false, reduceIte, nI_add, pk_mul, zin_ok, zx_nI, nI_lt2, nI_le2, nI_eq2, nI_l0, nI_g0, nI_q0, nI_p0, nI_n0, nI_m1, Nat.add_zero, Nat.zero_add, Nat.reduceAdd, Nat.reduceMul, true_or, or_true, znar_50, bI_0, bI_1, bI_z, bft, nI_z0, nI_z1, lgc_lt, lgc_gt, lgc_le, lgc_ge, lgc_eq, not_true_eq_false, not_false_eq_true, Bool.not_eq_true, Bool.not_eq_false, reduceCtorEq, h1, h2, h3, h4, Nat.reduceLeDiff, Nat.reduceLT, Nat.reduceEqDiff, and_self, eq_self, reduceCtorEq, not_true_eq_false, not_false_eq_true, ne_eq, f10]
theorem slot_fr {z2 : ZH} (hf : zFr NwW z z2) (hr : r < zn z) (hq : q < zn z) (nr : ¬ NwW r) (nq : ¬ NwW q) (h : slot z r q n) : slot z2 r q n ∧ slV z2 q = slV z q := by
  obtain ⟨a1, a2, a3, a4, a5, a6, a7, a8⟩ := hf.2 r hr nr
  obtain ⟨b1, b2, b3, b4, b5, b6, b7, b8⟩ := hf.2 q hq nq
  unfold slot at h ⊢
  refine ⟨by rw [a1, a3, b1, b7]; exact h, ?_⟩
  funext i
  unfold slV
  rw [b1, b4, b5]
theorem NwP_trans {z1 z2 : ZH} {B1 : Nat → Prop} {v2 : Nat → Nat} {cu su cu2 su2 : Nat} (hf : zFr NwW z z1) (hb : ∀ q, B q → B1 q) (hb2 : ∀ q, B1 q → 100 ≤ q ∧ q < zn z1 ∧ (B q ∨ zn z ≤ q)) (hu : zuc z ≤ zuc z1 ∧ zuc z1 ≤ zuc z + cu) (hs : zus z ≤ zus z1 ∧ zus z1 ≤ zus z + su) (h : NwP B1 z1 z2 v2 L t hl kn rl ha ra cu2 su2) : NwP B z z2 v2 L t hl kn rl ha ra (cu + cu2) (su + su2) := by
  obtain ⟨B2, da2, ea2, p1, p2, p3, p4, p5, p6⟩ := h
  refine ⟨B2, da2, ea2, p1, zFr_trans hf p2, fun q hq => p3 q (hb q hq), fun q hq => ?_, by omega, by omega⟩
  obtain ⟨y1, y2, y3⟩ := p4 q hq
  refine ⟨y1, y2, ?_⟩
  rcases y3 with y3 | y3
  · exact (hb2 q y3).2.2
  · exact Or.inr (by have := hf.1; omega)
theorem c22 (h : NW B z v L t hl kn rl ha ra da ea) (hB : ∀ q, B q → 100 ≤ q ∧ q < zn z) (nB : ∀ q, NwW q → ¬ B q) (hz : 162 ≤ zn z) (hw : WF v L K) (hKb : K < 100000000) (hLl : ∀ t, t < v 2 → (L t).length ≤ 350) (hd : 1200 ≤ d) {sl N : Nat} (hsl : sl < 4) (hN : N ≤ 60) (hS : slot z (131 + sl) q N) (hq : q < zn z) (hq2 : 162 ≤ q) (nm : Nat → Int64) (hnm : ∀ i, i < N → slV z q i = nm i)
    (H : ∀ z2, NwP B z z2 (sDone L nm v (N / 3)).2 L t hl kn rl ha ra (4 * (N / 3)) (2411 * (N / 3)) → Q (.inl (some (.int (nI (sDone L nm v (N / 3)).1)))) z2) : ZC zG d 22 [.ref 100, .int (nI sl)] z Q := by
  obtain ⟨d, rfl⟩ : ∃ d', d = d' + 7 := ⟨d - 7, by omega⟩
  have h0 := h.1
  unfold CS at h0
  have nr : ¬ NwW (131 + sl) := by unfold NwW; omega
  have nq : ¬ NwW q := by unfold NwW; omega
  have key : ∀ m k z1 (x5 x6 x7 x8 : Value), k + m = N / 3 → NwP B z z1 (sDone L nm v k).2 L t hl kn rl ha ra (4 * k) (2411 * k) → ZW zG (d + 7) 22 32 [.ref 100, .int (nI sl), .ref (131 + sl), .int (nI (sDone L nm v k).1), .int (nI (3 * k)), x5, x6, x7, x8] [] z1 Q := by
    intro m
    induction m with
    | zero =>
      intro k z1 x5 x6 x7 x8 hk hP
      have hk2 : k = N / 3 := by omega
      subst hk2
      have hP0 := hP
      obtain ⟨B1, da1, ea1, p1, p2, p3, p4, p5, p6⟩ := hP
      obtain ⟨s1, s2⟩ := slot_fr p2 (by omega) hq nr nq hS
      have cm := fun d Q => c110 (d := d) (Q := Q) s1
      have s3 := s1.1
      have g1 : N ≤ 3 * (N / 3) + 2 := by omega
      have H1 := H z1 hP0
      rw [s22_32]
      simp (disch := omega) only [s22_0, s22_1, s22_4, s22_7, s22_9, s22_10, s22_11, s22_14, s22_15, s22_16, s22_17, s22_18, s22_21, s22_21r, s22_24, s22_26, s22_27, s22_28, s22_29, s22_30, s22_34, s22_35, s22_36, s22_37, s22_40, s22_43, s22_44, s22_46, s22_49, s22_50, s22_53, s22_56, s22_59, s22_60, s22_62, s22_63, s22_64, s22_67, s22_68, s22_71, s22_74, s22_77, s22_78, s22_80, s22_81, s22_82, s22_85, s22_86, s22_89, s22_92, s22_95, s22_96, s22_99, s22_100, s22_102, s22_104, s22_107, s22_110, s22_111, s22_113, s22_116, s22_117, s22_119, s22_120, s22_122, s22_123, s22_124, s22_127, s22_128, s22_130, s22_131, s22_133, s22_134, s22_135, s22_138, s22_141, s22_142, s22_145, s22_146, s22_148, s22_150, s22_153, s22_156, s22_157, s22_159, s22_161, s22_162, s22_164, s22_165, s22_166, s22_169, s22_170, s22_173, s22_175, s22_176, s22_178, s22_181, s22_182, s22_185, s22_186, s22_187, s22_188, s22_191, s22_194, s22_195, zcs_0, zcs_1, zcs_2, zcs_3, zcs_4, zcs_5, zcs_6, zcs_7, znl_i, znl_r, znl_n, Bool.and_true, Bool.true_and, zk_v, zk_n, zk_x, zir_r, zir_n, zclr_i, zclr_r, zclr_n, zclr_d, zclr_l, true_and, and_true, and_self, if_true, if_false, reduceIte, nI_add, pk_mul, zin_ok, zx_nI, nI_lt2, nI_le2, nI_eq2, nI_l0, nI_g0, nI_q0, nI_p0, nI_n0, nI_m1, Nat.add_zero, Nat.zero_add, Nat.reduceAdd, Nat.reduceMul, true_or, or_true, znar_50, bI_0, bI_1, bI_z, bft, nI_z0, nI_z1, lgc_lt, lgc_gt, lgc_le, lgc_ge, lgc_eq, not_true_eq_false, not_false_eq_true, Bool.not_eq_true, Bool.not_eq_false, reduceCtorEq, s3, cm, g1]
      exact H1
    | succ m ih =>
      intro k z1 x5 x6 x7 x8 hk hP
      obtain ⟨w1, w2, w3⟩ := WF_done hw (nm := nm) k (by omega) hKb
      obtain ⟨B1, da1, ea1, p1, p2, p3, p4, p5, p6⟩ := hP
      obtain ⟨s1, s2⟩ := slot_fr p2 (by omega) hq nr nq hS
      have cm := fun d Q => c110 (d := d) (Q := Q) s1
      have s3 := s1.1
      have g1 : ¬ N ≤ 3 * k + 2 := by omega
      have n0 := fun d Q => c111 (d := d) (Q := Q) s1 (i := 3 * k) (by omega) (by omega)
      have n1 := fun d Q => c111 (d := d) (Q := Q) s1 (i := 3 * k + 1) (by omega) (by omega)
      have n2 := fun d Q => c111 (d := d) (Q := Q) s1 (i := 3 * k + 2) (by omega) (by omega)
      rw [s2, hnm _ (by omega)] at n0 n1 n2
      have C1 := p1.1
      unfold CS at C1
      have hz1 : 162 ≤ zn z1 := by have := p2.1; omega
      have hB1 : ∀ q, B1 q → 100 ≤ q ∧ q < zn z1 := fun q hq => ⟨(p4 q hq).1, (p4 q hq).2.1⟩
      have nB1 : ∀ q, NwW q → ¬ B1 q := fun q hq hh => by
        rcases (p4 q hh).2.2 with y | y
        · exact nB q hq y
        · unfold NwW at hq; omega
      have hagLl : ∀ t, t < (sDone L nm v k).2 2 → (L t).length ≤ 350 := by rw [w2 2 (by omega)]; exact hLl
      have hstep : sDone L nm v (k + 1) = if sOkT nm k = true then ((sDone L nm v k).1 + (if 0 ≤ (sTri L nm (sDone L nm v k).2 k).1 then 1 else 0), (sTri L nm (sDone L nm v k).2 k).2) else sDone L nm v k := rfl
      unfold sOkT sTri at hstep
      have e3 : 3 * k + 3 = 3 * (k + 1) := by omega
      have ih2 := ih (k + 1)
      rw [s22_32]
      generalize hW : (sDone L nm v k).2 = w at hstep w1 p1 hagLl
      generalize hC : (sDone L nm v k).1 = cnt at hstep w3 ⊢
      have idle : sDone L nm v (k + 1) = sDone L nm v k → ∀ y5 y6 y7 y8, ZW zG (d + 7) 22 32 [.ref 100, .int (nI sl), .ref (131 + sl), .int (nI cnt), .int (nI (3 * k + 3)), y5, y6, y7, y8] [] z1 Q := by
        intro e y5 y6 y7 y8
        have i2 := ih2 z1 y5 y6 y7 y8 (by omega) (by
          rw [e, hW]
          exact ⟨B1, da1, ea1, p1, p2, p3, p4, by omega, by omega⟩)
        rw [e, hC, ← e3] at i2
        exact i2
      have after : ∀ (res : Int32 × (Nat → Nat)) z2, sDone L nm v (k + 1) = (cnt + (if 0 ≤ res.1 then 1 else 0), res.2) → NwP B1 z1 z2 res.2 L t hl kn rl ha ra 4 2411 → ∀ y5 y6 y7 y8, ZW zG (d + 7) 22 173 [.ref 100, .int (nI sl), .ref (131 + sl), .int (nI cnt), .int (nI (3 * k)), y5, y6, y7, y8] [.int res.1] z2 Q := by
        intro res z2 e hP2 y5 y6 y7 y8
        have hP3 := NwP_trans p2 p3 p4 p5 p6 hP2
        have i2 := fun y7 y8 => ih2 z2 y5 y6 y7 y8 (by omega) (by
          rw [e, show 4 * (k + 1) = 4 * k + 4 by omega, show 2411 * (k + 1) = 2411 * k + 2411 by omega]
          exact hP3)
        rw [e] at i2
        dsimp only at i2
        by_cases hr : 0 ≤ res.1
        · have hr2 : ¬ res.1 < 0 := Int32.not_lt.mpr hr
          rw [if_pos hr] at i2
          simp (disch := omega) only [s22_173, s22_175, s22_176, s22_178, s22_181, s22_182, s22_185, s22_186, s22_187, s22_188, s22_191, zcs_0, zcs_1, zcs_2, zcs_3, zcs_4, zcs_5, zcs_6, zcs_7, znl_i, znl_r, znl_n, Bool.and_true, Bool.true_and, zk_v, zk_n, zk_x, zir_r, zir_n, zclr_i, zclr_r, zclr_n, zclr_d, zclr_l, true_and, and_true, and_self, if_true, if_false, reduceIte, nI_add, pk_mul, zin_ok, zx_nI, nI_lt2, nI_le2, nI_eq2, nI_l0, nI_g0, nI_q0, nI_p0, nI_n0, nI_m1, Nat.add_zero, Nat.zero_add, Nat.reduceAdd, Nat.reduceMul, true_or, or_true, znar_50, bI_0, bI_1, bI_z, bft, nI_z0, nI_z1, lgc_lt, lgc_gt, lgc_le, lgc_ge, lgc_eq, not_true_eq_false, not_false_eq_true, Bool.not_eq_true, Bool.not_eq_false, reduceCtorEq, hr2]
          rw [e3]
          exact i2 _ _
        · have hr2 : res.1 < 0 := Int32.not_le.mp hr
          rw [if_neg hr, Nat.add_zero] at i2
          simp (disch := omega) only [s22_173, s22_175, s22_176, s22_178, s22_181, s22_182, s22_185, s22_186, s22_187, s22_188, s22_191, zcs_0, zcs_1, zcs_2, zcs_3, zcs_4, zcs_5, zcs_6, zcs_7, znl_i, znl_r, znl_n, Bool.and_true, Bool.true_and, zk_v, zk_n, zk_x, zir_r, zir_n, zclr_i, zclr_r, zclr_n, zclr_d, zclr_l, true_and, and_true, and_self, if_true, if_false, reduceIte, nI_add, pk_mul, zin_ok, zx_nI, nI_lt2, nI_le2, nI_eq2, nI_l0, nI_g0, nI_q0, nI_p0, nI_n0, nI_m1, Nat.add_zero, Nat.zero_add, Nat.reduceAdd, Nat.reduceMul, true_or, or_true, znar_50, bI_0, bI_1, bI_z, bft, nI_z0, nI_z1, lgc_lt, lgc_gt, lgc_le, lgc_ge, lgc_eq, not_true_eq_false, not_false_eq_true, Bool.not_eq_true, Bool.not_eq_false, reduceCtorEq, hr2]
          rw [e3]
          exact i2 _ _
      cases cA : linB (nm (3 * k)) (lN 0) (lN 16) with
      | false =>
        rw [cA] at hstep
        simp only [Bool.false_and, Bool.false_eq_true, if_false] at hstep
        simp (disch := omega) only [s22_0, s22_1, s22_4, s22_7, s22_9, s22_10, s22_11, s22_14, s22_15, s22_16, s22_17, s22_18, s22_21, s22_21r, s22_24, s22_26, s22_27, s22_28, s22_29, s22_30, s22_34, s22_35, s22_36, s22_37, s22_40, s22_43, s22_44, s22_46, s22_49, s22_50, s22_53, s22_56, s22_59, s22_60, s22_62, s22_63, s22_64, s22_67, s22_68, s22_71, s22_74, s22_77, s22_78, s22_80, s22_81, s22_82, s22_85, s22_86, s22_89, s22_92, s22_95, s22_96, s22_99, s22_100, s22_102, s22_104, s22_107, s22_110, s22_111, s22_113, s22_116, s22_117, s22_119, s22_120, s22_122, s22_123, s22_124, s22_127, s22_128, s22_130, s22_131, s22_133, s22_134, s22_135, s22_138, s22_141, s22_142, s22_145, s22_146, s22_148, s22_150, s22_153, s22_156, s22_157, s22_159, s22_161, s22_162, s22_164, s22_165, s22_166, s22_169, s22_170, s22_173, s22_175, s22_176, s22_178, s22_181, s22_182, s22_185, s22_186, s22_187, s22_188, s22_191, s22_194, s22_195, zcs_0, zcs_1, zcs_2, zcs_3, zcs_4, zcs_5, zcs_6, zcs_7, znl_i, znl_r, znl_n, Bool.and_true, Bool.true_and, zk_v, zk_n, zk_x, zir_r, zir_n, zclr_i, zclr_r, zclr_n, zclr_d, zclr_l, true_and, and_true, and_self, if_true, if_false, reduceIte, nI_add, pk_mul, zin_ok, zx_nI, nI_lt2, nI_le2, nI_eq2, nI_l0, nI_g0, nI_q0, nI_p0, nI_n0, nI_m1, Nat.add_zero, Nat.zero_add, Nat.reduceAdd, Nat.reduceMul, true_or, or_true, znar_50, bI_0, bI_1, bI_z, bft, nI_z0, nI_z1, lgc_lt, lgc_gt, lgc_le, lgc_ge, lgc_eq, not_true_eq_false, not_false_eq_true, Bool.not_eq_true, Bool.not_eq_false, reduceCtorEq, s3, cm, g1, n0, c2, cA, eq_self]
        exact idle hstep _ _ _ _
      | true =>
        cases cB : linB (nm (3 * k + 1)) (lN 0) (lN 16) with
        | false =>
          rw [cA, cB] at hstep
          simp only [Bool.false_and, Bool.and_false, Bool.false_eq_true, if_false] at hstep
          simp (disch := omega) only [s22_0, s22_1, s22_4, s22_7, s22_9, s22_10, s22_11, s22_14, s22_15, s22_16, s22_17, s22_18, s22_21, s22_21r, s22_24, s22_26, s22_27, s22_28, s22_29, s22_30, s22_34, s22_35, s22_36, s22_37, s22_40, s22_43, s22_44, s22_46, s22_49, s22_50, s22_53, s22_56, s22_59, s22_60, s22_62, s22_63, s22_64, s22_67, s22_68, s22_71, s22_74, s22_77, s22_78, s22_80, s22_81, s22_82, s22_85, s22_86, s22_89, s22_92, s22_95, s22_96, s22_99, s22_100, s22_102, s22_104, s22_107, s22_110, s22_111, s22_113, s22_116, s22_117, s22_119, s22_120, s22_122, s22_123, s22_124, s22_127, s22_128, s22_130, s22_131, s22_133, s22_134, s22_135, s22_138, s22_141, s22_142, s22_145, s22_146, s22_148, s22_150, s22_153, s22_156, s22_157, s22_159, s22_161, s22_162, s22_164, s22_165, s22_166, s22_169, s22_170, s22_173, s22_175, s22_176, s22_178, s22_181, s22_182, s22_185, s22_186, s22_187, s22_188, s22_191, s22_194, s22_195, zcs_0, zcs_1, zcs_2, zcs_3, zcs_4, zcs_5, zcs_6, zcs_7, znl_i, znl_r, znl_n, Bool.and_true, Bool.true_and, zk_v, zk_n, zk_x, zir_r, zir_n, zclr_i, zclr_r, zclr_n, zclr_d, zclr_l, true_and, and_true, and_self, if_true, if_false, reduceIte, nI_add, pk_mul, zin_ok, zx_nI, nI_lt2, nI_le2, nI_eq2, nI_l0, nI_g0, nI_q0, nI_p0, nI_n0, nI_m1, Nat.add_zero, Nat.zero_add, Nat.reduceAdd, Nat.reduceMul, true_or, or_true, znar_50, bI_0, bI_1, bI_z, bft, nI_z0, nI_z1, lgc_lt, lgc_gt, lgc_le, lgc_ge, lgc_eq, not_true_eq_false, not_false_eq_true, Bool.not_eq_true, Bool.not_eq_false, reduceCtorEq, s3, cm, g1, n0, n1, c2, cA, cB, eq_self]
          exact idle hstep _ _ _ _
        | true =>
          cases cC : linB (nm (3 * k + 2)) (lN 0) (lN 4) with
          | false =>
            rw [cA, cB, cC] at hstep
            simp only [Bool.false_and, Bool.and_false, Bool.false_eq_true, if_false] at hstep
            simp (disch := omega) only [s22_0, s22_1, s22_4, s22_7, s22_9, s22_10, s22_11, s22_14, s22_15, s22_16, s22_17, s22_18, s22_21, s22_21r, s22_24, s22_26, s22_27, s22_28, s22_29, s22_30, s22_34, s22_35, s22_36, s22_37, s22_40, s22_43, s22_44, s22_46, s22_49, s22_50, s22_53, s22_56, s22_59, s22_60, s22_62, s22_63, s22_64, s22_67, s22_68, s22_71, s22_74, s22_77, s22_78, s22_80, s22_81, s22_82, s22_85, s22_86, s22_89, s22_92, s22_95, s22_96, s22_99, s22_100, s22_102, s22_104, s22_107, s22_110, s22_111, s22_113, s22_116, s22_117, s22_119, s22_120, s22_122, s22_123, s22_124, s22_127, s22_128, s22_130, s22_131, s22_133, s22_134, s22_135, s22_138, s22_141, s22_142, s22_145, s22_146, s22_148, s22_150, s22_153, s22_156, s22_157, s22_159, s22_161, s22_162, s22_164, s22_165, s22_166, s22_169, s22_170, s22_173, s22_175, s22_176, s22_178, s22_181, s22_182, s22_185, s22_186, s22_187, s22_188, s22_191, s22_194, s22_195, zcs_0, zcs_1, zcs_2, zcs_3, zcs_4, zcs_5, zcs_6, zcs_7, znl_i, znl_r, znl_n, Bool.and_true, Bool.true_and, zk_v, zk_n, zk_x, zir_r, zir_n, zclr_i, zclr_r, zclr_n, zclr_d, zclr_l, true_and, and_true, and_self, if_true, if_false, reduceIte, nI_add, pk_mul, zin_ok, zx_nI, nI_lt2, nI_le2, nI_eq2, nI_l0, nI_g0, nI_q0, nI_p0, nI_n0, nI_m1, Nat.add_zero, Nat.zero_add, Nat.reduceAdd, Nat.reduceMul, true_or, or_true, znar_50, bI_0, bI_1, bI_z, bft, nI_z0, nI_z1, lgc_lt, lgc_gt, lgc_le, lgc_ge, lgc_eq, not_true_eq_false, not_false_eq_true, Bool.not_eq_true, Bool.not_eq_false, reduceCtorEq, s3, cm, g1, n0, n1, n2, c2, cA, cB, cC, eq_self]
            exact idle hstep _ _ _ _
          | true =>
            rw [cA, cB, cC] at hstep
            simp only [Bool.and_self, if_true] at hstep
            by_cases c4 : nm (3 * k + 2) = lN 4
            · rw [if_pos c4] at hstep
              simp (disch := omega) only [s22_0, s22_1, s22_4, s22_7, s22_9, s22_10, s22_11, s22_14, s22_15, s22_16, s22_17, s22_18, s22_21, s22_21r, s22_24, s22_26, s22_27, s22_28, s22_29, s22_30, s22_34, s22_35, s22_36, s22_37, s22_40, s22_43, s22_44, s22_46, s22_49, s22_50, s22_53, s22_56, s22_59, s22_60, s22_62, s22_63, s22_64, s22_67, s22_68, s22_71, s22_74, s22_77, s22_78, s22_80, s22_81, s22_82, s22_85, s22_86, s22_89, s22_92, s22_95, s22_96, s22_99, s22_100, s22_102, s22_104, s22_107, s22_110, s22_111, s22_113, s22_116, s22_117, s22_119, s22_120, s22_122, s22_123, s22_124, s22_127, s22_128, s22_130, s22_131, s22_133, s22_134, s22_135, s22_138, s22_141, s22_142, s22_145, s22_146, s22_148, s22_153, s22_156, s22_157, s22_159, s22_161, s22_162, s22_164, s22_165, s22_166, s22_169, s22_173, s22_175, s22_176, s22_178, s22_181, s22_182, s22_185, s22_186, s22_187, s22_188, s22_191, s22_194, s22_195, zcs_0, zcs_1, zcs_2, zcs_3, zcs_4, zcs_5, zcs_6, zcs_7, znl_i, znl_r, znl_n, Bool.and_true, Bool.true_and, zk_v, zk_n, zk_x, zir_r, zir_n, zclr_i, zclr_r, zclr_n, zclr_d, zclr_l, true_and, and_true, and_self, if_true, if_false, reduceIte, nI_add, pk_mul, zin_ok, zx_nI, nI_lt2, nI_le2, nI_eq2, nI_l0, nI_g0, nI_q0, nI_p0, nI_n0, nI_m1, Nat.add_zero, Nat.zero_add, Nat.reduceAdd, Nat.reduceMul, true_or, or_true, znar_50, bI_0, bI_1, bI_z, bft, nI_z0, nI_z1, lgc_lt, lgc_gt, lgc_le, lgc_ge, lgc_eq, not_true_eq_false, not_false_eq_true, Bool.not_eq_true, Bool.not_eq_false, reduceCtorEq, s3, cm, g1, n0, n1, n2, c2, cA, cB, cC, c4, eq_self]
              rw [s22_150]
              refine ⟨by simp only [C1], rfl, ?_⟩
              refine c21 (d := d) p1 hB1 nB1 hz1 w1 (fun z2 hP2 => ?_)
              simp (disch := omega) only [s22_153, zk_v]
              exact after _ z2 hstep hP2 _ _ _ _
            · rw [if_neg c4] at hstep
              simp (disch := omega) only [s22_0, s22_1, s22_4, s22_7, s22_9, s22_10, s22_11, s22_14, s22_15, s22_16, s22_17, s22_18, s22_21, s22_21r, s22_24, s22_26, s22_27, s22_28, s22_29, s22_30, s22_34, s22_35, s22_36, s22_37, s22_40, s22_43, s22_44, s22_46, s22_49, s22_50, s22_53, s22_56, s22_59, s22_60, s22_62, s22_63, s22_64, s22_67, s22_68, s22_71, s22_74, s22_77, s22_78, s22_80, s22_81, s22_82, s22_85, s22_86, s22_89, s22_92, s22_95, s22_96, s22_99, s22_100, s22_102, s22_104, s22_107, s22_110, s22_111, s22_113, s22_116, s22_117, s22_119, s22_120, s22_122, s22_123, s22_124, s22_127, s22_128, s22_130, s22_131, s22_133, s22_134, s22_135, s22_138, s22_141, s22_142, s22_145, s22_146, s22_148, s22_153, s22_156, s22_157, s22_159, s22_161, s22_162, s22_164, s22_165, s22_166, s22_169, s22_173, s22_175, s22_176, s22_178, s22_181, s22_182, s22_185, s22_186, s22_187, s22_188, s22_191, s22_194, s22_195, zcs_0, zcs_1, zcs_2, zcs_3, zcs_4, zcs_5, zcs_6, zcs_7, znl_i, znl_r, znl_n, Bool.and_true, Bool.true_and, zk_v, zk_n, zk_x, zir_r, zir_n, zclr_i, zclr_r, zclr_n, zclr_d, zclr_l, true_and, and_true, and_self, if_true, if_false, reduceIte, nI_add, pk_mul, zin_ok, zx_nI, nI_lt2, nI_le2, nI_eq2, nI_l0, nI_g0, nI_q0, nI_p0, nI_n0, nI_m1, Nat.add_zero, Nat.zero_add, Nat.reduceAdd, Nat.reduceMul, true_or, or_true, znar_50, bI_0, bI_1, bI_z, bft, nI_z0, nI_z1, lgc_lt, lgc_gt, lgc_le, lgc_ge, lgc_eq, not_true_eq_false, not_false_eq_true, Bool.not_eq_true, Bool.not_eq_false, reduceCtorEq, s3, cm, g1, n0, n1, n2, c2, cA, cB, cC, c4, eq_self]
              rw [s22_170]
              refine ⟨by simp only [C1], rfl, ?_⟩
              refine c20 (d := d + 6) p1 hB1 nB1 hz1 w1 (by omega) hagLl (by omega) (fun z2 hP2 => ?_)
              simp (disch := omega) only [zk_v]
              exact after _ z2 hstep hP2 _ _ _ _
  have k0 := key (N / 3) 0 z zdum zdum zdum zdum (by omega) ⟨B, da, ea, h, zFr_refl _ _, fun q h => h, fun q hq => ⟨(hB q hq).1, (hB q hq).2, Or.inl hq⟩, by omega, by omega⟩
  have hr101 : zra z 101 sl = .ref (131 + sl) := by
    match sl, hsl with
    | 0, _ => simp only [h0]
    | 1, _ => simp only [h0]
    | 2, _ => simp only [h0]
    | 3, _ => simp only [h0]
  have hs1 := hS.1
  have hs2 := hS.2.1
  have z4 : zin (nI sl) 4 = true := by rw [zin_nI (by omega)]; exact decide_eq_true hsl
  simp (disch := omega) only [e22, s22_0, s22_1, s22_4, s22_7, s22_9, s22_10, s22_11, s22_14, s22_15, s22_16, s22_17, s22_18, s22_21, s22_21r, s22_24, s22_26, s22_27, s22_28, s22_29, s22_30, s22_34, s22_35, s22_36, s22_37, s22_40, s22_43, s22_44, s22_46, s22_49, s22_50, s22_53, s22_56, s22_59, s22_60, s22_62, s22_63, s22_64, s22_67, s22_68, s22_71, s22_74, s22_77, s22_78, s22_80, s22_81, s22_82, s22_85, s22_86, s22_89, s22_92, s22_95, s22_96, s22_99, s22_100, s22_102, s22_104, s22_107, s22_110, s22_111, s22_113, s22_116, s22_117, s22_119, s22_120, s22_122, s22_123, s22_124, s22_127, s22_128, s22_130, s22_131, s22_133, s22_134, s22_135, s22_138, s22_141, s22_142, s22_145, s22_146, s22_148, s22_150, s22_153, s22_156, s22_157, s22_159, s22_161, s22_162, s22_164, s22_165, s22_166, s22_169, s22_170, s22_173, s22_175, s22_176, s22_178, s22_181, s22_182, s22_185, s22_186, s22_187, s22_188, s22_191, s22_194, s22_195, zcs_0, zcs_1, zcs_2, zcs_3, zcs_4, zcs_5, zcs_6, zcs_7, znl_i, znl_r, znl_n, Bool.and_true, Bool.true_and, zk_v, zk_n, zk_x, zir_r, zir_n, zclr_i, zclr_r, zclr_n, zclr_d, zclr_l, true_and, and_true, and_self, if_true, if_false, reduceIte, nI_add, pk_mul, zin_ok, zx_nI, nI_lt2, nI_le2, nI_eq2, nI_l0, nI_g0, nI_q0, nI_p0, nI_n0, nI_m1, Nat.add_zero, Nat.zero_add, Nat.reduceAdd, Nat.reduceMul, true_or, or_true, znar_50, bI_0, bI_1, bI_z, bft, nI_z0, nI_z1, lgc_lt, lgc_gt, lgc_le, lgc_ge, lgc_eq, not_true_eq_false, not_false_eq_true, Bool.not_eq_true, Bool.not_eq_false, reduceCtorEq, h0, c1, z4, hr101, hs1, hs2]
  exact k0
end CX

