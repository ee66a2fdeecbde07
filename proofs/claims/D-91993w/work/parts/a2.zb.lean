set_option maxRecDepth 100000
/-! the component's reader: a line, all lines -/
section CL
variable {d : Nat} {z : ZH} {Q : ZQ} {b : Nat → Nat} {sz R : Nat} {S : YS} {G : Nat → Nat} {L : Nat → List (Nat × Nat)}
/-- what a line costs: from z at S, G to z1 at S1, G1 -/
def LC (z z1 : ZH) (S S1 : YS) (G G1 : Nat → Nat) : Prop := (G 0 ≤ G1 0 ∧ G 1 ≤ G1 1) ∧ (zuc z ≤ zuc z1 ∧ zuc z1 + 400 * G 1 + 2 * G 0 + yFr S ≤ zuc z + yFr S1 + 400 * G1 1 + 2 * G1 0) ∧ (zus z ≤ zus z1 ∧ zus z1 + 2100 * G 1 + 50 * G 0 + yFr S ≤ zus z + yFr S1 + 2100 * G1 1 + 50 * G1 0)
/-- the end of a line -/
theorem c218e (hR : RD z R b sz) (hn : R + 11 ≤ zn z) (h162 : 162 ≤ R) {S1 : YS} {x1 : Value} (hS : yOK sz S1) (hk : yFk S1 = 0)
    (H : yFk (yEnd b sz S1) = 0 → Q (.inl none) (cP z R (yEnd b sz S1)))
    (HX : ¬ yFk (yEnd b sz S1) = 0 → ∀ S', Q (.inr (.ref (zn z))) (mkW (cP z R S') (nI (yFk (yEnd b sz S1))) (yFp (yEnd b sz S1)))) : ZW zG (d + 7) 218 162 [.ref R, x1] [] (cP z R S1) Q := by
  have r0 := hR.1.1.1
  have o4 : yTk S1 < 5 := hS.2.2.1
  have err := fun d Q x => c221 (d := d) (Q := Q) (S := S1) (x := x) hR.1 (by omega)
  have adv := fun d Q => c216 (d := d) (Q := Q) hR.1 hS.1.2 hk
  unfold yEnd at H HX
  rw [if_pos hk] at H HX
  by_cases t : yTk S1 = 3
  · rw [if_pos t] at H
    have H := H (by rw [(yAdv_fk b sz S1).1]; exact hk)
    simp (disch := omega) only [s218_162, s218_163, s218_166, s218_167, s218_170, s218_171, s218_172, s218_175, s218_176, s218_179, zcs_0, zcs_1, zcs_2, zcs_3, zcs_4, zcs_5, zcs_6, zcs_7, znl_i, znl_r, znl_n, Bool.and_true, Bool.true_and, zk_v, zk_n, zk_x, zir_r, zir_n, zclr_i, zclr_r, zclr_n, zclr_d, zclr_l, true_and, and_true, and_self, if_true, if_false, reduceIte, nI_add, pk_mul, zin_ok, zx_nI, nI_lt2, nI_le2, nI_eq2, nI_l0, nI_g0, nI_q0, nI_p0, nI_n0, nI_m1, Nat.add_zero, Nat.zero_add, Nat.reduceAdd, Nat.reduceMul, true_or, or_true, znar_50, bI_0, bI_1, bI_z, bft, nI_z0, nI_z1, lgc_lt, lgc_gt, lgc_le, lgc_ge, lgc_eq, not_true_eq_false, not_false_eq_true, Bool.not_eq_true, Bool.not_eq_false, reduceCtorEq, eq_self, nI_e0, nI_e1, i10, i01, decide_false, decide_true, Bool.false_eq_true, cls_cP, fr_cP, len_cP, ls_cP, n_cP, ia_cP, r0, cP_9, t, adv]
    exact H
  · rw [if_neg t] at HX
    have HX := HX (yErr_fk (by omega)) S1
    have e1 : yErr 1 S1 = (yAt S1, yFr S1, yTk S1, yVl S1, 1, nI (yFr S1)) := if_pos hk
    rw [e1] at HX
    simp (disch := omega) only [s218_162, s218_163, s218_166, s218_167, s218_170, s218_171, s218_172, zcs_0, zcs_1, zcs_2, zcs_3, zcs_4, zcs_5, zcs_6, zcs_7, znl_i, znl_r, znl_n, Bool.and_true, Bool.true_and, zk_v, zk_n, zk_x, zir_r, zir_n, zclr_i, zclr_r, zclr_n, zclr_d, zclr_l, true_and, and_true, and_self, if_true, if_false, reduceIte, nI_add, pk_mul, zin_ok, zx_nI, nI_lt2, nI_le2, nI_eq2, nI_l0, nI_g0, nI_q0, nI_p0, nI_n0, nI_m1, Nat.add_zero, Nat.zero_add, Nat.reduceAdd, Nat.reduceMul, true_or, or_true, znar_50, bI_0, bI_1, bI_z, bft, nI_z0, nI_z1, lgc_lt, lgc_gt, lgc_le, lgc_ge, lgc_eq, not_true_eq_false, not_false_eq_true, Bool.not_eq_true, Bool.not_eq_false, reduceCtorEq, eq_self, nI_e0, nI_e1, i10, i01, decide_false, decide_true, Bool.false_eq_true, cls_cP, fr_cP, len_cP, ls_cP, n_cP, ia_cP, r0, cP_9, t, err]
    exact HX
theorem CT_fld {G6 : Nat → Nat} {j : Nat} {x : Int32} (hC : CT z R G L) (hI : GI G L) (hj : j = 3 ∨ j = 4) (hG : ∀ i, ¬ i = j + 1 → G6 i = G i) (hx : x = nI (G6 (j + 1))) : CT (sfi z (R + 5) j x) R G6 L := by
  obtain ⟨⟨⟨a1, a2, a3, a4, a5, a6, a7, a8⟩, a9, a10⟩, ⟨b1, b2⟩, c, e1, e2⟩ := hC
  have F : zFr (TW R) z (sfi z (R + 5) j x) := zFr_sfi (zFr_refl _ _) (Or.inr (Or.inl rfl))
  refine ⟨⟨⟨a1, a2, a3, a4, a5, a6, a7, a8⟩, ?_, ?_⟩, ⟨?_, ?_⟩, ?_, ?_, ?_⟩
  · rcases hj with rfl | rfl
    · rw [fi_sfi, zu2_s]; exact hx
    · rw [fi_sfi, zu2_k _ _ _ _ (by omega), hG 4 (by omega)]; exact a9
  · rcases hj with rfl | rfl
    · rw [fi_sfi, zu2_k _ _ _ _ (by omega), hG 5 (by omega)]; exact a10
    · rw [fi_sfi, zu2_s]; exact hx
  · rw [hG 0 (by omega)]; exact b1
  · intro h hh
    rw [hG 0 (by omega)] at hh
    obtain ⟨q, w1, w2, w3, w4⟩ := b2 h hh
    have := w2.1
    exact ⟨q, w1, w2, w3, fun i hi => by rw [fi_sfi, zu2_n _ _ _ _ (by omega), hG _ (by omega)]; exact w4 i hi⟩
  · intro h hh
    rw [hG _ (by omega)]; exact c h hh
  · rw [hG 1 (by omega)]; exact e1
  · intro l hl
    rw [hG 1 (by omega)] at hl
    obtain ⟨q, w1, w2⟩ := e2 l hl
    exact ⟨q, w1, CT_rules F (fun q w => by unfold TW at w; omega) hI (fun i hi => hG i (by omega)) hl w2⟩
/-- a line -/
theorem c218 (hR : RD z R b sz) (hS : yOK sz S) (hk : yFk S = 0) (hn : R + 11 ≤ zn z) (h162 : 162 ≤ R) (hC : CT z R G L) (hI : GI G L) (hL : yLi S G) (hsz : sz ≤ 1400)
    (H : yFk (yLn b sz S G).1 = 0 → ∀ z' L', zFr (TW R) z z' → CT z' R (yLn b sz S G).2 L' → GI (yLn b sz S G).2 L' → LC z z' S (yLn b sz S G).1 G (yLn b sz S G).2 → Q (.inl none) (cP z' R (yLn b sz S G).1))
    (HX : ¬ yFk (yLn b sz S G).1 = 0 → ∀ z' S', zFr (TW R) z z' → zuc z ≤ zuc z' → zuc z' ≤ zuc z + 2500 → zus z ≤ zus z' → zus z' ≤ zus z + 8000 → Q (.inr (.ref (zn z'))) (mkW (cP z' R S') (nI (yFk (yLn b sz S G).1)) (yFp (yLn b sz S G).1))) : ZC zG (d + 7) 218 [.ref R] (cP z R S) Q := by
  have r0 := hR.1.1.1
  have r1 : zfr z R 1 = .ref (R + 2) := hR.2.2.1.1
  have r6 : zfr z R 6 = .ref (R + 5) := hR.2.2.2.2.2
  have rl : zcls z (R + 2) = 63 ∧ zlen z (R + 2) = 4 := ⟨hR.2.2.1.2.1, hR.2.2.1.2.2.1⟩
  obtain ⟨rl1, rl2⟩ := rl
  have hC' := hC
  obtain ⟨⟨⟨a1, a2, a3, a4, a5, a6, a7, a8⟩, a9, a10⟩, ⟨b1, b2⟩, c, e1, e2⟩ := hC'
  obtain ⟨hB, hL⟩ := hL
  obtain ⟨l1, l2⟩ := hL hk
  have lp := yLp_le (b := b) (S := S)
  have lw := yLw_le (b := b) (S := S)
  have hfr := hS.1
  have wh : ∀ d Q, ZC zG (d + 1) 219 [.ref R, .ref (R + 2)] (cP z R S) Q = Q (.inl (some (.int (nI (yLp b S))))) (cP z R S) := fun d Q => c219 hR.1 hS hk hR.2.2.1.2
  have is := fun d Q r (hr : r < 35) => c220 (d := d) (Q := Q) (r := r) hR.1 hS hk hr
  have mn : ∀ (d : Nat) (Q : ZQ), ZC zG d 63 [.ref (R + 5)] (cP z R S) Q = Q (.inl (some (.int (nI (G 0))))) (cP z R S) := fun d Q => by
    have := c63b (d := d) (Q := Q) (z := cP z R S) (t := R + 5) (hl := R + 6) a1 a2 a3
    rw [this, ls_cP, b1]
  have err := fun d Q x => c221 (d := d) (Q := Q) (S := S) (x := x) hR.1 (by omega)
  have adv := fun d Q => c216 (d := d) (Q := Q) hR.1 hS.1.2 hk
  have okA := yAdv_ok (b := b) hS
  have gA : yFk (yAdv b sz S) = 0 := by rw [(yAdv_fk b sz S).1, hk]
  obtain ⟨w1, w2, w3, w4⟩ := yWh4 (b := b) (S := S) (r1 := 11) (r2 := 14) (r3 := 21) (r4 := 13)
  have w1 : yLw b S = 0 ↔ yIs b S 11 = true := w1
  have w2 : yIs b S 11 = false → (yLw b S = 1 ↔ yIs b S 14 = true) := w2
  have w3 : yIs b S 11 = false → yIs b S 14 = false → (yLw b S = 2 ↔ yIs b S 21 = true) := w3
  have w4 : yIs b S 11 = false → yIs b S 14 = false → yIs b S 21 = false → (yLw b S = 3 ↔ yIs b S 13 = true) := w4
  -- is there room
  by_cases fu : (yLw b S = 0 ∧ G 0 = 16) ∨ (yLp b S < 4 ∧ G 1 = 24)
  · have kn : ¬ (yLp b S = 4 ∧ yLw b S = 4) := by omega
    have el : yLn b sz S G = (yErr 3 S, G) := by
      unfold yLn
      rw [if_neg kn, if_pos fu]
    rw [el] at HX
    have hx := HX (yErr_fk (by omega)) z S (zFr_refl _ _) (Nat.le_refl _) (by omega) (Nat.le_refl _) (by omega)
    have e3 : yErr 3 S = (yAt S, yFr S, yTk S, yVl S, 3, nI (yFr S)) := if_pos hk
    dsimp only at hx
    rw [e3] at hx
    by_cases e11 : yIs b S 11 = true
    · by_cases q0 : G 0 = 16
      · simp (disch := omega) only [e218, s218_0, s218_1, s218_2, s218_5, s218_8, s218_9, s218_10, s218_12, s218_15, s218_18, s218_19, s218_22, s218_25, s218_27, s218_30, s218_31, s218_32, s218_35, s218_36, s218_39, s218_40, s218_43, s218_46, s218_51, s218_53, s218_56, s218_57, s218_58, zcs_0, zcs_1, zcs_2, zcs_3, zcs_4, zcs_5, zcs_6, zcs_7, znl_i, znl_r, znl_n, Bool.and_true, Bool.true_and, zk_v, zk_n, zk_x, zir_r, zir_n, zclr_i, zclr_r, zclr_n, zclr_d, zclr_l, true_and, and_true, and_self, if_true, if_false, reduceIte, nI_add, pk_mul, zin_ok, zx_nI, nI_lt2, nI_le2, nI_eq2, nI_l0, nI_g0, nI_q0, nI_p0, nI_n0, nI_m1, Nat.add_zero, Nat.zero_add, Nat.reduceAdd, Nat.reduceMul, true_or, or_true, znar_50, bI_0, bI_1, bI_z, bft, nI_z0, nI_z1, lgc_lt, lgc_gt, lgc_le, lgc_ge, lgc_eq, not_true_eq_false, not_false_eq_true, Bool.not_eq_true, Bool.not_eq_false, reduceCtorEq, eq_self, nI_e0, nI_e1, i10, i01, decide_false, decide_true, Bool.false_eq_true, cls_cP, fr_cP, len_cP, ls_cP, n_cP, ia_cP, r0, r1, r6, a1, wh, is, e11, mn, q0, err, bI_t]
        exact hx
      · have fu2 : yLp b S < 4 ∧ G 1 = 24 := by omega
        have n4 : ¬ 4 ≤ yLp b S := by omega
        simp (disch := omega) only [e218, s218_0, s218_1, s218_2, s218_5, s218_8, s218_9, s218_10, s218_12, s218_15, s218_18, s218_19, s218_22, s218_25, s218_27, s218_30, s218_31, s218_32, s218_35, s218_36, s218_39, s218_40, s218_43, s218_46, s218_51, s218_53, s218_56, s218_57, s218_58, zcs_0, zcs_1, zcs_2, zcs_3, zcs_4, zcs_5, zcs_6, zcs_7, znl_i, znl_r, znl_n, Bool.and_true, Bool.true_and, zk_v, zk_n, zk_x, zir_r, zir_n, zclr_i, zclr_r, zclr_n, zclr_d, zclr_l, true_and, and_true, and_self, if_true, if_false, reduceIte, nI_add, pk_mul, zin_ok, zx_nI, nI_lt2, nI_le2, nI_eq2, nI_l0, nI_g0, nI_q0, nI_p0, nI_n0, nI_m1, Nat.add_zero, Nat.zero_add, Nat.reduceAdd, Nat.reduceMul, true_or, or_true, znar_50, bI_0, bI_1, bI_z, bft, nI_z0, nI_z1, lgc_lt, lgc_gt, lgc_le, lgc_ge, lgc_eq, not_true_eq_false, not_false_eq_true, Bool.not_eq_true, Bool.not_eq_false, reduceCtorEq, eq_self, nI_e0, nI_e1, i10, i01, decide_false, decide_true, Bool.false_eq_true, cls_cP, fr_cP, len_cP, ls_cP, n_cP, ia_cP, r0, r1, r6, rl1, rl2, a1, a7, a8, e1, wh, is, e11, mn, q0, n4, fu2.2, err, bI_t]
        exact hx
    · rw [Bool.not_eq_true] at e11
      have n0 : ¬ yLw b S = 0 := fun q => by rw [w1, e11] at q; exact Bool.false_ne_true q
      have fu2 : yLp b S < 4 ∧ G 1 = 24 := by omega
      have n4 : ¬ 4 ≤ yLp b S := by omega
      simp (disch := omega) only [e218, s218_0, s218_1, s218_2, s218_5, s218_8, s218_9, s218_10, s218_12, s218_15, s218_18, s218_19, s218_22, s218_25, s218_27, s218_30, s218_31, s218_32, s218_35, s218_36, s218_39, s218_40, s218_43, s218_46, s218_51, s218_53, s218_56, s218_57, s218_58, zcs_0, zcs_1, zcs_2, zcs_3, zcs_4, zcs_5, zcs_6, zcs_7, znl_i, znl_r, znl_n, Bool.and_true, Bool.true_and, zk_v, zk_n, zk_x, zir_r, zir_n, zclr_i, zclr_r, zclr_n, zclr_d, zclr_l, true_and, and_true, and_self, if_true, if_false, reduceIte, nI_add, pk_mul, zin_ok, zx_nI, nI_lt2, nI_le2, nI_eq2, nI_l0, nI_g0, nI_q0, nI_p0, nI_n0, nI_m1, Nat.add_zero, Nat.zero_add, Nat.reduceAdd, Nat.reduceMul, true_or, or_true, znar_50, bI_0, bI_1, bI_z, bft, nI_z0, nI_z1, lgc_lt, lgc_gt, lgc_le, lgc_ge, lgc_eq, not_true_eq_false, not_false_eq_true, Bool.not_eq_true, Bool.not_eq_false, reduceCtorEq, eq_self, nI_e0, nI_e1, i10, i01, decide_false, decide_true, Bool.false_eq_true, cls_cP, fr_cP, len_cP, ls_cP, n_cP, ia_cP, r0, r1, r6, rl1, rl2, a1, a7, a8, e1, wh, is, e11, n4, fu2.2, err, bI_f]
      exact hx
  -- there is
  have run : ∀ Q, ZC zG (d + 7) 218 [.ref R] (cP z R S) Q = ZW zG (d + 7) 218 61 [.ref R, .int (nI (yLp b S))] [] (cP z R S) Q := by
    intro Q
    by_cases e11 : yIs b S 11 = true
    · have q0 : ¬ G 0 = 16 := fun q => fu (Or.inl ⟨w1.mpr e11, q⟩)
      by_cases p : 4 ≤ yLp b S
      · simp (disch := omega) only [e218, s218_0, s218_1, s218_2, s218_5, s218_8, s218_9, s218_10, s218_12, s218_15, s218_18, s218_19, s218_22, s218_25, s218_27, s218_30, s218_31, s218_32, s218_35, s218_36, zcs_0, zcs_1, zcs_2, zcs_3, zcs_4, zcs_5, zcs_6, zcs_7, znl_i, znl_r, znl_n, Bool.and_true, Bool.true_and, zk_v, zk_n, zk_x, zir_r, zir_n, zclr_i, zclr_r, zclr_n, zclr_d, zclr_l, true_and, and_true, and_self, if_true, if_false, reduceIte, nI_add, pk_mul, zin_ok, zx_nI, nI_lt2, nI_le2, nI_eq2, nI_l0, nI_g0, nI_q0, nI_p0, nI_n0, nI_m1, Nat.add_zero, Nat.zero_add, Nat.reduceAdd, Nat.reduceMul, true_or, or_true, znar_50, bI_0, bI_1, bI_z, bft, nI_z0, nI_z1, lgc_lt, lgc_gt, lgc_le, lgc_ge, lgc_eq, not_true_eq_false, not_false_eq_true, Bool.not_eq_true, Bool.not_eq_false, reduceCtorEq, eq_self, nI_e0, nI_e1, i10, i01, decide_false, decide_true, Bool.false_eq_true, cls_cP, fr_cP, len_cP, ls_cP, n_cP, ia_cP, r0, r1, r6, rl1, rl2, a1, wh, is, e11, mn, q0, p, bI_t]
      · have q1 : ¬ G 1 = 24 := by omega
        simp (disch := omega) only [e218, s218_0, s218_1, s218_2, s218_5, s218_8, s218_9, s218_10, s218_12, s218_15, s218_18, s218_19, s218_22, s218_25, s218_27, s218_30, s218_31, s218_32, s218_35, s218_36, s218_39, s218_40, s218_43, s218_46, s218_51, s218_53, zcs_0, zcs_1, zcs_2, zcs_3, zcs_4, zcs_5, zcs_6, zcs_7, znl_i, znl_r, znl_n, Bool.and_true, Bool.true_and, zk_v, zk_n, zk_x, zir_r, zir_n, zclr_i, zclr_r, zclr_n, zclr_d, zclr_l, true_and, and_true, and_self, if_true, if_false, reduceIte, nI_add, pk_mul, zin_ok, zx_nI, nI_lt2, nI_le2, nI_eq2, nI_l0, nI_g0, nI_q0, nI_p0, nI_n0, nI_m1, Nat.add_zero, Nat.zero_add, Nat.reduceAdd, Nat.reduceMul, true_or, or_true, znar_50, bI_0, bI_1, bI_z, bft, nI_z0, nI_z1, lgc_lt, lgc_gt, lgc_le, lgc_ge, lgc_eq, not_true_eq_false, not_false_eq_true, Bool.not_eq_true, Bool.not_eq_false, reduceCtorEq, eq_self, nI_e0, nI_e1, i10, i01, decide_false, decide_true, Bool.false_eq_true, cls_cP, fr_cP, len_cP, ls_cP, n_cP, ia_cP, r0, r1, r6, rl1, rl2, a1, a7, a8, e1, wh, is, e11, mn, q0, q1, p, bI_t]
    · rw [Bool.not_eq_true] at e11
      by_cases p : 4 ≤ yLp b S
      · simp (disch := omega) only [e218, s218_0, s218_1, s218_2, s218_5, s218_8, s218_9, s218_10, s218_12, s218_15, s218_18, s218_19, s218_22, s218_25, s218_27, s218_30, s218_31, s218_32, s218_35, s218_36, zcs_0, zcs_1, zcs_2, zcs_3, zcs_4, zcs_5, zcs_6, zcs_7, znl_i, znl_r, znl_n, Bool.and_true, Bool.true_and, zk_v, zk_n, zk_x, zir_r, zir_n, zclr_i, zclr_r, zclr_n, zclr_d, zclr_l, true_and, and_true, and_self, if_true, if_false, reduceIte, nI_add, pk_mul, zin_ok, zx_nI, nI_lt2, nI_le2, nI_eq2, nI_l0, nI_g0, nI_q0, nI_p0, nI_n0, nI_m1, Nat.add_zero, Nat.zero_add, Nat.reduceAdd, Nat.reduceMul, true_or, or_true, znar_50, bI_0, bI_1, bI_z, bft, nI_z0, nI_z1, lgc_lt, lgc_gt, lgc_le, lgc_ge, lgc_eq, not_true_eq_false, not_false_eq_true, Bool.not_eq_true, Bool.not_eq_false, reduceCtorEq, eq_self, nI_e0, nI_e1, i10, i01, decide_false, decide_true, Bool.false_eq_true, cls_cP, fr_cP, len_cP, ls_cP, n_cP, ia_cP, r0, r1, r6, rl1, rl2, wh, is, e11, p, bI_f]
      · have q1 : ¬ G 1 = 24 := by omega
        simp (disch := omega) only [e218, s218_0, s218_1, s218_2, s218_5, s218_8, s218_9, s218_10, s218_12, s218_15, s218_18, s218_19, s218_22, s218_25, s218_27, s218_30, s218_31, s218_32, s218_35, s218_36, s218_39, s218_40, s218_43, s218_46, s218_51, s218_53, zcs_0, zcs_1, zcs_2, zcs_3, zcs_4, zcs_5, zcs_6, zcs_7, znl_i, znl_r, znl_n, Bool.and_true, Bool.true_and, zk_v, zk_n, zk_x, zir_r, zir_n, zclr_i, zclr_r, zclr_n, zclr_d, zclr_l, true_and, and_true, and_self, if_true, if_false, reduceIte, nI_add, pk_mul, zin_ok, zx_nI, nI_lt2, nI_le2, nI_eq2, nI_l0, nI_g0, nI_q0, nI_p0, nI_n0, nI_m1, Nat.add_zero, Nat.zero_add, Nat.reduceAdd, Nat.reduceMul, true_or, or_true, znar_50, bI_0, bI_1, bI_z, bft, nI_z0, nI_z1, lgc_lt, lgc_gt, lgc_le, lgc_ge, lgc_eq, not_true_eq_false, not_false_eq_true, Bool.not_eq_true, Bool.not_eq_false, reduceCtorEq, eq_self, nI_e0, nI_e1, i10, i01, decide_false, decide_true, Bool.false_eq_true, cls_cP, fr_cP, len_cP, ls_cP, n_cP, ia_cP, r0, r1, r6, rl1, rl2, a1, a7, a8, e1, wh, is, e11, q1, p, bI_f]
  rw [run]
  have okB := yBo_ok (b := b) (G := G) hS
  -- the end, when the body is well
  have fin : ∀ (x1 : Value) (z1 : ZH) (L1 : Nat → List (Nat × Nat)), ¬ (yLp b S = 4 ∧ yLw b S = 4) → yFk (yBo b sz S G).1 = 0 → zFr (TW R) z z1 → CT z1 R (yBo b sz S G).2 L1 → GI (yBo b sz S G).2 L1 → LC z z1 S (yBo b sz S G).1 G (yBo b sz S G).2 → zuc z1 ≤ zuc z + 2500 → zus z1 ≤ zus z + 8000 → ZW zG (d + 7) 218 162 [.ref R, x1] [] (cP z1 R (yBo b sz S G).1) Q := by
    intro x1 z1 L1 kn g f c1 i1 k1 u1 v1
    have el : yLn b sz S G = (yEnd b sz (yBo b sz S G).1, (yBo b sz S G).2) := by
      unfold yLn
      rw [if_neg kn, if_neg fu]
    rw [el] at H HX
    dsimp only at H HX
    have hR1 := hR.fr f (by omega) (by omega) (fun q w => by unfold TW at w; omega) h162 (fun w => by unfold TW at w; omega)
    have n1 := f.1
    obtain ⟨k0, k2, k3⟩ := k1
    refine c218e (d := d) hR1 (by omega) h162 okB g (fun g2 => ?_) (fun g2 S' => ?_)
    · have fr := (yEnd_g okB g2).2.2.2
      exact H g2 z1 L1 f c1 i1 ⟨k0, ⟨k2.1, by omega⟩, k3.1, by omega⟩
    · exact HX g2 z1 S' f k2.1 u1 k3.1 v1
  have badB : ¬ (yLp b S = 4 ∧ yLw b S = 4) → ¬ yFk (yBo b sz S G).1 = 0 → ∀ z' S', zFr (TW R) z z' → zuc z ≤ zuc z' → zuc z' ≤ zuc z + 2500 → zus z ≤ zus z' → zus z' ≤ zus z + 8000 → Q (.inr (.ref (zn z'))) (mkW (cP z' R S') (nI (yFk (yBo b sz S G).1)) (yFp (yBo b sz S G).1)) := by
    intro kn g
    have el : yLn b sz S G = (yEnd b sz (yBo b sz S G).1, (yBo b sz S G).2) := by
      unfold yLn
      rw [if_neg kn, if_neg fu]
    have ee : yEnd b sz (yBo b sz S G).1 = (yBo b sz S G).1 := if_neg g
    rw [el, ee] at HX
    exact HX g
  have mono : ∀ {W : Nat → Prop} {z' : ZH}, zFr (fun _ => False) z z' → zFr (TW R) z z' := fun h => zFr_mono (fun _ _ w => w.elim) h
  have mB := yBo_mo (b := b) (G := G) hS
  have mA := yAdv_mo (b := b) hS
  have okB1 := okB.1
  by_cases p : yLp b S < 4
  · have kn : ¬ (yLp b S = 4 ∧ yLw b S = 4) := by omega
    have eb : yBo b sz S G = ((yO5 b sz S G).1, yO6 b sz S G) := if_pos p
    have h1 : G 1 < 24 := by omega
    have p4 : ¬ 4 ≤ yLp b S := by omega
    rw [eb] at fin badB mB okB1
    dsimp only at fin badB mB okB1
    obtain ⟨o1, o2, o3, o4⟩ := yO6_n (b := b) (sz := sz) (S := S) h1
    simp (disch := omega) only [s218_61, s218_62, s218_63, s218_66, s218_67, s218_70, s218_71, s218_74, s218_75, s218_76, zcs_0, zcs_1, zcs_2, zcs_3, zcs_4, zcs_5, zcs_6, zcs_7, znl_i, znl_r, znl_n, Bool.and_true, Bool.true_and, zk_v, zk_n, zk_x, zir_r, zir_n, zclr_i, zclr_r, zclr_n, zclr_d, zclr_l, true_and, and_true, and_self, if_true, if_false, reduceIte, nI_add, pk_mul, zin_ok, zx_nI, nI_lt2, nI_le2, nI_eq2, nI_l0, nI_g0, nI_q0, nI_p0, nI_n0, nI_m1, Nat.add_zero, Nat.zero_add, Nat.reduceAdd, Nat.reduceMul, true_or, or_true, znar_50, bI_0, bI_1, bI_z, bft, nI_z0, nI_z1, lgc_lt, lgc_gt, lgc_le, lgc_ge, lgc_eq, not_true_eq_false, not_false_eq_true, Bool.not_eq_true, Bool.not_eq_false, reduceCtorEq, eq_self, nI_e0, nI_e1, i10, i01, decide_false, decide_true, Bool.false_eq_true, cls_cP, fr_cP, len_cP, ls_cP, n_cP, ia_cP, r0, r1, rl1, rl2, p4, adv]
    refine c222 (d := d) hR hS hk p hn h162 hC hI h1 hB hsz (fun g z' L' f c1 i1 u1 u2 v1 v2 => ?_) (fun g z' S' f u1 u2 v1 v2 => ?_)
    · simp (disch := omega) only [s218_79, zcs_0, zcs_1, zcs_2, zcs_3, zcs_4, zcs_5, zcs_6, zcs_7, znl_i, znl_r, znl_n, Bool.and_true, Bool.true_and, zk_v, zk_n, zk_x, zir_r, zir_n, zclr_i, zclr_r, zclr_n, zclr_d, zclr_l, true_and, and_true, and_self, if_true, if_false, reduceIte, nI_add, pk_mul, zin_ok, zx_nI, nI_lt2, nI_le2, nI_eq2, nI_l0, nI_g0, nI_q0, nI_p0, nI_n0, nI_m1, Nat.add_zero, Nat.zero_add, Nat.reduceAdd, Nat.reduceMul, true_or, or_true, znar_50, bI_0, bI_1, bI_z, bft, nI_z0, nI_z1, lgc_lt, lgc_gt, lgc_le, lgc_ge, lgc_eq, not_true_eq_false, not_false_eq_true, Bool.not_eq_true, Bool.not_eq_false, reduceCtorEq, eq_self, nI_e0, nI_e1, i10, i01, decide_false, decide_true, Bool.false_eq_true]
      exact fin _ z' L' kn g f c1 i1 ⟨⟨by omega, by omega⟩, ⟨u1, by omega⟩, v1, by omega⟩ (by omega) (by omega)
    · simp only [zcs_0, zcs_1, zcs_2, zcs_3, zcs_4, zcs_5, zcs_6, zcs_7, znl_i, znl_r, znl_n, Bool.and_true, Bool.true_and, zk_v, zk_n, zk_x, zir_r, zir_n, zclr_i, zclr_r, zclr_n, zclr_d, zclr_l, true_and, and_true, and_self, if_true, if_false, reduceIte]
      exact badB kn g z' S' (mono (W := TW R) f) u1 (by omega) v1 (by omega)
  have p4 : 4 ≤ yLp b S := by omega
  have tk := fun r (hr : r < 35) d Q => c224 (d := d) (Q := Q) hR.1 hS hk (r := r) hr
  unfold yTake at tk
  by_cases e11 : yIs b S 11 = true
  · have lw0 : yLw b S = 0 := w1.mpr e11
    have kn : ¬ (yLp b S = 4 ∧ yLw b S = 4) := by omega
    have eb : yBo b sz S G = ((yH8 b sz (yAdv b sz S)).1, yHG b sz (yAdv b sz S) G) := by
      unfold yBo
      rw [if_neg p, if_pos lw0]
    have h0 : G 0 < 16 := by omega
    rw [eb] at fin badB mB okB1
    dsimp only at fin badB mB okB1
    have tk1 := tk 11 (by omega)
    rw [e11] at tk1
    simp only [if_true] at tk1
    have vG := yHG_v (b := b) (sz := sz) (S := yAdv b sz S) (G := G)
    have g00 : yHG b sz (yAdv b sz S) G 0 = G 0 + 1 := vG.2.2.2.2.2.2.2.2.2.1
    have g01 : yHG b sz (yAdv b sz S) G 1 = G 1 := vG.2.2.2.2.2.2.2.2.2.2 1 (by omega) (by omega)
    simp (disch := omega) only [s218_61, s218_62, s218_63, s218_66, s218_67, s218_82, s218_83, s218_85, s218_88, s218_91, s218_92, zcs_0, zcs_1, zcs_2, zcs_3, zcs_4, zcs_5, zcs_6, zcs_7, znl_i, znl_r, znl_n, Bool.and_true, Bool.true_and, zk_v, zk_n, zk_x, zir_r, zir_n, zclr_i, zclr_r, zclr_n, zclr_d, zclr_l, true_and, and_true, and_self, if_true, if_false, reduceIte, nI_add, pk_mul, zin_ok, zx_nI, nI_lt2, nI_le2, nI_eq2, nI_l0, nI_g0, nI_q0, nI_p0, nI_n0, nI_m1, Nat.add_zero, Nat.zero_add, Nat.reduceAdd, Nat.reduceMul, true_or, or_true, znar_50, bI_0, bI_1, bI_z, bft, nI_z0, nI_z1, lgc_lt, lgc_gt, lgc_le, lgc_ge, lgc_eq, not_true_eq_false, not_false_eq_true, Bool.not_eq_true, Bool.not_eq_false, reduceCtorEq, eq_self, nI_e0, nI_e1, i10, i01, decide_false, decide_true, Bool.false_eq_true, cls_cP, fr_cP, len_cP, ls_cP, n_cP, ia_cP, r0, r1, rl1, rl2, p4, tk1, bI_t]
    refine c231 (d := d + 1) hR okA gA hn h162 hC hI h0 (fun g z' f c1 u1 u2 v1 v2 => ?_) (fun g z' S' f u1 u2 v1 v2 => ?_)
    · simp (disch := omega) only [s218_95, zcs_0, zcs_1, zcs_2, zcs_3, zcs_4, zcs_5, zcs_6, zcs_7, znl_i, znl_r, znl_n, Bool.and_true, Bool.true_and, zk_v, zk_n, zk_x, zir_r, zir_n, zclr_i, zclr_r, zclr_n, zclr_d, zclr_l, true_and, and_true, and_self, if_true, if_false, reduceIte, nI_add, pk_mul, zin_ok, zx_nI, nI_lt2, nI_le2, nI_eq2, nI_l0, nI_g0, nI_q0, nI_p0, nI_n0, nI_m1, Nat.add_zero, Nat.zero_add, Nat.reduceAdd, Nat.reduceMul, true_or, or_true, znar_50, bI_0, bI_1, bI_z, bft, nI_z0, nI_z1, lgc_lt, lgc_gt, lgc_le, lgc_ge, lgc_eq, not_true_eq_false, not_false_eq_true, Bool.not_eq_true, Bool.not_eq_false, reduceCtorEq, eq_self, nI_e0, nI_e1, i10, i01, decide_false, decide_true, Bool.false_eq_true]
      exact fin _ z' L kn g f c1 (yHG_GI okA h0 hI g) ⟨⟨by omega, by omega⟩, ⟨u1, by omega⟩, v1, by omega⟩ (by omega) (by omega)
    · simp only [zcs_0, zcs_1, zcs_2, zcs_3, zcs_4, zcs_5, zcs_6, zcs_7, znl_i, znl_r, znl_n, Bool.and_true, Bool.true_and, zk_v, zk_n, zk_x, zir_r, zir_n, zclr_i, zclr_r, zclr_n, zclr_d, zclr_l, true_and, and_true, and_self, if_true, if_false, reduceIte]
      exact badB kn g z' S' (mono (W := TW R) f) u1 (by omega) v1 (by omega)
  rw [Bool.not_eq_true] at e11
  have n0 : ¬ yLw b S = 0 := fun q => by rw [w1, e11] at q; exact Bool.false_ne_true q
  have tk1 := tk 11 (by omega)
  rw [e11] at tk1
  simp only [Bool.false_eq_true, if_false] at tk1
  by_cases e14 : yIs b S 14 = true
  · have lw1 : yLw b S = 1 := (w2 e11).mpr e14
    have kn : ¬ (yLp b S = 4 ∧ yLw b S = 4) := by omega
    have eb : yBo b sz S G = ((yK3 b sz (G 0) (yAdv b sz S)).1, yKG b sz (G 0) (yAdv b sz S) G) := by
      unfold yBo
      rw [if_neg p, if_neg n0, if_pos lw1]
    rw [eb] at fin badB mB okB1
    dsimp only at fin badB mB okB1
    have tk2 := tk 14 (by omega)
    rw [e14] at tk2
    simp only [if_true] at tk2
    simp (disch := omega) only [s218_61, s218_62, s218_63, s218_66, s218_67, s218_82, s218_83, s218_85, s218_88, s218_98, s218_99, s218_102, s218_105, s218_108, s218_109, zcs_0, zcs_1, zcs_2, zcs_3, zcs_4, zcs_5, zcs_6, zcs_7, znl_i, znl_r, znl_n, Bool.and_true, Bool.true_and, zk_v, zk_n, zk_x, zir_r, zir_n, zclr_i, zclr_r, zclr_n, zclr_d, zclr_l, true_and, and_true, and_self, if_true, if_false, reduceIte, nI_add, pk_mul, zin_ok, zx_nI, nI_lt2, nI_le2, nI_eq2, nI_l0, nI_g0, nI_q0, nI_p0, nI_n0, nI_m1, Nat.add_zero, Nat.zero_add, Nat.reduceAdd, Nat.reduceMul, true_or, or_true, znar_50, bI_0, bI_1, bI_z, bft, nI_z0, nI_z1, lgc_lt, lgc_gt, lgc_le, lgc_ge, lgc_eq, not_true_eq_false, not_false_eq_true, Bool.not_eq_true, Bool.not_eq_false, reduceCtorEq, eq_self, nI_e0, nI_e1, i10, i01, decide_false, decide_true, Bool.false_eq_true, cls_cP, fr_cP, len_cP, ls_cP, n_cP, ia_cP, r0, r1, rl1, rl2, p4, tk1, tk2, bI_t, bI_f]
    refine c232 (d := d + 3) hR okA gA hn h162 hC hI (fun g z' f c1 u1 v1 => ?_) (fun g z' S' f u1 u2 v1 v2 => ?_)
    · have kg : yKG b sz (G 0) (yAdv b sz S) G 0 = G 0 ∧ yKG b sz (G 0) (yAdv b sz S) G 1 = G 1 := by
        unfold yKG
        rw [if_pos g]
        exact ⟨by rw [zu1_n _ _ _ (by omega), zu1_n _ _ _ (by omega)], by rw [zu1_n _ _ _ (by omega), zu1_n _ _ _ (by omega)]⟩
      simp (disch := omega) only [s218_112, zcs_0, zcs_1, zcs_2, zcs_3, zcs_4, zcs_5, zcs_6, zcs_7, znl_i, znl_r, znl_n, Bool.and_true, Bool.true_and, zk_v, zk_n, zk_x, zir_r, zir_n, zclr_i, zclr_r, zclr_n, zclr_d, zclr_l, true_and, and_true, and_self, if_true, if_false, reduceIte, nI_add, pk_mul, zin_ok, zx_nI, nI_lt2, nI_le2, nI_eq2, nI_l0, nI_g0, nI_q0, nI_p0, nI_n0, nI_m1, Nat.add_zero, Nat.zero_add, Nat.reduceAdd, Nat.reduceMul, true_or, or_true, znar_50, bI_0, bI_1, bI_z, bft, nI_z0, nI_z1, lgc_lt, lgc_gt, lgc_le, lgc_ge, lgc_eq, not_true_eq_false, not_false_eq_true, Bool.not_eq_true, Bool.not_eq_false, reduceCtorEq, eq_self, nI_e0, nI_e1, i10, i01, decide_false, decide_true, Bool.false_eq_true]
      exact fin _ z' L kn g f c1 (yKG_GI l1 hI g) ⟨⟨by omega, by omega⟩, ⟨by omega, by omega⟩, by omega, by omega⟩ (by omega) (by omega)
    · simp only [zcs_0, zcs_1, zcs_2, zcs_3, zcs_4, zcs_5, zcs_6, zcs_7, znl_i, znl_r, znl_n, Bool.and_true, Bool.true_and, zk_v, zk_n, zk_x, zir_r, zir_n, zclr_i, zclr_r, zclr_n, zclr_d, zclr_l, true_and, and_true, and_self, if_true, if_false, reduceIte]
      exact badB kn g z' S' (mono (W := TW R) f) u1 (by omega) v1 (by omega)
  rw [Bool.not_eq_true] at e14
  have n1 : ¬ yLw b S = 1 := fun q => by rw [w2 e11, e14] at q; exact Bool.false_ne_true q
  have tk2 := tk 14 (by omega)
  rw [e14] at tk2
  simp only [Bool.false_eq_true, if_false] at tk2
  have hne : ¬ R + 5 = R := by omega
  by_cases e21 : yIs b S 21 = true
  · have lw2 : yLw b S = 2 := (w3 e11 e14).mpr e21
    have kn : ¬ (yLp b S = 4 ∧ yLw b S = 4) := by omega
    have eb : yBo b sz S G = ((yNum b sz 0 100 (yAdv b sz S)).1, zu1 G 4 (yNum b sz 0 100 (yAdv b sz S)).2) := by
      unfold yBo
      rw [if_neg p, if_neg n0, if_neg n1, if_pos lw2]
    have eN : yNeed b sz 21 S = yAdv b sz S := if_pos e21
    rw [← eN] at eb
    rw [eb] at fin badB mB okB1
    dsimp only at fin badB mB okB1
    simp (disch := omega) only [s218_61, s218_62, s218_63, s218_66, s218_67, s218_82, s218_83, s218_85, s218_88, s218_98, s218_99, s218_102, s218_105, s218_115, s218_116, s218_119, s218_122, s218_125, s218_126, s218_129, s218_130, s218_133, s218_134, s218_136, zcs_0, zcs_1, zcs_2, zcs_3, zcs_4, zcs_5, zcs_6, zcs_7, znl_i, znl_r, znl_n, Bool.and_true, Bool.true_and, zk_v, zk_n, zk_x, zir_r, zir_n, zclr_i, zclr_r, zclr_n, zclr_d, zclr_l, true_and, and_true, and_self, if_true, if_false, reduceIte, nI_add, pk_mul, zin_ok, zx_nI, nI_lt2, nI_le2, nI_eq2, nI_l0, nI_g0, nI_q0, nI_p0, nI_n0, nI_m1, Nat.add_zero, Nat.zero_add, Nat.reduceAdd, Nat.reduceMul, true_or, or_true, znar_50, bI_0, bI_1, bI_z, bft, nI_z0, nI_z1, lgc_lt, lgc_gt, lgc_le, lgc_ge, lgc_eq, not_true_eq_false, not_false_eq_true, Bool.not_eq_true, Bool.not_eq_false, reduceCtorEq, eq_self, nI_e0, nI_e1, i10, i01, decide_false, decide_true, Bool.false_eq_true, cls_cP, fr_cP, len_cP, ls_cP, n_cP, ia_cP, r0, r1, r6, rl1, rl2, p4, tk1, tk2, is, e21, bI_t, bI_f]
    refine c226 (d := d + 2) hR.1 hS hk (by omega) (by omega) (by omega) (by omega) (fun g => ?_) (fun g S' => ?_)
    · have g : yFk (yNum b sz 0 100 (yNeed b sz 21 S)).1 = 0 := g
      show zk _ _ _ _ _ _ _ _ (.inl (some (.int (nI (yNum b sz 0 100 (yNeed b sz 21 S)).2)))) (cP _ R (yNum b sz 0 100 (yNeed b sz 21 S)).1)
      have vb := yNum_v g
      generalize yNum b sz 0 100 (yNeed b sz 21 S) = X at *
      simp (disch := omega) only [s218_139, s218_142, zcs_0, zcs_1, zcs_2, zcs_3, zcs_4, zcs_5, zcs_6, zcs_7, znl_i, znl_r, znl_n, Bool.and_true, Bool.true_and, zk_v, zk_n, zk_x, zir_r, zir_n, zclr_i, zclr_r, zclr_n, zclr_d, zclr_l, true_and, and_true, and_self, if_true, if_false, reduceIte, nI_add, pk_mul, zin_ok, zx_nI, nI_lt2, nI_le2, nI_eq2, nI_l0, nI_g0, nI_q0, nI_p0, nI_n0, nI_m1, Nat.add_zero, Nat.zero_add, Nat.reduceAdd, Nat.reduceMul, true_or, or_true, znar_50, bI_0, bI_1, bI_z, bft, nI_z0, nI_z1, lgc_lt, lgc_gt, lgc_le, lgc_ge, lgc_eq, not_true_eq_false, not_false_eq_true, Bool.not_eq_true, Bool.not_eq_false, reduceCtorEq, eq_self, nI_e0, nI_e1, i10, i01, decide_false, decide_true, Bool.false_eq_true, cls_cP, fr_cP, len_cP, ls_cP, n_cP, ia_cP, a1, cP_sfi hne]
      have gi : GI (zu1 G 4 X.2) L := by
        refine GI_hi (fun i hi => zu1_n _ _ _ (by omega)) hI ?_
        obtain ⟨⟨x, y, w, e, f⟩, _, _⟩ := hI
        refine ⟨by rw [zu1_n _ _ _ (by omega)]; exact x, by rw [zu1_s]; exact vb.2, by rw [zu1_n _ _ _ (by omega)]; exact w, fun h hh => ?_, fun h hh => ?_⟩
        · rw [zu1_n _ _ _ (by omega)] at hh
          rw [zu1_n _ _ _ (by omega), zu1_n _ _ _ (by omega), zu1_n _ _ _ (by omega), zu1_n _ _ _ (by omega), zu1_n _ _ _ (by omega), zu1_n _ _ _ (by omega), zu1_n _ _ _ (by omega), zu1_n _ _ _ (by omega)]
          exact e h hh
        · rw [zu1_n _ _ _ (by omega), zu1_n _ _ _ (by omega)]
          exact f h hh
      refine fin _ _ L kn g (zFr_sfi (zFr_refl _ _) (Or.inr (Or.inl rfl))) (CT_fld hC hI (Or.inl rfl) (fun i hi => zu1_n _ _ _ hi) (by rw [zu1_s])) gi ⟨⟨?_, ?_⟩, ⟨?_, ?_⟩, ?_, ?_⟩ ?_ ?_
      all_goals simp (disch := omega) only [uc_sfi, us_sfi, zu1_n, ne_eq]
      all_goals omega
    · have g : ¬ yFk (yNum b sz 0 100 (yNeed b sz 21 S)).1 = 0 := g
      simp only [zcs_0, zcs_1, zcs_2, zcs_3, zcs_4, zcs_5, zcs_6, zcs_7, znl_i, znl_r, znl_n, Bool.and_true, Bool.true_and, zk_v, zk_n, zk_x, zir_r, zir_n, zclr_i, zclr_r, zclr_n, zclr_d, zclr_l, true_and, and_true, and_self, if_true, if_false, reduceIte]
      exact badB kn g z S' (zFr_refl _ _) (Nat.le_refl _) (by omega) (Nat.le_refl _) (by omega)
  rw [Bool.not_eq_true] at e21
  have n2 : ¬ yLw b S = 2 := fun q => by rw [w3 e11 e14, e21] at q; exact Bool.false_ne_true q
  simp (disch := omega) only [s218_61, s218_62, s218_63, s218_66, s218_67, s218_82, s218_83, s218_85, s218_88, s218_98, s218_99, s218_102, s218_105, s218_115, s218_116, s218_119, s218_122, s218_145, s218_146, s218_149, s218_150, s218_153, s218_154, s218_156, zcs_0, zcs_1, zcs_2, zcs_3, zcs_4, zcs_5, zcs_6, zcs_7, znl_i, znl_r, znl_n, Bool.and_true, Bool.true_and, zk_v, zk_n, zk_x, zir_r, zir_n, zclr_i, zclr_r, zclr_n, zclr_d, zclr_l, true_and, and_true, and_self, if_true, if_false, reduceIte, nI_add, pk_mul, zin_ok, zx_nI, nI_lt2, nI_le2, nI_eq2, nI_l0, nI_g0, nI_q0, nI_p0, nI_n0, nI_m1, Nat.add_zero, Nat.zero_add, Nat.reduceAdd, Nat.reduceMul, true_or, or_true, znar_50, bI_0, bI_1, bI_z, bft, nI_z0, nI_z1, lgc_lt, lgc_gt, lgc_le, lgc_ge, lgc_eq, not_true_eq_false, not_false_eq_true, Bool.not_eq_true, Bool.not_eq_false, reduceCtorEq, eq_self, nI_e0, nI_e1, i10, i01, decide_false, decide_true, Bool.false_eq_true, cls_cP, fr_cP, len_cP, ls_cP, n_cP, ia_cP, r0, r1, r6, rl1, rl2, p4, tk1, tk2, is, e21, bI_f]
  refine c226 (d := d + 2) hR.1 hS hk (by omega) (by omega) (by omega) (by omega) (fun g => ?_) (fun g S' => ?_)
  · have g : yFk (yNum b sz 1 10 (yNeed b sz 13 S)).1 = 0 := g
    obtain ⟨_, e13, eN⟩ := yNeed_g (yNum_g g).1
    have lw3 : yLw b S = 3 := (w4 e11 e14 e21).mpr e13
    have kn : ¬ (yLp b S = 4 ∧ yLw b S = 4) := by omega
    have eb : yBo b sz S G = ((yNum b sz 1 10 (yAdv b sz S)).1, zu1 G 5 (yNum b sz 1 10 (yAdv b sz S)).2) := by
      unfold yBo
      rw [if_neg p, if_neg n0, if_neg n1, if_neg n2]
    rw [← eN] at eb
    rw [eb] at fin badB mB okB1
    dsimp only at fin badB mB okB1
    show zk _ _ _ _ _ _ _ _ (.inl (some (.int (nI (yNum b sz 1 10 (yNeed b sz 13 S)).2)))) (cP _ R (yNum b sz 1 10 (yNeed b sz 13 S)).1)
    have vb := yNum_v g
    generalize yNum b sz 1 10 (yNeed b sz 13 S) = X at *
    simp (disch := omega) only [s218_159, zcs_0, zcs_1, zcs_2, zcs_3, zcs_4, zcs_5, zcs_6, zcs_7, znl_i, znl_r, znl_n, Bool.and_true, Bool.true_and, zk_v, zk_n, zk_x, zir_r, zir_n, zclr_i, zclr_r, zclr_n, zclr_d, zclr_l, true_and, and_true, and_self, if_true, if_false, reduceIte, nI_add, pk_mul, zin_ok, zx_nI, nI_lt2, nI_le2, nI_eq2, nI_l0, nI_g0, nI_q0, nI_p0, nI_n0, nI_m1, Nat.add_zero, Nat.zero_add, Nat.reduceAdd, Nat.reduceMul, true_or, or_true, znar_50, bI_0, bI_1, bI_z, bft, nI_z0, nI_z1, lgc_lt, lgc_gt, lgc_le, lgc_ge, lgc_eq, not_true_eq_false, not_false_eq_true, Bool.not_eq_true, Bool.not_eq_false, reduceCtorEq, eq_self, nI_e0, nI_e1, i10, i01, decide_false, decide_true, Bool.false_eq_true, cls_cP, fr_cP, len_cP, ls_cP, n_cP, ia_cP, a1, cP_sfi hne]
    have gi : GI (zu1 G 5 X.2) L := by
      refine GI_hi (fun i hi => zu1_n _ _ _ (by omega)) hI ?_
      obtain ⟨⟨x, y, w, e, f⟩, _, _⟩ := hI
      refine ⟨by rw [zu1_n _ _ _ (by omega)]; exact x, by rw [zu1_n _ _ _ (by omega)]; exact y, by rw [zu1_s]; omega, fun h hh => ?_, fun h hh => ?_⟩
      · rw [zu1_n _ _ _ (by omega)] at hh
        rw [zu1_n _ _ _ (by omega), zu1_n _ _ _ (by omega), zu1_n _ _ _ (by omega), zu1_n _ _ _ (by omega), zu1_n _ _ _ (by omega), zu1_n _ _ _ (by omega), zu1_n _ _ _ (by omega), zu1_n _ _ _ (by omega)]
        exact e h hh
      · rw [zu1_n _ _ _ (by omega), zu1_n _ _ _ (by omega)]
        exact f h hh
    refine fin _ _ L kn g (zFr_sfi (zFr_refl _ _) (Or.inr (Or.inl rfl))) (CT_fld hC hI (Or.inr rfl) (fun i hi => zu1_n _ _ _ hi) (by rw [zu1_s])) gi ⟨⟨?_, ?_⟩, ⟨?_, ?_⟩, ?_, ?_⟩ ?_ ?_
    all_goals simp (disch := omega) only [uc_sfi, us_sfi, zu1_n, ne_eq]
    all_goals omega
  · have g : ¬ yFk (yNum b sz 1 10 (yNeed b sz 13 S)).1 = 0 := g
    simp only [zcs_0, zcs_1, zcs_2, zcs_3, zcs_4, zcs_5, zcs_6, zcs_7, znl_i, znl_r, znl_n, Bool.and_true, Bool.true_and, zk_v, zk_n, zk_x, zir_r, zir_n, zclr_i, zclr_r, zclr_n, zclr_d, zclr_l, true_and, and_true, and_self, if_true, if_false, reduceIte]
    by_cases e13 : yIs b S 13 = true
    · have lw3 : yLw b S = 3 := (w4 e11 e14 e21).mpr e13
      have kn : ¬ (yLp b S = 4 ∧ yLw b S = 4) := by omega
      have eN : yNeed b sz 13 S = yAdv b sz S := if_pos e13
      have eb : yBo b sz S G = ((yNum b sz 1 10 (yAdv b sz S)).1, zu1 G 5 (yNum b sz 1 10 (yAdv b sz S)).2) := by
        unfold yBo
        rw [if_neg p, if_neg n0, if_neg n1, if_neg n2]
      rw [← eN] at eb
      rw [eb] at badB
      exact badB kn g z S' (zFr_refl _ _) (Nat.le_refl _) (by omega) (Nat.le_refl _) (by omega)
    · have lw4 : yLw b S = 4 := by
        have n3 : ¬ yLw b S = 3 := fun q => e13 ((w4 e11 e14 e21).mp q)
        omega
      have el : yLn b sz S G = (yErr 1 S, G) := by
        unfold yLn
        rw [if_pos ⟨by omega, lw4⟩]
      have eN : yNeed b sz 13 S = yErr 1 S := if_neg e13
      have e2' : yNum b sz 1 10 (yErr 1 S) = (yErr 1 S, 0) := yNum_bad (yErr_fk (by omega))
      have hb : ¬ yFk (yErr 1 S) = 0 := yErr_fk (by omega)
      rw [el] at HX
      have hx := HX hb z S' (zFr_refl _ _) (Nat.le_refl _) (by omega) (Nat.le_refl _) (by omega)
      show Q _ (mkW _ (nI (yFk (yNum b sz 1 10 (yNeed b sz 13 S)).1)) (yFp (yNum b sz 1 10 (yNeed b sz 13 S)).1))
      rw [eN, e2']
      exact hx
end CL
