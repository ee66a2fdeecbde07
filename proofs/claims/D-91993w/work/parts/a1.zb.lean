set_option maxRecDepth 100000
/-! the component's reader: who knows whom; a line -/
section KP
variable {b : Nat → Nat} {sz : Nat} {S : YS} {G : Nat → Nat} {L : Nat → List (Nat × Nat)}
theorem yKG_GI (h0 : G 0 ≤ 16) (hI : GI G L) (h : yFk (yK3 b sz (G 0) S).1 = 0) : GI (yKG b sz (G 0) S G) L := by
  obtain ⟨q1, q2, q3, q4, q5, q6⟩ := yK_g h
  unfold yKG
  rw [if_pos h]
  generalize (yK1 b sz (G 0) S).2 = a at *
  generalize (yK3 b sz (G 0) S).2 = c at *
  have n1 : ∀ i, ¬ i = 10 + 9 * a + 8 → ¬ i = 10 + 9 * c + 8 → zu1 (zu1 G (10 + 9 * a + 8) (G (10 + 9 * a + 8) ||| 2 ^ c)) (10 + 9 * c + 8) (zu1 G (10 + 9 * a + 8) (G (10 + 9 * a + 8) ||| 2 ^ c) (10 + 9 * c + 8) ||| 2 ^ a) i = G i := fun i h1 h2 => by rw [zu1_n _ _ _ h2, zu1_n _ _ _ h1]
  have na : zu1 (zu1 G (10 + 9 * a + 8) (G (10 + 9 * a + 8) ||| 2 ^ c)) (10 + 9 * c + 8) (zu1 G (10 + 9 * a + 8) (G (10 + 9 * a + 8) ||| 2 ^ c) (10 + 9 * c + 8) ||| 2 ^ a) (10 + 9 * a + 8) = G (10 + 9 * a + 8) ||| 2 ^ c := by rw [zu1_n _ _ _ (by omega), zu1_s]
  have nc : zu1 (zu1 G (10 + 9 * a + 8) (G (10 + 9 * a + 8) ||| 2 ^ c)) (10 + 9 * c + 8) (zu1 G (10 + 9 * a + 8) (G (10 + 9 * a + 8) ||| 2 ^ c) (10 + 9 * c + 8) ||| 2 ^ a) (10 + 9 * c + 8) = G (10 + 9 * c + 8) ||| 2 ^ a := by rw [zu1_s, zu1_n _ _ _ (by omega)]
  generalize zu1 (zu1 G (10 + 9 * a + 8) (G (10 + 9 * a + 8) ||| 2 ^ c)) (10 + 9 * c + 8) (zu1 G (10 + 9 * a + 8) (G (10 + 9 * a + 8) ||| 2 ^ c) (10 + 9 * c + 8) ||| 2 ^ a) = G2 at *
  refine GI_hi (fun i hi => n1 i (by omega) (by omega)) hI ?_
  obtain ⟨⟨x, y, w, e, f⟩, _, _⟩ := hI
  have e0 := n1 0 (by omega) (by omega)
  have e4 := n1 4 (by omega) (by omega)
  have e5 := n1 5 (by omega) (by omega)
  refine ⟨by omega, by omega, by omega, ?_, ?_⟩
  · intro i hi
    rw [n1 (10 + 9 * i) (by omega) (by omega), n1 (10 + 9 * i + 1) (by omega) (by omega), n1 (10 + 9 * i + 2) (by omega) (by omega), n1 (10 + 9 * i + 3) (by omega) (by omega), n1 (10 + 9 * i + 4) (by omega) (by omega), n1 (10 + 9 * i + 5) (by omega) (by omega), n1 (10 + 9 * i + 6) (by omega) (by omega), n1 (10 + 9 * i + 7) (by omega) (by omega)]
    exact e i (by omega)
  · intro i hi
    rw [e0]
    obtain ⟨f1, f2, f3⟩ := f i hi
    by_cases ca : i = a
    · subst ca
      rw [na]
      exact ⟨or_lt f1 q3, fun q => absurd q (by omega), or_bit f3 q6⟩
    · by_cases cc : i = c
      · subst cc
        rw [nc]
        exact ⟨or_lt f1 q2, fun q => absurd q (by omega), or_bit f3 (fun e => q6 e.symm)⟩
      · rw [n1 _ (by omega) (by omega)]
        exact ⟨f1, f2, f3⟩
end KP
section CK
variable {d : Nat} {z : ZH} {Q : ZQ} {b : Nat → Nat} {sz R : Nat} {S : YS} {G : Nat → Nat} {L : Nat → List (Nat × Nat)}
theorem yK_b1 {n : Nat} (h : ¬ yFk (yK1 b sz n S).1 = 0) : (yK3 b sz n S).1 = (yK1 b sz n S).1 := by
  have e2 : yK2 b sz n S = (yK1 b sz n S).1 := by
    unfold yK2
    rw [if_neg (fun q => h q.1)]
  unfold yK3
  rw [e2, yNum_bad h]
theorem yK_b2 {n : Nat} (h : ¬ yFk (yK2 b sz n S) = 0) : (yK3 b sz n S).1 = yK2 b sz n S := by
  unfold yK3
  rw [yNum_bad h]
theorem c232 (hR : RD z R b sz) (hS : yOK sz S) (hk : yFk S = 0) (hn : R + 11 ≤ zn z) (h162 : 162 ≤ R) (hC : CT z R G L) (hI : GI G L)
    (H : yFk (yK3 b sz (G 0) S).1 = 0 → ∀ z', zFr (TW R) z z' → CT z' R (yKG b sz (G 0) S G) L → zuc z' = zuc z → zus z' = zus z → Q (.inl none) (cP z' R (yK3 b sz (G 0) S).1))
    (HX : ¬ yFk (yK3 b sz (G 0) S).1 = 0 → ∀ z' S', FN z z' → zuc z ≤ zuc z' → zuc z' ≤ zuc z + 2000 → zus z ≤ zus z' → zus z' ≤ zus z + 5000 → Q (.inr (.ref (zn z'))) (mkW (cP z' R S') (nI (yFk (yK3 b sz (G 0) S).1)) (yFp (yK3 b sz (G 0) S).1))) : ZC zG (d + 3) 232 [.ref R] (cP z R S) Q := by
  have r0 := hR.1.1.1
  have r6 : zfr z R 6 = .ref (R + 5) := hR.2.2.2.2.2
  have hC' := hC
  obtain ⟨⟨⟨a1, a2, a3, a4, a5, a6, a7, a8⟩, a9, a10⟩, ⟨b1, b2⟩, c, e1, e2⟩ := hC'
  obtain ⟨k1, k2, k3⟩ := yK_ok (b := b) (n := G 0) hS
  have h16 := hI.1.1
  have mn : ∀ (S' : YS) (d : Nat) (Q : ZQ), ZC zG d 63 [.ref (R + 5)] (cP z R S') Q = Q (.inl (some (.int (nI (G 0))))) (cP z R S') := fun S' d Q => by
    have := c63b (d := d) (Q := Q) (z := cP z R S') (t := R + 5) (hl := R + 6) a1 a2 a3
    rw [this, ls_cP, b1]
  have err := fun d Q x (S' : YS) => c221 (d := d) (Q := Q) (S := S') (x := x) hR.1 (by omega)
  simp (disch := omega) only [e232, s232_0, s232_1, s232_2, s232_3, s232_6, s232_9, s232_10, s232_11, zcs_0, zcs_1, zcs_2, zcs_3, zcs_4, zcs_5, zcs_6, zcs_7, znl_i, znl_r, znl_n, Bool.and_true, Bool.true_and, zk_v, zk_n, zk_x, zir_r, zir_n, zclr_i, zclr_r, zclr_n, zclr_d, zclr_l, true_and, and_true, and_self, if_true, if_false, reduceIte, nI_add, pk_mul, zin_ok, zx_nI, nI_lt2, nI_le2, nI_eq2, nI_l0, nI_g0, nI_q0, nI_p0, nI_n0, nI_m1, Nat.add_zero, Nat.zero_add, Nat.reduceAdd, Nat.reduceMul, true_or, or_true, znar_50, bI_0, bI_1, bI_z, bft, nI_z0, nI_z1, lgc_lt, lgc_gt, lgc_le, lgc_ge, lgc_eq, not_true_eq_false, not_false_eq_true, Bool.not_eq_true, Bool.not_eq_false, reduceCtorEq, eq_self, nI_e0, nI_e1, i10, i01, decide_false, decide_true, Bool.false_eq_true, cls_cP, fr_cP, len_cP, ls_cP, n_cP, ia_cP, r0, r6, a1, mn]
  refine c227n (d := d) hR.1 hS hk (by omega) (by omega) (by omega) (fun g9 => ?_) (fun g9 S' => ?_)
  rotate_left
  · have g9 : ¬ yFk (yK1 b sz (G 0) S).1 = 0 := g9
    rw [yK_b1 g9] at HX
    simp only [zcs_0, zcs_1, zcs_2, zcs_3, zcs_4, zcs_5, zcs_6, zcs_7, znl_i, znl_r, znl_n, Bool.and_true, Bool.true_and, zk_v, zk_n, zk_x, zir_r, zir_n, zclr_i, zclr_r, zclr_n, zclr_d, zclr_l, true_and, and_true, and_self, if_true, if_false, reduceIte]
    exact HX g9 z S' (FN.refl z) (Nat.le_refl _) (by omega) (Nat.le_refl _) (by omega)
  have g1 : yFk (yK1 b sz (G 0) S).1 = 0 := g9
  show zk _ _ _ _ _ _ _ _ (.inl (some (.int (nI (yK1 b sz (G 0) S).2)))) (cP _ R (yK1 b sz (G 0) S).1)
  have va : (yK1 b sz (G 0) S).2 < G 0 := (yNum_v (show yFk (yNum b sz 0 (G 0) S).1 = 0 from g1)).2
  have tk5 : yTk (yK1 b sz (G 0) S).1 < 5 := k1.2.2.1
  -- the second number
  have sec : ∀ x2 : Value, yFk (yK2 b sz (G 0) S) = 0 → ZW zG (d + 3) 232 36 [.ref R, .int (nI (yK1 b sz (G 0) S).2), x2] [] (cP z R (yK2 b sz (G 0) S)) Q := by
    intro x2 g2
    simp (disch := omega) only [s232_36, s232_37, s232_38, s232_39, s232_42, s232_45, s232_46, s232_47, zcs_0, zcs_1, zcs_2, zcs_3, zcs_4, zcs_5, zcs_6, zcs_7, znl_i, znl_r, znl_n, Bool.and_true, Bool.true_and, zk_v, zk_n, zk_x, zir_r, zir_n, zclr_i, zclr_r, zclr_n, zclr_d, zclr_l, true_and, and_true, and_self, if_true, if_false, reduceIte, nI_add, pk_mul, zin_ok, zx_nI, nI_lt2, nI_le2, nI_eq2, nI_l0, nI_g0, nI_q0, nI_p0, nI_n0, nI_m1, Nat.add_zero, Nat.zero_add, Nat.reduceAdd, Nat.reduceMul, true_or, or_true, znar_50, bI_0, bI_1, bI_z, bft, nI_z0, nI_z1, lgc_lt, lgc_gt, lgc_le, lgc_ge, lgc_eq, not_true_eq_false, not_false_eq_true, Bool.not_eq_true, Bool.not_eq_false, reduceCtorEq, eq_self, nI_e0, nI_e1, i10, i01, decide_false, decide_true, Bool.false_eq_true, cls_cP, fr_cP, len_cP, ls_cP, n_cP, ia_cP, r0, r6, a1, mn]
    refine c227n (d := d) hR.1 k2 g2 (by omega) (by omega) (by omega) (fun g9 => ?_) (fun g9 S' => ?_)
    rotate_left
    · have g9 : ¬ yFk (yK3 b sz (G 0) S).1 = 0 := g9
      simp only [zcs_0, zcs_1, zcs_2, zcs_3, zcs_4, zcs_5, zcs_6, zcs_7, znl_i, znl_r, znl_n, Bool.and_true, Bool.true_and, zk_v, zk_n, zk_x, zir_r, zir_n, zclr_i, zclr_r, zclr_n, zclr_d, zclr_l, true_and, and_true, and_self, if_true, if_false, reduceIte]
      exact HX g9 z S' (FN.refl z) (Nat.le_refl _) (by omega) (Nat.le_refl _) (by omega)
    have g3 : yFk (yK3 b sz (G 0) S).1 = 0 := g9
    show zk _ _ _ _ _ _ _ _ (.inl (some (.int (nI (yK3 b sz (G 0) S).2)))) (cP _ R (yK3 b sz (G 0) S).1)
    obtain ⟨q1, q2, q3, q4, q5, q6⟩ := yK_g g3
    have eK : yKG b sz (G 0) S G = zu1 (zu1 G (10 + 9 * (yK1 b sz (G 0) S).2 + 8) (G (10 + 9 * (yK1 b sz (G 0) S).2 + 8) ||| 2 ^ (yK3 b sz (G 0) S).2)) (10 + 9 * (yK3 b sz (G 0) S).2 + 8) (zu1 G (10 + 9 * (yK1 b sz (G 0) S).2 + 8) (G (10 + 9 * (yK1 b sz (G 0) S).2 + 8) ||| 2 ^ (yK3 b sz (G 0) S).2) (10 + 9 * (yK3 b sz (G 0) S).2 + 8) ||| 2 ^ (yK1 b sz (G 0) S).2) := if_pos g3
    have H := H g3
    rw [eK] at H
    clear eK
    generalize (yK1 b sz (G 0) S).2 = a at *
    generalize (yK3 b sz (G 0) S).2 = e at *
    have ca := c a (by omega)
    have ce := c e (by omega)
    have ces : ∀ x, zu2 (zia z) (R + 8) a x (R + 8) e = zia z (R + 8) e := fun x => zu2_k _ _ _ _ q6
    simp (disch := omega) only [s232_50, s232_51, s232_52, s232_55, s232_58, s232_59, s232_60, s232_61, s232_62, s232_63, s232_64, s232_65, s232_66, s232_67, s232_70, s232_73, s232_74, s232_75, s232_76, s232_77, s232_78, s232_79, s232_80, s232_81, zcs_0, zcs_1, zcs_2, zcs_3, zcs_4, zcs_5, zcs_6, zcs_7, znl_i, znl_r, znl_n, Bool.and_true, Bool.true_and, zk_v, zk_n, zk_x, zir_r, zir_n, zclr_i, zclr_r, zclr_n, zclr_d, zclr_l, true_and, and_true, and_self, if_true, if_false, reduceIte, nI_add, pk_mul, zin_ok, zx_nI, nI_lt2, nI_le2, nI_eq2, nI_l0, nI_g0, nI_q0, nI_p0, nI_n0, nI_m1, Nat.add_zero, Nat.zero_add, Nat.reduceAdd, Nat.reduceMul, true_or, or_true, znar_50, bI_0, bI_1, bI_z, bft, nI_z0, nI_z1, lgc_lt, lgc_gt, lgc_le, lgc_ge, lgc_eq, not_true_eq_false, not_false_eq_true, Bool.not_eq_true, Bool.not_eq_false, reduceCtorEq, eq_self, nI_e0, nI_e1, i10, i01, decide_false, decide_true, Bool.false_eq_true, cls_cP, fr_cP, len_cP, ls_cP, n_cP, ia_cP, cls_sia, fr_sia, len_sia, ia_sia, r0, r6, a1, a4, a5, a6, cP_sia, ca, ces, ce, nI_sh1, nI_or]
    have F : zFr (TW R) z (sia (sia z (R + 8) a (nI (G (10 + 9 * a + 8) ||| 2 ^ e))) (R + 8) e (nI (G (10 + 9 * e + 8) ||| 2 ^ a))) := zFr_sia (zFr_sia (zFr_refl _ _) (Or.inr (Or.inr (Or.inr (Or.inl rfl))))) (Or.inr (Or.inr (Or.inr (Or.inl rfl))))
    have n1 : ∀ i, ¬ i = 10 + 9 * a + 8 → ¬ i = 10 + 9 * e + 8 → zu1 (zu1 G (10 + 9 * a + 8) (G (10 + 9 * a + 8) ||| 2 ^ e)) (10 + 9 * e + 8) (zu1 G (10 + 9 * a + 8) (G (10 + 9 * a + 8) ||| 2 ^ e) (10 + 9 * e + 8) ||| 2 ^ a) i = G i := fun i h1 h2 => by rw [zu1_n _ _ _ h2, zu1_n _ _ _ h1]
    refine H _ F ⟨⟨⟨a1, a2, a3, a4, a5, a6, a7, a8⟩, ?_, ?_⟩, ⟨?_, ?_⟩, ?_, ?_, ?_⟩ rfl rfl
    · rw [n1 4 (by omega) (by omega)]; exact a9
    · rw [n1 5 (by omega) (by omega)]; exact a10
    · rw [n1 0 (by omega) (by omega)]; exact b1
    · intro h hh
      rw [n1 0 (by omega) (by omega)] at hh
      obtain ⟨q, w1, w2, w3, w4⟩ := b2 h hh
      exact ⟨q, w1, w2, w3, fun j hj => by rw [n1 _ (by omega) (by omega)]; exact w4 j hj⟩
    · intro h hh
      rw [ia_sia, ia_sia]
      by_cases che : h = e
      · subst che
        rw [zu2_s, zu1_s, zu1_n _ _ _ (by omega)]
      · rw [zu2_k _ _ _ _ che, zu1_n _ _ _ (by omega)]
        by_cases cha : h = a
        · subst cha
          rw [zu2_s, zu1_s]
        · rw [zu2_k _ _ _ _ cha, zu1_n _ _ _ (by omega)]
          exact c h hh
    · rw [n1 1 (by omega) (by omega)]; exact e1
    · intro l hl
      rw [n1 1 (by omega) (by omega)] at hl
      obtain ⟨q, w1, w2⟩ := e2 l hl
      exact ⟨q, w1, CT_rules F (fun q w => by unfold TW at w; omega) hI (fun i hi => n1 i (by omega) (by omega)) hl w2⟩
  by_cases q2 : yTk (yK1 b sz (G 0) S).1 = 2
  · have vc : yVc (yK1 b sz (G 0) S).1 = min 1000 (yVl (yK1 b sz (G 0) S).1) := if_pos q2
    by_cases q3 : yVl (yK1 b sz (G 0) S).1 = (yK1 b sz (G 0) S).2
    · have e : yK2 b sz (G 0) S = yErr 2 (yK1 b sz (G 0) S).1 := by
        unfold yK2
        rw [if_pos ⟨g1, q2, q3⟩]
      have hb : ¬ yFk (yK2 b sz (G 0) S) = 0 := by rw [e]; exact yErr_fk (by omega)
      have vq : yVc (yK1 b sz (G 0) S).1 = (yK1 b sz (G 0) S).2 := by omega
      rw [yK_b2 hb, e] at HX
      have hx := HX (yErr_fk (by omega)) z (yK1 b sz (G 0) S).1 (FN.refl z) (Nat.le_refl _) (by omega) (Nat.le_refl _) (by omega)
      have e1' : yErr 2 (yK1 b sz (G 0) S).1 = (yAt (yK1 b sz (G 0) S).1, yFr (yK1 b sz (G 0) S).1, yTk (yK1 b sz (G 0) S).1, yVl (yK1 b sz (G 0) S).1, 2, nI (yFr (yK1 b sz (G 0) S).1)) := if_pos g1
      rw [e1'] at hx
      simp (disch := omega) only [s232_14, s232_15, s232_16, s232_19, s232_20, s232_23, s232_24, s232_27, s232_28, s232_31, s232_32, s232_33, zcs_0, zcs_1, zcs_2, zcs_3, zcs_4, zcs_5, zcs_6, zcs_7, znl_i, znl_r, znl_n, Bool.and_true, Bool.true_and, zk_v, zk_n, zk_x, zir_r, zir_n, zclr_i, zclr_r, zclr_n, zclr_d, zclr_l, true_and, and_true, and_self, if_true, if_false, reduceIte, nI_add, pk_mul, zin_ok, zx_nI, nI_lt2, nI_le2, nI_eq2, nI_l0, nI_g0, nI_q0, nI_p0, nI_n0, nI_m1, Nat.add_zero, Nat.zero_add, Nat.reduceAdd, Nat.reduceMul, true_or, or_true, znar_50, bI_0, bI_1, bI_z, bft, nI_z0, nI_z1, lgc_lt, lgc_gt, lgc_le, lgc_ge, lgc_eq, not_true_eq_false, not_false_eq_true, Bool.not_eq_true, Bool.not_eq_false, reduceCtorEq, eq_self, nI_e0, nI_e1, i10, i01, decide_false, decide_true, Bool.false_eq_true, cls_cP, fr_cP, len_cP, ls_cP, n_cP, ia_cP, r0, cP_9, cP_11, q2, vq, err]
      exact hx
    · have e : yK2 b sz (G 0) S = (yK1 b sz (G 0) S).1 := by
        unfold yK2
        rw [if_neg (fun q => q3 q.2.2)]
      have vq : ¬ yVc (yK1 b sz (G 0) S).1 = (yK1 b sz (G 0) S).2 := by omega
      have vb : yVc (yK1 b sz (G 0) S).1 < 2000 := by omega
      have sec := fun x2 => sec x2 (by rw [e]; exact g1)
      rw [e] at sec
      simp (disch := omega) only [s232_14, s232_15, s232_16, s232_19, s232_20, s232_23, s232_24, s232_27, s232_28, zcs_0, zcs_1, zcs_2, zcs_3, zcs_4, zcs_5, zcs_6, zcs_7, znl_i, znl_r, znl_n, Bool.and_true, Bool.true_and, zk_v, zk_n, zk_x, zir_r, zir_n, zclr_i, zclr_r, zclr_n, zclr_d, zclr_l, true_and, and_true, and_self, if_true, if_false, reduceIte, nI_add, pk_mul, zin_ok, zx_nI, nI_lt2, nI_le2, nI_eq2, nI_l0, nI_g0, nI_q0, nI_p0, nI_n0, nI_m1, Nat.add_zero, Nat.zero_add, Nat.reduceAdd, Nat.reduceMul, true_or, or_true, znar_50, bI_0, bI_1, bI_z, bft, nI_z0, nI_z1, lgc_lt, lgc_gt, lgc_le, lgc_ge, lgc_eq, not_true_eq_false, not_false_eq_true, Bool.not_eq_true, Bool.not_eq_false, reduceCtorEq, eq_self, nI_e0, nI_e1, i10, i01, decide_false, decide_true, Bool.false_eq_true, cls_cP, fr_cP, len_cP, ls_cP, n_cP, ia_cP, r0, cP_9, cP_11, q2, vq]
      exact sec _
  · have e : yK2 b sz (G 0) S = (yK1 b sz (G 0) S).1 := by
      unfold yK2
      rw [if_neg (fun q => q2 q.2.1)]
    have sec := fun x2 => sec x2 (by rw [e]; exact g1)
    rw [e] at sec
    simp (disch := omega) only [s232_14, s232_15, s232_16, s232_19, s232_20, zcs_0, zcs_1, zcs_2, zcs_3, zcs_4, zcs_5, zcs_6, zcs_7, znl_i, znl_r, znl_n, Bool.and_true, Bool.true_and, zk_v, zk_n, zk_x, zir_r, zir_n, zclr_i, zclr_r, zclr_n, zclr_d, zclr_l, true_and, and_true, and_self, if_true, if_false, reduceIte, nI_add, pk_mul, zin_ok, zx_nI, nI_lt2, nI_le2, nI_eq2, nI_l0, nI_g0, nI_q0, nI_p0, nI_n0, nI_m1, Nat.add_zero, Nat.zero_add, Nat.reduceAdd, Nat.reduceMul, true_or, or_true, znar_50, bI_0, bI_1, bI_z, bft, nI_z0, nI_z1, lgc_lt, lgc_gt, lgc_le, lgc_ge, lgc_eq, not_true_eq_false, not_false_eq_true, Bool.not_eq_true, Bool.not_eq_false, reduceCtorEq, eq_self, nI_e0, nI_e1, i10, i01, decide_false, decide_true, Bool.false_eq_true, cls_cP, fr_cP, len_cP, ls_cP, n_cP, ia_cP, r0, cP_9, q2]
    exact sec _
end CK
