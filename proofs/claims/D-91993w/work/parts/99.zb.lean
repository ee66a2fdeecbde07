set_option maxRecDepth 100000
/-! the component: the best set, the row -/
section BE
variable {d : Nat} {B : Nat → Prop} {z : ZH} {Q : ZQ} {v : Nat → Nat} {L : Nat → List (Nat × Nat)} {t hl kn rl : Nat} {ha ra da ea : Nat → Nat} {K : Nat}
variable {a dy n : Nat} {hs : Nat → Nat}
theorem aL_sfi {z2 : ZH} (h : aL z2 ha a dy hs n) {j : Nat} (hj : 6 ≤ j ∧ j ≤ 8) (x : Int32) : aL (sfi z2 122 j x) ha a dy hs n := ⟨by rw [fi_sfi, zu2_k _ _ _ _ (by omega)]; exact h.1, by rw [fi_sfi, zu2_k _ _ _ _ (by omega)]; exact h.2.1, by rw [fi_sfi, zu2_k _ _ _ _ (by omega)]; exact h.2.2.1, h.2.2.2.1, h.2.2.2.2⟩
theorem c102 (h : NW B z v L t hl kn rl ha ra da ea) (nB : ∀ q, B q → ¬ (122 ≤ q ∧ q ≤ 130)) (hA : aL z ha a dy hs n) (hO : lOK v hs n) (hi : ∀ i j, i < j → j < n → hs i < hs j) (w4 : ∀ h, sWorth v (nI a) (nI h) (v 7) ≤ 4000) (hE : ∀ S l, S < 2 ^ n → l < n → zia z 124 (10 * S + l) = nI (eE n (rA v (rdC v a) dy hs) (rD v hs) (fun q => 0 + dD v a (hs q)) S l))
    (H : ∀ z2, cFr z z2 → aL z2 ha a dy hs n → zfi z2 122 6 = nI (bSt v (nI a) (rdC v a) dy hs n a (2 ^ n)).1 → zfi z2 122 7 = nI (bSt v (nI a) (rdC v a) dy hs n a (2 ^ n)).2.1 → zfi z2 122 8 = nI (bSt v (nI a) (rdC v a) dy hs n a (2 ^ n)).2.2 → Q (.inl none) z2) : ZC zG (d + 2) 102 [.ref 122] z Q := by
  have h16 : v 0 ≤ 16 := h.2.2.1.2.2.2.1.2
  have hn10 := hO.1
  obtain ⟨hN, hN0⟩ := pow10 hO.1
  have key := zl_inv (P := fun S (w : ZH × Value × Value × Value) => ZW zG (d + 2) 102 17 [.ref 122, .int (nI S), w.2.1, w.2.2.1, w.2.2.2] [] w.1 Q) (I := fun S w => 1 ≤ S ∧ cFr z w.1 ∧ aL w.1 ha a dy hs n ∧ zia w.1 124 = zia z 124 ∧ zfi w.1 122 6 = nI (bSt v (nI a) (rdC v a) dy hs n a S).1 ∧ zfi w.1 122 7 = nI (bSt v (nI a) (rdC v a) dy hs n a S).2.1 ∧ zfi w.1 122 8 = nI (bSt v (nI a) (rdC v a) dy hs n a S).2.2) (2 ^ n) (by
    rintro ⟨z3, x1, x2, x3⟩ ⟨i0, i1, i2, i4, i5, i6, i7⟩
    dsimp only at i1 i2 i4 i5 i6 i7
    have j0 := (NW_cFr h nB i1).1
    unfold CS at j0
    have j4 := i2.1
    refine Eq.mpr s102_17 ?_
    simp (disch := omega) only [s102_0, s102_1, s102_2, s102_5, s102_6, s102_7, s102_10, s102_11, s102_12, s102_15, s102_16, s102_18, s102_19, s102_20, s102_23, s102_24, s102_27, s102_28, s102_29, s102_32, s102_33, s102_34, s102_36, s102_39, s102_42, s102_43, s102_44, s102_47, s102_48, s102_49, s102_50, s102_53, s102_56, s102_57, s102_58, s102_61, s102_64, s102_65, s102_66, s102_69, s102_72, s102_73, s102_74, s102_77, s102_80, s102_81, s102_82, s102_85, s102_86, s102_87, s102_90, s102_93, s102_96, s102_97, s102_100, s102_101, s102_103, s102_105, s102_108, s102_111, s102_112, s102_113, s102_116, s102_117, s102_118, s102_121, s102_122, s102_123, s102_126, s102_129, s102_132, zcs_0, zcs_1, zcs_2, zcs_3, zcs_4, zcs_5, zcs_6, zcs_7, znl_i, znl_r, znl_n, Bool.and_true, Bool.true_and, zk_v, zk_n, zk_x, zir_r, zir_n, zclr_i, zclr_r, zclr_n, zclr_d, zclr_l, true_and, and_true, and_self, if_true, if_false, reduceIte, nI_add, pk_mul, zin_ok, zx_nI, nI_lt2, nI_le2, nI_eq2, nI_l0, nI_g0, nI_q0, nI_p0, nI_n0, nI_m1, Nat.add_zero, Nat.zero_add, Nat.reduceAdd, Nat.reduceMul, true_or, or_true, znar_50, bI_0, bI_1, bI_z, bft, nI_z0, nI_z1, lgc_lt, lgc_gt, lgc_le, lgc_ge, lgc_eq, not_true_eq_false, not_false_eq_true, Bool.not_eq_true, Bool.not_eq_false, reduceCtorEq, j0, j4, nI_sh1, Nat.le_refl]
    exact H z3 i1 i2 i5 i6 i7) (by
    rintro S ⟨z3, x1, x2, x3⟩ hS ⟨i0, i1, i2, i4, i5, i6, i7⟩ hnext
    dsimp only at i1 i2 i4 i5 i6 i7
    have hN3 := NW_cFr h nB i1
    have j0 := hN3.1
    unfold CS at j0
    have j4 := i2.1
    have g1 : ¬ 2 ^ n ≤ S := by omega
    have co := fun d Q => c103 (d := d) (Q := Q) hN3 j4 hn10 hS (show ¬ S = 0 by omega) (fun l hl => by rw [i4]; exact hE S l hS hl) (fun l _ => eE_F rA_OK)
    have hgg : minN (eE n (rA v (rdC v a) dy hs) (rD v hs) (fun q => 0 + dD v a (hs q)) S) n = gG n (rA v (rdC v a) dy hs) (rD v hs) (fun q => 0 + dD v a (hs q)) S := rfl
    rw [hgg] at co
    have cw := fun d Q => c104 (d := d) (Q := Q) hN3 i2 hO hS
    have cb := fun d Q S hS => c105 (d := d) (Q := Q) (S := S) hN3 i2 hn10 hi (fun k hk => by have := hO.2 k hk; omega) hS
    have hst : bSt v (nI a) (rdC v a) dy hs n a (S + 1) = if gG n (rA v (rdC v a) dy hs) (rD v hs) (fun q => 0 + dD v a (hs q)) S < 100000 ∧ ((bSt v (nI a) (rdC v a) dy hs n a S).2.2 < wSet v (nI a) hs S n ∨ (wSet v (nI a) hs S n = (bSt v (nI a) (rdC v a) dy hs n a S).2.2 ∧ gG n (rA v (rdC v a) dy hs) (rD v hs) (fun q => 0 + dD v a (hs q)) S < (bSt v (nI a) (rdC v a) dy hs n a S).2.1)) then (S, gG n (rA v (rdC v a) dy hs) (rD v hs) (fun q => 0 + dD v a (hs q)) S, wSet v (nI a) hs S n) else bSt v (nI a) (rdC v a) dy hs n a S := rfl
    have hb4 := bSt_w (c := rdC v a) (dy := dy) (hs := hs) (n := n) (p := a) w4 S
    have hbo := (bSt_gP (v := v) (a := nI a) (c := rdC v a) (dy := dy) (hs := hs) (n := n) (p := a) (S := S)).2
    have hbm : (bSt v (nI a) (rdC v a) dy hs n a S).1 < S := by
      rcases bSt_ok (v := v) (a := nI a) (c := rdC v a) (dy := dy) (hs := hs) (n := n) (p := a) S with ⟨q, _⟩ | ⟨q, _⟩ <;> omega
    have hw4 := wSet_le (hs := hs) w4 (S := S) n
    have hg := gG_le (n := n) (A := rA v (rdC v a) dy hs) (D := rD v hs) (st := fun q => 0 + dD v a (hs q)) (S := S)
    have hbits := bitsN_mono n hi (bSt v (nI a) (rdC v a) dy hs n a S).1 S hbm hS
    have cbS := fun d Q => cb d Q S hS
    have cbM := fun d Q => cb d Q (bSt v (nI a) (rdC v a) dy hs n a S).1 (by omega)
    have hb16 := bitsN_lt (hs := hs) (S := S) n hi 16 (fun k hk => by have := hO.2 k hk; omega)
    generalize gG n (rA v (rdC v a) dy hs) (rD v hs) (fun q => 0 + dD v a (hs q)) S = g at co hst hg
    generalize bSt v (nI a) (rdC v a) dy hs n a S = b at hst i5 i6 i7 hb4 hbo hbm hbits cbM
    refine Eq.mpr s102_17 ?_
    by_cases c1 : g < 100000
    · have c1' : ¬ g = 100000 := by omega
      have fk : ∀ (x1 x2 x3 : Int32) j, zfi (sfi (sfi (sfi z3 122 6 x1) 122 7 x2) 122 8 x3) 122 j = if j = 8 then x3 else if j = 7 then x2 else if j = 6 then x1 else zfi z3 122 j := by
        intro x1 x2 x3 j
        rw [fi_sfi, fi_sfi, fi_sfi]
        unfold zu2
        simp
      have take : ∀ (x1 x2 x3 : Value), b.2.2 < wSet v (nI a) hs S n ∨ (wSet v (nI a) hs S n = b.2.2 ∧ g < b.2.1) → ZW zG (d + 2) 102 17 [.ref 122, .int (nI (S + 1)), x1, x2, x3] [] (sfi (sfi (sfi z3 122 6 (nI S)) 122 7 (nI g)) 122 8 (nI (wSet v (nI a) hs S n))) Q := by
        intro x1 x2 x3 hc
        rw [if_pos ⟨c1, hc⟩] at hst
        refine hnext (_, x1, x2, x3) ⟨by omega, cFr_sfi (cFr_sfi (cFr_sfi i1 _ _) _ _) _ _, aL_sfi (aL_sfi (aL_sfi i2 (by omega) _) (by omega) _) (by omega) _, i4, ?_, ?_, ?_⟩ <;> (rw [hst]; exact fk _ _ _ _)
      have skip : ∀ (x1 x2 x3 : Value), ¬ (b.2.2 < wSet v (nI a) hs S n ∨ (wSet v (nI a) hs S n = b.2.2 ∧ g < b.2.1)) → ZW zG (d + 2) 102 17 [.ref 122, .int (nI (S + 1)), x1, x2, x3] [] z3 Q := by
        intro x1 x2 x3 hc
        rw [if_neg (fun h => hc h.2)] at hst
        refine hnext (z3, x1, x2, x3) ⟨by omega, i1, i2, i4, ?_, ?_, ?_⟩ <;> (rw [hst]; assumption)
      generalize wSet v (nI a) hs S n = w at take skip hw4 cw
      have e5 : ¬ b.2.2 < b.2.2 := Nat.lt_irrefl _
      by_cases e1 : b.2.2 < w
      · simp (disch := omega) only [s102_0, s102_1, s102_2, s102_5, s102_6, s102_7, s102_10, s102_11, s102_12, s102_15, s102_16, s102_18, s102_19, s102_20, s102_23, s102_24, s102_27, s102_28, s102_29, s102_32, s102_33, s102_34, s102_36, s102_39, s102_42, s102_43, s102_44, s102_47, s102_48, s102_49, s102_50, s102_53, s102_56, s102_57, s102_58, s102_61, s102_64, s102_65, s102_66, s102_69, s102_72, s102_73, s102_74, s102_77, s102_80, s102_81, s102_82, s102_85, s102_86, s102_87, s102_90, s102_93, s102_96, s102_97, s102_100, s102_101, s102_103, s102_105, s102_108, s102_111, s102_112, s102_113, s102_116, s102_117, s102_118, s102_121, s102_122, s102_123, s102_126, s102_129, s102_132, zcs_0, zcs_1, zcs_2, zcs_3, zcs_4, zcs_5, zcs_6, zcs_7, znl_i, znl_r, znl_n, Bool.and_true, Bool.true_and, zk_v, zk_n, zk_x, zir_r, zir_n, zclr_i, zclr_r, zclr_n, zclr_d, zclr_l, true_and, and_true, and_self, if_true, if_false, reduceIte, nI_add, pk_mul, zin_ok, zx_nI, nI_lt2, nI_le2, nI_eq2, nI_l0, nI_g0, nI_q0, nI_p0, nI_n0, nI_m1, Nat.add_zero, Nat.zero_add, Nat.reduceAdd, Nat.reduceMul, true_or, or_true, znar_50, bI_0, bI_1, bI_z, bft, nI_z0, nI_z1, lgc_lt, lgc_gt, lgc_le, lgc_ge, lgc_eq, not_true_eq_false, not_false_eq_true, Bool.not_eq_true, Bool.not_eq_false, reduceCtorEq, j0, j4, nI_sh1, g1, co, c1', cw, i5, i6, i7, e1, cls_sfi, fi_sfi, fr_sfi, ia_sfi, la_sfi, ra_sfi, len_sfi, ls_sfi, own_sfi, n_sfi, uc_sfi, us_sfi]
        exact take _ _ _ (by omega)
      · by_cases e2 : w = b.2.2
        · subst e2
          by_cases e3 : g < b.2.1
          · simp (disch := omega) only [s102_0, s102_1, s102_2, s102_5, s102_6, s102_7, s102_10, s102_11, s102_12, s102_15, s102_16, s102_18, s102_19, s102_20, s102_23, s102_24, s102_27, s102_28, s102_29, s102_32, s102_33, s102_34, s102_36, s102_39, s102_42, s102_43, s102_44, s102_47, s102_48, s102_49, s102_50, s102_53, s102_56, s102_57, s102_58, s102_61, s102_64, s102_65, s102_66, s102_69, s102_72, s102_73, s102_74, s102_77, s102_80, s102_81, s102_82, s102_85, s102_86, s102_87, s102_90, s102_93, s102_96, s102_97, s102_100, s102_101, s102_103, s102_105, s102_108, s102_111, s102_112, s102_113, s102_116, s102_117, s102_118, s102_121, s102_122, s102_123, s102_126, s102_129, s102_132, zcs_0, zcs_1, zcs_2, zcs_3, zcs_4, zcs_5, zcs_6, zcs_7, znl_i, znl_r, znl_n, Bool.and_true, Bool.true_and, zk_v, zk_n, zk_x, zir_r, zir_n, zclr_i, zclr_r, zclr_n, zclr_d, zclr_l, true_and, and_true, and_self, if_true, if_false, reduceIte, nI_add, pk_mul, zin_ok, zx_nI, nI_lt2, nI_le2, nI_eq2, nI_l0, nI_g0, nI_q0, nI_p0, nI_n0, nI_m1, Nat.add_zero, Nat.zero_add, Nat.reduceAdd, Nat.reduceMul, true_or, or_true, znar_50, bI_0, bI_1, bI_z, bft, nI_z0, nI_z1, lgc_lt, lgc_gt, lgc_le, lgc_ge, lgc_eq, not_true_eq_false, not_false_eq_true, Bool.not_eq_true, Bool.not_eq_false, reduceCtorEq, j0, j4, nI_sh1, g1, co, c1', cw, i5, i6, i7, e3, e5, eq_self, cls_sfi, fi_sfi, fr_sfi, ia_sfi, la_sfi, ra_sfi, len_sfi, ls_sfi, own_sfi, n_sfi, uc_sfi, us_sfi]
            exact take _ _ _ (by omega)
          · by_cases e4 : g = b.2.1
            · have e6 : bitsN hs b.1 n ≤ bitsN hs S n := by omega
              have e7 : ¬ b.2.1 < b.2.1 := Nat.lt_irrefl _
              subst e4
              simp (disch := omega) only [s102_0, s102_1, s102_2, s102_5, s102_6, s102_7, s102_10, s102_11, s102_12, s102_15, s102_16, s102_18, s102_19, s102_20, s102_23, s102_24, s102_27, s102_28, s102_29, s102_32, s102_33, s102_34, s102_36, s102_39, s102_42, s102_43, s102_44, s102_47, s102_48, s102_49, s102_50, s102_53, s102_56, s102_57, s102_58, s102_61, s102_64, s102_65, s102_66, s102_69, s102_72, s102_73, s102_74, s102_77, s102_80, s102_81, s102_82, s102_85, s102_86, s102_87, s102_90, s102_93, s102_96, s102_97, s102_100, s102_101, s102_103, s102_105, s102_108, s102_111, s102_112, s102_113, s102_116, s102_117, s102_118, s102_121, s102_122, s102_123, s102_126, s102_129, s102_132, zcs_0, zcs_1, zcs_2, zcs_3, zcs_4, zcs_5, zcs_6, zcs_7, znl_i, znl_r, znl_n, Bool.and_true, Bool.true_and, zk_v, zk_n, zk_x, zir_r, zir_n, zclr_i, zclr_r, zclr_n, zclr_d, zclr_l, true_and, and_true, and_self, if_true, if_false, reduceIte, nI_add, pk_mul, zin_ok, zx_nI, nI_lt2, nI_le2, nI_eq2, nI_l0, nI_g0, nI_q0, nI_p0, nI_n0, nI_m1, Nat.add_zero, Nat.zero_add, Nat.reduceAdd, Nat.reduceMul, true_or, or_true, znar_50, bI_0, bI_1, bI_z, bft, nI_z0, nI_z1, lgc_lt, lgc_gt, lgc_le, lgc_ge, lgc_eq, not_true_eq_false, not_false_eq_true, Bool.not_eq_true, Bool.not_eq_false, reduceCtorEq, j0, j4, nI_sh1, g1, co, c1', cw, i5, i6, i7, e5, e7, eq_self, cbS, cbM, e6]
              exact skip _ _ _ (by omega)
            · simp (disch := omega) only [s102_0, s102_1, s102_2, s102_5, s102_6, s102_7, s102_10, s102_11, s102_12, s102_15, s102_16, s102_18, s102_19, s102_20, s102_23, s102_24, s102_27, s102_28, s102_29, s102_32, s102_33, s102_34, s102_36, s102_39, s102_42, s102_43, s102_44, s102_47, s102_48, s102_49, s102_50, s102_53, s102_56, s102_57, s102_58, s102_61, s102_64, s102_65, s102_66, s102_69, s102_72, s102_73, s102_74, s102_77, s102_80, s102_81, s102_82, s102_85, s102_86, s102_87, s102_90, s102_93, s102_96, s102_97, s102_100, s102_101, s102_103, s102_105, s102_108, s102_111, s102_112, s102_113, s102_116, s102_117, s102_118, s102_121, s102_122, s102_123, s102_126, s102_129, s102_132, zcs_0, zcs_1, zcs_2, zcs_3, zcs_4, zcs_5, zcs_6, zcs_7, znl_i, znl_r, znl_n, Bool.and_true, Bool.true_and, zk_v, zk_n, zk_x, zir_r, zir_n, zclr_i, zclr_r, zclr_n, zclr_d, zclr_l, true_and, and_true, and_self, if_true, if_false, reduceIte, nI_add, pk_mul, zin_ok, zx_nI, nI_lt2, nI_le2, nI_eq2, nI_l0, nI_g0, nI_q0, nI_p0, nI_n0, nI_m1, Nat.add_zero, Nat.zero_add, Nat.reduceAdd, Nat.reduceMul, true_or, or_true, znar_50, bI_0, bI_1, bI_z, bft, nI_z0, nI_z1, lgc_lt, lgc_gt, lgc_le, lgc_ge, lgc_eq, not_true_eq_false, not_false_eq_true, Bool.not_eq_true, Bool.not_eq_false, reduceCtorEq, j0, j4, nI_sh1, g1, co, c1', cw, i5, i6, i7, e3, e4, e5, eq_self]
              exact skip _ _ _ (by omega)
        · simp (disch := omega) only [s102_0, s102_1, s102_2, s102_5, s102_6, s102_7, s102_10, s102_11, s102_12, s102_15, s102_16, s102_18, s102_19, s102_20, s102_23, s102_24, s102_27, s102_28, s102_29, s102_32, s102_33, s102_34, s102_36, s102_39, s102_42, s102_43, s102_44, s102_47, s102_48, s102_49, s102_50, s102_53, s102_56, s102_57, s102_58, s102_61, s102_64, s102_65, s102_66, s102_69, s102_72, s102_73, s102_74, s102_77, s102_80, s102_81, s102_82, s102_85, s102_86, s102_87, s102_90, s102_93, s102_96, s102_97, s102_100, s102_101, s102_103, s102_105, s102_108, s102_111, s102_112, s102_113, s102_116, s102_117, s102_118, s102_121, s102_122, s102_123, s102_126, s102_129, s102_132, zcs_0, zcs_1, zcs_2, zcs_3, zcs_4, zcs_5, zcs_6, zcs_7, znl_i, znl_r, znl_n, Bool.and_true, Bool.true_and, zk_v, zk_n, zk_x, zir_r, zir_n, zclr_i, zclr_r, zclr_n, zclr_d, zclr_l, true_and, and_true, and_self, if_true, if_false, reduceIte, nI_add, pk_mul, zin_ok, zx_nI, nI_lt2, nI_le2, nI_eq2, nI_l0, nI_g0, nI_q0, nI_p0, nI_n0, nI_m1, Nat.add_zero, Nat.zero_add, Nat.reduceAdd, Nat.reduceMul, true_or, or_true, znar_50, bI_0, bI_1, bI_z, bft, nI_z0, nI_z1, lgc_lt, lgc_gt, lgc_le, lgc_ge, lgc_eq, not_true_eq_false, not_false_eq_true, Bool.not_eq_true, Bool.not_eq_false, reduceCtorEq, j0, j4, nI_sh1, g1, co, c1', cw, i5, i6, i7, e1, e2]
          exact skip _ _ _ (by omega)
    · have c1' : g = 100000 := by omega
      rw [if_neg (fun h => c1 h.1)] at hst
      simp (disch := omega) only [s102_0, s102_1, s102_2, s102_5, s102_6, s102_7, s102_10, s102_11, s102_12, s102_15, s102_16, s102_18, s102_19, s102_20, s102_23, s102_24, s102_27, s102_28, s102_29, s102_32, s102_33, s102_34, s102_36, s102_39, s102_42, s102_43, s102_44, s102_47, s102_48, s102_49, s102_50, s102_53, s102_56, s102_57, s102_58, s102_61, s102_64, s102_65, s102_66, s102_69, s102_72, s102_73, s102_74, s102_77, s102_80, s102_81, s102_82, s102_85, s102_86, s102_87, s102_90, s102_93, s102_96, s102_97, s102_100, s102_101, s102_103, s102_105, s102_108, s102_111, s102_112, s102_113, s102_116, s102_117, s102_118, s102_121, s102_122, s102_123, s102_126, s102_129, s102_132, zcs_0, zcs_1, zcs_2, zcs_3, zcs_4, zcs_5, zcs_6, zcs_7, znl_i, znl_r, znl_n, Bool.and_true, Bool.true_and, zk_v, zk_n, zk_x, zir_r, zir_n, zclr_i, zclr_r, zclr_n, zclr_d, zclr_l, true_and, and_true, and_self, if_true, if_false, reduceIte, nI_add, pk_mul, zin_ok, zx_nI, nI_lt2, nI_le2, nI_eq2, nI_l0, nI_g0, nI_q0, nI_p0, nI_n0, nI_m1, Nat.add_zero, Nat.zero_add, Nat.reduceAdd, Nat.reduceMul, true_or, or_true, znar_50, bI_0, bI_1, bI_z, bft, nI_z0, nI_z1, lgc_lt, lgc_gt, lgc_le, lgc_ge, lgc_eq, not_true_eq_false, not_false_eq_true, Bool.not_eq_true, Bool.not_eq_false, reduceCtorEq, j0, j4, nI_sh1, g1, co, c1', eq_self]
      refine hnext (z3, _, _, _) ⟨by omega, i1, i2, i4, ?_, ?_, ?_⟩ <;> (rw [hst]; assumption))
  have b1 := bSt_1 (v := v) (a := nI a) (c := rdC v a) (dy := dy) (hs := hs) (n := n) (p := a)
  have h0 := h.1
  unfold CS at h0
  have fk : ∀ (x1 x2 x3 : Int32) j, zfi (sfi (sfi (sfi z 122 6 x1) 122 7 x2) 122 8 x3) 122 j = if j = 8 then x3 else if j = 7 then x2 else if j = 6 then x1 else zfi z 122 j := by
    intro x1 x2 x3 j
    rw [fi_sfi, fi_sfi, fi_sfi]
    unfold zu2
    simp
  have e := key 1 (sfi (sfi (sfi z 122 6 (nI 0)) 122 7 (nI 0)) 122 8 (nI 0), zdum, zdum, zdum) (by omega) ⟨Nat.le_refl _, cFr_sfi (cFr_sfi (cFr_sfi (cFr_refl z) _ _) _ _) _ _, aL_sfi (aL_sfi (aL_sfi hA (by omega) _) (by omega) _) (by omega) _, rfl, by rw [b1]; exact fk _ _ _ _, by rw [b1]; exact fk _ _ _ _, by rw [b1]; exact fk _ _ _ _⟩
  simp (disch := omega) only [e102, s102_0, s102_1, s102_2, s102_5, s102_6, s102_7, s102_10, s102_11, s102_12, s102_15, s102_16, s102_18, s102_19, s102_20, s102_23, s102_24, s102_27, s102_28, s102_29, s102_32, s102_33, s102_34, s102_36, s102_39, s102_42, s102_43, s102_44, s102_47, s102_48, s102_49, s102_50, s102_53, s102_56, s102_57, s102_58, s102_61, s102_64, s102_65, s102_66, s102_69, s102_72, s102_73, s102_74, s102_77, s102_80, s102_81, s102_82, s102_85, s102_86, s102_87, s102_90, s102_93, s102_96, s102_97, s102_100, s102_101, s102_103, s102_105, s102_108, s102_111, s102_112, s102_113, s102_116, s102_117, s102_118, s102_121, s102_122, s102_123, s102_126, s102_129, s102_132, zcs_0, zcs_1, zcs_2, zcs_3, zcs_4, zcs_5, zcs_6, zcs_7, znl_i, znl_r, znl_n, Bool.and_true, Bool.true_and, zk_v, zk_n, zk_x, zir_r, zir_n, zclr_i, zclr_r, zclr_n, zclr_d, zclr_l, true_and, and_true, and_self, if_true, if_false, reduceIte, nI_add, pk_mul, zin_ok, zx_nI, nI_lt2, nI_le2, nI_eq2, nI_l0, nI_g0, nI_q0, nI_p0, nI_n0, nI_m1, Nat.add_zero, Nat.zero_add, Nat.reduceAdd, Nat.reduceMul, true_or, or_true, znar_50, bI_0, bI_1, bI_z, bft, nI_z0, nI_z1, lgc_lt, lgc_gt, lgc_le, lgc_ge, lgc_eq, not_true_eq_false, not_false_eq_true, Bool.not_eq_true, Bool.not_eq_false, reduceCtorEq, h0, cls_sfi, fi_sfi, fr_sfi, ia_sfi, la_sfi, ra_sfi, len_sfi, ls_sfi, own_sfi, n_sfi, uc_sfi, us_sfi]
  exact e
/-- the latest minutes, from the set s on -/
def lateI (v : Nat → Nat) (c : Nat → Bool) (dy : Nat) (hs : Nat → Nat) (n A bo s : Nat) (f : Nat → Int32) : Prop := ∀ S, s ≤ S → S < 2 ^ n → 0 < S → S &&& A = S → ∀ k, k < n → ∃ x : Int, (-1 ≤ x ∧ x ≤ 180) ∧ f (10 * S + k) = iI x ∧ ∀ u : Nat, (u : Int) ≤ x ↔ gP v c dy hs n (hs k) u (A ^^^ S) ≤ bo
theorem xor_sub {A S j : Nat} (h1 : A.testBit j = true) (h2 : S.testBit j = false) : A ^^^ (S ||| 2 ^ j) = (A ^^^ S) - 2 ^ j := by
  have hb : (A ^^^ S).testBit j = true := by rw [Nat.testBit_xor, h1, h2]; rfl
  apply Nat.eq_of_testBit_eq
  intro i
  rw [tb_sub hb, Nat.testBit_xor, Nat.testBit_or, Nat.testBit_xor, Nat.testBit_two_pow]
  by_cases c : i = j
  · subst c; rw [h1, h2]; simp
  · have c2 : ¬ j = i := fun q => c q.symm
    simp [c, c2]
theorem sub_or {A S j : Nat} (h1 : A.testBit j = true) (h2 : S &&& A = S) : (S ||| 2 ^ j) &&& A = S ||| 2 ^ j := by
  apply Nat.eq_of_testBit_eq
  intro i
  have k : (S &&& A).testBit i = S.testBit i := by rw [h2]
  rw [Nat.testBit_and] at k
  rw [Nat.testBit_and, Nat.testBit_or, Nat.testBit_two_pow]
  by_cases c : j = i
  · subst c; simp [h1]
  · simp [c, k]
theorem sbs_tb {A S i : Nat} (h : S &&& A = S) (hi : S.testBit i = true) : A.testBit i = true := by
  have k : (S &&& A).testBit i = S.testBit i := by rw [h]
  rw [Nat.testBit_and, hi] at k
  simpa using k
/-- over the next one -/
theorem c106j (h : NW B z v L t hl kn rl ha ra da ea) (nB : ∀ q, B q → ¬ (122 ≤ q ∧ q ≤ 130)) (hT : wT v) (hv : ∀ i, v i < 1073741824) (hWD : wD v) (hA : aL z ha a dy hs n) (hO : lOK v hs n) (hdy : dy < 1000) {A bo : Nat} (hAn : A < 2 ^ n) (hbo : bo ≤ 180) {s k : Nat} {f : Nat → Int32} (hf : lateI v (rdC v a) dy hs n A bo (s + 1) f) (hs0 : 0 < s) (hs2 : s < 2 ^ n) (hsA : s &&& A = s) (hk : k < n)
    (hend : ∀ x : Int, -1 ≤ x → x ≤ 180 → (∀ u : Nat, (u : Int) ≤ x ↔ gP v (rdC v a) dy hs n (hs k) u (A ^^^ s) ≤ bo) → ZW zG (d + 3) 106 31 [.ref 122, .int (nI A), .int (nI s), .int (nI (k + 1)), .int (iI x), .int (nI n), zdum, zdum, zdum] [] (sIA z 125 (zu1 f (10 * s + k) (iI x))) Q) :
    ∀ j (x : Int), j ≤ n → ((-1 ≤ x ∧ x ≤ 180) ∧ (∀ u : Nat, (u : Int) ≤ x ↔ (s = A ∧ u ≤ bo) ∨ ∃ i, i < j ∧ (A.testBit i = true ∧ s.testBit i = false) ∧ gP v (rdC v a) dy hs n (hs i) (rA v (rdC v a) dy hs i (u + dD v (hs k) (hs i))) ((A ^^^ s) - 2 ^ i) ≤ bo)) → ZW zG (d + 3) 106 57 [.ref 122, .int (nI A), .int (nI s), .int (nI k), .int (iI x), .int (nI j), zdum, zdum, zdum] [] (sIA z 125 f) Q := by
  have hn10 := hO.1
  obtain ⟨hN, hN0⟩ := pow10 hO.1
  have hr : 123 ≤ 125 ∧ 125 ≤ 130 ∧ ¬ 125 = 127 := by omega
  have hN2 := NW_cFr h nB (cFr_sIA (cFr_refl z) hr f)
  have hA2 := aL_124 hA (show ¬ 125 = 123 by omega) f
  have c0 := hN2.1
  unfold CS at c0
  have a4 := hA2.1
  refine zl_inv n ?_ ?_
  · rintro x ⟨⟨x1, x2⟩, x3⟩
    refine Eq.mpr s106_57 ?_
    simp (disch := omega) only [s106_0, s106_1, s106_4, s106_5, s106_6, s106_7, s106_10, s106_11, s106_12, s106_13, s106_15, s106_18, s106_19, s106_20, s106_21, s106_22, s106_23, s106_26, s106_29, s106_30, s106_32, s106_33, s106_36, s106_39, s106_40, s106_41, s106_44, s106_45, s106_48, s106_51, s106_52, s106_54, s106_55, s106_59, s106_60, s106_63, s106_66, s106_67, s106_69, s106_72, s106_75, s106_76, s106_78, s106_81, s106_84, s106_85, s106_88, s106_90, s106_91, s106_92, s106_94, s106_95, s106_96, s106_97, s106_99, s106_100, s106_101, s106_104, s106_107, s106_109, s106_110, s106_111, s106_114, s106_116, s106_117, s106_118, s106_120, s106_121, s106_122, s106_123, s106_125, s106_126, s106_127, s106_128, s106_129, s106_132, s106_133, s106_135, s106_138, s106_141, s106_142, s106_145, s106_147, s106_148, s106_151, s106_154, s106_156, s106_159, s106_162, s106_163, s106_166, s106_168, s106_169, s106_170, s106_171, s106_172, s106_174, s106_175, s106_178, s106_181, s106_184, s106_187, s106_188, s106_189, s106_190, s106_191, s106_192, s106_194, s106_195, s106_198, s106_199, s106_202, s106_203, s106_205, s106_207, s106_209, s106_210, s106_214, s106_217, s106_218, s106_220, s106_223, s106_226, s106_227, s106_229, s106_232, s106_235, s106_238, s106_239, s106_240, s106_242, s106_243, s106_246, s106_247, s106_250, s106_251, s106_253, s106_256, s106_259, s106_262, s106_263, s106_265, s106_268, s106_269, s106_271, s106_274, s106_277, s106_278, s106_281, s106_283, s106_284, s106_287, s106_289, s106_291, s106_292, s106_295, s106_297, s106_298, s106_299, s106_301, s106_302, s106_303, s106_304, s106_306, s106_307, s106_308, s106_311, s106_312, s106_315, s106_316, s106_318, s106_321, s106_324, s106_326, s106_327, s106_328, s106_330, s106_331, s106_334, s106_336, s106_337, s106_340, s106_342, s106_343, s106_344, s106_345, s106_346, s106_348, s106_349, s106_350, s106_351, s106_353, s106_354, s106_357, s106_360, zcs_0, zcs_1, zcs_2, zcs_3, zcs_4, zcs_5, zcs_6, zcs_7, znl_i, znl_r, znl_n, Bool.and_true, Bool.true_and, zk_v, zk_n, zk_x, zir_r, zir_n, zclr_i, zclr_r, zclr_n, zclr_d, zclr_l, true_and, and_true, and_self, if_true, if_false, reduceIte, nI_add, pk_mul, zin_ok, zx_nI, nI_lt2, nI_le2, nI_eq2, nI_l0, nI_g0, nI_q0, nI_p0, nI_n0, nI_m1, Nat.add_zero, Nat.zero_add, Nat.reduceAdd, Nat.reduceMul, true_or, or_true, znar_50, bI_0, bI_1, bI_z, bft, nI_z0, nI_z1, lgc_lt, lgc_gt, lgc_le, lgc_ge, lgc_eq, not_true_eq_false, not_false_eq_true, Bool.not_eq_true, Bool.not_eq_false, reduceCtorEq, c0, a4, Nat.le_refl, sIA_sia]
    refine hend x x1 x2 (fun u => (x3 u).trans ?_)
    by_cases e : s = A
    · subst e
      rw [Nat.xor_self, gP_0]
      constructor
      · rintro (⟨_, q⟩ | ⟨i, _, ⟨q1, q2⟩, _⟩)
        · exact q
        · rw [q1] at q2; cases q2
      · exact fun q => Or.inl ⟨rfl, q⟩
    · have hR : ¬ A ^^^ s = 0 := by
        intro e2
        exact e (Nat.eq_of_testBit_eq (fun i => by
          have k : (A ^^^ s).testBit i = false := by rw [e2, Nat.zero_testBit]
          rw [Nat.testBit_xor] at k
          cases h1 : A.testBit i <;> cases h2 : s.testBit i <;> simp [h1, h2] at k ⊢))
      have hn2 : ∀ i, (A ^^^ s).testBit i = true → i < n := fun i hi => tb_lt (Nat.xor_lt_two_pow hAn hs2) hi
      rw [gP_first (by omega) hn2 hR]
      constructor
      · rintro (⟨q, _⟩ | ⟨i, i1, ⟨q1, q2⟩, i3⟩)
        · exact absurd q e
        · exact ⟨i, by rw [Nat.testBit_xor, q1, q2]; rfl, i3⟩
      · rintro ⟨i, i1, i3⟩
        refine Or.inr ⟨i, hn2 i i1, ?_, i3⟩
        rw [Nat.testBit_xor] at i1
        cases h1 : A.testBit i with
        | true => rw [h1] at i1; cases h2 : s.testBit i with
          | true => rw [h2] at i1; cases i1
          | false => exact ⟨rfl, rfl⟩
        | false =>
          rw [h1] at i1
          cases h2 : s.testBit i with
          | true => rw [sbs_tb hsA h2] at h1; cases h1
          | false => rw [h2] at i1; cases i1
  · rintro j x hj ⟨⟨x1, x2⟩, x3⟩ hnext
    have g1 : ¬ n ≤ j := by omega
    -- j adds nothing
    have idle : (∀ u : Nat, ¬ ((A.testBit j = true ∧ s.testBit j = false) ∧ gP v (rdC v a) dy hs n (hs j) (rA v (rdC v a) dy hs j (u + dD v (hs k) (hs j))) ((A ^^^ s) - 2 ^ j) ≤ bo)) → ZW zG (d + 3) 106 57 [.ref 122, .int (nI A), .int (nI s), .int (nI k), .int (iI x), .int (nI (j + 1)), zdum, zdum, zdum] [] (sIA z 125 f) Q := by
      intro hno
      refine hnext x ⟨⟨x1, x2⟩, fun u => (x3 u).trans ?_⟩
      constructor
      · rintro (q | ⟨i, i1, i2⟩)
        · exact Or.inl q
        · exact Or.inr ⟨i, by omega, i2⟩
      · rintro (q | ⟨i, i1, i2⟩)
        · exact Or.inl q
        · by_cases e : i = j
          · subst e; exact absurd i2 (hno u)
          · exact Or.inr ⟨i, by omega, i2⟩
    refine Eq.mpr s106_57 ?_
    cases hbA : A.testBit j with
    | false =>
      simp (disch := omega) only [s106_0, s106_1, s106_4, s106_5, s106_6, s106_7, s106_10, s106_11, s106_12, s106_13, s106_15, s106_18, s106_19, s106_20, s106_21, s106_22, s106_23, s106_26, s106_29, s106_30, s106_32, s106_33, s106_36, s106_39, s106_40, s106_41, s106_44, s106_45, s106_48, s106_51, s106_52, s106_54, s106_55, s106_59, s106_60, s106_63, s106_66, s106_67, s106_69, s106_72, s106_75, s106_76, s106_78, s106_81, s106_84, s106_85, s106_88, s106_90, s106_91, s106_92, s106_94, s106_95, s106_96, s106_97, s106_99, s106_100, s106_101, s106_104, s106_107, s106_109, s106_110, s106_111, s106_114, s106_116, s106_117, s106_118, s106_120, s106_121, s106_122, s106_123, s106_125, s106_126, s106_127, s106_128, s106_129, s106_132, s106_133, s106_135, s106_138, s106_141, s106_142, s106_145, s106_147, s106_148, s106_151, s106_154, s106_156, s106_159, s106_162, s106_163, s106_166, s106_168, s106_169, s106_170, s106_171, s106_172, s106_174, s106_175, s106_178, s106_181, s106_184, s106_187, s106_188, s106_189, s106_190, s106_191, s106_192, s106_194, s106_195, s106_198, s106_199, s106_202, s106_203, s106_205, s106_207, s106_209, s106_210, s106_214, s106_217, s106_218, s106_220, s106_223, s106_226, s106_227, s106_229, s106_232, s106_235, s106_238, s106_239, s106_240, s106_242, s106_243, s106_246, s106_247, s106_250, s106_251, s106_253, s106_256, s106_259, s106_262, s106_263, s106_265, s106_268, s106_269, s106_271, s106_274, s106_277, s106_278, s106_281, s106_283, s106_284, s106_287, s106_289, s106_291, s106_292, s106_295, s106_297, s106_298, s106_299, s106_301, s106_302, s106_303, s106_304, s106_306, s106_307, s106_308, s106_311, s106_312, s106_315, s106_316, s106_318, s106_321, s106_324, s106_326, s106_327, s106_328, s106_330, s106_331, s106_334, s106_336, s106_337, s106_340, s106_342, s106_343, s106_344, s106_345, s106_346, s106_348, s106_349, s106_350, s106_351, s106_353, s106_354, s106_357, s106_360, zcs_0, zcs_1, zcs_2, zcs_3, zcs_4, zcs_5, zcs_6, zcs_7, znl_i, znl_r, znl_n, Bool.and_true, Bool.true_and, zk_v, zk_n, zk_x, zir_r, zir_n, zclr_i, zclr_r, zclr_n, zclr_d, zclr_l, true_and, and_true, and_self, if_true, if_false, reduceIte, nI_add, pk_mul, zin_ok, zx_nI, nI_lt2, nI_le2, nI_eq2, nI_l0, nI_g0, nI_q0, nI_p0, nI_n0, nI_m1, Nat.add_zero, Nat.zero_add, Nat.reduceAdd, Nat.reduceMul, true_or, or_true, znar_50, bI_0, bI_1, bI_z, bft, nI_z0, nI_z1, lgc_lt, lgc_gt, lgc_le, lgc_ge, lgc_eq, not_true_eq_false, not_false_eq_true, Bool.not_eq_true, Bool.not_eq_false, reduceCtorEq, c0, a4, g1, c18, hasI_n, hbA]
      exact idle (fun u q => by rw [hbA] at q; cases q.1.1)
    | true =>
      cases hbs : s.testBit j with
      | true =>
        simp (disch := omega) only [s106_0, s106_1, s106_4, s106_5, s106_6, s106_7, s106_10, s106_11, s106_12, s106_13, s106_15, s106_18, s106_19, s106_20, s106_21, s106_22, s106_23, s106_26, s106_29, s106_30, s106_32, s106_33, s106_36, s106_39, s106_40, s106_41, s106_44, s106_45, s106_48, s106_51, s106_52, s106_54, s106_55, s106_59, s106_60, s106_63, s106_66, s106_67, s106_69, s106_72, s106_75, s106_76, s106_78, s106_81, s106_84, s106_85, s106_88, s106_90, s106_91, s106_92, s106_94, s106_95, s106_96, s106_97, s106_99, s106_100, s106_101, s106_104, s106_107, s106_109, s106_110, s106_111, s106_114, s106_116, s106_117, s106_118, s106_120, s106_121, s106_122, s106_123, s106_125, s106_126, s106_127, s106_128, s106_129, s106_132, s106_133, s106_135, s106_138, s106_141, s106_142, s106_145, s106_147, s106_148, s106_151, s106_154, s106_156, s106_159, s106_162, s106_163, s106_166, s106_168, s106_169, s106_170, s106_171, s106_172, s106_174, s106_175, s106_178, s106_181, s106_184, s106_187, s106_188, s106_189, s106_190, s106_191, s106_192, s106_194, s106_195, s106_198, s106_199, s106_202, s106_203, s106_205, s106_207, s106_209, s106_210, s106_214, s106_217, s106_218, s106_220, s106_223, s106_226, s106_227, s106_229, s106_232, s106_235, s106_238, s106_239, s106_240, s106_242, s106_243, s106_246, s106_247, s106_250, s106_251, s106_253, s106_256, s106_259, s106_262, s106_263, s106_265, s106_268, s106_269, s106_271, s106_274, s106_277, s106_278, s106_281, s106_283, s106_284, s106_287, s106_289, s106_291, s106_292, s106_295, s106_297, s106_298, s106_299, s106_301, s106_302, s106_303, s106_304, s106_306, s106_307, s106_308, s106_311, s106_312, s106_315, s106_316, s106_318, s106_321, s106_324, s106_326, s106_327, s106_328, s106_330, s106_331, s106_334, s106_336, s106_337, s106_340, s106_342, s106_343, s106_344, s106_345, s106_346, s106_348, s106_349, s106_350, s106_351, s106_353, s106_354, s106_357, s106_360, zcs_0, zcs_1, zcs_2, zcs_3, zcs_4, zcs_5, zcs_6, zcs_7, znl_i, znl_r, znl_n, Bool.and_true, Bool.true_and, zk_v, zk_n, zk_x, zir_r, zir_n, zclr_i, zclr_r, zclr_n, zclr_d, zclr_l, true_and, and_true, and_self, if_true, if_false, reduceIte, nI_add, pk_mul, zin_ok, zx_nI, nI_lt2, nI_le2, nI_eq2, nI_l0, nI_g0, nI_q0, nI_p0, nI_n0, nI_m1, Nat.add_zero, Nat.zero_add, Nat.reduceAdd, Nat.reduceMul, true_or, or_true, znar_50, bI_0, bI_1, bI_z, bft, nI_z0, nI_z1, lgc_lt, lgc_gt, lgc_le, lgc_ge, lgc_eq, not_true_eq_false, not_false_eq_true, Bool.not_eq_true, Bool.not_eq_false, reduceCtorEq, c0, a4, g1, c18, hasI_n, hbA, hbs]
        exact idle (fun u q => by rw [hbs] at q; cases q.1.2)
      | false =>
        have ho := or_add2 hbs
        have hpj := Nat.two_pow_pos j
        have hlt : s + 2 ^ j < 2 ^ n := by
          rw [← ho]
          exact Nat.or_lt_two_pow hs2 (Nat.pow_lt_pow_right (by omega) hj)
        obtain ⟨y, ⟨y1, y2⟩, y3, y4⟩ := hf (s + 2 ^ j) (by omega) hlt (by omega) (by rw [← ho]; exact sub_or hbA hsA) j hj
        rw [← ho, xor_sub hbA hbs] at y4
        have r1 : zia (sIA z 125 f) 125 (10 * (s + 2 ^ j) + j) = iI y := by rw [ia_sIA, zu1_s]; exact y3
        by_cases hy : y < 0
        · have hy' : ¬ 0 ≤ y := by omega
          simp (disch := omega) only [s106_0, s106_1, s106_4, s106_5, s106_6, s106_7, s106_10, s106_11, s106_12, s106_13, s106_15, s106_18, s106_19, s106_20, s106_21, s106_22, s106_23, s106_26, s106_29, s106_30, s106_32, s106_33, s106_36, s106_39, s106_40, s106_41, s106_44, s106_45, s106_48, s106_51, s106_52, s106_54, s106_55, s106_59, s106_60, s106_63, s106_66, s106_67, s106_69, s106_72, s106_75, s106_76, s106_78, s106_81, s106_84, s106_85, s106_88, s106_90, s106_91, s106_92, s106_94, s106_95, s106_96, s106_97, s106_99, s106_100, s106_101, s106_104, s106_107, s106_109, s106_110, s106_111, s106_114, s106_116, s106_117, s106_118, s106_120, s106_121, s106_122, s106_123, s106_125, s106_126, s106_127, s106_128, s106_129, s106_132, s106_133, s106_135, s106_138, s106_141, s106_142, s106_145, s106_147, s106_148, s106_151, s106_154, s106_156, s106_159, s106_162, s106_163, s106_166, s106_168, s106_169, s106_170, s106_171, s106_172, s106_174, s106_175, s106_178, s106_181, s106_184, s106_187, s106_188, s106_189, s106_190, s106_191, s106_192, s106_194, s106_195, s106_198, s106_199, s106_202, s106_203, s106_205, s106_207, s106_209, s106_210, s106_214, s106_217, s106_218, s106_220, s106_223, s106_226, s106_227, s106_229, s106_232, s106_235, s106_238, s106_239, s106_240, s106_242, s106_243, s106_246, s106_247, s106_250, s106_251, s106_253, s106_256, s106_259, s106_262, s106_263, s106_265, s106_268, s106_269, s106_271, s106_274, s106_277, s106_278, s106_281, s106_283, s106_284, s106_287, s106_289, s106_291, s106_292, s106_295, s106_297, s106_298, s106_299, s106_301, s106_302, s106_303, s106_304, s106_306, s106_307, s106_308, s106_311, s106_312, s106_315, s106_316, s106_318, s106_321, s106_324, s106_326, s106_327, s106_328, s106_330, s106_331, s106_334, s106_336, s106_337, s106_340, s106_342, s106_343, s106_344, s106_345, s106_346, s106_348, s106_349, s106_350, s106_351, s106_353, s106_354, s106_357, s106_360, zcs_0, zcs_1, zcs_2, zcs_3, zcs_4, zcs_5, zcs_6, zcs_7, znl_i, znl_r, znl_n, Bool.and_true, Bool.true_and, zk_v, zk_n, zk_x, zir_r, zir_n, zclr_i, zclr_r, zclr_n, zclr_d, zclr_l, true_and, and_true, and_self, if_true, if_false, reduceIte, nI_add, pk_mul, zin_ok, zx_nI, nI_lt2, nI_le2, nI_eq2, nI_l0, nI_g0, nI_q0, nI_p0, nI_n0, nI_m1, Nat.add_zero, Nat.zero_add, Nat.reduceAdd, Nat.reduceMul, true_or, or_true, znar_50, bI_0, bI_1, bI_z, bft, nI_z0, nI_z1, lgc_lt, lgc_gt, lgc_le, lgc_ge, lgc_eq, not_true_eq_false, not_false_eq_true, Bool.not_eq_true, Bool.not_eq_false, reduceCtorEq, c0, a4, g1, c18, hasI_n, hbA, hbs, nI_sh1, nI_or, ho, r1, iI_g0, iI_l0, hy, hy']
          exact idle (fun u q => by have := (y4 _).mpr q.2; omega)
        · have hy' : 0 ≤ y := by omega
          obtain ⟨o, rfl⟩ := Int.eq_ofNat_of_zero_le hy'
          have r2 : zia (sIA z 125 f) 125 (10 * (s + 2 ^ j) + j) = nI o := r1.trans (iI_n o)
          have hq1 := hO.2 k hk
          have hq2 := hO.2 j hj
          have b1 := hA2.2.2.2.2 k hk
          have b2 := hA2.2.2.2.2 j hj
          have hd2 := dD_le hT hq1 hq2
          have ck := fun d Q => c99 (d := d) (Q := Q) hN2 (show k < 10 by omega) b1 hq1
          have cj := fun d Q => c99 (d := d) (Q := Q) hN2 (show j < 10 by omega) b2 hq2
          have cf := fun d Q => c248 (d := d) (Q := Q) hv hN2.2.2.1 hq1 hq2
          have ca := fun d Q => c107 (d := d) (Q := Q) hN2 hT hWD (a := a) (dy := dy) hA2.2.2.1 hA2.2.1 hdy (o := o) (f := dD v (hs k) (hs j)) (k := hs j) hq2 (by omega) (by omega)
          obtain ⟨_, fk1, _⟩ := hN2.2.2.1.fld hq1
          obtain ⟨_, fj1, _⟩ := hN2.2.2.1.fld hq2
          have l1 := aB_ge (v := v) (c := rdC v a (hs j)) (dy := dy) (h := hs j) (f := dD v (hs k) (hs j)) (o := o) (by omega)
          have l2 := aB_le (v := v) (c := rdC v a (hs j)) (dy := dy) (h := hs j) (f := dD v (hs k) (hs j)) (o := o) (by omega)
          have l3 := fun u : Nat => aA_iff (v := v) (c := rdC v a (hs j)) (dy := dy) (h := hs j) (t := u) (f := dD v (hs k) (hs j)) (o := o) (by omega)
          generalize aB v (rdC v a (hs j)) dy (hs j) o (dD v (hs k) (hs j)) = Y at ca l1 l2 l3
          simp (disch := omega) only [s106_0, s106_1, s106_4, s106_5, s106_6, s106_7, s106_10, s106_11, s106_12, s106_13, s106_15, s106_18, s106_19, s106_20, s106_21, s106_22, s106_23, s106_26, s106_29, s106_30, s106_32, s106_33, s106_36, s106_39, s106_40, s106_41, s106_44, s106_45, s106_48, s106_51, s106_52, s106_54, s106_55, s106_59, s106_60, s106_63, s106_66, s106_67, s106_69, s106_72, s106_75, s106_76, s106_78, s106_81, s106_84, s106_85, s106_88, s106_90, s106_91, s106_92, s106_94, s106_95, s106_96, s106_97, s106_99, s106_100, s106_101, s106_104, s106_107, s106_109, s106_110, s106_111, s106_114, s106_116, s106_117, s106_118, s106_120, s106_121, s106_122, s106_123, s106_125, s106_126, s106_127, s106_128, s106_129, s106_132, s106_133, s106_135, s106_138, s106_141, s106_142, s106_145, s106_147, s106_148, s106_151, s106_154, s106_156, s106_159, s106_162, s106_163, s106_166, s106_168, s106_169, s106_170, s106_171, s106_172, s106_174, s106_175, s106_178, s106_181, s106_184, s106_187, s106_188, s106_189, s106_190, s106_191, s106_192, s106_194, s106_195, s106_198, s106_199, s106_202, s106_203, s106_205, s106_207, s106_209, s106_210, s106_214, s106_217, s106_218, s106_220, s106_223, s106_226, s106_227, s106_229, s106_232, s106_235, s106_238, s106_239, s106_240, s106_242, s106_243, s106_246, s106_247, s106_250, s106_251, s106_253, s106_256, s106_259, s106_262, s106_263, s106_265, s106_268, s106_269, s106_271, s106_274, s106_277, s106_278, s106_281, s106_283, s106_284, s106_287, s106_289, s106_291, s106_292, s106_295, s106_297, s106_298, s106_299, s106_301, s106_302, s106_303, s106_304, s106_306, s106_307, s106_308, s106_311, s106_312, s106_315, s106_316, s106_318, s106_321, s106_324, s106_326, s106_327, s106_328, s106_330, s106_331, s106_334, s106_336, s106_337, s106_340, s106_342, s106_343, s106_344, s106_345, s106_346, s106_348, s106_349, s106_350, s106_351, s106_353, s106_354, s106_357, s106_360, zcs_0, zcs_1, zcs_2, zcs_3, zcs_4, zcs_5, zcs_6, zcs_7, znl_i, znl_r, znl_n, Bool.and_true, Bool.true_and, zk_v, zk_n, zk_x, zir_r, zir_n, zclr_i, zclr_r, zclr_n, zclr_d, zclr_l, true_and, and_true, and_self, if_true, if_false, reduceIte, nI_add, pk_mul, zin_ok, zx_nI, nI_lt2, nI_le2, nI_eq2, nI_l0, nI_g0, nI_q0, nI_p0, nI_n0, nI_m1, Nat.add_zero, Nat.zero_add, Nat.reduceAdd, Nat.reduceMul, true_or, or_true, znar_50, bI_0, bI_1, bI_z, bft, nI_z0, nI_z1, lgc_lt, lgc_gt, lgc_le, lgc_ge, lgc_eq, not_true_eq_false, not_false_eq_true, Bool.not_eq_true, Bool.not_eq_false, reduceCtorEq, c0, a4, g1, c18, hasI_n, hbA, hbs, nI_sh1, nI_or, ho, r2, ck, cj, cf, b2, ca, fk1, fj1, zmax_iI]
          refine hnext (max x Y) ⟨by omega, fun u => ?_⟩
          have l4 := l3 u
          have l5 := y4 (rA v (rdC v a) dy hs j (u + dD v (hs k) (hs j)))
          have l6 : (u : Int) ≤ Y ↔ gP v (rdC v a) dy hs n (hs j) (rA v (rdC v a) dy hs j (u + dD v (hs k) (hs j))) ((A ^^^ s) - 2 ^ j) ≤ bo := l4.symm.trans (Iff.trans (show _ ↔ ((rA v (rdC v a) dy hs j (u + dD v (hs k) (hs j)) : Nat) : Int) ≤ (o : Int) from (Int.ofNat_le (m := rA v (rdC v a) dy hs j (u + dD v (hs k) (hs j))) (n := o)).symm) l5)
          rw [show ((u : Int) ≤ max x Y) ↔ ((u : Int) ≤ x ∨ (u : Int) ≤ Y) by omega, x3 u, l6]
          constructor
          · rintro ((q | ⟨i, i1, i2⟩) | q)
            · exact Or.inl q
            · exact Or.inr ⟨i, by omega, i2⟩
            · exact Or.inr ⟨j, by omega, ⟨hbA, hbs⟩, q⟩
          · rintro (q | ⟨i, i1, i2⟩)
            · exact Or.inl (Or.inl q)
            · by_cases e : i = j
              · subst e; exact Or.inr i2.2
              · exact Or.inl (Or.inr ⟨i, by omega, i2⟩)
/-- the first half: the latest minutes -/
theorem c106a (h : NW B z v L t hl kn rl ha ra da ea) (nB : ∀ q, B q → ¬ (122 ≤ q ∧ q ≤ 130)) (hT : wT v) (hv : ∀ i, v i < 1073741824) (hWD : wD v) (hA : aL z ha a dy hs n) (hO : lOK v hs n) (hdy : dy < 1000) {A bo : Nat} (hAn : A < 2 ^ n) (h7 : zfi z 122 7 = nI bo) (hbo : bo ≤ 180)
    (hend : ∀ f x2 x3 x4 x5, lateI v (rdC v a) dy hs n A bo 1 f → ZW zG (d + 3) 106 187 [.ref 122, .int (nI A), x2, x3, x4, x5, zdum, zdum, zdum] [] (sIA z 125 f) Q) :
    ∀ s f x3 x4 x5, s < 2 ^ n → lateI v (rdC v a) dy hs n A bo (s + 1) f → ZW zG (d + 3) 106 14 [.ref 122, .int (nI A), .int (nI s), x3, x4, x5, zdum, zdum, zdum] [] (sIA z 125 f) Q := by
  have hn10 := hO.1
  obtain ⟨hN, hN0⟩ := pow10 hO.1
  have hr : 123 ≤ 125 ∧ 125 ≤ 130 ∧ ¬ 125 = 127 := by omega
  intro s
  induction s with
  | zero =>
    intro f x3 x4 x5 _ hf
    refine Eq.mpr s106_14 ?_
    simp (disch := omega) only [s106_0, s106_1, s106_4, s106_5, s106_6, s106_7, s106_10, s106_11, s106_12, s106_13, s106_15, s106_18, s106_19, s106_20, s106_21, s106_22, s106_23, s106_26, s106_29, s106_30, s106_32, s106_33, s106_36, s106_39, s106_40, s106_41, s106_44, s106_45, s106_48, s106_51, s106_52, s106_54, s106_55, s106_59, s106_60, s106_63, s106_66, s106_67, s106_69, s106_72, s106_75, s106_76, s106_78, s106_81, s106_84, s106_85, s106_88, s106_90, s106_91, s106_92, s106_94, s106_95, s106_96, s106_97, s106_99, s106_100, s106_101, s106_104, s106_107, s106_109, s106_110, s106_111, s106_114, s106_116, s106_117, s106_118, s106_120, s106_121, s106_122, s106_123, s106_125, s106_126, s106_127, s106_128, s106_129, s106_132, s106_133, s106_135, s106_138, s106_141, s106_142, s106_145, s106_147, s106_148, s106_151, s106_154, s106_156, s106_159, s106_162, s106_163, s106_166, s106_168, s106_169, s106_170, s106_171, s106_172, s106_174, s106_175, s106_178, s106_181, s106_184, s106_188, s106_189, s106_190, s106_191, s106_192, s106_194, s106_195, s106_198, s106_199, s106_202, s106_203, s106_205, s106_207, s106_209, s106_210, s106_214, s106_217, s106_218, s106_220, s106_223, s106_226, s106_227, s106_229, s106_232, s106_235, s106_238, s106_239, s106_240, s106_242, s106_243, s106_246, s106_247, s106_250, s106_251, s106_253, s106_256, s106_259, s106_262, s106_263, s106_265, s106_268, s106_269, s106_271, s106_274, s106_277, s106_278, s106_281, s106_283, s106_284, s106_287, s106_289, s106_291, s106_292, s106_295, s106_297, s106_298, s106_299, s106_301, s106_302, s106_303, s106_304, s106_306, s106_307, s106_308, s106_311, s106_312, s106_315, s106_316, s106_318, s106_321, s106_324, s106_326, s106_327, s106_328, s106_330, s106_331, s106_334, s106_336, s106_337, s106_340, s106_342, s106_343, s106_344, s106_345, s106_346, s106_348, s106_349, s106_350, s106_351, s106_353, s106_354, s106_357, s106_360, zcs_0, zcs_1, zcs_2, zcs_3, zcs_4, zcs_5, zcs_6, zcs_7, znl_i, znl_r, znl_n, Bool.and_true, Bool.true_and, zk_v, zk_n, zk_x, zir_r, zir_n, zclr_i, zclr_r, zclr_n, zclr_d, zclr_l, true_and, and_true, and_self, if_true, if_false, reduceIte, nI_add, pk_mul, zin_ok, zx_nI, nI_lt2, nI_le2, nI_eq2, nI_l0, nI_g0, nI_q0, nI_p0, nI_n0, nI_m1, Nat.add_zero, Nat.zero_add, Nat.reduceAdd, Nat.reduceMul, true_or, or_true, znar_50, bI_0, bI_1, bI_z, bft, nI_z0, nI_z1, lgc_lt, lgc_gt, lgc_le, lgc_ge, lgc_eq, not_true_eq_false, not_false_eq_true, Bool.not_eq_true, Bool.not_eq_false, reduceCtorEq]
    exact hend f _ _ _ _ hf
  | succ s ih =>
    intro f x3 x4 x5 hs2 hf
    have c0 := (NW_cFr h nB (cFr_sIA (cFr_refl z) hr f)).1
    unfold CS at c0
    have hne : ¬ s + 1 = 0 := by omega
    refine Eq.mpr s106_14 ?_
    by_cases hsA : (s + 1) &&& A = s + 1
    · simp (disch := omega) only [s106_0, s106_1, s106_4, s106_5, s106_6, s106_7, s106_10, s106_11, s106_12, s106_13, s106_15, s106_18, s106_19, s106_20, s106_21, s106_22, s106_23, s106_26, s106_29, s106_30, s106_32, s106_33, s106_36, s106_39, s106_40, s106_41, s106_44, s106_45, s106_48, s106_51, s106_52, s106_54, s106_55, s106_59, s106_60, s106_63, s106_66, s106_67, s106_69, s106_72, s106_75, s106_76, s106_78, s106_81, s106_84, s106_85, s106_88, s106_90, s106_91, s106_92, s106_94, s106_95, s106_96, s106_97, s106_99, s106_100, s106_101, s106_104, s106_107, s106_109, s106_110, s106_111, s106_114, s106_116, s106_117, s106_118, s106_120, s106_121, s106_122, s106_123, s106_125, s106_126, s106_127, s106_128, s106_129, s106_132, s106_133, s106_135, s106_138, s106_141, s106_142, s106_145, s106_147, s106_148, s106_151, s106_154, s106_156, s106_159, s106_162, s106_163, s106_166, s106_168, s106_169, s106_170, s106_171, s106_172, s106_174, s106_175, s106_178, s106_181, s106_184, s106_188, s106_189, s106_190, s106_191, s106_192, s106_194, s106_195, s106_198, s106_199, s106_202, s106_203, s106_205, s106_207, s106_209, s106_210, s106_214, s106_217, s106_218, s106_220, s106_223, s106_226, s106_227, s106_229, s106_232, s106_235, s106_238, s106_239, s106_240, s106_242, s106_243, s106_246, s106_247, s106_250, s106_251, s106_253, s106_256, s106_259, s106_262, s106_263, s106_265, s106_268, s106_269, s106_271, s106_274, s106_277, s106_278, s106_281, s106_283, s106_284, s106_287, s106_289, s106_291, s106_292, s106_295, s106_297, s106_298, s106_299, s106_301, s106_302, s106_303, s106_304, s106_306, s106_307, s106_308, s106_311, s106_312, s106_315, s106_316, s106_318, s106_321, s106_324, s106_326, s106_327, s106_328, s106_330, s106_331, s106_334, s106_336, s106_337, s106_340, s106_342, s106_343, s106_344, s106_345, s106_346, s106_348, s106_349, s106_350, s106_351, s106_353, s106_354, s106_357, s106_360, zcs_0, zcs_1, zcs_2, zcs_3, zcs_4, zcs_5, zcs_6, zcs_7, znl_i, znl_r, znl_n, Bool.and_true, Bool.true_and, zk_v, zk_n, zk_x, zir_r, zir_n, zclr_i, zclr_r, zclr_n, zclr_d, zclr_l, true_and, and_true, and_self, if_true, if_false, reduceIte, nI_add, pk_mul, zin_ok, zx_nI, nI_lt2, nI_le2, nI_eq2, nI_l0, nI_g0, nI_q0, nI_p0, nI_n0, nI_m1, Nat.add_zero, Nat.zero_add, Nat.reduceAdd, Nat.reduceMul, true_or, or_true, znar_50, bI_0, bI_1, bI_z, bft, nI_z0, nI_z1, lgc_lt, lgc_gt, lgc_le, lgc_ge, lgc_eq, not_true_eq_false, not_false_eq_true, Bool.not_eq_true, Bool.not_eq_false, reduceCtorEq, hne, sbs_iff, hsA]
      have key := zl_inv (P := fun k (w : (Nat → Int32) × Value × Value) => ZW zG (d + 3) 106 31 [.ref 122, .int (nI A), .int (nI (s + 1)), .int (nI k), w.2.1, w.2.2, zdum, zdum, zdum] [] (sIA z 125 w.1) Q) (I := fun k w => lateI v (rdC v a) dy hs n A bo (s + 1 + 1) w.1 ∧ ∀ q, q < k → ∃ x : Int, (-1 ≤ x ∧ x ≤ 180) ∧ w.1 (10 * (s + 1) + q) = iI x ∧ ∀ u : Nat, (u : Int) ≤ x ↔ gP v (rdC v a) dy hs n (hs q) u (A ^^^ (s + 1)) ≤ bo) n (by
        rintro ⟨g, y4, y5⟩ ⟨w1, w2⟩
        have c0 := (NW_cFr h nB (cFr_sIA (cFr_refl z) hr g)).1
        unfold CS at c0
        have a4 : zfi (sIA z 125 g) 122 4 = nI n := hA.1
        refine Eq.mpr s106_31 ?_
        simp (disch := omega) only [s106_0, s106_1, s106_4, s106_5, s106_6, s106_7, s106_10, s106_11, s106_12, s106_13, s106_15, s106_18, s106_19, s106_20, s106_21, s106_22, s106_23, s106_26, s106_29, s106_30, s106_32, s106_33, s106_36, s106_39, s106_40, s106_41, s106_44, s106_45, s106_48, s106_51, s106_52, s106_54, s106_55, s106_59, s106_60, s106_63, s106_66, s106_67, s106_69, s106_72, s106_75, s106_76, s106_78, s106_81, s106_84, s106_85, s106_88, s106_90, s106_91, s106_92, s106_94, s106_95, s106_96, s106_97, s106_99, s106_100, s106_101, s106_104, s106_107, s106_109, s106_110, s106_111, s106_114, s106_116, s106_117, s106_118, s106_120, s106_121, s106_122, s106_123, s106_125, s106_126, s106_127, s106_128, s106_129, s106_132, s106_133, s106_135, s106_138, s106_141, s106_142, s106_145, s106_147, s106_148, s106_151, s106_154, s106_156, s106_159, s106_162, s106_163, s106_166, s106_168, s106_169, s106_170, s106_171, s106_172, s106_174, s106_175, s106_178, s106_181, s106_184, s106_188, s106_189, s106_190, s106_191, s106_192, s106_194, s106_195, s106_198, s106_199, s106_202, s106_203, s106_205, s106_207, s106_209, s106_210, s106_214, s106_217, s106_218, s106_220, s106_223, s106_226, s106_227, s106_229, s106_232, s106_235, s106_238, s106_239, s106_240, s106_242, s106_243, s106_246, s106_247, s106_250, s106_251, s106_253, s106_256, s106_259, s106_262, s106_263, s106_265, s106_268, s106_269, s106_271, s106_274, s106_277, s106_278, s106_281, s106_283, s106_284, s106_287, s106_289, s106_291, s106_292, s106_295, s106_297, s106_298, s106_299, s106_301, s106_302, s106_303, s106_304, s106_306, s106_307, s106_308, s106_311, s106_312, s106_315, s106_316, s106_318, s106_321, s106_324, s106_326, s106_327, s106_328, s106_330, s106_331, s106_334, s106_336, s106_337, s106_340, s106_342, s106_343, s106_344, s106_345, s106_346, s106_348, s106_349, s106_350, s106_351, s106_353, s106_354, s106_357, s106_360, zcs_0, zcs_1, zcs_2, zcs_3, zcs_4, zcs_5, zcs_6, zcs_7, znl_i, znl_r, znl_n, Bool.and_true, Bool.true_and, zk_v, zk_n, zk_x, zir_r, zir_n, zclr_i, zclr_r, zclr_n, zclr_d, zclr_l, true_and, and_true, and_self, if_true, if_false, reduceIte, nI_add, pk_mul, zin_ok, zx_nI, nI_lt2, nI_le2, nI_eq2, nI_l0, nI_g0, nI_q0, nI_p0, nI_n0, nI_m1, Nat.add_zero, Nat.zero_add, Nat.reduceAdd, Nat.reduceMul, true_or, or_true, znar_50, bI_0, bI_1, bI_z, bft, nI_z0, nI_z1, lgc_lt, lgc_gt, lgc_le, lgc_ge, lgc_eq, not_true_eq_false, not_false_eq_true, Bool.not_eq_true, Bool.not_eq_false, reduceCtorEq, c0, a4, Nat.le_refl, pk_m1]
        refine ih g _ _ _ (by omega) (fun S h1 h2 h3 h4 k hk => ?_)
        by_cases e : S = s + 1
        · subst e; exact w2 k hk
        · exact w1 S (by omega) h2 h3 h4 k hk) (by
        rintro k ⟨g, y4, y5⟩ hk ⟨w1, w2⟩ hnext
        dsimp only at w1 w2
        have c0 := (NW_cFr h nB (cFr_sIA (cFr_refl z) hr g)).1
        unfold CS at c0
        have a4 : zfi (sIA z 125 g) 122 4 = nI n := hA.1
        have a7 : zfi (sIA z 125 g) 122 7 = nI bo := h7
        have g1 : ¬ n ≤ k := by omega
        have done := c106j h nB hT hv hWD hA hO hdy hAn hbo w1 (by omega) hs2 hsA hk (Q := Q) (d := d) (fun x q1 q2 q3 => hnext (zu1 g (10 * (s + 1) + k) (iI x), _, _) ⟨fun S h1 h2 h3 h4 k' hk' => by
          obtain ⟨x', u1, u2, u3⟩ := w1 S h1 h2 h3 h4 k' hk'
          exact ⟨x', u1, by dsimp only; rw [zu1_n _ _ _ (by omega)]; exact u2, u3⟩, fun q hq => by
          by_cases e : q = k
          · subst e; exact ⟨x, ⟨q1, q2⟩, zu1_s _ _ _, q3⟩
          · obtain ⟨x', u1, u2, u3⟩ := w2 q (by omega)
            exact ⟨x', u1, by dsimp only; rw [zu1_n _ _ _ (by omega)]; exact u2, u3⟩⟩)
        refine Eq.mpr s106_31 ?_
        by_cases e : s + 1 = A
        · have st := done 0 (bo : Int) (Nat.zero_le _) ⟨by omega, fun u => by
            constructor
            · intro q; exact Or.inl ⟨e, by omega⟩
            · rintro (⟨_, q⟩ | ⟨i, i1, _⟩)
              · omega
              · omega⟩
          rw [iI_n] at st
          simp (disch := omega) only [s106_0, s106_1, s106_4, s106_5, s106_6, s106_7, s106_10, s106_11, s106_12, s106_13, s106_15, s106_18, s106_19, s106_20, s106_21, s106_22, s106_23, s106_26, s106_29, s106_30, s106_32, s106_33, s106_36, s106_39, s106_40, s106_41, s106_44, s106_45, s106_48, s106_51, s106_52, s106_54, s106_55, s106_59, s106_60, s106_63, s106_66, s106_67, s106_69, s106_72, s106_75, s106_76, s106_78, s106_81, s106_84, s106_85, s106_88, s106_90, s106_91, s106_92, s106_94, s106_95, s106_96, s106_97, s106_99, s106_100, s106_101, s106_104, s106_107, s106_109, s106_110, s106_111, s106_114, s106_116, s106_117, s106_118, s106_120, s106_121, s106_122, s106_123, s106_125, s106_126, s106_127, s106_128, s106_129, s106_132, s106_133, s106_135, s106_138, s106_141, s106_142, s106_145, s106_147, s106_148, s106_151, s106_154, s106_156, s106_159, s106_162, s106_163, s106_166, s106_168, s106_169, s106_170, s106_171, s106_172, s106_174, s106_175, s106_178, s106_181, s106_184, s106_188, s106_189, s106_190, s106_191, s106_192, s106_194, s106_195, s106_198, s106_199, s106_202, s106_203, s106_205, s106_207, s106_209, s106_210, s106_214, s106_217, s106_218, s106_220, s106_223, s106_226, s106_227, s106_229, s106_232, s106_235, s106_238, s106_239, s106_240, s106_242, s106_243, s106_246, s106_247, s106_250, s106_251, s106_253, s106_256, s106_259, s106_262, s106_263, s106_265, s106_268, s106_269, s106_271, s106_274, s106_277, s106_278, s106_281, s106_283, s106_284, s106_287, s106_289, s106_291, s106_292, s106_295, s106_297, s106_298, s106_299, s106_301, s106_302, s106_303, s106_304, s106_306, s106_307, s106_308, s106_311, s106_312, s106_315, s106_316, s106_318, s106_321, s106_324, s106_326, s106_327, s106_328, s106_330, s106_331, s106_334, s106_336, s106_337, s106_340, s106_342, s106_343, s106_344, s106_345, s106_346, s106_348, s106_349, s106_350, s106_351, s106_353, s106_354, s106_357, s106_360, zcs_0, zcs_1, zcs_2, zcs_3, zcs_4, zcs_5, zcs_6, zcs_7, znl_i, znl_r, znl_n, Bool.and_true, Bool.true_and, zk_v, zk_n, zk_x, zir_r, zir_n, zclr_i, zclr_r, zclr_n, zclr_d, zclr_l, true_and, and_true, and_self, if_true, if_false, reduceIte, nI_add, pk_mul, zin_ok, zx_nI, nI_lt2, nI_le2, nI_eq2, nI_l0, nI_g0, nI_q0, nI_p0, nI_n0, nI_m1, Nat.add_zero, Nat.zero_add, Nat.reduceAdd, Nat.reduceMul, true_or, or_true, znar_50, bI_0, bI_1, bI_z, bft, nI_z0, nI_z1, lgc_lt, lgc_gt, lgc_le, lgc_ge, lgc_eq, not_true_eq_false, not_false_eq_true, Bool.not_eq_true, Bool.not_eq_false, reduceCtorEq, c0, a4, a7, g1, e, eq_self]
          rw [e] at st
          exact st
        · have st := done 0 (-1) (Nat.zero_le _) ⟨by omega, fun u => by
            constructor
            · intro q; omega
            · rintro (⟨q, _⟩ | ⟨i, i1, _⟩)
              · exact absurd q e
              · omega⟩
          rw [iI_m1] at st
          simp (disch := omega) only [s106_0, s106_1, s106_4, s106_5, s106_6, s106_7, s106_10, s106_11, s106_12, s106_13, s106_15, s106_18, s106_19, s106_20, s106_21, s106_22, s106_23, s106_26, s106_29, s106_30, s106_32, s106_33, s106_36, s106_39, s106_40, s106_41, s106_44, s106_45, s106_48, s106_51, s106_52, s106_54, s106_55, s106_59, s106_60, s106_63, s106_66, s106_67, s106_69, s106_72, s106_75, s106_76, s106_78, s106_81, s106_84, s106_85, s106_88, s106_90, s106_91, s106_92, s106_94, s106_95, s106_96, s106_97, s106_99, s106_100, s106_101, s106_104, s106_107, s106_109, s106_110, s106_111, s106_114, s106_116, s106_117, s106_118, s106_120, s106_121, s106_122, s106_123, s106_125, s106_126, s106_127, s106_128, s106_129, s106_132, s106_133, s106_135, s106_138, s106_141, s106_142, s106_145, s106_147, s106_148, s106_151, s106_154, s106_156, s106_159, s106_162, s106_163, s106_166, s106_168, s106_169, s106_170, s106_171, s106_172, s106_174, s106_175, s106_178, s106_181, s106_184, s106_188, s106_189, s106_190, s106_191, s106_192, s106_194, s106_195, s106_198, s106_199, s106_202, s106_203, s106_205, s106_207, s106_209, s106_210, s106_214, s106_217, s106_218, s106_220, s106_223, s106_226, s106_227, s106_229, s106_232, s106_235, s106_238, s106_239, s106_240, s106_242, s106_243, s106_246, s106_247, s106_250, s106_251, s106_253, s106_256, s106_259, s106_262, s106_263, s106_265, s106_268, s106_269, s106_271, s106_274, s106_277, s106_278, s106_281, s106_283, s106_284, s106_287, s106_289, s106_291, s106_292, s106_295, s106_297, s106_298, s106_299, s106_301, s106_302, s106_303, s106_304, s106_306, s106_307, s106_308, s106_311, s106_312, s106_315, s106_316, s106_318, s106_321, s106_324, s106_326, s106_327, s106_328, s106_330, s106_331, s106_334, s106_336, s106_337, s106_340, s106_342, s106_343, s106_344, s106_345, s106_346, s106_348, s106_349, s106_350, s106_351, s106_353, s106_354, s106_357, s106_360, zcs_0, zcs_1, zcs_2, zcs_3, zcs_4, zcs_5, zcs_6, zcs_7, znl_i, znl_r, znl_n, Bool.and_true, Bool.true_and, zk_v, zk_n, zk_x, zir_r, zir_n, zclr_i, zclr_r, zclr_n, zclr_d, zclr_l, true_and, and_true, and_self, if_true, if_false, reduceIte, nI_add, pk_mul, zin_ok, zx_nI, nI_lt2, nI_le2, nI_eq2, nI_l0, nI_g0, nI_q0, nI_p0, nI_n0, nI_m1, Nat.add_zero, Nat.zero_add, Nat.reduceAdd, Nat.reduceMul, true_or, or_true, znar_50, bI_0, bI_1, bI_z, bft, nI_z0, nI_z1, lgc_lt, lgc_gt, lgc_le, lgc_ge, lgc_eq, not_true_eq_false, not_false_eq_true, Bool.not_eq_true, Bool.not_eq_false, reduceCtorEq, c0, a4, g1, e]
          exact st)
      exact key 0 (f, _, _) (Nat.zero_le _) ⟨hf, fun q hq => absurd hq (by omega)⟩
    · simp (disch := omega) only [s106_0, s106_1, s106_4, s106_5, s106_6, s106_7, s106_10, s106_11, s106_12, s106_13, s106_15, s106_18, s106_19, s106_20, s106_21, s106_22, s106_23, s106_26, s106_29, s106_30, s106_32, s106_33, s106_36, s106_39, s106_40, s106_41, s106_44, s106_45, s106_48, s106_51, s106_52, s106_54, s106_55, s106_59, s106_60, s106_63, s106_66, s106_67, s106_69, s106_72, s106_75, s106_76, s106_78, s106_81, s106_84, s106_85, s106_88, s106_90, s106_91, s106_92, s106_94, s106_95, s106_96, s106_97, s106_99, s106_100, s106_101, s106_104, s106_107, s106_109, s106_110, s106_111, s106_114, s106_116, s106_117, s106_118, s106_120, s106_121, s106_122, s106_123, s106_125, s106_126, s106_127, s106_128, s106_129, s106_132, s106_133, s106_135, s106_138, s106_141, s106_142, s106_145, s106_147, s106_148, s106_151, s106_154, s106_156, s106_159, s106_162, s106_163, s106_166, s106_168, s106_169, s106_170, s106_171, s106_172, s106_174, s106_175, s106_178, s106_181, s106_184, s106_188, s106_189, s106_190, s106_191, s106_192, s106_194, s106_195, s106_198, s106_199, s106_202, s106_203, s106_205, s106_207, s106_209, s106_210, s106_214, s106_217, s106_218, s106_220, s106_223, s106_226, s106_227, s106_229, s106_232, s106_235, s106_238, s106_239, s106_240, s106_242, s106_243, s106_246, s106_247, s106_250, s106_251, s106_253, s106_256, s106_259, s106_262, s106_263, s106_265, s106_268, s106_269, s106_271, s106_274, s106_277, s106_278, s106_281, s106_283, s106_284, s106_287, s106_289, s106_291, s106_292, s106_295, s106_297, s106_298, s106_299, s106_301, s106_302, s106_303, s106_304, s106_306, s106_307, s106_308, s106_311, s106_312, s106_315, s106_316, s106_318, s106_321, s106_324, s106_326, s106_327, s106_328, s106_330, s106_331, s106_334, s106_336, s106_337, s106_340, s106_342, s106_343, s106_344, s106_345, s106_346, s106_348, s106_349, s106_350, s106_351, s106_353, s106_354, s106_357, s106_360, zcs_0, zcs_1, zcs_2, zcs_3, zcs_4, zcs_5, zcs_6, zcs_7, znl_i, znl_r, znl_n, Bool.and_true, Bool.true_and, zk_v, zk_n, zk_x, zir_r, zir_n, zclr_i, zclr_r, zclr_n, zclr_d, zclr_l, true_and, and_true, and_self, if_true, if_false, reduceIte, nI_add, pk_mul, zin_ok, zx_nI, nI_lt2, nI_le2, nI_eq2, nI_l0, nI_g0, nI_q0, nI_p0, nI_n0, nI_m1, Nat.add_zero, Nat.zero_add, Nat.reduceAdd, Nat.reduceMul, true_or, or_true, znar_50, bI_0, bI_1, bI_z, bft, nI_z0, nI_z1, lgc_lt, lgc_gt, lgc_le, lgc_ge, lgc_eq, not_true_eq_false, not_false_eq_true, Bool.not_eq_true, Bool.not_eq_false, reduceCtorEq, hne, sbs_iff, hsA, pk_m1]
      refine ih f _ _ _ (by omega) (fun S h1 h2 h3 h4 k hk => ?_)
      by_cases e : S = s + 1
      · subst e; exact absurd h4 hsA
      · exact hf S (by omega) h2 h3 h4 k hk
theorem xor_ne {A R : Nat} (h : ¬ R = 0) : ¬ A ^^^ R = A := by
  intro e
  obtain ⟨i, hi⟩ := ne0_tb h
  have k : (A ^^^ R).testBit i = A.testBit i := by rw [e]
  rw [Nat.testBit_xor, hi] at k
  cases h1 : A.testBit i <;> simp [h1] at k
theorem xor_or {A R j : Nat} (hj : R.testBit j = true) (hA : A.testBit j = true) : (A ^^^ R) ||| 2 ^ j = A ^^^ (R - 2 ^ j) := by
  apply Nat.eq_of_testBit_eq
  intro i
  rw [Nat.testBit_or, Nat.testBit_xor, Nat.testBit_xor, tb_sub hj, Nat.testBit_two_pow]
  by_cases c : i = j
  · subst c; simp [hA]
  · have c2 : ¬ j = i := fun q => c q.symm
    simp [c, c2]
theorem xor_xor {A R : Nat} : A ^^^ (A ^^^ R) = R := by
  apply Nat.eq_of_testBit_eq
  intro i
  rw [Nat.testBit_xor, Nat.testBit_xor]
  cases A.testBit i <;> cases R.testBit i <;> rfl
theorem sub_xor {A R : Nat} (h : ∀ k, R.testBit k = true → A.testBit k = true) : (A ^^^ R) &&& A = A ^^^ R := by
  apply Nat.eq_of_testBit_eq
  intro i
  rw [Nat.testBit_and, Nat.testBit_xor]
  have := h i
  cases h1 : A.testBit i <;> cases h2 : R.testBit i <;> simp [h1, h2] at this ⊢
/-- while the row is made -/
def cJ (z : ZH) (ha : Nat → Nat) (a dy : Nat) (hs : Nat → Nat) (n : Nat) (f : Nat → Int32) (i : Nat) (rr : Nat → Nat) (z3 : ZH) : Prop := cFr z z3 ∧ aL z3 ha a dy hs n ∧ zia z3 125 = f ∧ (∀ k, k < i → zia z3 126 k = nI (rr k))
theorem c106b (h : NW B z v L t hl kn rl ha ra da ea) (nB : ∀ q, B q → ¬ (122 ≤ q ∧ q ≤ 130)) (hT : wT v) (hv : ∀ i, v i < 1073741824) (hWD : wD v) (hA : aL z ha a dy hs n) (hO : lOK v hs n) (hav : a < v 0) (hdy : dy < 1000) {A bo : Nat} (hAn : A < 2 ^ n) (hbo : bo ≤ 180) (hg : gP v (rdC v a) dy hs n a 0 A = bo) (hf : lateI v (rdC v a) dy hs n A bo 1 (zia z 125))
    (H : ∀ z2, cFr z z2 → (∀ i, i < cntB A n → zia z2 126 i = nI (rRow v (rdC v a) dy hs n bo a A i)) → Q (.inl none) z2) (x2 x3 x4 x5 : Value) : ZW zG (d + 3) 106 187 [.ref 122, .int (nI A), x2, x3, x4, x5, zdum, zdum, zdum] [] z Q := by
  have hn10 := hO.1
  obtain ⟨hN, hN0⟩ := pow10 hO.1
  have hb : bo < 100000 := by omega
  have hok := rSt_ok (v := v) (c := rdC v a) (dy := dy) (hs := hs) (p := a) hb (fun i hi => tb_lt hAn hi) hg
  have hcl := cntB_le A n
  have key := zl_inv (P := fun i (w : ZH × Value × Value × Value × Value) => ZW zG (d + 3) 106 197 [.ref 122, .int (nI A), .int (nI (A ^^^ (rSt v (rdC v a) dy hs n bo a A i).2.2)), .int (nI (rSt v (rdC v a) dy hs n bo a A i).2.1), w.2.1, .int (nI i), w.2.2.1, w.2.2.2.1, w.2.2.2.2] [] w.1 Q) (I := fun i w => cJ z ha a dy hs n (zia z 125) i (rRow v (rdC v a) dy hs n bo a A) w.1 ∧ ((w.2.1 = .int (-1) ∧ (rSt v (rdC v a) dy hs n bo a A i).1 = a) ∨ ∃ q, q < n ∧ w.2.1 = .int (nI q) ∧ (rSt v (rdC v a) dy hs n bo a A i).1 = hs q)) (cntB A n) (by
    rintro ⟨z3, x4, x6, x7, x8⟩ ⟨⟨i1, i2, i3, i4⟩, _⟩
    obtain ⟨o1, o2, o3, o4, o5, o6⟩ := hok (cntB A n) (Nat.le_refl _)
    have hz := o6 rfl
    refine Eq.mpr s106_197 ?_
    simp (disch := omega) only [s106_0, s106_1, s106_4, s106_5, s106_6, s106_7, s106_10, s106_11, s106_12, s106_13, s106_15, s106_18, s106_19, s106_20, s106_21, s106_22, s106_23, s106_26, s106_29, s106_30, s106_32, s106_33, s106_36, s106_39, s106_40, s106_41, s106_44, s106_45, s106_48, s106_51, s106_52, s106_54, s106_55, s106_59, s106_60, s106_63, s106_66, s106_67, s106_69, s106_72, s106_75, s106_76, s106_78, s106_81, s106_84, s106_85, s106_88, s106_90, s106_91, s106_92, s106_94, s106_95, s106_96, s106_97, s106_99, s106_100, s106_101, s106_104, s106_107, s106_109, s106_110, s106_111, s106_114, s106_116, s106_117, s106_118, s106_120, s106_121, s106_122, s106_123, s106_125, s106_126, s106_127, s106_128, s106_129, s106_132, s106_133, s106_135, s106_138, s106_141, s106_142, s106_145, s106_147, s106_148, s106_151, s106_154, s106_156, s106_159, s106_162, s106_163, s106_166, s106_168, s106_169, s106_170, s106_171, s106_172, s106_174, s106_175, s106_178, s106_181, s106_184, s106_188, s106_189, s106_190, s106_191, s106_192, s106_194, s106_195, s106_198, s106_199, s106_202, s106_203, s106_205, s106_207, s106_209, s106_210, s106_214, s106_217, s106_218, s106_220, s106_223, s106_226, s106_227, s106_229, s106_232, s106_235, s106_238, s106_239, s106_240, s106_242, s106_243, s106_246, s106_247, s106_250, s106_251, s106_253, s106_256, s106_259, s106_262, s106_263, s106_265, s106_268, s106_269, s106_271, s106_274, s106_277, s106_278, s106_281, s106_283, s106_284, s106_287, s106_289, s106_291, s106_292, s106_295, s106_297, s106_298, s106_299, s106_301, s106_302, s106_303, s106_304, s106_306, s106_307, s106_308, s106_311, s106_312, s106_315, s106_316, s106_318, s106_321, s106_324, s106_326, s106_327, s106_328, s106_330, s106_331, s106_334, s106_336, s106_337, s106_340, s106_342, s106_343, s106_344, s106_345, s106_346, s106_348, s106_349, s106_350, s106_351, s106_353, s106_354, s106_357, s106_360, zcs_0, zcs_1, zcs_2, zcs_3, zcs_4, zcs_5, zcs_6, zcs_7, znl_i, znl_r, znl_n, Bool.and_true, Bool.true_and, zk_v, zk_n, zk_x, zir_r, zir_n, zclr_i, zclr_r, zclr_n, zclr_d, zclr_l, true_and, and_true, and_self, if_true, if_false, reduceIte, nI_add, pk_mul, zin_ok, zx_nI, nI_lt2, nI_le2, nI_eq2, nI_l0, nI_g0, nI_q0, nI_p0, nI_n0, nI_m1, Nat.add_zero, Nat.zero_add, Nat.reduceAdd, Nat.reduceMul, true_or, or_true, znar_50, bI_0, bI_1, bI_z, bft, nI_z0, nI_z1, lgc_lt, lgc_gt, lgc_le, lgc_ge, lgc_eq, not_true_eq_false, not_false_eq_true, Bool.not_eq_true, Bool.not_eq_false, reduceCtorEq, hz, Nat.xor_zero, eq_self]
    exact H z3 i1 i4) (by
    rintro i ⟨z3, x4, x6, x7, x8⟩ hi ⟨hJ, hlast⟩ hnext
    dsimp only at hJ hlast
    obtain ⟨o1, o2, o3, o4, o5, o6⟩ := hok i (by omega)
    have hR0 := o5 hi
    have hn2 : ∀ k, (rSt v (rdC v a) dy hs n bo a A i).2.2.testBit k = true → k < n := fun k hk => tb_lt hAn (o3 k hk)
    obtain ⟨j1, j2, j3, j4, j5⟩ := rNx_ok hb hn2 hR0 o2
    have e1 : (rSt v (rdC v a) dy hs n bo a A (i + 1)).1 = hs (rNx v (rdC v a) dy hs n bo (rSt v (rdC v a) dy hs n bo a A i).1 (rSt v (rdC v a) dy hs n bo a A i).2.1 (rSt v (rdC v a) dy hs n bo a A i).2.2) := rfl
    have e2 : (rSt v (rdC v a) dy hs n bo a A (i + 1)).2.1 = rA v (rdC v a) dy hs (rNx v (rdC v a) dy hs n bo (rSt v (rdC v a) dy hs n bo a A i).1 (rSt v (rdC v a) dy hs n bo a A i).2.1 (rSt v (rdC v a) dy hs n bo a A i).2.2) ((rSt v (rdC v a) dy hs n bo a A i).2.1 + dD v (rSt v (rdC v a) dy hs n bo a A i).1 (hs (rNx v (rdC v a) dy hs n bo (rSt v (rdC v a) dy hs n bo a A i).1 (rSt v (rdC v a) dy hs n bo a A i).2.1 (rSt v (rdC v a) dy hs n bo a A i).2.2))) := rfl
    have e3 : (rSt v (rdC v a) dy hs n bo a A (i + 1)).2.2 = (rSt v (rdC v a) dy hs n bo a A i).2.2 - 2 ^ rNx v (rdC v a) dy hs n bo (rSt v (rdC v a) dy hs n bo a A i).1 (rSt v (rdC v a) dy hs n bo a A i).2.1 (rSt v (rdC v a) dy hs n bo a A i).2.2 := rfl
    have e4 : rRow v (rdC v a) dy hs n bo a A i = hs (rNx v (rdC v a) dy hs n bo (rSt v (rdC v a) dy hs n bo a A i).1 (rSt v (rdC v a) dy hs n bo a A i).2.1 (rSt v (rdC v a) dy hs n bo a A i).2.2) := rfl
    replace hnext := fun z4 x4 x6 x7 x8 h => hnext (z4, x4, x6, x7, x8) h
    dsimp only at hnext
    rw [e1, e2, e3] at hnext
    generalize (rSt v (rdC v a) dy hs n bo a A i).1 = pl at *
    generalize (rSt v (rdC v a) dy hs n bo a A i).2.1 = u at *
    generalize (rSt v (rdC v a) dy hs n bo a A i).2.2 = R at *
    generalize rNx v (rdC v a) dy hs n bo pl u R = j at *
    obtain ⟨i1, i2, i3, i4⟩ := hJ
    have hN3 := NW_cFr h nB i1
    have c0 := hN3.1
    unfold CS at c0
    have a4 := i2.1
    have a9 := i2.2.2.2.1
    have hRA : A ^^^ R < 2 ^ n := Nat.xor_lt_two_pow hAn (Nat.lt_pow_two_of_testBit R (fun q hq => by
      cases hx : R.testBit q with
      | false => rfl
      | true => exact absurd (hn2 q hx) (by omega)))
    have hxn := xor_ne (A := A) hR0
    have hplv : pl < v 0 := by
      rcases hlast with ⟨_, q⟩ | ⟨q, q1, _, q2⟩
      · rw [q]; exact hav
      · rw [q2]; exact hO.2 q q1
    obtain ⟨_, fp1, _⟩ := hN3.2.2.1.fld hplv
    -- one house tried
    have try1 : ∀ k, k < n → R.testBit k = true → ∀ x7 x8, ∀ x8' : Int32, x8' = (if gP v (rdC v a) dy hs n (hs k) (rA v (rdC v a) dy hs k (u + dD v pl (hs k))) (R - 2 ^ k) ≤ bo then nI 1 else nI 0) → ZW zG (d + 3) 106 212 [.ref 122, .int (nI A), .int (nI (A ^^^ R)), .int (nI u), x4, .int (nI i), .int (nI (k + 1)), .int (nI (rA v (rdC v a) dy hs k (u + dD v pl (hs k)))), .int x8'] [] z3 Q → x8 = .int (nI 0) → ZW zG (d + 3) 106 212 [.ref 122, .int (nI A), .int (nI (A ^^^ R)), .int (nI u), x4, .int (nI i), .int (nI k), x7, x8] [] z3 Q := by
      rintro k hk hbk x7 _ x8' hx8 hgo rfl
      have hbA := o3 k hbk
      have hbS : (A ^^^ R).testBit k = false := by rw [Nat.testBit_xor, hbA, hbk]; rfl
      have ho := or_add2 hbS
      have hpk := Nat.two_pow_pos k
      have hlt : (A ^^^ R) + 2 ^ k < 2 ^ n := by
        rw [← ho]
        exact Nat.or_lt_two_pow hRA (Nat.pow_lt_pow_right (by omega) hk)
      obtain ⟨y, ⟨y1, y2⟩, y3, y4⟩ := hf ((A ^^^ R) + 2 ^ k) (by omega) hlt (by omega) (by rw [← ho]; exact sub_or hbA (sub_xor o3)) k hk
      rw [← ho, xor_sub hbA hbS, xor_xor] at y4
      rw [← i3] at y3
      have hq1 := hO.2 k hk
      have b1 := i2.2.2.2.2 k hk
      have hd2 := dD_le hT hplv hq1
      have ck := fun d Q => c99 (d := d) (Q := Q) hN3 (show k < 10 by omega) b1 hq1
      have cf := fun d Q => c248 (d := d) (Q := Q) hv hN3.2.2.1 hplv hq1
      have ca := fun d Q => c100 (d := d) (Q := Q) hN3 hT hWD (a := a) (dy := dy) i2.2.2.1 i2.2.1 hdy (u := u) (f := dD v pl (hs k)) (k := hs k) hq1 (by omega) (by omega)
      obtain ⟨_, fk1, _⟩ := hN3.2.2.1.fld hq1
      have hy0 : aA v (rdC v a (hs k)) dy (hs k) (u + dD v pl (hs k)) = rA v (rdC v a) dy hs k (u + dD v pl (hs k)) := rfl
      rw [hy0] at ca
      have haF : rA v (rdC v a) dy hs k (u + dD v pl (hs k)) ≤ 100000 := rA_OK.2.1 _ _
      have l5 := y4 (rA v (rdC v a) dy hs k (u + dD v pl (hs k)))
      generalize rA v (rdC v a) dy hs k (u + dD v pl (hs k)) = Y at *
      refine Eq.mpr s106_212 ?_
      by_cases hc : gP v (rdC v a) dy hs n (hs k) Y (R - 2 ^ k) ≤ bo
      · have hyY : ¬ y < (Y : Int) := by have := l5.mpr hc; omega
        rw [if_pos hc] at hx8
        subst hx8
        rcases hlast with ⟨rfl, rfl⟩ | ⟨q, q1, rfl, rfl⟩
        · simp (disch := omega) only [s106_0, s106_1, s106_4, s106_5, s106_6, s106_7, s106_10, s106_11, s106_12, s106_13, s106_15, s106_18, s106_19, s106_20, s106_21, s106_22, s106_23, s106_26, s106_29, s106_30, s106_32, s106_33, s106_36, s106_39, s106_40, s106_41, s106_44, s106_45, s106_48, s106_51, s106_52, s106_54, s106_55, s106_59, s106_60, s106_63, s106_66, s106_67, s106_69, s106_72, s106_75, s106_76, s106_78, s106_81, s106_84, s106_85, s106_88, s106_90, s106_91, s106_92, s106_94, s106_95, s106_96, s106_97, s106_99, s106_100, s106_101, s106_104, s106_107, s106_109, s106_110, s106_111, s106_114, s106_116, s106_117, s106_118, s106_120, s106_121, s106_122, s106_123, s106_125, s106_126, s106_127, s106_128, s106_129, s106_132, s106_133, s106_135, s106_138, s106_141, s106_142, s106_145, s106_147, s106_148, s106_151, s106_154, s106_156, s106_159, s106_162, s106_163, s106_166, s106_168, s106_169, s106_170, s106_171, s106_172, s106_174, s106_175, s106_178, s106_181, s106_184, s106_188, s106_189, s106_190, s106_191, s106_192, s106_194, s106_195, s106_198, s106_199, s106_202, s106_203, s106_205, s106_207, s106_209, s106_210, s106_214, s106_217, s106_218, s106_220, s106_223, s106_226, s106_227, s106_229, s106_232, s106_235, s106_238, s106_239, s106_240, s106_242, s106_243, s106_246, s106_247, s106_250, s106_251, s106_253, s106_256, s106_259, s106_262, s106_263, s106_265, s106_268, s106_269, s106_271, s106_274, s106_277, s106_278, s106_281, s106_283, s106_284, s106_287, s106_289, s106_291, s106_292, s106_295, s106_297, s106_298, s106_299, s106_301, s106_302, s106_303, s106_304, s106_306, s106_307, s106_308, s106_311, s106_312, s106_315, s106_316, s106_318, s106_321, s106_324, s106_326, s106_327, s106_328, s106_330, s106_331, s106_334, s106_336, s106_337, s106_340, s106_342, s106_343, s106_344, s106_345, s106_346, s106_348, s106_349, s106_350, s106_351, s106_353, s106_354, s106_357, s106_360, zcs_0, zcs_1, zcs_2, zcs_3, zcs_4, zcs_5, zcs_6, zcs_7, znl_i, znl_r, znl_n, Bool.and_true, Bool.true_and, zk_v, zk_n, zk_x, zir_r, zir_n, zclr_i, zclr_r, zclr_n, zclr_d, zclr_l, true_and, and_true, and_self, if_true, if_false, reduceIte, nI_add, pk_mul, zin_ok, zx_nI, nI_lt2, nI_le2, nI_eq2, nI_l0, nI_g0, nI_q0, nI_p0, nI_n0, nI_m1, Nat.add_zero, Nat.zero_add, Nat.reduceAdd, Nat.reduceMul, true_or, or_true, znar_50, bI_0, bI_1, bI_z, bft, nI_z0, nI_z1, lgc_lt, lgc_gt, lgc_le, lgc_ge, lgc_eq, not_true_eq_false, not_false_eq_true, Bool.not_eq_true, Bool.not_eq_false, reduceCtorEq, c0, a4, a9, c18, hasI_n, hbA, hbS, eq_self, nI_sh1, nI_or, ho, y3, ck, cf, b1, ca, fk1, fp1, iI_lt_nI, hyY]
          exact hgo
        · have b2 := i2.2.2.2.2 q q1
          have cq := fun d Q => c99 (d := d) (Q := Q) hN3 (show q < 10 by omega) b2 hplv
          simp (disch := omega) only [s106_0, s106_1, s106_4, s106_5, s106_6, s106_7, s106_10, s106_11, s106_12, s106_13, s106_15, s106_18, s106_19, s106_20, s106_21, s106_22, s106_23, s106_26, s106_29, s106_30, s106_32, s106_33, s106_36, s106_39, s106_40, s106_41, s106_44, s106_45, s106_48, s106_51, s106_52, s106_54, s106_55, s106_59, s106_60, s106_63, s106_66, s106_67, s106_69, s106_72, s106_75, s106_76, s106_78, s106_81, s106_84, s106_85, s106_88, s106_90, s106_91, s106_92, s106_94, s106_95, s106_96, s106_97, s106_99, s106_100, s106_101, s106_104, s106_107, s106_109, s106_110, s106_111, s106_114, s106_116, s106_117, s106_118, s106_120, s106_121, s106_122, s106_123, s106_125, s106_126, s106_127, s106_128, s106_129, s106_132, s106_133, s106_135, s106_138, s106_141, s106_142, s106_145, s106_147, s106_148, s106_151, s106_154, s106_156, s106_159, s106_162, s106_163, s106_166, s106_168, s106_169, s106_170, s106_171, s106_172, s106_174, s106_175, s106_178, s106_181, s106_184, s106_188, s106_189, s106_190, s106_191, s106_192, s106_194, s106_195, s106_198, s106_199, s106_202, s106_203, s106_205, s106_207, s106_209, s106_210, s106_214, s106_217, s106_218, s106_220, s106_223, s106_226, s106_227, s106_229, s106_232, s106_235, s106_238, s106_239, s106_240, s106_242, s106_243, s106_246, s106_247, s106_250, s106_251, s106_253, s106_256, s106_259, s106_262, s106_263, s106_265, s106_268, s106_269, s106_271, s106_274, s106_277, s106_278, s106_281, s106_283, s106_284, s106_287, s106_289, s106_291, s106_292, s106_295, s106_297, s106_298, s106_299, s106_301, s106_302, s106_303, s106_304, s106_306, s106_307, s106_308, s106_311, s106_312, s106_315, s106_316, s106_318, s106_321, s106_324, s106_326, s106_327, s106_328, s106_330, s106_331, s106_334, s106_336, s106_337, s106_340, s106_342, s106_343, s106_344, s106_345, s106_346, s106_348, s106_349, s106_350, s106_351, s106_353, s106_354, s106_357, s106_360, zcs_0, zcs_1, zcs_2, zcs_3, zcs_4, zcs_5, zcs_6, zcs_7, znl_i, znl_r, znl_n, Bool.and_true, Bool.true_and, zk_v, zk_n, zk_x, zir_r, zir_n, zclr_i, zclr_r, zclr_n, zclr_d, zclr_l, true_and, and_true, and_self, if_true, if_false, reduceIte, nI_add, pk_mul, zin_ok, zx_nI, nI_lt2, nI_le2, nI_eq2, nI_l0, nI_g0, nI_q0, nI_p0, nI_n0, nI_m1, Nat.add_zero, Nat.zero_add, Nat.reduceAdd, Nat.reduceMul, true_or, or_true, znar_50, bI_0, bI_1, bI_z, bft, nI_z0, nI_z1, lgc_lt, lgc_gt, lgc_le, lgc_ge, lgc_eq, not_true_eq_false, not_false_eq_true, Bool.not_eq_true, Bool.not_eq_false, reduceCtorEq, c0, a4, a9, c18, hasI_n, hbA, hbS, eq_self, nI_sh1, nI_or, ho, y3, ck, cq, cf, b1, ca, fk1, fp1, iI_lt_nI, hyY]
          exact hgo
      · have hyY : y < (Y : Int) := by
          by_cases e : (Y : Int) ≤ y
          · exact absurd (l5.mp e) hc
          · omega
        rw [if_neg hc] at hx8
        subst hx8
        rcases hlast with ⟨rfl, rfl⟩ | ⟨q, q1, rfl, rfl⟩
        · simp (disch := omega) only [s106_0, s106_1, s106_4, s106_5, s106_6, s106_7, s106_10, s106_11, s106_12, s106_13, s106_15, s106_18, s106_19, s106_20, s106_21, s106_22, s106_23, s106_26, s106_29, s106_30, s106_32, s106_33, s106_36, s106_39, s106_40, s106_41, s106_44, s106_45, s106_48, s106_51, s106_52, s106_54, s106_55, s106_59, s106_60, s106_63, s106_66, s106_67, s106_69, s106_72, s106_75, s106_76, s106_78, s106_81, s106_84, s106_85, s106_88, s106_90, s106_91, s106_92, s106_94, s106_95, s106_96, s106_97, s106_99, s106_100, s106_101, s106_104, s106_107, s106_109, s106_110, s106_111, s106_114, s106_116, s106_117, s106_118, s106_120, s106_121, s106_122, s106_123, s106_125, s106_126, s106_127, s106_128, s106_129, s106_132, s106_133, s106_135, s106_138, s106_141, s106_142, s106_145, s106_147, s106_148, s106_151, s106_154, s106_156, s106_159, s106_162, s106_163, s106_166, s106_168, s106_169, s106_170, s106_171, s106_172, s106_174, s106_175, s106_178, s106_181, s106_184, s106_188, s106_189, s106_190, s106_191, s106_192, s106_194, s106_195, s106_198, s106_199, s106_202, s106_203, s106_205, s106_207, s106_209, s106_210, s106_214, s106_217, s106_218, s106_220, s106_223, s106_226, s106_227, s106_229, s106_232, s106_235, s106_238, s106_239, s106_240, s106_242, s106_243, s106_246, s106_247, s106_250, s106_251, s106_253, s106_256, s106_259, s106_262, s106_263, s106_265, s106_268, s106_269, s106_271, s106_274, s106_277, s106_278, s106_281, s106_283, s106_284, s106_287, s106_289, s106_291, s106_292, s106_295, s106_297, s106_298, s106_299, s106_301, s106_302, s106_303, s106_304, s106_306, s106_307, s106_308, s106_311, s106_312, s106_315, s106_316, s106_318, s106_321, s106_324, s106_326, s106_327, s106_328, s106_330, s106_331, s106_334, s106_336, s106_337, s106_340, s106_342, s106_343, s106_344, s106_345, s106_346, s106_348, s106_349, s106_350, s106_351, s106_353, s106_354, s106_357, s106_360, zcs_0, zcs_1, zcs_2, zcs_3, zcs_4, zcs_5, zcs_6, zcs_7, znl_i, znl_r, znl_n, Bool.and_true, Bool.true_and, zk_v, zk_n, zk_x, zir_r, zir_n, zclr_i, zclr_r, zclr_n, zclr_d, zclr_l, true_and, and_true, and_self, if_true, if_false, reduceIte, nI_add, pk_mul, zin_ok, zx_nI, nI_lt2, nI_le2, nI_eq2, nI_l0, nI_g0, nI_q0, nI_p0, nI_n0, nI_m1, Nat.add_zero, Nat.zero_add, Nat.reduceAdd, Nat.reduceMul, true_or, or_true, znar_50, bI_0, bI_1, bI_z, bft, nI_z0, nI_z1, lgc_lt, lgc_gt, lgc_le, lgc_ge, lgc_eq, not_true_eq_false, not_false_eq_true, Bool.not_eq_true, Bool.not_eq_false, reduceCtorEq, c0, a4, a9, c18, hasI_n, hbA, hbS, eq_self, nI_sh1, nI_or, ho, y3, ck, cf, b1, ca, fk1, fp1, iI_lt_nI, hyY]
          exact hgo
        · have b2 := i2.2.2.2.2 q q1
          have cq := fun d Q => c99 (d := d) (Q := Q) hN3 (show q < 10 by omega) b2 hplv
          simp (disch := omega) only [s106_0, s106_1, s106_4, s106_5, s106_6, s106_7, s106_10, s106_11, s106_12, s106_13, s106_15, s106_18, s106_19, s106_20, s106_21, s106_22, s106_23, s106_26, s106_29, s106_30, s106_32, s106_33, s106_36, s106_39, s106_40, s106_41, s106_44, s106_45, s106_48, s106_51, s106_52, s106_54, s106_55, s106_59, s106_60, s106_63, s106_66, s106_67, s106_69, s106_72, s106_75, s106_76, s106_78, s106_81, s106_84, s106_85, s106_88, s106_90, s106_91, s106_92, s106_94, s106_95, s106_96, s106_97, s106_99, s106_100, s106_101, s106_104, s106_107, s106_109, s106_110, s106_111, s106_114, s106_116, s106_117, s106_118, s106_120, s106_121, s106_122, s106_123, s106_125, s106_126, s106_127, s106_128, s106_129, s106_132, s106_133, s106_135, s106_138, s106_141, s106_142, s106_145, s106_147, s106_148, s106_151, s106_154, s106_156, s106_159, s106_162, s106_163, s106_166, s106_168, s106_169, s106_170, s106_171, s106_172, s106_174, s106_175, s106_178, s106_181, s106_184, s106_188, s106_189, s106_190, s106_191, s106_192, s106_194, s106_195, s106_198, s106_199, s106_202, s106_203, s106_205, s106_207, s106_209, s106_210, s106_214, s106_217, s106_218, s106_220, s106_223, s106_226, s106_227, s106_229, s106_232, s106_235, s106_238, s106_239, s106_240, s106_242, s106_243, s106_246, s106_247, s106_250, s106_251, s106_253, s106_256, s106_259, s106_262, s106_263, s106_265, s106_268, s106_269, s106_271, s106_274, s106_277, s106_278, s106_281, s106_283, s106_284, s106_287, s106_289, s106_291, s106_292, s106_295, s106_297, s106_298, s106_299, s106_301, s106_302, s106_303, s106_304, s106_306, s106_307, s106_308, s106_311, s106_312, s106_315, s106_316, s106_318, s106_321, s106_324, s106_326, s106_327, s106_328, s106_330, s106_331, s106_334, s106_336, s106_337, s106_340, s106_342, s106_343, s106_344, s106_345, s106_346, s106_348, s106_349, s106_350, s106_351, s106_353, s106_354, s106_357, s106_360, zcs_0, zcs_1, zcs_2, zcs_3, zcs_4, zcs_5, zcs_6, zcs_7, znl_i, znl_r, znl_n, Bool.and_true, Bool.true_and, zk_v, zk_n, zk_x, zir_r, zir_n, zclr_i, zclr_r, zclr_n, zclr_d, zclr_l, true_and, and_true, and_self, if_true, if_false, reduceIte, nI_add, pk_mul, zin_ok, zx_nI, nI_lt2, nI_le2, nI_eq2, nI_l0, nI_g0, nI_q0, nI_p0, nI_n0, nI_m1, Nat.add_zero, Nat.zero_add, Nat.reduceAdd, Nat.reduceMul, true_or, or_true, znar_50, bI_0, bI_1, bI_z, bft, nI_z0, nI_z1, lgc_lt, lgc_gt, lgc_le, lgc_ge, lgc_eq, not_true_eq_false, not_false_eq_true, Bool.not_eq_true, Bool.not_eq_false, reduceCtorEq, c0, a4, a9, c18, hasI_n, hbA, hbS, eq_self, nI_sh1, nI_or, ho, y3, ck, cq, cf, b1, ca, fk1, fp1, iI_lt_nI, hyY]
          exact hgo
    refine Eq.mpr s106_197 ?_
    simp (disch := omega) only [s106_0, s106_1, s106_4, s106_5, s106_6, s106_7, s106_10, s106_11, s106_12, s106_13, s106_15, s106_18, s106_19, s106_20, s106_21, s106_22, s106_23, s106_26, s106_29, s106_30, s106_32, s106_33, s106_36, s106_39, s106_40, s106_41, s106_44, s106_45, s106_48, s106_51, s106_52, s106_54, s106_55, s106_59, s106_60, s106_63, s106_66, s106_67, s106_69, s106_72, s106_75, s106_76, s106_78, s106_81, s106_84, s106_85, s106_88, s106_90, s106_91, s106_92, s106_94, s106_95, s106_96, s106_97, s106_99, s106_100, s106_101, s106_104, s106_107, s106_109, s106_110, s106_111, s106_114, s106_116, s106_117, s106_118, s106_120, s106_121, s106_122, s106_123, s106_125, s106_126, s106_127, s106_128, s106_129, s106_132, s106_133, s106_135, s106_138, s106_141, s106_142, s106_145, s106_147, s106_148, s106_151, s106_154, s106_156, s106_159, s106_162, s106_163, s106_166, s106_168, s106_169, s106_170, s106_171, s106_172, s106_174, s106_175, s106_178, s106_181, s106_184, s106_188, s106_189, s106_190, s106_191, s106_192, s106_194, s106_195, s106_198, s106_199, s106_202, s106_203, s106_205, s106_207, s106_209, s106_210, s106_214, s106_217, s106_218, s106_220, s106_223, s106_226, s106_227, s106_229, s106_232, s106_235, s106_238, s106_239, s106_240, s106_242, s106_243, s106_246, s106_247, s106_250, s106_251, s106_253, s106_256, s106_259, s106_262, s106_263, s106_265, s106_268, s106_269, s106_271, s106_274, s106_277, s106_278, s106_281, s106_283, s106_284, s106_287, s106_289, s106_291, s106_292, s106_295, s106_297, s106_298, s106_299, s106_301, s106_302, s106_303, s106_304, s106_306, s106_307, s106_308, s106_311, s106_312, s106_315, s106_316, s106_318, s106_321, s106_324, s106_326, s106_327, s106_328, s106_330, s106_331, s106_334, s106_336, s106_337, s106_340, s106_342, s106_343, s106_344, s106_345, s106_346, s106_348, s106_349, s106_350, s106_351, s106_353, s106_354, s106_357, s106_360, zcs_0, zcs_1, zcs_2, zcs_3, zcs_4, zcs_5, zcs_6, zcs_7, znl_i, znl_r, znl_n, Bool.and_true, Bool.true_and, zk_v, zk_n, zk_x, zir_r, zir_n, zclr_i, zclr_r, zclr_n, zclr_d, zclr_l, true_and, and_true, and_self, if_true, if_false, reduceIte, nI_add, pk_mul, zin_ok, zx_nI, nI_lt2, nI_le2, nI_eq2, nI_l0, nI_g0, nI_q0, nI_p0, nI_n0, nI_m1, Nat.add_zero, Nat.zero_add, Nat.reduceAdd, Nat.reduceMul, true_or, or_true, znar_50, bI_0, bI_1, bI_z, bft, nI_z0, nI_z1, lgc_lt, lgc_gt, lgc_le, lgc_ge, lgc_eq, not_true_eq_false, not_false_eq_true, Bool.not_eq_true, Bool.not_eq_false, reduceCtorEq, hxn]
    have inner := zl_inv (P := fun k (w : Value) => ZW zG (d + 3) 106 212 [.ref 122, .int (nI A), .int (nI (A ^^^ R)), .int (nI u), x4, .int (nI i), .int (nI k), w, .int (nI 0)] [] z3 Q) (I := fun _ _ => True) j (by
      intro w _
      refine try1 j j1 j2 w _ (nI 1) (if_pos (Nat.le_of_eq j3)).symm ?_ rfl
      have b1 := i2.2.2.2.2 j j1
      refine Eq.mpr s106_212 ?_
      simp (disch := omega) only [s106_0, s106_1, s106_4, s106_5, s106_6, s106_7, s106_10, s106_11, s106_12, s106_13, s106_15, s106_18, s106_19, s106_20, s106_21, s106_22, s106_23, s106_26, s106_29, s106_30, s106_32, s106_33, s106_36, s106_39, s106_40, s106_41, s106_44, s106_45, s106_48, s106_51, s106_52, s106_54, s106_55, s106_59, s106_60, s106_63, s106_66, s106_67, s106_69, s106_72, s106_75, s106_76, s106_78, s106_81, s106_84, s106_85, s106_88, s106_90, s106_91, s106_92, s106_94, s106_95, s106_96, s106_97, s106_99, s106_100, s106_101, s106_104, s106_107, s106_109, s106_110, s106_111, s106_114, s106_116, s106_117, s106_118, s106_120, s106_121, s106_122, s106_123, s106_125, s106_126, s106_127, s106_128, s106_129, s106_132, s106_133, s106_135, s106_138, s106_141, s106_142, s106_145, s106_147, s106_148, s106_151, s106_154, s106_156, s106_159, s106_162, s106_163, s106_166, s106_168, s106_169, s106_170, s106_171, s106_172, s106_174, s106_175, s106_178, s106_181, s106_184, s106_188, s106_189, s106_190, s106_191, s106_192, s106_194, s106_195, s106_198, s106_199, s106_202, s106_203, s106_205, s106_207, s106_209, s106_210, s106_214, s106_217, s106_218, s106_220, s106_223, s106_226, s106_227, s106_229, s106_232, s106_235, s106_238, s106_239, s106_240, s106_242, s106_243, s106_246, s106_247, s106_250, s106_251, s106_253, s106_256, s106_259, s106_262, s106_263, s106_265, s106_268, s106_269, s106_271, s106_274, s106_277, s106_278, s106_281, s106_283, s106_284, s106_287, s106_289, s106_291, s106_292, s106_295, s106_297, s106_298, s106_299, s106_301, s106_302, s106_303, s106_304, s106_306, s106_307, s106_308, s106_311, s106_312, s106_315, s106_316, s106_318, s106_321, s106_324, s106_326, s106_327, s106_328, s106_330, s106_331, s106_334, s106_336, s106_337, s106_340, s106_342, s106_343, s106_344, s106_345, s106_346, s106_348, s106_349, s106_350, s106_351, s106_353, s106_354, s106_357, s106_360, zcs_0, zcs_1, zcs_2, zcs_3, zcs_4, zcs_5, zcs_6, zcs_7, znl_i, znl_r, znl_n, Bool.and_true, Bool.true_and, zk_v, zk_n, zk_x, zir_r, zir_n, zclr_i, zclr_r, zclr_n, zclr_d, zclr_l, true_and, and_true, and_self, if_true, if_false, reduceIte, nI_add, pk_mul, zin_ok, zx_nI, nI_lt2, nI_le2, nI_eq2, nI_l0, nI_g0, nI_q0, nI_p0, nI_n0, nI_m1, Nat.add_zero, Nat.zero_add, Nat.reduceAdd, Nat.reduceMul, true_or, or_true, znar_50, bI_0, bI_1, bI_z, bft, nI_z0, nI_z1, lgc_lt, lgc_gt, lgc_le, lgc_ge, lgc_eq, not_true_eq_false, not_false_eq_true, Bool.not_eq_true, Bool.not_eq_false, reduceCtorEq, c0, pk_sub, Nat.add_sub_cancel, b1, nI_sh1, nI_or, xor_or j2 (o3 j j2), nI_e1]
      refine hnext _ _ _ _ _ ⟨⟨cFr_sia i1 (by omega) _ _, ⟨i2.1, i2.2.1, i2.2.2.1, i2.2.2.2.1, fun k hk => ?_⟩, ?_, fun k hk => ?_⟩, Or.inr ⟨j, j1, rfl, rfl⟩⟩
      · rw [ia_sia, zu2_n _ _ _ _ (by omega)]; exact i2.2.2.2.2 k hk
      · rw [← i3]
        funext q
        rw [ia_sia, zu2_n _ _ _ _ (by omega)]
      · rw [ia_sia]
        by_cases e : k = i
        · subst e
          rw [zu2_s, e4]
        · rw [zu2_k _ _ _ _ e]
          exact i4 k (by omega)) (by
      intro k w hkj _ hn4
      cases hbk : R.testBit k with
      | true =>
        refine try1 k (by omega) hbk w _ (nI 0) (if_neg (j5 k hkj hbk)).symm (hn4 _ trivial) rfl
      | false =>
        refine Eq.mpr s106_212 ?_
        cases hbA : A.testBit k with
        | false =>
          simp (disch := omega) only [s106_0, s106_1, s106_4, s106_5, s106_6, s106_7, s106_10, s106_11, s106_12, s106_13, s106_15, s106_18, s106_19, s106_20, s106_21, s106_22, s106_23, s106_26, s106_29, s106_30, s106_32, s106_33, s106_36, s106_39, s106_40, s106_41, s106_44, s106_45, s106_48, s106_51, s106_52, s106_54, s106_55, s106_59, s106_60, s106_63, s106_66, s106_67, s106_69, s106_72, s106_75, s106_76, s106_78, s106_81, s106_84, s106_85, s106_88, s106_90, s106_91, s106_92, s106_94, s106_95, s106_96, s106_97, s106_99, s106_100, s106_101, s106_104, s106_107, s106_109, s106_110, s106_111, s106_114, s106_116, s106_117, s106_118, s106_120, s106_121, s106_122, s106_123, s106_125, s106_126, s106_127, s106_128, s106_129, s106_132, s106_133, s106_135, s106_138, s106_141, s106_142, s106_145, s106_147, s106_148, s106_151, s106_154, s106_156, s106_159, s106_162, s106_163, s106_166, s106_168, s106_169, s106_170, s106_171, s106_172, s106_174, s106_175, s106_178, s106_181, s106_184, s106_188, s106_189, s106_190, s106_191, s106_192, s106_194, s106_195, s106_198, s106_199, s106_202, s106_203, s106_205, s106_207, s106_209, s106_210, s106_214, s106_217, s106_218, s106_220, s106_223, s106_226, s106_227, s106_229, s106_232, s106_235, s106_238, s106_239, s106_240, s106_242, s106_243, s106_246, s106_247, s106_250, s106_251, s106_253, s106_256, s106_259, s106_262, s106_263, s106_265, s106_268, s106_269, s106_271, s106_274, s106_277, s106_278, s106_281, s106_283, s106_284, s106_287, s106_289, s106_291, s106_292, s106_295, s106_297, s106_298, s106_299, s106_301, s106_302, s106_303, s106_304, s106_306, s106_307, s106_308, s106_311, s106_312, s106_315, s106_316, s106_318, s106_321, s106_324, s106_326, s106_327, s106_328, s106_330, s106_331, s106_334, s106_336, s106_337, s106_340, s106_342, s106_343, s106_344, s106_345, s106_346, s106_348, s106_349, s106_350, s106_351, s106_353, s106_354, s106_357, s106_360, zcs_0, zcs_1, zcs_2, zcs_3, zcs_4, zcs_5, zcs_6, zcs_7, znl_i, znl_r, znl_n, Bool.and_true, Bool.true_and, zk_v, zk_n, zk_x, zir_r, zir_n, zclr_i, zclr_r, zclr_n, zclr_d, zclr_l, true_and, and_true, and_self, if_true, if_false, reduceIte, nI_add, pk_mul, zin_ok, zx_nI, nI_lt2, nI_le2, nI_eq2, nI_l0, nI_g0, nI_q0, nI_p0, nI_n0, nI_m1, Nat.add_zero, Nat.zero_add, Nat.reduceAdd, Nat.reduceMul, true_or, or_true, znar_50, bI_0, bI_1, bI_z, bft, nI_z0, nI_z1, lgc_lt, lgc_gt, lgc_le, lgc_ge, lgc_eq, not_true_eq_false, not_false_eq_true, Bool.not_eq_true, Bool.not_eq_false, reduceCtorEq, c0, c18, hasI_n, hbA]
          exact hn4 _ trivial
        | true =>
          have hbS : (A ^^^ R).testBit k = true := by rw [Nat.testBit_xor, hbA, hbk]; rfl
          simp (disch := omega) only [s106_0, s106_1, s106_4, s106_5, s106_6, s106_7, s106_10, s106_11, s106_12, s106_13, s106_15, s106_18, s106_19, s106_20, s106_21, s106_22, s106_23, s106_26, s106_29, s106_30, s106_32, s106_33, s106_36, s106_39, s106_40, s106_41, s106_44, s106_45, s106_48, s106_51, s106_52, s106_54, s106_55, s106_59, s106_60, s106_63, s106_66, s106_67, s106_69, s106_72, s106_75, s106_76, s106_78, s106_81, s106_84, s106_85, s106_88, s106_90, s106_91, s106_92, s106_94, s106_95, s106_96, s106_97, s106_99, s106_100, s106_101, s106_104, s106_107, s106_109, s106_110, s106_111, s106_114, s106_116, s106_117, s106_118, s106_120, s106_121, s106_122, s106_123, s106_125, s106_126, s106_127, s106_128, s106_129, s106_132, s106_133, s106_135, s106_138, s106_141, s106_142, s106_145, s106_147, s106_148, s106_151, s106_154, s106_156, s106_159, s106_162, s106_163, s106_166, s106_168, s106_169, s106_170, s106_171, s106_172, s106_174, s106_175, s106_178, s106_181, s106_184, s106_188, s106_189, s106_190, s106_191, s106_192, s106_194, s106_195, s106_198, s106_199, s106_202, s106_203, s106_205, s106_207, s106_209, s106_210, s106_214, s106_217, s106_218, s106_220, s106_223, s106_226, s106_227, s106_229, s106_232, s106_235, s106_238, s106_239, s106_240, s106_242, s106_243, s106_246, s106_247, s106_250, s106_251, s106_253, s106_256, s106_259, s106_262, s106_263, s106_265, s106_268, s106_269, s106_271, s106_274, s106_277, s106_278, s106_281, s106_283, s106_284, s106_287, s106_289, s106_291, s106_292, s106_295, s106_297, s106_298, s106_299, s106_301, s106_302, s106_303, s106_304, s106_306, s106_307, s106_308, s106_311, s106_312, s106_315, s106_316, s106_318, s106_321, s106_324, s106_326, s106_327, s106_328, s106_330, s106_331, s106_334, s106_336, s106_337, s106_340, s106_342, s106_343, s106_344, s106_345, s106_346, s106_348, s106_349, s106_350, s106_351, s106_353, s106_354, s106_357, s106_360, zcs_0, zcs_1, zcs_2, zcs_3, zcs_4, zcs_5, zcs_6, zcs_7, znl_i, znl_r, znl_n, Bool.and_true, Bool.true_and, zk_v, zk_n, zk_x, zir_r, zir_n, zclr_i, zclr_r, zclr_n, zclr_d, zclr_l, true_and, and_true, and_self, if_true, if_false, reduceIte, nI_add, pk_mul, zin_ok, zx_nI, nI_lt2, nI_le2, nI_eq2, nI_l0, nI_g0, nI_q0, nI_p0, nI_n0, nI_m1, Nat.add_zero, Nat.zero_add, Nat.reduceAdd, Nat.reduceMul, true_or, or_true, znar_50, bI_0, bI_1, bI_z, bft, nI_z0, nI_z1, lgc_lt, lgc_gt, lgc_le, lgc_ge, lgc_eq, not_true_eq_false, not_false_eq_true, Bool.not_eq_true, Bool.not_eq_false, reduceCtorEq, c0, c18, hasI_n, hbA, hbS]
          exact hn4 _ trivial)
    exact inner 0 _ (Nat.zero_le _) trivial)
  have k1 := key 0 (z, .int (-1), zdum, zdum, zdum) (Nat.zero_le _) ⟨⟨cFr_refl z, hA, rfl, fun k hk => absurd hk (by omega)⟩, Or.inl ⟨rfl, rfl⟩⟩
  have hz : (rSt v (rdC v a) dy hs n bo a A 0).2.2 = A := rfl
  have hz1 : (rSt v (rdC v a) dy hs n bo a A 0).2.1 = 0 := rfl
  dsimp only at k1
  rw [hz, hz1, Nat.xor_self] at k1
  refine Eq.mpr s106_187 ?_
  simp (disch := omega) only [s106_0, s106_1, s106_4, s106_5, s106_6, s106_7, s106_10, s106_11, s106_12, s106_13, s106_15, s106_18, s106_19, s106_20, s106_21, s106_22, s106_23, s106_26, s106_29, s106_30, s106_32, s106_33, s106_36, s106_39, s106_40, s106_41, s106_44, s106_45, s106_48, s106_51, s106_52, s106_54, s106_55, s106_59, s106_60, s106_63, s106_66, s106_67, s106_69, s106_72, s106_75, s106_76, s106_78, s106_81, s106_84, s106_85, s106_88, s106_90, s106_91, s106_92, s106_94, s106_95, s106_96, s106_97, s106_99, s106_100, s106_101, s106_104, s106_107, s106_109, s106_110, s106_111, s106_114, s106_116, s106_117, s106_118, s106_120, s106_121, s106_122, s106_123, s106_125, s106_126, s106_127, s106_128, s106_129, s106_132, s106_133, s106_135, s106_138, s106_141, s106_142, s106_145, s106_147, s106_148, s106_151, s106_154, s106_156, s106_159, s106_162, s106_163, s106_166, s106_168, s106_169, s106_170, s106_171, s106_172, s106_174, s106_175, s106_178, s106_181, s106_184, s106_188, s106_189, s106_190, s106_191, s106_192, s106_194, s106_195, s106_198, s106_199, s106_202, s106_203, s106_205, s106_207, s106_209, s106_210, s106_214, s106_217, s106_218, s106_220, s106_223, s106_226, s106_227, s106_229, s106_232, s106_235, s106_238, s106_239, s106_240, s106_242, s106_243, s106_246, s106_247, s106_250, s106_251, s106_253, s106_256, s106_259, s106_262, s106_263, s106_265, s106_268, s106_269, s106_271, s106_274, s106_277, s106_278, s106_281, s106_283, s106_284, s106_287, s106_289, s106_291, s106_292, s106_295, s106_297, s106_298, s106_299, s106_301, s106_302, s106_303, s106_304, s106_306, s106_307, s106_308, s106_311, s106_312, s106_315, s106_316, s106_318, s106_321, s106_324, s106_326, s106_327, s106_328, s106_330, s106_331, s106_334, s106_336, s106_337, s106_340, s106_342, s106_343, s106_344, s106_345, s106_346, s106_348, s106_349, s106_350, s106_351, s106_353, s106_354, s106_357, s106_360, zcs_0, zcs_1, zcs_2, zcs_3, zcs_4, zcs_5, zcs_6, zcs_7, znl_i, znl_r, znl_n, Bool.and_true, Bool.true_and, zk_v, zk_n, zk_x, zir_r, zir_n, zclr_i, zclr_r, zclr_n, zclr_d, zclr_l, true_and, and_true, and_self, if_true, if_false, reduceIte, nI_add, pk_mul, zin_ok, zx_nI, nI_lt2, nI_le2, nI_eq2, nI_l0, nI_g0, nI_q0, nI_p0, nI_n0, nI_m1, Nat.add_zero, Nat.zero_add, Nat.reduceAdd, Nat.reduceMul, true_or, or_true, znar_50, bI_0, bI_1, bI_z, bft, nI_z0, nI_z1, lgc_lt, lgc_gt, lgc_le, lgc_ge, lgc_eq, not_true_eq_false, not_false_eq_true, Bool.not_eq_true, Bool.not_eq_false, reduceCtorEq]
  exact k1
theorem c106 (h : NW B z v L t hl kn rl ha ra da ea) (nB : ∀ q, B q → ¬ (122 ≤ q ∧ q ≤ 130)) (hT : wT v) (hv : ∀ i, v i < 1073741824) (hWD : wD v) (hA : aL z ha a dy hs n) (hO : lOK v hs n) (hav : a < v 0) (hdy : dy < 1000) {A bo : Nat} (hAn : A < 2 ^ n) (h6 : zfi z 122 6 = nI A) (h7 : zfi z 122 7 = nI bo) (hbo : bo ≤ 180) (hg : gP v (rdC v a) dy hs n a 0 A = bo)
    (H : ∀ z2, cFr z z2 → (∀ i, i < cntB A n → zia z2 126 i = nI (rRow v (rdC v a) dy hs n bo a A i)) → Q (.inl none) z2) : ZC zG (d + 3) 106 [.ref 122] z Q := by
  have h0 := h.1
  unfold CS at h0
  obtain ⟨hN, hN0⟩ := pow10 hO.1
  have hn10 := hO.1
  have c0 := h.1
  unfold CS at c0
  have a4 := hA.1
  have hr : 123 ≤ 125 ∧ 125 ≤ 130 ∧ ¬ 125 = 127 := by omega
  have fst := c106a (d := d) (Q := Q) h nB hT hv hWD hA hO hdy hAn h7 hbo (fun f x2 x3 x4 x5 hf => by
    have fr := cFr_sIA (cFr_refl z) hr f
    have e125 : zia (sIA z 125 f) 125 = f := by rw [ia_sIA, zu1_s]
    refine c106b (NW_cFr h nB fr) nB hT hv hWD (aL_124 hA (by omega) f) hO hav hdy hAn hbo hg (by rw [e125]; exact hf) (fun z2 q1 q2 => H z2 (cFr_t fr q1) q2) x2 x3 x4 x5) (2 ^ n - 1) (zia z 125) zdum zdum zdum (by omega) (fun S h1 h2 => absurd h2 (by omega))
  rw [sIA_self] at fst
  simp (disch := omega) only [e106, s106_0, s106_1, s106_4, s106_5, s106_6, s106_7, s106_10, s106_11, s106_12, s106_13, s106_15, s106_18, s106_19, s106_20, s106_21, s106_22, s106_23, s106_26, s106_29, s106_30, s106_32, s106_33, s106_36, s106_39, s106_40, s106_41, s106_44, s106_45, s106_48, s106_51, s106_52, s106_54, s106_55, s106_59, s106_60, s106_63, s106_66, s106_67, s106_69, s106_72, s106_75, s106_76, s106_78, s106_81, s106_84, s106_85, s106_88, s106_90, s106_91, s106_92, s106_94, s106_95, s106_96, s106_97, s106_99, s106_100, s106_101, s106_104, s106_107, s106_109, s106_110, s106_111, s106_114, s106_116, s106_117, s106_118, s106_120, s106_121, s106_122, s106_123, s106_125, s106_126, s106_127, s106_128, s106_129, s106_132, s106_133, s106_135, s106_138, s106_141, s106_142, s106_145, s106_147, s106_148, s106_151, s106_154, s106_156, s106_159, s106_162, s106_163, s106_166, s106_168, s106_169, s106_170, s106_171, s106_172, s106_174, s106_175, s106_178, s106_181, s106_184, s106_188, s106_189, s106_190, s106_191, s106_192, s106_194, s106_195, s106_198, s106_199, s106_202, s106_203, s106_205, s106_207, s106_209, s106_210, s106_214, s106_217, s106_218, s106_220, s106_223, s106_226, s106_227, s106_229, s106_232, s106_235, s106_238, s106_239, s106_240, s106_242, s106_243, s106_246, s106_247, s106_250, s106_251, s106_253, s106_256, s106_259, s106_262, s106_263, s106_265, s106_268, s106_269, s106_271, s106_274, s106_277, s106_278, s106_281, s106_283, s106_284, s106_287, s106_289, s106_291, s106_292, s106_295, s106_297, s106_298, s106_299, s106_301, s106_302, s106_303, s106_304, s106_306, s106_307, s106_308, s106_311, s106_312, s106_315, s106_316, s106_318, s106_321, s106_324, s106_326, s106_327, s106_328, s106_330, s106_331, s106_334, s106_336, s106_337, s106_340, s106_342, s106_343, s106_344, s106_345, s106_346, s106_348, s106_349, s106_350, s106_351, s106_353, s106_354, s106_357, s106_360, zcs_0, zcs_1, zcs_2, zcs_3, zcs_4, zcs_5, zcs_6, zcs_7, znl_i, znl_r, znl_n, Bool.and_true, Bool.true_and, zk_v, zk_n, zk_x, zir_r, zir_n, zclr_i, zclr_r, zclr_n, zclr_d, zclr_l, true_and, and_true, and_self, if_true, if_false, reduceIte, nI_add, pk_mul, zin_ok, zx_nI, nI_lt2, nI_le2, nI_eq2, nI_l0, nI_g0, nI_q0, nI_p0, nI_n0, nI_m1, Nat.add_zero, Nat.zero_add, Nat.reduceAdd, Nat.reduceMul, true_or, or_true, znar_50, bI_0, bI_1, bI_z, bft, nI_z0, nI_z1, lgc_lt, lgc_gt, lgc_le, lgc_ge, lgc_eq, not_true_eq_false, not_false_eq_true, Bool.not_eq_true, Bool.not_eq_false, reduceCtorEq, h0, c0, a4, h6, nI_sh1, pk_sub]
  exact fst
end BE
