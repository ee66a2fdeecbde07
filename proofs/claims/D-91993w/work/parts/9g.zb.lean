set_option maxRecDepth 100000
/-! the component: calls, with what was found kept -/
section CC
variable {d : Nat} {B : Nat → Prop} {z : ZH} {Q : ZQ} {v : Nat → Nat} {L : Nat → List (Nat × Nat)} {t hl kn rl : Nat} {ha ra da ea : Nat → Nat} {K : Nat}
variable {a b : Nat}
theorem c43 (h : NW B z v L t hl kn rl ha ra da ea) (hv : ∀ i, v i < 2147483648) (hk : wK v) {w S : Nat} (ha' : a < v 0) (hw : w < v 0) (hS : S < 65536) : ZC zG (d + 2) 43 [.ref 100, .int (nI a), .int (nI w), .int (nI S)] z Q = Q (.inl (some (.int (bI (mcW v a S w))))) z := by
  have cat := fun d Q => c17 (d := d) (Q := Q) h hw
  obtain ⟨h0, ⟨h1, h2, h3, h4⟩, hH, hR, hD, hK, h9, hE, h6⟩ := h
  have h16 : v 0 ≤ 16 := hH.2.2.2.1.2
  unfold CS at h0
  have ct := hH.1.2
  have h5 := hH.2.2.2.2.2.2.2
  have hkw : zia z 110 w = nI (v (1864 + w)) := hK w (by omega)
  obtain ⟨_, fw1, _, _, _, _, _, _, fw6, _⟩ := hH.fld hw
  have ci := fun d Q => c246 (d := d) (z := z) (Q := Q) fw1 (x := nI (v 6))
  rw [fw6] at ci
  have b6 := hv (10 + 9 * w + 6)
  have b66 := hv 6
  have b5 := hv 5
  have hlt : v (1864 + w) &&& S ≤ S := Nat.and_le_right
  have hbc : bcI (nI (v (1864 + w) &&& S)) = nI (cntB (S &&& v (1864 + w)) 16) := by
    rw [bc_pc (by omega), cntB_pc, Nat.and_comm]
  have hcb := cntB_le (S &&& v (1864 + w)) 16
  have fls : ∀ x : Bool, ¬ x = true → x = false := fun x hx => by cases x <;> simp at hx ⊢
  by_cases c1 : w = a
  · rw [fls (mcW v a S w) (fun hc => (mcW_c.mp hc).1 c1)]
    simp (disch := omega) only [e43, s43_0, s43_1, s43_2, s43_5, s43_6, s43_7, s43_10, s43_13, s43_14, s43_15, s43_18, s43_19, s43_22, s43_25, s43_28, s43_31, s43_32, s43_35, s43_38, s43_41, s43_42, s43_43, s43_44, s43_45, s43_48, s43_49, s43_52, s43_55, s43_58, s43_61, s43_62, s43_65, s43_66, zcs_0, zcs_1, zcs_2, zcs_3, zcs_4, zcs_5, zcs_6, zcs_7, znl_i, znl_r, znl_n, Bool.and_true, Bool.true_and, zk_v, zk_n, zk_x, zir_r, zir_n, zclr_i, zclr_r, zclr_n, zclr_d, zclr_l, true_and, and_true, and_self, if_true, if_false, reduceIte, nI_add, pk_mul, zin_ok, zx_nI, nI_lt2, nI_le2, nI_eq2, nI_l0, nI_g0, nI_q0, nI_p0, nI_n0, nI_m1, Nat.add_zero, Nat.zero_add, Nat.reduceAdd, Nat.reduceMul, true_or, or_true, znar_50, bI_0, bI_1, bI_z, bft, nI_z0, nI_z1, lgc_lt, lgc_gt, lgc_le, lgc_ge, lgc_eq, not_true_eq_false, not_false_eq_true, Bool.not_eq_true, Bool.not_eq_false, reduceCtorEq, h0, c1, eq_self]
    rfl
  · cases c2 : S.testBit w with
    | true =>
      rw [fls (mcW v a S w) (fun hc => by have := (mcW_c.mp hc).2.1; rw [c2] at this; cases this)]
      simp (disch := omega) only [e43, s43_0, s43_1, s43_2, s43_5, s43_6, s43_7, s43_10, s43_13, s43_14, s43_15, s43_18, s43_19, s43_22, s43_25, s43_28, s43_31, s43_32, s43_35, s43_38, s43_41, s43_42, s43_43, s43_44, s43_45, s43_48, s43_49, s43_52, s43_55, s43_58, s43_61, s43_62, s43_65, s43_66, zcs_0, zcs_1, zcs_2, zcs_3, zcs_4, zcs_5, zcs_6, zcs_7, znl_i, znl_r, znl_n, Bool.and_true, Bool.true_and, zk_v, zk_n, zk_x, zir_r, zir_n, zclr_i, zclr_r, zclr_n, zclr_d, zclr_l, true_and, and_true, and_self, if_true, if_false, reduceIte, nI_add, pk_mul, zin_ok, zx_nI, nI_lt2, nI_le2, nI_eq2, nI_l0, nI_g0, nI_q0, nI_p0, nI_n0, nI_m1, Nat.add_zero, Nat.zero_add, Nat.reduceAdd, Nat.reduceMul, true_or, or_true, znar_50, bI_0, bI_1, bI_z, bft, nI_z0, nI_z1, lgc_lt, lgc_gt, lgc_le, lgc_ge, lgc_eq, not_true_eq_false, not_false_eq_true, Bool.not_eq_true, Bool.not_eq_false, reduceCtorEq, h0, c1, c18, hasI_n, c2]
      rfl
    | false =>
      by_cases c3 : v (10 + 9 * w + 6) ≤ v 6
      · by_cases c4 : v 5 ≤ cntB (S &&& v (1864 + w)) 16
        · rw [mcW_c.mpr ⟨c1, c2, c3, c4⟩]
          have c5 : ¬ cntB (S &&& v (1864 + w)) 16 < v 5 := by omega
          simp (disch := omega) only [e43, s43_0, s43_1, s43_2, s43_5, s43_6, s43_7, s43_10, s43_13, s43_14, s43_15, s43_18, s43_19, s43_22, s43_25, s43_28, s43_31, s43_32, s43_35, s43_38, s43_41, s43_42, s43_43, s43_44, s43_45, s43_48, s43_49, s43_52, s43_55, s43_58, s43_61, s43_62, s43_65, s43_66, zcs_0, zcs_1, zcs_2, zcs_3, zcs_4, zcs_5, zcs_6, zcs_7, znl_i, znl_r, znl_n, Bool.and_true, Bool.true_and, zk_v, zk_n, zk_x, zir_r, zir_n, zclr_i, zclr_r, zclr_n, zclr_d, zclr_l, true_and, and_true, and_self, if_true, if_false, reduceIte, nI_add, pk_mul, zin_ok, zx_nI, nI_lt2, nI_le2, nI_eq2, nI_l0, nI_g0, nI_q0, nI_p0, nI_n0, nI_m1, Nat.add_zero, Nat.zero_add, Nat.reduceAdd, Nat.reduceMul, true_or, or_true, znar_50, bI_0, bI_1, bI_z, bft, nI_z0, nI_z1, lgc_lt, lgc_gt, lgc_le, lgc_ge, lgc_eq, not_true_eq_false, not_false_eq_true, Bool.not_eq_true, Bool.not_eq_false, reduceCtorEq, c1, c18, hasI_n, c2, h0, h1, h6, cat, ci, fw1, c3, decide_true, decide_false, ct, h5, hkw, nI_and, c251, hbc, c5, nI_one, eq_self]
          rfl
        · rw [fls (mcW v a S w) (fun hc => c4 (mcW_c.mp hc).2.2.2)]
          have c5 : cntB (S &&& v (1864 + w)) 16 < v 5 := by omega
          simp (disch := omega) only [e43, s43_0, s43_1, s43_2, s43_5, s43_6, s43_7, s43_10, s43_13, s43_14, s43_15, s43_18, s43_19, s43_22, s43_25, s43_28, s43_31, s43_32, s43_35, s43_38, s43_41, s43_42, s43_43, s43_44, s43_45, s43_48, s43_49, s43_52, s43_55, s43_58, s43_61, s43_62, s43_65, s43_66, zcs_0, zcs_1, zcs_2, zcs_3, zcs_4, zcs_5, zcs_6, zcs_7, znl_i, znl_r, znl_n, Bool.and_true, Bool.true_and, zk_v, zk_n, zk_x, zir_r, zir_n, zclr_i, zclr_r, zclr_n, zclr_d, zclr_l, true_and, and_true, and_self, if_true, if_false, reduceIte, nI_add, pk_mul, zin_ok, zx_nI, nI_lt2, nI_le2, nI_eq2, nI_l0, nI_g0, nI_q0, nI_p0, nI_n0, nI_m1, Nat.add_zero, Nat.zero_add, Nat.reduceAdd, Nat.reduceMul, true_or, or_true, znar_50, bI_0, bI_1, bI_z, bft, nI_z0, nI_z1, lgc_lt, lgc_gt, lgc_le, lgc_ge, lgc_eq, not_true_eq_false, not_false_eq_true, Bool.not_eq_true, Bool.not_eq_false, reduceCtorEq, c1, c18, hasI_n, c2, h0, h1, h6, cat, ci, fw1, c3, decide_true, decide_false, ct, h5, hkw, nI_and, c251, hbc, c5]
          rfl
      · rw [fls (mcW v a S w) (fun hc => c3 (mcW_c.mp hc).2.2.1)]
        simp (disch := omega) only [e43, s43_0, s43_1, s43_2, s43_5, s43_6, s43_7, s43_10, s43_13, s43_14, s43_15, s43_18, s43_19, s43_22, s43_25, s43_28, s43_31, s43_32, s43_35, s43_38, s43_41, s43_42, s43_43, s43_44, s43_45, s43_48, s43_49, s43_52, s43_55, s43_58, s43_61, s43_62, s43_65, s43_66, zcs_0, zcs_1, zcs_2, zcs_3, zcs_4, zcs_5, zcs_6, zcs_7, znl_i, znl_r, znl_n, Bool.and_true, Bool.true_and, zk_v, zk_n, zk_x, zir_r, zir_n, zclr_i, zclr_r, zclr_n, zclr_d, zclr_l, true_and, and_true, and_self, if_true, if_false, reduceIte, nI_add, pk_mul, zin_ok, zx_nI, nI_lt2, nI_le2, nI_eq2, nI_l0, nI_g0, nI_q0, nI_p0, nI_n0, nI_m1, Nat.add_zero, Nat.zero_add, Nat.reduceAdd, Nat.reduceMul, true_or, or_true, znar_50, bI_0, bI_1, bI_z, bft, nI_z0, nI_z1, lgc_lt, lgc_gt, lgc_le, lgc_ge, lgc_eq, not_true_eq_false, not_false_eq_true, Bool.not_eq_true, Bool.not_eq_false, reduceCtorEq, c1, c18, hasI_n, c2, h0, h1, h6, cat, ci, fw1, c3, decide_true, decide_false]
        rfl
def cMem (v : Nat → Nat) (a b : Nat) (f : Nat → Int32) : Prop := ∀ s, s < 65536 → f s = -1 ∨ f s = nI (dW v a b s)
theorem cntB_all {S : Nat} : ∀ {n b : Nat}, b < n → S.testBit b = false → cntB S n + 1 ≤ n
  | n + 1, b, hb, h => by
    unfold cntB cntN
    by_cases e : b = n
    · subst e
      rw [h, if_neg (by decide)]
      have := cntB_le S b
      unfold cntB at this
      omega
    · have := cntB_all (S := S) (n := n) (b := b) (by omega) h
      unfold cntB at this
      split <;> omega
theorem c42 (h : NW B z v L t hl kn rl ha ra da ea) (nB : ∀ q, B q → ¬ (122 ≤ q ∧ q ≤ 130)) (hv : ∀ i, v i < 2147483648) (hk : wK v) (ha' : a < v 0) (hbv : b < v 0) : ∀ m S (f : Nat → Int32) (d : Nat) (Q : ZQ), S < 65536 → 16 ≤ cntB S 16 + m → cMem v a b f → (∀ g, cMem v a b g → Q (.inl (some (.int (nI (dW v a b S))))) (sIA z 130 g)) → ZC zG (d + m + 4) 42 [.ref 100, .int (nI a), .int (nI b), .int (nI S)] (sIA z 130 f) Q := by
  have h0 := h.1
  unfold CS at h0
  have h16 : v 0 ≤ 16 := h.2.2.1.2.2.2.1.2
  have fr : ∀ f : Nat → Int32, cFr z (sIA z 130 f) := fun f => cFr_sIA (cFr_refl z) (by omega) f
  intro m
  induction m with
  | zero =>
    intro S f d Q hS hc hf H
    have hb : S.testBit b = true := by
      cases hb : S.testBit b with
      | true => rfl
      | false => have := cntB_all (S := S) (n := 16) (b := b) (by omega) hb; omega
    have H1 := H f hf
    rw [dW_b hb] at H1
    simp (disch := omega) only [e42, s42_0, s42_1, s42_2, s42_5, s42_8, s42_9, s42_10, s42_11, s42_14, s42_15, s42_16, s42_17, s42_20, s42_21, s42_24, s42_25, s42_26, s42_27, s42_30, s42_32, s42_33, s42_37, s42_38, s42_41, s42_44, s42_47, s42_50, s42_51, s42_52, s42_54, s42_55, s42_58, s42_61, s42_63, s42_64, s42_65, s42_66, s42_67, s42_68, s42_69, s42_71, s42_72, s42_73, s42_76, s42_77, s42_80, s42_82, s42_85, s42_88, s42_89, s42_92, s42_93, s42_96, s42_98, s42_101, s42_102, s42_103, s42_106, s42_107, s42_108, zcs_0, zcs_1, zcs_2, zcs_3, zcs_4, zcs_5, zcs_6, zcs_7, znl_i, znl_r, znl_n, Bool.and_true, Bool.true_and, zk_v, zk_n, zk_x, zir_r, zir_n, zclr_i, zclr_r, zclr_n, zclr_d, zclr_l, true_and, and_true, and_self, if_true, if_false, reduceIte, nI_add, pk_mul, zin_ok, zx_nI, nI_lt2, nI_le2, nI_eq2, nI_l0, nI_g0, nI_q0, nI_p0, nI_n0, nI_m1, Nat.add_zero, Nat.zero_add, Nat.reduceAdd, Nat.reduceMul, true_or, or_true, znar_50, bI_0, bI_1, bI_z, bft, nI_z0, nI_z1, lgc_lt, lgc_gt, lgc_le, lgc_ge, lgc_eq, not_true_eq_false, not_false_eq_true, Bool.not_eq_true, Bool.not_eq_false, reduceCtorEq, h0, c18, hasI_n, hb]
    exact H1
  | succ m ih =>
    intro S f d Q hS hc hf H
    have k0 := (NW_cFr h nB (fr f)).1
    unfold CS at k0
    cases hb : S.testBit b with
    | true =>
      have H1 := H f hf
      rw [dW_b hb] at H1
      simp (disch := omega) only [e42, s42_0, s42_1, s42_2, s42_5, s42_8, s42_9, s42_10, s42_11, s42_14, s42_15, s42_16, s42_17, s42_20, s42_21, s42_24, s42_25, s42_26, s42_27, s42_30, s42_32, s42_33, s42_37, s42_38, s42_41, s42_44, s42_47, s42_50, s42_51, s42_52, s42_54, s42_55, s42_58, s42_61, s42_63, s42_64, s42_65, s42_66, s42_67, s42_68, s42_69, s42_71, s42_72, s42_73, s42_76, s42_77, s42_80, s42_82, s42_85, s42_88, s42_89, s42_92, s42_93, s42_96, s42_98, s42_101, s42_102, s42_103, s42_106, s42_107, s42_108, zcs_0, zcs_1, zcs_2, zcs_3, zcs_4, zcs_5, zcs_6, zcs_7, znl_i, znl_r, znl_n, Bool.and_true, Bool.true_and, zk_v, zk_n, zk_x, zir_r, zir_n, zclr_i, zclr_r, zclr_n, zclr_d, zclr_l, true_and, and_true, and_self, if_true, if_false, reduceIte, nI_add, pk_mul, zin_ok, zx_nI, nI_lt2, nI_le2, nI_eq2, nI_l0, nI_g0, nI_q0, nI_p0, nI_n0, nI_m1, Nat.add_zero, Nat.zero_add, Nat.reduceAdd, Nat.reduceMul, true_or, or_true, znar_50, bI_0, bI_1, bI_z, bft, nI_z0, nI_z1, lgc_lt, lgc_gt, lgc_le, lgc_ge, lgc_eq, not_true_eq_false, not_false_eq_true, Bool.not_eq_true, Bool.not_eq_false, reduceCtorEq, h0, c18, hasI_n, hb]
      exact H1
    | false =>
      have hF := dW_F (v := v) (a := a) (b := b) (S := S)
      by_cases hm : f S = -1
      · have r1 : zia (sIA z 130 f) 130 S = -1 := by rw [ia_sIA, zu1_s]; exact hm
        simp (disch := omega) only [e42, s42_0, s42_1, s42_2, s42_5, s42_8, s42_9, s42_10, s42_11, s42_14, s42_15, s42_16, s42_17, s42_20, s42_21, s42_24, s42_25, s42_26, s42_27, s42_30, s42_32, s42_33, s42_37, s42_38, s42_41, s42_44, s42_47, s42_50, s42_51, s42_52, s42_54, s42_55, s42_58, s42_61, s42_63, s42_64, s42_65, s42_66, s42_67, s42_68, s42_69, s42_71, s42_72, s42_73, s42_76, s42_77, s42_80, s42_82, s42_85, s42_88, s42_89, s42_92, s42_93, s42_96, s42_98, s42_101, s42_102, s42_103, s42_106, s42_107, s42_108, zcs_0, zcs_1, zcs_2, zcs_3, zcs_4, zcs_5, zcs_6, zcs_7, znl_i, znl_r, znl_n, Bool.and_true, Bool.true_and, zk_v, zk_n, zk_x, zir_r, zir_n, zclr_i, zclr_r, zclr_n, zclr_d, zclr_l, true_and, and_true, and_self, if_true, if_false, reduceIte, nI_add, pk_mul, zin_ok, zx_nI, nI_lt2, nI_le2, nI_eq2, nI_l0, nI_g0, nI_q0, nI_p0, nI_n0, nI_m1, Nat.add_zero, Nat.zero_add, Nat.reduceAdd, Nat.reduceMul, true_or, or_true, znar_50, bI_0, bI_1, bI_z, bft, nI_z0, nI_z1, lgc_lt, lgc_gt, lgc_le, lgc_ge, lgc_eq, not_true_eq_false, not_false_eq_true, Bool.not_eq_true, Bool.not_eq_false, reduceCtorEq, h0, c18, hasI_n, hb, k0, r1, eq_self]
        have key := zl_inv (P := fun w (g : Nat → Int32) => ZW zG (d + (m + 1) + 4) 42 35 [.ref 100, .int (nI a), .int (nI b), .int (nI S), .int (nI (minN (fun w => if mcW v a S w = true then 1 + dW v a b (S ||| 2 ^ w) else 100000) w)), .int (nI w)] [] (sIA z 130 g) Q) (I := fun _ g => cMem v a b g) (v 0) (by
          intro g hg
          have hN := NW_cFr h nB (fr g)
          have k0 := hN.1
          unfold CS at k0
          have ct := hN.2.2.1.1.2
          have h01 := hN.2.1.1
          have c63' := fun d Q => c63 (d := d) (Q := Q) hN.2.2.1
          rw [dW_s hb hS] at H hF
          have e1 : min 100000 (minN (fun w => if mcW v a S w = true then 1 + dW v a b (S ||| 2 ^ w) else 100000) (v 0)) = minN (fun w => if mcW v a S w = true then 1 + dW v a b (S ||| 2 ^ w) else 100000) (v 0) := by omega
          have hg2 : cMem v a b (zu1 g S (nI (minN (fun w => if mcW v a S w = true then 1 + dW v a b (S ||| 2 ^ w) else 100000) (v 0)))) := by
            intro s hs
            by_cases e : s = S
            · subst e
              rw [zu1_s, ← dW_s hb hS]
              exact Or.inr rfl
            · rw [zu1_n _ _ _ e]; exact hg s hs
          have H1 := H _ hg2
          generalize minN (fun w => if mcW v a S w = true then 1 + dW v a b (S ||| 2 ^ w) else 100000) (v 0) = y at *
          have k1 := (NW_cFr h nB (fr (zu1 g S (nI y)))).1
          unfold CS at k1
          refine Eq.mpr s42_35 ?_
          simp (disch := omega) only [s42_0, s42_1, s42_2, s42_5, s42_8, s42_9, s42_10, s42_11, s42_14, s42_15, s42_16, s42_17, s42_20, s42_21, s42_24, s42_25, s42_26, s42_27, s42_30, s42_32, s42_33, s42_37, s42_38, s42_41, s42_44, s42_47, s42_50, s42_51, s42_52, s42_54, s42_55, s42_58, s42_61, s42_63, s42_64, s42_65, s42_66, s42_67, s42_68, s42_69, s42_71, s42_72, s42_73, s42_76, s42_77, s42_80, s42_82, s42_85, s42_88, s42_89, s42_92, s42_93, s42_96, s42_98, s42_101, s42_102, s42_103, s42_106, s42_107, s42_108, zcs_0, zcs_1, zcs_2, zcs_3, zcs_4, zcs_5, zcs_6, zcs_7, znl_i, znl_r, znl_n, Bool.and_true, Bool.true_and, zk_v, zk_n, zk_x, zir_r, zir_n, zclr_i, zclr_r, zclr_n, zclr_d, zclr_l, true_and, and_true, and_self, if_true, if_false, reduceIte, nI_add, pk_mul, zin_ok, zx_nI, nI_lt2, nI_le2, nI_eq2, nI_l0, nI_g0, nI_q0, nI_p0, nI_n0, nI_m1, Nat.add_zero, Nat.zero_add, Nat.reduceAdd, Nat.reduceMul, true_or, or_true, znar_50, bI_0, bI_1, bI_z, bft, nI_z0, nI_z1, lgc_lt, lgc_gt, lgc_le, lgc_ge, lgc_eq, not_true_eq_false, not_false_eq_true, Bool.not_eq_true, Bool.not_eq_false, reduceCtorEq, k0, k1, h01, ct, c63', Nat.le_refl, zmin_nI, e1, sIA_sia, ia_sIA, zu1_s]
          exact H1) (by
          intro w g hw hg hnext
          have hN := NW_cFr h nB (fr g)
          have k0 := hN.1
          unfold CS at k0
          have ct := hN.2.2.1.1.2
          have h01 := hN.2.1.1
          have c63' := fun d Q => c63 (d := d) (Q := Q) hN.2.2.1
          have cm := fun d Q => c43 (d := d) (Q := Q) hN hv hk ha' hw hS
          have g1 : ¬ v 0 ≤ w := by omega
          have hst : minN (fun w => if mcW v a S w = true then 1 + dW v a b (S ||| 2 ^ w) else 100000) (w + 1) = min (minN (fun w => if mcW v a S w = true then 1 + dW v a b (S ||| 2 ^ w) else 100000) w) (if mcW v a S w = true then 1 + dW v a b (S ||| 2 ^ w) else 100000) := rfl
          have hmF := minN_F (fun w => if mcW v a S w = true then 1 + dW v a b (S ||| 2 ^ w) else 100000) w
          rw [hst] at hnext
          generalize minN (fun w => if mcW v a S w = true then 1 + dW v a b (S ||| 2 ^ w) else 100000) w = y at *
          refine Eq.mpr s42_35 ?_
          cases hmc : mcW v a S w with
          | false =>
            rw [hmc, if_neg (by decide), Nat.min_eq_left hmF] at hnext
            simp (disch := omega) only [s42_0, s42_1, s42_2, s42_5, s42_8, s42_9, s42_10, s42_11, s42_14, s42_15, s42_16, s42_17, s42_20, s42_21, s42_24, s42_25, s42_26, s42_27, s42_30, s42_32, s42_33, s42_37, s42_38, s42_41, s42_44, s42_47, s42_50, s42_51, s42_52, s42_54, s42_55, s42_58, s42_61, s42_63, s42_64, s42_65, s42_66, s42_67, s42_68, s42_69, s42_71, s42_72, s42_73, s42_76, s42_77, s42_80, s42_82, s42_85, s42_88, s42_89, s42_92, s42_93, s42_96, s42_98, s42_101, s42_102, s42_103, s42_106, s42_107, s42_108, zcs_0, zcs_1, zcs_2, zcs_3, zcs_4, zcs_5, zcs_6, zcs_7, znl_i, znl_r, znl_n, Bool.and_true, Bool.true_and, zk_v, zk_n, zk_x, zir_r, zir_n, zclr_i, zclr_r, zclr_n, zclr_d, zclr_l, true_and, and_true, and_self, if_true, if_false, reduceIte, nI_add, pk_mul, zin_ok, zx_nI, nI_lt2, nI_le2, nI_eq2, nI_l0, nI_g0, nI_q0, nI_p0, nI_n0, nI_m1, Nat.add_zero, Nat.zero_add, Nat.reduceAdd, Nat.reduceMul, true_or, or_true, znar_50, bI_0, bI_1, bI_z, bft, nI_z0, nI_z1, lgc_lt, lgc_gt, lgc_le, lgc_ge, lgc_eq, not_true_eq_false, not_false_eq_true, Bool.not_eq_true, Bool.not_eq_false, reduceCtorEq, k0, h01, ct, c63', g1, cm, hmc]
            exact hnext g hg
          | true =>
            rw [hmc, if_pos rfl] at hnext
            have hbw := mcW_tb hmc
            have hS2 := or16 hS h16 hw
            have hor : (S ||| 2 ^ w).testBit w = true := by rw [Nat.testBit_or, Nat.testBit_two_pow_self, Bool.or_true]
            have hs := (cntB_sub hor (n := 16)).2 (by omega)
            rw [or_add2 hbw, Nat.add_sub_cancel, ← or_add2 hbw] at hs
            have hF2 := dW_F (v := v) (a := a) (b := b) (S := S ||| 2 ^ w)
            have e4 : d + (m + 1) + 3 = d + m + 4 := by omega
            simp (disch := omega) only [s42_0, s42_1, s42_2, s42_5, s42_8, s42_9, s42_10, s42_11, s42_14, s42_15, s42_16, s42_17, s42_20, s42_21, s42_24, s42_25, s42_26, s42_27, s42_30, s42_32, s42_33, s42_37, s42_38, s42_41, s42_44, s42_47, s42_50, s42_51, s42_52, s42_54, s42_55, s42_58, s42_61, s42_63, s42_64, s42_65, s42_66, s42_67, s42_68, s42_69, s42_71, s42_72, s42_73, s42_76, s42_77, s42_80, s42_82, s42_85, s42_88, s42_89, s42_92, s42_93, s42_96, s42_98, s42_101, s42_102, s42_103, s42_106, s42_107, s42_108, zcs_0, zcs_1, zcs_2, zcs_3, zcs_4, zcs_5, zcs_6, zcs_7, znl_i, znl_r, znl_n, Bool.and_true, Bool.true_and, zk_v, zk_n, zk_x, zir_r, zir_n, zclr_i, zclr_r, zclr_n, zclr_d, zclr_l, true_and, and_true, and_self, if_true, if_false, reduceIte, nI_add, pk_mul, zin_ok, zx_nI, nI_lt2, nI_le2, nI_eq2, nI_l0, nI_g0, nI_q0, nI_p0, nI_n0, nI_m1, Nat.add_zero, Nat.zero_add, Nat.reduceAdd, Nat.reduceMul, true_or, or_true, znar_50, bI_0, bI_1, bI_z, bft, nI_z0, nI_z1, lgc_lt, lgc_gt, lgc_le, lgc_ge, lgc_eq, not_true_eq_false, not_false_eq_true, Bool.not_eq_true, Bool.not_eq_false, reduceCtorEq, k0, h01, ct, c63', g1, cm, hmc, nI_sh1, nI_or]
            refine Eq.mp (by rw [e4]) (ih (S ||| 2 ^ w) g d _ hS2 (by omega) hg (fun g2 hg2 => ?_))
            have k2 := (NW_cFr h nB (fr g2)).1
            unfold CS at k2
            simp (disch := omega) only [s42_0, s42_1, s42_2, s42_5, s42_8, s42_9, s42_10, s42_11, s42_14, s42_15, s42_16, s42_17, s42_20, s42_21, s42_24, s42_25, s42_26, s42_27, s42_30, s42_32, s42_33, s42_37, s42_38, s42_41, s42_44, s42_47, s42_50, s42_51, s42_52, s42_54, s42_55, s42_58, s42_61, s42_63, s42_64, s42_65, s42_66, s42_67, s42_68, s42_69, s42_71, s42_72, s42_73, s42_76, s42_77, s42_80, s42_82, s42_85, s42_88, s42_89, s42_92, s42_93, s42_96, s42_98, s42_101, s42_102, s42_103, s42_106, s42_107, s42_108, zcs_0, zcs_1, zcs_2, zcs_3, zcs_4, zcs_5, zcs_6, zcs_7, znl_i, znl_r, znl_n, Bool.and_true, Bool.true_and, zk_v, zk_n, zk_x, zir_r, zir_n, zclr_i, zclr_r, zclr_n, zclr_d, zclr_l, true_and, and_true, and_self, if_true, if_false, reduceIte, nI_add, pk_mul, zin_ok, zx_nI, nI_lt2, nI_le2, nI_eq2, nI_l0, nI_g0, nI_q0, nI_p0, nI_n0, nI_m1, Nat.add_zero, Nat.zero_add, Nat.reduceAdd, Nat.reduceMul, true_or, or_true, znar_50, bI_0, bI_1, bI_z, bft, nI_z0, nI_z1, lgc_lt, lgc_gt, lgc_le, lgc_ge, lgc_eq, not_true_eq_false, not_false_eq_true, Bool.not_eq_true, Bool.not_eq_false, reduceCtorEq, zmin_nI]
            exact hnext g2 hg2)
        have k1 := key 0 f (Nat.zero_le _) hf
        exact k1
      · have r2 : f S = nI (dW v a b S) := by
          rcases hf S hS with q | q
          · exact absurd q hm
          · exact q
        have r1 : zia (sIA z 130 f) 130 S = nI (dW v a b S) := by rw [ia_sIA, zu1_s]; exact r2
        simp (disch := omega) only [e42, s42_0, s42_1, s42_2, s42_5, s42_8, s42_9, s42_10, s42_11, s42_14, s42_15, s42_16, s42_17, s42_20, s42_21, s42_24, s42_25, s42_26, s42_27, s42_30, s42_32, s42_33, s42_37, s42_38, s42_41, s42_44, s42_47, s42_50, s42_51, s42_52, s42_54, s42_55, s42_58, s42_61, s42_63, s42_64, s42_65, s42_66, s42_67, s42_68, s42_69, s42_71, s42_72, s42_73, s42_76, s42_77, s42_80, s42_82, s42_85, s42_88, s42_89, s42_92, s42_93, s42_96, s42_98, s42_101, s42_102, s42_103, s42_106, s42_107, s42_108, zcs_0, zcs_1, zcs_2, zcs_3, zcs_4, zcs_5, zcs_6, zcs_7, znl_i, znl_r, znl_n, Bool.and_true, Bool.true_and, zk_v, zk_n, zk_x, zir_r, zir_n, zclr_i, zclr_r, zclr_n, zclr_d, zclr_l, true_and, and_true, and_self, if_true, if_false, reduceIte, nI_add, pk_mul, zin_ok, zx_nI, nI_lt2, nI_le2, nI_eq2, nI_l0, nI_g0, nI_q0, nI_p0, nI_n0, nI_m1, Nat.add_zero, Nat.zero_add, Nat.reduceAdd, Nat.reduceMul, true_or, or_true, znar_50, bI_0, bI_1, bI_z, bft, nI_z0, nI_z1, lgc_lt, lgc_gt, lgc_le, lgc_ge, lgc_eq, not_true_eq_false, not_false_eq_true, Bool.not_eq_true, Bool.not_eq_false, reduceCtorEq, h0, c18, hasI_n, hb, k0, r1]
        exact H f hf
theorem c41 (h : NW B z v L t hl kn rl ha ra da ea) (nB : ∀ q, B q → ¬ (122 ≤ q ∧ q ≤ 130)) (hv : ∀ i, v i < 2147483648) (hk : wK v) (ha' : a < v 0) (hbv : b < v 0) (H : ∀ g, cMem v a b g → Q (.inl (some (.int (nI (dW v a b (v (1864 + a))))))) (sIA z 130 g)) : ZC zG (d + 21) 41 [.ref 100, .int (nI a), .int (nI b)] z Q := by
  have h0 := h.1
  unfold CS at h0
  have h16 : v 0 ≤ 16 := h.2.2.1.2.2.2.1.2
  have fr : ∀ f : Nat → Int32, cFr z (sIA z 130 f) := fun f => cFr_sIA (cFr_refl z) (by omega) f
  have hr : v (1864 + a) < 65536 := by
    have := (hk a (by omega)).1
    have : (2 : Nat) ^ v 0 ≤ 2 ^ 16 := Nat.pow_le_pow_right (by omega) h16
    omega
  have init := zl_inv (P := fun k (f : Nat → Int32) => ZW zG (d + 21) 41 2 [.ref 100, .int (nI a), .int (nI b), .int (nI k)] [] (sIA z 130 f) Q) (I := fun k f => ∀ s, s < k → f s = -1) 65536 (by
    intro f hf
    have hN := NW_cFr h nB (fr f)
    have k0 := hN.1
    unfold CS at k0
    have kK := hN.2.2.2.2.2.1 a (by omega)
    refine Eq.mpr s41_2 ?_
    simp (disch := omega) only [s41_0, s41_1, s41_3, s41_4, s41_7, s41_8, s41_11, s41_12, s41_15, s41_16, s41_17, s41_18, s41_21, s41_24, s41_25, s41_26, s41_27, s41_28, s41_31, s41_34, s41_37, s41_38, s41_39, s41_42, zcs_0, zcs_1, zcs_2, zcs_3, zcs_4, zcs_5, zcs_6, zcs_7, znl_i, znl_r, znl_n, Bool.and_true, Bool.true_and, zk_v, zk_n, zk_x, zir_r, zir_n, zclr_i, zclr_r, zclr_n, zclr_d, zclr_l, true_and, and_true, and_self, if_true, if_false, reduceIte, nI_add, pk_mul, zin_ok, zx_nI, nI_lt2, nI_le2, nI_eq2, nI_l0, nI_g0, nI_q0, nI_p0, nI_n0, nI_m1, Nat.add_zero, Nat.zero_add, Nat.reduceAdd, Nat.reduceMul, true_or, or_true, znar_50, bI_0, bI_1, bI_z, bft, nI_z0, nI_z1, lgc_lt, lgc_gt, lgc_le, lgc_ge, lgc_eq, not_true_eq_false, not_false_eq_true, Bool.not_eq_true, Bool.not_eq_false, reduceCtorEq, k0, kK, Nat.le_refl]
    refine c42 h nB hv hk ha' hbv 16 (v (1864 + a)) f d _ hr (by omega) (fun s hs => Or.inl (hf s hs)) (fun g hg => ?_)
    simp (disch := omega) only [s41_0, s41_1, s41_3, s41_4, s41_7, s41_8, s41_11, s41_12, s41_15, s41_16, s41_17, s41_18, s41_21, s41_24, s41_25, s41_26, s41_27, s41_28, s41_31, s41_34, s41_37, s41_38, s41_39, s41_42, zcs_0, zcs_1, zcs_2, zcs_3, zcs_4, zcs_5, zcs_6, zcs_7, znl_i, znl_r, znl_n, Bool.and_true, Bool.true_and, zk_v, zk_n, zk_x, zir_r, zir_n, zclr_i, zclr_r, zclr_n, zclr_d, zclr_l, true_and, and_true, and_self, if_true, if_false, reduceIte, nI_add, pk_mul, zin_ok, zx_nI, nI_lt2, nI_le2, nI_eq2, nI_l0, nI_g0, nI_q0, nI_p0, nI_n0, nI_m1, Nat.add_zero, Nat.zero_add, Nat.reduceAdd, Nat.reduceMul, true_or, or_true, znar_50, bI_0, bI_1, bI_z, bft, nI_z0, nI_z1, lgc_lt, lgc_gt, lgc_le, lgc_ge, lgc_eq, not_true_eq_false, not_false_eq_true, Bool.not_eq_true, Bool.not_eq_false, reduceCtorEq]
    exact H g hg) (by
    intro k f hk' hf hnext
    have k0 := (NW_cFr h nB (fr f)).1
    unfold CS at k0
    have g1 : ¬ 65536 ≤ k := by omega
    refine Eq.mpr s41_2 ?_
    simp (disch := omega) only [s41_0, s41_1, s41_3, s41_4, s41_7, s41_8, s41_11, s41_12, s41_15, s41_16, s41_17, s41_18, s41_21, s41_24, s41_25, s41_26, s41_27, s41_28, s41_31, s41_34, s41_37, s41_38, s41_39, s41_42, zcs_0, zcs_1, zcs_2, zcs_3, zcs_4, zcs_5, zcs_6, zcs_7, znl_i, znl_r, znl_n, Bool.and_true, Bool.true_and, zk_v, zk_n, zk_x, zir_r, zir_n, zclr_i, zclr_r, zclr_n, zclr_d, zclr_l, true_and, and_true, and_self, if_true, if_false, reduceIte, nI_add, pk_mul, zin_ok, zx_nI, nI_lt2, nI_le2, nI_eq2, nI_l0, nI_g0, nI_q0, nI_p0, nI_n0, nI_m1, Nat.add_zero, Nat.zero_add, Nat.reduceAdd, Nat.reduceMul, true_or, or_true, znar_50, bI_0, bI_1, bI_z, bft, nI_z0, nI_z1, lgc_lt, lgc_gt, lgc_le, lgc_ge, lgc_eq, not_true_eq_false, not_false_eq_true, Bool.not_eq_true, Bool.not_eq_false, reduceCtorEq, k0, g1, sIA_sia]
    refine hnext _ (fun s hs => ?_)
    by_cases e : s = k
    · subst e; exact zu1_s _ _ _
    · rw [zu1_n _ _ _ e]; exact hf s (by omega))
  have k1 := init 0 (zia z 130) (by omega) (fun s hs => absurd hs (by omega))
  rw [sIA_self] at k1
  simp (disch := omega) only [e41, s41_0, s41_1, s41_3, s41_4, s41_7, s41_8, s41_11, s41_12, s41_15, s41_16, s41_17, s41_18, s41_21, s41_24, s41_25, s41_26, s41_27, s41_28, s41_31, s41_34, s41_37, s41_38, s41_39, s41_42, zcs_0, zcs_1, zcs_2, zcs_3, zcs_4, zcs_5, zcs_6, zcs_7, znl_i, znl_r, znl_n, Bool.and_true, Bool.true_and, zk_v, zk_n, zk_x, zir_r, zir_n, zclr_i, zclr_r, zclr_n, zclr_d, zclr_l, true_and, and_true, and_self, if_true, if_false, reduceIte, nI_add, pk_mul, zin_ok, zx_nI, nI_lt2, nI_le2, nI_eq2, nI_l0, nI_g0, nI_q0, nI_p0, nI_n0, nI_m1, Nat.add_zero, Nat.zero_add, Nat.reduceAdd, Nat.reduceMul, true_or, or_true, znar_50, bI_0, bI_1, bI_z, bft, nI_z0, nI_z1, lgc_lt, lgc_gt, lgc_le, lgc_ge, lgc_eq, not_true_eq_false, not_false_eq_true, Bool.not_eq_true, Bool.not_eq_false, reduceCtorEq, h0]
  exact k1
theorem c40 (h : NW B z v L t hl kn rl ha ra da ea) (nB : ∀ q, B q → ¬ (122 ≤ q ∧ q ≤ 130)) (hv : ∀ i, v i < 2147483648) (hk : wK v) {a b : Int32} (H : ∀ z2, cFr z z2 → Q (.inl (some (.int (rSoon v a b)))) z2) : ZC zG (d + 22) 40 [.ref 100, .int a, .int b] z Q := by
  have h0 := h.1
  unfold CS at h0
  have c := fun d Q => c13 (d := d) (Q := Q) h (a := a) (b := b)
  unfold rSoon at H
  cases hc : are2 v a b with
  | false =>
    rw [hc, if_neg (by decide)] at H
    simp (disch := omega) only [e40, s40_0, s40_1, s40_2, s40_3, s40_6, s40_9, s40_11, s40_12, s40_13, s40_14, s40_15, s40_18, s40_19, s40_20, s40_23, s40_26, s40_27, s40_30, s40_31, zcs_0, zcs_1, zcs_2, zcs_3, zcs_4, zcs_5, zcs_6, zcs_7, znl_i, znl_r, znl_n, Bool.and_true, Bool.true_and, zk_v, zk_n, zk_x, zir_r, zir_n, zclr_i, zclr_r, zclr_n, zclr_d, zclr_l, true_and, and_true, and_self, if_true, if_false, reduceIte, nI_add, pk_mul, zin_ok, zx_nI, nI_lt2, nI_le2, nI_eq2, nI_l0, nI_g0, nI_q0, nI_p0, nI_n0, nI_m1, Nat.add_zero, Nat.zero_add, Nat.reduceAdd, Nat.reduceMul, true_or, or_true, znar_50, bI_0, bI_1, bI_z, bft, nI_z0, nI_z1, lgc_lt, lgc_gt, lgc_le, lgc_ge, lgc_eq, not_true_eq_false, not_false_eq_true, Bool.not_eq_true, Bool.not_eq_false, reduceCtorEq, h0, c, hc]
    exact H z (cFr_refl z)
  | true =>
    rw [hc, if_pos rfl] at H
    simp (disch := omega) only [e40, s40_0, s40_1, s40_2, s40_3, s40_6, s40_9, s40_11, s40_12, s40_13, s40_14, s40_15, s40_18, s40_19, s40_20, s40_23, s40_26, s40_27, s40_30, s40_31, zcs_0, zcs_1, zcs_2, zcs_3, zcs_4, zcs_5, zcs_6, zcs_7, znl_i, znl_r, znl_n, Bool.and_true, Bool.true_and, zk_v, zk_n, zk_x, zir_r, zir_n, zclr_i, zclr_r, zclr_n, zclr_d, zclr_l, true_and, and_true, and_self, if_true, if_false, reduceIte, nI_add, pk_mul, zin_ok, zx_nI, nI_lt2, nI_le2, nI_eq2, nI_l0, nI_g0, nI_q0, nI_p0, nI_n0, nI_m1, Nat.add_zero, Nat.zero_add, Nat.reduceAdd, Nat.reduceMul, true_or, or_true, znar_50, bI_0, bI_1, bI_z, bft, nI_z0, nI_z1, lgc_lt, lgc_gt, lgc_le, lgc_ge, lgc_eq, not_true_eq_false, not_false_eq_true, Bool.not_eq_true, Bool.not_eq_false, reduceCtorEq, h0, c, hc]
    obtain ⟨i, j, hi, hj, hij, bi, bj, rfl, rfl⟩ := are2_of hc
    rw [zx_nI bi, zx_nI bj] at H
    refine c41 h nB hv hk hi hj (fun g hg => ?_)
    have H1 := H _ (cFr_sIA (cFr_refl z) (show 123 ≤ 130 ∧ 130 ≤ 130 ∧ ¬ 130 = 127 by omega) g)
    have hF := dW_F (v := v) (a := i) (b := j) (S := v (1864 + i))
    generalize dW v i j (v (1864 + i)) = y at *
    by_cases hy : y < 100000
    · rw [eM_lt hy] at H1
      have hne : ¬ y = 100000 := by omega
      simp (disch := omega) only [s40_0, s40_1, s40_2, s40_3, s40_6, s40_9, s40_11, s40_12, s40_13, s40_14, s40_15, s40_18, s40_19, s40_20, s40_23, s40_26, s40_27, s40_30, s40_31, zcs_0, zcs_1, zcs_2, zcs_3, zcs_4, zcs_5, zcs_6, zcs_7, znl_i, znl_r, znl_n, Bool.and_true, Bool.true_and, zk_v, zk_n, zk_x, zir_r, zir_n, zclr_i, zclr_r, zclr_n, zclr_d, zclr_l, true_and, and_true, and_self, if_true, if_false, reduceIte, nI_add, pk_mul, zin_ok, zx_nI, nI_lt2, nI_le2, nI_eq2, nI_l0, nI_g0, nI_q0, nI_p0, nI_n0, nI_m1, Nat.add_zero, Nat.zero_add, Nat.reduceAdd, Nat.reduceMul, true_or, or_true, znar_50, bI_0, bI_1, bI_z, bft, nI_z0, nI_z1, lgc_lt, lgc_gt, lgc_le, lgc_ge, lgc_eq, not_true_eq_false, not_false_eq_true, Bool.not_eq_true, Bool.not_eq_false, reduceCtorEq, hne]
      exact H1
    · rw [eM_ge hy] at H1
      have hne : y = 100000 := by omega
      simp (disch := omega) only [s40_0, s40_1, s40_2, s40_3, s40_6, s40_9, s40_11, s40_12, s40_13, s40_14, s40_15, s40_18, s40_19, s40_20, s40_23, s40_26, s40_27, s40_30, s40_31, zcs_0, zcs_1, zcs_2, zcs_3, zcs_4, zcs_5, zcs_6, zcs_7, znl_i, znl_r, znl_n, Bool.and_true, Bool.true_and, zk_v, zk_n, zk_x, zir_r, zir_n, zclr_i, zclr_r, zclr_n, zclr_d, zclr_l, true_and, and_true, and_self, if_true, if_false, reduceIte, nI_add, pk_mul, zin_ok, zx_nI, nI_lt2, nI_le2, nI_eq2, nI_l0, nI_g0, nI_q0, nI_p0, nI_n0, nI_m1, Nat.add_zero, Nat.zero_add, Nat.reduceAdd, Nat.reduceMul, true_or, or_true, znar_50, bI_0, bI_1, bI_z, bft, nI_z0, nI_z1, lgc_lt, lgc_gt, lgc_le, lgc_ge, lgc_eq, not_true_eq_false, not_false_eq_true, Bool.not_eq_true, Bool.not_eq_false, reduceCtorEq, hne, eq_self]
      exact H1
theorem c44 (h : NW B z v L t hl kn rl ha ra da ea) (nB : ∀ q, B q → ¬ (122 ≤ q ∧ q ≤ 130)) (hv : ∀ i, v i < 2147483648) (hk : wK v) {a b x : Int32} (H : ∀ z2, cFr z z2 → Q (.inl (some (.int (rPath v a b x)))) z2) : ZC zG (d + 22) 44 [.ref 100, .int a, .int b, .int x] z Q := by
  have h0 := h.1
  unfold CS at h0
  have c := fun d Q => c13 (d := d) (Q := Q) h (a := a) (b := b)
  have h16 : v 0 ≤ 16 := h.2.2.1.2.2.2.1.2
  unfold rPath at H
  cases hc : are2 v a b with
  | false =>
    rw [hc, if_neg (by decide)] at H
    simp (disch := omega) only [e44, s44_0, s44_1, s44_2, s44_3, s44_6, s44_9, s44_11, s44_12, s44_13, s44_14, s44_15, s44_18, s44_20, s44_22, s44_25, s44_28, s44_29, s44_30, s44_31, s44_33, s44_34, s44_35, s44_36, s44_39, s44_42, s44_43, s44_44, s44_45, s44_48, s44_51, s44_54, s44_55, s44_56, s44_58, s44_59, s44_61, s44_62, s44_66, s44_67, s44_70, s44_71, s44_74, s44_75, s44_77, s44_79, s44_82, s44_85, s44_86, s44_87, s44_88, s44_90, s44_91, s44_93, s44_94, s44_95, s44_98, s44_100, s44_102, s44_103, s44_104, s44_105, s44_108, s44_111, s44_114, s44_116, s44_117, s44_119, s44_120, s44_121, s44_123, s44_126, s44_129, s44_131, zcs_0, zcs_1, zcs_2, zcs_3, zcs_4, zcs_5, zcs_6, zcs_7, znl_i, znl_r, znl_n, Bool.and_true, Bool.true_and, zk_v, zk_n, zk_x, zir_r, zir_n, zclr_i, zclr_r, zclr_n, zclr_d, zclr_l, true_and, and_true, and_self, if_true, if_false, reduceIte, nI_add, pk_mul, zin_ok, zx_nI, nI_lt2, nI_le2, nI_eq2, nI_l0, nI_g0, nI_q0, nI_p0, nI_n0, nI_m1, Nat.add_zero, Nat.zero_add, Nat.reduceAdd, Nat.reduceMul, true_or, or_true, znar_50, bI_0, bI_1, bI_z, bft, nI_z0, nI_z1, lgc_lt, lgc_gt, lgc_le, lgc_ge, lgc_eq, not_true_eq_false, not_false_eq_true, Bool.not_eq_true, Bool.not_eq_false, reduceCtorEq, h0, c, hc]
    exact H z (cFr_refl z)
  | true =>
    rw [hc, if_pos rfl] at H
    simp (disch := omega) only [e44, s44_0, s44_1, s44_2, s44_3, s44_6, s44_9, s44_11, s44_12, s44_13, s44_14, s44_15, s44_18, s44_20, s44_22, s44_25, s44_28, s44_29, s44_30, s44_31, s44_33, s44_34, s44_35, s44_36, s44_39, s44_42, s44_43, s44_44, s44_45, s44_48, s44_51, s44_54, s44_55, s44_56, s44_58, s44_59, s44_61, s44_62, s44_66, s44_67, s44_70, s44_71, s44_74, s44_75, s44_77, s44_79, s44_82, s44_85, s44_86, s44_87, s44_88, s44_90, s44_91, s44_93, s44_94, s44_95, s44_98, s44_100, s44_102, s44_103, s44_104, s44_105, s44_108, s44_111, s44_114, s44_116, s44_117, s44_119, s44_120, s44_121, s44_123, s44_126, s44_129, s44_131, zcs_0, zcs_1, zcs_2, zcs_3, zcs_4, zcs_5, zcs_6, zcs_7, znl_i, znl_r, znl_n, Bool.and_true, Bool.true_and, zk_v, zk_n, zk_x, zir_r, zir_n, zclr_i, zclr_r, zclr_n, zclr_d, zclr_l, true_and, and_true, and_self, if_true, if_false, reduceIte, nI_add, pk_mul, zin_ok, zx_nI, nI_lt2, nI_le2, nI_eq2, nI_l0, nI_g0, nI_q0, nI_p0, nI_n0, nI_m1, Nat.add_zero, Nat.zero_add, Nat.reduceAdd, Nat.reduceMul, true_or, or_true, znar_50, bI_0, bI_1, bI_z, bft, nI_z0, nI_z1, lgc_lt, lgc_gt, lgc_le, lgc_ge, lgc_eq, not_true_eq_false, not_false_eq_true, Bool.not_eq_true, Bool.not_eq_false, reduceCtorEq, h0, c, hc]
    obtain ⟨i, j, hi, hj, hij, bi, bj, rfl, rfl⟩ := are2_of hc
    rw [zx_nI bi, zx_nI bj] at H
    refine c41 h nB hv hk hi hj (fun g hg => ?_)
    have fr : ∀ f : Nat → Int32, cFr z (sIA z 130 f) := fun f => cFr_sIA (cFr_refl z) (by omega) f
    have hF := dW_F (v := v) (a := i) (b := j) (S := v (1864 + i))
    have hr : v (1864 + i) < 65536 := by
      have := (hk i (by omega)).1
      have : (2 : Nat) ^ v 0 ≤ 2 ^ 16 := Nat.pow_le_pow_right (by omega) h16
      omega
    have hN := NW_cFr h nB (fr g)
    have k0 := hN.1
    unfold CS at k0
    have kK := hN.2.2.2.2.2.1 i (by omega)
    by_cases hy : dW v i j (v (1864 + i)) < 100000
    · have hne : ¬ dW v i j (v (1864 + i)) = 100000 := by omega
      have d16 := dW_16 (a := i) (b := j) h16 hr hy
      cases hx : zin x (dW v i j (v (1864 + i))) with
      | false =>
        have H1 := H _ (fr g)
        rw [hx, if_neg (fun q => by cases q.2)] at H1
        simp (disch := omega) only [s44_0, s44_1, s44_2, s44_3, s44_6, s44_9, s44_11, s44_12, s44_13, s44_14, s44_15, s44_18, s44_20, s44_22, s44_25, s44_28, s44_29, s44_30, s44_31, s44_33, s44_34, s44_35, s44_36, s44_39, s44_42, s44_43, s44_44, s44_45, s44_48, s44_51, s44_54, s44_55, s44_56, s44_58, s44_59, s44_61, s44_62, s44_66, s44_67, s44_70, s44_71, s44_74, s44_75, s44_77, s44_79, s44_82, s44_85, s44_86, s44_87, s44_88, s44_90, s44_91, s44_93, s44_94, s44_95, s44_98, s44_100, s44_102, s44_103, s44_104, s44_105, s44_108, s44_111, s44_114, s44_116, s44_117, s44_119, s44_120, s44_121, s44_123, s44_126, s44_129, s44_131, zcs_0, zcs_1, zcs_2, zcs_3, zcs_4, zcs_5, zcs_6, zcs_7, znl_i, znl_r, znl_n, Bool.and_true, Bool.true_and, zk_v, zk_n, zk_x, zir_r, zir_n, zclr_i, zclr_r, zclr_n, zclr_d, zclr_l, true_and, and_true, and_self, if_true, if_false, reduceIte, nI_add, pk_mul, zin_ok, zx_nI, nI_lt2, nI_le2, nI_eq2, nI_l0, nI_g0, nI_q0, nI_p0, nI_n0, nI_m1, Nat.add_zero, Nat.zero_add, Nat.reduceAdd, Nat.reduceMul, true_or, or_true, znar_50, bI_0, bI_1, bI_z, bft, nI_z0, nI_z1, lgc_lt, lgc_gt, lgc_le, lgc_ge, lgc_eq, not_true_eq_false, not_false_eq_true, Bool.not_eq_true, Bool.not_eq_false, reduceCtorEq, hne, c2, lin_n, hx]
        exact H1
      | true =>
        obtain ⟨e, e1, e2, rfl⟩ := zin_of hx
        rw [hx, if_pos ⟨hy, rfl⟩, zx_nI e2] at H
        simp (disch := omega) only [s44_0, s44_1, s44_2, s44_3, s44_6, s44_9, s44_11, s44_12, s44_13, s44_14, s44_15, s44_18, s44_20, s44_22, s44_25, s44_28, s44_29, s44_30, s44_31, s44_33, s44_34, s44_35, s44_36, s44_39, s44_42, s44_43, s44_44, s44_45, s44_48, s44_51, s44_54, s44_55, s44_56, s44_58, s44_59, s44_61, s44_62, s44_66, s44_67, s44_70, s44_71, s44_74, s44_75, s44_77, s44_79, s44_82, s44_85, s44_86, s44_87, s44_88, s44_90, s44_91, s44_93, s44_94, s44_95, s44_98, s44_100, s44_102, s44_103, s44_104, s44_105, s44_108, s44_111, s44_114, s44_116, s44_117, s44_119, s44_120, s44_121, s44_123, s44_126, s44_129, s44_131, zcs_0, zcs_1, zcs_2, zcs_3, zcs_4, zcs_5, zcs_6, zcs_7, znl_i, znl_r, znl_n, Bool.and_true, Bool.true_and, zk_v, zk_n, zk_x, zir_r, zir_n, zclr_i, zclr_r, zclr_n, zclr_d, zclr_l, true_and, and_true, and_self, if_true, if_false, reduceIte, nI_add, pk_mul, zin_ok, zx_nI, nI_lt2, nI_le2, nI_eq2, nI_l0, nI_g0, nI_q0, nI_p0, nI_n0, nI_m1, Nat.add_zero, Nat.zero_add, Nat.reduceAdd, Nat.reduceMul, true_or, or_true, znar_50, bI_0, bI_1, bI_z, bft, nI_z0, nI_z1, lgc_lt, lgc_gt, lgc_le, lgc_ge, lgc_eq, not_true_eq_false, not_false_eq_true, Bool.not_eq_true, Bool.not_eq_false, reduceCtorEq, hne, c2, lin_n, hx, k0, kK]
        have ok := gS_ok (a := i) (b := j) h16 hr hy
        -- call by call
        have outer := zl_inv (P := fun k (w : (Nat → Int32) × Int32) => ZW zG (d + 22) 44 64 [.ref 100, .int (nI i), .int (nI j), .int (nI e), .int (nI (dW v i j (v (1864 + i)))), .int (nI (gS v i j (v (1864 + i)) k)), .int w.2, .int (nI k)] [] (sIA z 130 w.1) Q) (I := fun k w => cMem v i j w.1 ∧ (0 < k → w.2 = nI (wN v i j (v (1864 + i)) (k - 1)))) (e + 1) (by
          rintro ⟨f, x6⟩ ⟨i1, i2⟩
          dsimp only at i1 i2
          have i3 := i2 (by omega)
          rw [Nat.add_sub_cancel] at i3
          subst i3
          have g1 : e < e + 1 := Nat.lt_succ_self _
          refine Eq.mpr s44_64 ?_
          simp (disch := omega) only [s44_0, s44_1, s44_2, s44_3, s44_6, s44_9, s44_11, s44_12, s44_13, s44_14, s44_15, s44_18, s44_20, s44_22, s44_25, s44_28, s44_29, s44_30, s44_31, s44_33, s44_34, s44_35, s44_36, s44_39, s44_42, s44_43, s44_44, s44_45, s44_48, s44_51, s44_54, s44_55, s44_56, s44_58, s44_59, s44_61, s44_62, s44_66, s44_67, s44_70, s44_71, s44_74, s44_75, s44_77, s44_79, s44_82, s44_85, s44_86, s44_87, s44_88, s44_90, s44_91, s44_93, s44_94, s44_95, s44_98, s44_100, s44_102, s44_103, s44_104, s44_105, s44_108, s44_111, s44_114, s44_116, s44_117, s44_119, s44_120, s44_121, s44_123, s44_126, s44_129, s44_131, zcs_0, zcs_1, zcs_2, zcs_3, zcs_4, zcs_5, zcs_6, zcs_7, znl_i, znl_r, znl_n, Bool.and_true, Bool.true_and, zk_v, zk_n, zk_x, zir_r, zir_n, zclr_i, zclr_r, zclr_n, zclr_d, zclr_l, true_and, and_true, and_self, if_true, if_false, reduceIte, nI_add, pk_mul, zin_ok, zx_nI, nI_lt2, nI_le2, nI_eq2, nI_l0, nI_g0, nI_q0, nI_p0, nI_n0, nI_m1, Nat.add_zero, Nat.zero_add, Nat.reduceAdd, Nat.reduceMul, true_or, or_true, znar_50, bI_0, bI_1, bI_z, bft, nI_z0, nI_z1, lgc_lt, lgc_gt, lgc_le, lgc_ge, lgc_eq, not_true_eq_false, not_false_eq_true, Bool.not_eq_true, Bool.not_eq_false, reduceCtorEq, g1]
          exact H _ (fr f)) (by
          rintro k ⟨f, x6⟩ hk' ⟨i1, i2⟩ hnext
          replace hnext := fun f x h => hnext (f, x) h
          dsimp only at i1 i2 hnext
          obtain ⟨o1, o2, o3⟩ := ok k (by omega)
          obtain ⟨w1, w2, w3, w4⟩ := wNx_ok (v := v) (a := i) (b := j) (S := gS v i j (v (1864 + i)) k) (m := dW v i j (v (1864 + i)) - k - 1) o1 (by omega) (by omega)
          have e5 : gS v i j (v (1864 + i)) (k + 1) = gS v i j (v (1864 + i)) k ||| 2 ^ wNx v i j (gS v i j (v (1864 + i)) k) (dW v i j (v (1864 + i)) - k - 1) := rfl
          have e6 : wN v i j (v (1864 + i)) k = wNx v i j (gS v i j (v (1864 + i)) k) (dW v i j (v (1864 + i)) - k - 1) := rfl
          rw [e5, Nat.add_sub_cancel, e6] at hnext
          have g1 : ¬ e < k := by omega
          refine Eq.mpr s44_64 ?_
          simp (disch := omega) only [s44_0, s44_1, s44_2, s44_3, s44_6, s44_9, s44_11, s44_12, s44_13, s44_14, s44_15, s44_18, s44_20, s44_22, s44_25, s44_28, s44_29, s44_30, s44_31, s44_33, s44_34, s44_35, s44_36, s44_39, s44_42, s44_43, s44_44, s44_45, s44_48, s44_51, s44_54, s44_55, s44_56, s44_58, s44_59, s44_61, s44_62, s44_66, s44_67, s44_70, s44_71, s44_74, s44_75, s44_77, s44_79, s44_82, s44_85, s44_86, s44_87, s44_88, s44_90, s44_91, s44_93, s44_94, s44_95, s44_98, s44_100, s44_102, s44_103, s44_104, s44_105, s44_108, s44_111, s44_114, s44_116, s44_117, s44_119, s44_120, s44_121, s44_123, s44_126, s44_129, s44_131, zcs_0, zcs_1, zcs_2, zcs_3, zcs_4, zcs_5, zcs_6, zcs_7, znl_i, znl_r, znl_n, Bool.and_true, Bool.true_and, zk_v, zk_n, zk_x, zir_r, zir_n, zclr_i, zclr_r, zclr_n, zclr_d, zclr_l, true_and, and_true, and_self, if_true, if_false, reduceIte, nI_add, pk_mul, zin_ok, zx_nI, nI_lt2, nI_le2, nI_eq2, nI_l0, nI_g0, nI_q0, nI_p0, nI_n0, nI_m1, Nat.add_zero, Nat.zero_add, Nat.reduceAdd, Nat.reduceMul, true_or, or_true, znar_50, bI_0, bI_1, bI_z, bft, nI_z0, nI_z1, lgc_lt, lgc_gt, lgc_le, lgc_ge, lgc_eq, not_true_eq_false, not_false_eq_true, Bool.not_eq_true, Bool.not_eq_false, reduceCtorEq, g1]
          generalize gS v i j (v (1864 + i)) k = S at *
          generalize wNx v i j S (dW v i j (v (1864 + i)) - k - 1) = W at *
          have cmp : nI (dW v i j (v (1864 + i))) - nI k - nI 1 = nI (dW v i j (v (1864 + i)) - k - 1) := by rw [pk_sub (by omega), pk_sub (by omega)]
          -- house by house
          have try1 : ∀ w f (Q' : Prop), w < v 0 → cMem v i j f → (mcW v i S w = false → ZW zG (d + 22) 44 73 [.ref 100, .int (nI i), .int (nI j), .int (nI e), .int (nI (dW v i j (v (1864 + i)))), .int (nI S), .int (nI (w + 1)), .int (nI k)] [] (sIA z 130 f) Q) → (∀ f2, cMem v i j f2 → mcW v i S w = true → ¬ dW v i j (S ||| 2 ^ w) = dW v i j (v (1864 + i)) - k - 1 → ZW zG (d + 22) 44 73 [.ref 100, .int (nI i), .int (nI j), .int (nI e), .int (nI (dW v i j (v (1864 + i)))), .int (nI S), .int (nI (w + 1)), .int (nI k)] [] (sIA z 130 f2) Q) → (∀ f2, cMem v i j f2 → mcW v i S w = true → dW v i j (S ||| 2 ^ w) = dW v i j (v (1864 + i)) - k - 1 → ZW zG (d + 22) 44 64 [.ref 100, .int (nI i), .int (nI j), .int (nI e), .int (nI (dW v i j (v (1864 + i)))), .int (nI (S ||| 2 ^ w)), .int (nI w), .int (nI (k + 1))] [] (sIA z 130 f2) Q) → ZW zG (d + 22) 44 73 [.ref 100, .int (nI i), .int (nI j), .int (nI e), .int (nI (dW v i j (v (1864 + i)))), .int (nI S), .int (nI w), .int (nI k)] [] (sIA z 130 f) Q := by
            intro w f _ hw hf h1 h2 h3
            have hN := NW_cFr h nB (fr f)
            have k1 := hN.1
            unfold CS at k1
            have cm := fun d Q => c43 (d := d) (Q := Q) hN hv hk hi hw o1
            refine Eq.mpr s44_73 ?_
            cases hmc : mcW v i S w with
            | false =>
              simp (disch := omega) only [s44_0, s44_1, s44_2, s44_3, s44_6, s44_9, s44_11, s44_12, s44_13, s44_14, s44_15, s44_18, s44_20, s44_22, s44_25, s44_28, s44_29, s44_30, s44_31, s44_33, s44_34, s44_35, s44_36, s44_39, s44_42, s44_43, s44_44, s44_45, s44_48, s44_51, s44_54, s44_55, s44_56, s44_58, s44_59, s44_61, s44_62, s44_66, s44_67, s44_70, s44_71, s44_74, s44_75, s44_77, s44_79, s44_82, s44_85, s44_86, s44_87, s44_88, s44_90, s44_91, s44_93, s44_94, s44_95, s44_98, s44_100, s44_102, s44_103, s44_104, s44_105, s44_108, s44_111, s44_114, s44_116, s44_117, s44_119, s44_120, s44_121, s44_123, s44_126, s44_129, s44_131, zcs_0, zcs_1, zcs_2, zcs_3, zcs_4, zcs_5, zcs_6, zcs_7, znl_i, znl_r, znl_n, Bool.and_true, Bool.true_and, zk_v, zk_n, zk_x, zir_r, zir_n, zclr_i, zclr_r, zclr_n, zclr_d, zclr_l, true_and, and_true, and_self, if_true, if_false, reduceIte, nI_add, pk_mul, zin_ok, zx_nI, nI_lt2, nI_le2, nI_eq2, nI_l0, nI_g0, nI_q0, nI_p0, nI_n0, nI_m1, Nat.add_zero, Nat.zero_add, Nat.reduceAdd, Nat.reduceMul, true_or, or_true, znar_50, bI_0, bI_1, bI_z, bft, nI_z0, nI_z1, lgc_lt, lgc_gt, lgc_le, lgc_ge, lgc_eq, not_true_eq_false, not_false_eq_true, Bool.not_eq_true, Bool.not_eq_false, reduceCtorEq, k1, cm, hmc]
              exact h1 hmc
            | true =>
              have hS2 := or16 o1 h16 hw
              have hF2 := dW_F (v := v) (a := i) (b := j) (S := S ||| 2 ^ w)
              simp (disch := omega) only [s44_0, s44_1, s44_2, s44_3, s44_6, s44_9, s44_11, s44_12, s44_13, s44_14, s44_15, s44_18, s44_20, s44_22, s44_25, s44_28, s44_29, s44_30, s44_31, s44_33, s44_34, s44_35, s44_36, s44_39, s44_42, s44_43, s44_44, s44_45, s44_48, s44_51, s44_54, s44_55, s44_56, s44_58, s44_59, s44_61, s44_62, s44_66, s44_67, s44_70, s44_71, s44_74, s44_75, s44_77, s44_79, s44_82, s44_85, s44_86, s44_87, s44_88, s44_90, s44_91, s44_93, s44_94, s44_95, s44_98, s44_100, s44_102, s44_103, s44_104, s44_105, s44_108, s44_111, s44_114, s44_116, s44_117, s44_119, s44_120, s44_121, s44_123, s44_126, s44_129, s44_131, zcs_0, zcs_1, zcs_2, zcs_3, zcs_4, zcs_5, zcs_6, zcs_7, znl_i, znl_r, znl_n, Bool.and_true, Bool.true_and, zk_v, zk_n, zk_x, zir_r, zir_n, zclr_i, zclr_r, zclr_n, zclr_d, zclr_l, true_and, and_true, and_self, if_true, if_false, reduceIte, nI_add, pk_mul, zin_ok, zx_nI, nI_lt2, nI_le2, nI_eq2, nI_l0, nI_g0, nI_q0, nI_p0, nI_n0, nI_m1, Nat.add_zero, Nat.zero_add, Nat.reduceAdd, Nat.reduceMul, true_or, or_true, znar_50, bI_0, bI_1, bI_z, bft, nI_z0, nI_z1, lgc_lt, lgc_gt, lgc_le, lgc_ge, lgc_eq, not_true_eq_false, not_false_eq_true, Bool.not_eq_true, Bool.not_eq_false, reduceCtorEq, k1, cm, hmc, nI_sh1, nI_or]
              refine c42 h nB hv hk hi hj 16 (S ||| 2 ^ w) f (d + 1) _ hS2 (by omega) hf (fun g2 hg2 => ?_)
              by_cases hd : dW v i j (S ||| 2 ^ w) = dW v i j (v (1864 + i)) - k - 1
              · simp (disch := omega) only [s44_0, s44_1, s44_2, s44_3, s44_6, s44_9, s44_11, s44_12, s44_13, s44_14, s44_15, s44_18, s44_20, s44_22, s44_25, s44_28, s44_29, s44_30, s44_31, s44_33, s44_34, s44_35, s44_36, s44_39, s44_42, s44_43, s44_44, s44_45, s44_48, s44_51, s44_54, s44_55, s44_56, s44_58, s44_59, s44_61, s44_62, s44_66, s44_67, s44_70, s44_71, s44_74, s44_75, s44_77, s44_79, s44_82, s44_85, s44_86, s44_87, s44_88, s44_90, s44_91, s44_93, s44_94, s44_95, s44_98, s44_100, s44_102, s44_103, s44_104, s44_105, s44_108, s44_111, s44_114, s44_116, s44_117, s44_119, s44_120, s44_121, s44_123, s44_126, s44_129, s44_131, zcs_0, zcs_1, zcs_2, zcs_3, zcs_4, zcs_5, zcs_6, zcs_7, znl_i, znl_r, znl_n, Bool.and_true, Bool.true_and, zk_v, zk_n, zk_x, zir_r, zir_n, zclr_i, zclr_r, zclr_n, zclr_d, zclr_l, true_and, and_true, and_self, if_true, if_false, reduceIte, nI_add, pk_mul, zin_ok, zx_nI, nI_lt2, nI_le2, nI_eq2, nI_l0, nI_g0, nI_q0, nI_p0, nI_n0, nI_m1, Nat.add_zero, Nat.zero_add, Nat.reduceAdd, Nat.reduceMul, true_or, or_true, znar_50, bI_0, bI_1, bI_z, bft, nI_z0, nI_z1, lgc_lt, lgc_gt, lgc_le, lgc_ge, lgc_eq, not_true_eq_false, not_false_eq_true, Bool.not_eq_true, Bool.not_eq_false, reduceCtorEq, cmp, hd, eq_self, nI_sh1, nI_or]
                exact h3 g2 hg2 hmc hd
              · simp (disch := omega) only [s44_0, s44_1, s44_2, s44_3, s44_6, s44_9, s44_11, s44_12, s44_13, s44_14, s44_15, s44_18, s44_20, s44_22, s44_25, s44_28, s44_29, s44_30, s44_31, s44_33, s44_34, s44_35, s44_36, s44_39, s44_42, s44_43, s44_44, s44_45, s44_48, s44_51, s44_54, s44_55, s44_56, s44_58, s44_59, s44_61, s44_62, s44_66, s44_67, s44_70, s44_71, s44_74, s44_75, s44_77, s44_79, s44_82, s44_85, s44_86, s44_87, s44_88, s44_90, s44_91, s44_93, s44_94, s44_95, s44_98, s44_100, s44_102, s44_103, s44_104, s44_105, s44_108, s44_111, s44_114, s44_116, s44_117, s44_119, s44_120, s44_121, s44_123, s44_126, s44_129, s44_131, zcs_0, zcs_1, zcs_2, zcs_3, zcs_4, zcs_5, zcs_6, zcs_7, znl_i, znl_r, znl_n, Bool.and_true, Bool.true_and, zk_v, zk_n, zk_x, zir_r, zir_n, zclr_i, zclr_r, zclr_n, zclr_d, zclr_l, true_and, and_true, and_self, if_true, if_false, reduceIte, nI_add, pk_mul, zin_ok, zx_nI, nI_lt2, nI_le2, nI_eq2, nI_l0, nI_g0, nI_q0, nI_p0, nI_n0, nI_m1, Nat.add_zero, Nat.zero_add, Nat.reduceAdd, Nat.reduceMul, true_or, or_true, znar_50, bI_0, bI_1, bI_z, bft, nI_z0, nI_z1, lgc_lt, lgc_gt, lgc_le, lgc_ge, lgc_eq, not_true_eq_false, not_false_eq_true, Bool.not_eq_true, Bool.not_eq_false, reduceCtorEq, cmp, hd]
                exact h2 g2 hg2 hmc hd
          have inner := zl_inv (P := fun w (f : Nat → Int32) => ZW zG (d + 22) 44 73 [.ref 100, .int (nI i), .int (nI j), .int (nI e), .int (nI (dW v i j (v (1864 + i)))), .int (nI S), .int (nI w), .int (nI k)] [] (sIA z 130 f) Q) (I := fun _ f => cMem v i j f) W (by
            intro f hf
            refine try1 W f True w1 hf (fun q => by rw [w2] at q; cases q) (fun f2 _ _ q => absurd w3 q) (fun f2 hf2 _ _ => hnext f2 (nI W) ⟨hf2, fun _ => rfl⟩)) (by
            intro w f hwW hf hn
            refine try1 w f True (by omega) hf (fun _ => hn f hf) (fun f2 hf2 _ _ => hn f2 hf2) (fun f2 _ q1 q2 => absurd ⟨q1, q2⟩ (w4 w hwW)))
          exact inner 0 f (Nat.zero_le _) i1)
        exact outer 0 (g, _) (Nat.zero_le _) ⟨hg, fun q => absurd q (by omega)⟩
    · have hne : dW v i j (v (1864 + i)) = 100000 := by omega
      have H1 := H _ (fr g)
      rw [if_neg (fun q => hy q.1)] at H1
      simp (disch := omega) only [s44_0, s44_1, s44_2, s44_3, s44_6, s44_9, s44_11, s44_12, s44_13, s44_14, s44_15, s44_18, s44_20, s44_22, s44_25, s44_28, s44_29, s44_30, s44_31, s44_33, s44_34, s44_35, s44_36, s44_39, s44_42, s44_43, s44_44, s44_45, s44_48, s44_51, s44_54, s44_55, s44_56, s44_58, s44_59, s44_61, s44_62, s44_66, s44_67, s44_70, s44_71, s44_74, s44_75, s44_77, s44_79, s44_82, s44_85, s44_86, s44_87, s44_88, s44_90, s44_91, s44_93, s44_94, s44_95, s44_98, s44_100, s44_102, s44_103, s44_104, s44_105, s44_108, s44_111, s44_114, s44_116, s44_117, s44_119, s44_120, s44_121, s44_123, s44_126, s44_129, s44_131, zcs_0, zcs_1, zcs_2, zcs_3, zcs_4, zcs_5, zcs_6, zcs_7, znl_i, znl_r, znl_n, Bool.and_true, Bool.true_and, zk_v, zk_n, zk_x, zir_r, zir_n, zclr_i, zclr_r, zclr_n, zclr_d, zclr_l, true_and, and_true, and_self, if_true, if_false, reduceIte, nI_add, pk_mul, zin_ok, zx_nI, nI_lt2, nI_le2, nI_eq2, nI_l0, nI_g0, nI_q0, nI_p0, nI_n0, nI_m1, Nat.add_zero, Nat.zero_add, Nat.reduceAdd, Nat.reduceMul, true_or, or_true, znar_50, bI_0, bI_1, bI_z, bft, nI_z0, nI_z1, lgc_lt, lgc_gt, lgc_le, lgc_ge, lgc_eq, not_true_eq_false, not_false_eq_true, Bool.not_eq_true, Bool.not_eq_false, reduceCtorEq, hne, eq_self]
      exact H1
end CC
