set_option maxRecDepth 100000
/-! the component's reader: rules -/
/-- a new rule -/
def mkR (q : Nat) (a b c : Int32) (z : ZH) : ZH := sfi (sfi (sfi (sfr (slin (snew z 24 3) (zn z) 2) q 3 (.ref (zn z))) q 0 a) q 1 b) q 2 c
section CY
variable {d : Nat} {z : ZH} {Q : ZQ} {b : Nat → Nat} {sz R : Nat} {S : YS} {G : Nat → Nat} {L : Nat → List (Nat × Nat)}
theorem c234 {q : Nat} {a e c : Int32} (hq : zcls z q = 15) (hqn : q < zn z) : ZC zG d 234 [.ref q, .int a, .int e, .int c] z Q = Q (.inl none) (mkR q a e c z) := by
  have e1 : zcls (slin (snew z 24 3) (zn z) 2) q = 15 := by
    rw [cls_slin, n_snew, zu1_n _ _ _ (by omega), zu1_n _ _ _ (by omega), cls_snew, zu1_n _ _ _ (by omega)]
    exact hq
  have e2 : zcls (snew z 24 3) (zn z) = 24 := by rw [cls_snew, zu1_s]
  have e3 : zfi (snew z 24 3) (zn z) 2 = 0 := by rw [fi_snew, zu1_s]
  unfold mkR
  simp (disch := omega) only [e234, s234_0, s234_1, s234_4, s234_5, s234_8, s234_9, s234_10, s234_13, s234_16, s234_17, s234_18, s234_21, s234_22, s234_23, s234_26, s234_27, s234_28, s234_31, zcs_0, zcs_1, zcs_2, zcs_3, zcs_4, zcs_5, zcs_6, zcs_7, znl_i, znl_r, znl_n, Bool.and_true, Bool.true_and, zk_v, zk_n, zk_x, zir_r, zir_n, zclr_i, zclr_r, zclr_n, zclr_d, zclr_l, true_and, and_true, and_self, if_true, if_false, reduceIte, nI_add, pk_mul, zin_ok, zx_nI, nI_lt2, nI_le2, nI_eq2, nI_l0, nI_g0, nI_q0, nI_p0, nI_n0, nI_m1, Nat.add_zero, Nat.zero_add, Nat.reduceAdd, Nat.reduceMul, true_or, or_true, znar_50, bI_0, bI_1, bI_z, bft, nI_z0, nI_z1, lgc_lt, lgc_gt, lgc_le, lgc_ge, lgc_eq, not_true_eq_false, not_false_eq_true, Bool.not_eq_true, Bool.not_eq_false, reduceCtorEq, eq_self, nI_e0, nI_e1, i10, i01, decide_false, decide_true, Bool.false_eq_true, cls_sfi, cls_sfr, e1, e2, e3, nI_ne]
theorem mkR_cP {q : Nat} {a e c : Int32} (hq : ¬ q = R) (hn : R < zn z) : mkR q a e c (cP z R S) = cP (mkR q a e c z) R S := by
  unfold mkR
  rw [cP_snew hn, n_cP, cP_slin, cP_sfr, cP_sfi hq, cP_sfi hq, cP_sfi hq]
theorem yO_bad2 (h : ¬ yFk (yO2 b sz S) = 0) : (yO5 b sz S G).1 = yO2 b sz S := by
  have h3 : yO3 b sz S = yO2 b sz S := yTkn_bad h
  have h4 : (yO4 b sz S).1 = yO2 b sz S := by
    unfold yO4
    rw [h3, yNeed_bad h, yNum_bad h]
  unfold yO5
  rw [h4, yIs_bad h, if_neg (by simp)]
theorem yO_bad3 (h : ¬ yFk (yO3 b sz S) = 0) : (yO5 b sz S G).1 = yO3 b sz S := by
  have h4 : (yO4 b sz S).1 = yO3 b sz S := by
    unfold yO4
    rw [yNeed_bad h, yNum_bad h]
  unfold yO5
  rw [h4, yIs_bad h, if_neg (by simp)]
theorem yO_bad4 (h : ¬ yFk (yO4 b sz S).1 = 0) : (yO5 b sz S G).1 = (yO4 b sz S).1 := by
  unfold yO5
  rw [yIs_bad h]
  rfl
theorem yTL_bad (h : ¬ yFk S = 0) : ∀ n, yTL b sz n S G = (S, G)
  | 0 => rfl
  | n + 1 => by
    unfold yTL
    rw [yIs_bad h]
    rfl
/-- a list's places are there -/
def zDat (z : ZH) (r : Nat) : Prop := ∃ q : Nat, zfr z r 0 = .ref q ∧ q < zn z
theorem zDat.fr {W : Nat → Prop} {z z' : ZH} {r : Nat} (h : zFr W z z') (hr : r < zn z) (hw : ¬ W r) (k : zDat z r) : zDat z' r := by
  obtain ⟨q, k1, k2⟩ := k
  exact ⟨q, by rw [(h.2 r hr hw).2.2.1]; exact k1, by have := h.1; omega⟩
theorem zDat.add {z : ZH} {r : Nat} {x : Value} (k : zDat z r) : zDat (sladd z r x) r := by
  obtain ⟨q, k1, k2⟩ := k
  unfold sladd
  split
  · exact ⟨zn z, by rw [fr_sls, fr_sgro, zu2_s], by rw [n_sls, n_sgro]; omega⟩
  · exact ⟨q, k1, k2⟩
theorem capL_fr {z z' : ZH} {r : Nat} (h : FN z z') (hr : r < zn z) (k : zDat z r) : capL z' r = capL z r := by
  obtain ⟨q, k1, k2⟩ := k
  have e := (h.2 r hr (fun w => w)).2.2.1
  unfold capL zdat
  rw [e, k1]
  exact (h.2 q k2 (fun w => w)).2.2.2.2.2.2.1
/-- cells behind a rule's list of tests -/
def Bt (tl : Nat) (z : ZH) (q : Nat) : Prop := tl < q ∧ q < zn z
/-- a rule in the making: q, what it says; m0 tests ahead of its own -/
def RM (z z3 : ZH) (q p ow wi m0 : Nat) (G3 : Nat → Nat) (L3 : Nat → List (Nat × Nat)) : Prop :=
  (FN z z3 ∧ q + 3 ≤ zn z3) ∧ (zcls z3 q = 15 ∧ zfi z3 q 0 = nI p ∧ zfi z3 q 1 = nI ow ∧ zfi z3 q 2 = nI wi ∧ zfr z3 q 3 = .ref (q + 1) ∧ zcls z3 (q + 1) = 90 ∧ zDat z3 (q + 1)) ∧
  (m0 ≤ G3 2 ∧ (zls z3 (q + 1)).length + m0 = G3 2 ∧ ∀ i, m0 + i < G3 2 → ∃ r : Nat, (zls z3 (q + 1)).getD i .null = .ref r ∧ zTs (Bt (q + 1) z3) z3 G3 (L3 (m0 + i)) (m0 + i) r) ∧
  (TI G3 L3 ∧ pOK G3)
/-- one test: the whole of it -/
theorem c222t (hR : RD z R b sz) (hn : R + 11 ≤ zn z) (h162 : 162 ≤ R) {z3 : ZH} {p ow wi m0 q : Nat} {G3 : Nat → Nat} {L3 : Nat → List (Nat × Nat)} {S3 : YS} {x4 x5 : Value} (hq : zn z ≤ q) (hM : RM z z3 q p ow wi m0 G3 L3) (hS : yOK sz S3) (hk : yFk S3 = 0) (hA : yA S3 G3) (hsz : sz ≤ 1400)
    (H : yFk (yT3 b sz S3 G3).1 = 0 → ∀ z8 r1 si L8, RM z z8 q p ow wi m0 (yTG b sz S3 G3) L8 → (∀ t, t < G3 2 → L8 t = L3 t) → zuc z3 ≤ zuc z8 → zuc z8 + yFr S3 ≤ zuc z3 + yFr (yT3 b sz S3 G3).1 + 2 → zus z3 ≤ zus z8 → zus z8 + yFr S3 + 4 * capL z3 (q + 1) ≤ zus z3 + yFr (yT3 b sz S3 G3).1 + 3 + 4 * capL z8 (q + 1) → (capL z8 (q + 1) ≤ capL z3 (q + 1) ∨ capL z8 (q + 1) ≤ 2 * (G3 2 - m0) + 1) → ZW zG (d + 6) 222 84 [.ref R, .int (nI p), .int (nI ow), .ref q, .ref r1, .int (nI si)] [] (cP z8 R (yT3 b sz S3 G3).1) Q)
    (HX : ¬ yFk (yT3 b sz S3 G3).1 = 0 → ∀ z8 S', FN z z8 → zuc z3 ≤ zuc z8 → zuc z8 + yFr S3 ≤ zuc z3 + sz + 10 → zus z3 ≤ zus z8 → zus z8 + yFr S3 ≤ zus z3 + sz + 20 → Q (.inr (.ref (zn z8))) (mkW (cP z8 R S') (nI (yFk (yT3 b sz S3 G3).1)) (yFp (yT3 b sz S3 G3).1))) : ZW zG (d + 6) 222 43 [.ref R, .int (nI p), .int (nI ow), .ref q, x4, x5] [] (cP z3 R S3) Q := by
  obtain ⟨⟨f1, f2⟩, ⟨q1, q2, q3, q4, q5, q6, q7⟩, ⟨m1, m2, m3⟩, ti, pk⟩ := hM
  have hR3 := hR.fn f1 (by omega) h162
  have r0 : zcls z3 R = 13 := hR3.1.1.1
  have n3 := f1.1
  obtain ⟨k1, k2, k3⟩ := yT_ok (b := b) (G := G3) hS
  obtain ⟨A1, A2⟩ := hA hk
  have hfr := hS.1
  simp (disch := omega) only [s222_43, s222_44, zcs_0, zcs_1, zcs_2, zcs_3, zcs_4, zcs_5, zcs_6, zcs_7, znl_i, znl_r, znl_n, Bool.and_true, Bool.true_and, zk_v, zk_n, zk_x, zir_r, zir_n, zclr_i, zclr_r, zclr_n, zclr_d, zclr_l, true_and, and_true, and_self, if_true, if_false, reduceIte, nI_add, pk_mul, zin_ok, zx_nI, nI_lt2, nI_le2, nI_eq2, nI_l0, nI_g0, nI_q0, nI_p0, nI_n0, nI_m1, Nat.add_zero, Nat.zero_add, Nat.reduceAdd, Nat.reduceMul, true_or, or_true, znar_50, bI_0, bI_1, bI_z, bft, nI_z0, nI_z1, lgc_lt, lgc_gt, lgc_le, lgc_ge, lgc_eq, not_true_eq_false, not_false_eq_true, Bool.not_eq_true, Bool.not_eq_false, reduceCtorEq, eq_self, nI_e0, nI_e1, i10, i01, decide_false, decide_true, Bool.false_eq_true, cls_cP, fr_cP, len_cP, ls_cP, n_cP, r0]
  refine c228 (d := d) (G := G3) (j := 0) hR3 hS hk (by omega) h162 (by omega) (fun g1 z4 r1 a F4 sm la hj ag u1 u2 v1 v2 => ?_) (fun g1 z4 S4 F4 u1 u2 v1 v2 => ?_)
  rotate_left
  · have e2 : yT2 b sz S3 G3 = (ySum b sz 0 S3 G3).1 := yTkn_bad g1
    have e3 : (yT3 b sz S3 G3).1 = (ySum b sz 0 S3 G3).1 := by
      unfold yT3
      rw [e2, if_neg g1]
    rw [e3] at HX
    simp only [zcs_0, zcs_1, zcs_2, zcs_3, zcs_4, zcs_5, zcs_6, zcs_7, znl_i, znl_r, znl_n, Bool.and_true, Bool.true_and, zk_v, zk_n, zk_x, zir_r, zir_n, zclr_i, zclr_r, zclr_n, zclr_d, zclr_l, true_and, and_true, and_self, if_true, if_false, reduceIte]
    exact HX g1 z4 S4 (f1.trans F4) u1 (by omega) v1 (by omega)
  have mo1 : yFr S3 ≤ yFr (ySum b sz 0 S3 G3).1 := Nat.le_trans (yP1_mo hS) (ySum_mo hS)
  have hR4 := hR3.fn F4 (by omega) h162
  have n4 := F4.1
  have s0 : zcls z4 R = 13 := hR4.1.1.1
  have s2 : zfr z4 R 2 = .ref (R + 3) := hR4.2.2.2.1.1
  simp (disch := omega) only [s222_47, s222_49, s222_50, s222_51, s222_54, zcs_0, zcs_1, zcs_2, zcs_3, zcs_4, zcs_5, zcs_6, zcs_7, znl_i, znl_r, znl_n, Bool.and_true, Bool.true_and, zk_v, zk_n, zk_x, zir_r, zir_n, zclr_i, zclr_r, zclr_n, zclr_d, zclr_l, true_and, and_true, and_self, if_true, if_false, reduceIte, nI_add, pk_mul, zin_ok, zx_nI, nI_lt2, nI_le2, nI_eq2, nI_l0, nI_g0, nI_q0, nI_p0, nI_n0, nI_m1, Nat.add_zero, Nat.zero_add, Nat.reduceAdd, Nat.reduceMul, true_or, or_true, znar_50, bI_0, bI_1, bI_z, bft, nI_z0, nI_z1, lgc_lt, lgc_gt, lgc_le, lgc_ge, lgc_eq, not_true_eq_false, not_false_eq_true, Bool.not_eq_true, Bool.not_eq_false, reduceCtorEq, eq_self, nI_e0, nI_e1, i10, i01, decide_false, decide_true, Bool.false_eq_true, cls_cP, fr_cP, len_cP, ls_cP, n_cP, s0, s2]
  refine c225 (d := d + 3) hR4.1 k1 g1 (by omega) hR4.2.2.2.1.2 (fun g2 => ?_) (fun g2 S' => ?_)
  rotate_left
  · have g2 : ¬ yFk (yT2 b sz S3 G3) = 0 := g2
    have e3 : (yT3 b sz S3 G3).1 = yT2 b sz S3 G3 := by
      unfold yT3
      rw [if_neg g2]
    rw [e3] at HX
    simp only [zcs_0, zcs_1, zcs_2, zcs_3, zcs_4, zcs_5, zcs_6, zcs_7, znl_i, znl_r, znl_n, Bool.and_true, Bool.true_and, zk_v, zk_n, zk_x, zir_r, zir_n, zclr_i, zclr_r, zclr_n, zclr_d, zclr_l, true_and, and_true, and_self, if_true, if_false, reduceIte]
    have hk1 := k1.1
    have mo1 : yFr S3 ≤ yFr (yT1 b sz S3 G3).1 := mo1
    have u2 : zuc z4 + yFr S3 ≤ zuc z3 + yFr (yT1 b sz S3 G3).1 := u2
    have v2 : zus z4 + yFr S3 ≤ zus z3 + yFr (yT1 b sz S3 G3).1 := v2
    exact HX g2 z4 S' (f1.trans F4) u1 (by omega) v1 (by omega)
  have g2 : yFk (yT2 b sz S3 G3) = 0 := g2
  have hlt : yTs b sz S3 G3 < 3 := (yTkn_g (show yFk (yTkn b sz 3 (yTs b sz S3 G3) (yT1 b sz S3 G3).1) = 0 from g2)).1
  have e3 : yT3 b sz S3 G3 = ySum b sz 4 (yT2 b sz S3 G3) (yT1 b sz S3 G3).2 := by
    unfold yT3
    rw [if_pos g2]
  have mo2 : yFr (yT1 b sz S3 G3).1 ≤ yFr (yT2 b sz S3 G3) := yTkn_mo k1
  have l4 := F4.2 q (by omega) (fun w => w)
  have cq4 : zcls z4 q = 15 := by rw [l4.1]; exact q1
  have fq4 : zfr z4 q 3 = .ref (q + 1) := by rw [l4.2.2.1]; exact q5
  have cs := fun S' => cP_snew (z := z4) (R := R) (S := S') (c := 20) (N := 3) (by omega)
  have F5 : FN z4 (snew z4 20 3) := (FN.refl z4).snew _ _
  have hR5 := hR4.fn F5 (by omega) h162
  have t0 : zcls (snew z4 20 3) R = 13 := hR5.1.1.1
  show ZW zG (d + 6) 222 57 [.ref R, .int (nI p), .int (nI ow), .ref q, .ref r1, x5] [.int (nI (yTs b sz S3 G3))] (cP z4 R (yT2 b sz S3 G3)) Q
  simp (disch := omega) only [s222_57, s222_59, s222_60, s222_63, s222_66, s222_67, s222_69, s222_71, s222_72, zcs_0, zcs_1, zcs_2, zcs_3, zcs_4, zcs_5, zcs_6, zcs_7, znl_i, znl_r, znl_n, Bool.and_true, Bool.true_and, zk_v, zk_n, zk_x, zir_r, zir_n, zclr_i, zclr_r, zclr_n, zclr_d, zclr_l, true_and, and_true, and_self, if_true, if_false, reduceIte, nI_add, pk_mul, zin_ok, zx_nI, nI_lt2, nI_le2, nI_eq2, nI_l0, nI_g0, nI_q0, nI_p0, nI_n0, nI_m1, Nat.add_zero, Nat.zero_add, Nat.reduceAdd, Nat.reduceMul, true_or, or_true, znar_50, bI_0, bI_1, bI_z, bft, nI_z0, nI_z1, lgc_lt, lgc_gt, lgc_le, lgc_ge, lgc_eq, not_true_eq_false, not_false_eq_true, Bool.not_eq_true, Bool.not_eq_false, reduceCtorEq, eq_self, nI_e0, nI_e1, i10, i01, decide_false, decide_true, Bool.false_eq_true, cls_cP, fr_cP, len_cP, ls_cP, n_cP, s0, t0, cq4, fq4, cs]
  refine c228 (d := d) (G := (yT1 b sz S3 G3).2) (j := 4) hR5 k2 g2 (by rw [n_snew]; omega) h162 (by omega) (fun g3 z6 r2 c F6 sm2 la2 hj2 ag2 u3 u4 v3 v4 => ?_) (fun g3 z6 S6 F6 u3 u4 v3 v4 => ?_)
  rotate_left
  · rw [← e3] at g3
    simp only [zcs_0, zcs_1, zcs_2, zcs_3, zcs_4, zcs_5, zcs_6, zcs_7, znl_i, znl_r, znl_n, Bool.and_true, Bool.true_and, zk_v, zk_n, zk_x, zir_r, zir_n, zclr_i, zclr_r, zclr_n, zclr_d, zclr_l, true_and, and_true, and_self, if_true, if_false, reduceIte]
    rw [uc_snew] at u3 u4
    rw [us_snew] at v3 v4
    have mo1 : yFr S3 ≤ yFr (yT1 b sz S3 G3).1 := mo1
    have u2 : zuc z4 + yFr S3 ≤ zuc z3 + yFr (yT1 b sz S3 G3).1 := u2
    have v2 : zus z4 + yFr S3 ≤ zus z3 + yFr (yT1 b sz S3 G3).1 := v2
    have hx := HX g3 z6 S6 (f1.trans (F4.trans (F5.trans F6))) (by omega) (by omega) (by omega) (by omega)
    rw [e3] at hx
    exact hx
  rw [← e3] at g3 sm2 la2 hj2 ag2 u4 v4 ⊢
  have n6 : zn z4 + 1 ≤ zn z6 := by have := F6.1; rw [n_snew] at this; exact this
  rw [n_snew] at sm2
  have F46 : FN z4 z6 := F5.trans F6
  have l6 := F6.2 (zn z4) (by rw [n_snew]; omega) (fun w => w)
  have ct6 : zcls z6 (zn z4) = 20 := by rw [l6.1, cls_snew, zu1_s]
  have hne : ¬ zn z4 = R := by omega
  have cc := fun (d : Nat) (Q : ZQ) (S' : YS) (a c : Nat) (x : Int32) => c243 (d := d) (Q := Q) (z := cP z6 R S') (q := zn z4) (a := a) (c := c) (x := x) ct6
  have e7 : ∀ S' a c x, sfr (sfi (sfr (cP z6 R S') (zn z4) 0 a) (zn z4) 2 x) (zn z4) 1 c = cP (sfr (sfi (sfr z6 (zn z4) 0 a) (zn z4) 2 x) (zn z4) 1 c) R S' := fun S' a c x => by
    rw [cP_sfr, cP_sfi hne, cP_sfr]
  simp (disch := omega) only [s222_75, zcs_0, zcs_1, zcs_2, zcs_3, zcs_4, zcs_5, zcs_6, zcs_7, znl_i, znl_r, znl_n, Bool.and_true, Bool.true_and, zk_v, zk_n, zk_x, zir_r, zir_n, zclr_i, zclr_r, zclr_n, zclr_d, zclr_l, true_and, and_true, and_self, if_true, if_false, reduceIte, nI_add, pk_mul, zin_ok, zx_nI, nI_lt2, nI_le2, nI_eq2, nI_l0, nI_g0, nI_q0, nI_p0, nI_n0, nI_m1, Nat.add_zero, Nat.zero_add, Nat.reduceAdd, Nat.reduceMul, true_or, or_true, znar_50, bI_0, bI_1, bI_z, bft, nI_z0, nI_z1, lgc_lt, lgc_gt, lgc_le, lgc_ge, lgc_eq, not_true_eq_false, not_false_eq_true, Bool.not_eq_true, Bool.not_eq_false, reduceCtorEq, eq_self, nI_e0, nI_e1, i10, i01, decide_false, decide_true, Bool.false_eq_true, cc, e7]
  have F47 : FN z4 (sfr (sfi (sfr z6 (zn z4) 0 (.ref r1)) (zn z4) 2 (nI (yTs b sz S3 G3))) (zn z4) 1 (.ref r2)) := ((F46.sfr (Nat.le_refl _)).sfi (Nat.le_refl _)).sfr (Nat.le_refl _)
  have F67 : zFr (fun x => x = zn z4) z6 (sfr (sfi (sfr z6 (zn z4) 0 (.ref r1)) (zn z4) 2 (nI (yTs b sz S3 G3))) (zn z4) 1 (.ref r2)) := zFr_sfr (zFr_sfi (zFr_sfr (zFr_refl _ _) (Or.inr rfl)) (Or.inr rfl)) (Or.inr rfl)
  generalize hz7 : sfr (sfi (sfr z6 (zn z4) 0 (.ref r1)) (zn z4) 2 (nI (yTs b sz S3 G3))) (zn z4) 1 (.ref r2) = z7 at F47 F67
  have n7 : zn z7 = zn z6 := by rw [← hz7]; rfl
  have c7 : zuc z7 = zuc z6 ∧ zus z7 = zus z6 := by rw [← hz7]; exact ⟨rfl, rfl⟩
  have F37 : FN z3 z7 := F4.trans F47
  have F07 : FN z z7 := f1.trans F37
  have l7 := F37.2 (q + 1) (by omega) (fun w => w)
  have ct7 : zcls z7 (q + 1) = 90 := by rw [l7.1]; exact q6
  have ls7 : zls z7 (q + 1) = zls z3 (q + 1) := l7.2.2.2.2.2.2.2
  have cz7 : zcls z7 (zn z4) = 20 := by rw [← hz7]; exact ct6
  -- the list takes it
  have le7 : zlel (cP z7 R (yT3 b sz S3 G3).1) (.ref (zn z4)) = true := by
    have : 100 ≤ zn z4 := by omega
    simp [zlel, cls_cP, cz7, this]
  have all7 : (zls z7 (q + 1)).all (zlel (cP z7 R (yT3 b sz S3 G3).1)) = true := by
    refine all_getD (fun i hi => ?_)
    rw [ls7] at hi ⊢
    obtain ⟨r, w1, w2⟩ := m3 i (by omega)
    rw [w1]
    have w3 : zcls z7 r = 20 := by rw [(F37.2 r w2.1.2 (fun w => w)).1]; exact w2.2.1
    have w4 := w2.1.1
    have : 100 ≤ r := by omega
    simp [zlel, cls_cP, w3, this]
  have len7 : (zls z7 (q + 1)).length < 100000 := by rw [ls7]; omega
  have zi1 : zir (.ref q) = true := rfl
  simp (disch := omega) only [s222_78, s222_83, zcs_0, zcs_1, zcs_2, zcs_3, zcs_4, zcs_5, zcs_6, zcs_7, znl_i, znl_r, znl_n, Bool.and_true, Bool.true_and, zk_v, zk_n, zk_x, zir_r, zir_n, zclr_i, zclr_r, zclr_n, zclr_d, zclr_l, true_and, and_true, and_self, if_true, if_false, reduceIte, nI_add, pk_mul, zin_ok, zx_nI, nI_lt2, nI_le2, nI_eq2, nI_l0, nI_g0, nI_q0, nI_p0, nI_n0, nI_m1, Nat.add_zero, Nat.zero_add, Nat.reduceAdd, Nat.reduceMul, true_or, or_true, znar_50, bI_0, bI_1, bI_z, bft, nI_z0, nI_z1, lgc_lt, lgc_gt, lgc_le, lgc_ge, lgc_eq, not_true_eq_false, not_false_eq_true, Bool.not_eq_true, Bool.not_eq_false, reduceCtorEq, eq_self, nI_e0, nI_e1, i10, i01, decide_false, decide_true, Bool.false_eq_true, cls_cP, fr_cP, len_cP, ls_cP, n_cP, ct7, le7, all7, len7, cP_sladd]
  have cost := add_cost z7 (q + 1) (.ref (zn z4))
  have F78 : zFr (fun x => x = q + 1) z7 (sladd z7 (q + 1) (.ref (zn z4))) := zFr_sladd (zFr_refl _ _) (Or.inr rfl)
  have F08 : FN z (sladd z7 (q + 1) (.ref (zn z4))) := zFr_sladd F07 (Or.inl (by omega))
  have cap7 : capL z7 (q + 1) = capL z3 (q + 1) := capL_fr F37 (by omega) q7
  have d7 : zDat z7 (q + 1) := q7.fr F37 (by omega) (fun w => w)
  have hls : zls (sladd z7 (q + 1) (.ref (zn z4))) (q + 1) = zls z3 (q + 1) ++ [.ref (zn z4)] := by rw [ls_sladd, zu1_s, ls7]
  have hd8 := d7.add (x := .ref (zn z4))
  have n8 := n_sladd z7 (q + 1) (.ref (zn z4))
  have cl8 : ∀ y, y < zn z7 → zcls (sladd z7 (q + 1) (.ref (zn z4))) y = zcls z7 y := fun y hy => cls_sladd _ _ _ hy
  have fi8 : zfi (sladd z7 (q + 1) (.ref (zn z4))) = zfi z7 := fi_sladd _ _ _
  have fr8 : ∀ y, ¬ y = q + 1 → zfr (sladd z7 (q + 1) (.ref (zn z4))) y = zfr z7 y := fun y hy => fr_sladd _ _ _ hy
  generalize hz8 : sladd z7 (q + 1) (.ref (zn z4)) = z8 at *
  have h180 : G3 2 < 180 := by omega
  have okS3 := yT_A (b := b) hS hA
  have B8 := ySum_B (b := b) (j := 4) k2 okS3
  rw [← e3] at B8
  obtain ⟨b81, b82⟩ := B8 g3
  have hk3 := k3.1
  obtain ⟨ti8, ag8⟩ := TI_T (b := b) h180 ti hS g3 la la2 ag2 (by omega)
  have mono1 := (ySum_n (b := b) (sz := sz) (S := S3) (G := G3) (j := 0)).1
  have eG : yTG b sz S3 G3 = zu1 (zu1 (zu1 (zu1 (yT3 b sz S3 G3).2 (274 + 3 * G3 2) (yTs b sz S3 G3)) (274 + 3 * G3 2 + 1) (G3 3)) (274 + 3 * G3 2 + 2) ((yT3 b sz S3 G3).2 3 - G3 3)) 2 (G3 2 + 1) := if_pos g3
  have nn := yT3_n (b := b) (sz := sz) (S := S3) (G := G3)
  have hi8 : ∀ i, ¬ i = 2 → (i < 274 + 3 * G3 2 ∨ 277 + 3 * G3 2 ≤ i) → yTG b sz S3 G3 i = (yT3 b sz S3 G3).2 i := fun i h1 h2 => by
    rw [eG, zu1_n _ _ _ h1, zu1_n _ _ _ (by omega), zu1_n _ _ _ (by omega), zu1_n _ _ _ (by omega)]
  have ag38 : agP (yT3 b sz S3 G3).2 (yTG b sz S3 G3) ((yT3 b sz S3 G3).2 3) := fun i h1 h2 => hi8 i (by omega) (by omega)
  have e82 : yTG b sz S3 G3 2 = G3 2 + 1 := by rw [eG, zu1_s]
  have e8t : yTG b sz S3 G3 (274 + 3 * G3 2) = yTs b sz S3 G3 := by
    rw [eG, zu1_n _ _ _ (by omega), zu1_n _ _ _ (by omega), zu1_n _ _ _ (by omega), zu1_s]
  have mo1 : yFr S3 ≤ yFr (yT1 b sz S3 G3).1 := mo1
  have u2 : zuc z4 + yFr S3 ≤ zuc z3 + yFr (yT1 b sz S3 G3).1 := u2
  have v2 : zus z4 + yFr S3 ≤ zus z3 + yFr (yT1 b sz S3 G3).1 := v2
  rw [uc_snew] at u3 u4
  rw [us_snew] at v3 v4
  have len3 : (zls z3 (q + 1)).length = G3 2 - m0 := by omega
  rw [ls7, len3] at cost
  have st38 : zSt (Bt (q + 1) z3) z3 z8 := by
    refine zFr.st (W := fun x => x = q + 1) (zFr_trans (zFr_mono (fun _ _ w => w.elim) F37) F78) (fun y hy => ⟨hy.2, fun e => ?_⟩)
    have := hy.1
    omega
  have st78 : ∀ B : Nat → Prop, (∀ y, B y → zn z3 ≤ y ∧ y < zn z7) → zSt B z7 z8 := fun B hB => by
    refine zFr.st F78 (fun y hy => ⟨(hB y hy).2, fun e => ?_⟩)
    have := (hB y hy).1
    omega
  refine H g3 z8 r1 (yTs b sz S3 G3) (fun t => if t = G3 2 then a.reverse ++ c.reverse else L3 t) ⟨⟨F08, by omega⟩, ⟨?_, ?_, ?_, ?_, ?_, ?_, hd8⟩, ⟨by omega, ?_, ?_⟩, ti8, pOK_T h180 pk⟩ (fun t ht => if_neg (by omega)) (by omega) (by omega) (by omega) (by omega) (by omega)
  · rw [cl8 _ (by omega), (F37.2 q (by omega) (fun w => w)).1]; exact q1
  · rw [fi8, (F37.2 q (by omega) (fun w => w)).2.1]; exact q2
  · rw [fi8, (F37.2 q (by omega) (fun w => w)).2.1]; exact q3
  · rw [fi8, (F37.2 q (by omega) (fun w => w)).2.1]; exact q4
  · rw [fr8 _ (by omega), (F37.2 q (by omega) (fun w => w)).2.2.1]; exact q5
  · rw [cl8 _ (by omega)]; exact ct7
  · rw [hls, List.length_append, e82]
    show (zls z3 (q + 1)).length + 1 + m0 = G3 2 + 1
    omega
  · intro i hi
    rw [e82] at hi
    rw [hls, getD_app]
    by_cases ci : i < (zls z3 (q + 1)).length
    · rw [if_pos ci]
      obtain ⟨r, w1, w2⟩ := m3 i (by omega)
      refine ⟨r, w1, ?_⟩
      dsimp only
      rw [if_neg (by omega)]
      have w3 := w2.st st38
      have w4 := w3.ap ag8 (by rw [hi8 _ (by omega) (by omega), nn.2 _ (by omega) (by omega)]) (ti.lt (by omega))
      exact w4.mono (fun y hy => ⟨hy.1, by have := hy.2; omega⟩)
    · have ei : i = (zls z3 (q + 1)).length := by omega
      rw [if_neg ci, if_pos ei]
      have em : m0 + i = G3 2 := by omega
      refine ⟨zn z4, rfl, ?_⟩
      dsimp only
      rw [em, if_pos rfl]
      obtain ⟨la1, la12⟩ := rLay_le a _ la
      obtain ⟨lc1, lc12⟩ := rLay_le c _ la2
      have la12 : ∀ x, x ∈ a → x.1 + x.2 < (yT1 b sz S3 G3).2 3 := la12
      refine ⟨⟨by omega, by omega⟩, ?_, by rw [e8t]; exact hlt, ?_, r1, r2, a, c, ⟨?_, ?_⟩, ⟨?_, ?_⟩, rfl, ?_, ?_⟩
      · rw [cl8 _ (by omega)]; exact cz7
      · rw [fi8, e8t, ← hz7, fi_sfr, fi_sfi, zu2_s]
      · rw [fr8 _ (by omega), ← hz7, fr_sfr, zu2_k _ _ _ _ (by omega), fr_sfi, fr_sfr, zu2_s]
      · -- the first sum
        have w1 := zSm.st (F47.st (fun y hy => hy.2)) sm
        have w2 := zSm.st (st78 (fun y => zn z3 ≤ y ∧ y < zn z4) (fun y hy => ⟨hy.1, by omega⟩)) w1
        have w3 := zSm.ap ag2 (fun x hx => la12 x hx) w2
        have w4 := zSm.ap ag38 (fun x hx => by have := la12 x hx; omega) w3
        exact zSm.mono (fun y hy => ⟨by omega, by omega⟩) w4
      · rw [fr8 _ (by omega), ← hz7, fr_sfr, zu2_s]
      · have w1 := zSm.st (F67.st (fun y hy => ⟨hy.2, fun e => by omega⟩)) sm2
        have w2 := zSm.st (st78 (fun y => zn z4 + 1 ≤ y ∧ y < zn z6) (fun y hy => ⟨by omega, by omega⟩)) w1
        have w4 := zSm.ap ag38 (fun x hx => lc12 x hx) w2
        exact zSm.mono (fun y hy => ⟨by omega, by omega⟩) w4
      · exact (hj.ap ag2 (fun x hx => la12 x hx)).ap ag38 (fun x hx => by have := la12 x hx; omega)
      · exact hj2.ap ag38 (fun x hx => lc12 x hx)
end CY
