set_option maxRecDepth 100000
/-! the component's reader: parts, terms, sums -/
/-- a reader with its words and its town -/
def RD (z : ZH) (R : Nat) (b : Nat → Nat) (sz : Nat) : Prop := RDr z R b sz ∧ (zfr z R 0 = .ref (R + 1) ∧ WAr z (R + 1) [28, 19, 32, 33, 30, 9, 26]) ∧ (zfr z R 1 = .ref (R + 2) ∧ WAr z (R + 2) [27, 5, 3, 8]) ∧ (zfr z R 2 = .ref (R + 3) ∧ WAr z (R + 3) [20, 16, 25]) ∧ (zfr z R 3 = .ref (R + 4) ∧ WAr z (R + 4) [17, 29, 7, 6, 15]) ∧ zfr z R 6 = .ref (R + 5)
/-- nothing old changes -/
def FN (z z' : ZH) : Prop := zFr (fun _ => False) z z'
theorem WAr.fr {W : Nat → Prop} {z z' : ZH} (h : zFr W z z') {a : Nat} {l : List Nat} (ha : a < zn z) (hw : ¬ W a) (k : WAr z a l) : WAr z' a l := by
  obtain ⟨b1, b2, b3, b4, b5, b6, b7, b8⟩ := h.2 a ha hw
  obtain ⟨k1, k2, k3, k4⟩ := k
  exact ⟨by rw [b1]; exact k1, by rw [b7]; exact k2, k3, fun i hi => by rw [b6]; exact k4 i hi⟩
theorem RD.fr {W : Nat → Prop} {z z' : ZH} {R sz : Nat} {b : Nat → Nat} (h : zFr W z z') (hn : R + 5 ≤ zn z) (h162 : 162 ≤ zn z) (hw : ∀ q, W q → R + 5 ≤ q) (hR : 162 ≤ R) (hw2 : ¬ W 127) (k : RD z R b sz) : RD z' R b sz := by
  obtain ⟨⟨⟨r0, r1, r2, r3, r4⟩, r5, r6⟩, ⟨d1, d2⟩, ⟨p1, p2⟩, ⟨s1, s2⟩, ⟨t1, t2⟩, u⟩ := k
  have nw : ∀ j, j < 5 → ¬ W (R + j) := fun j hj q => by have := hw _ q; omega
  obtain ⟨b1, b2, b3, b4, b5, b6, b7, b8⟩ := h.2 R (by omega) (nw 0 (by omega))
  obtain ⟨c1, c2, c3, c4, c5, c6, c7, c8⟩ := h.2 127 (by omega) hw2
  refine ⟨⟨⟨by rw [b1]; exact r0, by rw [b3]; exact r1, by rw [b2]; exact r2, by rw [c1]; exact r3, by rw [c7]; exact r4⟩, r5, fun k hk => by rw [c4]; exact r6 k hk⟩, ⟨by rw [b3]; exact d1, d2.fr h (by omega) (nw 1 (by omega))⟩, ⟨by rw [b3]; exact p1, p2.fr h (by omega) (nw 2 (by omega))⟩, ⟨by rw [b3]; exact s1, s2.fr h (by omega) (nw 3 (by omega))⟩, ⟨by rw [b3]; exact t1, t2.fr h (by omega) (nw 4 (by omega))⟩, by rw [b3]; exact u⟩
theorem RD.fn {z z' : ZH} {R sz : Nat} {b : Nat → Nat} (h : FN z z') (hn : R + 5 ≤ zn z) (hR : 162 ≤ R) (k : RD z R b sz) : RD z' R b sz := k.fr h hn (by omega) (fun _ q => q.elim) hR (fun q => q)
theorem FN.refl (z : ZH) : FN z z := zFr_refl _ _
theorem FN.trans {a b c : ZH} (h : FN a b) (k : FN b c) : FN a c := zFr_trans h k
theorem FN.snew {a z : ZH} (h : FN a z) (c N : Nat) : FN a (snew z c N) := zFr_snew h
theorem FN.sfi {a z : ZH} (h : FN a z) {r k : Nat} {x : Int32} (hr : zn a ≤ r) : FN a (sfi z r k x) := zFr_sfi h (Or.inl hr)
theorem FN.sfr {a z : ZH} (h : FN a z) {r k : Nat} {x : Value} (hr : zn a ≤ r) : FN a (sfr z r k x) := zFr_sfr h (Or.inl hr)
theorem FN.st {B : Nat → Prop} {z z' : ZH} (h : FN z z') (hB : ∀ q, B q → q < zn z) : zSt B z z' := zFr.st h (fun q hq => ⟨hB q hq, fun e => e⟩)
section CV
variable {d : Nat} {z : ZH} {Q : ZQ} {b : Nat → Nat} {sz R : Nat} {S : YS} {G : Nat → Nat}
theorem c236 {q : Nat} : ZC zG d 236 [.ref q] z Q = Q (.inl none) z := by
  simp (disch := omega) only [e236, s236_0, s236_1, s236_4, zcs_0, zcs_1, zcs_2, zcs_3, zcs_4, zcs_5, zcs_6, zcs_7, znl_i, znl_r, znl_n, Bool.and_true, Bool.true_and, zk_v, zk_n, zk_x, zir_r, zir_n, zclr_i, zclr_r, zclr_n, zclr_d, zclr_l, true_and, and_true, and_self, if_true, if_false, reduceIte, nI_add, pk_mul, zin_ok, zx_nI, nI_lt2, nI_le2, nI_eq2, nI_l0, nI_g0, nI_q0, nI_p0, nI_n0, nI_m1, Nat.add_zero, Nat.zero_add, Nat.reduceAdd, Nat.reduceMul, true_or, or_true, znar_50, bI_0, bI_1, bI_z, bft, nI_z0, nI_z1, lgc_lt, lgc_gt, lgc_le, lgc_ge, lgc_eq, not_true_eq_false, not_false_eq_true, Bool.not_eq_true, Bool.not_eq_false, reduceCtorEq, eq_self, nI_e0, nI_e1, i10, i01, decide_false, decide_true, Bool.false_eq_true]
theorem c237 {q : Nat} {x : Int32} (hq : zcls z q = 17) : ZC zG (d + 1) 237 [.ref q, .int x] z Q = Q (.inl none) (sfi z q 0 x) := by
  simp (disch := omega) only [e237, s237_0, s237_1, s237_4, s237_5, s237_6, s237_9, zcs_0, zcs_1, zcs_2, zcs_3, zcs_4, zcs_5, zcs_6, zcs_7, znl_i, znl_r, znl_n, Bool.and_true, Bool.true_and, zk_v, zk_n, zk_x, zir_r, zir_n, zclr_i, zclr_r, zclr_n, zclr_d, zclr_l, true_and, and_true, and_self, if_true, if_false, reduceIte, nI_add, pk_mul, zin_ok, zx_nI, nI_lt2, nI_le2, nI_eq2, nI_l0, nI_g0, nI_q0, nI_p0, nI_n0, nI_m1, Nat.add_zero, Nat.zero_add, Nat.reduceAdd, Nat.reduceMul, true_or, or_true, znar_50, bI_0, bI_1, bI_z, bft, nI_z0, nI_z1, lgc_lt, lgc_gt, lgc_le, lgc_ge, lgc_eq, not_true_eq_false, not_false_eq_true, Bool.not_eq_true, Bool.not_eq_false, reduceCtorEq, eq_self, nI_e0, nI_e1, i10, i01, decide_false, decide_true, Bool.false_eq_true, c236, hq]
theorem c239 {q : Nat} {x : Int32} (hq : zcls z q = 18) : ZC zG (d + 1) 239 [.ref q, .int x] z Q = Q (.inl none) (sfi z q 0 x) := by
  simp (disch := omega) only [e239, s239_0, s239_1, s239_4, s239_5, s239_6, s239_9, zcs_0, zcs_1, zcs_2, zcs_3, zcs_4, zcs_5, zcs_6, zcs_7, znl_i, znl_r, znl_n, Bool.and_true, Bool.true_and, zk_v, zk_n, zk_x, zir_r, zir_n, zclr_i, zclr_r, zclr_n, zclr_d, zclr_l, true_and, and_true, and_self, if_true, if_false, reduceIte, nI_add, pk_mul, zin_ok, zx_nI, nI_lt2, nI_le2, nI_eq2, nI_l0, nI_g0, nI_q0, nI_p0, nI_n0, nI_m1, Nat.add_zero, Nat.zero_add, Nat.reduceAdd, Nat.reduceMul, true_or, or_true, znar_50, bI_0, bI_1, bI_z, bft, nI_z0, nI_z1, lgc_lt, lgc_gt, lgc_le, lgc_ge, lgc_eq, not_true_eq_false, not_false_eq_true, Bool.not_eq_true, Bool.not_eq_false, reduceCtorEq, eq_self, nI_e0, nI_e1, i10, i01, decide_false, decide_true, Bool.false_eq_true, c236, hq]
theorem c241 {q a c : Nat} {x : Int32} (hq : zcls z q = 19) : ZC zG (d + 1) 241 [.ref q, .ref a, .int x, .ref c] z Q = Q (.inl none) (sfr (sfi (sfr z q 0 (.ref a)) q 2 x) q 1 (.ref c)) := by
  simp (disch := omega) only [e241, s241_0, s241_1, s241_4, s241_5, s241_6, s241_9, s241_10, s241_11, s241_14, s241_15, s241_16, s241_19, zcs_0, zcs_1, zcs_2, zcs_3, zcs_4, zcs_5, zcs_6, zcs_7, znl_i, znl_r, znl_n, Bool.and_true, Bool.true_and, zk_v, zk_n, zk_x, zir_r, zir_n, zclr_i, zclr_r, zclr_n, zclr_d, zclr_l, true_and, and_true, and_self, if_true, if_false, reduceIte, nI_add, pk_mul, zin_ok, zx_nI, nI_lt2, nI_le2, nI_eq2, nI_l0, nI_g0, nI_q0, nI_p0, nI_n0, nI_m1, Nat.add_zero, Nat.zero_add, Nat.reduceAdd, Nat.reduceMul, true_or, or_true, znar_50, bI_0, bI_1, bI_z, bft, nI_z0, nI_z1, lgc_lt, lgc_gt, lgc_le, lgc_ge, lgc_eq, not_true_eq_false, not_false_eq_true, Bool.not_eq_true, Bool.not_eq_false, reduceCtorEq, eq_self, nI_e0, nI_e1, i10, i01, decide_false, decide_true, Bool.false_eq_true, c236, cls_sfr, cls_sfi, hq]
theorem c243 {q a c : Nat} {x : Int32} (hq : zcls z q = 20) : ZC zG d 243 [.ref q, .ref a, .int x, .ref c] z Q = Q (.inl none) (sfr (sfi (sfr z q 0 (.ref a)) q 2 x) q 1 (.ref c)) := by
  simp (disch := omega) only [e243, s243_0, s243_1, s243_4, s243_5, s243_6, s243_9, s243_10, s243_11, s243_14, s243_15, s243_16, s243_19, zcs_0, zcs_1, zcs_2, zcs_3, zcs_4, zcs_5, zcs_6, zcs_7, znl_i, znl_r, znl_n, Bool.and_true, Bool.true_and, zk_v, zk_n, zk_x, zir_r, zir_n, zclr_i, zclr_r, zclr_n, zclr_d, zclr_l, true_and, and_true, and_self, if_true, if_false, reduceIte, nI_add, pk_mul, zin_ok, zx_nI, nI_lt2, nI_le2, nI_eq2, nI_l0, nI_g0, nI_q0, nI_p0, nI_n0, nI_m1, Nat.add_zero, Nat.zero_add, Nat.reduceAdd, Nat.reduceMul, true_or, or_true, znar_50, bI_0, bI_1, bI_z, bft, nI_z0, nI_z1, lgc_lt, lgc_gt, lgc_le, lgc_ge, lgc_eq, not_true_eq_false, not_false_eq_true, Bool.not_eq_true, Bool.not_eq_false, reduceCtorEq, eq_self, nI_e0, nI_e1, i10, i01, decide_false, decide_true, Bool.false_eq_true, cls_sfr, cls_sfi, hq]
theorem c245 {q : Nat} : ZC zG d 245 [.ref q] z Q = Q (.inl none) z := by
  simp (disch := omega) only [e245, s245_0, s245_1, s245_4, zcs_0, zcs_1, zcs_2, zcs_3, zcs_4, zcs_5, zcs_6, zcs_7, znl_i, znl_r, znl_n, Bool.and_true, Bool.true_and, zk_v, zk_n, zk_x, zir_r, zir_n, zclr_i, zclr_r, zclr_n, zclr_d, zclr_l, true_and, and_true, and_self, if_true, if_false, reduceIte, nI_add, pk_mul, zin_ok, zx_nI, nI_lt2, nI_le2, nI_eq2, nI_l0, nI_g0, nI_q0, nI_p0, nI_n0, nI_m1, Nat.add_zero, Nat.zero_add, Nat.reduceAdd, Nat.reduceMul, true_or, or_true, znar_50, bI_0, bI_1, bI_z, bft, nI_z0, nI_z1, lgc_lt, lgc_gt, lgc_le, lgc_ge, lgc_eq, not_true_eq_false, not_false_eq_true, Bool.not_eq_true, Bool.not_eq_false, reduceCtorEq, eq_self, nI_e0, nI_e1, i10, i01, decide_false, decide_true, Bool.false_eq_true]
theorem yPG_f {j : Nat} (h : yFk (yP1 b sz S).1 = 0) : yPG b sz j S G (814 + 3 * G 3) = j ∧ yPG b sz j S G (814 + 3 * G 3 + 1) = yPK b S ∧ yPG b sz j S G (814 + 3 * G 3 + 2) = (yP1 b sz S).2 := by
  unfold yPG
  rw [if_pos h]
  refine ⟨?_, ?_, ?_⟩
  · rw [zu1_n _ _ _ (by omega), zu1_n _ _ _ (by omega), zu1_n _ _ _ (by omega), zu1_s]
  · rw [zu1_n _ _ _ (by omega), zu1_n _ _ _ (by omega), zu1_s]
  · rw [zu1_n _ _ _ (by omega), zu1_s]
theorem yPG_ag {j : Nat} : agP G (yPG b sz j S G) (G 3) := fun i h1 h2 => yPG_n (by omega) (Or.inl (by omega))
theorem yPK_tk (h : ¬ yTk S = 1) : yPK b S = 5 := by
  unfold yPK
  simp only [yWh, yIs_tk h, Bool.false_eq_true, if_false, Nat.reduceAdd]
theorem c230 (hR : RD z R b sz) (hS : yOK sz S) (hk : yFk S = 0) (hn : R + 5 ≤ zn z) (h162 : 162 ≤ R) {j : Nat}
    (H : yFk (yP1 b sz S).1 = 0 → ∀ z', FN z z' → zLf (fun q => zn z ≤ q ∧ q < zn z') z' (yPG b sz j S G) (G 3) (zn z) → zn z' = zn z + 1 → zuc z' = zuc z + 1 → zus z' = zus z + 1 → Q (.inl (some (.ref (zn z)))) (cP z' R (yP1 b sz S).1))
    (HX : ¬ yFk (yP1 b sz S).1 = 0 → ∀ z' S', FN z z' → zuc z' = zuc z + 1 → zus z' = zus z + 1 → Q (.inr (.ref (zn z'))) (mkW (cP z' R S') (nI (yFk (yP1 b sz S).1)) (yFp (yP1 b sz S).1))) : ZC zG (d + 3) 230 [.ref R] (cP z R S) Q := by
  have r0 := hR.1.1.1
  have r3 := hR.2.2.2.2.1.1
  have cs := fun c N => cP_snew (z := z) (R := R) (S := S) (c := c) (N := N) (by omega)
  have hRn : ¬ R = zn z := by omega
  have o4 : yTk S < 5 := hS.2.2.1
  by_cases t : yTk S = 2
  · have k5 := yPK_tk (b := b) (S := S) (by omega)
    have e : yP1 b sz S = yNum b sz 0 1000 S := by unfold yP1; rw [if_neg (by omega)]
    have F1 : FN z (snew z 17 1) := (FN.refl z).snew _ _
    have hR1 := hR.fn F1 hn h162
    have ycf := yPG_f (b := b) (sz := sz) (S := S) (G := G) (j := j)
    rw [e] at H HX ycf
    have c1 : zcls (snew z 17 1) R = 13 := hR1.1.1.1
    simp (disch := omega) only [e230, s230_0, s230_1, s230_4, s230_5, s230_8, s230_11, s230_12, s230_13, s230_14, s230_17, zcs_0, zcs_1, zcs_2, zcs_3, zcs_4, zcs_5, zcs_6, zcs_7, znl_i, znl_r, znl_n, Bool.and_true, Bool.true_and, zk_v, zk_n, zk_x, zir_r, zir_n, zclr_i, zclr_r, zclr_n, zclr_d, zclr_l, true_and, and_true, and_self, if_true, if_false, reduceIte, nI_add, pk_mul, zin_ok, zx_nI, nI_lt2, nI_le2, nI_eq2, nI_l0, nI_g0, nI_q0, nI_p0, nI_n0, nI_m1, Nat.add_zero, Nat.zero_add, Nat.reduceAdd, Nat.reduceMul, true_or, or_true, znar_50, bI_0, bI_1, bI_z, bft, nI_z0, nI_z1, lgc_lt, lgc_gt, lgc_le, lgc_ge, lgc_eq, not_true_eq_false, not_false_eq_true, Bool.not_eq_true, Bool.not_eq_false, reduceCtorEq, eq_self, nI_e0, nI_e1, i10, i01, decide_false, decide_true, Bool.false_eq_true, cls_cP, fr_cP, len_cP, ls_cP, n_cP, cP_9, cs, r0, c1, t]
    refine c227 (d := d) hR1.1 hS hk (by rw [n_snew]; omega) (by omega) (by omega) (fun g => ?_) (fun g S' => ?_)
    · have g1 : zcls (snew z 17 1) (zn z) = 17 := by rw [cls_snew, zu1_s]
      have g2 : ∀ S1 x, sfi (cP (snew z 17 1) R S1) (zn z) 0 x = cP (sfi (snew z 17 1) (zn z) 0 x) R S1 := fun S1 x => cP_sfi (fun q => hRn q.symm)
      have cc := fun (d : Nat) (Q : ZQ) (S1 : YS) (x : Int32) => c237 (d := d) (Q := Q) (z := cP (snew z 17 1) R S1) (x := x) (q := zn z) g1
      simp (disch := omega) only [s230_20, s230_23, s230_41, s230_41r, zcs_0, zcs_1, zcs_2, zcs_3, zcs_4, zcs_5, zcs_6, zcs_7, znl_i, znl_r, znl_n, Bool.and_true, Bool.true_and, zk_v, zk_n, zk_x, zir_r, zir_n, zclr_i, zclr_r, zclr_n, zclr_d, zclr_l, true_and, and_true, and_self, if_true, if_false, reduceIte, nI_add, pk_mul, zin_ok, zx_nI, nI_lt2, nI_le2, nI_eq2, nI_l0, nI_g0, nI_q0, nI_p0, nI_n0, nI_m1, Nat.add_zero, Nat.zero_add, Nat.reduceAdd, Nat.reduceMul, true_or, or_true, znar_50, bI_0, bI_1, bI_z, bft, nI_z0, nI_z1, lgc_lt, lgc_gt, lgc_le, lgc_ge, lgc_eq, not_true_eq_false, not_false_eq_true, Bool.not_eq_true, Bool.not_eq_false, reduceCtorEq, eq_self, nI_e0, nI_e1, i10, i01, decide_false, decide_true, Bool.false_eq_true, cc, g2]
      refine H g _ (F1.sfi (Nat.le_refl _)) ⟨⟨Nat.le_refl _, Nat.lt_succ_self _⟩, Or.inl ⟨g1, ?_, ?_⟩⟩ rfl rfl rfl
      · rw [(ycf g).2.1, k5]
      · rw [fi_sfi, zu2_s, (ycf g).2.2]
    · simp only [zcs_0, zcs_1, zcs_2, zcs_3, zcs_4, zcs_5, zcs_6, zcs_7, znl_i, znl_r, znl_n, Bool.and_true, Bool.true_and, zk_v, zk_n, zk_x, zir_r, zir_n, zclr_i, zclr_r, zclr_n, zclr_d, zclr_l, true_and, and_true, and_self, if_true, if_false, reduceIte]
      exact HX g _ S' F1 rfl rfl
  · have F1 : FN z (snew z 18 1) := (FN.refl z).snew _ _
    have hR1 := hR.fn F1 hn h162
    have ycf := yPG_f (b := b) (sz := sz) (S := S) (G := G) (j := j)
    have c1 : zcls (snew z 18 1) R = 13 := hR1.1.1.1
    have c3 : zfr (snew z 18 1) R 3 = .ref (R + 4) := hR1.2.2.2.2.1.1
    have hle : yPK b S ≤ 5 := yWh_le [17, 29, 7, 6, 15]
    have eN : yFk (yP1 b sz S).1 = yFk (yTkn b sz 5 (yPK b S) S) ∧ yFp (yP1 b sz S).1 = yFp (yTkn b sz 5 (yPK b S) S) ∧ (yP1 b sz S).1 = yTkn b sz 5 (yPK b S) S := by
      have : (yP1 b sz S).1 = yTkn b sz 5 (yPK b S) S := by
        unfold yP1 yTkn yNum
        by_cases c : yPK b S < 5
        · rw [if_pos c, if_pos c, if_pos hk]
        · rw [if_neg c, if_neg c, if_pos hk, if_neg t]
      rw [this]
      exact ⟨rfl, rfl, rfl⟩
    obtain ⟨n1, n2, n3⟩ := eN
    rw [n3] at H HX
    rw [n1] at ycf
    simp (disch := omega) only [e230, s230_0, s230_1, s230_4, s230_5, s230_26, s230_29, s230_30, s230_31, s230_32, s230_35, zcs_0, zcs_1, zcs_2, zcs_3, zcs_4, zcs_5, zcs_6, zcs_7, znl_i, znl_r, znl_n, Bool.and_true, Bool.true_and, zk_v, zk_n, zk_x, zir_r, zir_n, zclr_i, zclr_r, zclr_n, zclr_d, zclr_l, true_and, and_true, and_self, if_true, if_false, reduceIte, nI_add, pk_mul, zin_ok, zx_nI, nI_lt2, nI_le2, nI_eq2, nI_l0, nI_g0, nI_q0, nI_p0, nI_n0, nI_m1, Nat.add_zero, Nat.zero_add, Nat.reduceAdd, Nat.reduceMul, true_or, or_true, znar_50, bI_0, bI_1, bI_z, bft, nI_z0, nI_z1, lgc_lt, lgc_gt, lgc_le, lgc_ge, lgc_eq, not_true_eq_false, not_false_eq_true, Bool.not_eq_true, Bool.not_eq_false, reduceCtorEq, eq_self, nI_e0, nI_e1, i10, i01, decide_false, decide_true, Bool.false_eq_true, cls_cP, fr_cP, len_cP, ls_cP, n_cP, cP_9, cs, r0, c1, c3, t]
    refine c225 (d := d) hR1.1 hS hk (by rw [n_snew]; omega) hR1.2.2.2.2.1.2 (fun g => ?_) (fun g S' => ?_)
    · have g1 : zcls (snew z 18 1) (zn z) = 18 := by rw [cls_snew, zu1_s]
      have g2 : ∀ S1 x, sfi (cP (snew z 18 1) R S1) (zn z) 0 x = cP (sfi (snew z 18 1) (zn z) 0 x) R S1 := fun S1 x => cP_sfi (fun q => hRn q.symm)
      have cc := fun (d : Nat) (Q : ZQ) (S1 : YS) (x : Int32) => c239 (d := d) (Q := Q) (z := cP (snew z 18 1) R S1) (x := x) (q := zn z) g1
      have hlt := (yTkn_g g).1
      simp (disch := omega) only [s230_38, s230_41, s230_41r, zcs_0, zcs_1, zcs_2, zcs_3, zcs_4, zcs_5, zcs_6, zcs_7, znl_i, znl_r, znl_n, Bool.and_true, Bool.true_and, zk_v, zk_n, zk_x, zir_r, zir_n, zclr_i, zclr_r, zclr_n, zclr_d, zclr_l, true_and, and_true, and_self, if_true, if_false, reduceIte, nI_add, pk_mul, zin_ok, zx_nI, nI_lt2, nI_le2, nI_eq2, nI_l0, nI_g0, nI_q0, nI_p0, nI_n0, nI_m1, Nat.add_zero, Nat.zero_add, Nat.reduceAdd, Nat.reduceMul, true_or, or_true, znar_50, bI_0, bI_1, bI_z, bft, nI_z0, nI_z1, lgc_lt, lgc_gt, lgc_le, lgc_ge, lgc_eq, not_true_eq_false, not_false_eq_true, Bool.not_eq_true, Bool.not_eq_false, reduceCtorEq, eq_self, nI_e0, nI_e1, i10, i01, decide_false, decide_true, Bool.false_eq_true, cc, g2]
      refine H g _ (F1.sfi (Nat.le_refl _)) ⟨⟨Nat.le_refl _, Nat.lt_succ_self _⟩, Or.inr ⟨g1, ?_, ?_⟩⟩ rfl rfl rfl
      · rw [(ycf g).2.1]; exact hlt
      · rw [fi_sfi, zu2_s, (ycf g).2.1]; rfl
    · simp only [zcs_0, zcs_1, zcs_2, zcs_3, zcs_4, zcs_5, zcs_6, zcs_7, znl_i, znl_r, znl_n, Bool.and_true, Bool.true_and, zk_v, zk_n, zk_x, zir_r, zir_n, zclr_i, zclr_r, zclr_n, zclr_d, zclr_l, true_and, and_true, and_self, if_true, if_false, reduceIte]
      exact HX g _ S' F1 rfl rfl
/-- a term -/
theorem c229 (hR : RD z R b sz) (hS : yOK sz S) (hk : yFk S = 0) (hn : R + 5 ≤ zn z) (h162 : 162 ≤ R) {j : Nat}
    (H : yFk (yTm b sz j S G).1 = 0 → ∀ z' r n, FN z z' → zTm (fun q => zn z ≤ q ∧ q < zn z') z' (yTm b sz j S G).2 (G 3) n r → (yTm b sz j S G).2 3 = G 3 + n + 1 → (yTm b sz j S G).2 (814 + 3 * G 3) = j → (∀ i, i < n → (yTm b sz j S G).2 (814 + 3 * (G 3 + 1 + i)) = 3) → agP G (yTm b sz j S G).2 (G 3) → zuc z ≤ zuc z' → zuc z' + yFr S ≤ zuc z + yFr (yTm b sz j S G).1 → zus z ≤ zus z' → zus z' + yFr S ≤ zus z + yFr (yTm b sz j S G).1 → Q (.inl (some (.ref r))) (cP z' R (yTm b sz j S G).1))
    (HX : ¬ yFk (yTm b sz j S G).1 = 0 → ∀ z' S', FN z z' → zuc z ≤ zuc z' → zuc z' + yFr S ≤ zuc z + sz + 2 → zus z ≤ zus z' → zus z' + yFr S ≤ zus z + sz + 4 → Q (.inr (.ref (zn z'))) (mkW (cP z' R S') (nI (yFk (yTm b sz j S G).1)) (yFp (yTm b sz j S G).1))) : ZC zG (d + 4) 229 [.ref R] (cP z R S) Q := by
  have r0 := hR.1.1.1
  have hfrS := hS.1
  have lp : ∀ (n : Nat) (z1 : ZH) (S1 : YS) (G1 : Nat → Nat) (r m : Nat), FN z z1 → zTm (fun q => zn z ≤ q ∧ q < zn z1) z1 G1 (G 3) m r → G1 3 = G 3 + m + 1 → G1 (814 + 3 * G 3) = j → (∀ i, i < m → G1 (814 + 3 * (G 3 + 1 + i)) = 3) → agP G G1 (G 3) → yOK sz S1 → yFk S1 = 0 → sz < yFr S1 + n → yFr S ≤ yFr S1 → zuc z ≤ zuc z1 → zuc z1 + yFr S ≤ zuc z + yFr S1 → zus z ≤ zus z1 → zus z1 + yFr S ≤ zus z + yFr S1 → yML b sz n S1 G1 = yTm b sz j S G → ZW zG (d + 4) 229 5 [.ref R, .ref r] [] (cP z1 R S1) Q := by
    intro n
    induction n with
    | zero =>
      intro z1 S1 G1 r m f1 f2 f3 f4 f5 f6 o1 o2 o3
      have := o1.1
      omega
    | succ n ih =>
      intro z1 S1 G1 r m f1 f2 f3 f4 f5 f6 o1 o2 o3 o4 u1 u2 u3 u4 e
      have n1 := f1.1
      have hR1 := hR.fn f1 hn h162
      have q0 : zcls z1 R = 13 := hR1.1.1.1
      have tk := fun d Q => c224 (d := d) (Q := Q) hR1.1 o1 o2 (r := 31) (by omega)
      unfold yTake at tk
      unfold yML at e
      refine Eq.mpr s229_5 ?_
      by_cases g : yIs b S1 31 = true
      · rw [if_pos g] at e
        rw [g] at tk
        simp only [if_true] at tk
        have okA := yAdv_ok (b := b) o1
        have gA : yFk (yAdv b sz S1) = 0 := by rw [(yAdv_fk b sz S1).1]; exact o2
        have hlen := yIs_fr o1 g
        have h5 : (ztx 31).length = 5 := by decide
        have cs := fun S' => cP_snew (z := z1) (R := R) (S := S') (c := 19) (N := 3) (by omega)
        have F2 : FN z1 (snew z1 19 3) := (FN.refl z1).snew _ _
        have hR2 := hR1.fn F2 (by omega) h162
        have q1 : zcls (snew z1 19 3) R = 13 := hR2.1.1.1
        simp (disch := omega) only [s229_6, s229_8, s229_11, s229_14, s229_17, s229_18, s229_19, s229_20, s229_21, zcs_0, zcs_1, zcs_2, zcs_3, zcs_4, zcs_5, zcs_6, zcs_7, znl_i, znl_r, znl_n, Bool.and_true, Bool.true_and, zk_v, zk_n, zk_x, zir_r, zir_n, zclr_i, zclr_r, zclr_n, zclr_d, zclr_l, true_and, and_true, and_self, if_true, if_false, reduceIte, nI_add, pk_mul, zin_ok, zx_nI, nI_lt2, nI_le2, nI_eq2, nI_l0, nI_g0, nI_q0, nI_p0, nI_n0, nI_m1, Nat.add_zero, Nat.zero_add, Nat.reduceAdd, Nat.reduceMul, true_or, or_true, znar_50, bI_0, bI_1, bI_z, bft, nI_z0, nI_z1, lgc_lt, lgc_gt, lgc_le, lgc_ge, lgc_eq, not_true_eq_false, not_false_eq_true, Bool.not_eq_true, Bool.not_eq_false, reduceCtorEq, eq_self, nI_e0, nI_e1, i10, i01, decide_false, decide_true, Bool.false_eq_true, cls_cP, fr_cP, len_cP, ls_cP, n_cP, q0, q1, tk, cs, bI_t]
        refine c230 (d := d) (G := G1) (j := 3) hR2 okA gA (by rw [n_snew]; omega) h162 (fun g2 z3 F3 lf nn uu vv => ?_) (fun g2 z3 S3 F3 uu vv => ?_)
        · rw [n_snew] at lf nn ⊢
          have l3 := F3.2 (zn z1) (by rw [n_snew]; omega) (fun q => q)
          have g3 : zcls z3 (zn z1) = 19 := by rw [l3.1, cls_snew, zu1_s]
          have hne : ¬ zn z1 = R := by omega
          have cc := fun (d : Nat) (Q : ZQ) (S' : YS) (a c : Nat) (x : Int32) => c241 (d := d) (Q := Q) (z := cP z3 R S') (q := zn z1) (a := a) (c := c) (x := x) g3
          have e4 : ∀ S' a c x, sfr (sfi (sfr (cP z3 R S') (zn z1) 0 a) (zn z1) 2 x) (zn z1) 1 c = cP (sfr (sfi (sfr z3 (zn z1) 0 a) (zn z1) 2 x) (zn z1) 1 c) R S' := fun S' a c x => by
            rw [cP_sfr, cP_sfi hne, cP_sfr]
          simp (disch := omega) only [s229_24, s229_27, s229_28, zcs_0, zcs_1, zcs_2, zcs_3, zcs_4, zcs_5, zcs_6, zcs_7, znl_i, znl_r, znl_n, Bool.and_true, Bool.true_and, zk_v, zk_n, zk_x, zir_r, zir_n, zclr_i, zclr_r, zclr_n, zclr_d, zclr_l, true_and, and_true, and_self, if_true, if_false, reduceIte, nI_add, pk_mul, zin_ok, zx_nI, nI_lt2, nI_le2, nI_eq2, nI_l0, nI_g0, nI_q0, nI_p0, nI_n0, nI_m1, Nat.add_zero, Nat.zero_add, Nat.reduceAdd, Nat.reduceMul, true_or, or_true, znar_50, bI_0, bI_1, bI_z, bft, nI_z0, nI_z1, lgc_lt, lgc_gt, lgc_le, lgc_ge, lgc_eq, not_true_eq_false, not_false_eq_true, Bool.not_eq_true, Bool.not_eq_false, reduceCtorEq, eq_self, nI_e0, nI_e1, i10, i01, decide_false, decide_true, Bool.false_eq_true, cc, e4]
          have F13 : FN z1 z3 := F2.trans F3
          have F14 : FN z1 (sfr (sfi (sfr z3 (zn z1) 0 (.ref r)) (zn z1) 2 (nI 2)) (zn z1) 1 (.ref (zn z1 + 1))) := ((F13.sfr (Nat.le_refl _)).sfi (Nat.le_refl _)).sfr (Nat.le_refl _)
          have F34 : zFr (fun q => q = zn z1) z3 (sfr (sfi (sfr z3 (zn z1) 0 (.ref r)) (zn z1) 2 (nI 2)) (zn z1) 1 (.ref (zn z1 + 1))) := zFr_sfr (zFr_sfi (zFr_sfr (zFr_refl _ _) (Or.inr rfl)) (Or.inr rfl)) (Or.inr rfl)
          generalize hz4 : sfr (sfi (sfr z3 (zn z1) 0 (.ref r)) (zn z1) 2 (nI 2)) (zn z1) 1 (.ref (zn z1 + 1)) = z4 at F14 F34
          have n4 : zn z4 = zn z1 + 2 := by rw [← hz4]; exact nn
          have c4 : zuc z4 = zuc z1 + 2 ∧ zus z4 = zus z1 + 4 := by
            rw [← hz4]
            exact ⟨uu, vv⟩
          have h3 := (yP1_g okA g2).2
          have a3 := yPG_3 (b := b) (sz := sz) (S := yAdv b sz S1) (G := G1) (j := 3)
          rw [if_pos g2] at a3
          have af := (yPG_f (b := b) (sz := sz) (S := yAdv b sz S1) (G := G1) (j := 3) g2).1
          have ag : agP G1 (yPG b sz 3 (yAdv b sz S1) G1) (G1 3) := yPG_ag
          refine ih z4 _ _ (zn z1) (m + 1) (f1.trans F14) ⟨⟨n1, by omega⟩, ?_, ?_, r, zn z1 + 1, ⟨?_, ?_⟩, ?_, ?_⟩ (by omega) ?_ ?_ ?_ (yP1_ok okA) g2 (by omega) (by omega) (by omega) (by omega) (by omega) (by omega) e
          · rw [← hz4]; exact g3
          · rw [← hz4, fi_sfr, fi_sfi, zu2_s]
          · rw [← hz4, fr_sfr, zu2_k _ _ _ _ (by omega), fr_sfi, fr_sfr, zu2_s]
          · have h5 := zTm.st (F14.st (fun q hq => hq.2)) f2
            have h6 := zTm.ap ag (by omega) h5
            exact zTm.mono (fun q hq => ⟨hq.1, by omega⟩) h6
          · rw [← hz4, fr_sfr, zu2_s]
          · have h5 := zLf.st (F34.st (fun q hq => ⟨hq.2, fun e => by omega⟩)) lf
            rw [f3] at h5
            exact zLf.mono (fun q hq => ⟨by omega, by omega⟩) h5
          · rw [ag _ (by omega) (by omega)]; exact f4
          · intro i hi
            by_cases c : i < m
            · rw [ag _ (by omega) (by omega)]; exact f5 i c
            · rw [show 814 + 3 * (G 3 + 1 + i) = 814 + 3 * G1 3 by omega]; exact af
          · exact agP_trans f6 ag (by omega)
        · simp only [zcs_0, zcs_1, zcs_2, zcs_3, zcs_4, zcs_5, zcs_6, zcs_7, znl_i, znl_r, znl_n, Bool.and_true, Bool.true_and, zk_v, zk_n, zk_x, zir_r, zir_n, zclr_i, zclr_r, zclr_n, zclr_d, zclr_l, true_and, and_true, and_self, if_true, if_false, reduceIte]
          have e2 : yTm b sz j S G = ((yP1 b sz (yAdv b sz S1)).1, yPG b sz 3 (yAdv b sz S1) G1) := by
            rw [← e]
            exact yML_bad g2 n
          rw [e2] at HX
          have hb := yAdv_fr b sz S1
          have hb2 := okA.1
          exact HX g2 z3 S3 (f1.trans (F2.trans F3)) (by rw [uu, uc_snew]; omega) (by rw [uu, uc_snew]; omega) (by rw [vv, us_snew]; omega) (by rw [vv, us_snew]; omega)
      · rw [if_neg g] at e
        rw [Bool.not_eq_true] at g
        rw [g] at tk
        simp only [Bool.false_eq_true, if_false] at tk
        simp (disch := omega) only [s229_6, s229_8, s229_11, s229_31, s229_32, s229_32r, zcs_0, zcs_1, zcs_2, zcs_3, zcs_4, zcs_5, zcs_6, zcs_7, znl_i, znl_r, znl_n, Bool.and_true, Bool.true_and, zk_v, zk_n, zk_x, zir_r, zir_n, zclr_i, zclr_r, zclr_n, zclr_d, zclr_l, true_and, and_true, and_self, if_true, if_false, reduceIte, nI_add, pk_mul, zin_ok, zx_nI, nI_lt2, nI_le2, nI_eq2, nI_l0, nI_g0, nI_q0, nI_p0, nI_n0, nI_m1, Nat.add_zero, Nat.zero_add, Nat.reduceAdd, Nat.reduceMul, true_or, or_true, znar_50, bI_0, bI_1, bI_z, bft, nI_z0, nI_z1, lgc_lt, lgc_gt, lgc_le, lgc_ge, lgc_eq, not_true_eq_false, not_false_eq_true, Bool.not_eq_true, Bool.not_eq_false, reduceCtorEq, eq_self, nI_e0, nI_e1, i10, i01, decide_false, decide_true, Bool.false_eq_true, cls_cP, fr_cP, len_cP, ls_cP, n_cP, q0, tk, bI_f]
        rw [← e] at H
        exact H o2 z1 r m f1 f2 f3 f4 f5 f6 u1 u2 u3 u4
  simp (disch := omega) only [e229, s229_0, s229_1, zcs_0, zcs_1, zcs_2, zcs_3, zcs_4, zcs_5, zcs_6, zcs_7, znl_i, znl_r, znl_n, Bool.and_true, Bool.true_and, zk_v, zk_n, zk_x, zir_r, zir_n, zclr_i, zclr_r, zclr_n, zclr_d, zclr_l, true_and, and_true, and_self, if_true, if_false, reduceIte, nI_add, pk_mul, zin_ok, zx_nI, nI_lt2, nI_le2, nI_eq2, nI_l0, nI_g0, nI_q0, nI_p0, nI_n0, nI_m1, Nat.add_zero, Nat.zero_add, Nat.reduceAdd, Nat.reduceMul, true_or, or_true, znar_50, bI_0, bI_1, bI_z, bft, nI_z0, nI_z1, lgc_lt, lgc_gt, lgc_le, lgc_ge, lgc_eq, not_true_eq_false, not_false_eq_true, Bool.not_eq_true, Bool.not_eq_false, reduceCtorEq, eq_self, nI_e0, nI_e1, i10, i01, decide_false, decide_true, Bool.false_eq_true, cls_cP, fr_cP, len_cP, ls_cP, n_cP, r0]
  refine c230 (d := d) (G := G) (j := j) hR hS hk hn h162 (fun g2 z3 F3 lf nn uu vv => ?_) (fun g2 z3 S3 F3 uu vv => ?_)
  · simp (disch := omega) only [s229_4, zcs_0, zcs_1, zcs_2, zcs_3, zcs_4, zcs_5, zcs_6, zcs_7, znl_i, znl_r, znl_n, Bool.and_true, Bool.true_and, zk_v, zk_n, zk_x, zir_r, zir_n, zclr_i, zclr_r, zclr_n, zclr_d, zclr_l, true_and, and_true, and_self, if_true, if_false, reduceIte, nI_add, pk_mul, zin_ok, zx_nI, nI_lt2, nI_le2, nI_eq2, nI_l0, nI_g0, nI_q0, nI_p0, nI_n0, nI_m1, Nat.add_zero, Nat.zero_add, Nat.reduceAdd, Nat.reduceMul, true_or, or_true, znar_50, bI_0, bI_1, bI_z, bft, nI_z0, nI_z1, lgc_lt, lgc_gt, lgc_le, lgc_ge, lgc_eq, not_true_eq_false, not_false_eq_true, Bool.not_eq_true, Bool.not_eq_false, reduceCtorEq, eq_self, nI_e0, nI_e1, i10, i01, decide_false, decide_true, Bool.false_eq_true]
    have h3 := (yP1_g hS g2).2
    have a3 := yPG_3 (b := b) (sz := sz) (S := S) (G := G) (j := j)
    rw [if_pos g2] at a3
    have okP := yP1_ok (b := b) hS
    exact lp (sz + 1) z3 _ _ (zn z) 0 F3 lf (by omega) (yPG_f g2).1 (fun i hi => absurd hi (Nat.not_lt_zero _)) yPG_ag okP g2 (by omega) (by omega) (by omega) (by omega) (by omega) (by omega) rfl
  · simp only [zcs_0, zcs_1, zcs_2, zcs_3, zcs_4, zcs_5, zcs_6, zcs_7, znl_i, znl_r, znl_n, Bool.and_true, Bool.true_and, zk_v, zk_n, zk_x, zir_r, zir_n, zclr_i, zclr_r, zclr_n, zclr_d, zclr_l, true_and, and_true, and_self, if_true, if_false, reduceIte]
    have e2 : yTm b sz j S G = ((yP1 b sz S).1, yPG b sz j S G) := yML_bad g2 _
    rw [e2] at HX
    exact HX g2 z3 S3 F3 (by omega) (by omega) (by omega) (by omega)
end CV
