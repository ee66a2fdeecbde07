set_option maxRecDepth 100000
/-! the model: sums, tests -/
section MT4
variable {d : Nat} {z : ZH} {Q : ZQ} {b : Nat → Nat} {sz : Nat} {S : YS} {G : Nat → Nat}
/-- parts, joined, n at most -/
def ySL (b : Nat → Nat) (sz : Nat) : Nat → YS → (Nat → Nat) → YS × (Nat → Nat)
  | 0, S, G => (S, G)
  | n + 1, S, G => if yWh b S [23, 18, 31] < 3 then ySL b sz n (yP1 b sz (yAdv b sz S)).1 (yPG b sz (yWh b S [23, 18, 31] + 1) (yAdv b sz S) G) else (S, G)
/-- a sum that begins with the join j -/
def ySum (b : Nat → Nat) (sz j : Nat) (S : YS) (G : Nat → Nat) : YS × (Nat → Nat) := ySL b sz (sz + 1) (yP1 b sz S).1 (yPG b sz j S G)
/-- parts are fewer than letters: ahead of a part, behind one -/
def yA (S : YS) (G : Nat → Nat) : Prop := yFk S = 0 → 4 * G 3 ≤ yFr S ∧ 2 * G 2 ≤ G 3
def yB (S : YS) (G : Nat → Nat) : Prop := yFk S = 0 → 4 * G 3 ≤ yFr S + 3 ∧ 2 * G 2 ≤ G 3
theorem yPG_3 {j : Nat} : yPG b sz j S G 3 = if yFk (yP1 b sz S).1 = 0 then G 3 + 1 else G 3 := by
  unfold yPG
  split
  · exact zu1_s _ _ _
  · rfl
theorem yPG_n {j q : Nat} (h : ¬ q = 3) (h2 : q < 814 + 3 * G 3 ∨ 817 + 3 * G 3 ≤ q) : yPG b sz j S G q = G q := by
  unfold yPG
  split
  · rw [zu1_n _ _ _ h, zu1_n _ _ _ (by omega), zu1_n _ _ _ (by omega), zu1_n _ _ _ (by omega)]
  · rfl
theorem yP1_B (hS : yOK sz S) {j : Nat} (h : yA S G) : yB (yP1 b sz S).1 (yPG b sz j S G) := by
  intro g
  obtain ⟨g1, g2⟩ := yP1_g hS g
  obtain ⟨a1, a2⟩ := h g1
  rw [yPG_3, if_pos g, yPG_n (by omega) (by omega)]
  omega
/-- words of four letters or more -/
theorem yAdv_A (hS : yOK sz S) {l : List Nat} (hl : ∀ r, r ∈ l → 4 ≤ (ztx r).length) (h : yWh b S l < l.length) (hB : yB S G) : yA (yAdv b sz S) G := by
  obtain ⟨r, h1, h2⟩ := yWh_lt l h
  have h3 := yIs_fr hS h2
  have h4 := hl r h1
  intro g
  obtain ⟨b1, b2⟩ := hB (yIs_g h2).1
  omega
theorem jn_len : ∀ r, r ∈ [23, 18, 31] → 4 ≤ (ztx r).length := by decide
theorem sg_len : ∀ r, r ∈ [20, 16, 25] → 4 ≤ (ztx r).length := by decide
theorem ySL_ok : ∀ (n : Nat) (S : YS) (G : Nat → Nat), yOK sz S → yOK sz (ySL b sz n S G).1
  | 0, S, G, h => h
  | n + 1, S, G, h => by
    unfold ySL
    split
    · exact ySL_ok n _ _ (yP1_ok (yAdv_ok h))
    · exact h
theorem ySL_bad (h : ¬ yFk S = 0) : ∀ n, ySL b sz n S G = (S, G)
  | 0 => rfl
  | n + 1 => by
    unfold ySL
    rw [if_neg]
    intro q
    exact h (yWh_g (l := [23, 18, 31]) q).1
theorem ySL_B : ∀ (n : Nat) (S : YS) (G : Nat → Nat), yOK sz S → yB S G → yB (ySL b sz n S G).1 (ySL b sz n S G).2
  | 0, S, G, h, hB => hB
  | n + 1, S, G, h, hB => by
    unfold ySL
    split
    · rename_i hc
      exact ySL_B n _ _ (yP1_ok (yAdv_ok h)) (yP1_B (yAdv_ok h) (yAdv_A h jn_len hc hB))
    · exact hB
/-- what parts keep: all below, but their number; their number grows -/
theorem ySL_n : ∀ (n : Nat) (S : YS) (G : Nat → Nat), G 3 ≤ (ySL b sz n S G).2 3 ∧ ∀ q, ¬ q = 3 → q < 814 + 3 * G 3 → (ySL b sz n S G).2 q = G q
  | 0, S, G => ⟨Nat.le_refl _, fun _ _ _ => rfl⟩
  | n + 1, S, G => by
    unfold ySL
    split
    · obtain ⟨h1, h2⟩ := ySL_n n (yP1 b sz (yAdv b sz S)).1 (yPG b sz (yWh b S [23, 18, 31] + 1) (yAdv b sz S) G)
      have h3 : G 3 ≤ yPG b sz (yWh b S [23, 18, 31] + 1) (yAdv b sz S) G 3 := by
        rw [yPG_3]; split <;> omega
      refine ⟨by omega, fun q hq hq2 => ?_⟩
      rw [h2 q hq (by omega), yPG_n hq (Or.inl hq2)]
    · exact ⟨Nat.le_refl _, fun _ _ _ => rfl⟩
theorem ySum_ok {j : Nat} (h : yOK sz S) : yOK sz (ySum b sz j S G).1 := ySL_ok _ _ _ (yP1_ok h)
theorem ySum_bad {j : Nat} (h : ¬ yFk (yP1 b sz S).1 = 0) : ySum b sz j S G = ((yP1 b sz S).1, yPG b sz j S G) := ySL_bad h _
theorem ySum_B {j : Nat} (h : yOK sz S) (hA : yA S G) : yB (ySum b sz j S G).1 (ySum b sz j S G).2 := ySL_B _ _ _ (yP1_ok h) (yP1_B h hA)
theorem ySum_n {j : Nat} : G 3 ≤ (ySum b sz j S G).2 3 ∧ ∀ q, ¬ q = 3 → q < 814 + 3 * G 3 → (ySum b sz j S G).2 q = G q := by
  obtain ⟨h1, h2⟩ := ySL_n (b := b) (sz := sz) (sz + 1) (yP1 b sz S).1 (yPG b sz j S G)
  have h3 : G 3 ≤ yPG b sz j S G 3 := by rw [yPG_3]; split <;> omega
  exact ⟨Nat.le_trans h3 h1, fun q hq hq2 => by
    unfold ySum
    rw [h2 q hq (by omega), yPG_n hq (Or.inl hq2)]⟩
theorem ySL_gr : ∀ (n : Nat) (S : YS) (G : Nat → Nat), yFk (ySL b sz n S G).1 = 0 → yFk S = 0
  | 0, S, G, h => h
  | n + 1, S, G, h => by
    unfold ySL at h
    split at h
    · rename_i hc
      exact (yWh_g (l := [23, 18, 31]) hc).1
    · exact h
theorem ySum_g {j : Nat} (hS : yOK sz S) (h : yFk (ySum b sz j S G).1 = 0) : yFk S = 0 ∧ yFk (yP1 b sz S).1 = 0 ∧ G 3 + 1 ≤ (ySum b sz j S G).2 3 := by
  have h1 := ySL_gr _ _ _ h
  refine ⟨(yP1_g hS h1).1, h1, ?_⟩
  have h2 := (ySL_n (b := b) (sz := sz) (sz + 1) (yP1 b sz S).1 (yPG b sz j S G)).1
  rw [yPG_3, if_pos h1] at h2
  exact h2
theorem m134 (hM : MS z) (hT : TPm z b sz) (hS : yOK sz S) {j : Nat} (hA : yA S G) : ZC zG (d + 4) 134 [.ref 135, .int (nI j)] (mG z S G) Q = Q (.inl none) (mG z (ySum b sz j S G).1 (ySum b sz j S G).2) := by
  have h0 := hM
  unfold MS at h0
  have hsz : sz ≤ 1400 := hT.2.1
  have key : ∀ (n : Nat) (x : Value) (S : YS) (G : Nat → Nat), yOK sz S → yB S G → (yFk S = 0 → sz < yFr S + n) → ZW zG (d + 4) 134 5 [.ref 135, .int (nI j), x] [] (mG z S G) Q = Q (.inl none) (mG z (ySL b sz n S G).1 (ySL b sz n S G).2) := by
    intro n
    induction n with
    | zero =>
      intro x S G hS hB hf
      have hbad : ¬ yFk S = 0 := fun q => by
        have := hf q
        have := hS.1
        omega
      have c := fun d Q r (hr : r < 35) => g125 (d := d) (Q := Q) (G := G) (r := r) hM hT hS hr
      have e := fun r => yIs_bad (b := b) (r := r) hbad
      refine s134_5.trans ?_
      unfold ySL
      simp (disch := omega) only [s134_0, s134_1, s134_2, s134_6, s134_8, s134_11, s134_14, s134_15, s134_17, s134_20, s134_23, s134_24, s134_26, s134_29, s134_32, s134_33, s134_35, s134_38, s134_41, s134_42, s134_45, s134_46, s134_48, s134_51, s134_54, s134_55, s134_58, s134_59, s134_60, s134_61, s134_64, s134_65, s134_66, s134_69, s134_72, zcs_0, zcs_1, zcs_2, zcs_3, zcs_4, zcs_5, zcs_6, zcs_7, znl_i, znl_r, znl_n, Bool.and_true, Bool.true_and, zk_v, zk_n, zk_x, zir_r, zir_n, zclr_i, zclr_r, zclr_n, zclr_d, zclr_l, true_and, and_true, and_self, if_true, if_false, reduceIte, nI_add, pk_mul, zin_ok, zx_nI, nI_lt2, nI_le2, nI_eq2, nI_l0, nI_g0, nI_q0, nI_p0, nI_n0, nI_m1, Nat.add_zero, Nat.zero_add, Nat.reduceAdd, Nat.reduceMul, true_or, or_true, znar_50, bI_0, bI_1, bI_z, bft, nI_z0, nI_z1, lgc_lt, lgc_gt, lgc_le, lgc_ge, lgc_eq, not_true_eq_false, not_false_eq_true, Bool.not_eq_true, Bool.not_eq_false, reduceCtorEq, eq_self, nI_e0, nI_e1, i10, i01, decide_false, decide_true, Bool.false_eq_true, cls_mG, fr_mG, len_mG, h0, c, e, bI_f]
    | succ n ih =>
      intro x S G hS hB hf
      have c := fun d Q r (hr : r < 35) => g125 (d := d) (Q := Q) (G := G) (r := r) hM hT hS hr
      have adv := fun d Q => g120 (d := d) (Q := Q) (G := G) (S := S) hM hT hS.1.2
      have okA := yAdv_ok (b := b) hS
      refine s134_5.trans ?_
      unfold ySL
      by_cases e23x : yIs b S 23 = true
      · have e : yWh b S [23, 18, 31] = 0 := by simp only [yWh, e23x, if_true, if_false, Bool.false_eq_true, Nat.reduceAdd]
        have hlt : yWh b S [23, 18, 31] < 3 := by omega
        have hA2 := yAdv_A hS jn_len hlt hB
        have g1 := (yIs_g e23x).1
        have hlen := yIs_fr hS e23x
        have hl4 := jn_len 23 (by simp)
        have prt := fun d Q => m135 (d := d) (Q := Q) (G := G) (j := 1) hM hT okA (fun q => by have q1 := yP1_g okA q; have := (hA2 q1.1).1; have := q1.2; have := (yP1_ok (b := b) okA).1; omega)
        have ih1 := fun x => ih x (yP1 b sz (yAdv b sz S)).1 (yPG b sz 1 (yAdv b sz S) G) (yP1_ok okA) (yP1_B okA hA2) (fun q => by
          have := (yP1_g okA q).2
          have := hf g1
          omega)
        rw [if_pos hlt, e]
        rw [show 0 + 1 = 1 from rfl, ← ih1 (.int (nI 1))]
        simp (disch := omega) only [s134_0, s134_1, s134_2, s134_6, s134_8, s134_11, s134_14, s134_15, s134_17, s134_20, s134_23, s134_24, s134_26, s134_29, s134_32, s134_33, s134_35, s134_38, s134_41, s134_42, s134_45, s134_46, s134_48, s134_51, s134_54, s134_55, s134_58, s134_59, s134_60, s134_61, s134_64, s134_65, s134_66, s134_69, s134_72, zcs_0, zcs_1, zcs_2, zcs_3, zcs_4, zcs_5, zcs_6, zcs_7, znl_i, znl_r, znl_n, Bool.and_true, Bool.true_and, zk_v, zk_n, zk_x, zir_r, zir_n, zclr_i, zclr_r, zclr_n, zclr_d, zclr_l, true_and, and_true, and_self, if_true, if_false, reduceIte, nI_add, pk_mul, zin_ok, zx_nI, nI_lt2, nI_le2, nI_eq2, nI_l0, nI_g0, nI_q0, nI_p0, nI_n0, nI_m1, Nat.add_zero, Nat.zero_add, Nat.reduceAdd, Nat.reduceMul, true_or, or_true, znar_50, bI_0, bI_1, bI_z, bft, nI_z0, nI_z1, lgc_lt, lgc_gt, lgc_le, lgc_ge, lgc_eq, not_true_eq_false, not_false_eq_true, Bool.not_eq_true, Bool.not_eq_false, reduceCtorEq, eq_self, nI_e0, nI_e1, i10, i01, decide_false, decide_true, Bool.false_eq_true, cls_mG, fr_mG, len_mG, h0, c, adv, prt, e23x, bI_t, bI_f]
      rw [Bool.not_eq_true] at e23x
      by_cases e18x : yIs b S 18 = true
      · have e : yWh b S [23, 18, 31] = 1 := by simp only [yWh, e23x, e18x, if_true, if_false, Bool.false_eq_true, Nat.reduceAdd]
        have hlt : yWh b S [23, 18, 31] < 3 := by omega
        have hA2 := yAdv_A hS jn_len hlt hB
        have g1 := (yIs_g e18x).1
        have hlen := yIs_fr hS e18x
        have hl4 := jn_len 18 (by simp)
        have prt := fun d Q => m135 (d := d) (Q := Q) (G := G) (j := 2) hM hT okA (fun q => by have q1 := yP1_g okA q; have := (hA2 q1.1).1; have := q1.2; have := (yP1_ok (b := b) okA).1; omega)
        have ih1 := fun x => ih x (yP1 b sz (yAdv b sz S)).1 (yPG b sz 2 (yAdv b sz S) G) (yP1_ok okA) (yP1_B okA hA2) (fun q => by
          have := (yP1_g okA q).2
          have := hf g1
          omega)
        rw [if_pos hlt, e]
        rw [show 1 + 1 = 2 from rfl, ← ih1 (.int (nI 2))]
        simp (disch := omega) only [s134_0, s134_1, s134_2, s134_6, s134_8, s134_11, s134_14, s134_15, s134_17, s134_20, s134_23, s134_24, s134_26, s134_29, s134_32, s134_33, s134_35, s134_38, s134_41, s134_42, s134_45, s134_46, s134_48, s134_51, s134_54, s134_55, s134_58, s134_59, s134_60, s134_61, s134_64, s134_65, s134_66, s134_69, s134_72, zcs_0, zcs_1, zcs_2, zcs_3, zcs_4, zcs_5, zcs_6, zcs_7, znl_i, znl_r, znl_n, Bool.and_true, Bool.true_and, zk_v, zk_n, zk_x, zir_r, zir_n, zclr_i, zclr_r, zclr_n, zclr_d, zclr_l, true_and, and_true, and_self, if_true, if_false, reduceIte, nI_add, pk_mul, zin_ok, zx_nI, nI_lt2, nI_le2, nI_eq2, nI_l0, nI_g0, nI_q0, nI_p0, nI_n0, nI_m1, Nat.add_zero, Nat.zero_add, Nat.reduceAdd, Nat.reduceMul, true_or, or_true, znar_50, bI_0, bI_1, bI_z, bft, nI_z0, nI_z1, lgc_lt, lgc_gt, lgc_le, lgc_ge, lgc_eq, not_true_eq_false, not_false_eq_true, Bool.not_eq_true, Bool.not_eq_false, reduceCtorEq, eq_self, nI_e0, nI_e1, i10, i01, decide_false, decide_true, Bool.false_eq_true, cls_mG, fr_mG, len_mG, h0, c, adv, prt, e23x, e18x, bI_t, bI_f]
      rw [Bool.not_eq_true] at e18x
      by_cases e31x : yIs b S 31 = true
      · have e : yWh b S [23, 18, 31] = 2 := by simp only [yWh, e23x, e18x, e31x, if_true, if_false, Bool.false_eq_true, Nat.reduceAdd]
        have hlt : yWh b S [23, 18, 31] < 3 := by omega
        have hA2 := yAdv_A hS jn_len hlt hB
        have g1 := (yIs_g e31x).1
        have hlen := yIs_fr hS e31x
        have hl4 := jn_len 31 (by simp)
        have prt := fun d Q => m135 (d := d) (Q := Q) (G := G) (j := 3) hM hT okA (fun q => by have q1 := yP1_g okA q; have := (hA2 q1.1).1; have := q1.2; have := (yP1_ok (b := b) okA).1; omega)
        have ih1 := fun x => ih x (yP1 b sz (yAdv b sz S)).1 (yPG b sz 3 (yAdv b sz S) G) (yP1_ok okA) (yP1_B okA hA2) (fun q => by
          have := (yP1_g okA q).2
          have := hf g1
          omega)
        rw [if_pos hlt, e]
        rw [show 2 + 1 = 3 from rfl, ← ih1 (.int (nI 3))]
        simp (disch := omega) only [s134_0, s134_1, s134_2, s134_6, s134_8, s134_11, s134_14, s134_15, s134_17, s134_20, s134_23, s134_24, s134_26, s134_29, s134_32, s134_33, s134_35, s134_38, s134_41, s134_42, s134_45, s134_46, s134_48, s134_51, s134_54, s134_55, s134_58, s134_59, s134_60, s134_61, s134_64, s134_65, s134_66, s134_69, s134_72, zcs_0, zcs_1, zcs_2, zcs_3, zcs_4, zcs_5, zcs_6, zcs_7, znl_i, znl_r, znl_n, Bool.and_true, Bool.true_and, zk_v, zk_n, zk_x, zir_r, zir_n, zclr_i, zclr_r, zclr_n, zclr_d, zclr_l, true_and, and_true, and_self, if_true, if_false, reduceIte, nI_add, pk_mul, zin_ok, zx_nI, nI_lt2, nI_le2, nI_eq2, nI_l0, nI_g0, nI_q0, nI_p0, nI_n0, nI_m1, Nat.add_zero, Nat.zero_add, Nat.reduceAdd, Nat.reduceMul, true_or, or_true, znar_50, bI_0, bI_1, bI_z, bft, nI_z0, nI_z1, lgc_lt, lgc_gt, lgc_le, lgc_ge, lgc_eq, not_true_eq_false, not_false_eq_true, Bool.not_eq_true, Bool.not_eq_false, reduceCtorEq, eq_self, nI_e0, nI_e1, i10, i01, decide_false, decide_true, Bool.false_eq_true, cls_mG, fr_mG, len_mG, h0, c, adv, prt, e23x, e18x, e31x, bI_t, bI_f]
      rw [Bool.not_eq_true] at e31x
      have e : yWh b S [23, 18, 31] = 3 := by simp only [yWh, e23x, e18x, e31x, if_true, if_false, Bool.false_eq_true, Nat.reduceAdd]
      rw [if_neg (by omega)]
      simp (disch := omega) only [s134_0, s134_1, s134_2, s134_6, s134_8, s134_11, s134_14, s134_15, s134_17, s134_20, s134_23, s134_24, s134_26, s134_29, s134_32, s134_33, s134_35, s134_38, s134_41, s134_42, s134_45, s134_46, s134_48, s134_51, s134_54, s134_55, s134_58, s134_59, s134_60, s134_61, s134_64, s134_65, s134_66, s134_69, s134_72, zcs_0, zcs_1, zcs_2, zcs_3, zcs_4, zcs_5, zcs_6, zcs_7, znl_i, znl_r, znl_n, Bool.and_true, Bool.true_and, zk_v, zk_n, zk_x, zir_r, zir_n, zclr_i, zclr_r, zclr_n, zclr_d, zclr_l, true_and, and_true, and_self, if_true, if_false, reduceIte, nI_add, pk_mul, zin_ok, zx_nI, nI_lt2, nI_le2, nI_eq2, nI_l0, nI_g0, nI_q0, nI_p0, nI_n0, nI_m1, Nat.add_zero, Nat.zero_add, Nat.reduceAdd, Nat.reduceMul, true_or, or_true, znar_50, bI_0, bI_1, bI_z, bft, nI_z0, nI_z1, lgc_lt, lgc_gt, lgc_le, lgc_ge, lgc_eq, not_true_eq_false, not_false_eq_true, Bool.not_eq_true, Bool.not_eq_false, reduceCtorEq, eq_self, nI_e0, nI_e1, i10, i01, decide_false, decide_true, Bool.false_eq_true, cls_mG, fr_mG, len_mG, h0, c, e23x, e18x, e31x, bI_f]
  have okP := yP1_ok (b := b) hS
  have prt := fun d Q => m135 (d := d) (Q := Q) (G := G) (j := j) hM hT hS (fun q => by have q1 := yP1_g hS q; have := (hA q1.1).1; have := q1.2; have := (yP1_ok (b := b) hS).1; omega)
  have k0 := fun x => key (sz + 1) x (yP1 b sz S).1 (yPG b sz j S G) okP (yP1_B hS hA) (fun _ => by omega)
  unfold ySum
  simp (disch := omega) only [e134, s134_0, s134_1, s134_2, zcs_0, zcs_1, zcs_2, zcs_3, zcs_4, zcs_5, zcs_6, zcs_7, znl_i, znl_r, znl_n, Bool.and_true, Bool.true_and, zk_v, zk_n, zk_x, zir_r, zir_n, zclr_i, zclr_r, zclr_n, zclr_d, zclr_l, true_and, and_true, and_self, if_true, if_false, reduceIte, nI_add, pk_mul, zin_ok, zx_nI, nI_lt2, nI_le2, nI_eq2, nI_l0, nI_g0, nI_q0, nI_p0, nI_n0, nI_m1, Nat.add_zero, Nat.zero_add, Nat.reduceAdd, Nat.reduceMul, true_or, or_true, znar_50, bI_0, bI_1, bI_z, bft, nI_z0, nI_z1, lgc_lt, lgc_gt, lgc_le, lgc_ge, lgc_eq, not_true_eq_false, not_false_eq_true, Bool.not_eq_true, Bool.not_eq_false, reduceCtorEq, eq_self, nI_e0, nI_e1, i10, i01, decide_false, decide_true, Bool.false_eq_true, cls_mG, fr_mG, len_mG, h0, prt, k0]
/-- a test: its sign; behind it -/
def yT1 (b : Nat → Nat) (sz : Nat) (S : YS) (G : Nat → Nat) : YS × (Nat → Nat) := ySum b sz 0 S G
def yTs (b : Nat → Nat) (sz : Nat) (S : YS) (G : Nat → Nat) : Nat := yWh b (yT1 b sz S G).1 [20, 16, 25]
def yT2 (b : Nat → Nat) (sz : Nat) (S : YS) (G : Nat → Nat) : YS := yTkn b sz 3 (yTs b sz S G) (yT1 b sz S G).1
def yT3 (b : Nat → Nat) (sz : Nat) (S : YS) (G : Nat → Nat) : YS × (Nat → Nat) := if yFk (yT2 b sz S G) = 0 then ySum b sz 4 (yT2 b sz S G) (yT1 b sz S G).2 else (yT2 b sz S G, (yT1 b sz S G).2)
def yTG (b : Nat → Nat) (sz : Nat) (S : YS) (G : Nat → Nat) : Nat → Nat := if yFk (yT3 b sz S G).1 = 0 then zu1 (zu1 (zu1 (zu1 (yT3 b sz S G).2 (274 + 3 * G 2) (yTs b sz S G)) (274 + 3 * G 2 + 1) (G 3)) (274 + 3 * G 2 + 2) ((yT3 b sz S G).2 3 - G 3)) 2 (G 2 + 1) else (yT3 b sz S G).2
theorem yT_ok (h : yOK sz S) : yOK sz (yT1 b sz S G).1 ∧ yOK sz (yT2 b sz S G) ∧ yOK sz (yT3 b sz S G).1 := by
  have h1 : yOK sz (yT1 b sz S G).1 := ySum_ok h
  have h2 : yOK sz (yT2 b sz S G) := yTkn_ok h1
  refine ⟨h1, h2, ?_⟩
  unfold yT3
  split
  · exact ySum_ok h2
  · exact h2
theorem yT_A (h : yOK sz S) (hA : yA S G) : yA (yT2 b sz S G) (yT1 b sz S G).2 := by
  have h1 : yOK sz (yT1 b sz S G).1 := ySum_ok h
  have hB : yB (yT1 b sz S G).1 (yT1 b sz S G).2 := ySum_B h hA
  intro g
  obtain ⟨g1, g2, g3⟩ := yTkn_g (show yFk (yTkn b sz 3 (yTs b sz S G) (yT1 b sz S G).1) = 0 from g)
  have := yAdv_A (l := [20, 16, 25]) h1 sg_len g1 hB
  unfold yT2 at g ⊢
  rw [g3] at g ⊢
  exact this g
theorem yT3_n : G 3 ≤ (yT3 b sz S G).2 3 ∧ ∀ q, ¬ q = 3 → q < 814 + 3 * G 3 → (yT3 b sz S G).2 q = G q := by
  obtain ⟨h1, h2⟩ := ySum_n (b := b) (sz := sz) (S := S) (G := G) (j := 0)
  unfold yT3
  split
  · obtain ⟨h3, h4⟩ := ySum_n (b := b) (sz := sz) (S := yT2 b sz S G) (G := (yT1 b sz S G).2) (j := 4)
    exact ⟨Nat.le_trans h1 h3, fun q hq hq2 => by rw [h4 q hq (by show q < 814 + 3 * (ySum b sz 0 S G).2 3; omega)]; exact h2 q hq hq2⟩
  · exact ⟨h1, h2⟩
theorem yT3_g (hS : yOK sz S) (h : yFk (yT3 b sz S G).1 = 0) : yFk (yT2 b sz S G) = 0 ∧ yFk (yT1 b sz S G).1 = 0 ∧ yFk S = 0 ∧ yTs b sz S G < 3 ∧ G 3 + 2 ≤ (yT3 b sz S G).2 3 ∧ yT3 b sz S G = ySum b sz 4 (yT2 b sz S G) (yT1 b sz S G).2 := by
  have h2 : yFk (yT2 b sz S G) = 0 := by
    unfold yT3 at h
    by_cases c : yFk (yT2 b sz S G) = 0
    · exact c
    · rw [if_neg c] at h
      exact h
  obtain ⟨g1, g2, g3⟩ := yTkn_g (show yFk (yTkn b sz 3 (yTs b sz S G) (yT1 b sz S G).1) = 0 from h2)
  have e : yT3 b sz S G = ySum b sz 4 (yT2 b sz S G) (yT1 b sz S G).2 := if_pos h2
  obtain ⟨a1, a2, a3⟩ := ySum_g hS (show yFk (ySum b sz 0 S G).1 = 0 from g2)
  rw [e] at h
  obtain ⟨b1, b2, b3⟩ := ySum_g (yT_ok hS).2.1 h
  have a3 : G 3 + 1 ≤ (yT1 b sz S G).2 3 := a3
  exact ⟨h2, g2, a1, g1, by rw [e]; omega, e⟩
/-- behind a test -/
theorem yTG_B (hS : yOK sz S) (hA : yA S G) : yB (yT3 b sz S G).1 (yTG b sz S G) := by
  intro g
  obtain ⟨g1, g2, g3, g4, g5, g6⟩ := yT3_g hS g
  have hB := ySum_B (b := b) (j := 4) (yT_ok hS).2.1 (yT_A (b := b) hS hA)
  rw [← g6] at hB
  obtain ⟨b1, b2⟩ := hB g
  obtain ⟨a1, a2⟩ := hA g3
  have e2 := yT3_n (b := b) (sz := sz) (S := S) (G := G)
  unfold yTG
  rw [if_pos g, zu1_s, zu1_n _ _ _ (by omega), zu1_n _ _ _ (by omega), zu1_n _ _ _ (by omega), zu1_n _ _ _ (by omega)]
  omega
theorem m133 (hM : MS z) (hT : TPm z b sz) (hS : yOK sz S) (hA : yA S G) (hg : yFk S = 0) : ZC zG (d + 5) 133 [.ref 135] (mG z S G) Q = Q (.inl none) (mG z (yT3 b sz S G).1 (yTG b sz S G)) := by
  have h0 := hM
  unfold MS at h0
  have hsz : sz ≤ 1400 := hT.2.1
  have hfr := hS.1
  obtain ⟨k1, k2, k3⟩ := yT_ok (b := b) (G := G) hS
  obtain ⟨A1, A2⟩ := hA hg
  have s1 : ∀ d Q, ZC zG (d + 4) 134 [.ref 135, .int (nI 0)] (mG z S G) Q = Q (.inl none) (mG z (yT1 b sz S G).1 (yT1 b sz S G).2) := fun d Q => m134 hM hT hS hA
  have tk : ∀ d Q, ZC zG (d + 2) 128 [.ref 135, .int (wI 3 (yTs b sz S G))] (mG z (yT1 b sz S G).1 (yT1 b sz S G).2) Q = Q (.inl (some (.int (wI 3 (yTs b sz S G))))) (mG z (yT2 b sz S G) (yT1 b sz S G).2) := fun d Q => g128 hM hT k1 (by omega)
  have c := fun d Q r (hr : r < 35) => g125 (d := d) (Q := Q) (G := (yT1 b sz S G).2) (S := (yT1 b sz S G).1) (r := r) hM hT k1 hr
  have gd2 := fun d Q => g122 (d := d) (Q := Q) (G := (yT1 b sz S G).2) (S := yT2 b sz S G) hM (by have := k2.2.2.2.2; omega)
  have gd3 := fun d Q => g122 (d := d) (Q := Q) (G := (yT3 b sz S G).2) (S := (yT3 b sz S G).1) hM (by have := k3.2.2.2.2; omega)
  have nn := yT3_n (b := b) (sz := sz) (S := S) (G := G)
  -- behind the second sum
  have fin : ∀ x3, ZW zG (d + 5) 133 69 [.ref 135, .int (nI (G 3)), .int (wI 3 (yTs b sz S G)), x3] [] (mG z (yT3 b sz S G).1 (yT3 b sz S G).2) Q = Q (.inl none) (mG z (yT3 b sz S G).1 (yTG b sz S G)) := by
    intro x3
    unfold yTG
    by_cases g : yFk (yT3 b sz S G).1 = 0
    · obtain ⟨g1, g2, g3, g4, g5, g6⟩ := yT3_g hS g
      have hB := ySum_B (b := b) (j := 4) k2 (yT_A (b := b) hS hA)
      rw [← g6] at hB
      obtain ⟨b1, b2⟩ := hB g
      have k31 := k3.1
      rw [decide_eq_true g] at gd3
      rw [if_pos g]
      have e2 := nn.2 2 (by omega) (by omega)
      have hw : wI 3 (yTs b sz S G) = nI (yTs b sz S G) := if_pos g4
      rw [hw]
      generalize (yT3 b sz S G).2 = G3 at *
      simp (disch := omega) only [s133_69, s133_70, s133_73, s133_76, s133_77, s133_80, s133_81, s133_82, s133_85, s133_86, s133_87, s133_88, s133_89, s133_90, s133_91, s133_94, s133_95, s133_96, s133_97, s133_98, s133_101, s133_102, s133_103, s133_104, s133_105, s133_106, s133_107, s133_110, s133_111, s133_112, s133_113, s133_114, s133_117, s133_118, s133_119, s133_120, s133_121, s133_122, s133_123, s133_126, s133_127, s133_128, s133_129, s133_130, s133_131, s133_132, zcs_0, zcs_1, zcs_2, zcs_3, zcs_4, zcs_5, zcs_6, zcs_7, znl_i, znl_r, znl_n, Bool.and_true, Bool.true_and, zk_v, zk_n, zk_x, zir_r, zir_n, zclr_i, zclr_r, zclr_n, zclr_d, zclr_l, true_and, and_true, and_self, if_true, if_false, reduceIte, nI_add, pk_mul, zin_ok, zx_nI, nI_lt2, nI_le2, nI_eq2, nI_l0, nI_g0, nI_q0, nI_p0, nI_n0, nI_m1, Nat.add_zero, Nat.zero_add, Nat.reduceAdd, Nat.reduceMul, true_or, or_true, znar_50, bI_0, bI_1, bI_z, bft, nI_z0, nI_z1, lgc_lt, lgc_gt, lgc_le, lgc_ge, lgc_eq, not_true_eq_false, not_false_eq_true, Bool.not_eq_true, Bool.not_eq_false, reduceCtorEq, eq_self, nI_e0, nI_e1, i10, i01, decide_false, decide_true, Bool.false_eq_true, cls_mG, fr_mG, len_mG, h0, gd3, ia_mG, mG_w, e2, nI_sbn, zu1_n, zu1_s, ne_eq, bI_t]
    · rw [decide_eq_false g] at gd3
      rw [if_neg g]
      simp (disch := omega) only [s133_69, s133_70, s133_73, s133_76, s133_77, s133_80, s133_81, s133_82, s133_85, s133_86, s133_87, s133_88, s133_89, s133_90, s133_91, s133_94, s133_95, s133_96, s133_97, s133_98, s133_101, s133_102, s133_103, s133_104, s133_105, s133_106, s133_107, s133_110, s133_111, s133_112, s133_113, s133_114, s133_117, s133_118, s133_119, s133_120, s133_121, s133_122, s133_123, s133_126, s133_127, s133_128, s133_129, s133_130, s133_131, s133_132, zcs_0, zcs_1, zcs_2, zcs_3, zcs_4, zcs_5, zcs_6, zcs_7, znl_i, znl_r, znl_n, Bool.and_true, Bool.true_and, zk_v, zk_n, zk_x, zir_r, zir_n, zclr_i, zclr_r, zclr_n, zclr_d, zclr_l, true_and, and_true, and_self, if_true, if_false, reduceIte, nI_add, pk_mul, zin_ok, zx_nI, nI_lt2, nI_le2, nI_eq2, nI_l0, nI_g0, nI_q0, nI_p0, nI_n0, nI_m1, Nat.add_zero, Nat.zero_add, Nat.reduceAdd, Nat.reduceMul, true_or, or_true, znar_50, bI_0, bI_1, bI_z, bft, nI_z0, nI_z1, lgc_lt, lgc_gt, lgc_le, lgc_ge, lgc_eq, not_true_eq_false, not_false_eq_true, Bool.not_eq_true, Bool.not_eq_false, reduceCtorEq, eq_self, nI_e0, nI_e1, i10, i01, decide_false, decide_true, Bool.false_eq_true, cls_mG, fr_mG, len_mG, h0, gd3, bI_f]
  have mid : ∀ x3, ZW zG (d + 5) 133 53 [.ref 135, .int (nI (G 3)), zdum, x3] [.int (wI 3 (yTs b sz S G)), .ref 135] (mG z (yT1 b sz S G).1 (yT1 b sz S G).2) Q = Q (.inl none) (mG z (yT3 b sz S G).1 (yTG b sz S G)) := by
    intro x3
    by_cases g : yFk (yT2 b sz S G) = 0
    · have e : yT3 b sz S G = ySum b sz 4 (yT2 b sz S G) (yT1 b sz S G).2 := if_pos g
      have s2 : ∀ d Q, ZC zG (d + 4) 134 [.ref 135, .int (nI 4)] (mG z (yT2 b sz S G) (yT1 b sz S G).2) Q = Q (.inl none) (mG z (yT3 b sz S G).1 (yT3 b sz S G).2) := fun d Q => by
        rw [e]
        exact m134 hM hT k2 (yT_A hS hA)
      rw [decide_eq_true g] at gd2
      simp (disch := omega) only [s133_53, s133_56, s133_57, s133_58, s133_61, s133_64, s133_65, s133_66, zcs_0, zcs_1, zcs_2, zcs_3, zcs_4, zcs_5, zcs_6, zcs_7, znl_i, znl_r, znl_n, Bool.and_true, Bool.true_and, zk_v, zk_n, zk_x, zir_r, zir_n, zclr_i, zclr_r, zclr_n, zclr_d, zclr_l, true_and, and_true, and_self, if_true, if_false, reduceIte, nI_add, pk_mul, zin_ok, zx_nI, nI_lt2, nI_le2, nI_eq2, nI_l0, nI_g0, nI_q0, nI_p0, nI_n0, nI_m1, Nat.add_zero, Nat.zero_add, Nat.reduceAdd, Nat.reduceMul, true_or, or_true, znar_50, bI_0, bI_1, bI_z, bft, nI_z0, nI_z1, lgc_lt, lgc_gt, lgc_le, lgc_ge, lgc_eq, not_true_eq_false, not_false_eq_true, Bool.not_eq_true, Bool.not_eq_false, reduceCtorEq, eq_self, nI_e0, nI_e1, i10, i01, decide_false, decide_true, Bool.false_eq_true, cls_mG, fr_mG, len_mG, h0, tk, gd2, s2, fin, bI_t]
    · have e : yT3 b sz S G = (yT2 b sz S G, (yT1 b sz S G).2) := if_neg g
      rw [decide_eq_false g] at gd2
      rw [e] at fin ⊢
      simp (disch := omega) only [s133_53, s133_56, s133_57, s133_58, s133_61, s133_64, s133_65, s133_66, zcs_0, zcs_1, zcs_2, zcs_3, zcs_4, zcs_5, zcs_6, zcs_7, znl_i, znl_r, znl_n, Bool.and_true, Bool.true_and, zk_v, zk_n, zk_x, zir_r, zir_n, zclr_i, zclr_r, zclr_n, zclr_d, zclr_l, true_and, and_true, and_self, if_true, if_false, reduceIte, nI_add, pk_mul, zin_ok, zx_nI, nI_lt2, nI_le2, nI_eq2, nI_l0, nI_g0, nI_q0, nI_p0, nI_n0, nI_m1, Nat.add_zero, Nat.zero_add, Nat.reduceAdd, Nat.reduceMul, true_or, or_true, znar_50, bI_0, bI_1, bI_z, bft, nI_z0, nI_z1, lgc_lt, lgc_gt, lgc_le, lgc_ge, lgc_eq, not_true_eq_false, not_false_eq_true, Bool.not_eq_true, Bool.not_eq_false, reduceCtorEq, eq_self, nI_e0, nI_e1, i10, i01, decide_false, decide_true, Bool.false_eq_true, cls_mG, fr_mG, len_mG, h0, tk, gd2, fin, bI_f]
  by_cases e20x : yIs b (yT1 b sz S G).1 20 = true
  · have e : yTs b sz S G = 0 := by simp only [yTs, yWh, e20x, if_true, if_false, Bool.false_eq_true, Nat.reduceAdd]
    rw [e, show wI 3 0 = nI 0 from rfl] at mid
    simp (disch := omega) only [e133, s133_0, s133_1, s133_4, s133_5, s133_6, s133_7, s133_8, s133_9, s133_12, s133_13, s133_14, s133_16, s133_19, s133_22, s133_23, s133_26, s133_27, s133_29, s133_32, s133_35, s133_36, s133_39, s133_40, s133_42, s133_45, s133_48, s133_49, s133_52, zcs_0, zcs_1, zcs_2, zcs_3, zcs_4, zcs_5, zcs_6, zcs_7, znl_i, znl_r, znl_n, Bool.and_true, Bool.true_and, zk_v, zk_n, zk_x, zir_r, zir_n, zclr_i, zclr_r, zclr_n, zclr_d, zclr_l, true_and, and_true, and_self, if_true, if_false, reduceIte, nI_add, pk_mul, zin_ok, zx_nI, nI_lt2, nI_le2, nI_eq2, nI_l0, nI_g0, nI_q0, nI_p0, nI_n0, nI_m1, Nat.add_zero, Nat.zero_add, Nat.reduceAdd, Nat.reduceMul, true_or, or_true, znar_50, bI_0, bI_1, bI_z, bft, nI_z0, nI_z1, lgc_lt, lgc_gt, lgc_le, lgc_ge, lgc_eq, not_true_eq_false, not_false_eq_true, Bool.not_eq_true, Bool.not_eq_false, reduceCtorEq, eq_self, nI_e0, nI_e1, i10, i01, decide_false, decide_true, Bool.false_eq_true, cls_mG, fr_mG, len_mG, h0, s1, c, ia_mG, e20x, mid, bI_t, bI_f]
  rw [Bool.not_eq_true] at e20x
  by_cases e16x : yIs b (yT1 b sz S G).1 16 = true
  · have e : yTs b sz S G = 1 := by simp only [yTs, yWh, e20x, e16x, if_true, if_false, Bool.false_eq_true, Nat.reduceAdd]
    rw [e, show wI 3 1 = nI 1 from rfl] at mid
    simp (disch := omega) only [e133, s133_0, s133_1, s133_4, s133_5, s133_6, s133_7, s133_8, s133_9, s133_12, s133_13, s133_14, s133_16, s133_19, s133_22, s133_23, s133_26, s133_27, s133_29, s133_32, s133_35, s133_36, s133_39, s133_40, s133_42, s133_45, s133_48, s133_49, s133_52, zcs_0, zcs_1, zcs_2, zcs_3, zcs_4, zcs_5, zcs_6, zcs_7, znl_i, znl_r, znl_n, Bool.and_true, Bool.true_and, zk_v, zk_n, zk_x, zir_r, zir_n, zclr_i, zclr_r, zclr_n, zclr_d, zclr_l, true_and, and_true, and_self, if_true, if_false, reduceIte, nI_add, pk_mul, zin_ok, zx_nI, nI_lt2, nI_le2, nI_eq2, nI_l0, nI_g0, nI_q0, nI_p0, nI_n0, nI_m1, Nat.add_zero, Nat.zero_add, Nat.reduceAdd, Nat.reduceMul, true_or, or_true, znar_50, bI_0, bI_1, bI_z, bft, nI_z0, nI_z1, lgc_lt, lgc_gt, lgc_le, lgc_ge, lgc_eq, not_true_eq_false, not_false_eq_true, Bool.not_eq_true, Bool.not_eq_false, reduceCtorEq, eq_self, nI_e0, nI_e1, i10, i01, decide_false, decide_true, Bool.false_eq_true, cls_mG, fr_mG, len_mG, h0, s1, c, ia_mG, e20x, e16x, mid, bI_t, bI_f]
  rw [Bool.not_eq_true] at e16x
  by_cases e25x : yIs b (yT1 b sz S G).1 25 = true
  · have e : yTs b sz S G = 2 := by simp only [yTs, yWh, e20x, e16x, e25x, if_true, if_false, Bool.false_eq_true, Nat.reduceAdd]
    rw [e, show wI 3 2 = nI 2 from rfl] at mid
    simp (disch := omega) only [e133, s133_0, s133_1, s133_4, s133_5, s133_6, s133_7, s133_8, s133_9, s133_12, s133_13, s133_14, s133_16, s133_19, s133_22, s133_23, s133_26, s133_27, s133_29, s133_32, s133_35, s133_36, s133_39, s133_40, s133_42, s133_45, s133_48, s133_49, s133_52, zcs_0, zcs_1, zcs_2, zcs_3, zcs_4, zcs_5, zcs_6, zcs_7, znl_i, znl_r, znl_n, Bool.and_true, Bool.true_and, zk_v, zk_n, zk_x, zir_r, zir_n, zclr_i, zclr_r, zclr_n, zclr_d, zclr_l, true_and, and_true, and_self, if_true, if_false, reduceIte, nI_add, pk_mul, zin_ok, zx_nI, nI_lt2, nI_le2, nI_eq2, nI_l0, nI_g0, nI_q0, nI_p0, nI_n0, nI_m1, Nat.add_zero, Nat.zero_add, Nat.reduceAdd, Nat.reduceMul, true_or, or_true, znar_50, bI_0, bI_1, bI_z, bft, nI_z0, nI_z1, lgc_lt, lgc_gt, lgc_le, lgc_ge, lgc_eq, not_true_eq_false, not_false_eq_true, Bool.not_eq_true, Bool.not_eq_false, reduceCtorEq, eq_self, nI_e0, nI_e1, i10, i01, decide_false, decide_true, Bool.false_eq_true, cls_mG, fr_mG, len_mG, h0, s1, c, ia_mG, e20x, e16x, e25x, mid, bI_t, bI_f]
  rw [Bool.not_eq_true] at e25x
  have e : yTs b sz S G = 3 := by simp only [yTs, yWh, e20x, e16x, e25x, if_true, if_false, Bool.false_eq_true, Nat.reduceAdd]
  rw [e, show wI 3 3 = -1 from rfl] at mid
  simp (disch := omega) only [e133, s133_0, s133_1, s133_4, s133_5, s133_6, s133_7, s133_8, s133_9, s133_12, s133_13, s133_14, s133_16, s133_19, s133_22, s133_23, s133_26, s133_27, s133_29, s133_32, s133_35, s133_36, s133_39, s133_40, s133_42, s133_45, s133_48, s133_49, s133_52, zcs_0, zcs_1, zcs_2, zcs_3, zcs_4, zcs_5, zcs_6, zcs_7, znl_i, znl_r, znl_n, Bool.and_true, Bool.true_and, zk_v, zk_n, zk_x, zir_r, zir_n, zclr_i, zclr_r, zclr_n, zclr_d, zclr_l, true_and, and_true, and_self, if_true, if_false, reduceIte, nI_add, pk_mul, zin_ok, zx_nI, nI_lt2, nI_le2, nI_eq2, nI_l0, nI_g0, nI_q0, nI_p0, nI_n0, nI_m1, Nat.add_zero, Nat.zero_add, Nat.reduceAdd, Nat.reduceMul, true_or, or_true, znar_50, bI_0, bI_1, bI_z, bft, nI_z0, nI_z1, lgc_lt, lgc_gt, lgc_le, lgc_ge, lgc_eq, not_true_eq_false, not_false_eq_true, Bool.not_eq_true, Bool.not_eq_false, reduceCtorEq, eq_self, nI_e0, nI_e1, i10, i01, decide_false, decide_true, Bool.false_eq_true, cls_mG, fr_mG, len_mG, h0, s1, c, ia_mG, e20x, e16x, e25x, mid, bI_f]
end MT4
