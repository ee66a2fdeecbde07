set_option maxRecDepth 100000
/-! the model: which word; a part, a house, who knows whom -/
section MT3
variable {d : Nat} {z : ZH} {Q : ZQ} {b : Nat → Nat} {sz : Nat} {S : YS} {F : Nat → Int32} {G : Nat → Nat}
/-- the same, with Nats in the new town -/
def mG (z : ZH) (S : YS) (G : Nat → Nat) : ZH := mP z S (fun i => nI (G i))
theorem zu1_nI (G : Nat → Nat) (k x : Nat) : zu1 (fun i => nI (G i)) k (nI x) = fun i => nI (zu1 G k x i) := by
  funext i
  unfold zu1
  split <;> rfl
theorem mG_w {k x : Nat} : sia (mG z S G) 141 k (nI x) = mG z S (zu1 G k x) := by
  unfold mG
  rw [mP_F, zu1_nI]
theorem ia_mG {k : Nat} : zia (mG z S G) 141 k = nI (G k) := ia_mP
theorem cls_mG : zcls (mG z S G) = zcls z := rfl
theorem fr_mG : zfr (mG z S G) = zfr z := rfl
theorem len_mG : zlen (mG z S G) = zlen z := rfl
theorem mG_9 : zfi (mG z S G) 135 9 = nI (yFr S) := mP_9
theorem mG_10 : zfi (mG z S G) 135 10 = nI (yTk S) := mP_10
theorem mG_11 : zfi (mG z S G) 135 11 = nI (yVl S) := mP_11
theorem g125 (hM : MS z) (hT : TPm z b sz) (hS : yOK sz S) {r : Nat} (hr : r < 35) : ZC zG (d + 1) 125 [.ref 135, .ref r] (mG z S G) Q = Q (.inl (some (.int (bI (yIs b S r))))) (mG z S G) := m125 hM hT hS hr
theorem g120 (hM : MS z) (hT : TPm z b sz) (o2 : yAt S ≤ sz) : ZC zG (d + 1) 120 [.ref 135] (mG z S G) Q = Q (.inl none) (mG z (yAdv b sz S) G) := m120 hM hT o2
theorem g122 (hM : MS z) (hk : yFk S < 2147483648) : ZC zG d 122 [.ref 135] (mG z S G) Q = Q (.inl (some (.int (bI (decide (yFk S = 0)))))) (mG z S G) := m122 hM hk
theorem g126 (hM : MS z) (hk : yFk S < 2147483648) {x : Nat} : ZC zG (d + 1) 126 [.ref 135, .int (nI x)] (mG z S G) Q = Q (.inl none) (mG z (yErr x S) G) := m126 hM hk
theorem g130 (hM : MS z) (hT : TPm z b sz) (hS : yOK sz S) {r : Nat} (hr : r < 35) : ZC zG (d + 2) 130 [.ref 135, .ref r] (mG z S G) Q = Q (.inl (some (.int (bI (yIs b S r))))) (mG z (yTake b sz r S) G) := m130 hM hT hS hr
theorem g132 (hM : MS z) (hT : TPm z b sz) (hS : yOK sz S) {lo n : Nat} (hl : lo < 10000) (hn : n < 10000) : ZC zG (d + 2) 132 [.ref 135, .int (nI lo), .int (nI n)] (mG z S G) Q = Q (.inl (some (.int (nI (yNum b sz lo (n + 1) S).2)))) (mG z (yNum b sz lo (n + 1) S).1 G) := m132 hM hT hS hl hn
theorem g132n (hM : MS z) (hT : TPm z b sz) (hS : yOK sz S) {lo n : Nat} (hl : lo < 10000) (hn : n < 10000) : ZC zG (d + 2) 132 [.ref 135, .int (nI lo), .int (nI n - nI 1)] (mG z S G) Q = Q (.inl (some (.int (nI (yNum b sz lo n S).2)))) (mG z (yNum b sz lo n S).1 G) := m132n hM hT hS hl hn
theorem g128 (hM : MS z) (hT : TPm z b sz) (hS : yOK sz S) {n k : Nat} (hn : n < 100) : ZC zG (d + 2) 128 [.ref 135, .int (wI n k)] (mG z S G) Q = Q (.inl (some (.int (wI n k)))) (mG z (yTkn b sz n k S) G) := m128 hM hT hS hn
theorem yWh_lt : ∀ l, yWh b S l < l.length → ∃ r, r ∈ l ∧ yIs b S r = true
  | [], h => absurd h (Nat.lt_irrefl _)
  | r :: rs, h => by
    unfold yWh at h
    split at h
    · rename_i hc
      exact ⟨r, List.mem_cons_self, hc⟩
    · rw [List.length_cons] at h
      obtain ⟨q, h1, h2⟩ := yWh_lt rs (by omega)
      exact ⟨q, List.mem_cons_of_mem _ h1, h2⟩
theorem yWh_g {l : List Nat} (h : yWh b S l < l.length) : yFk S = 0 ∧ yTk S = 1 := by
  obtain ⟨r, _, h2⟩ := yWh_lt l h
  exact ⟨(yIs_g h2).1, (yIs_g h2).2.1⟩
theorem yNum_g {lo n : Nat} (h : yFk (yNum b sz lo n S).1 = 0) : yFk S = 0 ∧ yTk S = 2 ∧ (lo ≤ yVl S ∧ yVl S < n) ∧ yNum b sz lo n S = (yAdv b sz S, yVl S) := by
  unfold yNum at h ⊢
  by_cases g1 : yFk S = 0
  · rw [if_pos g1] at h ⊢
    by_cases g2 : yTk S = 2
    · rw [if_pos g2] at h ⊢
      by_cases g3 : lo ≤ yVl S ∧ yVl S < n
      · rw [if_pos g3]
        exact ⟨g1, g2, g3, rfl⟩
      · rw [if_neg g3] at h
        exact absurd h (yErr_fk (by omega))
    · rw [if_neg g2] at h
      exact absurd h (yErr_fk (by omega))
  · rw [if_neg g1] at h
    exact absurd h g1
theorem yNeed_g {r : Nat} (h : yFk (yNeed b sz r S) = 0) : yFk S = 0 ∧ yIs b S r = true ∧ yNeed b sz r S = yAdv b sz S := by
  unfold yNeed at h ⊢
  by_cases g : yIs b S r = true
  · rw [if_pos g]
    exact ⟨(yIs_g g).1, g, rfl⟩
  · rw [if_neg g] at h
    exact absurd h (yErr_fk (by omega))
theorem yTkn_g {n k : Nat} (h : yFk (yTkn b sz n k S) = 0) : k < n ∧ yFk S = 0 ∧ yTkn b sz n k S = yAdv b sz S := by
  unfold yTkn at h ⊢
  by_cases g : k < n
  · rw [if_pos g] at h ⊢
    by_cases g1 : yFk S = 0
    · rw [if_pos g1]
      exact ⟨g, g1, rfl⟩
    · rw [if_neg g1] at h
      exact absurd h g1
  · rw [if_neg g] at h
    exact absurd h (yErr_fk (by omega))
theorem yIs_fr (hS : yOK sz S) {r : Nat} (h : yIs b S r = true) : yFr S + (ztx r).length ≤ yFr (yAdv b sz S) := by
  obtain ⟨h1, h2, h3⟩ := yIs_g h
  have := yAdv_fr b sz S
  have := hS.1.1
  omega
theorem yTk_fr (hS : yOK sz S) (h : ¬ yTk S = 0) : yFr S < yFr (yAdv b sz S) := by
  have := yAdv_fr b sz S
  have := hS.2.1 h
  omega
theorem yAdv_mo (h : yOK sz S) : yFr S ≤ yFr (yAdv b sz S) := by
  have := yAdv_fr b sz S
  have := h.1.1
  omega
theorem yErr_mo {x : Nat} : yFr (yErr x S) = yFr S := by
  unfold yErr
  split <;> rfl
theorem yNeed_mo {r : Nat} (h : yOK sz S) : yFr S ≤ yFr (yNeed b sz r S) := by
  unfold yNeed
  split
  · exact yAdv_mo h
  · rw [yErr_mo]; exact Nat.le_refl _
theorem yTkn_mo {n k : Nat} (h : yOK sz S) : yFr S ≤ yFr (yTkn b sz n k S) := by
  unfold yTkn
  repeat' split
  · exact yAdv_mo h
  · exact Nat.le_refl _
  · rw [yErr_mo]; exact Nat.le_refl _
theorem yNum_mo {lo n : Nat} (h : yOK sz S) : yFr S ≤ yFr (yNum b sz lo n S).1 := by
  unfold yNum
  repeat' split
  · exact yAdv_mo h
  · show yFr S ≤ yFr (yErr 2 S); rw [yErr_mo]; exact Nat.le_refl _
  · show yFr S ≤ yFr (yErr 1 S); rw [yErr_mo]; exact Nat.le_refl _
  · exact Nat.le_refl _
theorem m124 (hM : MS z) (hT : TPm z b sz) (hS : yOK sz S) : ZC zG (d + 2) 124 [.ref 135] (mP z S F) Q = Q (.inl (some (.int (wI 4 (yWh b S [27, 5, 3, 8]))))) (mP z S F) := by
  have h0 := hM
  unfold MS at h0
  have c := fun d Q r (hr : r < 35) => m125 (d := d) (Q := Q) (F := F) (r := r) hM hT hS hr
  by_cases e27x : yIs b S 27 = true
  · have e : yWh b S [27, 5, 3, 8] = 0 := by simp only [yWh, e27x, if_true, if_false, Bool.false_eq_true, Nat.reduceAdd]
    rw [e, show wI 4 0 = nI 0 from rfl]
    simp (disch := omega) only [e124, s124_0, s124_1, s124_3, s124_6, s124_9, s124_10, s124_13, s124_14, s124_16, s124_19, s124_22, s124_23, s124_26, s124_27, s124_29, s124_32, s124_35, s124_36, s124_39, s124_40, s124_42, s124_45, s124_48, s124_49, s124_52, s124_53, zcs_0, zcs_1, zcs_2, zcs_3, zcs_4, zcs_5, zcs_6, zcs_7, znl_i, znl_r, znl_n, Bool.and_true, Bool.true_and, zk_v, zk_n, zk_x, zir_r, zir_n, zclr_i, zclr_r, zclr_n, zclr_d, zclr_l, true_and, and_true, and_self, if_true, if_false, reduceIte, nI_add, pk_mul, zin_ok, zx_nI, nI_lt2, nI_le2, nI_eq2, nI_l0, nI_g0, nI_q0, nI_p0, nI_n0, nI_m1, Nat.add_zero, Nat.zero_add, Nat.reduceAdd, Nat.reduceMul, true_or, or_true, znar_50, bI_0, bI_1, bI_z, bft, nI_z0, nI_z1, lgc_lt, lgc_gt, lgc_le, lgc_ge, lgc_eq, not_true_eq_false, not_false_eq_true, Bool.not_eq_true, Bool.not_eq_false, reduceCtorEq, eq_self, nI_e0, nI_e1, i10, i01, decide_false, decide_true, Bool.false_eq_true, cls_mP, fr_mP, len_mP, h0, c, e27x, bI_t, bI_f]
  rw [Bool.not_eq_true] at e27x
  by_cases e5x : yIs b S 5 = true
  · have e : yWh b S [27, 5, 3, 8] = 1 := by simp only [yWh, e27x, e5x, if_true, if_false, Bool.false_eq_true, Nat.reduceAdd]
    rw [e, show wI 4 1 = nI 1 from rfl]
    simp (disch := omega) only [e124, s124_0, s124_1, s124_3, s124_6, s124_9, s124_10, s124_13, s124_14, s124_16, s124_19, s124_22, s124_23, s124_26, s124_27, s124_29, s124_32, s124_35, s124_36, s124_39, s124_40, s124_42, s124_45, s124_48, s124_49, s124_52, s124_53, zcs_0, zcs_1, zcs_2, zcs_3, zcs_4, zcs_5, zcs_6, zcs_7, znl_i, znl_r, znl_n, Bool.and_true, Bool.true_and, zk_v, zk_n, zk_x, zir_r, zir_n, zclr_i, zclr_r, zclr_n, zclr_d, zclr_l, true_and, and_true, and_self, if_true, if_false, reduceIte, nI_add, pk_mul, zin_ok, zx_nI, nI_lt2, nI_le2, nI_eq2, nI_l0, nI_g0, nI_q0, nI_p0, nI_n0, nI_m1, Nat.add_zero, Nat.zero_add, Nat.reduceAdd, Nat.reduceMul, true_or, or_true, znar_50, bI_0, bI_1, bI_z, bft, nI_z0, nI_z1, lgc_lt, lgc_gt, lgc_le, lgc_ge, lgc_eq, not_true_eq_false, not_false_eq_true, Bool.not_eq_true, Bool.not_eq_false, reduceCtorEq, eq_self, nI_e0, nI_e1, i10, i01, decide_false, decide_true, Bool.false_eq_true, cls_mP, fr_mP, len_mP, h0, c, e27x, e5x, bI_t, bI_f]
  rw [Bool.not_eq_true] at e5x
  by_cases e3x : yIs b S 3 = true
  · have e : yWh b S [27, 5, 3, 8] = 2 := by simp only [yWh, e27x, e5x, e3x, if_true, if_false, Bool.false_eq_true, Nat.reduceAdd]
    rw [e, show wI 4 2 = nI 2 from rfl]
    simp (disch := omega) only [e124, s124_0, s124_1, s124_3, s124_6, s124_9, s124_10, s124_13, s124_14, s124_16, s124_19, s124_22, s124_23, s124_26, s124_27, s124_29, s124_32, s124_35, s124_36, s124_39, s124_40, s124_42, s124_45, s124_48, s124_49, s124_52, s124_53, zcs_0, zcs_1, zcs_2, zcs_3, zcs_4, zcs_5, zcs_6, zcs_7, znl_i, znl_r, znl_n, Bool.and_true, Bool.true_and, zk_v, zk_n, zk_x, zir_r, zir_n, zclr_i, zclr_r, zclr_n, zclr_d, zclr_l, true_and, and_true, and_self, if_true, if_false, reduceIte, nI_add, pk_mul, zin_ok, zx_nI, nI_lt2, nI_le2, nI_eq2, nI_l0, nI_g0, nI_q0, nI_p0, nI_n0, nI_m1, Nat.add_zero, Nat.zero_add, Nat.reduceAdd, Nat.reduceMul, true_or, or_true, znar_50, bI_0, bI_1, bI_z, bft, nI_z0, nI_z1, lgc_lt, lgc_gt, lgc_le, lgc_ge, lgc_eq, not_true_eq_false, not_false_eq_true, Bool.not_eq_true, Bool.not_eq_false, reduceCtorEq, eq_self, nI_e0, nI_e1, i10, i01, decide_false, decide_true, Bool.false_eq_true, cls_mP, fr_mP, len_mP, h0, c, e27x, e5x, e3x, bI_t, bI_f]
  rw [Bool.not_eq_true] at e3x
  by_cases e8x : yIs b S 8 = true
  · have e : yWh b S [27, 5, 3, 8] = 3 := by simp only [yWh, e27x, e5x, e3x, e8x, if_true, if_false, Bool.false_eq_true, Nat.reduceAdd]
    rw [e, show wI 4 3 = nI 3 from rfl]
    simp (disch := omega) only [e124, s124_0, s124_1, s124_3, s124_6, s124_9, s124_10, s124_13, s124_14, s124_16, s124_19, s124_22, s124_23, s124_26, s124_27, s124_29, s124_32, s124_35, s124_36, s124_39, s124_40, s124_42, s124_45, s124_48, s124_49, s124_52, s124_53, zcs_0, zcs_1, zcs_2, zcs_3, zcs_4, zcs_5, zcs_6, zcs_7, znl_i, znl_r, znl_n, Bool.and_true, Bool.true_and, zk_v, zk_n, zk_x, zir_r, zir_n, zclr_i, zclr_r, zclr_n, zclr_d, zclr_l, true_and, and_true, and_self, if_true, if_false, reduceIte, nI_add, pk_mul, zin_ok, zx_nI, nI_lt2, nI_le2, nI_eq2, nI_l0, nI_g0, nI_q0, nI_p0, nI_n0, nI_m1, Nat.add_zero, Nat.zero_add, Nat.reduceAdd, Nat.reduceMul, true_or, or_true, znar_50, bI_0, bI_1, bI_z, bft, nI_z0, nI_z1, lgc_lt, lgc_gt, lgc_le, lgc_ge, lgc_eq, not_true_eq_false, not_false_eq_true, Bool.not_eq_true, Bool.not_eq_false, reduceCtorEq, eq_self, nI_e0, nI_e1, i10, i01, decide_false, decide_true, Bool.false_eq_true, cls_mP, fr_mP, len_mP, h0, c, e27x, e5x, e3x, e8x, bI_t, bI_f]
  rw [Bool.not_eq_true] at e8x
  have e : yWh b S [27, 5, 3, 8] = 4 := by simp only [yWh, e27x, e5x, e3x, e8x, if_true, if_false, Bool.false_eq_true, Nat.reduceAdd]
  rw [e, show wI 4 4 = -1 from rfl]
  simp (disch := omega) only [e124, s124_0, s124_1, s124_3, s124_6, s124_9, s124_10, s124_13, s124_14, s124_16, s124_19, s124_22, s124_23, s124_26, s124_27, s124_29, s124_32, s124_35, s124_36, s124_39, s124_40, s124_42, s124_45, s124_48, s124_49, s124_52, s124_53, zcs_0, zcs_1, zcs_2, zcs_3, zcs_4, zcs_5, zcs_6, zcs_7, znl_i, znl_r, znl_n, Bool.and_true, Bool.true_and, zk_v, zk_n, zk_x, zir_r, zir_n, zclr_i, zclr_r, zclr_n, zclr_d, zclr_l, true_and, and_true, and_self, if_true, if_false, reduceIte, nI_add, pk_mul, zin_ok, zx_nI, nI_lt2, nI_le2, nI_eq2, nI_l0, nI_g0, nI_q0, nI_p0, nI_n0, nI_m1, Nat.add_zero, Nat.zero_add, Nat.reduceAdd, Nat.reduceMul, true_or, or_true, znar_50, bI_0, bI_1, bI_z, bft, nI_z0, nI_z1, lgc_lt, lgc_gt, lgc_le, lgc_ge, lgc_eq, not_true_eq_false, not_false_eq_true, Bool.not_eq_true, Bool.not_eq_false, reduceCtorEq, eq_self, nI_e0, nI_e1, i10, i01, decide_false, decide_true, Bool.false_eq_true, cls_mP, fr_mP, len_mP, h0, c, e27x, e5x, e3x, e8x, bI_t, bI_f]
theorem m137 (hM : MS z) (hT : TPm z b sz) (hS : yOK sz S) : ZC zG (d + 2) 137 [.ref 135] (mP z S F) Q = Q (.inl (some (.int (wI 7 (yWh b S [28, 19, 32, 33, 30, 9, 26]))))) (mP z S F) := by
  have h0 := hM
  unfold MS at h0
  have c := fun d Q r (hr : r < 35) => m125 (d := d) (Q := Q) (F := F) (r := r) hM hT hS hr
  by_cases e28x : yIs b S 28 = true
  · have e : yWh b S [28, 19, 32, 33, 30, 9, 26] = 0 := by simp only [yWh, e28x, if_true, if_false, Bool.false_eq_true, Nat.reduceAdd]
    rw [e, show wI 7 0 = nI 0 from rfl]
    simp (disch := omega) only [e137, s137_0, s137_1, s137_3, s137_6, s137_9, s137_10, s137_13, s137_14, s137_16, s137_19, s137_22, s137_23, s137_26, s137_27, s137_29, s137_32, s137_35, s137_36, s137_39, s137_40, s137_42, s137_45, s137_48, s137_49, s137_52, s137_53, s137_55, s137_58, s137_61, s137_62, s137_65, s137_66, s137_68, s137_71, s137_74, s137_75, s137_78, s137_79, s137_81, s137_84, s137_87, s137_89, s137_92, s137_93, zcs_0, zcs_1, zcs_2, zcs_3, zcs_4, zcs_5, zcs_6, zcs_7, znl_i, znl_r, znl_n, Bool.and_true, Bool.true_and, zk_v, zk_n, zk_x, zir_r, zir_n, zclr_i, zclr_r, zclr_n, zclr_d, zclr_l, true_and, and_true, and_self, if_true, if_false, reduceIte, nI_add, pk_mul, zin_ok, zx_nI, nI_lt2, nI_le2, nI_eq2, nI_l0, nI_g0, nI_q0, nI_p0, nI_n0, nI_m1, Nat.add_zero, Nat.zero_add, Nat.reduceAdd, Nat.reduceMul, true_or, or_true, znar_50, bI_0, bI_1, bI_z, bft, nI_z0, nI_z1, lgc_lt, lgc_gt, lgc_le, lgc_ge, lgc_eq, not_true_eq_false, not_false_eq_true, Bool.not_eq_true, Bool.not_eq_false, reduceCtorEq, eq_self, nI_e0, nI_e1, i10, i01, decide_false, decide_true, Bool.false_eq_true, cls_mP, fr_mP, len_mP, h0, c, e28x, bI_t, bI_f]
  rw [Bool.not_eq_true] at e28x
  by_cases e19x : yIs b S 19 = true
  · have e : yWh b S [28, 19, 32, 33, 30, 9, 26] = 1 := by simp only [yWh, e28x, e19x, if_true, if_false, Bool.false_eq_true, Nat.reduceAdd]
    rw [e, show wI 7 1 = nI 1 from rfl]
    simp (disch := omega) only [e137, s137_0, s137_1, s137_3, s137_6, s137_9, s137_10, s137_13, s137_14, s137_16, s137_19, s137_22, s137_23, s137_26, s137_27, s137_29, s137_32, s137_35, s137_36, s137_39, s137_40, s137_42, s137_45, s137_48, s137_49, s137_52, s137_53, s137_55, s137_58, s137_61, s137_62, s137_65, s137_66, s137_68, s137_71, s137_74, s137_75, s137_78, s137_79, s137_81, s137_84, s137_87, s137_89, s137_92, s137_93, zcs_0, zcs_1, zcs_2, zcs_3, zcs_4, zcs_5, zcs_6, zcs_7, znl_i, znl_r, znl_n, Bool.and_true, Bool.true_and, zk_v, zk_n, zk_x, zir_r, zir_n, zclr_i, zclr_r, zclr_n, zclr_d, zclr_l, true_and, and_true, and_self, if_true, if_false, reduceIte, nI_add, pk_mul, zin_ok, zx_nI, nI_lt2, nI_le2, nI_eq2, nI_l0, nI_g0, nI_q0, nI_p0, nI_n0, nI_m1, Nat.add_zero, Nat.zero_add, Nat.reduceAdd, Nat.reduceMul, true_or, or_true, znar_50, bI_0, bI_1, bI_z, bft, nI_z0, nI_z1, lgc_lt, lgc_gt, lgc_le, lgc_ge, lgc_eq, not_true_eq_false, not_false_eq_true, Bool.not_eq_true, Bool.not_eq_false, reduceCtorEq, eq_self, nI_e0, nI_e1, i10, i01, decide_false, decide_true, Bool.false_eq_true, cls_mP, fr_mP, len_mP, h0, c, e28x, e19x, bI_t, bI_f]
  rw [Bool.not_eq_true] at e19x
  by_cases e32x : yIs b S 32 = true
  · have e : yWh b S [28, 19, 32, 33, 30, 9, 26] = 2 := by simp only [yWh, e28x, e19x, e32x, if_true, if_false, Bool.false_eq_true, Nat.reduceAdd]
    rw [e, show wI 7 2 = nI 2 from rfl]
    simp (disch := omega) only [e137, s137_0, s137_1, s137_3, s137_6, s137_9, s137_10, s137_13, s137_14, s137_16, s137_19, s137_22, s137_23, s137_26, s137_27, s137_29, s137_32, s137_35, s137_36, s137_39, s137_40, s137_42, s137_45, s137_48, s137_49, s137_52, s137_53, s137_55, s137_58, s137_61, s137_62, s137_65, s137_66, s137_68, s137_71, s137_74, s137_75, s137_78, s137_79, s137_81, s137_84, s137_87, s137_89, s137_92, s137_93, zcs_0, zcs_1, zcs_2, zcs_3, zcs_4, zcs_5, zcs_6, zcs_7, znl_i, znl_r, znl_n, Bool.and_true, Bool.true_and, zk_v, zk_n, zk_x, zir_r, zir_n, zclr_i, zclr_r, zclr_n, zclr_d, zclr_l, true_and, and_true, and_self, if_true, if_false, reduceIte, nI_add, pk_mul, zin_ok, zx_nI, nI_lt2, nI_le2, nI_eq2, nI_l0, nI_g0, nI_q0, nI_p0, nI_n0, nI_m1, Nat.add_zero, Nat.zero_add, Nat.reduceAdd, Nat.reduceMul, true_or, or_true, znar_50, bI_0, bI_1, bI_z, bft, nI_z0, nI_z1, lgc_lt, lgc_gt, lgc_le, lgc_ge, lgc_eq, not_true_eq_false, not_false_eq_true, Bool.not_eq_true, Bool.not_eq_false, reduceCtorEq, eq_self, nI_e0, nI_e1, i10, i01, decide_false, decide_true, Bool.false_eq_true, cls_mP, fr_mP, len_mP, h0, c, e28x, e19x, e32x, bI_t, bI_f]
  rw [Bool.not_eq_true] at e32x
  by_cases e33x : yIs b S 33 = true
  · have e : yWh b S [28, 19, 32, 33, 30, 9, 26] = 3 := by simp only [yWh, e28x, e19x, e32x, e33x, if_true, if_false, Bool.false_eq_true, Nat.reduceAdd]
    rw [e, show wI 7 3 = nI 3 from rfl]
    simp (disch := omega) only [e137, s137_0, s137_1, s137_3, s137_6, s137_9, s137_10, s137_13, s137_14, s137_16, s137_19, s137_22, s137_23, s137_26, s137_27, s137_29, s137_32, s137_35, s137_36, s137_39, s137_40, s137_42, s137_45, s137_48, s137_49, s137_52, s137_53, s137_55, s137_58, s137_61, s137_62, s137_65, s137_66, s137_68, s137_71, s137_74, s137_75, s137_78, s137_79, s137_81, s137_84, s137_87, s137_89, s137_92, s137_93, zcs_0, zcs_1, zcs_2, zcs_3, zcs_4, zcs_5, zcs_6, zcs_7, znl_i, znl_r, znl_n, Bool.and_true, Bool.true_and, zk_v, zk_n, zk_x, zir_r, zir_n, zclr_i, zclr_r, zclr_n, zclr_d, zclr_l, true_and, and_true, and_self, if_true, if_false, reduceIte, nI_add, pk_mul, zin_ok, zx_nI, nI_lt2, nI_le2, nI_eq2, nI_l0, nI_g0, nI_q0, nI_p0, nI_n0, nI_m1, Nat.add_zero, Nat.zero_add, Nat.reduceAdd, Nat.reduceMul, true_or, or_true, znar_50, bI_0, bI_1, bI_z, bft, nI_z0, nI_z1, lgc_lt, lgc_gt, lgc_le, lgc_ge, lgc_eq, not_true_eq_false, not_false_eq_true, Bool.not_eq_true, Bool.not_eq_false, reduceCtorEq, eq_self, nI_e0, nI_e1, i10, i01, decide_false, decide_true, Bool.false_eq_true, cls_mP, fr_mP, len_mP, h0, c, e28x, e19x, e32x, e33x, bI_t, bI_f]
  rw [Bool.not_eq_true] at e33x
  by_cases e30x : yIs b S 30 = true
  · have e : yWh b S [28, 19, 32, 33, 30, 9, 26] = 4 := by simp only [yWh, e28x, e19x, e32x, e33x, e30x, if_true, if_false, Bool.false_eq_true, Nat.reduceAdd]
    rw [e, show wI 7 4 = nI 4 from rfl]
    simp (disch := omega) only [e137, s137_0, s137_1, s137_3, s137_6, s137_9, s137_10, s137_13, s137_14, s137_16, s137_19, s137_22, s137_23, s137_26, s137_27, s137_29, s137_32, s137_35, s137_36, s137_39, s137_40, s137_42, s137_45, s137_48, s137_49, s137_52, s137_53, s137_55, s137_58, s137_61, s137_62, s137_65, s137_66, s137_68, s137_71, s137_74, s137_75, s137_78, s137_79, s137_81, s137_84, s137_87, s137_89, s137_92, s137_93, zcs_0, zcs_1, zcs_2, zcs_3, zcs_4, zcs_5, zcs_6, zcs_7, znl_i, znl_r, znl_n, Bool.and_true, Bool.true_and, zk_v, zk_n, zk_x, zir_r, zir_n, zclr_i, zclr_r, zclr_n, zclr_d, zclr_l, true_and, and_true, and_self, if_true, if_false, reduceIte, nI_add, pk_mul, zin_ok, zx_nI, nI_lt2, nI_le2, nI_eq2, nI_l0, nI_g0, nI_q0, nI_p0, nI_n0, nI_m1, Nat.add_zero, Nat.zero_add, Nat.reduceAdd, Nat.reduceMul, true_or, or_true, znar_50, bI_0, bI_1, bI_z, bft, nI_z0, nI_z1, lgc_lt, lgc_gt, lgc_le, lgc_ge, lgc_eq, not_true_eq_false, not_false_eq_true, Bool.not_eq_true, Bool.not_eq_false, reduceCtorEq, eq_self, nI_e0, nI_e1, i10, i01, decide_false, decide_true, Bool.false_eq_true, cls_mP, fr_mP, len_mP, h0, c, e28x, e19x, e32x, e33x, e30x, bI_t, bI_f]
  rw [Bool.not_eq_true] at e30x
  by_cases e9x : yIs b S 9 = true
  · have e : yWh b S [28, 19, 32, 33, 30, 9, 26] = 5 := by simp only [yWh, e28x, e19x, e32x, e33x, e30x, e9x, if_true, if_false, Bool.false_eq_true, Nat.reduceAdd]
    rw [e, show wI 7 5 = nI 5 from rfl]
    simp (disch := omega) only [e137, s137_0, s137_1, s137_3, s137_6, s137_9, s137_10, s137_13, s137_14, s137_16, s137_19, s137_22, s137_23, s137_26, s137_27, s137_29, s137_32, s137_35, s137_36, s137_39, s137_40, s137_42, s137_45, s137_48, s137_49, s137_52, s137_53, s137_55, s137_58, s137_61, s137_62, s137_65, s137_66, s137_68, s137_71, s137_74, s137_75, s137_78, s137_79, s137_81, s137_84, s137_87, s137_89, s137_92, s137_93, zcs_0, zcs_1, zcs_2, zcs_3, zcs_4, zcs_5, zcs_6, zcs_7, znl_i, znl_r, znl_n, Bool.and_true, Bool.true_and, zk_v, zk_n, zk_x, zir_r, zir_n, zclr_i, zclr_r, zclr_n, zclr_d, zclr_l, true_and, and_true, and_self, if_true, if_false, reduceIte, nI_add, pk_mul, zin_ok, zx_nI, nI_lt2, nI_le2, nI_eq2, nI_l0, nI_g0, nI_q0, nI_p0, nI_n0, nI_m1, Nat.add_zero, Nat.zero_add, Nat.reduceAdd, Nat.reduceMul, true_or, or_true, znar_50, bI_0, bI_1, bI_z, bft, nI_z0, nI_z1, lgc_lt, lgc_gt, lgc_le, lgc_ge, lgc_eq, not_true_eq_false, not_false_eq_true, Bool.not_eq_true, Bool.not_eq_false, reduceCtorEq, eq_self, nI_e0, nI_e1, i10, i01, decide_false, decide_true, Bool.false_eq_true, cls_mP, fr_mP, len_mP, h0, c, e28x, e19x, e32x, e33x, e30x, e9x, bI_t, bI_f]
  rw [Bool.not_eq_true] at e9x
  by_cases e26x : yIs b S 26 = true
  · have e : yWh b S [28, 19, 32, 33, 30, 9, 26] = 6 := by simp only [yWh, e28x, e19x, e32x, e33x, e30x, e9x, e26x, if_true, if_false, Bool.false_eq_true, Nat.reduceAdd]
    rw [e, show wI 7 6 = nI 6 from rfl]
    simp (disch := omega) only [e137, s137_0, s137_1, s137_3, s137_6, s137_9, s137_10, s137_13, s137_14, s137_16, s137_19, s137_22, s137_23, s137_26, s137_27, s137_29, s137_32, s137_35, s137_36, s137_39, s137_40, s137_42, s137_45, s137_48, s137_49, s137_52, s137_53, s137_55, s137_58, s137_61, s137_62, s137_65, s137_66, s137_68, s137_71, s137_74, s137_75, s137_78, s137_79, s137_81, s137_84, s137_87, s137_89, s137_92, s137_93, zcs_0, zcs_1, zcs_2, zcs_3, zcs_4, zcs_5, zcs_6, zcs_7, znl_i, znl_r, znl_n, Bool.and_true, Bool.true_and, zk_v, zk_n, zk_x, zir_r, zir_n, zclr_i, zclr_r, zclr_n, zclr_d, zclr_l, true_and, and_true, and_self, if_true, if_false, reduceIte, nI_add, pk_mul, zin_ok, zx_nI, nI_lt2, nI_le2, nI_eq2, nI_l0, nI_g0, nI_q0, nI_p0, nI_n0, nI_m1, Nat.add_zero, Nat.zero_add, Nat.reduceAdd, Nat.reduceMul, true_or, or_true, znar_50, bI_0, bI_1, bI_z, bft, nI_z0, nI_z1, lgc_lt, lgc_gt, lgc_le, lgc_ge, lgc_eq, not_true_eq_false, not_false_eq_true, Bool.not_eq_true, Bool.not_eq_false, reduceCtorEq, eq_self, nI_e0, nI_e1, i10, i01, decide_false, decide_true, Bool.false_eq_true, cls_mP, fr_mP, len_mP, h0, c, e28x, e19x, e32x, e33x, e30x, e9x, e26x, bI_t, bI_f]
  rw [Bool.not_eq_true] at e26x
  have e : yWh b S [28, 19, 32, 33, 30, 9, 26] = 7 := by simp only [yWh, e28x, e19x, e32x, e33x, e30x, e9x, e26x, if_true, if_false, Bool.false_eq_true, Nat.reduceAdd]
  rw [e, show wI 7 7 = -1 from rfl]
  simp (disch := omega) only [e137, s137_0, s137_1, s137_3, s137_6, s137_9, s137_10, s137_13, s137_14, s137_16, s137_19, s137_22, s137_23, s137_26, s137_27, s137_29, s137_32, s137_35, s137_36, s137_39, s137_40, s137_42, s137_45, s137_48, s137_49, s137_52, s137_53, s137_55, s137_58, s137_61, s137_62, s137_65, s137_66, s137_68, s137_71, s137_74, s137_75, s137_78, s137_79, s137_81, s137_84, s137_87, s137_89, s137_92, s137_93, zcs_0, zcs_1, zcs_2, zcs_3, zcs_4, zcs_5, zcs_6, zcs_7, znl_i, znl_r, znl_n, Bool.and_true, Bool.true_and, zk_v, zk_n, zk_x, zir_r, zir_n, zclr_i, zclr_r, zclr_n, zclr_d, zclr_l, true_and, and_true, and_self, if_true, if_false, reduceIte, nI_add, pk_mul, zin_ok, zx_nI, nI_lt2, nI_le2, nI_eq2, nI_l0, nI_g0, nI_q0, nI_p0, nI_n0, nI_m1, Nat.add_zero, Nat.zero_add, Nat.reduceAdd, Nat.reduceMul, true_or, or_true, znar_50, bI_0, bI_1, bI_z, bft, nI_z0, nI_z1, lgc_lt, lgc_gt, lgc_le, lgc_ge, lgc_eq, not_true_eq_false, not_false_eq_true, Bool.not_eq_true, Bool.not_eq_false, reduceCtorEq, eq_self, nI_e0, nI_e1, i10, i01, decide_false, decide_true, Bool.false_eq_true, cls_mP, fr_mP, len_mP, h0, c, e28x, e19x, e32x, e33x, e30x, e9x, e26x, bI_t, bI_f]
/-- a part: its kind, where it stands behind it, its number; what is noted -/
def yPK (b : Nat → Nat) (S : YS) : Nat := yWh b S [17, 29, 7, 6, 15]
def yP1 (b : Nat → Nat) (sz : Nat) (S : YS) : YS × Nat := if yPK b S < 5 then (yAdv b sz S, 0) else yNum b sz 0 1000 S
def yPG (b : Nat → Nat) (sz j : Nat) (S : YS) (G : Nat → Nat) : Nat → Nat := if yFk (yP1 b sz S).1 = 0 then zu1 (zu1 (zu1 (zu1 G (814 + 3 * G 3) j) (814 + 3 * G 3 + 1) (yPK b S)) (814 + 3 * G 3 + 2) (yP1 b sz S).2) 3 (G 3 + 1) else G
theorem yP1_ok (h : yOK sz S) : yOK sz (yP1 b sz S).1 := by
  unfold yP1
  split
  · exact yAdv_ok h
  · exact yNum_ok h
theorem yP1_mo (h : yOK sz S) : yFr S ≤ yFr (yP1 b sz S).1 := by
  unfold yP1
  split
  · exact yAdv_mo h
  · exact yNum_mo h
theorem yP1_g (hS : yOK sz S) (h : yFk (yP1 b sz S).1 = 0) : yFk S = 0 ∧ yFr S < yFr (yP1 b sz S).1 := by
  unfold yP1 at h ⊢
  by_cases g : yPK b S < 5
  · rw [if_pos g] at h ⊢
    obtain ⟨g1, g2⟩ := yWh_g (l := [17, 29, 7, 6, 15]) g
    exact ⟨g1, yTk_fr hS (by omega)⟩
  · rw [if_neg g] at h ⊢
    obtain ⟨g1, g2, g3, g4⟩ := yNum_g h
    rw [g4]
    exact ⟨g1, yTk_fr hS (by omega)⟩
theorem m135 (hM : MS z) (hT : TPm z b sz) (hS : yOK sz S) {j : Nat} (h3 : yFk (yP1 b sz S).1 = 0 → G 3 < 350) : ZC zG (d + 3) 135 [.ref 135, .int (nI j)] (mG z S G) Q = Q (.inl none) (mG z (yP1 b sz S).1 (yPG b sz j S G)) := by
  have h0 := hM
  unfold MS at h0
  have c := fun d Q r (hr : r < 35) => g125 (d := d) (Q := Q) (G := G) (r := r) hM hT hS hr
  have hk4 : yFk S < 4 := hS.2.2.2.2
  have good := fun d Q => g122 (d := d) (Q := Q) (G := G) (S := S) hM (by omega)
  have adv := fun d Q => g120 (d := d) (Q := Q) (G := G) (S := S) hM hT hS.1.2
  have num := fun d Q => g132 (d := d) (Q := Q) (G := G) (lo := 0) (n := 999) hM hT hS (by omega) (by omega)
  simp only [Nat.reduceAdd] at num
  -- behind the number
  have key : ∀ (k v : Nat) (S2 : YS), yFk S2 < 4 → (yFk S2 = 0 → G 3 < 350) → ZW zG (d + 3) 135 100 [.ref 135, .int (nI j), .int (nI k), zdum, zdum] [.int (nI v)] (mG z S2 G) Q = Q (.inl none) (mG z S2 (if yFk S2 = 0 then zu1 (zu1 (zu1 (zu1 G (814 + 3 * G 3) j) (814 + 3 * G 3 + 1) k) (814 + 3 * G 3 + 2) v) 3 (G 3 + 1) else G)) := by
    intro k v S2 hk2 h32
    have good2 := fun d Q => g122 (d := d) (Q := Q) (G := G) (S := S2) hM (by omega)
    by_cases g : yFk S2 = 0
    · have h33 := h32 g
      rw [decide_eq_true g] at good2
      simp (disch := omega) only [s135_100, s135_101, s135_102, s135_105, s135_108, s135_109, s135_112, s135_113, s135_114, s135_117, s135_118, s135_119, s135_120, s135_121, s135_123, s135_124, s135_127, s135_129, s135_130, s135_131, s135_132, s135_135, s135_137, s135_138, s135_139, s135_140, s135_141, s135_142, s135_145, s135_147, s135_148, s135_149, s135_150, s135_151, s135_152, s135_155, s135_156, s135_157, s135_158, s135_159, s135_160, s135_161, zcs_0, zcs_1, zcs_2, zcs_3, zcs_4, zcs_5, zcs_6, zcs_7, znl_i, znl_r, znl_n, Bool.and_true, Bool.true_and, zk_v, zk_n, zk_x, zir_r, zir_n, zclr_i, zclr_r, zclr_n, zclr_d, zclr_l, true_and, and_true, and_self, if_true, if_false, reduceIte, nI_add, pk_mul, zin_ok, zx_nI, nI_lt2, nI_le2, nI_eq2, nI_l0, nI_g0, nI_q0, nI_p0, nI_n0, nI_m1, Nat.add_zero, Nat.zero_add, Nat.reduceAdd, Nat.reduceMul, true_or, or_true, znar_50, bI_0, bI_1, bI_z, bft, nI_z0, nI_z1, lgc_lt, lgc_gt, lgc_le, lgc_ge, lgc_eq, not_true_eq_false, not_false_eq_true, Bool.not_eq_true, Bool.not_eq_false, reduceCtorEq, eq_self, nI_e0, nI_e1, i10, i01, decide_false, decide_true, Bool.false_eq_true, cls_mG, fr_mG, len_mG, h0, good2, g, ia_mG, mG_w, zu1_n, zu1_s, bI_t, ne_eq]
    · rw [decide_eq_false g] at good2
      simp (disch := omega) only [s135_100, s135_101, s135_102, s135_105, s135_108, s135_109, s135_112, s135_113, s135_114, s135_117, s135_118, s135_119, s135_120, s135_121, s135_123, s135_124, s135_127, s135_129, s135_130, s135_131, s135_132, s135_135, s135_137, s135_138, s135_139, s135_140, s135_141, s135_142, s135_145, s135_147, s135_148, s135_149, s135_150, s135_151, s135_152, s135_155, s135_156, s135_157, s135_158, s135_159, s135_160, s135_161, zcs_0, zcs_1, zcs_2, zcs_3, zcs_4, zcs_5, zcs_6, zcs_7, znl_i, znl_r, znl_n, Bool.and_true, Bool.true_and, zk_v, zk_n, zk_x, zir_r, zir_n, zclr_i, zclr_r, zclr_n, zclr_d, zclr_l, true_and, and_true, and_self, if_true, if_false, reduceIte, nI_add, pk_mul, zin_ok, zx_nI, nI_lt2, nI_le2, nI_eq2, nI_l0, nI_g0, nI_q0, nI_p0, nI_n0, nI_m1, Nat.add_zero, Nat.zero_add, Nat.reduceAdd, Nat.reduceMul, true_or, or_true, znar_50, bI_0, bI_1, bI_z, bft, nI_z0, nI_z1, lgc_lt, lgc_gt, lgc_le, lgc_ge, lgc_eq, not_true_eq_false, not_false_eq_true, Bool.not_eq_true, Bool.not_eq_false, reduceCtorEq, eq_self, nI_e0, nI_e1, i10, i01, decide_false, decide_true, Bool.false_eq_true, cls_mG, fr_mG, len_mG, h0, good2, g, bI_f]
  unfold yPG yP1 yPK
  by_cases e17x : yIs b S 17 = true
  · have g1 := (yIs_g e17x).1
    have e : yWh b S [17, 29, 7, 6, 15] = 0 := by simp only [yWh, e17x, if_true, if_false, Bool.false_eq_true, Nat.reduceAdd]
    have g2 : yFk (yAdv b sz S) = 0 := by rw [(yAdv_fk b sz S).1, g1]
    have h5 : (0 : Nat) < 5 := by omega
    have h6 : ¬ (0 : Nat) = 5 := by omega
    have hP : (yP1 b sz S).1 = yAdv b sz S := by unfold yP1 yPK; rw [e, if_pos h5]
    rw [hP] at h3
    have k1 := key 0 0 (yAdv b sz S) (by omega) h3
    rw [decide_eq_true g1] at good
    rw [e, if_pos h5]
    simp (disch := omega) only [e135, s135_0, s135_1, s135_3, s135_6, s135_9, s135_10, s135_13, s135_14, s135_16, s135_19, s135_22, s135_23, s135_26, s135_27, s135_29, s135_32, s135_35, s135_36, s135_39, s135_40, s135_42, s135_45, s135_48, s135_49, s135_52, s135_53, s135_55, s135_58, s135_61, s135_62, s135_65, s135_66, s135_67, s135_68, s135_71, s135_74, s135_75, s135_76, s135_79, s135_80, s135_83, s135_84, s135_85, s135_88, s135_89, s135_90, s135_93, s135_96, s135_99, zcs_0, zcs_1, zcs_2, zcs_3, zcs_4, zcs_5, zcs_6, zcs_7, znl_i, znl_r, znl_n, Bool.and_true, Bool.true_and, zk_v, zk_n, zk_x, zir_r, zir_n, zclr_i, zclr_r, zclr_n, zclr_d, zclr_l, true_and, and_true, and_self, if_true, if_false, reduceIte, nI_add, pk_mul, zin_ok, zx_nI, nI_lt2, nI_le2, nI_eq2, nI_l0, nI_g0, nI_q0, nI_p0, nI_n0, nI_m1, Nat.add_zero, Nat.zero_add, Nat.reduceAdd, Nat.reduceMul, true_or, or_true, znar_50, bI_0, bI_1, bI_z, bft, nI_z0, nI_z1, lgc_lt, lgc_gt, lgc_le, lgc_ge, lgc_eq, not_true_eq_false, not_false_eq_true, Bool.not_eq_true, Bool.not_eq_false, reduceCtorEq, eq_self, nI_e0, nI_e1, i10, i01, decide_false, decide_true, Bool.false_eq_true, cls_mG, h0, c, good, adv, k1, e17x, h6, bI_t, bI_f]
  rw [Bool.not_eq_true] at e17x
  by_cases e29x : yIs b S 29 = true
  · have g1 := (yIs_g e29x).1
    have e : yWh b S [17, 29, 7, 6, 15] = 1 := by simp only [yWh, e17x, e29x, if_true, if_false, Bool.false_eq_true, Nat.reduceAdd]
    have g2 : yFk (yAdv b sz S) = 0 := by rw [(yAdv_fk b sz S).1, g1]
    have h5 : (1 : Nat) < 5 := by omega
    have h6 : ¬ (1 : Nat) = 5 := by omega
    have hP : (yP1 b sz S).1 = yAdv b sz S := by unfold yP1 yPK; rw [e, if_pos h5]
    rw [hP] at h3
    have k1 := key 1 0 (yAdv b sz S) (by omega) h3
    rw [decide_eq_true g1] at good
    rw [e, if_pos h5]
    simp (disch := omega) only [e135, s135_0, s135_1, s135_3, s135_6, s135_9, s135_10, s135_13, s135_14, s135_16, s135_19, s135_22, s135_23, s135_26, s135_27, s135_29, s135_32, s135_35, s135_36, s135_39, s135_40, s135_42, s135_45, s135_48, s135_49, s135_52, s135_53, s135_55, s135_58, s135_61, s135_62, s135_65, s135_66, s135_67, s135_68, s135_71, s135_74, s135_75, s135_76, s135_79, s135_80, s135_83, s135_84, s135_85, s135_88, s135_89, s135_90, s135_93, s135_96, s135_99, zcs_0, zcs_1, zcs_2, zcs_3, zcs_4, zcs_5, zcs_6, zcs_7, znl_i, znl_r, znl_n, Bool.and_true, Bool.true_and, zk_v, zk_n, zk_x, zir_r, zir_n, zclr_i, zclr_r, zclr_n, zclr_d, zclr_l, true_and, and_true, and_self, if_true, if_false, reduceIte, nI_add, pk_mul, zin_ok, zx_nI, nI_lt2, nI_le2, nI_eq2, nI_l0, nI_g0, nI_q0, nI_p0, nI_n0, nI_m1, Nat.add_zero, Nat.zero_add, Nat.reduceAdd, Nat.reduceMul, true_or, or_true, znar_50, bI_0, bI_1, bI_z, bft, nI_z0, nI_z1, lgc_lt, lgc_gt, lgc_le, lgc_ge, lgc_eq, not_true_eq_false, not_false_eq_true, Bool.not_eq_true, Bool.not_eq_false, reduceCtorEq, eq_self, nI_e0, nI_e1, i10, i01, decide_false, decide_true, Bool.false_eq_true, cls_mG, h0, c, good, adv, k1, e17x, e29x, h6, bI_t, bI_f]
  rw [Bool.not_eq_true] at e29x
  by_cases e7x : yIs b S 7 = true
  · have g1 := (yIs_g e7x).1
    have e : yWh b S [17, 29, 7, 6, 15] = 2 := by simp only [yWh, e17x, e29x, e7x, if_true, if_false, Bool.false_eq_true, Nat.reduceAdd]
    have g2 : yFk (yAdv b sz S) = 0 := by rw [(yAdv_fk b sz S).1, g1]
    have h5 : (2 : Nat) < 5 := by omega
    have h6 : ¬ (2 : Nat) = 5 := by omega
    have hP : (yP1 b sz S).1 = yAdv b sz S := by unfold yP1 yPK; rw [e, if_pos h5]
    rw [hP] at h3
    have k1 := key 2 0 (yAdv b sz S) (by omega) h3
    rw [decide_eq_true g1] at good
    rw [e, if_pos h5]
    simp (disch := omega) only [e135, s135_0, s135_1, s135_3, s135_6, s135_9, s135_10, s135_13, s135_14, s135_16, s135_19, s135_22, s135_23, s135_26, s135_27, s135_29, s135_32, s135_35, s135_36, s135_39, s135_40, s135_42, s135_45, s135_48, s135_49, s135_52, s135_53, s135_55, s135_58, s135_61, s135_62, s135_65, s135_66, s135_67, s135_68, s135_71, s135_74, s135_75, s135_76, s135_79, s135_80, s135_83, s135_84, s135_85, s135_88, s135_89, s135_90, s135_93, s135_96, s135_99, zcs_0, zcs_1, zcs_2, zcs_3, zcs_4, zcs_5, zcs_6, zcs_7, znl_i, znl_r, znl_n, Bool.and_true, Bool.true_and, zk_v, zk_n, zk_x, zir_r, zir_n, zclr_i, zclr_r, zclr_n, zclr_d, zclr_l, true_and, and_true, and_self, if_true, if_false, reduceIte, nI_add, pk_mul, zin_ok, zx_nI, nI_lt2, nI_le2, nI_eq2, nI_l0, nI_g0, nI_q0, nI_p0, nI_n0, nI_m1, Nat.add_zero, Nat.zero_add, Nat.reduceAdd, Nat.reduceMul, true_or, or_true, znar_50, bI_0, bI_1, bI_z, bft, nI_z0, nI_z1, lgc_lt, lgc_gt, lgc_le, lgc_ge, lgc_eq, not_true_eq_false, not_false_eq_true, Bool.not_eq_true, Bool.not_eq_false, reduceCtorEq, eq_self, nI_e0, nI_e1, i10, i01, decide_false, decide_true, Bool.false_eq_true, cls_mG, h0, c, good, adv, k1, e17x, e29x, e7x, h6, bI_t, bI_f]
  rw [Bool.not_eq_true] at e7x
  by_cases e6x : yIs b S 6 = true
  · have g1 := (yIs_g e6x).1
    have e : yWh b S [17, 29, 7, 6, 15] = 3 := by simp only [yWh, e17x, e29x, e7x, e6x, if_true, if_false, Bool.false_eq_true, Nat.reduceAdd]
    have g2 : yFk (yAdv b sz S) = 0 := by rw [(yAdv_fk b sz S).1, g1]
    have h5 : (3 : Nat) < 5 := by omega
    have h6 : ¬ (3 : Nat) = 5 := by omega
    have hP : (yP1 b sz S).1 = yAdv b sz S := by unfold yP1 yPK; rw [e, if_pos h5]
    rw [hP] at h3
    have k1 := key 3 0 (yAdv b sz S) (by omega) h3
    rw [decide_eq_true g1] at good
    rw [e, if_pos h5]
    simp (disch := omega) only [e135, s135_0, s135_1, s135_3, s135_6, s135_9, s135_10, s135_13, s135_14, s135_16, s135_19, s135_22, s135_23, s135_26, s135_27, s135_29, s135_32, s135_35, s135_36, s135_39, s135_40, s135_42, s135_45, s135_48, s135_49, s135_52, s135_53, s135_55, s135_58, s135_61, s135_62, s135_65, s135_66, s135_67, s135_68, s135_71, s135_74, s135_75, s135_76, s135_79, s135_80, s135_83, s135_84, s135_85, s135_88, s135_89, s135_90, s135_93, s135_96, s135_99, zcs_0, zcs_1, zcs_2, zcs_3, zcs_4, zcs_5, zcs_6, zcs_7, znl_i, znl_r, znl_n, Bool.and_true, Bool.true_and, zk_v, zk_n, zk_x, zir_r, zir_n, zclr_i, zclr_r, zclr_n, zclr_d, zclr_l, true_and, and_true, and_self, if_true, if_false, reduceIte, nI_add, pk_mul, zin_ok, zx_nI, nI_lt2, nI_le2, nI_eq2, nI_l0, nI_g0, nI_q0, nI_p0, nI_n0, nI_m1, Nat.add_zero, Nat.zero_add, Nat.reduceAdd, Nat.reduceMul, true_or, or_true, znar_50, bI_0, bI_1, bI_z, bft, nI_z0, nI_z1, lgc_lt, lgc_gt, lgc_le, lgc_ge, lgc_eq, not_true_eq_false, not_false_eq_true, Bool.not_eq_true, Bool.not_eq_false, reduceCtorEq, eq_self, nI_e0, nI_e1, i10, i01, decide_false, decide_true, Bool.false_eq_true, cls_mG, h0, c, good, adv, k1, e17x, e29x, e7x, e6x, h6, bI_t, bI_f]
  rw [Bool.not_eq_true] at e6x
  by_cases e15x : yIs b S 15 = true
  · have g1 := (yIs_g e15x).1
    have e : yWh b S [17, 29, 7, 6, 15] = 4 := by simp only [yWh, e17x, e29x, e7x, e6x, e15x, if_true, if_false, Bool.false_eq_true, Nat.reduceAdd]
    have g2 : yFk (yAdv b sz S) = 0 := by rw [(yAdv_fk b sz S).1, g1]
    have h5 : (4 : Nat) < 5 := by omega
    have h6 : ¬ (4 : Nat) = 5 := by omega
    have hP : (yP1 b sz S).1 = yAdv b sz S := by unfold yP1 yPK; rw [e, if_pos h5]
    rw [hP] at h3
    have k1 := key 4 0 (yAdv b sz S) (by omega) h3
    rw [decide_eq_true g1] at good
    rw [e, if_pos h5]
    simp (disch := omega) only [e135, s135_0, s135_1, s135_3, s135_6, s135_9, s135_10, s135_13, s135_14, s135_16, s135_19, s135_22, s135_23, s135_26, s135_27, s135_29, s135_32, s135_35, s135_36, s135_39, s135_40, s135_42, s135_45, s135_48, s135_49, s135_52, s135_53, s135_55, s135_58, s135_61, s135_62, s135_65, s135_66, s135_67, s135_68, s135_71, s135_74, s135_75, s135_76, s135_79, s135_80, s135_83, s135_84, s135_85, s135_88, s135_89, s135_90, s135_93, s135_96, s135_99, zcs_0, zcs_1, zcs_2, zcs_3, zcs_4, zcs_5, zcs_6, zcs_7, znl_i, znl_r, znl_n, Bool.and_true, Bool.true_and, zk_v, zk_n, zk_x, zir_r, zir_n, zclr_i, zclr_r, zclr_n, zclr_d, zclr_l, true_and, and_true, and_self, if_true, if_false, reduceIte, nI_add, pk_mul, zin_ok, zx_nI, nI_lt2, nI_le2, nI_eq2, nI_l0, nI_g0, nI_q0, nI_p0, nI_n0, nI_m1, Nat.add_zero, Nat.zero_add, Nat.reduceAdd, Nat.reduceMul, true_or, or_true, znar_50, bI_0, bI_1, bI_z, bft, nI_z0, nI_z1, lgc_lt, lgc_gt, lgc_le, lgc_ge, lgc_eq, not_true_eq_false, not_false_eq_true, Bool.not_eq_true, Bool.not_eq_false, reduceCtorEq, eq_self, nI_e0, nI_e1, i10, i01, decide_false, decide_true, Bool.false_eq_true, cls_mG, h0, c, good, adv, k1, e17x, e29x, e7x, e6x, e15x, h6, bI_t, bI_f]
  rw [Bool.not_eq_true] at e15x
  have e : yWh b S [17, 29, 7, 6, 15] = 5 := by simp only [yWh, e17x, e29x, e7x, e6x, e15x, if_true, if_false, Bool.false_eq_true, Nat.reduceAdd]
  have ok2 := yNum_ok (b := b) (lo := 0) (n := 1000) hS
  have hP : (yP1 b sz S).1 = (yNum b sz 0 1000 S).1 := by unfold yP1 yPK; rw [e, if_neg (by omega)]
  rw [hP] at h3
  have k1 := key 5 (yNum b sz 0 1000 S).2 (yNum b sz 0 1000 S).1 ok2.2.2.2.2 h3
  rw [e, if_neg (by omega)]
  by_cases g1 : yFk S = 0
  · rw [decide_eq_true g1] at good
    simp (disch := omega) only [e135, s135_0, s135_1, s135_3, s135_6, s135_9, s135_10, s135_13, s135_14, s135_16, s135_19, s135_22, s135_23, s135_26, s135_27, s135_29, s135_32, s135_35, s135_36, s135_39, s135_40, s135_42, s135_45, s135_48, s135_49, s135_52, s135_53, s135_55, s135_58, s135_61, s135_62, s135_65, s135_66, s135_67, s135_68, s135_71, s135_74, s135_75, s135_76, s135_79, s135_80, s135_83, s135_84, s135_85, s135_88, s135_89, s135_90, s135_93, s135_96, s135_99, zcs_0, zcs_1, zcs_2, zcs_3, zcs_4, zcs_5, zcs_6, zcs_7, znl_i, znl_r, znl_n, Bool.and_true, Bool.true_and, zk_v, zk_n, zk_x, zir_r, zir_n, zclr_i, zclr_r, zclr_n, zclr_d, zclr_l, true_and, and_true, and_self, if_true, if_false, reduceIte, nI_add, pk_mul, zin_ok, zx_nI, nI_lt2, nI_le2, nI_eq2, nI_l0, nI_g0, nI_q0, nI_p0, nI_n0, nI_m1, Nat.add_zero, Nat.zero_add, Nat.reduceAdd, Nat.reduceMul, true_or, or_true, znar_50, bI_0, bI_1, bI_z, bft, nI_z0, nI_z1, lgc_lt, lgc_gt, lgc_le, lgc_ge, lgc_eq, not_true_eq_false, not_false_eq_true, Bool.not_eq_true, Bool.not_eq_false, reduceCtorEq, eq_self, nI_e0, nI_e1, i10, i01, decide_false, decide_true, Bool.false_eq_true, cls_mG, h0, c, good, num, k1, e17x, e29x, e7x, e6x, e15x, bI_t, bI_f]
  · rw [decide_eq_false g1] at good
    simp (disch := omega) only [e135, s135_0, s135_1, s135_3, s135_6, s135_9, s135_10, s135_13, s135_14, s135_16, s135_19, s135_22, s135_23, s135_26, s135_27, s135_29, s135_32, s135_35, s135_36, s135_39, s135_40, s135_42, s135_45, s135_48, s135_49, s135_52, s135_53, s135_55, s135_58, s135_61, s135_62, s135_65, s135_66, s135_67, s135_68, s135_71, s135_74, s135_75, s135_76, s135_79, s135_80, s135_83, s135_84, s135_85, s135_88, s135_89, s135_90, s135_93, s135_96, s135_99, zcs_0, zcs_1, zcs_2, zcs_3, zcs_4, zcs_5, zcs_6, zcs_7, znl_i, znl_r, znl_n, Bool.and_true, Bool.true_and, zk_v, zk_n, zk_x, zir_r, zir_n, zclr_i, zclr_r, zclr_n, zclr_d, zclr_l, true_and, and_true, and_self, if_true, if_false, reduceIte, nI_add, pk_mul, zin_ok, zx_nI, nI_lt2, nI_le2, nI_eq2, nI_l0, nI_g0, nI_q0, nI_p0, nI_n0, nI_m1, Nat.add_zero, Nat.zero_add, Nat.reduceAdd, Nat.reduceMul, true_or, or_true, znar_50, bI_0, bI_1, bI_z, bft, nI_z0, nI_z1, lgc_lt, lgc_gt, lgc_le, lgc_ge, lgc_eq, not_true_eq_false, not_false_eq_true, Bool.not_eq_true, Bool.not_eq_false, reduceCtorEq, eq_self, nI_e0, nI_e1, i10, i01, decide_false, decide_true, Bool.false_eq_true, cls_mG, h0, c, good, num, k1, e17x, e29x, e7x, e6x, e15x, bI_t, bI_f]
/-- a house: where it stands behind each of its numbers -/
def yH1 (b : Nat → Nat) (sz : Nat) (S : YS) : YS × Nat := yNum b sz 0 100 (yNeed b sz 1 S)
def yH2 (b : Nat → Nat) (sz : Nat) (S : YS) : YS × Nat := yNum b sz 0 100 (yH1 b sz S).1
def yH3 (b : Nat → Nat) (sz : Nat) (S : YS) : YS × Nat := yNum b sz 0 10 (yNeed b sz 24 (yH2 b sz S).1)
def yH4k (b : Nat → Nat) (sz : Nat) (S : YS) : Nat := yWh b (yNeed b sz 10 (yH3 b sz S).1) [28, 19, 32, 33, 30, 9, 26]
def yH4 (b : Nat → Nat) (sz : Nat) (S : YS) : YS := yTkn b sz 7 (yH4k b sz S) (yNeed b sz 10 (yH3 b sz S).1)
def yH5 (b : Nat → Nat) (sz : Nat) (S : YS) : YS × Nat := yNum b sz 0 181 (yH4 b sz S)
def yH6 (b : Nat → Nat) (sz : Nat) (S : YS) : YS × Nat := yNum b sz (yH5 b sz S).2 181 (yH5 b sz S).1
def yH7 (b : Nat → Nat) (sz : Nat) (S : YS) : YS × Nat := if yIs b (yH6 b sz S).1 4 = true then yNum b sz 0 400 (yAdv b sz (yH6 b sz S).1) else ((yH6 b sz S).1, 0)
def yH8 (b : Nat → Nat) (sz : Nat) (S : YS) : YS × Nat := if yIs b (yH7 b sz S).1 2 = true then yNum b sz 0 100 (yAdv b sz (yH7 b sz S).1) else ((yH7 b sz S).1, 0)
def yHF (b : Nat → Nat) (sz : Nat) (S : YS) (n : Nat) (F : Nat → Int32) : Nat → Int32 := zu1 (zu1 (zu1 (zu1 (zu1 (zu1 (zu1 (zu1 (zu1 F (10 + 9 * n) (nI (yH1 b sz S).2)) (10 + 9 * n + 1) (nI (yH2 b sz S).2)) (10 + 9 * n + 2) (nI (yH3 b sz S).2)) (10 + 9 * n + 3) (wI 7 (yH4k b sz S))) (10 + 9 * n + 4) (nI (yH5 b sz S).2)) (10 + 9 * n + 5) (nI (yH6 b sz S).2)) (10 + 9 * n + 6) (nI (yH7 b sz S).2)) (10 + 9 * n + 7) (nI (yH8 b sz S).2)) (10 + 9 * n + 8) (nI 0)
/-- the new town with this house -/
def yHG (b : Nat → Nat) (sz : Nat) (S : YS) (G : Nat → Nat) : Nat → Nat := zu1 (zu1 (zu1 (zu1 (zu1 (zu1 (zu1 (zu1 (zu1 (zu1 G (10 + 9 * G 0) (yH1 b sz S).2) (10 + 9 * G 0 + 1) (yH2 b sz S).2) (10 + 9 * G 0 + 2) (yH3 b sz S).2) (10 + 9 * G 0 + 3) (yH4k b sz S)) (10 + 9 * G 0 + 4) (yH5 b sz S).2) (10 + 9 * G 0 + 5) (yH6 b sz S).2) (10 + 9 * G 0 + 6) (yH7 b sz S).2) (10 + 9 * G 0 + 7) (yH8 b sz S).2) (10 + 9 * G 0 + 8) 0) 0 (G 0 + 1)
theorem yNum_lt {lo n : Nat} (h : yOK sz S) : (yNum b sz lo n S).2 < 10000 := by
  unfold yNum
  repeat' split
  · exact h.2.2.2.1
  all_goals exact Nat.zero_lt_succ _
theorem yH_ok (h : yOK sz S) : yOK sz (yH1 b sz S).1 ∧ yOK sz (yH2 b sz S).1 ∧ yOK sz (yH3 b sz S).1 ∧ yOK sz (yNeed b sz 10 (yH3 b sz S).1) ∧ yOK sz (yH4 b sz S) ∧ yOK sz (yH5 b sz S).1 ∧ yOK sz (yH6 b sz S).1 ∧ yOK sz (yH7 b sz S).1 ∧ yOK sz (yH8 b sz S).1 := by
  have h1 : yOK sz (yH1 b sz S).1 := yNum_ok (yNeed_ok h)
  have h2 : yOK sz (yH2 b sz S).1 := yNum_ok h1
  have h3 : yOK sz (yH3 b sz S).1 := yNum_ok (yNeed_ok h2)
  have h4 : yOK sz (yNeed b sz 10 (yH3 b sz S).1) := yNeed_ok h3
  have h5 : yOK sz (yH4 b sz S) := yTkn_ok h4
  have h6 : yOK sz (yH5 b sz S).1 := yNum_ok h5
  have h7 : yOK sz (yH6 b sz S).1 := yNum_ok h6
  have h8 : yOK sz (yH7 b sz S).1 := by
    unfold yH7
    generalize yH6 b sz S = X at h7
    by_cases c : yIs b X.1 4 = true
    · rw [if_pos c]
      exact yNum_ok (yAdv_ok h7)
    · rw [if_neg c]
      exact h7
  have h9 : yOK sz (yH8 b sz S).1 := by
    unfold yH8
    generalize yH7 b sz S = X at h8
    by_cases c : yIs b X.1 2 = true
    · rw [if_pos c]
      exact yNum_ok (yAdv_ok h8)
    · rw [if_neg c]
      exact h8
  exact ⟨h1, h2, h3, h4, h5, h6, h7, h8, h9⟩
theorem yH_g (h : yFk (yH8 b sz S).1 = 0) : yFk (yH7 b sz S).1 = 0 ∧ yFk (yH6 b sz S).1 = 0 ∧ yFk (yH5 b sz S).1 = 0 ∧ yFk (yH4 b sz S) = 0 ∧ yH4k b sz S < 7 ∧ yFk (yH3 b sz S).1 = 0 ∧ yFk (yH2 b sz S).1 = 0 ∧ yFk (yH1 b sz S).1 = 0 := by
  have h8 : yFk (yH7 b sz S).1 = 0 := by
    unfold yH8 at h
    generalize yH7 b sz S = X at h
    by_cases c : yIs b X.1 2 = true
    · exact (yIs_g c).1
    · rw [if_neg c] at h
      exact h
  have h7 : yFk (yH6 b sz S).1 = 0 := by
    unfold yH7 at h8
    generalize yH6 b sz S = X at h8
    by_cases c : yIs b X.1 4 = true
    · exact (yIs_g c).1
    · rw [if_neg c] at h8
      exact h8
  have h6 : yFk (yH5 b sz S).1 = 0 := by
    unfold yH6 at h7
    exact (yNum_g h7).1
  have h5 : yFk (yH4 b sz S) = 0 := by
    unfold yH5 at h6
    exact (yNum_g h6).1
  obtain ⟨g1, g2⟩ : yH4k b sz S < 7 ∧ yFk (yNeed b sz 10 (yH3 b sz S).1) = 0 := by
    unfold yH4 at h5
    have := yTkn_g h5
    exact ⟨this.1, this.2.1⟩
  have h3 := (yNeed_g g2).1
  have h2 : yFk (yH2 b sz S).1 = 0 := by
    unfold yH3 at h3
    exact (yNeed_g (yNum_g h3).1).1
  have h1 : yFk (yH1 b sz S).1 = 0 := by
    unfold yH2 at h2
    exact (yNum_g h2).1
  exact ⟨h8, h7, h6, h5, g1, h3, h2, h1⟩
theorem yH_mo (h : yOK sz S) : yFr S ≤ yFr (yH8 b sz S).1 := by
  obtain ⟨k1, k2, k3, k4, k5, k6, k7, k8, k9⟩ := yH_ok (b := b) h
  have h1 : yFr S ≤ yFr (yH1 b sz S).1 := Nat.le_trans (yNeed_mo h) (yNum_mo (yNeed_ok h))
  have h2 : yFr (yH1 b sz S).1 ≤ yFr (yH2 b sz S).1 := yNum_mo k1
  have h3 : yFr (yH2 b sz S).1 ≤ yFr (yH3 b sz S).1 := Nat.le_trans (yNeed_mo k2) (yNum_mo (yNeed_ok k2))
  have h4 : yFr (yH3 b sz S).1 ≤ yFr (yH4 b sz S) := Nat.le_trans (yNeed_mo k3) (yTkn_mo k4)
  have h5 : yFr (yH4 b sz S) ≤ yFr (yH5 b sz S).1 := yNum_mo k5
  have h6 : yFr (yH5 b sz S).1 ≤ yFr (yH6 b sz S).1 := yNum_mo k6
  have h7 : yFr (yH6 b sz S).1 ≤ yFr (yH7 b sz S).1 := by
    unfold yH7
    generalize yH6 b sz S = X at k7
    by_cases c : yIs b X.1 4 = true
    · rw [if_pos c]
      exact Nat.le_trans (yAdv_mo k7) (yNum_mo (yAdv_ok k7))
    · rw [if_neg c]
      exact Nat.le_refl _
  have h8 : yFr (yH7 b sz S).1 ≤ yFr (yH8 b sz S).1 := by
    unfold yH8
    generalize yH7 b sz S = X at k8
    by_cases c : yIs b X.1 2 = true
    · rw [if_pos c]
      exact Nat.le_trans (yAdv_mo k8) (yNum_mo (yAdv_ok k8))
    · rw [if_neg c]
      exact Nat.le_refl _
  omega
theorem yHF_g (h : yFk (yH8 b sz S).1 = 0) : zu1 (yHF b sz S (G 0) (fun i => nI (G i))) 0 (nI (G 0 + 1)) = fun i => nI (yHG b sz S G i) := by
  have h4 := (yH_g h).2.2.2.2.1
  unfold yHF yHG wI
  rw [if_pos h4]
  simp only [zu1_nI]
theorem m136 (hM : MS z) (hT : TPm z b sz) (hS : yOK sz S) {n : Nat} (hn : F 0 = nI n) (hn16 : n < 16) : ZC zG (d + 5) 136 [.ref 135] (mP z S F) Q = Q (.inl none) (mP z (yH8 b sz S).1 (if yFk (yH8 b sz S).1 = 0 then zu1 (yHF b sz S n F) 0 (nI (n + 1)) else yHF b sz S n F)) := by
  have h0 := hM
  unfold MS at h0
  obtain ⟨k1, k2, k3, k4, k5, k6, k7, k8, k9⟩ := yH_ok (b := b) hS
  have c1 : ∀ d Q F, ZC zG (d + 4) 131 [.ref 135, .ref 1, .int (nI 0), .int (nI 99)] (mP z S F) Q = Q (.inl (some (.int (nI (yH1 b sz S).2)))) (mP z (yH1 b sz S).1 F) := fun d Q F => m131 hM hT hS (by omega) (by omega) (by omega)
  have c2 : ∀ d Q F, ZC zG (d + 2) 132 [.ref 135, .int (nI 0), .int (nI 99)] (mP z (yH1 b sz S).1 F) Q = Q (.inl (some (.int (nI (yH2 b sz S).2)))) (mP z (yH2 b sz S).1 F) := fun d Q F => m132 hM hT k1 (by omega) (by omega)
  have c3 : ∀ d Q F, ZC zG (d + 4) 131 [.ref 135, .ref 24, .int (nI 0), .int (nI 9)] (mP z (yH2 b sz S).1 F) Q = Q (.inl (some (.int (nI (yH3 b sz S).2)))) (mP z (yH3 b sz S).1 F) := fun d Q F => m131 hM hT k2 (by omega) (by omega) (by omega)
  have c4 : ∀ d Q F, ZC zG (d + 3) 129 [.ref 135, .ref 10] (mP z (yH3 b sz S).1 F) Q = Q (.inl none) (mP z (yNeed b sz 10 (yH3 b sz S).1) F) := fun d Q F => m129 hM hT k3 (by omega)
  have c5 : ∀ d Q F, ZC zG (d + 2) 137 [.ref 135] (mP z (yNeed b sz 10 (yH3 b sz S).1) F) Q = Q (.inl (some (.int (wI 7 (yH4k b sz S))))) (mP z (yNeed b sz 10 (yH3 b sz S).1) F) := fun d Q F => m137 hM hT k4
  have c6 : ∀ d Q F, ZC zG (d + 2) 128 [.ref 135, .int (wI 7 (yH4k b sz S))] (mP z (yNeed b sz 10 (yH3 b sz S).1) F) Q = Q (.inl (some (.int (wI 7 (yH4k b sz S))))) (mP z (yH4 b sz S) F) := fun d Q F => m128 hM hT k4 (by omega)
  have c7 : ∀ d Q F, ZC zG (d + 2) 132 [.ref 135, .int (nI 0), .int (nI 180)] (mP z (yH4 b sz S) F) Q = Q (.inl (some (.int (nI (yH5 b sz S).2)))) (mP z (yH5 b sz S).1 F) := fun d Q F => m132 hM hT k5 (by omega) (by omega)
  have hv5 : (yH5 b sz S).2 < 10000 := yNum_lt k5
  have c8 : ∀ d Q F, ZC zG (d + 2) 132 [.ref 135, .int (nI (yH5 b sz S).2), .int (nI 180)] (mP z (yH5 b sz S).1 F) Q = Q (.inl (some (.int (nI (yH6 b sz S).2)))) (mP z (yH6 b sz S).1 F) := fun d Q F => m132 hM hT k6 hv5 (by omega)
  have good := fun F d Q => m122 (d := d) (Q := Q) (F := F) (S := (yH8 b sz S).1) hM (by have := k9.2.2.2.2; omega)
  -- the end
  have fin : ∀ F4 : Nat → Int32, F4 0 = nI n → ZW zG (d + 5) 136 181 [.ref 135, .int (nI (10 + 9 * n))] [.int (nI (yH8 b sz S).2), .int (nI (10 + 9 * n + 7)), .ref 141] (mP z (yH8 b sz S).1 F4) Q = Q (.inl none) (mP z (yH8 b sz S).1 (if yFk (yH8 b sz S).1 = 0 then zu1 (zu1 (zu1 F4 (10 + 9 * n + 7) (nI (yH8 b sz S).2)) (10 + 9 * n + 8) (nI 0)) 0 (nI (n + 1)) else (zu1 (zu1 F4 (10 + 9 * n + 7) (nI (yH8 b sz S).2)) (10 + 9 * n + 8) (nI 0)))) := by
    intro F4 h4
    by_cases g : yFk (yH8 b sz S).1 = 0
    · rw [decide_eq_true g] at good
      rw [if_pos g]
      simp (disch := omega) only [s136_181, s136_182, s136_183, s136_186, s136_187, s136_189, s136_190, s136_191, s136_192, s136_193, s136_196, s136_199, s136_200, s136_203, s136_204, s136_205, s136_206, s136_207, s136_208, s136_209, zcs_0, zcs_1, zcs_2, zcs_3, zcs_4, zcs_5, zcs_6, zcs_7, znl_i, znl_r, znl_n, Bool.and_true, Bool.true_and, zk_v, zk_n, zk_x, zir_r, zir_n, zclr_i, zclr_r, zclr_n, zclr_d, zclr_l, true_and, and_true, and_self, if_true, if_false, reduceIte, nI_add, pk_mul, zin_ok, zx_nI, nI_lt2, nI_le2, nI_eq2, nI_l0, nI_g0, nI_q0, nI_p0, nI_n0, nI_m1, Nat.add_zero, Nat.zero_add, Nat.reduceAdd, Nat.reduceMul, true_or, or_true, znar_50, bI_0, bI_1, bI_z, bft, nI_z0, nI_z1, lgc_lt, lgc_gt, lgc_le, lgc_ge, lgc_eq, not_true_eq_false, not_false_eq_true, Bool.not_eq_true, Bool.not_eq_false, reduceCtorEq, eq_self, nI_e0, nI_e1, i10, i01, decide_false, decide_true, Bool.false_eq_true, cls_mP, fr_mP, len_mP, h0, good, ia_mP, mP_F, zu1_n, zu1_s, ne_eq, h4, bI_t]
    · rw [decide_eq_false g] at good
      rw [if_neg g]
      simp (disch := omega) only [s136_181, s136_182, s136_183, s136_186, s136_187, s136_189, s136_190, s136_191, s136_192, s136_193, s136_196, s136_199, s136_200, s136_203, s136_204, s136_205, s136_206, s136_207, s136_208, s136_209, zcs_0, zcs_1, zcs_2, zcs_3, zcs_4, zcs_5, zcs_6, zcs_7, znl_i, znl_r, znl_n, Bool.and_true, Bool.true_and, zk_v, zk_n, zk_x, zir_r, zir_n, zclr_i, zclr_r, zclr_n, zclr_d, zclr_l, true_and, and_true, and_self, if_true, if_false, reduceIte, nI_add, pk_mul, zin_ok, zx_nI, nI_lt2, nI_le2, nI_eq2, nI_l0, nI_g0, nI_q0, nI_p0, nI_n0, nI_m1, Nat.add_zero, Nat.zero_add, Nat.reduceAdd, Nat.reduceMul, true_or, or_true, znar_50, bI_0, bI_1, bI_z, bft, nI_z0, nI_z1, lgc_lt, lgc_gt, lgc_le, lgc_ge, lgc_eq, not_true_eq_false, not_false_eq_true, Bool.not_eq_true, Bool.not_eq_false, reduceCtorEq, eq_self, nI_e0, nI_e1, i10, i01, decide_false, decide_true, Bool.false_eq_true, cls_mP, fr_mP, len_mP, h0, good, ia_mP, mP_F, zu1_n, zu1_s, ne_eq, h4, bI_f]
  -- bride
  have bri : ∀ F4 : Nat → Int32, F4 0 = nI n → ZW zG (d + 5) 136 152 [.ref 135, .int (nI (10 + 9 * n))] [.int (nI (yH7 b sz S).2), .int (nI (10 + 9 * n + 6)), .ref 141] (mP z (yH7 b sz S).1 F4) Q = ZW zG (d + 5) 136 181 [.ref 135, .int (nI (10 + 9 * n))] [.int (nI (yH8 b sz S).2), .int (nI (10 + 9 * n + 7)), .ref 141] (mP z (yH8 b sz S).1 (zu1 F4 (10 + 9 * n + 6) (nI (yH7 b sz S).2))) Q := by
    intro F4 h4
    have tk := fun F d Q => m130 (d := d) (Q := Q) (F := F) (r := 2) hM hT k8 (by omega)
    have nm := fun F d Q => m132 (d := d) (Q := Q) (F := F) (lo := 0) (n := 99) hM hT (yAdv_ok (b := b) k8) (by omega) (by omega)
    simp only [Nat.reduceAdd] at nm
    unfold yTake at tk
    unfold yH8
    by_cases g : yIs b (yH7 b sz S).1 2 = true
    · rw [g] at tk
      simp only [if_true] at tk
      rw [if_pos g]
      simp (disch := omega) only [s136_152, s136_153, s136_154, s136_157, s136_158, s136_160, s136_161, s136_162, s136_164, s136_167, s136_170, s136_171, s136_172, s136_174, s136_177, zcs_0, zcs_1, zcs_2, zcs_3, zcs_4, zcs_5, zcs_6, zcs_7, znl_i, znl_r, znl_n, Bool.and_true, Bool.true_and, zk_v, zk_n, zk_x, zir_r, zir_n, zclr_i, zclr_r, zclr_n, zclr_d, zclr_l, true_and, and_true, and_self, if_true, if_false, reduceIte, nI_add, pk_mul, zin_ok, zx_nI, nI_lt2, nI_le2, nI_eq2, nI_l0, nI_g0, nI_q0, nI_p0, nI_n0, nI_m1, Nat.add_zero, Nat.zero_add, Nat.reduceAdd, Nat.reduceMul, true_or, or_true, znar_50, bI_0, bI_1, bI_z, bft, nI_z0, nI_z1, lgc_lt, lgc_gt, lgc_le, lgc_ge, lgc_eq, not_true_eq_false, not_false_eq_true, Bool.not_eq_true, Bool.not_eq_false, reduceCtorEq, eq_self, nI_e0, nI_e1, i10, i01, decide_false, decide_true, Bool.false_eq_true, cls_mP, fr_mP, len_mP, h0, tk, nm, ia_mP, mP_F, zu1_n, zu1_s, ne_eq, bI_t]
    · rw [Bool.not_eq_true] at g
      rw [g] at tk
      simp only [Bool.false_eq_true, if_false] at tk
      rw [g, if_neg (by simp)]
      simp (disch := omega) only [s136_152, s136_153, s136_154, s136_157, s136_158, s136_160, s136_161, s136_162, s136_164, s136_167, s136_170, s136_171, s136_172, s136_174, s136_177, s136_180, zcs_0, zcs_1, zcs_2, zcs_3, zcs_4, zcs_5, zcs_6, zcs_7, znl_i, znl_r, znl_n, Bool.and_true, Bool.true_and, zk_v, zk_n, zk_x, zir_r, zir_n, zclr_i, zclr_r, zclr_n, zclr_d, zclr_l, true_and, and_true, and_self, if_true, if_false, reduceIte, nI_add, pk_mul, zin_ok, zx_nI, nI_lt2, nI_le2, nI_eq2, nI_l0, nI_g0, nI_q0, nI_p0, nI_n0, nI_m1, Nat.add_zero, Nat.zero_add, Nat.reduceAdd, Nat.reduceMul, true_or, or_true, znar_50, bI_0, bI_1, bI_z, bft, nI_z0, nI_z1, lgc_lt, lgc_gt, lgc_le, lgc_ge, lgc_eq, not_true_eq_false, not_false_eq_true, Bool.not_eq_true, Bool.not_eq_false, reduceCtorEq, eq_self, nI_e0, nI_e1, i10, i01, decide_false, decide_true, Bool.false_eq_true, cls_mP, fr_mP, len_mP, h0, tk, ia_mP, mP_F, zu1_n, zu1_s, ne_eq, bI_f]
  have cam : ∀ F4 : Nat → Int32, F4 0 = nI n → ZW zG (d + 5) 136 123 [.ref 135, .int (nI (10 + 9 * n))] [] (mP z (yH6 b sz S).1 F4) Q = ZW zG (d + 5) 136 152 [.ref 135, .int (nI (10 + 9 * n))] [.int (nI (yH7 b sz S).2), .int (nI (10 + 9 * n + 6)), .ref 141] (mP z (yH7 b sz S).1 F4) Q := by
    intro F4 h4
    have tk := fun F d Q => m130 (d := d) (Q := Q) (F := F) (r := 4) hM hT k7 (by omega)
    have nm := fun F d Q => m132 (d := d) (Q := Q) (F := F) (lo := 0) (n := 399) hM hT (yAdv_ok (b := b) k7) (by omega) (by omega)
    simp only [Nat.reduceAdd] at nm
    unfold yTake at tk
    unfold yH7
    by_cases g : yIs b (yH6 b sz S).1 4 = true
    · rw [g] at tk
      simp only [if_true] at tk
      rw [if_pos g]
      simp (disch := omega) only [s136_123, s136_124, s136_127, s136_128, s136_130, s136_131, s136_132, s136_134, s136_137, s136_140, s136_141, s136_142, s136_145, s136_148, zcs_0, zcs_1, zcs_2, zcs_3, zcs_4, zcs_5, zcs_6, zcs_7, znl_i, znl_r, znl_n, Bool.and_true, Bool.true_and, zk_v, zk_n, zk_x, zir_r, zir_n, zclr_i, zclr_r, zclr_n, zclr_d, zclr_l, true_and, and_true, and_self, if_true, if_false, reduceIte, nI_add, pk_mul, zin_ok, zx_nI, nI_lt2, nI_le2, nI_eq2, nI_l0, nI_g0, nI_q0, nI_p0, nI_n0, nI_m1, Nat.add_zero, Nat.zero_add, Nat.reduceAdd, Nat.reduceMul, true_or, or_true, znar_50, bI_0, bI_1, bI_z, bft, nI_z0, nI_z1, lgc_lt, lgc_gt, lgc_le, lgc_ge, lgc_eq, not_true_eq_false, not_false_eq_true, Bool.not_eq_true, Bool.not_eq_false, reduceCtorEq, eq_self, nI_e0, nI_e1, i10, i01, decide_false, decide_true, Bool.false_eq_true, cls_mP, fr_mP, len_mP, h0, tk, nm, ia_mP, mP_F, zu1_n, zu1_s, ne_eq, bI_t]
    · rw [Bool.not_eq_true] at g
      rw [g] at tk
      simp only [Bool.false_eq_true, if_false] at tk
      rw [g, if_neg (by simp)]
      simp (disch := omega) only [s136_123, s136_124, s136_127, s136_128, s136_130, s136_131, s136_132, s136_134, s136_137, s136_140, s136_141, s136_142, s136_145, s136_148, s136_151, zcs_0, zcs_1, zcs_2, zcs_3, zcs_4, zcs_5, zcs_6, zcs_7, znl_i, znl_r, znl_n, Bool.and_true, Bool.true_and, zk_v, zk_n, zk_x, zir_r, zir_n, zclr_i, zclr_r, zclr_n, zclr_d, zclr_l, true_and, and_true, and_self, if_true, if_false, reduceIte, nI_add, pk_mul, zin_ok, zx_nI, nI_lt2, nI_le2, nI_eq2, nI_l0, nI_g0, nI_q0, nI_p0, nI_n0, nI_m1, Nat.add_zero, Nat.zero_add, Nat.reduceAdd, Nat.reduceMul, true_or, or_true, znar_50, bI_0, bI_1, bI_z, bft, nI_z0, nI_z1, lgc_lt, lgc_gt, lgc_le, lgc_ge, lgc_eq, not_true_eq_false, not_false_eq_true, Bool.not_eq_true, Bool.not_eq_false, reduceCtorEq, eq_self, nI_e0, nI_e1, i10, i01, decide_false, decide_true, Bool.false_eq_true, cls_mP, fr_mP, len_mP, h0, tk, ia_mP, mP_F, zu1_n, zu1_s, ne_eq, bI_f]
  unfold yHF
  simp (disch := omega) only [e136, s136_0, s136_2, s136_4, s136_5, s136_8, s136_9, s136_10, s136_11, s136_12, s136_13, s136_14, s136_17, s136_18, s136_19, s136_20, s136_21, s136_23, s136_24, s136_26, s136_29, s136_30, s136_31, s136_34, s136_35, s136_36, s136_37, s136_38, s136_39, s136_41, s136_44, s136_45, s136_46, s136_49, s136_50, s136_51, s136_52, s136_53, s136_55, s136_56, s136_58, s136_61, s136_62, s136_63, s136_65, s136_68, s136_69, s136_72, s136_73, s136_74, s136_75, s136_76, s136_77, s136_80, s136_83, s136_84, s136_85, s136_88, s136_89, s136_90, s136_91, s136_92, s136_93, s136_96, s136_99, s136_100, s136_101, s136_104, s136_105, s136_106, s136_107, s136_108, s136_109, s136_112, s136_113, s136_114, s136_115, s136_116, s136_119, s136_122, zcs_0, zcs_1, zcs_2, zcs_3, zcs_4, zcs_5, zcs_6, zcs_7, znl_i, znl_r, znl_n, Bool.and_true, Bool.true_and, zk_v, zk_n, zk_x, zir_r, zir_n, zclr_i, zclr_r, zclr_n, zclr_d, zclr_l, true_and, and_true, and_self, if_true, if_false, reduceIte, nI_add, pk_mul, zin_ok, zx_nI, nI_lt2, nI_le2, nI_eq2, nI_l0, nI_g0, nI_q0, nI_p0, nI_n0, nI_m1, Nat.add_zero, Nat.zero_add, Nat.reduceAdd, Nat.reduceMul, true_or, or_true, znar_50, bI_0, bI_1, bI_z, bft, nI_z0, nI_z1, lgc_lt, lgc_gt, lgc_le, lgc_ge, lgc_eq, not_true_eq_false, not_false_eq_true, Bool.not_eq_true, Bool.not_eq_false, reduceCtorEq, eq_self, nI_e0, nI_e1, i10, i01, decide_false, decide_true, Bool.false_eq_true, cls_mP, fr_mP, len_mP, h0, ia_mP, mP_F, zu1_n, zu1_s, ne_eq, hn, c1, c2, c3, c4, c5, c6, c7, c8]
  rw [cam _ (by simp (disch := omega) only [zu1_n, ne_eq, hn]), bri _ (by simp (disch := omega) only [zu1_n, ne_eq, hn]), fin _ (by simp (disch := omega) only [zu1_n, ne_eq, hn])]
/-- who knows whom -/
def yK1 (b : Nat → Nat) (sz n : Nat) (S : YS) : YS × Nat := yNum b sz 0 n S
def yK2 (b : Nat → Nat) (sz n : Nat) (S : YS) : YS := if yFk (yK1 b sz n S).1 = 0 ∧ yTk (yK1 b sz n S).1 = 2 ∧ yVl (yK1 b sz n S).1 = (yK1 b sz n S).2 then yErr 2 (yK1 b sz n S).1 else (yK1 b sz n S).1
def yK3 (b : Nat → Nat) (sz n : Nat) (S : YS) : YS × Nat := yNum b sz 0 n (yK2 b sz n S)
def yKG (b : Nat → Nat) (sz n : Nat) (S : YS) (G : Nat → Nat) : Nat → Nat := if yFk (yK3 b sz n S).1 = 0 then zu1 (zu1 G (10 + 9 * (yK1 b sz n S).2 + 8) (G (10 + 9 * (yK1 b sz n S).2 + 8) ||| 2 ^ (yK3 b sz n S).2)) (10 + 9 * (yK3 b sz n S).2 + 8) (zu1 G (10 + 9 * (yK1 b sz n S).2 + 8) (G (10 + 9 * (yK1 b sz n S).2 + 8) ||| 2 ^ (yK3 b sz n S).2) (10 + 9 * (yK3 b sz n S).2 + 8) ||| 2 ^ (yK1 b sz n S).2) else G
theorem yK_ok {n : Nat} (h : yOK sz S) : yOK sz (yK1 b sz n S).1 ∧ yOK sz (yK2 b sz n S) ∧ yOK sz (yK3 b sz n S).1 := by
  have h1 : yOK sz (yK1 b sz n S).1 := yNum_ok h
  have h2 : yOK sz (yK2 b sz n S) := by
    unfold yK2
    split
    · exact yErr_ok h1 (by omega)
    · exact h1
  exact ⟨h1, h2, yNum_ok h2⟩
theorem yK_mo {n : Nat} (h : yOK sz S) : yFr S ≤ yFr (yK3 b sz n S).1 := by
  obtain ⟨k1, k2, k3⟩ := yK_ok (b := b) (n := n) h
  have h1 : yFr S ≤ yFr (yK1 b sz n S).1 := yNum_mo h
  have h2 : yFr (yK1 b sz n S).1 ≤ yFr (yK2 b sz n S) := by
    unfold yK2
    split
    · rw [yErr_mo]; exact Nat.le_refl _
    · exact Nat.le_refl _
  have h3 : yFr (yK2 b sz n S) ≤ yFr (yK3 b sz n S).1 := yNum_mo k2
  omega
theorem yK_g {n : Nat} (h : yFk (yK3 b sz n S).1 = 0) : yFk (yK1 b sz n S).1 = 0 ∧ (yK1 b sz n S).2 < n ∧ (yK3 b sz n S).2 < n ∧ yFk (yK2 b sz n S) = 0 ∧ yK2 b sz n S = (yK1 b sz n S).1 ∧ ¬ (yK3 b sz n S).2 = (yK1 b sz n S).2 := by
  obtain ⟨h1, h2, h3, h4⟩ := yNum_g (show yFk (yNum b sz 0 n (yK2 b sz n S)).1 = 0 from h)
  have e3 : (yK3 b sz n S).2 = yVl (yK2 b sz n S) := by unfold yK3; rw [h4]
  have e2 : ¬ (yFk (yK1 b sz n S).1 = 0 ∧ yTk (yK1 b sz n S).1 = 2 ∧ yVl (yK1 b sz n S).1 = (yK1 b sz n S).2) := by
    intro q
    have : yK2 b sz n S = yErr 2 (yK1 b sz n S).1 := if_pos q
    rw [this] at h1
    exact absurd h1 (yErr_fk (by omega))
  have e4 : yK2 b sz n S = (yK1 b sz n S).1 := if_neg e2
  rw [e4] at h1 h2 h3 e3
  obtain ⟨g1, g2, g3, g4⟩ := yNum_g (show yFk (yNum b sz 0 n S).1 = 0 from h1)
  have e1 : (yK1 b sz n S).2 = yVl S := by unfold yK1; rw [g4]
  refine ⟨h1, by omega, by omega, by rw [e4]; exact h1, e4, ?_⟩
  intro q
  exact e2 ⟨h1, h2, by omega⟩
theorem m138 (hM : MS z) (hT : TPm z b sz) (hS : yOK sz S) (hn : G 0 ≤ 16) : ZC zG (d + 3) 138 [.ref 135] (mG z S G) Q = Q (.inl none) (mG z (yK3 b sz (G 0) S).1 (yKG b sz (G 0) S G)) := by
  have h0 := hM
  unfold MS at h0
  obtain ⟨k1, k2, k3⟩ := yK_ok (b := b) (n := G 0) hS
  have c1 : ∀ d Q, ZC zG (d + 2) 132 [.ref 135, .int (nI 0), .int (nI (G 0) - nI 1)] (mG z S G) Q = Q (.inl (some (.int (nI (yK1 b sz (G 0) S).2)))) (mG z (yK1 b sz (G 0) S).1 G) := fun d Q => g132n hM hT hS (by omega) (by omega)
  have c2 : ∀ d Q, ZC zG (d + 2) 132 [.ref 135, .int (nI 0), .int (nI (G 0) - nI 1)] (mG z (yK2 b sz (G 0) S) G) Q = Q (.inl (some (.int (nI (yK3 b sz (G 0) S).2)))) (mG z (yK3 b sz (G 0) S).1 G) := fun d Q => g132n hM hT k2 (by omega) (by omega)
  have g1 := fun d Q => g122 (d := d) (Q := Q) (G := G) (S := (yK1 b sz (G 0) S).1) hM (by have := k1.2.2.2.2; omega)
  have e1 := fun d Q => g126 (d := d) (Q := Q) (G := G) (S := (yK1 b sz (G 0) S).1) (x := 2) hM (by have := k1.2.2.2.2; omega)
  have g3 := fun d Q => g122 (d := d) (Q := Q) (G := G) (S := (yK3 b sz (G 0) S).1) hM (by have := k3.2.2.2.2; omega)
  have v1 : (yK1 b sz (G 0) S).2 < 10000 := yNum_lt hS
  have v2 : yVl (yK1 b sz (G 0) S).1 < 10000 := k1.2.2.2.1
  have v3 : yTk (yK1 b sz (G 0) S).1 < 5 := k1.2.2.1
  -- the end
  have fin : ZW zG (d + 3) 138 42 [.ref 135, .int (nI (yK1 b sz (G 0) S).2), zdum] [] (mG z (yK2 b sz (G 0) S) G) Q = Q (.inl none) (mG z (yK3 b sz (G 0) S).1 (yKG b sz (G 0) S G)) := by
    unfold yKG
    by_cases g : yFk (yK3 b sz (G 0) S).1 = 0
    · obtain ⟨q1, q2, q3, q4, q5, q6⟩ := yK_g g
      rw [decide_eq_true g] at g3
      rw [if_pos g]
      generalize (yK1 b sz (G 0) S).2 = a at *
      generalize (yK3 b sz (G 0) S).2 = c at *
      simp (disch := omega) only [s138_42, s138_43, s138_44, s138_45, s138_48, s138_49, s138_50, s138_51, s138_52, s138_55, s138_56, s138_57, s138_60, s138_63, s138_64, s138_65, s138_68, s138_70, s138_72, s138_73, s138_74, s138_75, s138_77, s138_78, s138_79, s138_80, s138_81, s138_82, s138_83, s138_84, s138_85, s138_86, s138_89, s138_91, s138_93, s138_94, s138_95, s138_96, s138_98, s138_99, s138_100, s138_101, s138_102, s138_103, s138_104, s138_105, s138_106, zcs_0, zcs_1, zcs_2, zcs_3, zcs_4, zcs_5, zcs_6, zcs_7, znl_i, znl_r, znl_n, Bool.and_true, Bool.true_and, zk_v, zk_n, zk_x, zir_r, zir_n, zclr_i, zclr_r, zclr_n, zclr_d, zclr_l, true_and, and_true, and_self, if_true, if_false, reduceIte, nI_add, pk_mul, zin_ok, zx_nI, nI_lt2, nI_le2, nI_eq2, nI_l0, nI_g0, nI_q0, nI_p0, nI_n0, nI_m1, Nat.add_zero, Nat.zero_add, Nat.reduceAdd, Nat.reduceMul, true_or, or_true, znar_50, bI_0, bI_1, bI_z, bft, nI_z0, nI_z1, lgc_lt, lgc_gt, lgc_le, lgc_ge, lgc_eq, not_true_eq_false, not_false_eq_true, Bool.not_eq_true, Bool.not_eq_false, reduceCtorEq, eq_self, nI_e0, nI_e1, i10, i01, decide_false, decide_true, Bool.false_eq_true, cls_mG, fr_mG, len_mG, h0, c2, g3, ia_mG, mG_w, nI_sh1, nI_or, bI_t]
    · rw [decide_eq_false g] at g3
      rw [if_neg g]
      simp (disch := omega) only [s138_42, s138_43, s138_44, s138_45, s138_48, s138_49, s138_50, s138_51, s138_52, s138_55, s138_56, s138_57, s138_60, s138_63, s138_64, s138_65, s138_68, s138_70, s138_72, s138_73, s138_74, s138_75, s138_77, s138_78, s138_79, s138_80, s138_81, s138_82, s138_83, s138_84, s138_85, s138_86, s138_89, s138_91, s138_93, s138_94, s138_95, s138_96, s138_98, s138_99, s138_100, s138_101, s138_102, s138_103, s138_104, s138_105, s138_106, zcs_0, zcs_1, zcs_2, zcs_3, zcs_4, zcs_5, zcs_6, zcs_7, znl_i, znl_r, znl_n, Bool.and_true, Bool.true_and, zk_v, zk_n, zk_x, zir_r, zir_n, zclr_i, zclr_r, zclr_n, zclr_d, zclr_l, true_and, and_true, and_self, if_true, if_false, reduceIte, nI_add, pk_mul, zin_ok, zx_nI, nI_lt2, nI_le2, nI_eq2, nI_l0, nI_g0, nI_q0, nI_p0, nI_n0, nI_m1, Nat.add_zero, Nat.zero_add, Nat.reduceAdd, Nat.reduceMul, true_or, or_true, znar_50, bI_0, bI_1, bI_z, bft, nI_z0, nI_z1, lgc_lt, lgc_gt, lgc_le, lgc_ge, lgc_eq, not_true_eq_false, not_false_eq_true, Bool.not_eq_true, Bool.not_eq_false, reduceCtorEq, eq_self, nI_e0, nI_e1, i10, i01, decide_false, decide_true, Bool.false_eq_true, cls_mG, fr_mG, len_mG, h0, c2, g3, ia_mG, bI_f]
  by_cases q1 : yFk (yK1 b sz (G 0) S).1 = 0
  · rw [decide_eq_true q1] at g1
    by_cases q2 : yTk (yK1 b sz (G 0) S).1 = 2
    · by_cases q3 : yVl (yK1 b sz (G 0) S).1 = (yK1 b sz (G 0) S).2
      · have e : yK2 b sz (G 0) S = yErr 2 (yK1 b sz (G 0) S).1 := if_pos ⟨q1, q2, q3⟩
        rw [e] at fin
        simp (disch := omega) only [e138, s138_0, s138_1, s138_2, s138_3, s138_6, s138_7, s138_8, s138_9, s138_10, s138_13, s138_14, s138_15, s138_18, s138_21, s138_22, s138_25, s138_26, s138_29, s138_30, s138_33, s138_34, s138_37, s138_38, s138_39, zcs_0, zcs_1, zcs_2, zcs_3, zcs_4, zcs_5, zcs_6, zcs_7, znl_i, znl_r, znl_n, Bool.and_true, Bool.true_and, zk_v, zk_n, zk_x, zir_r, zir_n, zclr_i, zclr_r, zclr_n, zclr_d, zclr_l, true_and, and_true, and_self, if_true, if_false, reduceIte, nI_add, pk_mul, zin_ok, zx_nI, nI_lt2, nI_le2, nI_eq2, nI_l0, nI_g0, nI_q0, nI_p0, nI_n0, nI_m1, Nat.add_zero, Nat.zero_add, Nat.reduceAdd, Nat.reduceMul, true_or, or_true, znar_50, bI_0, bI_1, bI_z, bft, nI_z0, nI_z1, lgc_lt, lgc_gt, lgc_le, lgc_ge, lgc_eq, not_true_eq_false, not_false_eq_true, Bool.not_eq_true, Bool.not_eq_false, reduceCtorEq, eq_self, nI_e0, nI_e1, i10, i01, decide_false, decide_true, Bool.false_eq_true, cls_mG, fr_mG, len_mG, h0, c1, g1, e1, ia_mG, mG_10, mG_11, q2, q3, bI_t, fin]
      · have e : yK2 b sz (G 0) S = (yK1 b sz (G 0) S).1 := if_neg (fun q => q3 q.2.2)
        rw [e] at fin
        simp (disch := omega) only [e138, s138_0, s138_1, s138_2, s138_3, s138_6, s138_7, s138_8, s138_9, s138_10, s138_13, s138_14, s138_15, s138_18, s138_21, s138_22, s138_25, s138_26, s138_29, s138_30, s138_33, s138_34, s138_37, s138_38, s138_39, zcs_0, zcs_1, zcs_2, zcs_3, zcs_4, zcs_5, zcs_6, zcs_7, znl_i, znl_r, znl_n, Bool.and_true, Bool.true_and, zk_v, zk_n, zk_x, zir_r, zir_n, zclr_i, zclr_r, zclr_n, zclr_d, zclr_l, true_and, and_true, and_self, if_true, if_false, reduceIte, nI_add, pk_mul, zin_ok, zx_nI, nI_lt2, nI_le2, nI_eq2, nI_l0, nI_g0, nI_q0, nI_p0, nI_n0, nI_m1, Nat.add_zero, Nat.zero_add, Nat.reduceAdd, Nat.reduceMul, true_or, or_true, znar_50, bI_0, bI_1, bI_z, bft, nI_z0, nI_z1, lgc_lt, lgc_gt, lgc_le, lgc_ge, lgc_eq, not_true_eq_false, not_false_eq_true, Bool.not_eq_true, Bool.not_eq_false, reduceCtorEq, eq_self, nI_e0, nI_e1, i10, i01, decide_false, decide_true, Bool.false_eq_true, cls_mG, fr_mG, len_mG, h0, c1, g1, ia_mG, mG_10, mG_11, q2, q3, bI_t, fin]
    · have e : yK2 b sz (G 0) S = (yK1 b sz (G 0) S).1 := if_neg (fun q => q2 q.2.1)
      rw [e] at fin
      simp (disch := omega) only [e138, s138_0, s138_1, s138_2, s138_3, s138_6, s138_7, s138_8, s138_9, s138_10, s138_13, s138_14, s138_15, s138_18, s138_21, s138_22, s138_25, s138_26, s138_29, s138_30, s138_33, s138_34, s138_37, s138_38, s138_39, zcs_0, zcs_1, zcs_2, zcs_3, zcs_4, zcs_5, zcs_6, zcs_7, znl_i, znl_r, znl_n, Bool.and_true, Bool.true_and, zk_v, zk_n, zk_x, zir_r, zir_n, zclr_i, zclr_r, zclr_n, zclr_d, zclr_l, true_and, and_true, and_self, if_true, if_false, reduceIte, nI_add, pk_mul, zin_ok, zx_nI, nI_lt2, nI_le2, nI_eq2, nI_l0, nI_g0, nI_q0, nI_p0, nI_n0, nI_m1, Nat.add_zero, Nat.zero_add, Nat.reduceAdd, Nat.reduceMul, true_or, or_true, znar_50, bI_0, bI_1, bI_z, bft, nI_z0, nI_z1, lgc_lt, lgc_gt, lgc_le, lgc_ge, lgc_eq, not_true_eq_false, not_false_eq_true, Bool.not_eq_true, Bool.not_eq_false, reduceCtorEq, eq_self, nI_e0, nI_e1, i10, i01, decide_false, decide_true, Bool.false_eq_true, cls_mG, fr_mG, len_mG, h0, c1, g1, ia_mG, mG_10, mG_11, q2, bI_t, fin]
  · rw [decide_eq_false q1] at g1
    have e : yK2 b sz (G 0) S = (yK1 b sz (G 0) S).1 := if_neg (fun q => q1 q.1)
    rw [e] at fin
    simp (disch := omega) only [e138, s138_0, s138_1, s138_2, s138_3, s138_6, s138_7, s138_8, s138_9, s138_10, s138_13, s138_14, s138_15, s138_18, s138_21, s138_22, s138_25, s138_26, s138_29, s138_30, s138_33, s138_34, s138_37, s138_38, s138_39, zcs_0, zcs_1, zcs_2, zcs_3, zcs_4, zcs_5, zcs_6, zcs_7, znl_i, znl_r, znl_n, Bool.and_true, Bool.true_and, zk_v, zk_n, zk_x, zir_r, zir_n, zclr_i, zclr_r, zclr_n, zclr_d, zclr_l, true_and, and_true, and_self, if_true, if_false, reduceIte, nI_add, pk_mul, zin_ok, zx_nI, nI_lt2, nI_le2, nI_eq2, nI_l0, nI_g0, nI_q0, nI_p0, nI_n0, nI_m1, Nat.add_zero, Nat.zero_add, Nat.reduceAdd, Nat.reduceMul, true_or, or_true, znar_50, bI_0, bI_1, bI_z, bft, nI_z0, nI_z1, lgc_lt, lgc_gt, lgc_le, lgc_ge, lgc_eq, not_true_eq_false, not_false_eq_true, Bool.not_eq_true, Bool.not_eq_false, reduceCtorEq, eq_self, nI_e0, nI_e1, i10, i01, decide_false, decide_true, Bool.false_eq_true, cls_mG, fr_mG, len_mG, h0, c1, g1, ia_mG, bI_f, fin]
end MT3
