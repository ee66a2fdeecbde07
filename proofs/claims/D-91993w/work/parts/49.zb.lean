set_option maxRecDepth 100000
/-! the model: more questions, days, images, the tape -/
theorem lin_ab {x a b : Nat} (hx : x < 2147483648) (ha : a < 2147483648) (hb : b < 2147483648) : linB (nI x).toInt64 (lN a) (lN b) = (decide (a ≤ x) && decide (x ≤ b)) := by
  unfold linB
  rw [← nI_l ha, ← nI_l hb, Bool.eq_iff_iff, Bool.and_eq_true, Bool.and_eq_true, decide_eq_true_iff, decide_eq_true_iff, decide_eq_true_iff, decide_eq_true_iff, lele, lele, nI_leI ha hx, nI_leI hx hb]
theorem lin_m {a : Int32} {m : Nat} (hm : m < 2147483647) : linB a.toInt64 (lN 0) (nI m).toInt64 = zin a (m + 1) := by
  have h5 : nI (m + 1) - nI 1 = nI m := nI_pred m
  rw [← h5]
  exact lin_n (by omega)
def sLate (v : Nat → Nat) (n : Nat) : Nat := cntN (fun i => decide (v (1880 + 5 * i + 3) < v 6)) n
def sSee (v : Nat → Nat) (a : Int32) (j n : Nat) : Nat := cntN (fun i => (decide (2 ≤ v (6680 + 4 * i + 2)) && decide (v (6680 + 4 * i + 2) ≤ 3)) && decide (nI (v (6680 + 4 * i + j)) = a)) n
def rHouse (v : Nat → Nat) (a w : Int32) : Int32 := if (zin a (v 0) && zin w 9) = true then (if zx w < 7 then nI (v (10 + 9 * zx a + zx w)) else nI (sSee v a (zx w - 7) (v 8))) else -2000000000
def rCount (v : Nat → Nat) (tp : Int32) (ns : Nat) (a : Int32) : Int32 := if zin a 11 = true then [nI (v 0), nI (v 1), nI (v 6), nI (v 7), nI (sLate v (v 7)), nI (v 8), nI (v 9), tp, nI (v 5), nI (v 4), nI ns].getD (zx a) 0 else -1
def rDays (v : Nat → Nat) (n : Int32) : Int32 × (Nat → Nat) := if (zin n 61 && decide (v 6 + zx n ≤ 399)) = true then (nI (v 6 + zx n), zu1 v 6 (v 6 + zx n)) else (-2, v)
def rOwes (v : Nat → Nat) (L : Nat → List (Nat × Nat)) (a b p : Int32) : Int32 := if (are2 v a b && zin p 4) = true then
    (if sLine v (ptC v (zx a) (zx b) (v 6)) L (zx p) = v 1 then -1 else if sOwe v (zx b) (zx a) (v (154 + 5 * sLine v (ptC v (zx a) (zx b) (v 6)) L (zx p) + 1)) = true then -1 else nI (v (154 + 5 * sLine v (ptC v (zx a) (zx b) (v 6)) L (zx p) + 1))) else -2
theorem ztsw_n {ts : List Nat} {df k : Nat} (hk : k < 2147483648) : ztsw ts df (nI k) = ts.getD k df := by
  unfold ztsw
  rw [if_neg (nI_pos hk), nI_clamp hk]
theorem ztsw_o {ts : List Nat} {df : Nat} {a : Int32} (h : zin a ts.length = false) : ztsw ts df a = df := by
  unfold ztsw
  by_cases h1 : a < 0
  · rw [if_pos h1]
  · rw [if_neg h1]
    obtain ⟨j, hj, rfl⟩ := nI_of h1
    rw [zin_nI hj] at h
    rw [nI_clamp hj]
    have := of_decide_eq_false h
    rw [List.getD_eq_getElem?_getD, List.getElem?_eq_none (by omega)]
    rfl
section MH
variable {d : Nat} {z : ZH} {Q : ZQ} {v : Nat → Nat} {L : Nat → List (Nat × Nat)}
theorem m175 (hM : MS z) (hv : ∀ i, v i < 2147483648) (h7 : v 7 ≤ 960) (h16 : v 0 ≤ 16) : ZC zG (d + 2) 175 [.ref 135] (sW z v) Q = Q (.inl (some (.int (oI (sFirst v (v 0)).1)))) (sW z v) := by
  have h0 := hM
  unfold MS at h0
  have key : ∀ m h (x4 : Value), h + m = v 0 → ZW zG (d + 2) 175 6 [.ref 135, .int (oI (sFirst v h).1), .int (nI (sFirst v h).2), .int (nI h), x4] [] (sW z v) Q = Q (.inl (some (.int (oI (sFirst v (v 0)).1)))) (sW z v) := by
    intro m
    induction m with
    | zero =>
      intro h x4 hh
      have : h = v 0 := by omega
      subst this
      refine s175_6.trans ?_
      simp (disch := first | omega | exact hM | exact hv _ | (simp only [MS_sW, MS_sfi, MS_sia, MS_sIA, MS_sla, MS_sLA, MS_sls]; exact hM)) only [s175_0, s175_1, s175_2, s175_3, s175_4, s175_5, s175_7, s175_8, s175_11, s175_12, s175_13, s175_16, s175_17, s175_18, s175_21, s175_23, s175_25, s175_28, s175_30, s175_31, s175_34, s175_36, s175_37, s175_40, s175_41, s175_42, s175_43, s175_46, s175_47, s175_48, s175_49, s175_52, s175_55, s175_58, s175_59, s175_60, s175_62, s175_63, s175_66, s175_69, s175_70, zcs_0, zcs_1, zcs_2, zcs_3, zcs_4, zcs_5, zcs_6, zcs_7, znl_i, znl_r, znl_n, Bool.and_true, Bool.true_and, zk_v, zk_n, zk_x, zir_r, zir_n, zclr_i, zclr_r, zclr_n, zclr_d, zclr_l, true_and, and_true, and_self, if_true, if_false, reduceIte, nI_add, pk_mul, zin_ok, zx_nI, nI_lt2, nI_le2, nI_eq2, nI_l0, nI_g0, nI_q0, nI_p0, nI_n0, nI_m1, Nat.add_zero, Nat.zero_add, Nat.reduceAdd, Nat.reduceMul, true_or, or_true, znar_50, bI_0, bI_1, bI_z, bft, nI_z0, nI_z1, lgc_lt, lgc_gt, lgc_le, lgc_ge, lgc_eq, not_true_eq_false, not_false_eq_true, Bool.not_eq_true, Bool.not_eq_false, reduceCtorEq, MS_sW, CS_sW, sW_r, sW_n, sW_w, cls_sW, fi_sW, fr_sW, la_sW, ra_sW, len_sW, ls_sW, own_sW, n_sW, uc_sW, us_sW, sW_sfi, sW_sla, sW_sLA, sW_sls, sW_spay, sW_sia, sW_sIA, ne_eq, cls_sfi, fr_sfi, ia_sfi, la_sfi, ra_sfi, len_sfi, ls_sfi, own_sfi, n_sfi, uc_sfi, us_sfi, cls_sia, fi_sia, fr_sia, la_sia, ra_sia, len_sia, ls_sia, own_sia, n_sia, uc_sia, us_sia, cls_sIA, fi_sIA, fr_sIA, la_sIA, ra_sIA, len_sIA, ls_sIA, own_sIA, n_sIA, uc_sIA, us_sIA, cls_sla, fi_sla, fr_sla, ia_sla, ra_sla, len_sla, ls_sla, own_sla, n_sla, uc_sla, us_sla, cls_sLA, fi_sLA, fr_sLA, ia_sLA, ra_sLA, len_sLA, ls_sLA, own_sLA, n_sLA, uc_sLA, us_sLA, h0, Nat.le_refl]
    | succ m ih =>
      intro h x4 hh
      have h1 : ¬ v 0 ≤ h := by omega
      have hs : sFirst v (h + 1) = match sFirst v h with | (b, m) => if sSli v (nI h) (v 7) = 0 ∨ sSli v (nI h) (v 7) < m ∨ (sSli v (nI h) (v 7) = m ∧ v (10 + 9 * h + 2) ≤ v (10 + 9 * (b.getD 0) + 2)) then (b, m) else (some h, sSli v (nI h) (v 7)) := rfl
      have hN : sSli v (nI h) (v 7) < 2147483648 := by have := cntN_le (fun i => decide (nI (v (1880 + 5 * i + 1)) = nI h) && decide (v (1880 + 5 * i + 3) < v 6)) (v 7); unfold sSli; omega
      have ih2 := fun x => ih (h + 1) x (by omega)
      refine s175_6.trans ?_
      cases e : sFirst v h with
      | mk b mo =>
        rw [e] at hs
        dsimp only at hs
        have hmo : mo < 2147483648 := by
          have gen : ∀ k b m, sFirst v k = (b, m) → m < 2147483648 := by
            intro k
            induction k with
            | zero => intro b m h; cases h; omega
            | succ k ihk =>
              intro b m h
              unfold sFirst at h
              cases e2 : sFirst v k with
              | mk b2 m2 =>
                rw [e2] at h
                dsimp only at h
                split at h
                · cases h; exact ihk _ _ e2
                · cases h
                  have := cntN_le (fun i => decide (nI (v (1880 + 5 * i + 1)) = nI k) && decide (v (1880 + 5 * i + 3) < v 6)) (v 7)
                  unfold sSli
                  omega
          exact gen h b mo e
        by_cases c1 : sSli v (nI h) (v 7) = 0
        · rw [if_pos (Or.inl c1)] at hs
          rw [hs] at ih2
          simp (disch := first | omega | exact hM | exact hv _ | (simp only [MS_sW, MS_sfi, MS_sia, MS_sIA, MS_sla, MS_sLA, MS_sls]; exact hM)) only [s175_0, s175_1, s175_2, s175_3, s175_4, s175_5, s175_7, s175_8, s175_11, s175_12, s175_13, s175_16, s175_17, s175_18, s175_21, s175_23, s175_25, s175_28, s175_30, s175_31, s175_34, s175_36, s175_37, s175_40, s175_41, s175_42, s175_43, s175_46, s175_47, s175_48, s175_49, s175_52, s175_55, s175_58, s175_59, s175_60, s175_62, s175_63, s175_66, s175_69, s175_70, zcs_0, zcs_1, zcs_2, zcs_3, zcs_4, zcs_5, zcs_6, zcs_7, znl_i, znl_r, znl_n, Bool.and_true, Bool.true_and, zk_v, zk_n, zk_x, zir_r, zir_n, zclr_i, zclr_r, zclr_n, zclr_d, zclr_l, true_and, and_true, and_self, if_true, if_false, reduceIte, nI_add, pk_mul, zin_ok, zx_nI, nI_lt2, nI_le2, nI_eq2, nI_l0, nI_g0, nI_q0, nI_p0, nI_n0, nI_m1, Nat.add_zero, Nat.zero_add, Nat.reduceAdd, Nat.reduceMul, true_or, or_true, znar_50, bI_0, bI_1, bI_z, bft, nI_z0, nI_z1, lgc_lt, lgc_gt, lgc_le, lgc_ge, lgc_eq, not_true_eq_false, not_false_eq_true, Bool.not_eq_true, Bool.not_eq_false, reduceCtorEq, MS_sW, CS_sW, sW_r, sW_n, sW_w, cls_sW, fi_sW, fr_sW, la_sW, ra_sW, len_sW, ls_sW, own_sW, n_sW, uc_sW, us_sW, sW_sfi, sW_sla, sW_sLA, sW_sls, sW_spay, sW_sia, sW_sIA, ne_eq, cls_sfi, fr_sfi, ia_sfi, la_sfi, ra_sfi, len_sfi, ls_sfi, own_sfi, n_sfi, uc_sfi, us_sfi, cls_sia, fi_sia, fr_sia, la_sia, ra_sia, len_sia, ls_sia, own_sia, n_sia, uc_sia, us_sia, cls_sIA, fi_sIA, fr_sIA, la_sIA, ra_sIA, len_sIA, ls_sIA, own_sIA, n_sIA, uc_sIA, us_sIA, cls_sla, fi_sla, fr_sla, ia_sla, ra_sla, len_sla, ls_sla, own_sla, n_sla, uc_sla, us_sla, cls_sLA, fi_sLA, fr_sLA, ia_sLA, ra_sLA, len_sLA, ls_sLA, own_sLA, n_sLA, uc_sLA, us_sLA, h0, h1, m174, c1]
          exact ih2 _
        · by_cases c2 : sSli v (nI h) (v 7) < mo
          · rw [if_pos (Or.inr (Or.inl c2))] at hs
            rw [hs] at ih2
            simp (disch := first | omega | exact hM | exact hv _ | (simp only [MS_sW, MS_sfi, MS_sia, MS_sIA, MS_sla, MS_sLA, MS_sls]; exact hM)) only [s175_0, s175_1, s175_2, s175_3, s175_4, s175_5, s175_7, s175_8, s175_11, s175_12, s175_13, s175_16, s175_17, s175_18, s175_21, s175_23, s175_25, s175_28, s175_30, s175_31, s175_34, s175_36, s175_37, s175_40, s175_41, s175_42, s175_43, s175_46, s175_47, s175_48, s175_49, s175_52, s175_55, s175_58, s175_59, s175_60, s175_62, s175_63, s175_66, s175_69, s175_70, zcs_0, zcs_1, zcs_2, zcs_3, zcs_4, zcs_5, zcs_6, zcs_7, znl_i, znl_r, znl_n, Bool.and_true, Bool.true_and, zk_v, zk_n, zk_x, zir_r, zir_n, zclr_i, zclr_r, zclr_n, zclr_d, zclr_l, true_and, and_true, and_self, if_true, if_false, reduceIte, nI_add, pk_mul, zin_ok, zx_nI, nI_lt2, nI_le2, nI_eq2, nI_l0, nI_g0, nI_q0, nI_p0, nI_n0, nI_m1, Nat.add_zero, Nat.zero_add, Nat.reduceAdd, Nat.reduceMul, true_or, or_true, znar_50, bI_0, bI_1, bI_z, bft, nI_z0, nI_z1, lgc_lt, lgc_gt, lgc_le, lgc_ge, lgc_eq, not_true_eq_false, not_false_eq_true, Bool.not_eq_true, Bool.not_eq_false, reduceCtorEq, MS_sW, CS_sW, sW_r, sW_n, sW_w, cls_sW, fi_sW, fr_sW, la_sW, ra_sW, len_sW, ls_sW, own_sW, n_sW, uc_sW, us_sW, sW_sfi, sW_sla, sW_sLA, sW_sls, sW_spay, sW_sia, sW_sIA, ne_eq, cls_sfi, fr_sfi, ia_sfi, la_sfi, ra_sfi, len_sfi, ls_sfi, own_sfi, n_sfi, uc_sfi, us_sfi, cls_sia, fi_sia, fr_sia, la_sia, ra_sia, len_sia, ls_sia, own_sia, n_sia, uc_sia, us_sia, cls_sIA, fi_sIA, fr_sIA, la_sIA, ra_sIA, len_sIA, ls_sIA, own_sIA, n_sIA, uc_sIA, us_sIA, cls_sla, fi_sla, fr_sla, ia_sla, ra_sla, len_sla, ls_sla, own_sla, n_sla, uc_sla, us_sla, cls_sLA, fi_sLA, fr_sLA, ia_sLA, ra_sLA, len_sLA, ls_sLA, own_sLA, n_sLA, uc_sLA, us_sLA, h0, h1, m174, c1, c2]
            exact ih2 _
          · by_cases c3 : sSli v (nI h) (v 7) = mo
            · cases b with
              | none => exact absurd (sFirst_none v h mo e) (by omega)
              | some b =>
                have hb := sFirst_lt v h b mo e
                simp only [Option.getD_some] at hs
                have c6 : ¬ mo = 0 := by omega
                by_cases c4 : v (10 + 9 * h + 2) ≤ v (10 + 9 * b + 2)
                · rw [if_pos (Or.inr (Or.inr ⟨c3, c4⟩))] at hs
                  rw [hs] at ih2
                  have c5 : ¬ v (10 + 9 * b + 2) < v (10 + 9 * h + 2) := by omega
                  simp only [oI] at ih2 ⊢
                  simp (disch := first | omega | exact hM | exact hv _ | (simp only [MS_sW, MS_sfi, MS_sia, MS_sIA, MS_sla, MS_sLA, MS_sls]; exact hM)) only [s175_0, s175_1, s175_2, s175_3, s175_4, s175_5, s175_7, s175_8, s175_11, s175_12, s175_13, s175_16, s175_17, s175_18, s175_21, s175_23, s175_25, s175_28, s175_30, s175_31, s175_34, s175_36, s175_37, s175_40, s175_41, s175_42, s175_43, s175_46, s175_47, s175_48, s175_49, s175_52, s175_55, s175_58, s175_59, s175_60, s175_62, s175_63, s175_66, s175_69, s175_70, zcs_0, zcs_1, zcs_2, zcs_3, zcs_4, zcs_5, zcs_6, zcs_7, znl_i, znl_r, znl_n, Bool.and_true, Bool.true_and, zk_v, zk_n, zk_x, zir_r, zir_n, zclr_i, zclr_r, zclr_n, zclr_d, zclr_l, true_and, and_true, and_self, if_true, if_false, reduceIte, nI_add, pk_mul, zin_ok, zx_nI, nI_lt2, nI_le2, nI_eq2, nI_l0, nI_g0, nI_q0, nI_p0, nI_n0, nI_m1, Nat.add_zero, Nat.zero_add, Nat.reduceAdd, Nat.reduceMul, true_or, or_true, znar_50, bI_0, bI_1, bI_z, bft, nI_z0, nI_z1, lgc_lt, lgc_gt, lgc_le, lgc_ge, lgc_eq, not_true_eq_false, not_false_eq_true, Bool.not_eq_true, Bool.not_eq_false, reduceCtorEq, MS_sW, CS_sW, sW_r, sW_n, sW_w, cls_sW, fi_sW, fr_sW, la_sW, ra_sW, len_sW, ls_sW, own_sW, n_sW, uc_sW, us_sW, sW_sfi, sW_sla, sW_sLA, sW_sls, sW_spay, sW_sia, sW_sIA, ne_eq, cls_sfi, fr_sfi, ia_sfi, la_sfi, ra_sfi, len_sfi, ls_sfi, own_sfi, n_sfi, uc_sfi, us_sfi, cls_sia, fi_sia, fr_sia, la_sia, ra_sia, len_sia, ls_sia, own_sia, n_sia, uc_sia, us_sia, cls_sIA, fi_sIA, fr_sIA, la_sIA, ra_sIA, len_sIA, ls_sIA, own_sIA, n_sIA, uc_sIA, us_sIA, cls_sla, fi_sla, fr_sla, ia_sla, ra_sla, len_sla, ls_sla, own_sla, n_sla, uc_sla, us_sla, cls_sLA, fi_sLA, fr_sLA, ia_sLA, ra_sLA, len_sLA, ls_sLA, own_sLA, n_sLA, uc_sLA, us_sLA, h0, h1, m174, c3, c5, c6, m139, Nat.lt_irrefl]
                  exact ih2 _
                · rw [if_neg (by omega)] at hs
                  rw [hs] at ih2
                  have c5 : v (10 + 9 * b + 2) < v (10 + 9 * h + 2) := by omega
                  simp only [oI] at ih2 ⊢
                  rw [c3] at ih2
                  simp (disch := first | omega | exact hM | exact hv _ | (simp only [MS_sW, MS_sfi, MS_sia, MS_sIA, MS_sla, MS_sLA, MS_sls]; exact hM)) only [s175_0, s175_1, s175_2, s175_3, s175_4, s175_5, s175_7, s175_8, s175_11, s175_12, s175_13, s175_16, s175_17, s175_18, s175_21, s175_23, s175_25, s175_28, s175_30, s175_31, s175_34, s175_36, s175_37, s175_40, s175_41, s175_42, s175_43, s175_46, s175_47, s175_48, s175_49, s175_52, s175_55, s175_58, s175_59, s175_60, s175_62, s175_63, s175_66, s175_69, s175_70, zcs_0, zcs_1, zcs_2, zcs_3, zcs_4, zcs_5, zcs_6, zcs_7, znl_i, znl_r, znl_n, Bool.and_true, Bool.true_and, zk_v, zk_n, zk_x, zir_r, zir_n, zclr_i, zclr_r, zclr_n, zclr_d, zclr_l, true_and, and_true, and_self, if_true, if_false, reduceIte, nI_add, pk_mul, zin_ok, zx_nI, nI_lt2, nI_le2, nI_eq2, nI_l0, nI_g0, nI_q0, nI_p0, nI_n0, nI_m1, Nat.add_zero, Nat.zero_add, Nat.reduceAdd, Nat.reduceMul, true_or, or_true, znar_50, bI_0, bI_1, bI_z, bft, nI_z0, nI_z1, lgc_lt, lgc_gt, lgc_le, lgc_ge, lgc_eq, not_true_eq_false, not_false_eq_true, Bool.not_eq_true, Bool.not_eq_false, reduceCtorEq, MS_sW, CS_sW, sW_r, sW_n, sW_w, cls_sW, fi_sW, fr_sW, la_sW, ra_sW, len_sW, ls_sW, own_sW, n_sW, uc_sW, us_sW, sW_sfi, sW_sla, sW_sLA, sW_sls, sW_spay, sW_sia, sW_sIA, ne_eq, cls_sfi, fr_sfi, ia_sfi, la_sfi, ra_sfi, len_sfi, ls_sfi, own_sfi, n_sfi, uc_sfi, us_sfi, cls_sia, fi_sia, fr_sia, la_sia, ra_sia, len_sia, ls_sia, own_sia, n_sia, uc_sia, us_sia, cls_sIA, fi_sIA, fr_sIA, la_sIA, ra_sIA, len_sIA, ls_sIA, own_sIA, n_sIA, uc_sIA, us_sIA, cls_sla, fi_sla, fr_sla, ia_sla, ra_sla, len_sla, ls_sla, own_sla, n_sla, uc_sla, us_sla, cls_sLA, fi_sLA, fr_sLA, ia_sLA, ra_sLA, len_sLA, ls_sLA, own_sLA, n_sLA, uc_sLA, us_sLA, h0, h1, m174, c3, c5, c6, m139, Nat.lt_irrefl]
                  exact ih2 _
            · rw [if_neg (by omega)] at hs
              rw [hs] at ih2
              simp (disch := first | omega | exact hM | exact hv _ | (simp only [MS_sW, MS_sfi, MS_sia, MS_sIA, MS_sla, MS_sLA, MS_sls]; exact hM)) only [s175_0, s175_1, s175_2, s175_3, s175_4, s175_5, s175_7, s175_8, s175_11, s175_12, s175_13, s175_16, s175_17, s175_18, s175_21, s175_23, s175_25, s175_28, s175_30, s175_31, s175_34, s175_36, s175_37, s175_40, s175_41, s175_42, s175_43, s175_46, s175_47, s175_48, s175_49, s175_52, s175_55, s175_58, s175_59, s175_60, s175_62, s175_63, s175_66, s175_69, s175_70, zcs_0, zcs_1, zcs_2, zcs_3, zcs_4, zcs_5, zcs_6, zcs_7, znl_i, znl_r, znl_n, Bool.and_true, Bool.true_and, zk_v, zk_n, zk_x, zir_r, zir_n, zclr_i, zclr_r, zclr_n, zclr_d, zclr_l, true_and, and_true, and_self, if_true, if_false, reduceIte, nI_add, pk_mul, zin_ok, zx_nI, nI_lt2, nI_le2, nI_eq2, nI_l0, nI_g0, nI_q0, nI_p0, nI_n0, nI_m1, Nat.add_zero, Nat.zero_add, Nat.reduceAdd, Nat.reduceMul, true_or, or_true, znar_50, bI_0, bI_1, bI_z, bft, nI_z0, nI_z1, lgc_lt, lgc_gt, lgc_le, lgc_ge, lgc_eq, not_true_eq_false, not_false_eq_true, Bool.not_eq_true, Bool.not_eq_false, reduceCtorEq, MS_sW, CS_sW, sW_r, sW_n, sW_w, cls_sW, fi_sW, fr_sW, la_sW, ra_sW, len_sW, ls_sW, own_sW, n_sW, uc_sW, us_sW, sW_sfi, sW_sla, sW_sLA, sW_sls, sW_spay, sW_sia, sW_sIA, ne_eq, cls_sfi, fr_sfi, ia_sfi, la_sfi, ra_sfi, len_sfi, ls_sfi, own_sfi, n_sfi, uc_sfi, us_sfi, cls_sia, fi_sia, fr_sia, la_sia, ra_sia, len_sia, ls_sia, own_sia, n_sia, uc_sia, us_sia, cls_sIA, fi_sIA, fr_sIA, la_sIA, ra_sIA, len_sIA, ls_sIA, own_sIA, n_sIA, uc_sIA, us_sIA, cls_sla, fi_sla, fr_sla, ia_sla, ra_sla, len_sla, ls_sla, own_sla, n_sla, uc_sla, us_sla, cls_sLA, fi_sLA, fr_sLA, ia_sLA, ra_sLA, len_sLA, ls_sLA, own_sLA, n_sLA, uc_sLA, us_sLA, h0, h1, m174, c1, c2, c3]
              exact ih2 _
  simp (disch := first | omega | exact hM | exact hv _ | (simp only [MS_sW, MS_sfi, MS_sia, MS_sIA, MS_sla, MS_sLA, MS_sls]; exact hM)) only [e175, s175_0, s175_1, s175_2, s175_3, s175_4, s175_5, s175_7, s175_8, s175_11, s175_12, s175_13, s175_16, s175_17, s175_18, s175_21, s175_23, s175_25, s175_28, s175_30, s175_31, s175_34, s175_36, s175_37, s175_40, s175_41, s175_42, s175_43, s175_46, s175_47, s175_48, s175_49, s175_52, s175_55, s175_58, s175_59, s175_60, s175_62, s175_63, s175_66, s175_69, s175_70, zcs_0, zcs_1, zcs_2, zcs_3, zcs_4, zcs_5, zcs_6, zcs_7, znl_i, znl_r, znl_n, Bool.and_true, Bool.true_and, zk_v, zk_n, zk_x, zir_r, zir_n, zclr_i, zclr_r, zclr_n, zclr_d, zclr_l, true_and, and_true, and_self, if_true, if_false, reduceIte]
  exact key (v 0) 0 zdum (by omega)

theorem m118 (hM : MS z) {w : Int32} : ZC zG d 118 [.ref 135, .int w] z Q = Q (.inl (some (.int (if w = 0 then zfi z 135 12 else if w = nI 1 then zfi z 135 13 else -1)))) z := by
  have h0 := hM
  unfold MS at h0
  simp (disch := first | omega | exact hM | exact hv _ | (simp only [MS_sW, MS_sfi, MS_sia, MS_sIA, MS_sla, MS_sLA, MS_sls]; exact hM)) only [e118, s118_0, s118_1, s118_4, s118_5, s118_8, s118_11, s118_12, s118_13, s118_16, s118_17, s118_20, s118_23, s118_24, zcs_0, zcs_1, zcs_2, zcs_3, zcs_4, zcs_5, zcs_6, zcs_7, znl_i, znl_r, znl_n, Bool.and_true, Bool.true_and, zk_v, zk_n, zk_x, zir_r, zir_n, zclr_i, zclr_r, zclr_n, zclr_d, zclr_l, true_and, and_true, and_self, if_true, if_false, reduceIte, h0]
  by_cases c : w = 0
  · simp only [c, not_true_eq_false, if_false, if_true]
  · by_cases c2 : w = nI 1
    · simp only [c, c2, not_true_eq_false, not_false_eq_true, if_false, if_true]
      simp [nI_one]
    · simp only [c, c2, not_true_eq_false, not_false_eq_true, if_false, if_true]
theorem m117 (hM : MS z) {n : Int32} {tp : Nat} (ht : tp ≤ 1400) (hp : zfi z 135 5 = nI tp) : ZC zG (d + 1) 117 [.ref 135, .int n] z Q = if zin n (tp + 1) = true then Q (.inl (some (.int n))) (sfi z 135 5 n) else Q (.inl (some (.int (-1)))) z := by
  have h0 := hM
  unfold MS at h0
  simp (disch := first | omega | exact hM | exact hv _ | (simp only [MS_sW, MS_sfi, MS_sia, MS_sIA, MS_sla, MS_sLA, MS_sls]; exact hM)) only [e117, s117_0, s117_1, s117_2, s117_3, s117_4, s117_7, s117_8, s117_11, s117_14, s117_15, s117_16, s117_17, s117_18, s117_21, s117_22, zcs_0, zcs_1, zcs_2, zcs_3, zcs_4, zcs_5, zcs_6, zcs_7, znl_i, znl_r, znl_n, Bool.and_true, Bool.true_and, zk_v, zk_n, zk_x, zir_r, zir_n, zclr_i, zclr_r, zclr_n, zclr_d, zclr_l, true_and, and_true, and_self, if_true, if_false, reduceIte, nI_add, pk_mul, zin_ok, zx_nI, nI_lt2, nI_le2, nI_eq2, nI_l0, nI_g0, nI_q0, nI_p0, nI_n0, nI_m1, Nat.add_zero, Nat.zero_add, Nat.reduceAdd, Nat.reduceMul, true_or, or_true, znar_50, bI_0, bI_1, bI_z, bft, nI_z0, nI_z1, lgc_lt, lgc_gt, lgc_le, lgc_ge, lgc_eq, not_true_eq_false, not_false_eq_true, Bool.not_eq_true, Bool.not_eq_false, reduceCtorEq, h0, hp, m114, lin_m]
theorem m140 (hM : MS z) (hv : ∀ i, v i < 1073741824) {n : Int32} : ZC zG (d + 1) 140 [.ref 135, .int n] (sW z v) Q = Q (.inl (some (.int (rDays v n).1))) (sW z (rDays v n).2) := by
  have h0 := hM
  unfold MS at h0
  have b6 := hv 6
  simp (disch := first | omega | exact hM | exact hv _ | (simp only [MS_sW, MS_sfi, MS_sia, MS_sIA, MS_sla, MS_sLA, MS_sls]; exact hM)) only [s140_0, s140_1, s140_2, s140_3, s140_6, s140_9, e140, zcs_0, zcs_1, zcs_2, zcs_3, zcs_4, zcs_5, zcs_6, zcs_7, znl_i, znl_r, znl_n, Bool.and_true, Bool.true_and, zk_v, zk_n, zk_x, zir_r, zir_n, zclr_i, zclr_r, zclr_n, zclr_d, zclr_l, true_and, and_true, and_self, if_true, if_false, reduceIte, nI_add, pk_mul, zin_ok, zx_nI, nI_lt2, nI_le2, nI_eq2, nI_l0, nI_g0, nI_q0, nI_p0, nI_n0, nI_m1, Nat.add_zero, Nat.zero_add, Nat.reduceAdd, Nat.reduceMul, true_or, or_true, znar_50, bI_0, bI_1, bI_z, bft, nI_z0, nI_z1, lgc_lt, lgc_gt, lgc_le, lgc_ge, lgc_eq, not_true_eq_false, not_false_eq_true, Bool.not_eq_true, Bool.not_eq_false, reduceCtorEq, h0, MS_sW, CS_sW, sW_r, sW_n, sW_w, cls_sW, fi_sW, fr_sW, la_sW, ra_sW, len_sW, ls_sW, own_sW, n_sW, uc_sW, us_sW, sW_sfi, sW_sla, sW_sLA, sW_sls, sW_spay, sW_sia, sW_sIA, ne_eq, cls_sfi, fr_sfi, ia_sfi, la_sfi, ra_sfi, len_sfi, ls_sfi, own_sfi, n_sfi, uc_sfi, us_sfi, cls_sia, fi_sia, fr_sia, la_sia, ra_sia, len_sia, ls_sia, own_sia, n_sia, uc_sia, us_sia, cls_sIA, fi_sIA, fr_sIA, la_sIA, ra_sIA, len_sIA, ls_sIA, own_sIA, n_sIA, uc_sIA, us_sIA, cls_sla, fi_sla, fr_sla, ia_sla, ra_sla, len_sla, ls_sla, own_sla, n_sla, uc_sla, us_sla, cls_sLA, fi_sLA, fr_sLA, ia_sLA, ra_sLA, len_sLA, ls_sLA, own_sLA, n_sLA, uc_sLA, us_sLA, m114, lin_c]
  unfold rDays
  cases hz : zin n 61
  · simp (disch := first | omega | exact hM | exact hv _ | (simp only [MS_sW, MS_sfi, MS_sia, MS_sIA, MS_sla, MS_sLA, MS_sls]; exact hM)) only [s140_12, s140_13, s140_16, s140_17, s140_18, s140_21, s140_24, s140_26, s140_27, s140_28, s140_31, s140_33, s140_34, s140_35, s140_36, s140_37, s140_38, s140_39, s140_42, zcs_0, zcs_1, zcs_2, zcs_3, zcs_4, zcs_5, zcs_6, zcs_7, znl_i, znl_r, znl_n, Bool.and_true, Bool.true_and, zk_v, zk_n, zk_x, zir_r, zir_n, zclr_i, zclr_r, zclr_n, zclr_d, zclr_l, true_and, and_true, and_self, if_true, if_false, reduceIte, nI_add, pk_mul, zin_ok, zx_nI, nI_lt2, nI_le2, nI_eq2, nI_l0, nI_g0, nI_q0, nI_p0, nI_n0, nI_m1, Nat.add_zero, Nat.zero_add, Nat.reduceAdd, Nat.reduceMul, true_or, or_true, znar_50, bI_0, bI_1, bI_z, bft, nI_z0, nI_z1, lgc_lt, lgc_gt, lgc_le, lgc_ge, lgc_eq, not_true_eq_false, not_false_eq_true, Bool.not_eq_true, Bool.not_eq_false, reduceCtorEq, Bool.false_and, Bool.false_eq_true, if_false]
  · obtain ⟨k, hk, hk2, rfl⟩ := zin_of hz
    rw [zx_nI hk2]
    by_cases c : v 6 + k ≤ 399
    · simp (disch := first | omega | exact hM | exact hv _ | (simp only [MS_sW, MS_sfi, MS_sia, MS_sIA, MS_sla, MS_sLA, MS_sls]; exact hM)) only [s140_12, s140_13, s140_16, s140_17, s140_18, s140_21, s140_24, s140_26, s140_27, s140_28, s140_31, s140_33, s140_34, s140_35, s140_36, s140_37, s140_38, s140_39, s140_42, zcs_0, zcs_1, zcs_2, zcs_3, zcs_4, zcs_5, zcs_6, zcs_7, znl_i, znl_r, znl_n, Bool.and_true, Bool.true_and, zk_v, zk_n, zk_x, zir_r, zir_n, zclr_i, zclr_r, zclr_n, zclr_d, zclr_l, true_and, and_true, and_self, if_true, if_false, reduceIte, nI_add, pk_mul, zin_ok, zx_nI, nI_lt2, nI_le2, nI_eq2, nI_l0, nI_g0, nI_q0, nI_p0, nI_n0, nI_m1, Nat.add_zero, Nat.zero_add, Nat.reduceAdd, Nat.reduceMul, true_or, or_true, znar_50, bI_0, bI_1, bI_z, bft, nI_z0, nI_z1, lgc_lt, lgc_gt, lgc_le, lgc_ge, lgc_eq, not_true_eq_false, not_false_eq_true, Bool.not_eq_true, Bool.not_eq_false, reduceCtorEq, h0, MS_sW, CS_sW, sW_r, sW_n, sW_w, cls_sW, fi_sW, fr_sW, la_sW, ra_sW, len_sW, ls_sW, own_sW, n_sW, uc_sW, us_sW, sW_sfi, sW_sla, sW_sLA, sW_sls, sW_spay, sW_sia, sW_sIA, ne_eq, cls_sfi, fr_sfi, ia_sfi, la_sfi, ra_sfi, len_sfi, ls_sfi, own_sfi, n_sfi, uc_sfi, us_sfi, cls_sia, fi_sia, fr_sia, la_sia, ra_sia, len_sia, ls_sia, own_sia, n_sia, uc_sia, us_sia, cls_sIA, fi_sIA, fr_sIA, la_sIA, ra_sIA, len_sIA, ls_sIA, own_sIA, n_sIA, uc_sIA, us_sIA, cls_sla, fi_sla, fr_sla, ia_sla, ra_sla, len_sla, ls_sla, own_sla, n_sla, uc_sla, us_sla, cls_sLA, fi_sLA, fr_sLA, ia_sLA, ra_sLA, len_sLA, ls_sLA, own_sLA, n_sLA, uc_sLA, us_sLA, m141, c, decide_true, Bool.and_self, if_true, zu1_s]
    · simp (disch := first | omega | exact hM | exact hv _ | (simp only [MS_sW, MS_sfi, MS_sia, MS_sIA, MS_sla, MS_sLA, MS_sls]; exact hM)) only [s140_12, s140_13, s140_16, s140_17, s140_18, s140_21, s140_24, s140_26, s140_27, s140_28, s140_31, s140_33, s140_34, s140_35, s140_36, s140_37, s140_38, s140_39, s140_42, zcs_0, zcs_1, zcs_2, zcs_3, zcs_4, zcs_5, zcs_6, zcs_7, znl_i, znl_r, znl_n, Bool.and_true, Bool.true_and, zk_v, zk_n, zk_x, zir_r, zir_n, zclr_i, zclr_r, zclr_n, zclr_d, zclr_l, true_and, and_true, and_self, if_true, if_false, reduceIte, nI_add, pk_mul, zin_ok, zx_nI, nI_lt2, nI_le2, nI_eq2, nI_l0, nI_g0, nI_q0, nI_p0, nI_n0, nI_m1, Nat.add_zero, Nat.zero_add, Nat.reduceAdd, Nat.reduceMul, true_or, or_true, znar_50, bI_0, bI_1, bI_z, bft, nI_z0, nI_z1, lgc_lt, lgc_gt, lgc_le, lgc_ge, lgc_eq, not_true_eq_false, not_false_eq_true, Bool.not_eq_true, Bool.not_eq_false, reduceCtorEq, h0, MS_sW, CS_sW, sW_r, sW_n, sW_w, cls_sW, fi_sW, fr_sW, la_sW, ra_sW, len_sW, ls_sW, own_sW, n_sW, uc_sW, us_sW, sW_sfi, sW_sla, sW_sLA, sW_sls, sW_spay, sW_sia, sW_sIA, ne_eq, cls_sfi, fr_sfi, ia_sfi, la_sfi, ra_sfi, len_sfi, ls_sfi, own_sfi, n_sfi, uc_sfi, us_sfi, cls_sia, fi_sia, fr_sia, la_sia, ra_sia, len_sia, ls_sia, own_sia, n_sia, uc_sia, us_sia, cls_sIA, fi_sIA, fr_sIA, la_sIA, ra_sIA, len_sIA, ls_sIA, own_sIA, n_sIA, uc_sIA, us_sIA, cls_sla, fi_sla, fr_sla, ia_sla, ra_sla, len_sla, ls_sla, own_sla, n_sla, uc_sla, us_sla, cls_sLA, fi_sLA, fr_sLA, ia_sLA, ra_sLA, len_sLA, ls_sLA, own_sLA, n_sLA, uc_sLA, us_sLA, m141, c, decide_false, Bool.and_false, Bool.false_eq_true, if_false]

end MH
