set_option maxRecDepth 100000
/-! the model: the tape, rows of numbers -/
def byt (x : Int32) (j : Nat) : Int32 := (x >>> (nI (24 - 8 * j) &&& 31)).toInt8.toInt32
def fv5 (a b c d e : Int32) (g : Nat → Int32) : Nat → Int32 := zu1 (zu1 (zu1 (zu1 (zu1 g 0 a) 1 b) 2 c) 3 d) 4 e
/-- the tape behind a feed: n bytes of the row xs from tp on -/
def tpF (T : Nat → Int32) (tp : Nat) (xs : Nat → Int32) (n : Nat) : Nat → Int32 := fun q => if tp ≤ q ∧ q < tp + n then byt (xs ((q - tp) / 4)) ((q - tp) % 4) else T q
theorem sia5f (z : ZH) (a b c d e : Int32) : sia (sia (sia (sia (sia z 140 0 a) 140 1 b) 140 2 c) 140 3 d) 140 4 e = sIA z 140 (fv5 a b c d e (zia z 140)) := by
  conv => lhs; rw [← sIA_self z 140]
  simp only [sIA_sia]
  rfl
theorem znar_52 (x : Int32) : znar 52 (x.toInt8.toInt32) = x.toInt8.toInt32 := by
  show x.toInt8.toInt32.toInt8.toInt32 = _
  rw [Int8.toInt8_toInt32]
theorem fv5_c {a b c d e : Int32} {g g2 : Nat → Int32} {k : Nat} (h : k < 5) : fv5 a b c d e g k = fv5 a b c d e g2 k := by
  match k, h with
  | 0, _ => rfl
  | 1, _ => rfl
  | 2, _ => rfl
  | 3, _ => rfl
  | 4, _ => rfl
section MK
variable {d : Nat} {z : ZH} {Q : ZQ} {v u : Nat → Nat}
theorem m116n (hM : MS z) {a b c e f : Int32} {tp : Nat} (ht : tp ≤ 1400) (hp : zfi z 135 5 = nI tp) (h : 1400 < tp + 20) : ZC zG d 116 [.ref 135, .int a, .int b, .int c, .int e, .int f] z Q = Q (.inl (some (.int (-1)))) z := by
  have h0 := hM
  unfold MS at h0
  have h1 : ¬ tp + 20 ≤ 1400 := by omega
  simp (disch := first | omega | exact hM | exact hv _ | (simp only [MS_sW, MS_sfi, MS_sia, MS_sIA, MS_sla, MS_sLA, MS_sls]; exact hM)) only [e116, s116_0, s116_1, s116_4, s116_6, s116_7, s116_10, s116_13, s116_14, s116_15, s116_16, s116_19, s116_20, s116_21, s116_22, s116_23, s116_26, s116_27, s116_28, s116_29, s116_30, s116_33, s116_34, s116_35, s116_36, s116_37, s116_40, s116_41, s116_43, s116_44, s116_45, s116_48, s116_49, s116_51, s116_52, s116_53, s116_57, s116_59, s116_62, s116_63, s116_66, s116_67, s116_70, s116_72, s116_73, s116_74, s116_77, s116_79, s116_80, s116_81, s116_82, s116_84, s116_86, s116_88, s116_89, s116_90, s116_91, s116_92, s116_93, s116_94, s116_95, s116_98, s116_101, s116_102, s116_103, s116_106, s116_108, s116_109, s116_112, s116_113, s116_116, zcs_0, zcs_1, zcs_2, zcs_3, zcs_4, zcs_5, zcs_6, zcs_7, znl_i, znl_r, znl_n, Bool.and_true, Bool.true_and, zk_v, zk_n, zk_x, zir_r, zir_n, zclr_i, zclr_r, zclr_n, zclr_d, zclr_l, true_and, and_true, and_self, if_true, if_false, reduceIte, nI_add, pk_mul, zin_ok, zx_nI, nI_lt2, nI_le2, nI_eq2, nI_l0, nI_g0, nI_q0, nI_p0, nI_n0, nI_m1, Nat.add_zero, Nat.zero_add, Nat.reduceAdd, Nat.reduceMul, true_or, or_true, znar_50, bI_0, bI_1, bI_z, bft, nI_z0, nI_z1, lgc_lt, lgc_gt, lgc_le, lgc_ge, lgc_eq, not_true_eq_false, not_false_eq_true, Bool.not_eq_true, Bool.not_eq_false, reduceCtorEq, h0, hp, h1]
theorem m116 (hM : MS z) {a b c e f : Int32} {tp : Nat} (hp : zfi z 135 5 = nI tp) (h : tp + 20 ≤ 1400) : ZC zG d 116 [.ref 135, .int a, .int b, .int c, .int e, .int f] z Q = Q (.inl (some (.int (nI (tp + 20))))) (sfi (sIA (sIA z 140 (fv5 a b c e f (zia z 140))) 139 (tpF (zia z 139) tp (fv5 a b c e f (zia z 140)) 20)) 135 5 (nI (tp + 20))) := by
  have h0 := hM
  unfold MS at h0
  have h40 : (nI 4 = 0) = False := by simp [nI_q0]
  have e1 : ∀ k, k < 20 → ZW zG d 116 55 [.ref 135, .int a, .int b, .int c, .int e, .int f, .int (nI k)] [] (sIA (sIA z 140 (fv5 a b c e f (zia z 140))) 139 (tpF (zia z 139) tp (fv5 a b c e f (zia z 140)) k)) Q = ZW zG d 116 55 [.ref 135, .int a, .int b, .int c, .int e, .int f, .int (nI (k + 1))] [] (sIA (sIA z 140 (fv5 a b c e f (zia z 140))) 139 (tpF (zia z 139) tp (fv5 a b c e f (zia z 140)) (k + 1))) Q := by
    intro k hk
    refine s116_55.trans ?_
    have h9 : ¬ 20 ≤ k := by omega
    have hr := pk_rem (a := k) (d := 4) (by omega) (by omega) (by omega)
    have hd := pk_div (a := k) (d := 4) (by omega) (by omega) (by omega)
    have hsub : nI 24 - nI (8 * (k % 4)) = nI (24 - 8 * (k % 4)) := pk_sub (by omega)
    have hk4 : k / 4 < 5 := by omega
    rw [hd] at hr
    have hs : zu1 (tpF (zia z 139) tp (fv5 a b c e f (zia z 140)) k) (tp + k) ((fv5 a b c e f (zia z 140) (k / 4) >>> (nI (24 - 8 * (k % 4)) &&& 31)).toInt8.toInt32) = tpF (zia z 139) tp (fv5 a b c e f (zia z 140)) (k + 1) := by
      funext q
      unfold zu1 tpF
      by_cases hq : q = tp + k
      · rw [if_pos hq, if_pos (by omega), hq, Nat.add_sub_cancel_left]
        rfl
      · rw [if_neg hq]
        by_cases hq2 : tp ≤ q ∧ q < tp + k
        · rw [if_pos hq2, if_pos (by omega)]
        · rw [if_neg hq2, if_neg (by omega)]
    have hr2 : nI k - nI (k / 4 * 4) = nI (k % 4) := by rw [← pk_mul]; exact hr
    simp (disch := first | omega | exact hM | exact hv _ | (simp only [MS_sW, MS_sfi, MS_sia, MS_sIA, MS_sla, MS_sLA, MS_sls]; exact hM)) only [s116_0, s116_1, s116_4, s116_6, s116_7, s116_10, s116_13, s116_14, s116_15, s116_16, s116_19, s116_20, s116_21, s116_22, s116_23, s116_26, s116_27, s116_28, s116_29, s116_30, s116_33, s116_34, s116_35, s116_36, s116_37, s116_40, s116_41, s116_43, s116_44, s116_45, s116_48, s116_49, s116_51, s116_52, s116_53, s116_57, s116_59, s116_62, s116_63, s116_66, s116_67, s116_70, s116_72, s116_73, s116_74, s116_77, s116_79, s116_80, s116_81, s116_82, s116_84, s116_86, s116_88, s116_89, s116_90, s116_91, s116_92, s116_93, s116_94, s116_95, s116_98, s116_101, s116_102, s116_103, s116_106, s116_108, s116_109, s116_112, s116_113, s116_116, zcs_0, zcs_1, zcs_2, zcs_3, zcs_4, zcs_5, zcs_6, zcs_7, znl_i, znl_r, znl_n, Bool.and_true, Bool.true_and, zk_v, zk_n, zk_x, zir_r, zir_n, zclr_i, zclr_r, zclr_n, zclr_d, zclr_l, true_and, and_true, and_self, if_true, if_false, reduceIte, nI_add, pk_mul, zin_ok, zx_nI, nI_lt2, nI_le2, nI_eq2, nI_l0, nI_g0, nI_q0, nI_p0, nI_n0, nI_m1, Nat.add_zero, Nat.zero_add, Nat.reduceAdd, Nat.reduceMul, true_or, or_true, znar_50, bI_0, bI_1, bI_z, bft, nI_z0, nI_z1, lgc_lt, lgc_gt, lgc_le, lgc_ge, lgc_eq, not_true_eq_false, not_false_eq_true, Bool.not_eq_true, Bool.not_eq_false, reduceCtorEq, MS_sW, CS_sW, sW_r, sW_n, sW_w, cls_sW, fi_sW, fr_sW, la_sW, ra_sW, len_sW, ls_sW, own_sW, n_sW, uc_sW, us_sW, sW_sfi, sW_sla, sW_sLA, sW_sls, sW_spay, sW_sia, sW_sIA, ne_eq, cls_sfi, fr_sfi, ia_sfi, la_sfi, ra_sfi, len_sfi, ls_sfi, own_sfi, n_sfi, uc_sfi, us_sfi, cls_sia, fi_sia, fr_sia, la_sia, ra_sia, len_sia, ls_sia, own_sia, n_sia, uc_sia, us_sia, cls_sIA, fi_sIA, fr_sIA, la_sIA, ra_sIA, len_sIA, ls_sIA, own_sIA, n_sIA, uc_sIA, us_sIA, cls_sla, fi_sla, fr_sla, ia_sla, ra_sla, len_sla, ls_sla, own_sla, n_sla, uc_sla, us_sla, cls_sLA, fi_sLA, fr_sLA, ia_sLA, ra_sLA, len_sLA, ls_sLA, own_sLA, n_sLA, uc_sLA, us_sLA, h0, h9, hp, hd, hr2, hsub, h40, ia_sIA, zu1_s, zu1_n, znar_52, sIA_sia, hs]
  have e0 : tpF (zia z 139) tp (fv5 a b c e f (zia z 140)) 0 = zia (sIA z 140 (fv5 a b c e f (zia z 140))) 139 := by
    funext q
    rw [ia_sIA, zu1_n _ _ _ (by omega)]
    exact if_neg (by omega)
  have e2 := zl_up (P := fun k => ZW zG d 116 55 [.ref 135, .int a, .int b, .int c, .int e, .int f, .int (nI k)] [] (sIA (sIA z 140 (fv5 a b c e f (zia z 140))) 139 (tpF (zia z 139) tp (fv5 a b c e f (zia z 140)) k)) Q) 20 e1
  rw [e0, sIA_self] at e2
  simp (disch := first | omega | exact hM | exact hv _ | (simp only [MS_sW, MS_sfi, MS_sia, MS_sIA, MS_sla, MS_sLA, MS_sls]; exact hM)) only [e116, s116_0, s116_1, s116_4, s116_6, s116_7, s116_10, s116_13, s116_14, s116_15, s116_16, s116_19, s116_20, s116_21, s116_22, s116_23, s116_26, s116_27, s116_28, s116_29, s116_30, s116_33, s116_34, s116_35, s116_36, s116_37, s116_40, s116_41, s116_43, s116_44, s116_45, s116_48, s116_49, s116_51, s116_52, s116_53, s116_57, s116_59, s116_62, s116_63, s116_66, s116_67, s116_70, s116_72, s116_73, s116_74, s116_77, s116_79, s116_80, s116_81, s116_82, s116_84, s116_86, s116_88, s116_89, s116_90, s116_91, s116_92, s116_93, s116_94, s116_95, s116_98, s116_101, s116_102, s116_103, s116_106, s116_108, s116_109, s116_112, s116_113, s116_116, zcs_0, zcs_1, zcs_2, zcs_3, zcs_4, zcs_5, zcs_6, zcs_7, znl_i, znl_r, znl_n, Bool.and_true, Bool.true_and, zk_v, zk_n, zk_x, zir_r, zir_n, zclr_i, zclr_r, zclr_n, zclr_d, zclr_l, true_and, and_true, and_self, if_true, if_false, reduceIte, nI_add, pk_mul, zin_ok, zx_nI, nI_lt2, nI_le2, nI_eq2, nI_l0, nI_g0, nI_q0, nI_p0, nI_n0, nI_m1, Nat.add_zero, Nat.zero_add, Nat.reduceAdd, Nat.reduceMul, true_or, or_true, znar_50, bI_0, bI_1, bI_z, bft, nI_z0, nI_z1, lgc_lt, lgc_gt, lgc_le, lgc_ge, lgc_eq, not_true_eq_false, not_false_eq_true, Bool.not_eq_true, Bool.not_eq_false, reduceCtorEq, MS_sW, CS_sW, sW_r, sW_n, sW_w, cls_sW, fi_sW, fr_sW, la_sW, ra_sW, len_sW, ls_sW, own_sW, n_sW, uc_sW, us_sW, sW_sfi, sW_sla, sW_sLA, sW_sls, sW_spay, sW_sia, sW_sIA, ne_eq, cls_sfi, fr_sfi, ia_sfi, la_sfi, ra_sfi, len_sfi, ls_sfi, own_sfi, n_sfi, uc_sfi, us_sfi, cls_sia, fi_sia, fr_sia, la_sia, ra_sia, len_sia, ls_sia, own_sia, n_sia, uc_sia, us_sia, cls_sIA, fi_sIA, fr_sIA, la_sIA, ra_sIA, len_sIA, ls_sIA, own_sIA, n_sIA, uc_sIA, us_sIA, cls_sla, fi_sla, fr_sla, ia_sla, ra_sla, len_sla, ls_sla, own_sla, n_sla, uc_sla, us_sla, cls_sLA, fi_sLA, fr_sLA, ia_sLA, ra_sLA, len_sLA, ls_sLA, own_sLA, n_sLA, uc_sLA, us_sLA, h0, hp, h, sia5f]
  refine Eq.trans e2 ?_
  refine s116_55.trans ?_
  simp (disch := first | omega | exact hM | exact hv _ | (simp only [MS_sW, MS_sfi, MS_sia, MS_sIA, MS_sla, MS_sLA, MS_sls]; exact hM)) only [s116_0, s116_1, s116_4, s116_6, s116_7, s116_10, s116_13, s116_14, s116_15, s116_16, s116_19, s116_20, s116_21, s116_22, s116_23, s116_26, s116_27, s116_28, s116_29, s116_30, s116_33, s116_34, s116_35, s116_36, s116_37, s116_40, s116_41, s116_43, s116_44, s116_45, s116_48, s116_49, s116_51, s116_52, s116_53, s116_57, s116_59, s116_62, s116_63, s116_66, s116_67, s116_70, s116_72, s116_73, s116_74, s116_77, s116_79, s116_80, s116_81, s116_82, s116_84, s116_86, s116_88, s116_89, s116_90, s116_91, s116_92, s116_93, s116_94, s116_95, s116_98, s116_101, s116_102, s116_103, s116_106, s116_108, s116_109, s116_112, s116_113, s116_116, zcs_0, zcs_1, zcs_2, zcs_3, zcs_4, zcs_5, zcs_6, zcs_7, znl_i, znl_r, znl_n, Bool.and_true, Bool.true_and, zk_v, zk_n, zk_x, zir_r, zir_n, zclr_i, zclr_r, zclr_n, zclr_d, zclr_l, true_and, and_true, and_self, if_true, if_false, reduceIte, nI_add, pk_mul, zin_ok, zx_nI, nI_lt2, nI_le2, nI_eq2, nI_l0, nI_g0, nI_q0, nI_p0, nI_n0, nI_m1, Nat.add_zero, Nat.zero_add, Nat.reduceAdd, Nat.reduceMul, true_or, or_true, znar_50, bI_0, bI_1, bI_z, bft, nI_z0, nI_z1, lgc_lt, lgc_gt, lgc_le, lgc_ge, lgc_eq, not_true_eq_false, not_false_eq_true, Bool.not_eq_true, Bool.not_eq_false, reduceCtorEq, MS_sW, CS_sW, sW_r, sW_n, sW_w, cls_sW, fi_sW, fr_sW, la_sW, ra_sW, len_sW, ls_sW, own_sW, n_sW, uc_sW, us_sW, sW_sfi, sW_sla, sW_sLA, sW_sls, sW_spay, sW_sia, sW_sIA, ne_eq, cls_sfi, fr_sfi, ia_sfi, la_sfi, ra_sfi, len_sfi, ls_sfi, own_sfi, n_sfi, uc_sfi, us_sfi, cls_sia, fi_sia, fr_sia, la_sia, ra_sia, len_sia, ls_sia, own_sia, n_sia, uc_sia, us_sia, cls_sIA, fi_sIA, fr_sIA, la_sIA, ra_sIA, len_sIA, ls_sIA, own_sIA, n_sIA, uc_sIA, us_sIA, cls_sla, fi_sla, fr_sla, ia_sla, ra_sla, len_sla, ls_sla, own_sla, n_sla, uc_sla, us_sla, cls_sLA, fi_sLA, fr_sLA, ia_sLA, ra_sLA, len_sLA, ls_sLA, own_sLA, n_sLA, uc_sLA, us_sLA, h0, hp, Nat.le_refl, fi_sfi, zu2_s]
theorem sLA_sla (z : ZH) (r : Nat) (f : Nat → Int64) (k : Nat) (x : Int64) : sla (sLA z r f) r k x = sLA z r (zu1 f k x) := by
  unfold sLA sla zmk
  simp only [zcls, zfi, zfr, zia, zla, zra, zlen, zls, zown, zn, zuc, zus, Prod.mk.injEq, true_and, and_true]
  funext q j
  unfold zu2 zu1
  by_cases hq : q = r
  · subst hq
    by_cases hj : j = k
    · subst hj; simp
    · simp [hj]
  · simp [hq]
theorem sLA_self (z : ZH) (r : Nat) : sLA z r (zla z r) = z := by
  unfold sLA zmk
  have : zu1 (zla z) r (zla z r) = zla z := by
    funext q
    unfold zu1
    by_cases hq : q = r
    · subst hq; rw [if_pos rfl]
    · rw [if_neg hq]
  rw [this]
  rfl
/-- places from a on, n of them, are g -/
def ovr {α : Type} (f g : Nat → α) (a n : Nat) : Nat → α := fun q => if a ≤ q ∧ q < a + n then g (q - a) else f q
theorem ovr_0 {α : Type} (f g : Nat → α) (a : Nat) : ovr f g a 0 = f := by
  funext q
  exact if_neg (by omega)
theorem ovr_s {α : Type} (f g : Nat → α) (a n : Nat) : zu1 (ovr f g a n) (a + n) (g n) = ovr f g a (n + 1) := by
  funext q
  unfold zu1 ovr
  by_cases hq : q = a + n
  · rw [if_pos hq, if_pos (by omega), hq, Nat.add_sub_cancel_left]
  · rw [if_neg hq]
    by_cases hq2 : a ≤ q ∧ q < a + n
    · rw [if_pos hq2, if_pos (by omega)]
    · rw [if_neg hq2, if_neg (by omega)]
theorem ovr_in {α : Type} {f g : Nat → α} {a n q : Nat} (h : q < n) : ovr f g a n (a + q) = g q := by
  unfold ovr
  rw [if_pos (by omega), Nat.add_sub_cancel_left]
theorem ovr_out {α : Type} {f g : Nat → α} {a n q : Nat} (h : q < a ∨ a + n ≤ q) : ovr f g a n q = f q := if_neg (by omega)
theorem m210n {s w n : Int32} (h : (zin s 4 && (zin w 4 && decide (n ≤ nI 60))) = false) : ZC zG (d + 2) 210 [.ref 135, .int s, .int w, .int n] z Q = Q (.inl (some (.int (-2)))) z := by
  cases h1 : zin s 4 with
  | false => simp (disch := omega) only [e210, s210_0, s210_1, s210_4, s210_7, s210_8, s210_9, s210_10, s210_13, s210_16, s210_19, s210_20, s210_22, s210_25, s210_27, s210_28, s210_29, s210_32, s210_34, s210_35, s210_36, s210_39, s210_40, s210_41, s210_42, s210_43, s210_46, s210_47, s210_48, s210_49, s210_50, s210_54, s210_56, s210_59, s210_60, s210_63, s210_65, s210_66, s210_67, s210_69, s210_70, s210_71, s210_72, s210_75, s210_78, s210_79, zcs_0, zcs_1, zcs_2, zcs_3, zcs_4, zcs_5, zcs_6, zcs_7, znl_i, znl_r, znl_n, Bool.and_true, Bool.true_and, zk_v, zk_n, zk_x, zir_r, zir_n, zclr_i, zclr_r, zclr_n, zclr_d, zclr_l, true_and, and_true, and_self, if_true, if_false, reduceIte, nI_add, pk_mul, zin_ok, zx_nI, nI_lt2, nI_le2, nI_eq2, nI_l0, nI_g0, nI_q0, nI_p0, nI_n0, nI_m1, Nat.add_zero, Nat.zero_add, Nat.reduceAdd, Nat.reduceMul, true_or, or_true, znar_50, bI_0, bI_1, bI_z, bft, nI_z0, nI_z1, lgc_lt, lgc_gt, lgc_le, lgc_ge, lgc_eq, not_true_eq_false, not_false_eq_true, Bool.not_eq_true, Bool.not_eq_false, reduceCtorEq, m169, h1]
  | true =>
    cases h2 : zin w 4 with
    | false => simp (disch := omega) only [e210, s210_0, s210_1, s210_4, s210_7, s210_8, s210_9, s210_10, s210_13, s210_16, s210_19, s210_20, s210_22, s210_25, s210_27, s210_28, s210_29, s210_32, s210_34, s210_35, s210_36, s210_39, s210_40, s210_41, s210_42, s210_43, s210_46, s210_47, s210_48, s210_49, s210_50, s210_54, s210_56, s210_59, s210_60, s210_63, s210_65, s210_66, s210_67, s210_69, s210_70, s210_71, s210_72, s210_75, s210_78, s210_79, zcs_0, zcs_1, zcs_2, zcs_3, zcs_4, zcs_5, zcs_6, zcs_7, znl_i, znl_r, znl_n, Bool.and_true, Bool.true_and, zk_v, zk_n, zk_x, zir_r, zir_n, zclr_i, zclr_r, zclr_n, zclr_d, zclr_l, true_and, and_true, and_self, if_true, if_false, reduceIte, nI_add, pk_mul, zin_ok, zx_nI, nI_lt2, nI_le2, nI_eq2, nI_l0, nI_g0, nI_q0, nI_p0, nI_n0, nI_m1, Nat.add_zero, Nat.zero_add, Nat.reduceAdd, Nat.reduceMul, true_or, or_true, znar_50, bI_0, bI_1, bI_z, bft, nI_z0, nI_z1, lgc_lt, lgc_gt, lgc_le, lgc_ge, lgc_eq, not_true_eq_false, not_false_eq_true, Bool.not_eq_true, Bool.not_eq_false, reduceCtorEq, m169, m114, lin_c, h1, h2]
    | true =>
      rw [h1, h2] at h
      simp only [Bool.true_and] at h
      have h3 := of_decide_eq_false h
      simp (disch := omega) only [e210, s210_0, s210_1, s210_4, s210_7, s210_8, s210_9, s210_10, s210_13, s210_16, s210_19, s210_20, s210_22, s210_25, s210_27, s210_28, s210_29, s210_32, s210_34, s210_35, s210_36, s210_39, s210_40, s210_41, s210_42, s210_43, s210_46, s210_47, s210_48, s210_49, s210_50, s210_54, s210_56, s210_59, s210_60, s210_63, s210_65, s210_66, s210_67, s210_69, s210_70, s210_71, s210_72, s210_75, s210_78, s210_79, zcs_0, zcs_1, zcs_2, zcs_3, zcs_4, zcs_5, zcs_6, zcs_7, znl_i, znl_r, znl_n, Bool.and_true, Bool.true_and, zk_v, zk_n, zk_x, zir_r, zir_n, zclr_i, zclr_r, zclr_n, zclr_d, zclr_l, true_and, and_true, and_self, if_true, if_false, reduceIte, nI_add, pk_mul, zin_ok, zx_nI, nI_lt2, nI_le2, nI_eq2, nI_l0, nI_g0, nI_q0, nI_p0, nI_n0, nI_m1, Nat.add_zero, Nat.zero_add, Nat.reduceAdd, Nat.reduceMul, true_or, or_true, znar_50, bI_0, bI_1, bI_z, bft, nI_z0, nI_z1, lgc_lt, lgc_gt, lgc_le, lgc_ge, lgc_eq, not_true_eq_false, not_false_eq_true, Bool.not_eq_true, Bool.not_eq_false, reduceCtorEq, m169, m114, lin_c, h1, h2, h3]
theorem m210m {s w n : Int32} (h1 : zin s 4 = true) (h2 : zin w 4 = true) (h3 : n ≤ nI 60) (h : n < 0) : ZC zG (d + 2) 210 [.ref 135, .int s, .int w, .int n] z Q = Q (.inl (some (.int (-3)))) z := by
  have h4 : ¬ 0 ≤ n := Int32.not_le.mpr h
  simp (disch := omega) only [e210, s210_0, s210_1, s210_4, s210_7, s210_8, s210_9, s210_10, s210_13, s210_16, s210_19, s210_20, s210_22, s210_25, s210_27, s210_28, s210_29, s210_32, s210_34, s210_35, s210_36, s210_39, s210_40, s210_41, s210_42, s210_43, s210_46, s210_47, s210_48, s210_49, s210_50, s210_54, s210_56, s210_59, s210_60, s210_63, s210_65, s210_66, s210_67, s210_69, s210_70, s210_71, s210_72, s210_75, s210_78, s210_79, zcs_0, zcs_1, zcs_2, zcs_3, zcs_4, zcs_5, zcs_6, zcs_7, znl_i, znl_r, znl_n, Bool.and_true, Bool.true_and, zk_v, zk_n, zk_x, zir_r, zir_n, zclr_i, zclr_r, zclr_n, zclr_d, zclr_l, true_and, and_true, and_self, if_true, if_false, reduceIte, nI_add, pk_mul, zin_ok, zx_nI, nI_lt2, nI_le2, nI_eq2, nI_l0, nI_g0, nI_q0, nI_p0, nI_n0, nI_m1, Nat.add_zero, Nat.zero_add, Nat.reduceAdd, Nat.reduceMul, true_or, or_true, znar_50, bI_0, bI_1, bI_z, bft, nI_z0, nI_z1, lgc_lt, lgc_gt, lgc_le, lgc_ge, lgc_eq, not_true_eq_false, not_false_eq_true, Bool.not_eq_true, Bool.not_eq_false, reduceCtorEq, m169, m114, lin_c, h1, h2, h3, h4]
theorem m210 (hM : MS z) {s w n : Nat} (h1 : s < 4) (h2 : w < 4) (h3 : n ≤ 60) : ZC zG (d + 2) 210 [.ref 135, .int (nI s), .int (nI w), .int (nI n)] z Q = Q (.inl (some (.int (nI 0)))) (sLA (sia (sia z 158 s (nI n)) 159 s (nI w)) 160 (ovr (zla z 160) (fun _ => lN 0) (60 * s) 60)) := by
  have h0 := hM
  unfold MS at h0
  have z1 : zin (nI s) 4 = true := by rw [zin_nI (by omega)]; exact decide_eq_true h1
  have z2 : zin (nI w) 4 = true := by rw [zin_nI (by omega)]; exact decide_eq_true h2
  have e1 : ∀ k, k < 60 → ZW zG (d + 2) 210 52 [.ref 135, .int (nI s), .int (nI w), .int (nI n), .int (nI k)] [] (sLA (sia (sia z 158 s (nI n)) 159 s (nI w)) 160 (ovr (zla z 160) (fun _ => lN 0) (60 * s) k)) Q = ZW zG (d + 2) 210 52 [.ref 135, .int (nI s), .int (nI w), .int (nI n), .int (nI (k + 1))] [] (sLA (sia (sia z 158 s (nI n)) 159 s (nI w)) 160 (ovr (zla z 160) (fun _ => lN 0) (60 * s) (k + 1))) Q := by
    intro k hk
    refine s210_52.trans ?_
    have h9 : ¬ 60 ≤ k := by omega
    have hs := ovr_s (zla z 160) (fun _ => lN 0) (60 * s) k
    simp (disch := first | omega | exact hM | exact hv _ | (simp only [MS_sW, MS_sfi, MS_sia, MS_sIA, MS_sla, MS_sLA, MS_sls]; exact hM)) only [s210_0, s210_1, s210_4, s210_7, s210_8, s210_9, s210_10, s210_13, s210_16, s210_19, s210_20, s210_22, s210_25, s210_27, s210_28, s210_29, s210_32, s210_34, s210_35, s210_36, s210_39, s210_40, s210_41, s210_42, s210_43, s210_46, s210_47, s210_48, s210_49, s210_50, s210_54, s210_56, s210_59, s210_60, s210_63, s210_65, s210_66, s210_67, s210_69, s210_70, s210_71, s210_72, s210_75, s210_78, s210_79, zcs_0, zcs_1, zcs_2, zcs_3, zcs_4, zcs_5, zcs_6, zcs_7, znl_i, znl_r, znl_n, Bool.and_true, Bool.true_and, zk_v, zk_n, zk_x, zir_r, zir_n, zclr_i, zclr_r, zclr_n, zclr_d, zclr_l, true_and, and_true, and_self, if_true, if_false, reduceIte, nI_add, pk_mul, zin_ok, zx_nI, nI_lt2, nI_le2, nI_eq2, nI_l0, nI_g0, nI_q0, nI_p0, nI_n0, nI_m1, Nat.add_zero, Nat.zero_add, Nat.reduceAdd, Nat.reduceMul, true_or, or_true, znar_50, bI_0, bI_1, bI_z, bft, nI_z0, nI_z1, lgc_lt, lgc_gt, lgc_le, lgc_ge, lgc_eq, not_true_eq_false, not_false_eq_true, Bool.not_eq_true, Bool.not_eq_false, reduceCtorEq, MS_sW, CS_sW, sW_r, sW_n, sW_w, cls_sW, fi_sW, fr_sW, la_sW, ra_sW, len_sW, ls_sW, own_sW, n_sW, uc_sW, us_sW, sW_sfi, sW_sla, sW_sLA, sW_sls, sW_spay, sW_sia, sW_sIA, ne_eq, cls_sfi, fr_sfi, ia_sfi, la_sfi, ra_sfi, len_sfi, ls_sfi, own_sfi, n_sfi, uc_sfi, us_sfi, cls_sia, fi_sia, fr_sia, la_sia, ra_sia, len_sia, ls_sia, own_sia, n_sia, uc_sia, us_sia, cls_sIA, fi_sIA, fr_sIA, la_sIA, ra_sIA, len_sIA, ls_sIA, own_sIA, n_sIA, uc_sIA, us_sIA, cls_sla, fi_sla, fr_sla, ia_sla, ra_sla, len_sla, ls_sla, own_sla, n_sla, uc_sla, us_sla, cls_sLA, fi_sLA, fr_sLA, ia_sLA, ra_sLA, len_sLA, ls_sLA, own_sLA, n_sLA, uc_sLA, us_sLA, h0, h9, sLA_sla, hs]
  have e2 := zl_up (P := fun k => ZW zG (d + 2) 210 52 [.ref 135, .int (nI s), .int (nI w), .int (nI n), .int (nI k)] [] (sLA (sia (sia z 158 s (nI n)) 159 s (nI w)) 160 (ovr (zla z 160) (fun _ => lN 0) (60 * s) k)) Q) 60 e1
  rw [ovr_0, show zla z 160 = zla (sia (sia z 158 s (nI n)) 159 s (nI w)) 160 from rfl, sLA_self] at e2
  simp (disch := first | omega | exact hM | exact hv _ | (simp only [MS_sW, MS_sfi, MS_sia, MS_sIA, MS_sla, MS_sLA, MS_sls]; exact hM)) only [e210, s210_0, s210_1, s210_4, s210_7, s210_8, s210_9, s210_10, s210_13, s210_16, s210_19, s210_20, s210_22, s210_25, s210_27, s210_28, s210_29, s210_32, s210_34, s210_35, s210_36, s210_39, s210_40, s210_41, s210_42, s210_43, s210_46, s210_47, s210_48, s210_49, s210_50, s210_54, s210_56, s210_59, s210_60, s210_63, s210_65, s210_66, s210_67, s210_69, s210_70, s210_71, s210_72, s210_75, s210_78, s210_79, zcs_0, zcs_1, zcs_2, zcs_3, zcs_4, zcs_5, zcs_6, zcs_7, znl_i, znl_r, znl_n, Bool.and_true, Bool.true_and, zk_v, zk_n, zk_x, zir_r, zir_n, zclr_i, zclr_r, zclr_n, zclr_d, zclr_l, true_and, and_true, and_self, if_true, if_false, reduceIte, nI_add, pk_mul, zin_ok, zx_nI, nI_lt2, nI_le2, nI_eq2, nI_l0, nI_g0, nI_q0, nI_p0, nI_n0, nI_m1, Nat.add_zero, Nat.zero_add, Nat.reduceAdd, Nat.reduceMul, true_or, or_true, znar_50, bI_0, bI_1, bI_z, bft, nI_z0, nI_z1, lgc_lt, lgc_gt, lgc_le, lgc_ge, lgc_eq, not_true_eq_false, not_false_eq_true, Bool.not_eq_true, Bool.not_eq_false, reduceCtorEq, MS_sW, CS_sW, sW_r, sW_n, sW_w, cls_sW, fi_sW, fr_sW, la_sW, ra_sW, len_sW, ls_sW, own_sW, n_sW, uc_sW, us_sW, sW_sfi, sW_sla, sW_sLA, sW_sls, sW_spay, sW_sia, sW_sIA, ne_eq, cls_sfi, fr_sfi, ia_sfi, la_sfi, ra_sfi, len_sfi, ls_sfi, own_sfi, n_sfi, uc_sfi, us_sfi, cls_sia, fi_sia, fr_sia, la_sia, ra_sia, len_sia, ls_sia, own_sia, n_sia, uc_sia, us_sia, cls_sIA, fi_sIA, fr_sIA, la_sIA, ra_sIA, len_sIA, ls_sIA, own_sIA, n_sIA, uc_sIA, us_sIA, cls_sla, fi_sla, fr_sla, ia_sla, ra_sla, len_sla, ls_sla, own_sla, n_sla, uc_sla, us_sla, cls_sLA, fi_sLA, fr_sLA, ia_sLA, ra_sLA, len_sLA, ls_sLA, own_sLA, n_sLA, uc_sLA, us_sLA, m169, m114, lin_c, h0, z1, z2, h3]
  refine Eq.trans e2 ?_
  refine s210_52.trans ?_
  simp (disch := first | omega | exact hM | exact hv _ | (simp only [MS_sW, MS_sfi, MS_sia, MS_sIA, MS_sla, MS_sLA, MS_sls]; exact hM)) only [s210_0, s210_1, s210_4, s210_7, s210_8, s210_9, s210_10, s210_13, s210_16, s210_19, s210_20, s210_22, s210_25, s210_27, s210_28, s210_29, s210_32, s210_34, s210_35, s210_36, s210_39, s210_40, s210_41, s210_42, s210_43, s210_46, s210_47, s210_48, s210_49, s210_50, s210_54, s210_56, s210_59, s210_60, s210_63, s210_65, s210_66, s210_67, s210_69, s210_70, s210_71, s210_72, s210_75, s210_78, s210_79, zcs_0, zcs_1, zcs_2, zcs_3, zcs_4, zcs_5, zcs_6, zcs_7, znl_i, znl_r, znl_n, Bool.and_true, Bool.true_and, zk_v, zk_n, zk_x, zir_r, zir_n, zclr_i, zclr_r, zclr_n, zclr_d, zclr_l, true_and, and_true, and_self, if_true, if_false, reduceIte, nI_add, pk_mul, zin_ok, zx_nI, nI_lt2, nI_le2, nI_eq2, nI_l0, nI_g0, nI_q0, nI_p0, nI_n0, nI_m1, Nat.add_zero, Nat.zero_add, Nat.reduceAdd, Nat.reduceMul, true_or, or_true, znar_50, bI_0, bI_1, bI_z, bft, nI_z0, nI_z1, lgc_lt, lgc_gt, lgc_le, lgc_ge, lgc_eq, not_true_eq_false, not_false_eq_true, Bool.not_eq_true, Bool.not_eq_false, reduceCtorEq, MS_sW, CS_sW, sW_r, sW_n, sW_w, cls_sW, fi_sW, fr_sW, la_sW, ra_sW, len_sW, ls_sW, own_sW, n_sW, uc_sW, us_sW, sW_sfi, sW_sla, sW_sLA, sW_sls, sW_spay, sW_sia, sW_sIA, ne_eq, cls_sfi, fr_sfi, ia_sfi, la_sfi, ra_sfi, len_sfi, ls_sfi, own_sfi, n_sfi, uc_sfi, us_sfi, cls_sia, fi_sia, fr_sia, la_sia, ra_sia, len_sia, ls_sia, own_sia, n_sia, uc_sia, us_sia, cls_sIA, fi_sIA, fr_sIA, la_sIA, ra_sIA, len_sIA, ls_sIA, own_sIA, n_sIA, uc_sIA, us_sIA, cls_sla, fi_sla, fr_sla, ia_sla, ra_sla, len_sla, ls_sla, own_sla, n_sla, uc_sla, us_sla, cls_sLA, fi_sLA, fr_sLA, ia_sLA, ra_sLA, len_sLA, ls_sLA, own_sLA, n_sLA, uc_sLA, us_sLA, h0, Nat.le_refl]
/-- a number as a row of the width w holds it -/
def cutL (x : Int64) (w : Int32) : Int64 := (x <<< ((nI 64 - (nI 8 <<< (w &&& 31))).toInt64 &&& 63)) >>> ((nI 64 - (nI 8 <<< (w &&& 31))).toInt64 &&& 63)
theorem m212 {x : Int64} {w : Int32} : ZC zG d 212 [.long x, .int w] z Q = Q (.inl (some (.long (cutL x w)))) z := by
  simp only [e212, s212_0, s212_2, s212_4, s212_5, s212_6, s212_7, s212_8, s212_9, s212_10, s212_11, s212_12, s212_13, zcs_0, zcs_1, zcs_2, zcs_3, zcs_4, zcs_5, zcs_6, zcs_7, znl_i, znl_r, znl_n, Bool.and_true, Bool.true_and, zk_v, zk_n, zk_x, zir_r, zir_n, zclr_i, zclr_r, zclr_n, zclr_d, zclr_l, true_and, and_true, and_self, if_true, if_false, reduceIte]
  rfl
theorem m211n {s i : Int32} {x : Int64} (h : zin s 4 = false) : ZC zG (d + 2) 211 [.ref 135, .int s, .int i, .long x] z Q = Q (.inl (some (.int (-2)))) z := by
  simp (disch := omega) only [e211, s211_0, s211_1, s211_4, s211_7, s211_9, s211_10, s211_11, s211_14, s211_15, s211_16, s211_17, s211_20, s211_22, s211_23, s211_24, s211_25, s211_26, s211_27, s211_30, s211_31, s211_32, s211_33, s211_34, s211_35, s211_38, s211_41, s211_43, s211_44, s211_45, s211_48, s211_50, s211_51, s211_52, s211_53, s211_54, s211_55, s211_56, s211_59, s211_60, s211_61, s211_64, s211_65, s211_66, zcs_0, zcs_1, zcs_2, zcs_3, zcs_4, zcs_5, zcs_6, zcs_7, znl_i, znl_r, znl_n, Bool.and_true, Bool.true_and, zk_v, zk_n, zk_x, zir_r, zir_n, zclr_i, zclr_r, zclr_n, zclr_d, zclr_l, true_and, and_true, and_self, if_true, if_false, reduceIte, nI_add, pk_mul, zin_ok, zx_nI, nI_lt2, nI_le2, nI_eq2, nI_l0, nI_g0, nI_q0, nI_p0, nI_n0, nI_m1, Nat.add_zero, Nat.zero_add, Nat.reduceAdd, Nat.reduceMul, true_or, or_true, znar_50, bI_0, bI_1, bI_z, bft, nI_z0, nI_z1, lgc_lt, lgc_gt, lgc_le, lgc_ge, lgc_eq, not_true_eq_false, not_false_eq_true, Bool.not_eq_true, Bool.not_eq_false, reduceCtorEq, m169, h]
theorem m211m (hM : MS z) {s : Nat} {i : Int32} {x : Int64} (h : s < 4) (hm : zia z 158 s = -1) : ZC zG (d + 2) 211 [.ref 135, .int (nI s), .int i, .long x] z Q = Q (.inl (some (.int (-6)))) z := by
  have h0 := hM
  unfold MS at h0
  have z1 : zin (nI s) 4 = true := by rw [zin_nI (by omega)]; exact decide_eq_true h
  simp (disch := first | omega | exact hM | exact hv _ | (simp only [MS_sW, MS_sfi, MS_sia, MS_sIA, MS_sla, MS_sLA, MS_sls]; exact hM)) only [e211, s211_0, s211_1, s211_4, s211_7, s211_9, s211_10, s211_11, s211_14, s211_15, s211_16, s211_17, s211_20, s211_22, s211_23, s211_24, s211_25, s211_26, s211_27, s211_30, s211_31, s211_32, s211_33, s211_34, s211_35, s211_38, s211_41, s211_43, s211_44, s211_45, s211_48, s211_50, s211_51, s211_52, s211_53, s211_54, s211_55, s211_56, s211_59, s211_60, s211_61, s211_64, s211_65, s211_66, zcs_0, zcs_1, zcs_2, zcs_3, zcs_4, zcs_5, zcs_6, zcs_7, znl_i, znl_r, znl_n, Bool.and_true, Bool.true_and, zk_v, zk_n, zk_x, zir_r, zir_n, zclr_i, zclr_r, zclr_n, zclr_d, zclr_l, true_and, and_true, and_self, if_true, if_false, reduceIte, nI_add, pk_mul, zin_ok, zx_nI, nI_lt2, nI_le2, nI_eq2, nI_l0, nI_g0, nI_q0, nI_p0, nI_n0, nI_m1, Nat.add_zero, Nat.zero_add, Nat.reduceAdd, Nat.reduceMul, true_or, or_true, znar_50, bI_0, bI_1, bI_z, bft, nI_z0, nI_z1, lgc_lt, lgc_gt, lgc_le, lgc_ge, lgc_eq, not_true_eq_false, not_false_eq_true, Bool.not_eq_true, Bool.not_eq_false, reduceCtorEq, m169, h0, z1, hm]
theorem m211e (hM : MS z) {s n : Nat} {i : Int32} {x : Int64} (h : s < 4) (hn : n ≤ 60) (hm : zia z 158 s = nI n) (hi : zin i n = false) : ZC zG (d + 2) 211 [.ref 135, .int (nI s), .int i, .long x] z Q = Q (.inl (some (.int (-7)))) z := by
  have h0 := hM
  unfold MS at h0
  have z1 : zin (nI s) 4 = true := by rw [zin_nI (by omega)]; exact decide_eq_true h
  simp (disch := first | omega | exact hM | exact hv _ | (simp only [MS_sW, MS_sfi, MS_sia, MS_sIA, MS_sla, MS_sLA, MS_sls]; exact hM)) only [e211, s211_0, s211_1, s211_4, s211_7, s211_9, s211_10, s211_11, s211_14, s211_15, s211_16, s211_17, s211_20, s211_22, s211_23, s211_24, s211_25, s211_26, s211_27, s211_30, s211_31, s211_32, s211_33, s211_34, s211_35, s211_38, s211_41, s211_43, s211_44, s211_45, s211_48, s211_50, s211_51, s211_52, s211_53, s211_54, s211_55, s211_56, s211_59, s211_60, s211_61, s211_64, s211_65, s211_66, zcs_0, zcs_1, zcs_2, zcs_3, zcs_4, zcs_5, zcs_6, zcs_7, znl_i, znl_r, znl_n, Bool.and_true, Bool.true_and, zk_v, zk_n, zk_x, zir_r, zir_n, zclr_i, zclr_r, zclr_n, zclr_d, zclr_l, true_and, and_true, and_self, if_true, if_false, reduceIte, nI_add, pk_mul, zin_ok, zx_nI, nI_lt2, nI_le2, nI_eq2, nI_l0, nI_g0, nI_q0, nI_p0, nI_n0, nI_m1, Nat.add_zero, Nat.zero_add, Nat.reduceAdd, Nat.reduceMul, true_or, or_true, znar_50, bI_0, bI_1, bI_z, bft, nI_z0, nI_z1, lgc_lt, lgc_gt, lgc_le, lgc_ge, lgc_eq, not_true_eq_false, not_false_eq_true, Bool.not_eq_true, Bool.not_eq_false, reduceCtorEq, m169, h0, z1, hm, m114, lin_n, hi]
theorem m211 (hM : MS z) {s n i : Nat} {x : Int64} (h : s < 4) (hn : n ≤ 60) (hm : zia z 158 s = nI n) (hi : i < n) : ZC zG (d + 2) 211 [.ref 135, .int (nI s), .int (nI i), .long x] z Q = Q (.inl (some (.int (nI 0)))) (sla z 160 (60 * s + i) (cutL x (zia z 159 s))) := by
  have h0 := hM
  unfold MS at h0
  have z1 : zin (nI s) 4 = true := by rw [zin_nI (by omega)]; exact decide_eq_true h
  have z2 : zin (nI i) n = true := by rw [zin_nI (by omega)]; exact decide_eq_true hi
  simp (disch := first | omega | exact hM | exact hv _ | (simp only [MS_sW, MS_sfi, MS_sia, MS_sIA, MS_sla, MS_sLA, MS_sls]; exact hM)) only [e211, s211_0, s211_1, s211_4, s211_7, s211_9, s211_10, s211_11, s211_14, s211_15, s211_16, s211_17, s211_20, s211_22, s211_23, s211_24, s211_25, s211_26, s211_27, s211_30, s211_31, s211_32, s211_33, s211_34, s211_35, s211_38, s211_41, s211_43, s211_44, s211_45, s211_48, s211_50, s211_51, s211_52, s211_53, s211_54, s211_55, s211_56, s211_59, s211_60, s211_61, s211_64, s211_65, s211_66, zcs_0, zcs_1, zcs_2, zcs_3, zcs_4, zcs_5, zcs_6, zcs_7, znl_i, znl_r, znl_n, Bool.and_true, Bool.true_and, zk_v, zk_n, zk_x, zir_r, zir_n, zclr_i, zclr_r, zclr_n, zclr_d, zclr_l, true_and, and_true, and_self, if_true, if_false, reduceIte, nI_add, pk_mul, zin_ok, zx_nI, nI_lt2, nI_le2, nI_eq2, nI_l0, nI_g0, nI_q0, nI_p0, nI_n0, nI_m1, Nat.add_zero, Nat.zero_add, Nat.reduceAdd, Nat.reduceMul, true_or, or_true, znar_50, bI_0, bI_1, bI_z, bft, nI_z0, nI_z1, lgc_lt, lgc_gt, lgc_le, lgc_ge, lgc_eq, not_true_eq_false, not_false_eq_true, Bool.not_eq_true, Bool.not_eq_false, reduceCtorEq, m169, h0, z1, hm, m114, lin_n, z2, m212]
end MK

