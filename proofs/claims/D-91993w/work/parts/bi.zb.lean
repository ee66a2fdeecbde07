set_option maxRecDepth 100000
/-! begins, pastes, puts: what they leave -/
section XH
variable {d : Nat} {z : ZH} {Q : ZQ} {r s q u w : Nat} {i a b n1 : Int32} {x : Int64}
def xwid (t : Nat) : Nat := if t = 52 then 0 else if t = 53 then 1 else if t = 50 then 2 else 3
theorem c_width (h11 : zcls z r = 11) (hq : zfr z r 0 = .ref q) (hk : 50 ≤ zcls z q ∧ zcls z q < 54) : ZC zK d 0 [.ref r] z Q = Q (.inl (some (.int (nI (xwid (zcls z q)))))) z := by
  have e2 : ((1 : Int32) = 0) = False := eq_false (by decide)
  have e4 : ((0 : Int32) = 0) = True := eq_true rfl
  rcases (by omega : zcls z q = 52 ∨ zcls z q = 53 ∨ zcls z q = 50 ∨ zcls z q = 51) with h | h | h | h
  · have g1 : (50 ≤ 52) = True := eq_true (by decide)
    have g2 : (52 < 54) = True := eq_true (by decide)
    have f1 : (52 = 52) = True := eq_true rfl
    have w1 : xwid 52 = 0 := rfl
    simp only [ek0, k0_0, k0_1, k0_4, k0_4r, k0_7, k0_10, k0_11, k0_14, k0_15, k0_18, k0_18r, k0_21, k0_24, k0_25, k0_28, k0_29, k0_32, k0_32r, k0_35, k0_38, k0_39, k0_42, k0_43, zcs_0, zcs_1, zcs_2, zcs_3, zcs_4, zcs_5, zcs_6, zcs_7, znl_i, znl_r, znl_n, Bool.and_true, Bool.true_and, zk_v, zk_n, zk_x, zir_r, zir_n, zclr_i, zclr_r, zclr_n, zclr_d, zclr_l, true_and, and_true, and_self, if_true, if_false, reduceIte, h11, hq, h, g1, g2, f1, e2, e4, w1]
  · have g1 : (50 ≤ 53) = True := eq_true (by decide)
    have g2 : (53 < 54) = True := eq_true (by decide)
    have f1 : (53 = 52) = False := eq_false (by decide)
    have f2 : (53 = 53) = True := eq_true rfl
    have w1 : xwid 53 = 1 := rfl
    simp only [ek0, k0_0, k0_1, k0_4, k0_4r, k0_7, k0_10, k0_11, k0_14, k0_15, k0_18, k0_18r, k0_21, k0_24, k0_25, k0_28, k0_29, k0_32, k0_32r, k0_35, k0_38, k0_39, k0_42, k0_43, zcs_0, zcs_1, zcs_2, zcs_3, zcs_4, zcs_5, zcs_6, zcs_7, znl_i, znl_r, znl_n, Bool.and_true, Bool.true_and, zk_v, zk_n, zk_x, zir_r, zir_n, zclr_i, zclr_r, zclr_n, zclr_d, zclr_l, true_and, and_true, and_self, if_true, if_false, reduceIte, h11, hq, h, g1, g2, f1, f2, e2, e4, w1]
  · have g1 : (50 ≤ 50) = True := eq_true (by decide)
    have g2 : (50 < 54) = True := eq_true (by decide)
    have f1 : (50 = 52) = False := eq_false (by decide)
    have f2 : (50 = 53) = False := eq_false (by decide)
    have f3 : (50 = 50) = True := eq_true rfl
    have w1 : xwid 50 = 2 := rfl
    simp only [ek0, k0_0, k0_1, k0_4, k0_4r, k0_7, k0_10, k0_11, k0_14, k0_15, k0_18, k0_18r, k0_21, k0_24, k0_25, k0_28, k0_29, k0_32, k0_32r, k0_35, k0_38, k0_39, k0_42, k0_43, zcs_0, zcs_1, zcs_2, zcs_3, zcs_4, zcs_5, zcs_6, zcs_7, znl_i, znl_r, znl_n, Bool.and_true, Bool.true_and, zk_v, zk_n, zk_x, zir_r, zir_n, zclr_i, zclr_r, zclr_n, zclr_d, zclr_l, true_and, and_true, and_self, if_true, if_false, reduceIte, h11, hq, h, g1, g2, f1, f2, f3, e2, e4, w1]
  · have g1 : (50 ≤ 51) = True := eq_true (by decide)
    have g2 : (51 < 54) = True := eq_true (by decide)
    have f1 : (51 = 52) = False := eq_false (by decide)
    have f2 : (51 = 53) = False := eq_false (by decide)
    have f3 : (51 = 50) = False := eq_false (by decide)
    have w1 : xwid 51 = 3 := rfl
    simp only [ek0, k0_0, k0_1, k0_4, k0_4r, k0_7, k0_10, k0_11, k0_14, k0_15, k0_18, k0_18r, k0_21, k0_24, k0_25, k0_28, k0_29, k0_32, k0_32r, k0_35, k0_38, k0_39, k0_42, k0_43, zcs_0, zcs_1, zcs_2, zcs_3, zcs_4, zcs_5, zcs_6, zcs_7, znl_i, znl_r, znl_n, Bool.and_true, Bool.true_and, zk_v, zk_n, zk_x, zir_r, zir_n, zclr_i, zclr_r, zclr_n, zclr_d, zclr_l, true_and, and_true, and_self, if_true, if_false, reduceIte, h11, hq, h, g1, g2, f1, f2, f3, e2, e4, w1]
theorem xwid_ne {t t' : Nat} (h : 50 ≤ t ∧ t < 54) (h' : 50 ≤ t' ∧ t' < 54) (hne : ¬ t = t') : ¬ nI (xwid t) = nI (xwid t') := by
  rcases (by omega : t = 52 ∨ t = 53 ∨ t = 50 ∨ t = 51) with e | e | e | e <;> rcases (by omega : t' = 52 ∨ t' = 53 ∨ t' = 50 ∨ t' = 51) with e' | e' | e' | e' <;> subst e <;> subst e' <;> first | exact absurd rfl hne | decide
theorem ztsw3 : ztsw [28, 38, 48] 58 a = if a = 0 then 28 else if a = 1 then 38 else if a = 2 then 48 else 58 := by
  by_cases h0 : a = 0
  · subst h0; rfl
  by_cases h1 : a = 1
  · subst h1; rfl
  by_cases h2 : a = 2
  · subst h2; rfl
  rw [if_neg h0, if_neg h1, if_neg h2]
  unfold ztsw
  by_cases hn : a < 0
  · rw [if_pos hn]
  · rw [if_neg hn]
    have h3 : 3 ≤ a.toNatClampNeg := by
      refine Nat.le_of_not_lt (fun hlt => ?_)
      have e1 : a.toInt = (zx a : Int) := toI hn
      have e1 : a.toInt = (a.toNatClampNeg : Int) := e1
      rcases (by omega : a.toNatClampNeg = 0 ∨ a.toNatClampNeg = 1 ∨ a.toNatClampNeg = 2) with e | e | e
      · exact h0 (Int32.toInt_inj.mp (by rw [e1, e]; decide))
      · exact h1 (Int32.toInt_inj.mp (by rw [e1, e]; decide))
      · exact h2 (Int32.toInt_inj.mp (by rw [e1, e]; decide))
    rw [List.getD_eq_getElem?_getD, List.getElem?_eq_none_iff.mpr (show [28, 38, 48].length ≤ _ from h3)]
    rfl
theorem zin_le (h : b ≤ 1000) (hn : ¬ b < 0) : zin b 1000000 = true := by
  unfold zin
  rw [Bool.and_eq_true]
  have h1 : b.toInt = (zx b : Int) := toI hn
  have h2 : b.toInt ≤ 1000 := by
    have := Int32.le_iff_toInt_le.mp h
    exact this
  refine ⟨by simpa using hn, decide_eq_true ?_⟩
  show zx b < 1000000
  omega
theorem c_begins (h11 : zcls z r = 11) (hne : ¬ r = zn z) (hb : b ≤ 1000) : ZC zK d 1 [.ref r, .int a, .int b] z Q = if b < 0 then Q (.inl (some (.int 0))) (spay z 20 400) else Q (.inl (some (.int 1))) (sfr (sarr z (zwk a) (zx b)) r 0 (.ref (zn z))) := by
  have t0 : ((0 : Int32) = 0 ∨ (0 : Int32) = 1) = True := eq_true (Or.inl rfl)
  have t1 : ((1 : Int32) = 0 ∨ (1 : Int32) = 1) = True := eq_true (Or.inr rfl)
  have n0 : nI 0 = 0 := rfl
  have n1 : nI 1 = 1 := rfl
  have c9 : ∀ t, (zcls (sarr z t (zx b)) r = 11) = True := fun t => eq_true ((zu1_n _ _ _ hne).trans h11)
  by_cases hn : b < 0
  · have hn' : (b < 0) = True := eq_true hn
    by_cases e0 : a = 0
    · have hs : ztsw [28, 38, 48] 58 a = 28 := ztsw3.trans (if_pos e0)
      simp only [ek1, k1_0, k1_1, k1_28, k1_29, k1_30, k1_32, k1_35, k1_38, k1_39, k1_40, k1_42, k1_45, k1_48, k1_49, k1_50, k1_52, k1_55, k1_58, k1_59, k1_60, k1_62, k1_65, k1_69, k1_70, k1_71, k1_72, k1_68, zcs_0, zcs_1, zcs_2, zcs_3, zcs_4, zcs_5, zcs_6, zcs_7, znl_i, znl_r, znl_n, Bool.and_true, Bool.true_and, zk_v, zk_n, zk_x, zir_r, zir_n, zclr_i, zclr_r, zclr_n, zclr_d, zclr_l, true_and, and_true, and_self, if_true, if_false, reduceIte, hs, hn', t0, n0]
    by_cases e1 : a = 1
    · have hs : ztsw [28, 38, 48] 58 a = 38 := ztsw3.trans ((if_neg e0).trans (if_pos e1))
      simp only [ek1, k1_0, k1_1, k1_28, k1_29, k1_30, k1_32, k1_35, k1_38, k1_39, k1_40, k1_42, k1_45, k1_48, k1_49, k1_50, k1_52, k1_55, k1_58, k1_59, k1_60, k1_62, k1_65, k1_69, k1_70, k1_71, k1_72, k1_68, zcs_0, zcs_1, zcs_2, zcs_3, zcs_4, zcs_5, zcs_6, zcs_7, znl_i, znl_r, znl_n, Bool.and_true, Bool.true_and, zk_v, zk_n, zk_x, zir_r, zir_n, zclr_i, zclr_r, zclr_n, zclr_d, zclr_l, true_and, and_true, and_self, if_true, if_false, reduceIte, hs, hn', t0, n0]
    by_cases e2 : a = 2
    · have hs : ztsw [28, 38, 48] 58 a = 48 := ztsw3.trans ((if_neg e0).trans ((if_neg e1).trans (if_pos e2)))
      simp only [ek1, k1_0, k1_1, k1_28, k1_29, k1_30, k1_32, k1_35, k1_38, k1_39, k1_40, k1_42, k1_45, k1_48, k1_49, k1_50, k1_52, k1_55, k1_58, k1_59, k1_60, k1_62, k1_65, k1_69, k1_70, k1_71, k1_72, k1_68, zcs_0, zcs_1, zcs_2, zcs_3, zcs_4, zcs_5, zcs_6, zcs_7, znl_i, znl_r, znl_n, Bool.and_true, Bool.true_and, zk_v, zk_n, zk_x, zir_r, zir_n, zclr_i, zclr_r, zclr_n, zclr_d, zclr_l, true_and, and_true, and_self, if_true, if_false, reduceIte, hs, hn', t0, n0]
    · have hs : ztsw [28, 38, 48] 58 a = 58 := ztsw3.trans ((if_neg e0).trans ((if_neg e1).trans (if_neg e2)))
      simp only [ek1, k1_0, k1_1, k1_28, k1_29, k1_30, k1_32, k1_35, k1_38, k1_39, k1_40, k1_42, k1_45, k1_48, k1_49, k1_50, k1_52, k1_55, k1_58, k1_59, k1_60, k1_62, k1_65, k1_69, k1_70, k1_71, k1_72, k1_68, zcs_0, zcs_1, zcs_2, zcs_3, zcs_4, zcs_5, zcs_6, zcs_7, znl_i, znl_r, znl_n, Bool.and_true, Bool.true_and, zk_v, zk_n, zk_x, zir_r, zir_n, zclr_i, zclr_r, zclr_n, zclr_d, zclr_l, true_and, and_true, and_self, if_true, if_false, reduceIte, hs, hn', t0, n0]
  · have hn' : (b < 0) = False := eq_false hn
    have hz : zin b 1000000 = true := zin_le hb hn
    by_cases e0 : a = 0
    · have hs : ztsw [28, 38, 48] 58 a = 28 := ztsw3.trans (if_pos e0)
      have hw : zwk a = 52 := if_pos e0
      simp only [ek1, k1_0, k1_1, k1_28, k1_29, k1_30, k1_32, k1_35, k1_38, k1_39, k1_40, k1_42, k1_45, k1_48, k1_49, k1_50, k1_52, k1_55, k1_58, k1_59, k1_60, k1_62, k1_65, k1_69, k1_70, k1_71, k1_72, k1_68, zcs_0, zcs_1, zcs_2, zcs_3, zcs_4, zcs_5, zcs_6, zcs_7, znl_i, znl_r, znl_n, Bool.and_true, Bool.true_and, zk_v, zk_n, zk_x, zir_r, zir_n, zclr_i, zclr_r, zclr_n, zclr_d, zclr_l, true_and, and_true, and_self, if_true, if_false, reduceIte, hs, hn', hz, hw, c9, t1, n1]
    by_cases e1 : a = 1
    · have hs : ztsw [28, 38, 48] 58 a = 38 := ztsw3.trans ((if_neg e0).trans (if_pos e1))
      have hw : zwk a = 53 := (if_neg e0).trans (if_pos e1)
      simp only [ek1, k1_0, k1_1, k1_28, k1_29, k1_30, k1_32, k1_35, k1_38, k1_39, k1_40, k1_42, k1_45, k1_48, k1_49, k1_50, k1_52, k1_55, k1_58, k1_59, k1_60, k1_62, k1_65, k1_69, k1_70, k1_71, k1_72, k1_68, zcs_0, zcs_1, zcs_2, zcs_3, zcs_4, zcs_5, zcs_6, zcs_7, znl_i, znl_r, znl_n, Bool.and_true, Bool.true_and, zk_v, zk_n, zk_x, zir_r, zir_n, zclr_i, zclr_r, zclr_n, zclr_d, zclr_l, true_and, and_true, and_self, if_true, if_false, reduceIte, hs, hn', hz, hw, c9, t1, n1]
    by_cases e2 : a = 2
    · have hs : ztsw [28, 38, 48] 58 a = 48 := ztsw3.trans ((if_neg e0).trans ((if_neg e1).trans (if_pos e2)))
      have hw : zwk a = 50 := (if_neg e0).trans ((if_neg e1).trans (if_pos e2))
      simp only [ek1, k1_0, k1_1, k1_28, k1_29, k1_30, k1_32, k1_35, k1_38, k1_39, k1_40, k1_42, k1_45, k1_48, k1_49, k1_50, k1_52, k1_55, k1_58, k1_59, k1_60, k1_62, k1_65, k1_69, k1_70, k1_71, k1_72, k1_68, zcs_0, zcs_1, zcs_2, zcs_3, zcs_4, zcs_5, zcs_6, zcs_7, znl_i, znl_r, znl_n, Bool.and_true, Bool.true_and, zk_v, zk_n, zk_x, zir_r, zir_n, zclr_i, zclr_r, zclr_n, zclr_d, zclr_l, true_and, and_true, and_self, if_true, if_false, reduceIte, hs, hn', hz, hw, c9, t1, n1]
    · have hs : ztsw [28, 38, 48] 58 a = 58 := ztsw3.trans ((if_neg e0).trans ((if_neg e1).trans (if_neg e2)))
      have hw : zwk a = 51 := (if_neg e0).trans ((if_neg e1).trans (if_neg e2))
      simp only [ek1, k1_0, k1_1, k1_28, k1_29, k1_30, k1_32, k1_35, k1_38, k1_39, k1_40, k1_42, k1_45, k1_48, k1_49, k1_50, k1_52, k1_55, k1_58, k1_59, k1_60, k1_62, k1_65, k1_69, k1_70, k1_71, k1_72, k1_68, zcs_0, zcs_1, zcs_2, zcs_3, zcs_4, zcs_5, zcs_6, zcs_7, znl_i, znl_r, znl_n, Bool.and_true, Bool.true_and, zk_v, zk_n, zk_x, zir_r, zir_n, zclr_i, zclr_r, zclr_n, zclr_d, zclr_l, true_and, and_true, and_self, if_true, if_false, reduceIte, hs, hn', hz, hw, c9, t1, n1]
theorem zputs_3 (z : ZH) (r : Nat) (i : Int32) (x : Int64) : (zputs z r i x).1 = 0 ∨ (zputs z r i x).1 = -6 ∨ (zputs z r i x).1 = -7 := by
  unfold zputs
  split
  · split
    · exact Or.inl rfl
    · exact Or.inr (Or.inr rfl)
  · exact Or.inr (Or.inl rfl)
theorem c_puts (h : zheldB z r = true) : ZC zK d 3 [.ref r, .int i, .long x] z Q = Q (.inl (some (.int (zputs z r i x).1))) (zputs z r i x).2 := by
  have n0 : nI 0 = 0 := rfl
  rcases zputs_3 z r i x with e | e | e
  · have f1 : ((0 : Int32) = 0) = True := eq_true rfl
    simp only [ek3, k3_0, k3_1, k3_2, k3_3, k3_6, k3_11, k3_13, k3_16, k3_18, k3_19, k3_20, k3_9, k3_14, zcs_0, zcs_1, zcs_2, zcs_3, zcs_4, zcs_5, zcs_6, zcs_7, znl_i, znl_r, znl_n, Bool.and_true, Bool.true_and, zk_v, zk_n, zk_x, zir_r, zir_n, zclr_i, zclr_r, zclr_n, zclr_d, zclr_l, true_and, and_true, and_self, if_true, if_false, reduceIte, h, e, f1, n0]
  · have f1 : ((-6 : Int32) = 0) = False := eq_false (by decide)
    have f2 : ((-6 : Int32) = -6) = True := eq_true rfl
    simp only [ek3, k3_0, k3_1, k3_2, k3_3, k3_6, k3_11, k3_13, k3_16, k3_18, k3_19, k3_20, k3_9, k3_14, zcs_0, zcs_1, zcs_2, zcs_3, zcs_4, zcs_5, zcs_6, zcs_7, znl_i, znl_r, znl_n, Bool.and_true, Bool.true_and, zk_v, zk_n, zk_x, zir_r, zir_n, zclr_i, zclr_r, zclr_n, zclr_d, zclr_l, true_and, and_true, and_self, if_true, if_false, reduceIte, h, e, f1, f2]
  · have f1 : ((-7 : Int32) = 0) = False := eq_false (by decide)
    have f2 : ((-7 : Int32) = -6) = False := eq_false (by decide)
    simp only [ek3, k3_0, k3_1, k3_2, k3_3, k3_6, k3_11, k3_13, k3_16, k3_18, k3_19, k3_20, k3_9, k3_14, zcs_0, zcs_1, zcs_2, zcs_3, zcs_4, zcs_5, zcs_6, zcs_7, znl_i, znl_r, znl_n, Bool.and_true, Bool.true_and, zk_v, zk_n, zk_x, zir_r, zir_n, zclr_i, zclr_r, zclr_n, zclr_d, zclr_l, true_and, and_true, and_self, if_true, if_false, reduceIte, h, e, f1, f2]
theorem c_pastes (h1 : zheldB z r = true) (h2 : zheldB z s = true) (hf : zfitB z r = true) : ZC zK (d + 1) 2 [.ref r, .int a, .ref s, .int b, .int n1] z Q = Q (.inl (some (.int (zpastes z r a s b n1).1))) (zpastes z r a s b n1).2 := by
  obtain ⟨r11, hr⟩ := held_cases h1
  obtain ⟨s11, hs⟩ := held_cases h2
  rcases hr with hr | ⟨u, hu, u100, uk, ul⟩
  · have hp : zpastes z r a s b n1 = (-6, z) := by unfold zpastes; rw [hr]
    rw [hp]
    simp only [ek2, k2_0, k2_1, k2_4, k2_4r, k2_7, k2_8, k2_11, k2_11r, k2_14, k2_16, k2_17, k2_18, k2_21, k2_22, k2_25, k2_28, k2_30, k2_31, k2_32, k2_35, k2_36, k2_37, k2_40, k2_41, k2_43, k2_46, k2_51, k2_53, k2_54, k2_55, k2_49, zcs_0, zcs_1, zcs_2, zcs_3, zcs_4, zcs_5, zcs_6, zcs_7, znl_i, znl_r, znl_n, Bool.and_true, Bool.true_and, zk_v, zk_n, zk_x, zir_r, zir_n, zclr_i, zclr_r, zclr_n, zclr_d, zclr_l, true_and, and_true, and_self, if_true, if_false, reduceIte, r11, hr]
  rcases hs with hs | ⟨w, hw, w100, wk, wl⟩
  · have hp : zpastes z r a s b n1 = (-6, z) := by unfold zpastes; rw [hu, hs]
    rw [hp]
    simp only [ek2, k2_0, k2_1, k2_4, k2_4r, k2_7, k2_8, k2_11, k2_11r, k2_14, k2_16, k2_17, k2_18, k2_21, k2_22, k2_25, k2_28, k2_30, k2_31, k2_32, k2_35, k2_36, k2_37, k2_40, k2_41, k2_43, k2_46, k2_51, k2_53, k2_54, k2_55, k2_49, zcs_0, zcs_1, zcs_2, zcs_3, zcs_4, zcs_5, zcs_6, zcs_7, znl_i, znl_r, znl_n, Bool.and_true, Bool.true_and, zk_v, zk_n, zk_x, zir_r, zir_n, zclr_i, zclr_r, zclr_n, zclr_d, zclr_l, true_and, and_true, and_self, if_true, if_false, reduceIte, r11, s11, hu, hs]
  have cu := fun d Q => c_width (d := d) (Q := Q) r11 hu uk
  have cw := fun d Q => c_width (d := d) (Q := Q) s11 hw wk
  have hfu : zfitA z u = true := by
    unfold zfitB at hf
    rw [hu] at hf
    exact hf
  by_cases hk : zcls z u = zcls z w
  · have hp : zpastes z r a s b n1 = if (¬ a < 0 ∧ ¬ b < 0 ∧ ¬ n1 < 0) ∧ zx a + zx n1 ≤ zlen z u ∧ zx b + zx n1 ≤ zlen z w then (0, scpy z u w (zx a) (zx b) (zx n1)) else (-7, spay z 40 800) := by
      unfold zpastes
      rw [hu, hw]
      exact if_pos hk
    have hg : ((50 ≤ zcls z u ∧ zcls z u < 54) ∧ zcls z u = zcls z w ∧ zlen z u ≤ 1000 ∧ zlen z w ≤ 1000 ∧ zfitA z u = true) = True := eq_true ⟨uk, hk, ul, wl, hfu⟩
    have he : (nI (xwid (zcls z u)) = nI (xwid (zcls z w))) = True := eq_true (by rw [hk])
    have n0 : nI 0 = 0 := rfl
    by_cases hin : (¬ a < 0 ∧ ¬ b < 0 ∧ ¬ n1 < 0) ∧ zx a + zx n1 ≤ zlen z u ∧ zx b + zx n1 ≤ zlen z w
    · rw [hp, if_pos hin]
      have hin' : ((¬ a < 0 ∧ ¬ b < 0 ∧ ¬ n1 < 0) ∧ zx a + zx n1 ≤ zlen z u ∧ zx b + zx n1 ≤ zlen z w) = True := eq_true hin
      simp only [ek2, k2_0, k2_1, k2_4, k2_4r, k2_7, k2_8, k2_11, k2_11r, k2_14, k2_16, k2_17, k2_18, k2_21, k2_22, k2_25, k2_28, k2_30, k2_31, k2_32, k2_35, k2_36, k2_37, k2_40, k2_41, k2_43, k2_46, k2_51, k2_53, k2_54, k2_55, k2_49, zcs_0, zcs_1, zcs_2, zcs_3, zcs_4, zcs_5, zcs_6, zcs_7, znl_i, znl_r, znl_n, Bool.and_true, Bool.true_and, zk_v, zk_n, zk_x, zir_r, zir_n, zclr_i, zclr_r, zclr_n, zclr_d, zclr_l, true_and, and_true, and_self, if_true, if_false, reduceIte, r11, s11, hu, hw, cu, cw, he, hg, hin', n0]
    · rw [hp, if_neg hin]
      have hin' : ((¬ a < 0 ∧ ¬ b < 0 ∧ ¬ n1 < 0) ∧ zx a + zx n1 ≤ zlen z u ∧ zx b + zx n1 ≤ zlen z w) = False := eq_false hin
      simp only [ek2, k2_0, k2_1, k2_4, k2_4r, k2_7, k2_8, k2_11, k2_11r, k2_14, k2_16, k2_17, k2_18, k2_21, k2_22, k2_25, k2_28, k2_30, k2_31, k2_32, k2_35, k2_36, k2_37, k2_40, k2_41, k2_43, k2_46, k2_51, k2_53, k2_54, k2_55, k2_49, zcs_0, zcs_1, zcs_2, zcs_3, zcs_4, zcs_5, zcs_6, zcs_7, znl_i, znl_r, znl_n, Bool.and_true, Bool.true_and, zk_v, zk_n, zk_x, zir_r, zir_n, zclr_i, zclr_r, zclr_n, zclr_d, zclr_l, true_and, and_true, and_self, if_true, if_false, reduceIte, r11, s11, hu, hw, cu, cw, he, hg, hin']
  · have hp : zpastes z r a s b n1 = (-8, z) := by
      unfold zpastes
      rw [hu, hw]
      exact if_neg hk
    have he : (nI (xwid (zcls z u)) = nI (xwid (zcls z w))) = False := eq_false (xwid_ne uk wk hk)
    rw [hp]
    simp only [ek2, k2_0, k2_1, k2_4, k2_4r, k2_7, k2_8, k2_11, k2_11r, k2_14, k2_16, k2_17, k2_18, k2_21, k2_22, k2_25, k2_28, k2_30, k2_31, k2_32, k2_35, k2_36, k2_37, k2_40, k2_41, k2_43, k2_46, k2_51, k2_53, k2_54, k2_55, k2_49, zcs_0, zcs_1, zcs_2, zcs_3, zcs_4, zcs_5, zcs_6, zcs_7, znl_i, znl_r, znl_n, Bool.and_true, Bool.true_and, zk_v, zk_n, zk_x, zir_r, zir_n, zclr_i, zclr_r, zclr_n, zclr_d, zclr_l, true_and, and_true, and_self, if_true, if_false, reduceIte, r11, s11, hu, hw, cu, cw, he]
end XH
section XKC
theorem kMet {k d : Nat} {as : List Value} {y y' : ZH} {v : Option Value} {l : Launch} (hfl : l.flags = flags0) (hk : zIOK zK 31 kInfo k) (hrun : ZC zK d k as y (fun o w => o = .inl v ∧ w = y')) (hfit : (zent as).length ≤ kMl k) (X : ZX) (ws : va_W) (sz : Nat) (as' : List Value) (hH : zHR X ws y) (has : zSR X ws as as') (hD : va_D (fun _ => True) ws) : Met l (kInfo k).2.1 (zws (kInfo k)) (zRm 31 d (zuc y' - zuc y) (zus y' - zus y)) (zPc X ws sz as') (zQr X ws sz y' v) (zuc y' - zuc y) (zus y' - zus y) (va_A ws sz) := by
  obtain ⟨n, ⟨o, z1⟩, hev, ho, hz⟩ := hrun
  dsimp only at ho hz
  subst ho
  subst hz
  exact zEnter (zSK n) hfl hk hev hfit X ws sz as' hH has hD
variable {p : Program} {l : Launch} {e : Env} {R : Room} {s : State} {m : MethodId} {args : Array Value} {below : List Frame} {meth : Method} {c : Code} {H : Heap} {locs : List Loc} {cells slots : Nat} {Q : State → Prop}
/-- a slot's method, called -/
theorem kCall {inf : ZInf} {pc k d : Nat} {sel : ZS} (hok : zCOK kInfo inf pc (pc + 3) sel) (hk : zIOK zK 31 kInfo k) (hmn : zMain inf = true) (hL20 : (kInfo k).2.2.1 ≤ 20) (hd3 : d ≤ 3)
    {X : ZX} {A : Nat → Prop} {w0 ws : va_W} {z z' : ZH} {ls st as st1 : List Value} {lsm : Array Slot} {stm : List Value} {v : Option Value}
    (C : zCtx X A p l s m args meth c R inf) (I : zInv X A s inf.2.2.1 w0 H locs ws z ls st lsm stm) (hsel : sel z st = some (k, as, st1)) (hz : zcs st1 = true) (hfit : (zent as).length ≤ kMl k)
    (hrun : ZC zK d k as z (fun o w => o = .inl v ∧ w = z')) (hc1 : cells + (zuc z' - zuc z) ≤ R.cells) (hc2 : slots + (zus z' - zus z) ≤ R.slots)
    (kk : ∀ (H' : Heap) (locs' : List Loc) (ws' : va_W) (stm' : List Value), zInv X A s inf.2.2.1 w0 H' locs' ws' z' ls (v.toList ++ st1) lsm stm' → W p l e R s m args below meth c H' locs' (cells + (zuc z' - zuc z)) (slots + (zus z' - zus z)) Q (F0 m (pc + 3) lsm stm')) : W p l e R s m args below meth c H locs cells slots Q (F0 m pc lsm stm) := by
  have C0 := C
  obtain ⟨hx, hb, hml, hown, hts, hSx, hA, hnm, hfr, hlo, hlk, hfl, hmain, -⟩ := C
  obtain ⟨h40, h16⟩ := hmain hmn
  have hFr := zFree hA I
  obtain ⟨hH, hP, hD, hS, hE, hL, hsr⟩ := id I
  obtain ⟨hst, hrun2⟩ := hok.2 z st k as st1 hsel
  subst hst
  obtain ⟨as2, restm, e3, has, hrest⟩ : ∃ as' restm, stm = as'.reverse ++ restm ∧ zSR X ws as as' ∧ zSR X ws st1 restm := zSR_split hsr
  have hM := kMet (k := k) (d := d) hfl hk hrun hfit X ws H.size as2 hH has (hD.weaken (fun _ _ _ _ => trivial))
  exact jgo3 (hrun2 p l e R s m args below meth c H locs cells slots X A w0 ws ls lsm stm 31 d _ _ _ _ _ as2 restm C0 I hz (by omega) (by omega) hc1 hc2 e3 has hrest hM zPc_blind (fun U hU hW => ⟨rfl, by rw [hU], by rw [hU]; exact hP, hSx.to hW (by rw [hU]; exact hS) hFr⟩)) hA I hrest (fun _ h => h) kk
end XKC
section XP2
variable {inf : ZInf} {pc idx : Nat}
theorem p_begins (hd : decode inf.1 pc = .ok (.invokevirtual idx, 3)) (hq : Cond.methodLink inf.2.1.cls idx ⟨"CardBowl$Slot", "begins", "(II)Z"⟩ ∈ lw_all) : zOK inf pc (z_begins (pc + 3)) := by
  intro ls st z p' ls' st' z' hf0
  unfold z_begins at hf0
  split at hf0
  · rename_i b a r st1
    split at hf0
    · rename_i hb
      obtain ⟨hzc, h11, hb9⟩ := hb
      have hne : ∀ {X : ZX} {ws : va_W} {v2 v3 : Value} {stm : List Value}, zHR X ws z → zSR X ws (v2 :: v3 :: .ref r :: st1) stm → ¬ r = zn z := by
        intro X ws v2 v3 stm hH hs
        match stm, hs with
        | [], h => exact h.elim
        | [_], h => exact h.2.elim
        | _ :: _ :: rest, h =>
          obtain ⟨a0, u1, e9, ha, -⟩ := zSR_r h.2.2
          obtain ⟨hr1, e0, he0, -⟩ := hH.at (by omega) (by omega) ha
          have := (List.getElem?_eq_some_iff.mp he0).1
          have := hH.1.1
          omega
      split at hf0
      · rename_i hn
        cases hf0
        refine ⟨⟨Nat.le_add_right _ _, Nat.le_add_right _ _⟩, ?_⟩
        intro p l e R s m args below meth c H locs cells slots Q X A w0 ws lsm stm C I hcl hsl k
        have hrun : ZC zK 3 1 [.ref r, .int a, .int b] z (fun o w => o = .inl (some (.int 0)) ∧ w = spay z 20 400) := Eq.mpr ((c_begins h11 (hne I.1 I.2.2.2.2.2.2) hb9).trans (if_pos hn)) ⟨rfl, rfl⟩
        exact kCall (sel := sV2 11 1) (cok_VW (zI := kInfo) (c := 11) (k1 := 1) (n := 2) hd rfl (by decide) rfl selV2 hq q167 q168 q125 q169 rfl (by decide +kernel)) (k := 1) (d := 3) (st1 := st1) (as := [.ref r, .int a, .int b]) (kIOK (k := 1) (pc := 0) rfl) (jmain hq rfl) (by decide) (by decide) C I (if_pos h11) hzc (by show (3 : Nat) ≤ _; decide +kernel) hrun hcl hsl (fun H' locs' ws' stm' I' => k H' locs' ws' lsm stm' I')
      · rename_i hn
        cases hf0
        refine ⟨⟨Nat.le_add_right _ _, Nat.le_add_right _ _⟩, ?_⟩
        intro p l e R s m args below meth c H locs cells slots Q X A w0 ws lsm stm C I hcl hsl k
        have hrun : ZC zK 3 1 [.ref r, .int a, .int b] z (fun o w => o = .inl (some (.int 1)) ∧ w = sfr (sarr z (zwk a) (zx b)) r 0 (.ref (zn z))) := Eq.mpr ((c_begins h11 (hne I.1 I.2.2.2.2.2.2) hb9).trans (if_neg hn)) ⟨rfl, rfl⟩
        exact kCall (sel := sV2 11 1) (cok_VW (zI := kInfo) (c := 11) (k1 := 1) (n := 2) hd rfl (by decide) rfl selV2 hq q167 q168 q125 q169 rfl (by decide +kernel)) (k := 1) (d := 3) (st1 := st1) (as := [.ref r, .int a, .int b]) (kIOK (k := 1) (pc := 0) rfl) (jmain hq rfl) (by decide) (by decide) C I (if_pos h11) hzc (by show (3 : Nat) ≤ _; decide +kernel) hrun hcl hsl (fun H' locs' ws' stm' I' => k H' locs' ws' lsm stm' I')
    · cases hf0
  · cases hf0
theorem sput_le (z : ZH) (q i : Nat) (x : Int64) : zuc (sput z q i x) = zuc z ∧ zus (sput z q i x) = zus z := by
  unfold sput
  split <;> exact ⟨rfl, rfl⟩
theorem zputs_le (z : ZH) (r : Nat) (i : Int32) (x : Int64) : zuc z ≤ zuc (zputs z r i x).2 ∧ zus z ≤ zus (zputs z r i x).2 := by
  have h1 : zuc z ≤ zuc (spay z 40 800) := Nat.le_add_right _ _
  have h2 : zus z ≤ zus (spay z 40 800) := Nat.le_add_right _ _
  unfold zputs
  split
  · split
    · dsimp only
      rw [(sput_le _ _ _ _).1, (sput_le _ _ _ _).2]
      exact ⟨h1, h2⟩
    · exact ⟨h1, h2⟩
  · exact ⟨h1, h2⟩
theorem zpastes_le (z : ZH) (r s : Nat) (a b n1 : Int32) : zuc z ≤ zuc (zpastes z r a s b n1).2 ∧ zus z ≤ zus (zpastes z r a s b n1).2 := by
  have h1 : zuc z ≤ zuc (spay z 40 800) := Nat.le_add_right _ _
  have h2 : zus z ≤ zus (spay z 40 800) := Nat.le_add_right _ _
  unfold zpastes
  split
  · split
    · split
      · dsimp only
        rw [uc_scpy, us_scpy]
        exact ⟨Nat.le_refl _, Nat.le_refl _⟩
      · exact ⟨h1, h2⟩
    · exact ⟨Nat.le_refl _, Nat.le_refl _⟩
  · exact ⟨Nat.le_refl _, Nat.le_refl _⟩
theorem p_puts (hd : decode inf.1 pc = .ok (.invokevirtual idx, 3)) (hq : Cond.methodLink inf.2.1.cls idx ⟨"CardBowl$Slot", "puts", "(IJ)I"⟩ ∈ lw_all) : zOK inf pc (z_puts (pc + 3)) := by
  intro ls st z p' ls' st' z' hf0
  unfold z_puts at hf0
  split at hf0
  · rename_i x i r st1
    split at hf0
    · rename_i hb
      obtain ⟨hzc, hh⟩ := hb
      cases hf0
      refine ⟨zputs_le z r i x, ?_⟩
      intro p l e R s m args below meth c H locs cells slots Q X A w0 ws lsm stm C I hcl hsl k
      have hrun : ZC zK 3 3 [.ref r, .int i, .long x] z (fun o w => o = .inl (some (.int (zputs z r i x).1)) ∧ w = (zputs z r i x).2) := Eq.mpr (c_puts hh) ⟨rfl, rfl⟩
      exact kCall (sel := sV2 11 3) (cok_VW (zI := kInfo) (c := 11) (k1 := 3) (n := 2) hd rfl (by decide) rfl selV2 hq q266 q267 q125 q268 rfl (by decide +kernel)) (k := 3) (d := 3) (st1 := st1) (as := [.ref r, .int i, .long x]) (kIOK (k := 3) (pc := 0) rfl) (jmain hq rfl) (by decide) (by decide) C I (if_pos (held_cases hh).1) hzc (by show (4 : Nat) ≤ _; decide +kernel) hrun hcl hsl (fun H' locs' ws' stm' I' => k H' locs' ws' lsm stm' I')
    · cases hf0
  · cases hf0
theorem p_pastes (hd : decode inf.1 pc = .ok (.invokevirtual idx, 3)) (hq : Cond.methodLink inf.2.1.cls idx ⟨"CardBowl$Slot", "pastes", "(ILCardBowl$Slot;II)I"⟩ ∈ lw_all) : zOK inf pc (z_pastes (pc + 3)) := by
  intro ls st z p' ls' st' z' hf0
  unfold z_pastes at hf0
  split at hf0
  · rename_i n1 b s9 a r st1
    split at hf0
    · rename_i hb
      obtain ⟨hzc, hh, hh2, hf⟩ := hb
      cases hf0
      refine ⟨zpastes_le z r s9 a b n1, ?_⟩
      intro p l e R s m args below meth c H locs cells slots Q X A w0 ws lsm stm C I hcl hsl k
      have hrun : ZC zK 3 2 [.ref r, .int a, .ref s9, .int b, .int n1] z (fun o w => o = .inl (some (.int (zpastes z r a s9 b n1).1)) ∧ w = (zpastes z r a s9 b n1).2) := Eq.mpr (c_pastes (d := 2) hh hh2 hf) ⟨rfl, rfl⟩
      exact kCall (sel := sV4 11 2) (cok_VW (zI := kInfo) (c := 11) (k1 := 2) (n := 4) hd rfl (by decide) rfl selV4 hq q345 q346 q125 q347 rfl (by decide +kernel)) (k := 2) (d := 3) (st1 := st1) (as := [.ref r, .int a, .ref s9, .int b, .int n1]) (kIOK (k := 2) (pc := 0) rfl) (jmain hq rfl) (by decide) (by decide) C I (if_pos (held_cases hh).1) hzc (by show (5 : Nat) ≤ _; decide +kernel) hrun hcl hsl (fun H' locs' ws' stm' I' => k H' locs' ws' lsm stm' I')
    · cases hf0
  · cases hf0
end XP2

