set_option maxRecDepth 100000
/-! what one owes at most, and all of it -/
theorem zmax4 : ∀ a, a < 4 → ∀ b, b < 4 → zmax (nI a) (nI b) = nI (max a b) := by decide
theorem zmaxm : ∀ a, a < 4 → zmax (-1) (nI a) = nI a := by decide
theorem sGreat_ok {v : Nat → Nat} {a b : Int32} : ∀ n, (∀ i, i < n → v (1880 + 5 * i + 2) < 4) → (sGreat v a b n = -1 ∧ sWorth v a b n = 0 ∧ sCall v a b n = false) ∨ (∃ k, k < 4 ∧ sGreat v a b n = nI k ∧ 0 < sWorth v a b n ∧ sCall v a b n = decide (2 ≤ k))
  | 0, _ => Or.inl ⟨rfl, rfl, rfl⟩
  | n + 1, h => by
    have h4 := h n (by omega)
    have ih := sGreat_ok (v := v) (a := a) (b := b) n (fun i hi => h i (by omega))
    have eC : sCall v a b (n + 1) = (sCall v a b n || ((decide (nI (v (1880 + 5 * n)) = a) && decide (nI (v (1880 + 5 * n + 1)) = b)) && decide (2 ≤ v (1880 + 5 * n + 2)))) := rfl
    rw [eC]
    unfold sGreat sWorth
    by_cases c : nI (v (1880 + 5 * n)) = a ∧ nI (v (1880 + 5 * n + 1)) = b
    · rw [if_pos c, if_pos c, decide_eq_true c.1, decide_eq_true c.2, Bool.true_and, Bool.true_and]
      rcases ih with ⟨i1, i2, i3⟩ | ⟨k, k1, k2, k3, k4⟩
      · rw [i1, i2, i3, zmaxm _ h4]
        exact Or.inr ⟨_, h4, rfl, by omega, by simp⟩
      · rw [k2, k4, zmax4 _ k1 _ h4]
        refine Or.inr ⟨_, by omega, rfl, by omega, ?_⟩
        rw [Bool.eq_iff_iff, Bool.or_eq_true, decide_eq_true_iff, decide_eq_true_iff, decide_eq_true_iff]
        omega
    · rw [if_neg c, if_neg c, Nat.add_zero]
      have : (decide (nI (v (1880 + 5 * n)) = a) && decide (nI (v (1880 + 5 * n + 1)) = b)) = false := by
        rw [Bool.and_eq_false_iff]
        by_cases c1 : nI (v (1880 + 5 * n)) = a
        · exact Or.inr (decide_eq_false (fun c2 => c ⟨c1, c2⟩))
        · exact Or.inl (decide_eq_false c1)
      rw [this, Bool.false_and, Bool.or_false]
      exact ih
theorem sWorth_le {v : Nat → Nat} {a b : Int32} : ∀ n, (∀ i, i < n → v (1880 + 5 * i + 2) < 4) → sWorth v a b n ≤ 4 * n
  | 0, _ => Nat.le_refl _
  | n + 1, h => by
    have h4 := h n (by omega)
    have ih := sWorth_le (v := v) (a := a) (b := b) n (fun i hi => h i (by omega))
    unfold sWorth
    split <;> omega
theorem great0 {v : Nat → Nat} {a b : Int32} {n : Nat} (h : ∀ i, i < n → v (1880 + 5 * i + 2) < 4) : (sGreat v a b n = -1) = (sWorth v a b n = 0) := by
  apply propext
  rcases sGreat_ok (a := a) (b := b) n h with ⟨i1, i2, i3⟩ | ⟨k, k1, k2, k3, k4⟩
  · rw [i1, i2]; simp
  · rw [k2, nI_m1 (by omega)]
    constructor
    · exact False.elim
    · intro h; omega
theorem great2 {v : Nat → Nat} {a b : Int32} {n : Nat} (h : ∀ i, i < n → v (1880 + 5 * i + 2) < 4) : (nI 2 ≤ sGreat v a b n) = (sCall v a b n = true) := by
  apply propext
  rcases sGreat_ok (a := a) (b := b) n h with ⟨i1, i2, i3⟩ | ⟨k, k1, k2, k3, k4⟩
  · rw [i1, i3]; simp only [Bool.false_eq_true, iff_false]; decide
  · rw [k2, k4, nI_le2 (by omega) (by omega), decide_eq_true_iff]
/-! drop -/
def dropN (v : Nat → Nat) (a : Nat) (all : Int32) : Nat → Int32
  | 0 => -1
  | h + 1 => if ((hasI (nI (v (1864 + a))) (nI h) = true ∧ sWorth v (nI a) (nI h) (v 7) = 0) ∧ onesN (hgI v (nI a) (nI h) a) 16 = all) ∧ (dropN v a all h = -1 ∨ nI (v (10 + 9 * h + 2)) < nI (v (10 + 9 * zx (dropN v a all h) + 2))) then nI h else dropN v a all h
theorem dropN_ok {v : Nat → Nat} {a : Nat} {all : Int32} : ∀ n, dropN v a all n = -1 ∨ ∃ b, b < n ∧ dropN v a all n = nI b
  | 0 => Or.inl rfl
  | n + 1 => by
    unfold dropN
    split
    · exact Or.inr ⟨n, by omega, rfl⟩
    · rcases dropN_ok (v := v) (a := a) (all := all) n with h | ⟨b, h1, h2⟩
      · exact Or.inl h
      · exact Or.inr ⟨b, by omega, h2⟩
def rDrop (v : Nat → Nat) (a : Int32) : Int32 := if zin a (v 0) = true then dropN v (zx a) (onesN (hgI v (-1) (-1) (zx a)) 16) (v 0) else -2
theorem hgI_lt {v : Nat → Nat} (h16 : v 0 ≤ 16) (h : wK v) (x y : Int32) {a : Nat} (ha : a < 16) : ∃ c, c < 65536 ∧ hgI v x y a = nI c := by
  have key : ∀ m s, s < 65536 → ∃ c, c < 65536 ∧ fixI (fun s => passI v x y s 16) m (nI s) = nI c := by
    intro m
    induction m with
    | zero => intro s hs; exact ⟨s, hs, rfl⟩
    | succ m ih =>
      intro s hs
      obtain ⟨c, p1, p2, p3⟩ := passI_ok (v := v) (x := x) (y := y) hs 16 (fun q hq => wK16 h16 h q (by omega))
      unfold fixI
      split
      · exact ⟨s, hs, rfl⟩
      · rw [p3]; exact ih c p2
  have h2a : 2 ^ a < 65536 := by
    have : (2 : Nat) ^ a < 2 ^ 16 := Nat.pow_lt_pow_right (by omega) ha
    omega
  exact key 65536 (2 ^ a) h2a
theorem bc_ones {x : Int32} (h : ∃ c, c < 65536 ∧ x = nI c) : bcI x = onesN x 16 := by
  obtain ⟨c, h1, rfl⟩ := h
  rw [bc_pc h1, ones_pc (by omega) 16 (Nat.le_refl _)]
section DR
variable {d : Nat} {B : Nat → Prop} {z : ZH} {Q : ZQ} {v : Nat → Nat} {L : Nat → List (Nat × Nat)} {t hl kn rl : Nat} {ha ra da ea : Nat → Nat} {K : Nat}
theorem m200 (hM : MS z) (hv : ∀ i, v i < 2147483648) (hT : wT v) (hk : wK v) (hD : wD v) (h8 : v 8 ≤ 600) {a : Int32} (H : ∀ f g, Q (.inl (some (.int (rDrop v a)))) (sW (sIA (sIA z 144 f) 145 g) v)) : ZC zG (d + 3) 200 [.ref 135, .int a] (sW z v) Q := by
  have h0 := hM
  unfold MS at h0
  have h16 := hT.1
  have rank : ∀ h, h < v 0 → v (10 + 9 * h + 2) < 10 := fun h hh => (hT.2.2.2.1 h hh).2.2.1
  unfold rDrop at H
  cases hz : zin a (v 0) with
  | false =>
    have H1 := H (zia z 144) (zia (sIA z 144 (zia z 144)) 145)
    rw [sIA_self, sIA_self, hz] at H1
    simp (disch := first | omega | exact hM | exact hv _ | (simp only [MS_sW, MS_sfi, MS_sia, MS_sIA, MS_sla, MS_sLA, MS_sls]; exact hM)) only [e200, s200_0, s200_1, s200_2, s200_5, s200_8, s200_10, s200_11, s200_12, s200_13, s200_16, s200_17, s200_18, s200_19, s200_20, s200_21, s200_22, s200_25, s200_28, s200_29, s200_30, s200_34, s200_35, s200_38, s200_39, s200_40, s200_43, s200_44, s200_45, s200_47, s200_50, s200_53, s200_54, s200_57, s200_59, s200_60, s200_63, s200_64, s200_65, s200_66, s200_68, s200_71, s200_74, s200_75, s200_78, s200_81, s200_82, s200_83, s200_86, s200_87, s200_89, s200_90, s200_93, s200_94, s200_95, s200_96, s200_99, s200_102, s200_104, s200_105, s200_108, s200_111, s200_112, zcs_0, zcs_1, zcs_2, zcs_3, zcs_4, zcs_5, zcs_6, zcs_7, znl_i, znl_r, znl_n, Bool.and_true, Bool.true_and, zk_v, zk_n, zk_x, zir_r, zir_n, zclr_i, zclr_r, zclr_n, zclr_d, zclr_l, true_and, and_true, and_self, if_true, if_false, reduceIte, nI_add, pk_mul, zin_ok, zx_nI, nI_lt2, nI_le2, nI_eq2, nI_l0, nI_g0, nI_q0, nI_p0, nI_n0, nI_m1, Nat.add_zero, Nat.zero_add, Nat.reduceAdd, Nat.reduceMul, true_or, or_true, znar_50, bI_0, bI_1, bI_z, bft, nI_z0, nI_z1, lgc_lt, lgc_gt, lgc_le, lgc_ge, lgc_eq, not_true_eq_false, not_false_eq_true, Bool.not_eq_true, Bool.not_eq_false, reduceCtorEq, MS_sW, CS_sW, sW_r, sW_n, sW_w, cls_sW, fi_sW, fr_sW, la_sW, ra_sW, len_sW, ls_sW, own_sW, n_sW, uc_sW, us_sW, sW_sfi, sW_sla, sW_sLA, sW_sls, sW_spay, sW_sia, sW_sIA, ne_eq, cls_sfi, fr_sfi, ia_sfi, la_sfi, ra_sfi, len_sfi, ls_sfi, own_sfi, n_sfi, uc_sfi, us_sfi, cls_sia, fi_sia, fr_sia, la_sia, ra_sia, len_sia, ls_sia, own_sia, n_sia, uc_sia, us_sia, cls_sIA, fi_sIA, fr_sIA, la_sIA, ra_sIA, len_sIA, ls_sIA, own_sIA, n_sIA, uc_sIA, us_sIA, cls_sla, fi_sla, fr_sla, ia_sla, ra_sla, len_sla, ls_sla, own_sla, n_sla, uc_sla, us_sla, cls_sLA, fi_sLA, fr_sLA, ia_sLA, ra_sLA, len_sLA, ls_sLA, own_sLA, n_sLA, uc_sLA, us_sLA, h0, m144, hz]
    exact H1
  | true =>
    obtain ⟨i, g1, g2, rfl⟩ := zin_of hz
    have H1 := H (wtA v (nI i) (zia z 144) (v 7)) (cbA v (nI i) (zia z 145) (v 7))
    rw [hz, zx_nI g2, if_pos rfl] at H1
    have hdk : ∀ i, i < v 7 → v (1880 + 5 * i + 2) < 4 := fun i hi => (hD.2 i hi).2.2.1
    have cw := fun d Q => m181 (d := d) (z := z) (Q := Q) hM hv (by have := hD.1; omega) (fun i hi => by have := (hD.2 i hi).2.1; omega) (a := nI i)
    have hM2 : MS (sWg z v (nI i)) := hM
    have h02 := hM2
    unfold MS at h02
    have w144 : ∀ h, h < 16 → zia (sWg z v (nI i)) 144 h = nI (sWorth v (nI i) (nI h) (v 7)) := fun h hh => by
      unfold sWg
      rw [ia_sIA, zu1_n _ _ _ (by omega), ia_sIA, zu1_s]
      exact if_pos hh
    have wle := fun b => sWorth_le (v := v) (a := nI i) (b := b) (v 7) hdk
    have h7 := hD.1
    have ch := fun d Q x y => m199 (d := d) (z := sWg z v (nI i)) (Q := Q) hM2 h16 (wK16 h16 hk) (a := i) (by omega) (x := x) (y := y)
    have hgm := fun x y => hgI_m h16 hk x y (a := i) (by omega)
    simp only [hgm] at ch
    simp (disch := first | omega | exact hM | exact hv _ | (simp only [MS_sW, MS_sfi, MS_sia, MS_sIA, MS_sla, MS_sLA, MS_sls]; exact hM)) only [e200, s200_0, s200_1, s200_2, s200_5, s200_8, s200_10, s200_11, s200_12, s200_13, s200_16, s200_17, s200_18, s200_19, s200_20, s200_21, s200_22, s200_25, s200_28, s200_29, s200_30, s200_34, s200_35, s200_38, s200_39, s200_40, s200_43, s200_44, s200_45, s200_47, s200_50, s200_53, s200_54, s200_57, s200_59, s200_60, s200_63, s200_64, s200_65, s200_66, s200_68, s200_71, s200_74, s200_75, s200_78, s200_81, s200_82, s200_83, s200_86, s200_87, s200_89, s200_90, s200_93, s200_94, s200_95, s200_96, s200_99, s200_102, s200_104, s200_105, s200_108, s200_111, s200_112, zcs_0, zcs_1, zcs_2, zcs_3, zcs_4, zcs_5, zcs_6, zcs_7, znl_i, znl_r, znl_n, Bool.and_true, Bool.true_and, zk_v, zk_n, zk_x, zir_r, zir_n, zclr_i, zclr_r, zclr_n, zclr_d, zclr_l, true_and, and_true, and_self, if_true, if_false, reduceIte, nI_add, pk_mul, zin_ok, zx_nI, nI_lt2, nI_le2, nI_eq2, nI_l0, nI_g0, nI_q0, nI_p0, nI_n0, nI_m1, Nat.add_zero, Nat.zero_add, Nat.reduceAdd, Nat.reduceMul, true_or, or_true, znar_50, bI_0, bI_1, bI_z, bft, nI_z0, nI_z1, lgc_lt, lgc_gt, lgc_le, lgc_ge, lgc_eq, not_true_eq_false, not_false_eq_true, Bool.not_eq_true, Bool.not_eq_false, reduceCtorEq, MS_sW, CS_sW, sW_r, sW_n, sW_w, cls_sW, fi_sW, fr_sW, la_sW, ra_sW, len_sW, ls_sW, own_sW, n_sW, uc_sW, us_sW, sW_sfi, sW_sla, sW_sLA, sW_sls, sW_spay, sW_sia, sW_sIA, ne_eq, cls_sfi, fr_sfi, ia_sfi, la_sfi, ra_sfi, len_sfi, ls_sfi, own_sfi, n_sfi, uc_sfi, us_sfi, cls_sia, fi_sia, fr_sia, la_sia, ra_sia, len_sia, ls_sia, own_sia, n_sia, uc_sia, us_sia, cls_sIA, fi_sIA, fr_sIA, la_sIA, ra_sIA, len_sIA, ls_sIA, own_sIA, n_sIA, uc_sIA, us_sIA, cls_sla, fi_sla, fr_sla, ia_sla, ra_sla, len_sla, ls_sla, own_sla, n_sla, uc_sla, us_sla, cls_sLA, fi_sLA, fr_sLA, ia_sLA, ra_sLA, len_sLA, ls_sLA, own_sLA, n_sLA, uc_sLA, us_sLA, h0, h02, m144, hz, cw, ch, m152]
    generalize onesN (hgI v (-1) (-1) i) 16 = all at H1 ⊢

    have e : ∀ k, k < v 0 → ZW zG (d + 3) 200 32 [.ref 135, .int (nI i), .int (dropN v i all k), .int all, .int (nI k)] [] (sW (sWg z v (nI i)) v) Q = ZW zG (d + 3) 200 32 [.ref 135, .int (nI i), .int (dropN v i all (k + 1)), .int all, .int (nI (k + 1))] [] (sW (sWg z v (nI i)) v) Q := by
      intro k hk
      refine s200_32.trans ?_
      have g1 : ¬ v 0 ≤ k := by omega
      have wk := w144 k (by omega)
      have wlk := wle (nI k)
      have hst : dropN v i all (k + 1) = if ((hasI (nI (v (1864 + i))) (nI k) = true ∧ sWorth v (nI i) (nI k) (v 7) = 0) ∧ onesN (hgI v (nI i) (nI k) i) 16 = all) ∧ (dropN v i all k = -1 ∨ nI (v (10 + 9 * k + 2)) < nI (v (10 + 9 * zx (dropN v i all k) + 2))) then nI k else dropN v i all k := rfl
      have rb := rank k hk
      cases q1 : hasI (nI (v (1864 + i))) (nI k) with
      | false =>
        rw [if_neg (by simp [q1])] at hst
        rw [hst]
        simp (disch := first | omega | exact hM2 | exact hv _) only [s200_0, s200_1, s200_2, s200_5, s200_8, s200_10, s200_11, s200_12, s200_13, s200_16, s200_17, s200_18, s200_19, s200_20, s200_21, s200_22, s200_25, s200_28, s200_29, s200_30, s200_34, s200_35, s200_38, s200_39, s200_40, s200_43, s200_44, s200_45, s200_47, s200_50, s200_53, s200_54, s200_57, s200_59, s200_60, s200_63, s200_64, s200_65, s200_66, s200_68, s200_71, s200_74, s200_75, s200_78, s200_81, s200_82, s200_83, s200_86, s200_87, s200_89, s200_90, s200_93, s200_94, s200_95, s200_96, s200_99, s200_102, s200_104, s200_105, s200_108, s200_111, s200_112, zcs_0, zcs_1, zcs_2, zcs_3, zcs_4, zcs_5, zcs_6, zcs_7, znl_i, znl_r, znl_n, Bool.and_true, Bool.true_and, zk_v, zk_n, zk_x, zir_r, zir_n, zclr_i, zclr_r, zclr_n, zclr_d, zclr_l, true_and, and_true, and_self, if_true, if_false, reduceIte, nI_add, pk_mul, zin_ok, zx_nI, nI_lt2, nI_le2, nI_eq2, nI_l0, nI_g0, nI_q0, nI_p0, nI_n0, nI_m1, Nat.add_zero, Nat.zero_add, Nat.reduceAdd, Nat.reduceMul, true_or, or_true, znar_50, bI_0, bI_1, bI_z, bft, nI_z0, nI_z1, lgc_lt, lgc_gt, lgc_le, lgc_ge, lgc_eq, not_true_eq_false, not_false_eq_true, Bool.not_eq_true, Bool.not_eq_false, reduceCtorEq, MS_sW, CS_sW, sW_r, sW_n, sW_w, cls_sW, fi_sW, fr_sW, la_sW, ra_sW, len_sW, ls_sW, own_sW, n_sW, uc_sW, us_sW, sW_sfi, sW_sla, sW_sLA, sW_sls, sW_spay, sW_sia, sW_sIA, ne_eq, cls_sfi, fr_sfi, ia_sfi, la_sfi, ra_sfi, len_sfi, ls_sfi, own_sfi, n_sfi, uc_sfi, us_sfi, cls_sia, fi_sia, fr_sia, la_sia, ra_sia, len_sia, ls_sia, own_sia, n_sia, uc_sia, us_sia, cls_sIA, fi_sIA, fr_sIA, la_sIA, ra_sIA, len_sIA, ls_sIA, own_sIA, n_sIA, uc_sIA, us_sIA, cls_sla, fi_sla, fr_sla, ia_sla, ra_sla, len_sla, ls_sla, own_sla, n_sla, uc_sla, us_sla, cls_sLA, fi_sLA, fr_sLA, ia_sLA, ra_sLA, len_sLA, ls_sLA, own_sLA, n_sLA, uc_sLA, us_sLA, h02, g1, m148, q1, eq_self]
      | true =>
        by_cases q2 : sWorth v (nI i) (nI k) (v 7) = 0
        · by_cases q3 : onesN (hgI v (nI i) (nI k) i) 16 = all
          · rcases dropN_ok (v := v) (a := i) (all := all) k with q4 | ⟨b, b1, b2⟩
            · rw [if_pos ⟨⟨⟨q1, q2⟩, q3⟩, Or.inl q4⟩] at hst
              rw [hst, q4]
              simp (disch := first | omega | exact hM2 | exact hv _) only [s200_0, s200_1, s200_2, s200_5, s200_8, s200_10, s200_11, s200_12, s200_13, s200_16, s200_17, s200_18, s200_19, s200_20, s200_21, s200_22, s200_25, s200_28, s200_29, s200_30, s200_34, s200_35, s200_38, s200_39, s200_40, s200_43, s200_44, s200_45, s200_47, s200_50, s200_53, s200_54, s200_57, s200_59, s200_60, s200_63, s200_64, s200_65, s200_66, s200_68, s200_71, s200_74, s200_75, s200_78, s200_81, s200_82, s200_83, s200_86, s200_87, s200_89, s200_90, s200_93, s200_94, s200_95, s200_96, s200_99, s200_102, s200_104, s200_105, s200_108, s200_111, s200_112, zcs_0, zcs_1, zcs_2, zcs_3, zcs_4, zcs_5, zcs_6, zcs_7, znl_i, znl_r, znl_n, Bool.and_true, Bool.true_and, zk_v, zk_n, zk_x, zir_r, zir_n, zclr_i, zclr_r, zclr_n, zclr_d, zclr_l, true_and, and_true, and_self, if_true, if_false, reduceIte, nI_add, pk_mul, zin_ok, zx_nI, nI_lt2, nI_le2, nI_eq2, nI_l0, nI_g0, nI_q0, nI_p0, nI_n0, nI_m1, Nat.add_zero, Nat.zero_add, Nat.reduceAdd, Nat.reduceMul, true_or, or_true, znar_50, bI_0, bI_1, bI_z, bft, nI_z0, nI_z1, lgc_lt, lgc_gt, lgc_le, lgc_ge, lgc_eq, not_true_eq_false, not_false_eq_true, Bool.not_eq_true, Bool.not_eq_false, reduceCtorEq, MS_sW, CS_sW, sW_r, sW_n, sW_w, cls_sW, fi_sW, fr_sW, la_sW, ra_sW, len_sW, ls_sW, own_sW, n_sW, uc_sW, us_sW, sW_sfi, sW_sla, sW_sLA, sW_sls, sW_spay, sW_sia, sW_sIA, ne_eq, cls_sfi, fr_sfi, ia_sfi, la_sfi, ra_sfi, len_sfi, ls_sfi, own_sfi, n_sfi, uc_sfi, us_sfi, cls_sia, fi_sia, fr_sia, la_sia, ra_sia, len_sia, ls_sia, own_sia, n_sia, uc_sia, us_sia, cls_sIA, fi_sIA, fr_sIA, la_sIA, ra_sIA, len_sIA, ls_sIA, own_sIA, n_sIA, uc_sIA, us_sIA, cls_sla, fi_sla, fr_sla, ia_sla, ra_sla, len_sla, ls_sla, own_sla, n_sla, uc_sla, us_sla, cls_sLA, fi_sLA, fr_sLA, ia_sLA, ra_sLA, len_sLA, ls_sLA, own_sLA, n_sLA, uc_sLA, us_sLA, h02, g1, m148, q1, q2, q3, wk, ch, m152, Nat.lt_irrefl, eq_self]
            · have rb2 := rank b (by omega)
              simp (disch := omega) only [b2, zx_nI, nI_m1, nI_lt2, false_or] at hst
              skip
              skip
              skip
              by_cases q5 : v (10 + 9 * k + 2) < v (10 + 9 * b + 2)
              · rw [if_pos ⟨⟨⟨q1, q2⟩, q3⟩, q5⟩] at hst
                have q6 : ¬ v (10 + 9 * b + 2) ≤ v (10 + 9 * k + 2) := by omega
                rw [hst, b2]
                simp (disch := first | omega | exact hM2 | exact hv _) only [s200_0, s200_1, s200_2, s200_5, s200_8, s200_10, s200_11, s200_12, s200_13, s200_16, s200_17, s200_18, s200_19, s200_20, s200_21, s200_22, s200_25, s200_28, s200_29, s200_30, s200_34, s200_35, s200_38, s200_39, s200_40, s200_43, s200_44, s200_45, s200_47, s200_50, s200_53, s200_54, s200_57, s200_59, s200_60, s200_63, s200_64, s200_65, s200_66, s200_68, s200_71, s200_74, s200_75, s200_78, s200_81, s200_82, s200_83, s200_86, s200_87, s200_89, s200_90, s200_93, s200_94, s200_95, s200_96, s200_99, s200_102, s200_104, s200_105, s200_108, s200_111, s200_112, zcs_0, zcs_1, zcs_2, zcs_3, zcs_4, zcs_5, zcs_6, zcs_7, znl_i, znl_r, znl_n, Bool.and_true, Bool.true_and, zk_v, zk_n, zk_x, zir_r, zir_n, zclr_i, zclr_r, zclr_n, zclr_d, zclr_l, true_and, and_true, and_self, if_true, if_false, reduceIte, nI_add, pk_mul, zin_ok, zx_nI, nI_lt2, nI_le2, nI_eq2, nI_l0, nI_g0, nI_q0, nI_p0, nI_n0, nI_m1, Nat.add_zero, Nat.zero_add, Nat.reduceAdd, Nat.reduceMul, true_or, or_true, znar_50, bI_0, bI_1, bI_z, bft, nI_z0, nI_z1, lgc_lt, lgc_gt, lgc_le, lgc_ge, lgc_eq, not_true_eq_false, not_false_eq_true, Bool.not_eq_true, Bool.not_eq_false, reduceCtorEq, MS_sW, CS_sW, sW_r, sW_n, sW_w, cls_sW, fi_sW, fr_sW, la_sW, ra_sW, len_sW, ls_sW, own_sW, n_sW, uc_sW, us_sW, sW_sfi, sW_sla, sW_sLA, sW_sls, sW_spay, sW_sia, sW_sIA, ne_eq, cls_sfi, fr_sfi, ia_sfi, la_sfi, ra_sfi, len_sfi, ls_sfi, own_sfi, n_sfi, uc_sfi, us_sfi, cls_sia, fi_sia, fr_sia, la_sia, ra_sia, len_sia, ls_sia, own_sia, n_sia, uc_sia, us_sia, cls_sIA, fi_sIA, fr_sIA, la_sIA, ra_sIA, len_sIA, ls_sIA, own_sIA, n_sIA, uc_sIA, us_sIA, cls_sla, fi_sla, fr_sla, ia_sla, ra_sla, len_sla, ls_sla, own_sla, n_sla, uc_sla, us_sla, cls_sLA, fi_sLA, fr_sLA, ia_sLA, ra_sLA, len_sLA, ls_sLA, own_sLA, n_sLA, uc_sLA, us_sLA, h02, g1, m148, q1, q2, q3, wk, ch, m152, q6, m139, Nat.lt_irrefl, eq_self]
              · rw [if_neg (by simp [q5])] at hst
                have q6 : v (10 + 9 * b + 2) ≤ v (10 + 9 * k + 2) := by omega
                rw [hst, b2]
                simp (disch := first | omega | exact hM2 | exact hv _) only [s200_0, s200_1, s200_2, s200_5, s200_8, s200_10, s200_11, s200_12, s200_13, s200_16, s200_17, s200_18, s200_19, s200_20, s200_21, s200_22, s200_25, s200_28, s200_29, s200_30, s200_34, s200_35, s200_38, s200_39, s200_40, s200_43, s200_44, s200_45, s200_47, s200_50, s200_53, s200_54, s200_57, s200_59, s200_60, s200_63, s200_64, s200_65, s200_66, s200_68, s200_71, s200_74, s200_75, s200_78, s200_81, s200_82, s200_83, s200_86, s200_87, s200_89, s200_90, s200_93, s200_94, s200_95, s200_96, s200_99, s200_102, s200_104, s200_105, s200_108, s200_111, s200_112, zcs_0, zcs_1, zcs_2, zcs_3, zcs_4, zcs_5, zcs_6, zcs_7, znl_i, znl_r, znl_n, Bool.and_true, Bool.true_and, zk_v, zk_n, zk_x, zir_r, zir_n, zclr_i, zclr_r, zclr_n, zclr_d, zclr_l, true_and, and_true, and_self, if_true, if_false, reduceIte, nI_add, pk_mul, zin_ok, zx_nI, nI_lt2, nI_le2, nI_eq2, nI_l0, nI_g0, nI_q0, nI_p0, nI_n0, nI_m1, Nat.add_zero, Nat.zero_add, Nat.reduceAdd, Nat.reduceMul, true_or, or_true, znar_50, bI_0, bI_1, bI_z, bft, nI_z0, nI_z1, lgc_lt, lgc_gt, lgc_le, lgc_ge, lgc_eq, not_true_eq_false, not_false_eq_true, Bool.not_eq_true, Bool.not_eq_false, reduceCtorEq, MS_sW, CS_sW, sW_r, sW_n, sW_w, cls_sW, fi_sW, fr_sW, la_sW, ra_sW, len_sW, ls_sW, own_sW, n_sW, uc_sW, us_sW, sW_sfi, sW_sla, sW_sLA, sW_sls, sW_spay, sW_sia, sW_sIA, ne_eq, cls_sfi, fr_sfi, ia_sfi, la_sfi, ra_sfi, len_sfi, ls_sfi, own_sfi, n_sfi, uc_sfi, us_sfi, cls_sia, fi_sia, fr_sia, la_sia, ra_sia, len_sia, ls_sia, own_sia, n_sia, uc_sia, us_sia, cls_sIA, fi_sIA, fr_sIA, la_sIA, ra_sIA, len_sIA, ls_sIA, own_sIA, n_sIA, uc_sIA, us_sIA, cls_sla, fi_sla, fr_sla, ia_sla, ra_sla, len_sla, ls_sla, own_sla, n_sla, uc_sla, us_sla, cls_sLA, fi_sLA, fr_sLA, ia_sLA, ra_sLA, len_sLA, ls_sLA, own_sLA, n_sLA, uc_sLA, us_sLA, h02, g1, m148, q1, q2, q3, wk, ch, m152, q6, m139, Nat.lt_irrefl, eq_self]
          · rw [if_neg (by simp [q3])] at hst
            rw [hst]
            simp (disch := first | omega | exact hM2 | exact hv _) only [s200_0, s200_1, s200_2, s200_5, s200_8, s200_10, s200_11, s200_12, s200_13, s200_16, s200_17, s200_18, s200_19, s200_20, s200_21, s200_22, s200_25, s200_28, s200_29, s200_30, s200_34, s200_35, s200_38, s200_39, s200_40, s200_43, s200_44, s200_45, s200_47, s200_50, s200_53, s200_54, s200_57, s200_59, s200_60, s200_63, s200_64, s200_65, s200_66, s200_68, s200_71, s200_74, s200_75, s200_78, s200_81, s200_82, s200_83, s200_86, s200_87, s200_89, s200_90, s200_93, s200_94, s200_95, s200_96, s200_99, s200_102, s200_104, s200_105, s200_108, s200_111, s200_112, zcs_0, zcs_1, zcs_2, zcs_3, zcs_4, zcs_5, zcs_6, zcs_7, znl_i, znl_r, znl_n, Bool.and_true, Bool.true_and, zk_v, zk_n, zk_x, zir_r, zir_n, zclr_i, zclr_r, zclr_n, zclr_d, zclr_l, true_and, and_true, and_self, if_true, if_false, reduceIte, nI_add, pk_mul, zin_ok, zx_nI, nI_lt2, nI_le2, nI_eq2, nI_l0, nI_g0, nI_q0, nI_p0, nI_n0, nI_m1, Nat.add_zero, Nat.zero_add, Nat.reduceAdd, Nat.reduceMul, true_or, or_true, znar_50, bI_0, bI_1, bI_z, bft, nI_z0, nI_z1, lgc_lt, lgc_gt, lgc_le, lgc_ge, lgc_eq, not_true_eq_false, not_false_eq_true, Bool.not_eq_true, Bool.not_eq_false, reduceCtorEq, MS_sW, CS_sW, sW_r, sW_n, sW_w, cls_sW, fi_sW, fr_sW, la_sW, ra_sW, len_sW, ls_sW, own_sW, n_sW, uc_sW, us_sW, sW_sfi, sW_sla, sW_sLA, sW_sls, sW_spay, sW_sia, sW_sIA, ne_eq, cls_sfi, fr_sfi, ia_sfi, la_sfi, ra_sfi, len_sfi, ls_sfi, own_sfi, n_sfi, uc_sfi, us_sfi, cls_sia, fi_sia, fr_sia, la_sia, ra_sia, len_sia, ls_sia, own_sia, n_sia, uc_sia, us_sia, cls_sIA, fi_sIA, fr_sIA, la_sIA, ra_sIA, len_sIA, ls_sIA, own_sIA, n_sIA, uc_sIA, us_sIA, cls_sla, fi_sla, fr_sla, ia_sla, ra_sla, len_sla, ls_sla, own_sla, n_sla, uc_sla, us_sla, cls_sLA, fi_sLA, fr_sLA, ia_sLA, ra_sLA, len_sLA, ls_sLA, own_sLA, n_sLA, uc_sLA, us_sLA, h02, g1, m148, q1, q2, q3, wk, ch, m152, Nat.lt_irrefl, eq_self]
        · rw [if_neg (by simp [q2])] at hst
          have q2' : 0 < sWorth v (nI i) (nI k) (v 7) := by omega
          rw [hst]
          simp (disch := first | omega | exact hM2 | exact hv _) only [s200_0, s200_1, s200_2, s200_5, s200_8, s200_10, s200_11, s200_12, s200_13, s200_16, s200_17, s200_18, s200_19, s200_20, s200_21, s200_22, s200_25, s200_28, s200_29, s200_30, s200_34, s200_35, s200_38, s200_39, s200_40, s200_43, s200_44, s200_45, s200_47, s200_50, s200_53, s200_54, s200_57, s200_59, s200_60, s200_63, s200_64, s200_65, s200_66, s200_68, s200_71, s200_74, s200_75, s200_78, s200_81, s200_82, s200_83, s200_86, s200_87, s200_89, s200_90, s200_93, s200_94, s200_95, s200_96, s200_99, s200_102, s200_104, s200_105, s200_108, s200_111, s200_112, zcs_0, zcs_1, zcs_2, zcs_3, zcs_4, zcs_5, zcs_6, zcs_7, znl_i, znl_r, znl_n, Bool.and_true, Bool.true_and, zk_v, zk_n, zk_x, zir_r, zir_n, zclr_i, zclr_r, zclr_n, zclr_d, zclr_l, true_and, and_true, and_self, if_true, if_false, reduceIte, nI_add, pk_mul, zin_ok, zx_nI, nI_lt2, nI_le2, nI_eq2, nI_l0, nI_g0, nI_q0, nI_p0, nI_n0, nI_m1, Nat.add_zero, Nat.zero_add, Nat.reduceAdd, Nat.reduceMul, true_or, or_true, znar_50, bI_0, bI_1, bI_z, bft, nI_z0, nI_z1, lgc_lt, lgc_gt, lgc_le, lgc_ge, lgc_eq, not_true_eq_false, not_false_eq_true, Bool.not_eq_true, Bool.not_eq_false, reduceCtorEq, MS_sW, CS_sW, sW_r, sW_n, sW_w, cls_sW, fi_sW, fr_sW, la_sW, ra_sW, len_sW, ls_sW, own_sW, n_sW, uc_sW, us_sW, sW_sfi, sW_sla, sW_sLA, sW_sls, sW_spay, sW_sia, sW_sIA, ne_eq, cls_sfi, fr_sfi, ia_sfi, la_sfi, ra_sfi, len_sfi, ls_sfi, own_sfi, n_sfi, uc_sfi, us_sfi, cls_sia, fi_sia, fr_sia, la_sia, ra_sia, len_sia, ls_sia, own_sia, n_sia, uc_sia, us_sia, cls_sIA, fi_sIA, fr_sIA, la_sIA, ra_sIA, len_sIA, ls_sIA, own_sIA, n_sIA, uc_sIA, us_sIA, cls_sla, fi_sla, fr_sla, ia_sla, ra_sla, len_sla, ls_sla, own_sla, n_sla, uc_sla, us_sla, cls_sLA, fi_sLA, fr_sLA, ia_sLA, ra_sLA, len_sLA, ls_sLA, own_sLA, n_sLA, uc_sLA, us_sLA, h02, g1, m148, q1, q2, q2', wk, ch, m152, eq_self]

    refine Eq.mpr (Eq.trans (zl_up (P := fun k => ZW zG (d + 3) 200 32 [.ref 135, .int (nI i), .int (dropN v i all k), .int all, .int (nI k)] [] (sW (sWg z v (nI i)) v) Q) (v 0) e) ?_) H1
    refine s200_32.trans ?_
    simp (disch := first | omega | exact hM2 | exact hv _) only [s200_0, s200_1, s200_2, s200_5, s200_8, s200_10, s200_11, s200_12, s200_13, s200_16, s200_17, s200_18, s200_19, s200_20, s200_21, s200_22, s200_25, s200_28, s200_29, s200_30, s200_34, s200_35, s200_38, s200_39, s200_40, s200_43, s200_44, s200_45, s200_47, s200_50, s200_53, s200_54, s200_57, s200_59, s200_60, s200_63, s200_64, s200_65, s200_66, s200_68, s200_71, s200_74, s200_75, s200_78, s200_81, s200_82, s200_83, s200_86, s200_87, s200_89, s200_90, s200_93, s200_94, s200_95, s200_96, s200_99, s200_102, s200_104, s200_105, s200_108, s200_111, s200_112, zcs_0, zcs_1, zcs_2, zcs_3, zcs_4, zcs_5, zcs_6, zcs_7, znl_i, znl_r, znl_n, Bool.and_true, Bool.true_and, zk_v, zk_n, zk_x, zir_r, zir_n, zclr_i, zclr_r, zclr_n, zclr_d, zclr_l, true_and, and_true, and_self, if_true, if_false, reduceIte, nI_add, pk_mul, zin_ok, zx_nI, nI_lt2, nI_le2, nI_eq2, nI_l0, nI_g0, nI_q0, nI_p0, nI_n0, nI_m1, Nat.add_zero, Nat.zero_add, Nat.reduceAdd, Nat.reduceMul, true_or, or_true, znar_50, bI_0, bI_1, bI_z, bft, nI_z0, nI_z1, lgc_lt, lgc_gt, lgc_le, lgc_ge, lgc_eq, not_true_eq_false, not_false_eq_true, Bool.not_eq_true, Bool.not_eq_false, reduceCtorEq, MS_sW, CS_sW, sW_r, sW_n, sW_w, cls_sW, fi_sW, fr_sW, la_sW, ra_sW, len_sW, ls_sW, own_sW, n_sW, uc_sW, us_sW, sW_sfi, sW_sla, sW_sLA, sW_sls, sW_spay, sW_sia, sW_sIA, ne_eq, cls_sfi, fr_sfi, ia_sfi, la_sfi, ra_sfi, len_sfi, ls_sfi, own_sfi, n_sfi, uc_sfi, us_sfi, cls_sia, fi_sia, fr_sia, la_sia, ra_sia, len_sia, ls_sia, own_sia, n_sia, uc_sia, us_sia, cls_sIA, fi_sIA, fr_sIA, la_sIA, ra_sIA, len_sIA, ls_sIA, own_sIA, n_sIA, uc_sIA, us_sIA, cls_sla, fi_sla, fr_sla, ia_sla, ra_sla, len_sla, ls_sla, own_sla, n_sla, uc_sla, us_sla, cls_sLA, fi_sLA, fr_sLA, ia_sLA, ra_sLA, len_sLA, ls_sLA, own_sLA, n_sLA, uc_sLA, us_sLA, h02, Nat.le_refl]
    rfl
theorem c46 (h : NW B z v L t hl kn rl ha ra da ea) (hv : ∀ i, v i < 2147483648) (hT : wT v) (hk : wK v) (hWD : wD v) {a : Int32} : ZC zG (d + 4) 46 [.ref 100, .int a] z Q = Q (.inl (some (.int (rDrop v a)))) z := by
  have hL := h.ls
  have hNW := h
  have c := fun d Q => c14 (d := d) (Q := Q) h (a := a)
  obtain ⟨h0, ⟨h1, h2, h3, h4⟩, hH, hR, hD, hK, h9, hE, h6⟩ := h
  unfold CS at h0
  have h16 : v 0 ≤ 16 := hH.2.2.2.1.2
  have ct := hH.1.2
  have c63' := fun d Q => c63 (d := d) (Q := Q) hH
  have rank : ∀ h, h < v 0 → v (10 + 9 * h + 2) < 10 := fun h hh => (hT.2.2.2.1 h hh).2.2.1
  unfold rDrop
  cases hz : zin a (v 0) with
  | false => simp (disch := omega) only [e46, s46_0, s46_1, s46_2, s46_5, s46_8, s46_10, s46_11, s46_12, s46_15, s46_18, s46_19, s46_20, s46_21, s46_24, s46_27, s46_28, s46_29, s46_30, s46_31, s46_35, s46_36, s46_39, s46_42, s46_45, s46_48, s46_49, s46_52, s46_55, s46_56, s46_58, s46_61, s46_64, s46_65, s46_68, s46_71, s46_72, s46_74, s46_77, s46_78, s46_81, s46_82, s46_85, s46_88, s46_89, s46_90, s46_92, s46_95, s46_98, s46_99, s46_102, s46_105, s46_106, s46_107, s46_110, s46_111, s46_113, s46_116, s46_119, s46_120, s46_121, s46_124, s46_127, s46_130, s46_132, s46_133, s46_136, s46_139, s46_140, zcs_0, zcs_1, zcs_2, zcs_3, zcs_4, zcs_5, zcs_6, zcs_7, znl_i, znl_r, znl_n, Bool.and_true, Bool.true_and, zk_v, zk_n, zk_x, zir_r, zir_n, zclr_i, zclr_r, zclr_n, zclr_d, zclr_l, true_and, and_true, and_self, if_true, if_false, reduceIte, nI_add, pk_mul, zin_ok, zx_nI, nI_lt2, nI_le2, nI_eq2, nI_l0, nI_g0, nI_q0, nI_p0, nI_n0, nI_m1, Nat.add_zero, Nat.zero_add, Nat.reduceAdd, Nat.reduceMul, true_or, or_true, znar_50, bI_0, bI_1, bI_z, bft, nI_z0, nI_z1, lgc_lt, lgc_gt, lgc_le, lgc_ge, lgc_eq, not_true_eq_false, not_false_eq_true, Bool.not_eq_true, Bool.not_eq_false, reduceCtorEq, h0, c, hz, Bool.false_eq_true, if_false]
  | true =>
    obtain ⟨i, g1, g2, rfl⟩ := zin_of hz
    rw [zx_nI g2, if_pos rfl]
    have hdk : ∀ i, i < v 7 → v (1880 + 5 * i + 2) < 4 := fun i hi => (hWD.2 i hi).2.2.1
    have cg : ∀ d Q x y, ZC zG (d + 1) 77 [.ref 109, .int (nI i), .int x, .int y] z Q = Q (.inl (some (.int (hgI v x y i)))) z := fun d Q x y => c77 (d := d) (z := z) (Q := Q) hL hK (wK16 h16 hk) (a := i) (by omega) (x := x) (y := y)
    have bo := fun x y => bc_ones (hgI_lt h16 hk x y (a := i) (by omega))
    have ck := fun d Q b => c68 (d := d) (z := z) (v := v) (Q := Q) hL hK (a := i) (b := b) (by omega)
    have cgr := fun d Q a b => c75 (d := d) (z := z) (Q := Q) hL hD (a := a) (b := b)
    have g0 := fun a b => great0 (v := v) (a := a) (b := b) (n := v 7) hdk
    simp (disch := omega) only [e46, s46_0, s46_1, s46_2, s46_5, s46_8, s46_10, s46_11, s46_12, s46_15, s46_18, s46_19, s46_20, s46_21, s46_24, s46_27, s46_28, s46_29, s46_30, s46_31, s46_35, s46_36, s46_39, s46_42, s46_45, s46_48, s46_49, s46_52, s46_55, s46_56, s46_58, s46_61, s46_64, s46_65, s46_68, s46_71, s46_72, s46_74, s46_77, s46_78, s46_81, s46_82, s46_85, s46_88, s46_89, s46_90, s46_92, s46_95, s46_98, s46_99, s46_102, s46_105, s46_106, s46_107, s46_110, s46_111, s46_113, s46_116, s46_119, s46_120, s46_121, s46_124, s46_127, s46_130, s46_132, s46_133, s46_136, s46_139, s46_140, zcs_0, zcs_1, zcs_2, zcs_3, zcs_4, zcs_5, zcs_6, zcs_7, znl_i, znl_r, znl_n, Bool.and_true, Bool.true_and, zk_v, zk_n, zk_x, zir_r, zir_n, zclr_i, zclr_r, zclr_n, zclr_d, zclr_l, true_and, and_true, and_self, if_true, if_false, reduceIte, nI_add, pk_mul, zin_ok, zx_nI, nI_lt2, nI_le2, nI_eq2, nI_l0, nI_g0, nI_q0, nI_p0, nI_n0, nI_m1, Nat.add_zero, Nat.zero_add, Nat.reduceAdd, Nat.reduceMul, true_or, or_true, znar_50, bI_0, bI_1, bI_z, bft, nI_z0, nI_z1, lgc_lt, lgc_gt, lgc_le, lgc_ge, lgc_eq, not_true_eq_false, not_false_eq_true, Bool.not_eq_true, Bool.not_eq_false, reduceCtorEq, h0, c, hz, cg, c251, bo]
    generalize onesN (hgI v (-1) (-1) i) 16 = all

    have e : ∀ k, k < v 0 → ZW zG (d + 4) 46 33 [.ref 100, .int (nI i), .int all, .int (dropN v i all k), .int (nI k)] [] (z) Q = ZW zG (d + 4) 46 33 [.ref 100, .int (nI i), .int all, .int (dropN v i all (k + 1)), .int (nI (k + 1))] [] (z) Q := by
      intro k hk
      refine s46_33.trans ?_
      have g1 : ¬ v 0 ≤ k := by omega
      have ck17 := fun d Q => c17 (d := d) (Q := Q) hNW hk
      obtain ⟨_, fk1, _, _, fk2, _⟩ := hH.fld hk
      have hst : dropN v i all (k + 1) = if ((hasI (nI (v (1864 + i))) (nI k) = true ∧ sWorth v (nI i) (nI k) (v 7) = 0) ∧ onesN (hgI v (nI i) (nI k) i) 16 = all) ∧ (dropN v i all k = -1 ∨ nI (v (10 + 9 * k + 2)) < nI (v (10 + 9 * zx (dropN v i all k) + 2))) then nI k else dropN v i all k := rfl
      have rb := rank k hk
      cases q1 : hasI (nI (v (1864 + i))) (nI k) with
      | false =>
        rw [if_neg (by simp [q1])] at hst
        rw [hst]
        simp (disch := omega) only [s46_0, s46_1, s46_2, s46_5, s46_8, s46_10, s46_11, s46_12, s46_15, s46_18, s46_19, s46_20, s46_21, s46_24, s46_27, s46_28, s46_29, s46_30, s46_31, s46_35, s46_36, s46_39, s46_42, s46_45, s46_48, s46_49, s46_52, s46_55, s46_56, s46_58, s46_61, s46_64, s46_65, s46_68, s46_71, s46_72, s46_74, s46_77, s46_78, s46_81, s46_82, s46_85, s46_88, s46_89, s46_90, s46_92, s46_95, s46_98, s46_99, s46_102, s46_105, s46_106, s46_107, s46_110, s46_111, s46_113, s46_116, s46_119, s46_120, s46_121, s46_124, s46_127, s46_130, s46_132, s46_133, s46_136, s46_139, s46_140, zcs_0, zcs_1, zcs_2, zcs_3, zcs_4, zcs_5, zcs_6, zcs_7, znl_i, znl_r, znl_n, Bool.and_true, Bool.true_and, zk_v, zk_n, zk_x, zir_r, zir_n, zclr_i, zclr_r, zclr_n, zclr_d, zclr_l, true_and, and_true, and_self, if_true, if_false, reduceIte, nI_add, pk_mul, zin_ok, zx_nI, nI_lt2, nI_le2, nI_eq2, nI_l0, nI_g0, nI_q0, nI_p0, nI_n0, nI_m1, Nat.add_zero, Nat.zero_add, Nat.reduceAdd, Nat.reduceMul, true_or, or_true, znar_50, bI_0, bI_1, bI_z, bft, nI_z0, nI_z1, lgc_lt, lgc_gt, lgc_le, lgc_ge, lgc_eq, not_true_eq_false, not_false_eq_true, Bool.not_eq_true, Bool.not_eq_false, reduceCtorEq, h0, h1, ct, c63', g1, ck, q1, eq_self]
      | true =>
        by_cases q2 : sWorth v (nI i) (nI k) (v 7) = 0
        · by_cases q3 : onesN (hgI v (nI i) (nI k) i) 16 = all
          · rcases dropN_ok (v := v) (a := i) (all := all) k with q4 | ⟨b, b1, b2⟩
            · rw [if_pos ⟨⟨⟨q1, q2⟩, q3⟩, Or.inl q4⟩] at hst
              rw [hst, q4]
              simp (disch := omega) only [s46_0, s46_1, s46_2, s46_5, s46_8, s46_10, s46_11, s46_12, s46_15, s46_18, s46_19, s46_20, s46_21, s46_24, s46_27, s46_28, s46_29, s46_30, s46_31, s46_35, s46_36, s46_39, s46_42, s46_45, s46_48, s46_49, s46_52, s46_55, s46_56, s46_58, s46_61, s46_64, s46_65, s46_68, s46_71, s46_72, s46_74, s46_77, s46_78, s46_81, s46_82, s46_85, s46_88, s46_89, s46_90, s46_92, s46_95, s46_98, s46_99, s46_102, s46_105, s46_106, s46_107, s46_110, s46_111, s46_113, s46_116, s46_119, s46_120, s46_121, s46_124, s46_127, s46_130, s46_132, s46_133, s46_136, s46_139, s46_140, zcs_0, zcs_1, zcs_2, zcs_3, zcs_4, zcs_5, zcs_6, zcs_7, znl_i, znl_r, znl_n, Bool.and_true, Bool.true_and, zk_v, zk_n, zk_x, zir_r, zir_n, zclr_i, zclr_r, zclr_n, zclr_d, zclr_l, true_and, and_true, and_self, if_true, if_false, reduceIte, nI_add, pk_mul, zin_ok, zx_nI, nI_lt2, nI_le2, nI_eq2, nI_l0, nI_g0, nI_q0, nI_p0, nI_n0, nI_m1, Nat.add_zero, Nat.zero_add, Nat.reduceAdd, Nat.reduceMul, true_or, or_true, znar_50, bI_0, bI_1, bI_z, bft, nI_z0, nI_z1, lgc_lt, lgc_gt, lgc_le, lgc_ge, lgc_eq, not_true_eq_false, not_false_eq_true, Bool.not_eq_true, Bool.not_eq_false, reduceCtorEq, h0, h1, ct, c63', g1, ck, q1, q2, q3, cgr, g0, cg, c251, bo, Nat.lt_irrefl, eq_self]
            · have rb2 := rank b (by omega)
              simp (disch := omega) only [b2, zx_nI, nI_m1, nI_lt2, false_or] at hst
              have fb := hH.fld (show b < v 0 by omega)
              have cb := fun d Q => c17 (d := d) (Q := Q) hNW (show b < v 0 by omega)
              obtain ⟨_, fb1, _, _, fb2, _⟩ := fb
              by_cases q5 : v (10 + 9 * k + 2) < v (10 + 9 * b + 2)
              · rw [if_pos ⟨⟨⟨q1, q2⟩, q3⟩, q5⟩] at hst
                have q6 : ¬ v (10 + 9 * b + 2) ≤ v (10 + 9 * k + 2) := by omega
                rw [hst, b2]
                simp (disch := omega) only [s46_0, s46_1, s46_2, s46_5, s46_8, s46_10, s46_11, s46_12, s46_15, s46_18, s46_19, s46_20, s46_21, s46_24, s46_27, s46_28, s46_29, s46_30, s46_31, s46_35, s46_36, s46_39, s46_42, s46_45, s46_48, s46_49, s46_52, s46_55, s46_56, s46_58, s46_61, s46_64, s46_65, s46_68, s46_71, s46_72, s46_74, s46_77, s46_78, s46_81, s46_82, s46_85, s46_88, s46_89, s46_90, s46_92, s46_95, s46_98, s46_99, s46_102, s46_105, s46_106, s46_107, s46_110, s46_111, s46_113, s46_116, s46_119, s46_120, s46_121, s46_124, s46_127, s46_130, s46_132, s46_133, s46_136, s46_139, s46_140, zcs_0, zcs_1, zcs_2, zcs_3, zcs_4, zcs_5, zcs_6, zcs_7, znl_i, znl_r, znl_n, Bool.and_true, Bool.true_and, zk_v, zk_n, zk_x, zir_r, zir_n, zclr_i, zclr_r, zclr_n, zclr_d, zclr_l, true_and, and_true, and_self, if_true, if_false, reduceIte, nI_add, pk_mul, zin_ok, zx_nI, nI_lt2, nI_le2, nI_eq2, nI_l0, nI_g0, nI_q0, nI_p0, nI_n0, nI_m1, Nat.add_zero, Nat.zero_add, Nat.reduceAdd, Nat.reduceMul, true_or, or_true, znar_50, bI_0, bI_1, bI_z, bft, nI_z0, nI_z1, lgc_lt, lgc_gt, lgc_le, lgc_ge, lgc_eq, not_true_eq_false, not_false_eq_true, Bool.not_eq_true, Bool.not_eq_false, reduceCtorEq, h0, h1, ct, c63', g1, ck, q1, q2, q3, cgr, g0, cg, c251, bo, q6, cb, fb1, fb2, ck17, fk1, fk2, Nat.lt_irrefl, eq_self]
              · rw [if_neg (by simp [q5])] at hst
                have q6 : v (10 + 9 * b + 2) ≤ v (10 + 9 * k + 2) := by omega
                rw [hst, b2]
                simp (disch := omega) only [s46_0, s46_1, s46_2, s46_5, s46_8, s46_10, s46_11, s46_12, s46_15, s46_18, s46_19, s46_20, s46_21, s46_24, s46_27, s46_28, s46_29, s46_30, s46_31, s46_35, s46_36, s46_39, s46_42, s46_45, s46_48, s46_49, s46_52, s46_55, s46_56, s46_58, s46_61, s46_64, s46_65, s46_68, s46_71, s46_72, s46_74, s46_77, s46_78, s46_81, s46_82, s46_85, s46_88, s46_89, s46_90, s46_92, s46_95, s46_98, s46_99, s46_102, s46_105, s46_106, s46_107, s46_110, s46_111, s46_113, s46_116, s46_119, s46_120, s46_121, s46_124, s46_127, s46_130, s46_132, s46_133, s46_136, s46_139, s46_140, zcs_0, zcs_1, zcs_2, zcs_3, zcs_4, zcs_5, zcs_6, zcs_7, znl_i, znl_r, znl_n, Bool.and_true, Bool.true_and, zk_v, zk_n, zk_x, zir_r, zir_n, zclr_i, zclr_r, zclr_n, zclr_d, zclr_l, true_and, and_true, and_self, if_true, if_false, reduceIte, nI_add, pk_mul, zin_ok, zx_nI, nI_lt2, nI_le2, nI_eq2, nI_l0, nI_g0, nI_q0, nI_p0, nI_n0, nI_m1, Nat.add_zero, Nat.zero_add, Nat.reduceAdd, Nat.reduceMul, true_or, or_true, znar_50, bI_0, bI_1, bI_z, bft, nI_z0, nI_z1, lgc_lt, lgc_gt, lgc_le, lgc_ge, lgc_eq, not_true_eq_false, not_false_eq_true, Bool.not_eq_true, Bool.not_eq_false, reduceCtorEq, h0, h1, ct, c63', g1, ck, q1, q2, q3, cgr, g0, cg, c251, bo, q6, cb, fb1, fb2, ck17, fk1, fk2, Nat.lt_irrefl, eq_self]
          · rw [if_neg (by simp [q3])] at hst
            rw [hst]
            simp (disch := omega) only [s46_0, s46_1, s46_2, s46_5, s46_8, s46_10, s46_11, s46_12, s46_15, s46_18, s46_19, s46_20, s46_21, s46_24, s46_27, s46_28, s46_29, s46_30, s46_31, s46_35, s46_36, s46_39, s46_42, s46_45, s46_48, s46_49, s46_52, s46_55, s46_56, s46_58, s46_61, s46_64, s46_65, s46_68, s46_71, s46_72, s46_74, s46_77, s46_78, s46_81, s46_82, s46_85, s46_88, s46_89, s46_90, s46_92, s46_95, s46_98, s46_99, s46_102, s46_105, s46_106, s46_107, s46_110, s46_111, s46_113, s46_116, s46_119, s46_120, s46_121, s46_124, s46_127, s46_130, s46_132, s46_133, s46_136, s46_139, s46_140, zcs_0, zcs_1, zcs_2, zcs_3, zcs_4, zcs_5, zcs_6, zcs_7, znl_i, znl_r, znl_n, Bool.and_true, Bool.true_and, zk_v, zk_n, zk_x, zir_r, zir_n, zclr_i, zclr_r, zclr_n, zclr_d, zclr_l, true_and, and_true, and_self, if_true, if_false, reduceIte, nI_add, pk_mul, zin_ok, zx_nI, nI_lt2, nI_le2, nI_eq2, nI_l0, nI_g0, nI_q0, nI_p0, nI_n0, nI_m1, Nat.add_zero, Nat.zero_add, Nat.reduceAdd, Nat.reduceMul, true_or, or_true, znar_50, bI_0, bI_1, bI_z, bft, nI_z0, nI_z1, lgc_lt, lgc_gt, lgc_le, lgc_ge, lgc_eq, not_true_eq_false, not_false_eq_true, Bool.not_eq_true, Bool.not_eq_false, reduceCtorEq, h0, h1, ct, c63', g1, ck, q1, q2, q3, cgr, g0, cg, c251, bo, Nat.lt_irrefl, eq_self]
        · rw [if_neg (by simp [q2])] at hst
          have q2' : 0 < sWorth v (nI i) (nI k) (v 7) := by omega
          rw [hst]
          simp (disch := omega) only [s46_0, s46_1, s46_2, s46_5, s46_8, s46_10, s46_11, s46_12, s46_15, s46_18, s46_19, s46_20, s46_21, s46_24, s46_27, s46_28, s46_29, s46_30, s46_31, s46_35, s46_36, s46_39, s46_42, s46_45, s46_48, s46_49, s46_52, s46_55, s46_56, s46_58, s46_61, s46_64, s46_65, s46_68, s46_71, s46_72, s46_74, s46_77, s46_78, s46_81, s46_82, s46_85, s46_88, s46_89, s46_90, s46_92, s46_95, s46_98, s46_99, s46_102, s46_105, s46_106, s46_107, s46_110, s46_111, s46_113, s46_116, s46_119, s46_120, s46_121, s46_124, s46_127, s46_130, s46_132, s46_133, s46_136, s46_139, s46_140, zcs_0, zcs_1, zcs_2, zcs_3, zcs_4, zcs_5, zcs_6, zcs_7, znl_i, znl_r, znl_n, Bool.and_true, Bool.true_and, zk_v, zk_n, zk_x, zir_r, zir_n, zclr_i, zclr_r, zclr_n, zclr_d, zclr_l, true_and, and_true, and_self, if_true, if_false, reduceIte, nI_add, pk_mul, zin_ok, zx_nI, nI_lt2, nI_le2, nI_eq2, nI_l0, nI_g0, nI_q0, nI_p0, nI_n0, nI_m1, Nat.add_zero, Nat.zero_add, Nat.reduceAdd, Nat.reduceMul, true_or, or_true, znar_50, bI_0, bI_1, bI_z, bft, nI_z0, nI_z1, lgc_lt, lgc_gt, lgc_le, lgc_ge, lgc_eq, not_true_eq_false, not_false_eq_true, Bool.not_eq_true, Bool.not_eq_false, reduceCtorEq, h0, h1, ct, c63', g1, ck, q1, q2, q2', cgr, g0, cg, c251, bo, eq_self]

    refine Eq.trans (zl_up (P := fun k => ZW zG (d + 4) 46 33 [.ref 100, .int (nI i), .int all, .int (dropN v i all k), .int (nI k)] [] z Q) (v 0) e) ?_
    refine s46_33.trans ?_
    simp (disch := omega) only [s46_0, s46_1, s46_2, s46_5, s46_8, s46_10, s46_11, s46_12, s46_15, s46_18, s46_19, s46_20, s46_21, s46_24, s46_27, s46_28, s46_29, s46_30, s46_31, s46_35, s46_36, s46_39, s46_42, s46_45, s46_48, s46_49, s46_52, s46_55, s46_56, s46_58, s46_61, s46_64, s46_65, s46_68, s46_71, s46_72, s46_74, s46_77, s46_78, s46_81, s46_82, s46_85, s46_88, s46_89, s46_90, s46_92, s46_95, s46_98, s46_99, s46_102, s46_105, s46_106, s46_107, s46_110, s46_111, s46_113, s46_116, s46_119, s46_120, s46_121, s46_124, s46_127, s46_130, s46_132, s46_133, s46_136, s46_139, s46_140, zcs_0, zcs_1, zcs_2, zcs_3, zcs_4, zcs_5, zcs_6, zcs_7, znl_i, znl_r, znl_n, Bool.and_true, Bool.true_and, zk_v, zk_n, zk_x, zir_r, zir_n, zclr_i, zclr_r, zclr_n, zclr_d, zclr_l, true_and, and_true, and_self, if_true, if_false, reduceIte, nI_add, pk_mul, zin_ok, zx_nI, nI_lt2, nI_le2, nI_eq2, nI_l0, nI_g0, nI_q0, nI_p0, nI_n0, nI_m1, Nat.add_zero, Nat.zero_add, Nat.reduceAdd, Nat.reduceMul, true_or, or_true, znar_50, bI_0, bI_1, bI_z, bft, nI_z0, nI_z1, lgc_lt, lgc_gt, lgc_le, lgc_ge, lgc_eq, not_true_eq_false, not_false_eq_true, Bool.not_eq_true, Bool.not_eq_false, reduceCtorEq, h0, h1, ct, c63', Nat.le_refl]
end DR

