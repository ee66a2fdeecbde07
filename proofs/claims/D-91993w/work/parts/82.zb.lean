set_option maxRecDepth 100000
/-! reach, tie -/
def hgI (v : Nat → Nat) (x y : Int32) (a : Nat) : Int32 := fixI (fun s => passI v x y s 16) 65536 (nI (2 ^ a))
theorem fixI_c {f g : Int32 → Int32} (h : ∀ s, s < 65536 → ∃ c, c < 65536 ∧ f (nI s) = nI c ∧ g (nI s) = nI c) : ∀ m s, s < 65536 → fixI f m (nI s) = fixI g m (nI s)
  | 0, s, _ => rfl
  | m + 1, s, hs => by
    obtain ⟨c, h1, h2, h3⟩ := h s hs
    unfold fixI
    rw [h2, h3, fixI_c h m c h1]
theorem wK16 {v : Nat → Nat} (h16 : v 0 ≤ 16) (h : wK v) : ∀ x, x < 16 → v (1864 + x) < 65536 := by
  intro x hx
  have h1 := (h x hx).1
  have h2 : (2 : Nat) ^ v 0 ≤ 2 ^ 16 := Nat.pow_le_pow_right (by omega) h16
  omega
theorem hgI_m {v : Nat → Nat} (h16 : v 0 ≤ 16) (h : wK v) (x y : Int32) {a : Nat} (ha : a < 16) : fixI (fun s => passI v x y s (v 0)) 65536 (nI (2 ^ a)) = hgI v x y a := by
  have h2a : 2 ^ a < 65536 := by
    have : (2 : Nat) ^ a < 2 ^ 16 := Nat.pow_lt_pow_right (by omega) ha
    omega
  refine fixI_c (fun s hs => ?_) 65536 _ h2a
  obtain ⟨c, p1, p2, p3⟩ := passI_ok (v := v) (x := x) (y := y) hs (v 0) (fun q hq => wK16 h16 h q (by omega))
  have hm := passI_more (v := v) (x := x) (y := y) (w := nI s) (n := v 0) (16 - v 0) (fun q h1 h2 => (h q (by omega)).2.1 h1) ⟨c, p3⟩
  rw [show v 0 + (16 - v 0) = 16 by omega] at hm
  exact ⟨c, p2, p3, hm.trans p3⟩
def rReach (v : Nat → Nat) (a : Int32) : Int32 := if zin a (v 0) = true then hgI v (-1) (-1) (zx a) else -2
def rTie (v : Nat → Nat) (a b : Int32) : Int32 := if are2 v a b = true then (if hasI (nI (v (1864 + zx a))) b = true then (if hasI (hgI v a b (zx a)) b = true then nI 0 else nI 1) else -1) else -2
section RT
variable {d : Nat} {B : Nat → Prop} {z : ZH} {Q : ZQ} {v : Nat → Nat} {L : Nat → List (Nat × Nat)} {t hl kn rl : Nat} {ha ra da ea : Nat → Nat} {K : Nat}
theorem m143a (hM : MS z) (hv : ∀ i, v i < 2147483648) {a b : Int32} : ZC zG (d + 2) 143 [.ref 135, .int a, .int b] (sW z v) Q = Q (.inl (some (.int (bI (are2 v a b))))) (sW z v) := m143 hM hv
theorem m198 (hM : MS z) (hv : ∀ i, v i < 2147483648) (h16 : v 0 ≤ 16) (hk : wK v) {a : Int32} : ZC zG (d + 2) 198 [.ref 135, .int a] (sW z v) Q = Q (.inl (some (.int (rReach v a)))) (sW z v) := by
  have h0 := hM
  unfold MS at h0
  unfold rReach
  cases hz : zin a (v 0) with
  | false => simp (disch := first | omega | exact hM | exact hv _ | (simp only [MS_sW, MS_sfi, MS_sia, MS_sIA, MS_sla, MS_sLA, MS_sls]; exact hM)) only [e198, s198_0, s198_1, s198_2, s198_5, s198_8, s198_9, s198_10, s198_11, s198_12, s198_15, s198_18, s198_20, zcs_0, zcs_1, zcs_2, zcs_3, zcs_4, zcs_5, zcs_6, zcs_7, znl_i, znl_r, znl_n, Bool.and_true, Bool.true_and, zk_v, zk_n, zk_x, zir_r, zir_n, zclr_i, zclr_r, zclr_n, zclr_d, zclr_l, true_and, and_true, and_self, if_true, if_false, reduceIte, nI_add, pk_mul, zin_ok, zx_nI, nI_lt2, nI_le2, nI_eq2, nI_l0, nI_g0, nI_q0, nI_p0, nI_n0, nI_m1, Nat.add_zero, Nat.zero_add, Nat.reduceAdd, Nat.reduceMul, true_or, or_true, znar_50, bI_0, bI_1, bI_z, bft, nI_z0, nI_z1, lgc_lt, lgc_gt, lgc_le, lgc_ge, lgc_eq, not_true_eq_false, not_false_eq_true, Bool.not_eq_true, Bool.not_eq_false, reduceCtorEq, MS_sW, CS_sW, sW_r, sW_n, sW_w, cls_sW, fi_sW, fr_sW, la_sW, ra_sW, len_sW, ls_sW, own_sW, n_sW, uc_sW, us_sW, sW_sfi, sW_sla, sW_sLA, sW_sls, sW_spay, sW_sia, sW_sIA, ne_eq, cls_sfi, fr_sfi, ia_sfi, la_sfi, ra_sfi, len_sfi, ls_sfi, own_sfi, n_sfi, uc_sfi, us_sfi, cls_sia, fi_sia, fr_sia, la_sia, ra_sia, len_sia, ls_sia, own_sia, n_sia, uc_sia, us_sia, cls_sIA, fi_sIA, fr_sIA, la_sIA, ra_sIA, len_sIA, ls_sIA, own_sIA, n_sIA, uc_sIA, us_sIA, cls_sla, fi_sla, fr_sla, ia_sla, ra_sla, len_sla, ls_sla, own_sla, n_sla, uc_sla, us_sla, cls_sLA, fi_sLA, fr_sLA, ia_sLA, ra_sLA, len_sLA, ls_sLA, own_sLA, n_sLA, uc_sLA, us_sLA, h0, m144, hz, Bool.false_eq_true, if_false]
  | true =>
    obtain ⟨i, g1, g2, rfl⟩ := zin_of hz
    have c := fun d Q => m199 (d := d) (z := z) (Q := Q) hM h16 (wK16 h16 hk) (a := i) (by omega) (x := -1) (y := -1)
    rw [hgI_m h16 hk _ _ (by omega)] at c
    rw [zx_nI g2]
    simp (disch := first | omega | exact hM | exact hv _ | (simp only [MS_sW, MS_sfi, MS_sia, MS_sIA, MS_sla, MS_sLA, MS_sls]; exact hM)) only [e198, s198_0, s198_1, s198_2, s198_5, s198_8, s198_9, s198_10, s198_11, s198_12, s198_15, s198_18, s198_20, zcs_0, zcs_1, zcs_2, zcs_3, zcs_4, zcs_5, zcs_6, zcs_7, znl_i, znl_r, znl_n, Bool.and_true, Bool.true_and, zk_v, zk_n, zk_x, zir_r, zir_n, zclr_i, zclr_r, zclr_n, zclr_d, zclr_l, true_and, and_true, and_self, if_true, if_false, reduceIte, nI_add, pk_mul, zin_ok, zx_nI, nI_lt2, nI_le2, nI_eq2, nI_l0, nI_g0, nI_q0, nI_p0, nI_n0, nI_m1, Nat.add_zero, Nat.zero_add, Nat.reduceAdd, Nat.reduceMul, true_or, or_true, znar_50, bI_0, bI_1, bI_z, bft, nI_z0, nI_z1, lgc_lt, lgc_gt, lgc_le, lgc_ge, lgc_eq, not_true_eq_false, not_false_eq_true, Bool.not_eq_true, Bool.not_eq_false, reduceCtorEq, MS_sW, CS_sW, sW_r, sW_n, sW_w, cls_sW, fi_sW, fr_sW, la_sW, ra_sW, len_sW, ls_sW, own_sW, n_sW, uc_sW, us_sW, sW_sfi, sW_sla, sW_sLA, sW_sls, sW_spay, sW_sia, sW_sIA, ne_eq, cls_sfi, fr_sfi, ia_sfi, la_sfi, ra_sfi, len_sfi, ls_sfi, own_sfi, n_sfi, uc_sfi, us_sfi, cls_sia, fi_sia, fr_sia, la_sia, ra_sia, len_sia, ls_sia, own_sia, n_sia, uc_sia, us_sia, cls_sIA, fi_sIA, fr_sIA, la_sIA, ra_sIA, len_sIA, ls_sIA, own_sIA, n_sIA, uc_sIA, us_sIA, cls_sla, fi_sla, fr_sla, ia_sla, ra_sla, len_sla, ls_sla, own_sla, n_sla, uc_sla, us_sla, cls_sLA, fi_sLA, fr_sLA, ia_sLA, ra_sLA, len_sLA, ls_sLA, own_sLA, n_sLA, uc_sLA, us_sLA, h0, m144, hz, c, if_true]
theorem m201 (hM : MS z) (hv : ∀ i, v i < 2147483648) (h16 : v 0 ≤ 16) (hk : wK v) {a b : Int32} : ZC zG (d + 3) 201 [.ref 135, .int a, .int b] (sW z v) Q = Q (.inl (some (.int (rTie v a b)))) (sW z v) := by
  have h0 := hM
  unfold MS at h0
  unfold rTie
  cases hh : are2 v a b with
  | false => simp (disch := first | omega | exact hM | exact hv _ | (simp only [MS_sW, MS_sfi, MS_sia, MS_sIA, MS_sla, MS_sLA, MS_sls]; exact hM)) only [e201, s201_0, s201_1, s201_2, s201_3, s201_6, s201_9, s201_11, s201_12, s201_13, s201_14, s201_15, s201_18, s201_21, s201_22, s201_23, s201_24, s201_25, s201_26, s201_27, s201_30, s201_31, s201_34, s201_37, s201_38, s201_41, s201_42, zcs_0, zcs_1, zcs_2, zcs_3, zcs_4, zcs_5, zcs_6, zcs_7, znl_i, znl_r, znl_n, Bool.and_true, Bool.true_and, zk_v, zk_n, zk_x, zir_r, zir_n, zclr_i, zclr_r, zclr_n, zclr_d, zclr_l, true_and, and_true, and_self, if_true, if_false, reduceIte, nI_add, pk_mul, zin_ok, zx_nI, nI_lt2, nI_le2, nI_eq2, nI_l0, nI_g0, nI_q0, nI_p0, nI_n0, nI_m1, Nat.add_zero, Nat.zero_add, Nat.reduceAdd, Nat.reduceMul, true_or, or_true, znar_50, bI_0, bI_1, bI_z, bft, nI_z0, nI_z1, lgc_lt, lgc_gt, lgc_le, lgc_ge, lgc_eq, not_true_eq_false, not_false_eq_true, Bool.not_eq_true, Bool.not_eq_false, reduceCtorEq, MS_sW, CS_sW, sW_r, sW_n, sW_w, cls_sW, fi_sW, fr_sW, la_sW, ra_sW, len_sW, ls_sW, own_sW, n_sW, uc_sW, us_sW, sW_sfi, sW_sla, sW_sLA, sW_sls, sW_spay, sW_sia, sW_sIA, ne_eq, cls_sfi, fr_sfi, ia_sfi, la_sfi, ra_sfi, len_sfi, ls_sfi, own_sfi, n_sfi, uc_sfi, us_sfi, cls_sia, fi_sia, fr_sia, la_sia, ra_sia, len_sia, ls_sia, own_sia, n_sia, uc_sia, us_sia, cls_sIA, fi_sIA, fr_sIA, la_sIA, ra_sIA, len_sIA, ls_sIA, own_sIA, n_sIA, uc_sIA, us_sIA, cls_sla, fi_sla, fr_sla, ia_sla, ra_sla, len_sla, ls_sla, own_sla, n_sla, uc_sla, us_sla, cls_sLA, fi_sLA, fr_sLA, ia_sLA, ra_sLA, len_sLA, ls_sLA, own_sLA, n_sLA, uc_sLA, us_sLA, h0, m143a, hh, Bool.false_eq_true, if_false]
  | true =>
    obtain ⟨i, j, g1, g2, g3, g4, g5, rfl, rfl⟩ := are2_of hh
    have c := fun d Q => m199 (d := d) (z := z) (Q := Q) hM h16 (wK16 h16 hk) (a := i) (by omega) (x := nI i) (y := nI j)
    rw [hgI_m h16 hk _ _ (by omega)] at c
    rw [zx_nI g4]
    cases k1 : hasI (nI (v (1864 + i))) (nI j) with
    | false => simp (disch := first | omega | exact hM | exact hv _ | (simp only [MS_sW, MS_sfi, MS_sia, MS_sIA, MS_sla, MS_sLA, MS_sls]; exact hM)) only [e201, s201_0, s201_1, s201_2, s201_3, s201_6, s201_9, s201_11, s201_12, s201_13, s201_14, s201_15, s201_18, s201_21, s201_22, s201_23, s201_24, s201_25, s201_26, s201_27, s201_30, s201_31, s201_34, s201_37, s201_38, s201_41, s201_42, zcs_0, zcs_1, zcs_2, zcs_3, zcs_4, zcs_5, zcs_6, zcs_7, znl_i, znl_r, znl_n, Bool.and_true, Bool.true_and, zk_v, zk_n, zk_x, zir_r, zir_n, zclr_i, zclr_r, zclr_n, zclr_d, zclr_l, true_and, and_true, and_self, if_true, if_false, reduceIte, nI_add, pk_mul, zin_ok, zx_nI, nI_lt2, nI_le2, nI_eq2, nI_l0, nI_g0, nI_q0, nI_p0, nI_n0, nI_m1, Nat.add_zero, Nat.zero_add, Nat.reduceAdd, Nat.reduceMul, true_or, or_true, znar_50, bI_0, bI_1, bI_z, bft, nI_z0, nI_z1, lgc_lt, lgc_gt, lgc_le, lgc_ge, lgc_eq, not_true_eq_false, not_false_eq_true, Bool.not_eq_true, Bool.not_eq_false, reduceCtorEq, MS_sW, CS_sW, sW_r, sW_n, sW_w, cls_sW, fi_sW, fr_sW, la_sW, ra_sW, len_sW, ls_sW, own_sW, n_sW, uc_sW, us_sW, sW_sfi, sW_sla, sW_sLA, sW_sls, sW_spay, sW_sia, sW_sIA, ne_eq, cls_sfi, fr_sfi, ia_sfi, la_sfi, ra_sfi, len_sfi, ls_sfi, own_sfi, n_sfi, uc_sfi, us_sfi, cls_sia, fi_sia, fr_sia, la_sia, ra_sia, len_sia, ls_sia, own_sia, n_sia, uc_sia, us_sia, cls_sIA, fi_sIA, fr_sIA, la_sIA, ra_sIA, len_sIA, ls_sIA, own_sIA, n_sIA, uc_sIA, us_sIA, cls_sla, fi_sla, fr_sla, ia_sla, ra_sla, len_sla, ls_sla, own_sla, n_sla, uc_sla, us_sla, cls_sLA, fi_sLA, fr_sLA, ia_sLA, ra_sLA, len_sLA, ls_sLA, own_sLA, n_sLA, uc_sLA, us_sLA, h0, m143a, hh, m148, k1, Bool.false_eq_true, if_false, if_true]
    | true =>
      cases k2 : hasI (hgI v (nI i) (nI j) i) (nI j) <;>
      simp (disch := first | omega | exact hM | exact hv _ | (simp only [MS_sW, MS_sfi, MS_sia, MS_sIA, MS_sla, MS_sLA, MS_sls]; exact hM)) only [e201, s201_0, s201_1, s201_2, s201_3, s201_6, s201_9, s201_11, s201_12, s201_13, s201_14, s201_15, s201_18, s201_21, s201_22, s201_23, s201_24, s201_25, s201_26, s201_27, s201_30, s201_31, s201_34, s201_37, s201_38, s201_41, s201_42, zcs_0, zcs_1, zcs_2, zcs_3, zcs_4, zcs_5, zcs_6, zcs_7, znl_i, znl_r, znl_n, Bool.and_true, Bool.true_and, zk_v, zk_n, zk_x, zir_r, zir_n, zclr_i, zclr_r, zclr_n, zclr_d, zclr_l, true_and, and_true, and_self, if_true, if_false, reduceIte, nI_add, pk_mul, zin_ok, zx_nI, nI_lt2, nI_le2, nI_eq2, nI_l0, nI_g0, nI_q0, nI_p0, nI_n0, nI_m1, Nat.add_zero, Nat.zero_add, Nat.reduceAdd, Nat.reduceMul, true_or, or_true, znar_50, bI_0, bI_1, bI_z, bft, nI_z0, nI_z1, lgc_lt, lgc_gt, lgc_le, lgc_ge, lgc_eq, not_true_eq_false, not_false_eq_true, Bool.not_eq_true, Bool.not_eq_false, reduceCtorEq, MS_sW, CS_sW, sW_r, sW_n, sW_w, cls_sW, fi_sW, fr_sW, la_sW, ra_sW, len_sW, ls_sW, own_sW, n_sW, uc_sW, us_sW, sW_sfi, sW_sla, sW_sLA, sW_sls, sW_spay, sW_sia, sW_sIA, ne_eq, cls_sfi, fr_sfi, ia_sfi, la_sfi, ra_sfi, len_sfi, ls_sfi, own_sfi, n_sfi, uc_sfi, us_sfi, cls_sia, fi_sia, fr_sia, la_sia, ra_sia, len_sia, ls_sia, own_sia, n_sia, uc_sia, us_sia, cls_sIA, fi_sIA, fr_sIA, la_sIA, ra_sIA, len_sIA, ls_sIA, own_sIA, n_sIA, uc_sIA, us_sIA, cls_sla, fi_sla, fr_sla, ia_sla, ra_sla, len_sla, ls_sla, own_sla, n_sla, uc_sla, us_sla, cls_sLA, fi_sLA, fr_sLA, ia_sLA, ra_sLA, len_sLA, ls_sLA, own_sLA, n_sLA, uc_sLA, us_sLA, h0, m143a, hh, m148, k1, c, m149, k2, Bool.false_eq_true, if_false, if_true]
theorem c45 (h : NW B z v L t hl kn rl ha ra da ea) (hk : wK v) {a : Int32} : ZC zG (d + 3) 45 [.ref 100, .int a] z Q = Q (.inl (some (.int (rReach v a)))) z := by
  have hL := h.ls
  have c := fun d Q => c14 (d := d) (Q := Q) h (a := a)
  obtain ⟨h0, ⟨h1, h2, h3, h4⟩, hH, hR, hD, hK, h9, hE, h6⟩ := h
  unfold CS at h0
  have h16 : v 0 ≤ 16 := hH.2.2.2.1.2
  unfold rReach
  cases hz : zin a (v 0) with
  | false => simp (disch := omega) only [e45, s45_0, s45_1, s45_2, s45_5, s45_8, s45_9, s45_12, s45_15, s45_16, s45_17, s45_18, s45_21, s45_24, s45_26, zcs_0, zcs_1, zcs_2, zcs_3, zcs_4, zcs_5, zcs_6, zcs_7, znl_i, znl_r, znl_n, Bool.and_true, Bool.true_and, zk_v, zk_n, zk_x, zir_r, zir_n, zclr_i, zclr_r, zclr_n, zclr_d, zclr_l, true_and, and_true, and_self, if_true, if_false, reduceIte, nI_add, pk_mul, zin_ok, zx_nI, nI_lt2, nI_le2, nI_eq2, nI_l0, nI_g0, nI_q0, nI_p0, nI_n0, nI_m1, Nat.add_zero, Nat.zero_add, Nat.reduceAdd, Nat.reduceMul, true_or, or_true, znar_50, bI_0, bI_1, bI_z, bft, nI_z0, nI_z1, lgc_lt, lgc_gt, lgc_le, lgc_ge, lgc_eq, not_true_eq_false, not_false_eq_true, Bool.not_eq_true, Bool.not_eq_false, reduceCtorEq, h0, c, hz, Bool.false_eq_true, if_false]
  | true =>
    obtain ⟨i, g1, g2, rfl⟩ := zin_of hz
    have ck := fun d Q => c77 (d := d) (z := z) (Q := Q) hL hK (wK16 h16 hk) (a := i) (by omega) (x := -1) (y := -1)
    rw [zx_nI g2]
    simp (disch := omega) only [e45, s45_0, s45_1, s45_2, s45_5, s45_8, s45_9, s45_12, s45_15, s45_16, s45_17, s45_18, s45_21, s45_24, s45_26, zcs_0, zcs_1, zcs_2, zcs_3, zcs_4, zcs_5, zcs_6, zcs_7, znl_i, znl_r, znl_n, Bool.and_true, Bool.true_and, zk_v, zk_n, zk_x, zir_r, zir_n, zclr_i, zclr_r, zclr_n, zclr_d, zclr_l, true_and, and_true, and_self, if_true, if_false, reduceIte, nI_add, pk_mul, zin_ok, zx_nI, nI_lt2, nI_le2, nI_eq2, nI_l0, nI_g0, nI_q0, nI_p0, nI_n0, nI_m1, Nat.add_zero, Nat.zero_add, Nat.reduceAdd, Nat.reduceMul, true_or, or_true, znar_50, bI_0, bI_1, bI_z, bft, nI_z0, nI_z1, lgc_lt, lgc_gt, lgc_le, lgc_ge, lgc_eq, not_true_eq_false, not_false_eq_true, Bool.not_eq_true, Bool.not_eq_false, reduceCtorEq, h0, c, hz, ck, if_true]
    rfl
theorem c47 (h : NW B z v L t hl kn rl ha ra da ea) (hk : wK v) {a b : Int32} : ZC zG (d + 4) 47 [.ref 100, .int a, .int b] z Q = Q (.inl (some (.int (rTie v a b)))) z := by
  have hL := h.ls
  have c := fun d Q => c13 (d := d) (Q := Q) h (a := a) (b := b)
  obtain ⟨h0, ⟨h1, h2, h3, h4⟩, hH, hR, hD, hK, h9, hE, h6⟩ := h
  unfold CS at h0
  have h16 : v 0 ≤ 16 := hH.2.2.2.1.2
  unfold rTie
  cases hh : are2 v a b with
  | false => simp (disch := omega) only [e47, s47_0, s47_1, s47_2, s47_3, s47_6, s47_9, s47_11, s47_12, s47_13, s47_16, s47_19, s47_20, s47_21, s47_24, s47_27, s47_28, s47_29, s47_30, s47_33, s47_36, s47_37, s47_38, s47_39, s47_42, s47_43, s47_46, s47_49, s47_50, s47_53, s47_54, zcs_0, zcs_1, zcs_2, zcs_3, zcs_4, zcs_5, zcs_6, zcs_7, znl_i, znl_r, znl_n, Bool.and_true, Bool.true_and, zk_v, zk_n, zk_x, zir_r, zir_n, zclr_i, zclr_r, zclr_n, zclr_d, zclr_l, true_and, and_true, and_self, if_true, if_false, reduceIte, nI_add, pk_mul, zin_ok, zx_nI, nI_lt2, nI_le2, nI_eq2, nI_l0, nI_g0, nI_q0, nI_p0, nI_n0, nI_m1, Nat.add_zero, Nat.zero_add, Nat.reduceAdd, Nat.reduceMul, true_or, or_true, znar_50, bI_0, bI_1, bI_z, bft, nI_z0, nI_z1, lgc_lt, lgc_gt, lgc_le, lgc_ge, lgc_eq, not_true_eq_false, not_false_eq_true, Bool.not_eq_true, Bool.not_eq_false, reduceCtorEq, h0, c, hh, Bool.false_eq_true, if_false]
  | true =>
    obtain ⟨i, j, g1, g2, g3, g4, g5, rfl, rfl⟩ := are2_of hh
    have cg := fun d Q => c77 (d := d) (z := z) (Q := Q) hL hK (wK16 h16 hk) (a := i) (by omega) (x := nI i) (y := nI j)
    have cg2 : fixI (fun s => passI v (nI i) (nI j) s 16) 65536 (nI (2 ^ i)) = hgI v (nI i) (nI j) i := rfl
    rw [cg2] at cg
    have ck := fun d Q => c68 (d := d) (z := z) (v := v) (Q := Q) hL hK (a := i) (b := nI j) (by omega)
    rw [zx_nI g4]
    cases k1 : hasI (nI (v (1864 + i))) (nI j) with
    | false => simp (disch := omega) only [e47, s47_0, s47_1, s47_2, s47_3, s47_6, s47_9, s47_11, s47_12, s47_13, s47_16, s47_19, s47_20, s47_21, s47_24, s47_27, s47_28, s47_29, s47_30, s47_33, s47_36, s47_37, s47_38, s47_39, s47_42, s47_43, s47_46, s47_49, s47_50, s47_53, s47_54, zcs_0, zcs_1, zcs_2, zcs_3, zcs_4, zcs_5, zcs_6, zcs_7, znl_i, znl_r, znl_n, Bool.and_true, Bool.true_and, zk_v, zk_n, zk_x, zir_r, zir_n, zclr_i, zclr_r, zclr_n, zclr_d, zclr_l, true_and, and_true, and_self, if_true, if_false, reduceIte, nI_add, pk_mul, zin_ok, zx_nI, nI_lt2, nI_le2, nI_eq2, nI_l0, nI_g0, nI_q0, nI_p0, nI_n0, nI_m1, Nat.add_zero, Nat.zero_add, Nat.reduceAdd, Nat.reduceMul, true_or, or_true, znar_50, bI_0, bI_1, bI_z, bft, nI_z0, nI_z1, lgc_lt, lgc_gt, lgc_le, lgc_ge, lgc_eq, not_true_eq_false, not_false_eq_true, Bool.not_eq_true, Bool.not_eq_false, reduceCtorEq, h0, c, hh, ck, k1, Bool.false_eq_true, if_false, if_true]
    | true =>
      cases k2 : hasI (hgI v (nI i) (nI j) i) (nI j) <;>
      simp (disch := omega) only [e47, s47_0, s47_1, s47_2, s47_3, s47_6, s47_9, s47_11, s47_12, s47_13, s47_16, s47_19, s47_20, s47_21, s47_24, s47_27, s47_28, s47_29, s47_30, s47_33, s47_36, s47_37, s47_38, s47_39, s47_42, s47_43, s47_46, s47_49, s47_50, s47_53, s47_54, zcs_0, zcs_1, zcs_2, zcs_3, zcs_4, zcs_5, zcs_6, zcs_7, znl_i, znl_r, znl_n, Bool.and_true, Bool.true_and, zk_v, zk_n, zk_x, zir_r, zir_n, zclr_i, zclr_r, zclr_n, zclr_d, zclr_l, true_and, and_true, and_self, if_true, if_false, reduceIte, nI_add, pk_mul, zin_ok, zx_nI, nI_lt2, nI_le2, nI_eq2, nI_l0, nI_g0, nI_q0, nI_p0, nI_n0, nI_m1, Nat.add_zero, Nat.zero_add, Nat.reduceAdd, Nat.reduceMul, true_or, or_true, znar_50, bI_0, bI_1, bI_z, bft, nI_z0, nI_z1, lgc_lt, lgc_gt, lgc_le, lgc_ge, lgc_eq, not_true_eq_false, not_false_eq_true, Bool.not_eq_true, Bool.not_eq_false, reduceCtorEq, h0, c, hh, ck, k1, cg, c18, k2, Bool.false_eq_true, if_false, if_true]
end RT

