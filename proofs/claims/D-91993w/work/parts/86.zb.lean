set_option maxRecDepth 100000
/-! ring -/
def btV (v : Nat → Nat) (h : Nat) : Nat := clB v h (v 8)
theorem clB_N {v : Nat → Nat} (hE : wE v) {h : Nat} : ∀ k, k ≤ v 8 → clB v h k < 2 ^ v 0 ∧ (v 0 ≤ h → clB v h k = 0)
  | 0, _ => ⟨Nat.two_pow_pos _, fun _ => rfl⟩
  | k + 1, hk => by
    obtain ⟨i1, i2⟩ := clB_N hE (h := h) k (by omega)
    obtain ⟨e1, e2, e3, e4, e5⟩ := hE.2.2 k (by omega)
    unfold clB
    split
    · rename_i hc
      rw [Bool.and_eq_true] at hc
      have hc2 := of_decide_eq_true hc.2
      exact ⟨Nat.or_lt_two_pow i1 (Nat.pow_lt_pow_right (by omega) e2), fun q => absurd q (by omega)⟩
    · exact ⟨i1, i2⟩
theorem btV_ok {v : Nat → Nat} (h16 : v 0 ≤ 16) (hE : wE v) : (∀ h, btV v h < 2 ^ v 0) ∧ (∀ h, h < 16 → btV v h < 65536) ∧ (∀ h, v 0 ≤ h → h < 16 → btV v h = 0) := by
  have h2 : (2 : Nat) ^ v 0 ≤ 2 ^ 16 := Nat.pow_le_pow_right (by omega) h16
  refine ⟨fun h => (clB_N hE (v 8) (Nat.le_refl _)).1, fun h _ => ?_, fun h hh _ => (clB_N hE (v 8) (Nat.le_refl _)).2 hh⟩
  have := (clB_N hE (h := h) (v 8) (Nat.le_refl _)).1
  show clB v h (v 8) < 65536
  omega
theorem anyN_more {p : Nat → Bool} {n : Nat} : ∀ m, (∀ h, n ≤ h → h < n + m → p h = false) → anyN p (n + m) = anyN p n
  | 0, _ => rfl
  | m + 1, hz => by
    show (anyN p (n + m) || p (n + m)) = _
    rw [anyN_more m (fun h h1 h2 => hz h h1 (by omega)), hz (n + m) (by omega) (by omega), Bool.or_false]
theorem cm_hi {v : Nat → Nat} (h16 : v 0 ≤ 16) (hE : wE v) {a h : Nat} (ha : a < v 0) (hh : v 0 ≤ h) (h2 : h < 16) : hasI (cmI (btV v) 16 a) (nI h) = false := by
  obtain ⟨b1, b2, b3⟩ := btV_ok h16 hE
  have h2a : (2 : Nat) ^ a < 2 ^ v 0 := Nat.pow_lt_pow_right (by omega) ha
  obtain ⟨c, g1, g2, g3⟩ := fixB_N (bt := btV v) (N := v 0) (n := 16) (fun q _ => b1 q) 65536 (2 ^ a) h2a
  have e : cmI (btV v) 16 a = nI c := g3
  have p1 : (2 : Nat) ^ v 0 ≤ 2 ^ 16 := Nat.pow_le_pow_right (by omega) h16
  rw [e, hasI_n (by omega) (by omega)]
  exact Nat.testBit_lt_two_pow (Nat.lt_of_lt_of_le g2 (Nat.pow_le_pow_right (by omega) hh))
theorem rg_more {v : Nat → Nat} (h16 : v 0 ≤ 16) (hE : wE v) {a : Nat} (ha : a < v 0) : rgI (btV v) 16 a = rgI (btV v) (v 0) a := by
  unfold rgI
  have := anyN_more (p := fun h => hasI (cmI (btV v) 16 a) (nI h) && !decide (cmI (btV v) 16 h = cmI (btV v) 16 a)) (n := v 0) (16 - v 0) (fun h h1 h2 => by
    rw [cm_hi h16 hE ha h1 (by omega), Bool.false_and])
  rw [show v 0 + (16 - v 0) = 16 by omega] at this
  rw [this]
def rRing (v : Nat → Nat) (a : Int32) : Int32 := if zin a (v 0) = true then rgI (btV v) (v 0) (zx a) else -2
section RN
variable {d : Nat} {B : Nat → Prop} {z : ZH} {Q : ZQ} {v : Nat → Nat} {L : Nat → List (Nat × Nat)} {t hl kn rl : Nat} {ha ra da ea : Nat → Nat} {K : Nat}
theorem m202 (hM : MS z) (hv : ∀ i, v i < 2147483648) (h16 : v 0 ≤ 16) (hE : wE v) {a : Int32} (H : ∀ f, Q (.inl (some (.int (rRing v a)))) (sW (sIA z 156 f) v)) : ZC zG (d + 3) 202 [.ref 135, .int a] (sW z v) Q := by
  have h0 := hM
  unfold MS at h0
  obtain ⟨b1, b2, b3⟩ := btV_ok h16 hE
  unfold rRing at H
  cases hz : zin a (v 0) with
  | false =>
    have H1 := H (zia z 156)
    rw [sIA_self, hz] at H1
    simp (disch := first | omega | exact hM | exact hv _ | (simp only [MS_sW, MS_sfi, MS_sia, MS_sIA, MS_sla, MS_sLA, MS_sls]; exact hM)) only [e202, s202_0, s202_1, s202_2, s202_5, s202_8, s202_10, s202_11, s202_12, s202_15, s202_16, s202_17, s202_20, zcs_0, zcs_1, zcs_2, zcs_3, zcs_4, zcs_5, zcs_6, zcs_7, znl_i, znl_r, znl_n, Bool.and_true, Bool.true_and, zk_v, zk_n, zk_x, zir_r, zir_n, zclr_i, zclr_r, zclr_n, zclr_d, zclr_l, true_and, and_true, and_self, if_true, if_false, reduceIte, nI_add, pk_mul, zin_ok, zx_nI, nI_lt2, nI_le2, nI_eq2, nI_l0, nI_g0, nI_q0, nI_p0, nI_n0, nI_m1, Nat.add_zero, Nat.zero_add, Nat.reduceAdd, Nat.reduceMul, true_or, or_true, znar_50, bI_0, bI_1, bI_z, bft, nI_z0, nI_z1, lgc_lt, lgc_gt, lgc_le, lgc_ge, lgc_eq, not_true_eq_false, not_false_eq_true, Bool.not_eq_true, Bool.not_eq_false, reduceCtorEq, MS_sW, CS_sW, sW_r, sW_n, sW_w, cls_sW, fi_sW, fr_sW, la_sW, ra_sW, len_sW, ls_sW, own_sW, n_sW, uc_sW, us_sW, sW_sfi, sW_sla, sW_sLA, sW_sls, sW_spay, sW_sia, sW_sIA, ne_eq, cls_sfi, fr_sfi, ia_sfi, la_sfi, ra_sfi, len_sfi, ls_sfi, own_sfi, n_sfi, uc_sfi, us_sfi, cls_sia, fi_sia, fr_sia, la_sia, ra_sia, len_sia, ls_sia, own_sia, n_sia, uc_sia, us_sia, cls_sIA, fi_sIA, fr_sIA, la_sIA, ra_sIA, len_sIA, ls_sIA, own_sIA, n_sIA, uc_sIA, us_sIA, cls_sla, fi_sla, fr_sla, ia_sla, ra_sla, len_sla, ls_sla, own_sla, n_sla, uc_sla, us_sla, cls_sLA, fi_sLA, fr_sLA, ia_sLA, ra_sLA, len_sLA, ls_sLA, own_sLA, n_sLA, uc_sLA, us_sLA, h0, m144, hz]
    exact H1
  | true =>
    obtain ⟨i, g1, g2, rfl⟩ := zin_of hz
    have H1 := H (clA v (zia z 156) (v 8))
    rw [hz, zx_nI g2, if_pos rfl, ← rg_more h16 hE g1] at H1
    have hcl : ∀ h, h < 16 → zia (sW (sIA z 156 (clA v (zia z 156) (v 8))) v) 156 h = nI (btV v h) := by
      intro h hh
      rw [sW_n _ _ (by omega), ia_sIA, zu1_s]
      exact if_pos hh
    have cr := fun d Q => m204 (d := d) (z := sW (sIA z 156 (clA v (zia z 156) (v 8))) v) (Q := Q) hM hcl b2 (a := i) (by omega)
    have hWE := hE.2.2
    have c203 := fun d Q => m203 (d := d) (z := z) (Q := Q) hM hv hE.1 (fun q hq => by have := (hWE q hq).1; omega) (fun q hq => by have := (hWE q hq).2.1; omega)
    simp (disch := first | omega | exact hM | exact hv _ | (simp only [MS_sW, MS_sfi, MS_sia, MS_sIA, MS_sla, MS_sLA, MS_sls]; exact hM)) only [e202, s202_0, s202_1, s202_2, s202_5, s202_8, s202_10, s202_11, s202_12, s202_15, s202_16, s202_17, s202_20, zcs_0, zcs_1, zcs_2, zcs_3, zcs_4, zcs_5, zcs_6, zcs_7, znl_i, znl_r, znl_n, Bool.and_true, Bool.true_and, zk_v, zk_n, zk_x, zir_r, zir_n, zclr_i, zclr_r, zclr_n, zclr_d, zclr_l, true_and, and_true, and_self, if_true, if_false, reduceIte, nI_add, pk_mul, zin_ok, zx_nI, nI_lt2, nI_le2, nI_eq2, nI_l0, nI_g0, nI_q0, nI_p0, nI_n0, nI_m1, Nat.add_zero, Nat.zero_add, Nat.reduceAdd, Nat.reduceMul, true_or, or_true, znar_50, bI_0, bI_1, bI_z, bft, nI_z0, nI_z1, lgc_lt, lgc_gt, lgc_le, lgc_ge, lgc_eq, not_true_eq_false, not_false_eq_true, Bool.not_eq_true, Bool.not_eq_false, reduceCtorEq, MS_sW, CS_sW, sW_r, sW_n, sW_w, cls_sW, fi_sW, fr_sW, la_sW, ra_sW, len_sW, ls_sW, own_sW, n_sW, uc_sW, us_sW, sW_sfi, sW_sla, sW_sLA, sW_sls, sW_spay, sW_sia, sW_sIA, ne_eq, cls_sfi, fr_sfi, ia_sfi, la_sfi, ra_sfi, len_sfi, ls_sfi, own_sfi, n_sfi, uc_sfi, us_sfi, cls_sia, fi_sia, fr_sia, la_sia, ra_sia, len_sia, ls_sia, own_sia, n_sia, uc_sia, us_sia, cls_sIA, fi_sIA, fr_sIA, la_sIA, ra_sIA, len_sIA, ls_sIA, own_sIA, n_sIA, uc_sIA, us_sIA, cls_sla, fi_sla, fr_sla, ia_sla, ra_sla, len_sla, ls_sla, own_sla, n_sla, uc_sla, us_sla, cls_sLA, fi_sLA, fr_sLA, ia_sLA, ra_sLA, len_sLA, ls_sLA, own_sLA, n_sLA, uc_sLA, us_sLA, h0, m144, hz, c203, cr]
    exact H1
theorem c53 (h : NW B z v L t hl kn rl ha ra da ea) (hv : ∀ i, v i < 2147483648) (hWE : wE v) {a : Int32} : ZC zG (d + 4) 53 [.ref 100, .int a] z Q = Q (.inl (some (.int (rRing v a)))) z := by
  have h16 : v 0 ≤ 16 := h.2.2.1.2.2.2.1.2
  obtain ⟨b1, b2, b3⟩ := btV_ok h16 hWE
  have c := fun d Q => c14 (d := d) (Q := Q) h (a := a)
  have hw := hWE.2.2
  have cr := fun d Q i h9 => c49 (d := d) (Q := Q) h hv (fun q hq => by have := (hw q hq).2.1; omega) (bt := btV v) (fun _ _ => rfl) b3 b2 (a := i) h9
  have h0 := h.1
  unfold CS at h0
  unfold rRing
  cases hz : zin a (v 0) with
  | false => simp (disch := omega) only [e53, s53_0, s53_1, s53_2, s53_5, s53_8, s53_9, s53_10, s53_13, s53_16, s53_18, zcs_0, zcs_1, zcs_2, zcs_3, zcs_4, zcs_5, zcs_6, zcs_7, znl_i, znl_r, znl_n, Bool.and_true, Bool.true_and, zk_v, zk_n, zk_x, zir_r, zir_n, zclr_i, zclr_r, zclr_n, zclr_d, zclr_l, true_and, and_true, and_self, if_true, if_false, reduceIte, nI_add, pk_mul, zin_ok, zx_nI, nI_lt2, nI_le2, nI_eq2, nI_l0, nI_g0, nI_q0, nI_p0, nI_n0, nI_m1, Nat.add_zero, Nat.zero_add, Nat.reduceAdd, Nat.reduceMul, true_or, or_true, znar_50, bI_0, bI_1, bI_z, bft, nI_z0, nI_z1, lgc_lt, lgc_gt, lgc_le, lgc_ge, lgc_eq, not_true_eq_false, not_false_eq_true, Bool.not_eq_true, Bool.not_eq_false, reduceCtorEq, h0, c, hz, Bool.false_eq_true, if_false]
  | true =>
    obtain ⟨i, g1, g2, rfl⟩ := zin_of hz
    rw [zx_nI g2]
    simp (disch := omega) only [e53, s53_0, s53_1, s53_2, s53_5, s53_8, s53_9, s53_10, s53_13, s53_16, s53_18, zcs_0, zcs_1, zcs_2, zcs_3, zcs_4, zcs_5, zcs_6, zcs_7, znl_i, znl_r, znl_n, Bool.and_true, Bool.true_and, zk_v, zk_n, zk_x, zir_r, zir_n, zclr_i, zclr_r, zclr_n, zclr_d, zclr_l, true_and, and_true, and_self, if_true, if_false, reduceIte, nI_add, pk_mul, zin_ok, zx_nI, nI_lt2, nI_le2, nI_eq2, nI_l0, nI_g0, nI_q0, nI_p0, nI_n0, nI_m1, Nat.add_zero, Nat.zero_add, Nat.reduceAdd, Nat.reduceMul, true_or, or_true, znar_50, bI_0, bI_1, bI_z, bft, nI_z0, nI_z1, lgc_lt, lgc_gt, lgc_le, lgc_ge, lgc_eq, not_true_eq_false, not_false_eq_true, Bool.not_eq_true, Bool.not_eq_false, reduceCtorEq, h0, c, hz, cr, if_true]
end RN

