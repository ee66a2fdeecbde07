set_option maxRecDepth 100000
/-! the law over Z -/
section AP
variable {sc : Nat → Int32} {n d : Nat} {z : ZH} {Q : ZQ}
theorem zeroW {sv : Nat → Nat → Int64} : WP 0 v00 (fun _ => []) (fun _ => false) (fun _ _ => 0) (fun _ _ => []) 0 (fun _ => 0) (fun _ => false) (fun _ => 0) (fun _ => 0) sv := by
  have hwf : WF v00 (fun _ => []) 0 := yWd_WF (K := 0) (v := fun _ => 0) (fun _ => show (0 : Nat) < 500000000 by omega) (GI_0 (fun _ => 0)) (ZI_0 (fun _ => 0))
  unfold WP
  refine ⟨⟨hwf, fun t ht => Nat.zero_le _⟩, ?_, ⟨Nat.zero_le _, fun k hk => ⟨0, by omega, rfl⟩⟩, ?_⟩
  · intro k hk hh
    cases hh
  · intro j hj hh
    cases hh
theorem law_Z (hd : d = 1500) (hn : zn z = 100) (hS : scr sc n z) (hn2 : n ≤ 384) (hu : zuc z = 0) (hus : zus z = 0) (H : ∀ z', zuc z' ≤ 1200384 → zus z' ≤ 5497258 → Q (.inl (some (.int 1))) z') : ZC zG (d + 1) 253 [.ref 99] z Q := by
  refine Eq.mpr e253 ?_
  have t : ZW zG (d + 1) 253 0 [.ref 99, zdum, zdum, zdum] [] z Q = ZC zG d 5 [.ref 100] (snew z 0 12) (zk zG (d + 1) 253 none 7 [.ref 99, zdum, zdum, zdum] [.ref 100] Q) := by
    simp (disch := omega) only [s253_0, s253_3, s253_4, zcs_0, zcs_1, zcs_2, zcs_3, zcs_4, zcs_5, zcs_6, zcs_7, znl_i, znl_r, znl_n, Bool.and_true, Bool.true_and, zk_v, zk_n, zk_x, zir_r, zir_n, zclr_i, zclr_r, zclr_n, zclr_d, zclr_l, true_and, and_true, and_self, if_true, if_false, reduceIte, nI_add, pk_mul, zin_ok, zx_nI, nI_lt2, nI_le2, nI_eq2, nI_l0, nI_g0, nI_q0, nI_p0, nI_n0, nI_m1, Nat.add_zero, Nat.zero_add, Nat.reduceAdd, Nat.reduceMul, true_or, or_true, znar_50, bI_0, bI_1, bI_z, bft, nI_z0, nI_z1, lgc_lt, lgc_gt, lgc_le, lgc_ge, lgc_eq, not_true_eq_false, not_false_eq_true, Bool.not_eq_true, Bool.not_eq_false, reduceCtorEq, hn]
  refine Eq.mpr t ?_
  clear t
  have F1 : zFr (fun _ => False) z (snew z 0 12) := zFr_snew (zFr_refl _ _)
  have n1 : zn (snew z 0 12) = 101 := by rw [n_snew, hn]
  have c1 : zcls (snew z 0 12) 100 = 0 := by rw [cls_snew, hn, zu1_s]
  have i1 : zfi (snew z 0 12) 100 = fun _ => 0 := by rw [fi_snew, hn, zu1_s]
  have u1 : zuc (snew z 0 12) = 1 := by rw [uc_snew, hu]
  have w1 : zus (snew z 0 12) = 12 := by rw [us_snew, hus]
  generalize snew z 0 12 = z1 at *
  have S1 : scr sc n z1 := by
    have e := F1.2 99 (by omega) (fun w => w)
    unfold scr at hS ⊢
    rw [e.1, e.2.2.2.1, e.2.2.2.2.2.2.1]
    exact hS
  subst hd
  refine c5 (d := 1497) n1 c1 i1 (fun z2 h2 => ?_)
  obtain ⟨F2, n2, h0, u2, w2⟩ := h2
  have t : zk zG (1500 + 1) 253 none 7 [.ref 99, zdum, zdum, zdum] [.ref 100] Q (.inl none) z2 = ZC zG 1500 112 [.ref 135] (snew z2 12 41) (zk zG (1500 + 1) 253 none 15 [.ref 99, .ref 100, zdum, zdum] [.ref 135] Q) := by
    simp (disch := omega) only [s253_7, s253_8, s253_11, s253_12, zcs_0, zcs_1, zcs_2, zcs_3, zcs_4, zcs_5, zcs_6, zcs_7, znl_i, znl_r, znl_n, Bool.and_true, Bool.true_and, zk_v, zk_n, zk_x, zir_r, zir_n, zclr_i, zclr_r, zclr_n, zclr_d, zclr_l, true_and, and_true, and_self, if_true, if_false, reduceIte, nI_add, pk_mul, zin_ok, zx_nI, nI_lt2, nI_le2, nI_eq2, nI_l0, nI_g0, nI_q0, nI_p0, nI_n0, nI_m1, Nat.add_zero, Nat.zero_add, Nat.reduceAdd, Nat.reduceMul, true_or, or_true, znar_50, bI_0, bI_1, bI_z, bft, nI_z0, nI_z1, lgc_lt, lgc_gt, lgc_le, lgc_ge, lgc_eq, not_true_eq_false, not_false_eq_true, Bool.not_eq_true, Bool.not_eq_false, reduceCtorEq, n2]
  refine Eq.mpr t ?_
  clear t
  have F3 : zFr (fun _ => False) z2 (snew z2 12 41) := zFr_snew (zFr_refl _ _)
  have n3 : zn (snew z2 12 41) = 136 := by rw [n_snew, n2]
  have c3 : zcls (snew z2 12 41) 135 = 12 := by rw [cls_snew, n2, zu1_s]
  have i3 : zfi (snew z2 12 41) 135 = fun _ => 0 := by rw [fi_snew, n2, zu1_s]
  have u3 : zuc (snew z2 12 41) = zuc z2 + 1 := by rw [uc_snew]
  have w3 : zus (snew z2 12 41) = zus z2 + 41 := by rw [us_snew]
  generalize snew z2 12 41 = z3 at *
  refine m112 (d := 1499) n3 c3 i3 (fun z4 h4 => ?_)
  obtain ⟨F4, n4, hM, u4, w4⟩ := h4
  have F24 : zFr (fun q => q = 135) z2 z4 := zFr_tr (zFr_mono (fun q _ w => w.elim) F3) F4 (fun q _ w => w)
  have hC := CR0_up h0 n2 F24 (by omega)
  have S4 : scr sc n z4 := by
    have e := F2.2 99 (by omega) (by omega)
    have e2 := F24.2 99 (by omega) (by omega)
    unfold scr at S1 ⊢
    rw [e2.1, e2.2.2.2.1, e2.2.2.2.2.2.2.1, e.1, e.2.2.2.1, e.2.2.2.2.2.2.1]
    exact S1
  have hR : Rel sc n 0 z4 := ⟨v00, _, _, _, _, _, _, _, _, _, _, _, _, ⟨_, _, hC⟩, hM, zeroW, S4, by omega, by omega⟩
  simp (disch := omega) only [s253_15, s253_16, s253_17, zcs_0, zcs_1, zcs_2, zcs_3, zcs_4, zcs_5, zcs_6, zcs_7, znl_i, znl_r, znl_n, Bool.and_true, Bool.true_and, zk_v, zk_n, zk_x, zir_r, zir_n, zclr_i, zclr_r, zclr_n, zclr_d, zclr_l, true_and, and_true, and_self, if_true, if_false, reduceIte, nI_add, pk_mul, zin_ok, zx_nI, nI_lt2, nI_le2, nI_eq2, nI_l0, nI_g0, nI_q0, nI_p0, nI_n0, nI_m1, Nat.add_zero, Nat.zero_add, Nat.reduceAdd, Nat.reduceMul, true_or, or_true, znar_50, bI_0, bI_1, bI_z, bft, nI_z0, nI_z1, lgc_lt, lgc_gt, lgc_le, lgc_ge, lgc_eq, not_true_eq_false, not_false_eq_true, Bool.not_eq_true, Bool.not_eq_false, reduceCtorEq]
  exact lw_loop rfl hn2 (fun k z' hk h => by
    obtain ⟨v, L, hs, vI, LI, tp, tb, fk, fp, hd, sn, sw, sv, _, _, _, _, a, b⟩ := h
    exact H z' (by omega) (by omega)) 64 0 z4 (by omega) hR
end AP
