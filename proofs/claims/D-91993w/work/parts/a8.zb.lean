set_option maxRecDepth 100000
/-! new states -/
section NS8
variable {d : Nat} {z : ZH} {Q : ZQ} {v : Nat → Nat} {L : Nat → List (Nat × Nat)}
theorem mkL_f {s : Nat} (hs : zn z = s + 1) : zFr (fun q => q = s) z (mkL s z) ∧ zn (mkL s z) = s + 5 ∧ zcls (mkL s z) s = zcls z s ∧ zfr (mkL s z) s 2 = .ref (s + 1) ∧ zcls (mkL s z) (s + 1) = 50 ∧ zlen (mkL s z) (s + 1) = 16 ∧ zfr (mkL s z) s 3 = .ref (s + 2) ∧ zcls (mkL s z) (s + 2) = 90 ∧ zfr (mkL s z) s 4 = .ref (s + 4) ∧ zcls (mkL s z) (s + 4) = 4 ∧ zuc (mkL s z) = zuc z + 4 ∧ zus (mkL s z) = zus z + 33 := by
  have F : zFr (fun q => q = s) z (mkL s z) := by
    unfold mkL
    have f1 := zFr_snew (c := 24) (N := 3) (zFr_sfr (r := s) (k := 2) (x := .ref (zn z)) (zFr_sarr (c := 50) (N := 16) (zFr_refl (fun q => q = s) z)) (Or.inr rfl))
    have f2 := zFr_slin (r := zn z + 1) (N := 8) f1 (Or.inl (by omega))
    have f3 := zFr_snew (c := 4) (N := 6) (zFr_sfr (r := s) (k := 3) (x := .ref (zn z + 1)) f2 (Or.inr rfl))
    exact zFr_sfr f3 (Or.inr rfl)
  refine ⟨F, ?_, ?_, ?_, ?_, ?_, ?_, ?_, ?_, ?_, rfl, rfl⟩
  · show zn z + 4 = _; omega
  all_goals unfold mkL
  all_goals simp (disch := omega) only [cls_sfi, cls_sfr, cls_slin, cls_snew, cls_sarr, fr_sfi, fr_sfr, fr_slin, fr_snew, fr_sarr, len_sfi, len_sfr, len_slin, len_snew, len_sarr, n_sfi, n_sfr, n_slin, n_snew, n_sarr, hs, zu1_s, zu1_n, zu2_s, zu2_n, zu2_k, ne_eq, Nat.add_assoc, Nat.reduceAdd]
/-- the town of a new state -/
theorem c59a {s : Nat} (hs : zn z = s + 1) (hc : zcls z s = 1) : ∃ z1, (∀ Q, ZC zG (d + 1) 62 [.ref (s + 1)] (snew z 2 5) Q = Q (.inl none) z1) ∧ zFr (fun _ => False) z z1 ∧ zn z1 = s + 7 ∧ (zcls z1 (s + 1) = 2 ∧ zfr z1 (s + 1) 0 = .ref (s + 2) ∧ zcls z1 (s + 2) = 90 ∧ zfr z1 (s + 1) 1 = .ref (s + 4) ∧ zcls z1 (s + 4) = 50 ∧ zlen z1 (s + 4) = 16 ∧ zfr z1 (s + 1) 2 = .ref (s + 5) ∧ zcls z1 (s + 5) = 90) ∧ (zfi z1 (s + 1) 3 = nI 0 ∧ zfi z1 (s + 1) 4 = nI 3 ∧ zls z1 (s + 2) = [] ∧ zls z1 (s + 5) = [] ∧ ∀ h, zia z1 (s + 4) h = nI 0) ∧ zuc z1 = zuc z + 6 ∧ zus z1 = zus z + 35 := by
  have n1 : zn (snew z 2 5) = s + 1 + 1 := by rw [n_snew, hs]
  have c1 : zcls (snew z 2 5) (s + 1) = 2 := by rw [cls_snew, hs, zu1_s]
  have f1 : zfi (snew z 2 5) (s + 1) 3 = nI 0 := by rw [fi_snew, hs, zu1_s]; exact nI_0.symm
  obtain ⟨F, n2, a1, a2, a3, a4, a5, a6, a7, a8, a9, a10, a11, a12, a13, u, w⟩ := mkT_f (z := snew z 2 5) (s := s + 1) n1
  rw [uc_snew] at u
  rw [us_snew] at w
  refine ⟨mkT (s + 1) (snew z 2 5), fun Q => c62 c1 (by omega), zFr_tr (zFr_snew (c := 2) (N := 5) (zFr_refl (fun _ => False) z)) F (fun q hq e => by omega), n2, ⟨by rw [a1]; exact c1, a2, a3, a4, a5, a6, a7, a8⟩, ⟨by rw [a10]; exact f1, a9, a11, a12, fun h => by rw [a13 h]; exact nI_0.symm⟩, by omega, by omega⟩
/-- the ledger of a new state -/
theorem c59b {s : Nat} (hs : zn z = s + 7) : ∃ z1, (∀ Q, ZC zG (d + 1) 66 [.ref (s + 7)] (snew z 3 6) Q = Q (.inl none) z1) ∧ zFr (fun _ => False) z z1 ∧ zn z1 = s + 12 ∧ (zcls z1 (s + 7) = 3 ∧ zfr z1 (s + 7) 2 = .ref (s + 8) ∧ zcls z1 (s + 8) = 50 ∧ zlen z1 (s + 8) = 16 ∧ zfr z1 (s + 7) 3 = .ref (s + 9) ∧ zcls z1 (s + 9) = 90 ∧ zfr z1 (s + 7) 4 = .ref (s + 11) ∧ zcls z1 (s + 11) = 4) ∧ zuc z1 = zuc z + 5 ∧ zus z1 = zus z + 39 := by
  have n1 : zn (snew z 3 6) = s + 7 + 1 := by rw [n_snew, hs]
  have c1 : zcls (snew z 3 6) (s + 7) = 3 := by rw [cls_snew, hs, zu1_s]
  obtain ⟨F, n2, a1, a2, a3, a4, a5, a6, a7, a8, u, w⟩ := mkL_f (z := snew z 3 6) (s := s + 7) n1
  rw [uc_snew] at u
  rw [us_snew] at w
  refine ⟨mkL (s + 7) (snew z 3 6), fun Q => c66 c1 (by omega), zFr_tr (zFr_snew (c := 3) (N := 6) (zFr_refl (fun _ => False) z)) F (fun q hq e => by omega), n2, ⟨by rw [a1]; exact c1, a2, a3, a4, a5, a6, a7, a8⟩, by omega, by omega⟩
/-- a new state -/
theorem c59 {s : Nat} (hs : zn z = s + 1) (hc : zcls z s = 1)
    (H : ∀ z', zFr (fun q => q = s) z z' → zn z' = s + 14 → SS z' s → (zcls z' (s + 1) = 2 ∧ zfr z' (s + 1) 0 = .ref (s + 2) ∧ zcls z' (s + 2) = 90 ∧ zfr z' (s + 1) 1 = .ref (s + 4) ∧ zcls z' (s + 4) = 50 ∧ zlen z' (s + 4) = 16 ∧ zfr z' (s + 1) 2 = .ref (s + 5) ∧ zcls z' (s + 5) = 90) → (zfi z' (s + 1) 3 = nI 0 ∧ zfi z' (s + 1) 4 = nI 3 ∧ zls z' (s + 2) = [] ∧ zls z' (s + 5) = [] ∧ ∀ h, zia z' (s + 4) h = nI 0) → (zfr z' s 0 = .ref (s + 1) ∧ zfr z' (s + 7) 0 = .ref (s + 1) ∧ zfr z' (s + 7) 1 = .ref (s + 5) ∧ zls z' (s + 9) = [] ∧ zls z' (s + 12) = [] ∧ (∀ h, h < 16 → zia z' (s + 8) h = nI 0) ∧ zfi z' (s + 7) 5 = nI 0 ∧ zfi z' s 3 = nI 0) → zuc z' = zuc z + 13 → zus z' = zus z + 85 → Q (.inl none) z') : ZC zG (d + 2) 59 [.ref s] z Q := by
  obtain ⟨z1, k1, F1, n1, ⟨a1, a2, a3, a4, a5, a6, a7, a8⟩, ⟨b1, b2, b3, b4, b5⟩, u1, w1⟩ := c59a (d := d) hs hc
  obtain ⟨p1, p2, p3, p4, p5, p6, p7, p8⟩ := F1.2 s (by omega) (fun w => w)
  have q1 : zcls z1 s = 1 := by rw [p1]; exact hc
  have sA : ∀ Q, ZC zG (d + 2) 59 [.ref s] z Q = ZW zG (d + 2) 59 15 [.ref s] [] (sfr z1 s 0 (.ref (s + 1))) Q := fun Q => by
    simp (disch := omega) only [e59, s59_0, s59_1, s59_4, s59_5, s59_8, s59_9, s59_12, zcs_0, zcs_1, zcs_2, zcs_3, zcs_4, zcs_5, zcs_6, zcs_7, znl_i, znl_r, znl_n, Bool.and_true, Bool.true_and, zk_v, zk_n, zk_x, zir_r, zir_n, zclr_i, zclr_r, zclr_n, zclr_d, zclr_l, true_and, and_true, and_self, if_true, if_false, reduceIte, nI_add, pk_mul, zin_ok, zx_nI, nI_lt2, nI_le2, nI_eq2, nI_l0, nI_g0, nI_q0, nI_p0, nI_n0, nI_m1, Nat.add_zero, Nat.zero_add, Nat.reduceAdd, Nat.reduceMul, true_or, or_true, znar_50, bI_0, bI_1, bI_z, bft, nI_z0, nI_z1, lgc_lt, lgc_gt, lgc_le, lgc_ge, lgc_eq, not_true_eq_false, not_false_eq_true, Bool.not_eq_true, Bool.not_eq_false, reduceCtorEq, eq_self, nI_e0, nI_e1, i10, i01, decide_false, decide_true, Bool.false_eq_true, hs, k1, q1]
  have F2 : zFr (fun q => q = s) z1 (sfr z1 s 0 (.ref (s + 1))) := zFr_sfr (zFr_refl _ _) (Or.inr rfl)
  have r2 : zfr (sfr z1 s 0 (.ref (s + 1))) s 0 = .ref (s + 1) := by rw [fr_sfr, zu2_s]
  have c2 : zcls (sfr z1 s 0 (.ref (s + 1))) s = 1 := by rw [cls_sfr]; exact q1
  have n2 : zn (sfr z1 s 0 (.ref (s + 1))) = s + 7 := by rw [n_sfr]; exact n1
  have u2 : zuc (sfr z1 s 0 (.ref (s + 1))) = zuc z1 ∧ zus (sfr z1 s 0 (.ref (s + 1))) = zus z1 := ⟨by rw [uc_sfr], by rw [us_sfr]⟩
  rw [sA]
  clear sA
  generalize sfr z1 s 0 (.ref (s + 1)) = z2 at *
  obtain ⟨z3, k3, F3, n3, ⟨l1, l2, l3, l4, l5, l6, l7, l8⟩, u3, w3⟩ := c59b (d := d) n2
  obtain ⟨x1, x2, x3, x4, x5, x6, x7, x8⟩ := F3.2 s (by omega) (fun w => w)
  have q3 : zcls z3 s = 1 := by rw [x1]; exact c2
  have sB : ∀ Q, ZW zG (d + 2) 59 15 [.ref s] [] z2 Q = ZW zG (d + 2) 59 26 [.ref s] [] (sfr z3 s 1 (.ref (s + 7))) Q := fun Q => by
    simp (disch := omega) only [s59_15, s59_16, s59_19, s59_20, s59_23, zcs_0, zcs_1, zcs_2, zcs_3, zcs_4, zcs_5, zcs_6, zcs_7, znl_i, znl_r, znl_n, Bool.and_true, Bool.true_and, zk_v, zk_n, zk_x, zir_r, zir_n, zclr_i, zclr_r, zclr_n, zclr_d, zclr_l, true_and, and_true, and_self, if_true, if_false, reduceIte, nI_add, pk_mul, zin_ok, zx_nI, nI_lt2, nI_le2, nI_eq2, nI_l0, nI_g0, nI_q0, nI_p0, nI_n0, nI_m1, Nat.add_zero, Nat.zero_add, Nat.reduceAdd, Nat.reduceMul, true_or, or_true, znar_50, bI_0, bI_1, bI_z, bft, nI_z0, nI_z1, lgc_lt, lgc_gt, lgc_le, lgc_ge, lgc_eq, not_true_eq_false, not_false_eq_true, Bool.not_eq_true, Bool.not_eq_false, reduceCtorEq, eq_self, nI_e0, nI_e1, i10, i01, decide_false, decide_true, Bool.false_eq_true, n2, k3, q3]
  have F4 : zFr (fun q => q = s) z3 (sfr z3 s 1 (.ref (s + 7))) := zFr_sfr (zFr_refl _ _) (Or.inr rfl)
  have r40 : zfr (sfr z3 s 1 (.ref (s + 7))) s 0 = .ref (s + 1) := by rw [fr_sfr, zu2_k _ _ _ _ (by omega), x3]; exact r2
  have r41 : zfr (sfr z3 s 1 (.ref (s + 7))) s 1 = .ref (s + 7) := by rw [fr_sfr, zu2_s]
  have c4 : zcls (sfr z3 s 1 (.ref (s + 7))) s = 1 := by rw [cls_sfr]; exact q3
  have n4 : zn (sfr z3 s 1 (.ref (s + 7))) = s + 12 := by rw [n_sfr]; exact n3
  have u4 : zuc (sfr z3 s 1 (.ref (s + 7))) = zuc z3 ∧ zus (sfr z3 s 1 (.ref (s + 7))) = zus z3 := ⟨by rw [uc_sfr], by rw [us_sfr]⟩
  rw [sB]
  clear sB
  generalize sfr z3 s 1 (.ref (s + 7)) = z4 at *
  -- the deeds
  have c5n : zcls (snew z4 24 3) (s + 12) = 24 := by rw [cls_snew, n4, zu1_s]
  have c5f : zfi (snew z4 24 3) (s + 12) 2 = 0 := by rw [fi_snew, n4, zu1_s]
  have c5 : zcls (slin (snew z4 24 3) (s + 12) 8) s = 1 := by
    rw [cls_slin, n_snew, n4, zu1_n _ _ _ (by omega), zu1_n _ _ _ (by omega), cls_snew, n4, zu1_n _ _ _ (by omega)]
    exact c4
  have sC : ∀ Q, ZW zG (d + 2) 59 26 [.ref s] [] z4 Q = ZW zG (d + 2) 59 39 [.ref s] [] (sfr (slin (snew z4 24 3) (s + 12) 8) s 2 (.ref (s + 12))) Q := fun Q => by
    simp (disch := omega) only [s59_26, s59_27, s59_30, s59_31, s59_33, s59_36, zcs_0, zcs_1, zcs_2, zcs_3, zcs_4, zcs_5, zcs_6, zcs_7, znl_i, znl_r, znl_n, Bool.and_true, Bool.true_and, zk_v, zk_n, zk_x, zir_r, zir_n, zclr_i, zclr_r, zclr_n, zclr_d, zclr_l, true_and, and_true, and_self, if_true, if_false, reduceIte, nI_add, pk_mul, zin_ok, zx_nI, nI_lt2, nI_le2, nI_eq2, nI_l0, nI_g0, nI_q0, nI_p0, nI_n0, nI_m1, Nat.add_zero, Nat.zero_add, Nat.reduceAdd, Nat.reduceMul, true_or, or_true, znar_50, bI_0, bI_1, bI_z, bft, nI_z0, nI_z1, lgc_lt, lgc_gt, lgc_le, lgc_ge, lgc_eq, not_true_eq_false, not_false_eq_true, Bool.not_eq_true, Bool.not_eq_false, reduceCtorEq, eq_self, nI_e0, nI_e1, i10, i01, decide_false, decide_true, Bool.false_eq_true, n4, c5n, c5f, c5, nI_ne]
  have F6 : zFr (fun q => q = s) z4 (sfr (slin (snew z4 24 3) (s + 12) 8) s 2 (.ref (s + 12))) := zFr_sfr (zFr_slin (zFr_snew (zFr_refl _ _)) (Or.inl (by omega))) (Or.inr rfl)
  have r60 : zfr (sfr (slin (snew z4 24 3) (s + 12) 8) s 2 (.ref (s + 12))) s 0 = .ref (s + 1) := by
    rw [fr_sfr, zu2_k _ _ _ _ (by omega), fr_slin, zu2_n _ _ _ _ (by omega), fr_snew, n4, zu1_n _ _ _ (by omega)]; exact r40
  have r61 : zfr (sfr (slin (snew z4 24 3) (s + 12) 8) s 2 (.ref (s + 12))) s 1 = .ref (s + 7) := by
    rw [fr_sfr, zu2_k _ _ _ _ (by omega), fr_slin, zu2_n _ _ _ _ (by omega), fr_snew, n4, zu1_n _ _ _ (by omega)]; exact r41
  have r62 : zfr (sfr (slin (snew z4 24 3) (s + 12) 8) s 2 (.ref (s + 12))) s 2 = .ref (s + 12) := by rw [fr_sfr, zu2_s]
  have c6 : zcls (sfr (slin (snew z4 24 3) (s + 12) 8) s 2 (.ref (s + 12))) s = 1 := by rw [cls_sfr]; exact c5
  have c612 : zcls (sfr (slin (snew z4 24 3) (s + 12) 8) s 2 (.ref (s + 12))) (s + 12) = 90 := by
    rw [cls_sfr, cls_slin, n_snew, n4, zu1_n _ _ _ (by omega), zu1_s]
  have n6 : zn (sfr (slin (snew z4 24 3) (s + 12) 8) s 2 (.ref (s + 12))) = s + 14 := by rw [n_sfr, n_slin, n_snew, n4]
  have u6 : zuc (sfr (slin (snew z4 24 3) (s + 12) 8) s 2 (.ref (s + 12))) = zuc z4 + 2 ∧ zus (sfr (slin (snew z4 24 3) (s + 12) 8) s 2 (.ref (s + 12))) = zus z4 + 11 := ⟨by rw [uc_sfr, uc_slin, uc_snew], by rw [us_sfr, us_slin, us_snew]⟩
  rw [sC]
  clear sC c5 c5n
  generalize sfr (slin (snew z4 24 3) (s + 12) 8) s 2 (.ref (s + 12)) = z6 at *
  have F34 : zFr (fun q => q = s) z3 z6 := zFr_trans F4 F6
  have F16 : zFr (fun q => q = s) z1 z6 := zFr_tr (zFr_tr F2 F3 (fun q _ w => w.elim)) F34 (fun q _ w => w)
  have L : ∀ q, s < q → q < s + 12 → zcls z6 q = zcls z3 q ∧ zfr z6 q = zfr z3 q ∧ zlen z6 q = zlen z3 q := fun q h1 h2 => by
    obtain ⟨y1, y2, y3, y4, y5, y6, y7, y8⟩ := F34.2 q (by omega) (by omega)
    exact ⟨y1, y3, y7⟩
  have T : ∀ q, s < q → q < s + 7 → zcls z6 q = zcls z1 q ∧ zfr z6 q = zfr z1 q ∧ zlen z6 q = zlen z1 q ∧ zfi z6 q = zfi z1 q ∧ zia z6 q = zia z1 q ∧ zls z6 q = zls z1 q := fun q h1 h2 => by
    obtain ⟨y1, y2, y3, y4, y5, y6, y7, y8⟩ := F16.2 q (by omega) (by omega)
    exact ⟨y1, y3, y7, y2, y4, y8⟩
  have m1 : zcls z6 (s + 7) = 3 := by rw [(L _ (by omega) (by omega)).1]; exact l1
  have m2 : zfr z6 (s + 7) 2 = .ref (s + 8) := by rw [(L _ (by omega) (by omega)).2.1]; exact l2
  have m3 : zcls z6 (s + 8) = 50 := by rw [(L _ (by omega) (by omega)).1]; exact l3
  have m4 : zlen z6 (s + 8) = 16 := by rw [(L _ (by omega) (by omega)).2.2]; exact l4
  have m5 : zfr z6 (s + 7) 3 = .ref (s + 9) := by rw [(L _ (by omega) (by omega)).2.1]; exact l5
  have m6 : zcls z6 (s + 9) = 90 := by rw [(L _ (by omega) (by omega)).1]; exact l6
  have m7 : zfr z6 (s + 7) 4 = .ref (s + 11) := by rw [(L _ (by omega) (by omega)).2.1]; exact l7
  have m8 : zcls z6 (s + 11) = 4 := by rw [(L _ (by omega) (by omega)).1]; exact l8
  have t1 : zcls z6 (s + 1) = 2 := by rw [(T _ (by omega) (by omega)).1]; exact a1
  have t2 : zfr z6 (s + 1) 0 = .ref (s + 2) := by rw [(T _ (by omega) (by omega)).2.1]; exact a2
  have t3 : zcls z6 (s + 2) = 90 := by rw [(T _ (by omega) (by omega)).1]; exact a3
  have t4 : zfr z6 (s + 1) 1 = .ref (s + 4) := by rw [(T _ (by omega) (by omega)).2.1]; exact a4
  have t5 : zcls z6 (s + 4) = 50 := by rw [(T _ (by omega) (by omega)).1]; exact a5
  have t6 : zlen z6 (s + 4) = 16 := by rw [(T _ (by omega) (by omega)).2.2.1]; exact a6
  have t7 : zfr z6 (s + 1) 2 = .ref (s + 5) := by rw [(T _ (by omega) (by omega)).2.1]; exact a7
  have t8 : zcls z6 (s + 5) = 90 := by rw [(T _ (by omega) (by omega)).1]; exact a8
  have k60 := fun d Q => c60 (d := d) (Q := Q) c6 r61 r62 c612 m1 m2 m3 m4 m5 m6 t1 t4 t5 t6 t7
  have B := stB_f (z := z6) (s := s) (t := s + 1) (r := s + 5)
  have eB : ∀ d Q, ZC zG (d + 1) 60 [.ref s, .ref (s + 1)] z6 Q = Q (.inl none) (stB s (s + 1) (s + 5) z6) := k60
  clear k60
  generalize stB s (s + 1) (s + 5) z6 = z7 at *
  obtain ⟨F7, g1, g2, g3, g4, g5, g6, g7, g8, g9, g10, g11, g12, g13, g14, g15⟩ := B
  simp (disch := omega) only [s59_39, s59_40, s59_41, s59_44, s59_47, zcs_0, zcs_1, zcs_2, zcs_3, zcs_4, zcs_5, zcs_6, zcs_7, znl_i, znl_r, znl_n, Bool.and_true, Bool.true_and, zk_v, zk_n, zk_x, zir_r, zir_n, zclr_i, zclr_r, zclr_n, zclr_d, zclr_l, true_and, and_true, and_self, if_true, if_false, reduceIte, nI_add, pk_mul, zin_ok, zx_nI, nI_lt2, nI_le2, nI_eq2, nI_l0, nI_g0, nI_q0, nI_p0, nI_n0, nI_m1, Nat.add_zero, Nat.zero_add, Nat.reduceAdd, Nat.reduceMul, true_or, or_true, znar_50, bI_0, bI_1, bI_z, bft, nI_z0, nI_z1, lgc_lt, lgc_gt, lgc_le, lgc_ge, lgc_eq, not_true_eq_false, not_false_eq_true, Bool.not_eq_true, Bool.not_eq_false, reduceCtorEq, eq_self, nI_e0, nI_e1, i10, i01, decide_false, decide_true, Bool.false_eq_true, c6, r60, eB]
  have Fz : zFr (fun q => q = s) z z7 := zFr_tr (zFr_tr (zFr_mono (fun _ _ w => w.elim) F1) F16 (fun q _ w => w)) F7 (fun q hq w => by omega)
  have ft : ∀ q, s < q → q < s + 7 → zfi z7 q = zfi z1 q ∧ zia z7 q = zia z1 q ∧ zls z7 q = zls z1 q := fun q h1 h2 => by
    obtain ⟨y1, y2, y3, y4, y5, y6, y7, y8⟩ := F7.2 q (by omega) (by omega)
    obtain ⟨_, _, _, x4, x5, x6⟩ := T q h1 h2
    exact ⟨by rw [y2, x4], by rw [y4, x5], by rw [y8, x6]⟩
  have hr : ∀ q j, ¬ (q = s ∧ j = 0) → ¬ (q = s + 7 ∧ j < 2) → zfr z7 q j = zfr z6 q j := g7
  refine H z7 Fz (by omega) ⟨by rw [g1]; exact c6, by rw [hr _ _ (by omega) (by omega)]; exact r61, by rw [hr _ _ (by omega) (by omega)]; exact r62, by rw [g1]; exact c612, ?_, ?_, ?_, ?_, ?_, ?_, ?_, ?_⟩ ⟨by rw [g1]; exact t1, by rw [hr _ _ (by omega) (by omega)]; exact t2, by rw [g1]; exact t3, by rw [hr _ _ (by omega) (by omega)]; exact t4, by rw [g1]; exact t5, by rw [g2]; exact t6, by rw [hr _ _ (by omega) (by omega)]; exact t7, by rw [g1]; exact t8⟩ ⟨by rw [(ft _ (by omega) (by omega)).1]; exact b1, by rw [(ft _ (by omega) (by omega)).1]; exact b2, by rw [(ft _ (by omega) (by omega)).2.2]; exact b3, by rw [(ft _ (by omega) (by omega)).2.2]; exact b4, fun h => by rw [(ft _ (by omega) (by omega)).2.1]; exact b5 h⟩ ⟨g8, g9, g10, g11, g12, fun h hh => ?_, g14, g15⟩ ?_ ?_
  · rw [g1]; exact m1
  · rw [hr _ _ (by omega) (by omega)]; exact m2
  · rw [g1]; exact m3
  · rw [g2]; exact m4
  · rw [hr _ _ (by omega) (by omega)]; exact m5
  · rw [g1]; exact m6
  · rw [hr _ _ (by omega) (by omega)]; exact m7
  · rw [g1]; exact m8
  · rw [g13 h hh, show s + 1 + 3 = s + 4 from rfl, (T _ (by omega) (by omega)).2.2.2.2.1]
    exact b5 h
  · rw [g5, u6.1, u4.1, u3, u2.1, u1]
  · rw [g6, u6.2, u4.2, w3, u2.2, w1]
end NS8
