set_option maxRecDepth 100000
/-! a new reader -/
section CJ
variable {d : Nat} {z : ZH} {Q : ZQ} {b : Nat → Nat} {sz R : Nat}
theorem mkT_f {s : Nat} (hs : zn z = s + 1) : zFr (fun q => q = s) z (mkT s z) ∧ zn (mkT s z) = s + 6 ∧ zcls (mkT s z) s = zcls z s ∧ zfr (mkT s z) s 0 = .ref (s + 1) ∧ zcls (mkT s z) (s + 1) = 90 ∧ zfr (mkT s z) s 1 = .ref (s + 3) ∧ zcls (mkT s z) (s + 3) = 50 ∧ zlen (mkT s z) (s + 3) = 16 ∧ zfr (mkT s z) s 2 = .ref (s + 4) ∧ zcls (mkT s z) (s + 4) = 90 ∧ zfi (mkT s z) s 4 = nI 3 ∧ zfi (mkT s z) s 3 = zfi z s 3 ∧ zls (mkT s z) (s + 1) = [] ∧ zls (mkT s z) (s + 4) = [] ∧ (∀ h, zia (mkT s z) (s + 3) h = 0) ∧ zuc (mkT s z) = zuc z + 5 ∧ zus (mkT s z) = zus z + 30 := by
  have F : zFr (fun q => q = s) z (mkT s z) := by
    unfold mkT
    have f1 := zFr_slin (r := zn z) (N := 4) (zFr_snew (c := 24) (N := 3) (zFr_refl (fun q => q = s) z)) (Or.inl (Nat.le_refl _))
    have f2 := zFr_sarr (c := 50) (N := 16) (zFr_sfr (r := s) (k := 0) (x := .ref (zn z)) f1 (Or.inr rfl))
    have f3 := zFr_snew (c := 24) (N := 3) (zFr_sfr (r := s) (k := 1) (x := .ref (zn z + 1 + 1)) f2 (Or.inr rfl))
    have f4 := zFr_slin (r := zn z + 1 + 1 + 1) (N := 4) f3 (Or.inl (by omega))
    exact zFr_sfi (zFr_sfr f4 (Or.inr rfl)) (Or.inr rfl)
  refine ⟨F, ?_, ?_, ?_, ?_, ?_, ?_, ?_, ?_, ?_, ?_, ?_, ?_, ?_, ?_, rfl, rfl⟩
  · show zn z + 5 = _; omega
  all_goals unfold mkT
  all_goals simp (disch := omega) only [cls_sfi, cls_sfr, cls_slin, cls_snew, cls_sarr, fr_sfi, fr_sfr, fr_slin, fr_snew, fr_sarr, fi_sfi, fi_sfr, fi_slin, fi_snew, fi_sarr, ls_sfi, ls_sfr, ls_slin, ls_snew, ls_sarr, ia_sfi, ia_sfr, ia_slin, ia_snew, ia_sarr, len_sfi, len_sfr, len_slin, len_snew, len_sarr, n_sfi, n_sfr, n_slin, n_snew, n_sarr, hs, zu1_s, zu1_n, zu2_s, zu2_n, zu2_k, ne_eq, Nat.add_assoc, Nat.reduceAdd]
  exact fun _ => trivial
theorem wl0 : [28, 19, 32, 33, 30, 9, 26].length < 20 ∧ ∀ i, i < [28, 19, 32, 33, 30, 9, 26].length → [28, 19, 32, 33, 30, 9, 26].getD i 0 < 35 := by decide
theorem wl1 : [27, 5, 3, 8].length < 20 ∧ ∀ i, i < [27, 5, 3, 8].length → [27, 5, 3, 8].getD i 0 < 35 := by decide
theorem wl2 : [20, 16, 25].length < 20 ∧ ∀ i, i < [20, 16, 25].length → [20, 16, 25].getD i 0 < 35 := by decide
theorem wl3 : [17, 29, 7, 6, 15].length < 20 ∧ ∀ i, i < [17, 29, 7, 6, 15].length → [17, 29, 7, 6, 15].getD i 0 < 35 := by decide
/-- the reader's town -/
theorem c214t {z3 : ZH} (cR : zcls z3 R = 13) (hn3 : zn z3 = R + 5) : zFr (fun q => q = R) z3 (mkT (R + 5) (snew z3 2 5)) ∧ (zcls (mkT (R + 5) (snew z3 2 5)) R = 13 ∧ zfr (mkT (R + 5) (snew z3 2 5)) R = zfr z3 R ∧ zfi (mkT (R + 5) (snew z3 2 5)) R = zfi z3 R) ∧ (zcls (mkT (R + 5) (snew z3 2 5)) (R + 5) = 2 ∧ zfi (mkT (R + 5) (snew z3 2 5)) (R + 5) 3 = nI 0) ∧ ∀ d Q, ZC zG d 62 [.ref (R + 5)] (snew z3 2 5) Q = Q (.inl none) (mkT (R + 5) (snew z3 2 5)) := by
  have hs5 : zn (snew z3 2 5) = R + 5 + 1 := by rw [n_snew, hn3]
  obtain ⟨f4, n4, a1, a2, a3, a4, a5, a6, a7, a8, a9, a10, a11, a12, a13, u4, v4⟩ := mkT_f (z := snew z3 2 5) (s := R + 5) hs5
  have c5 : zcls (snew z3 2 5) (R + 5) = 2 := by rw [cls_snew, hn3, zu1_s]
  have f5 : zfi (snew z3 2 5) (R + 5) 3 = nI 0 := by rw [fi_snew, hn3, zu1_s]; exact nI_0.symm
  have FS : zFr (fun q => q = R) z3 (snew z3 2 5) := zFr_snew (zFr_refl _ _)
  obtain ⟨x1, x2, x3, _⟩ := f4.2 R (by omega) (by omega)
  refine ⟨⟨by omega, fun q hq hw => ?_⟩, ⟨?_, ?_, ?_⟩, ⟨by rw [a1]; exact c5, by rw [a10]; exact f5⟩, fun d Q => c62 c5 (by omega)⟩
  · obtain ⟨x1, x2, x3, x4, x5, x6, x7, x8⟩ := FS.2 q hq hw
    obtain ⟨y1, y2, y3, y4, y5, y6, y7, y8⟩ := f4.2 q (by omega) (by omega)
    exact ⟨y1.trans x1, y2.trans x2, y3.trans x3, y4.trans x4, y5.trans x5, y6.trans x6, y7.trans x7, y8.trans x8⟩
  · rw [x1, cls_snew, zu1_n _ _ _ (by omega)]; exact cR
  · rw [x3, fr_snew, zu1_n _ _ _ (by omega)]
  · rw [x2, fi_snew, zu1_n _ _ _ (by omega)]
/-- the rest of a new reader -/
theorem c214b {z3 : ZH} (cR : zcls z3 R = 13) (hn3 : zn z3 = R + 5) (h162 : 162 ≤ R) (t1 : zcls z3 127 = 52) (t2 : zlen z3 127 = 1400) (hsz : sz ≤ 1400) (hb : ∀ k, k < 1400 → zia z3 127 k = sb (b k) ∧ b k < 256) (w0 : WAr z3 (R + 1) [28, 19, 32, 33, 30, 9, 26]) (w1 : WAr z3 (R + 2) [27, 5, 3, 8]) (w2 : WAr z3 (R + 3) [20, 16, 25]) (w3 : WAr z3 (R + 4) [17, 29, 7, 6, 15]) (y0 : zfr z3 R 0 = .ref (R + 1)) (y1 : zfr z3 R 1 = .ref (R + 2)) (y2 : zfr z3 R 2 = .ref (R + 3)) (y3 : zfr z3 R 3 = .ref (R + 4))
    (H : ∀ z', zFr (fun q => q = R) z3 z' → zn z' = R + 11 → RD z' R b sz → (zcls z' (R + 5) = 2 ∧ zfr z' (R + 5) 0 = .ref (R + 6) ∧ zcls z' (R + 6) = 90 ∧ zfr z' (R + 5) 1 = .ref (R + 8) ∧ zcls z' (R + 8) = 50 ∧ zlen z' (R + 8) = 16 ∧ zfr z' (R + 5) 2 = .ref (R + 9) ∧ zcls z' (R + 9) = 90) → zfi z' (R + 5) 3 = nI 0 → zfi z' (R + 5) 4 = nI 3 → zls z' (R + 6) = [] → zls z' (R + 9) = [] → (∀ h, zia z' (R + 8) h = nI 0) → (∀ j, ¬ j = 5 → zfi z' R j = zfi z3 R j) → zuc z' = zuc z3 + 6 → zus z' = zus z3 + 35 → Q (.inl none) z') : ZW zG (d + 1) 214 133 [.ref R, .ref 127, .int (nI sz)] [] z3 Q := by
  obtain ⟨F34, ⟨cR4, fr4, fi4⟩, ⟨c45, f43⟩, k5⟩ := c214t cR hn3
  have hs5 : zn (snew z3 2 5) = R + 5 + 1 := by rw [n_snew, hn3]
  obtain ⟨_, n4, _, a2, a3, a4, a5, a6, a7, a8, a9, _, a11, a12, a13, u4, v4⟩ := mkT_f (z := snew z3 2 5) (s := R + 5) hs5
  have c5 : zcls (snew z3 2 5) (R + 5) = 2 := by rw [cls_snew, hn3, zu1_s]
  rw [uc_snew] at u4
  rw [us_snew] at v4
  generalize mkT (R + 5) (snew z3 2 5) = z4 at *
  simp (disch := omega) only [s214_133, s214_134, s214_137, s214_138, s214_141, s214_144, s214_145, s214_146, s214_149, s214_150, s214_151, s214_154, zcs_0, zcs_1, zcs_2, zcs_3, zcs_4, zcs_5, zcs_6, zcs_7, znl_i, znl_r, znl_n, Bool.and_true, Bool.true_and, zk_v, zk_n, zk_x, zir_r, zir_n, zclr_i, zclr_r, zclr_n, zclr_d, zclr_l, true_and, and_true, and_self, if_true, if_false, reduceIte, nI_add, pk_mul, zin_ok, zx_nI, nI_lt2, nI_le2, nI_eq2, nI_l0, nI_g0, nI_q0, nI_p0, nI_n0, nI_m1, Nat.add_zero, Nat.zero_add, Nat.reduceAdd, Nat.reduceMul, true_or, or_true, znar_50, bI_0, bI_1, bI_z, bft, nI_z0, nI_z1, lgc_lt, lgc_gt, lgc_le, lgc_ge, lgc_eq, not_true_eq_false, not_false_eq_true, Bool.not_eq_true, Bool.not_eq_false, reduceCtorEq, eq_self, nI_e0, nI_e1, i10, i01, decide_false, decide_true, Bool.false_eq_true, hn3, c5, k5, cls_sfr, cR4]
  have FF : zFr (fun q => q = R) z4 (sfi (sfr (sfr z4 R 6 (.ref (R + 5))) R 4 (.ref 127)) R 5 (nI sz)) := zFr_sfi (zFr_sfr (zFr_sfr (zFr_refl _ _) (Or.inr rfl)) (Or.inr rfl)) (Or.inr rfl)
  obtain ⟨p1, p2, p3, p4, p5, p6, p7, p8⟩ := F34.2 127 (by omega) (by omega)
  have hcl : zcls (sfi (sfr (sfr z4 R 6 (.ref (R + 5))) R 4 (.ref 127)) R 5 (nI sz)) = zcls z4 := by rw [cls_sfi, cls_sfr, cls_sfr]
  have hfi : zfi (sfi (sfr (sfr z4 R 6 (.ref (R + 5))) R 4 (.ref 127)) R 5 (nI sz)) = zu2 (zfi z4) R 5 (nI sz) := by rw [fi_sfi, fi_sfr, fi_sfr]
  have hfr : zfr (sfi (sfr (sfr z4 R 6 (.ref (R + 5))) R 4 (.ref 127)) R 5 (nI sz)) = zu2 (zu2 (zfr z4) R 6 (.ref (R + 5))) R 4 (.ref 127) := by rw [fr_sfi, fr_sfr, fr_sfr]
  have hia : zia (sfi (sfr (sfr z4 R 6 (.ref (R + 5))) R 4 (.ref 127)) R 5 (nI sz)) = zia z4 := by rw [ia_sfi, ia_sfr, ia_sfr]
  have hln : zlen (sfi (sfr (sfr z4 R 6 (.ref (R + 5))) R 4 (.ref 127)) R 5 (nI sz)) = zlen z4 := by rw [len_sfi, len_sfr, len_sfr]
  have hls : zls (sfi (sfr (sfr z4 R 6 (.ref (R + 5))) R 4 (.ref 127)) R 5 (nI sz)) = zls z4 := by rw [ls_sfi, ls_sfr, ls_sfr]
  have hnn : zn (sfi (sfr (sfr z4 R 6 (.ref (R + 5))) R 4 (.ref 127)) R 5 (nI sz)) = zn z4 := by rw [n_sfi, n_sfr, n_sfr]
  have huc : zuc (sfi (sfr (sfr z4 R 6 (.ref (R + 5))) R 4 (.ref 127)) R 5 (nI sz)) = zuc z4 := by rw [uc_sfi, uc_sfr, uc_sfr]
  have hus : zus (sfi (sfr (sfr z4 R 6 (.ref (R + 5))) R 4 (.ref 127)) R 5 (nI sz)) = zus z4 := by rw [us_sfi, us_sfr, us_sfr]
  generalize sfi (sfr (sfr z4 R 6 (.ref (R + 5))) R 4 (.ref 127)) R 5 (nI sz) = z' at FF hcl hfi hfr hia hln hls hnn huc hus ⊢
  have ww0 := (w0.fr F34 (by omega) (by omega)).fr FF (by omega) (by omega)
  have ww1 := (w1.fr F34 (by omega) (by omega)).fr FF (by omega) (by omega)
  have ww2 := (w2.fr F34 (by omega) (by omega)).fr FF (by omega) (by omega)
  have ww3 := (w3.fr F34 (by omega) (by omega)).fr FF (by omega) (by omega)
  have rd : RD z' R b sz := by
    refine ⟨⟨⟨by rw [hcl]; exact cR4, ?_, ?_, ?_, ?_⟩, hsz, ?_⟩, ⟨?_, ww0⟩, ⟨?_, ww1⟩, ⟨?_, ww2⟩, ⟨?_, ww3⟩, ?_⟩
    · rw [hfr, zu2_s]
    · rw [hfi, zu2_s]
    · rw [hcl, p1]; exact t1
    · rw [hln, p7]; exact t2
    · intro k hk
      rw [hia, p4]; exact hb k hk
    · rw [hfr, zu2_k _ _ _ _ (by omega), zu2_k _ _ _ _ (by omega), fr4]; exact y0
    · rw [hfr, zu2_k _ _ _ _ (by omega), zu2_k _ _ _ _ (by omega), fr4]; exact y1
    · rw [hfr, zu2_k _ _ _ _ (by omega), zu2_k _ _ _ _ (by omega), fr4]; exact y2
    · rw [hfr, zu2_k _ _ _ _ (by omega), zu2_k _ _ _ _ (by omega), fr4]; exact y3
    · rw [hfr, zu2_k _ _ _ _ (by omega), zu2_s]
  have nR : ¬ R + 5 = R := by omega
  refine H z' (zFr_trans F34 FF) (by omega) rd ⟨?_, ?_, ?_, ?_, ?_, ?_, ?_, ?_⟩ ?_ ?_ ?_ ?_ ?_ ?_ (by omega) (by omega)
  · rw [hcl]; exact c45
  · rw [hfr, zu2_n _ _ _ _ nR, zu2_n _ _ _ _ nR]; exact a2
  · rw [hcl]; exact a3
  · rw [hfr, zu2_n _ _ _ _ nR, zu2_n _ _ _ _ nR]; exact a4
  · rw [hcl]; exact a5
  · rw [hln]; exact a6
  · rw [hfr, zu2_n _ _ _ _ nR, zu2_n _ _ _ _ nR]; exact a7
  · rw [hcl]; exact a8
  · rw [hfi, zu2_n _ _ _ _ nR]; exact f43
  · rw [hfi, zu2_n _ _ _ _ nR]; exact a9
  · rw [hls]; exact a11
  · rw [hls]; exact a12
  · intro h
    rw [hia, a13 h]; exact nI_0.symm
  · intro j hj
    rw [hfi, zu2_k _ _ _ _ hj, fi4]
/-- a new reader of the text in 127 -/
theorem c214 (hq : zcls z R = 13) (hn : zn z = R + 1) (h162 : 162 ≤ R) (t1 : zcls z 127 = 52) (t2 : zlen z 127 = 1400) (hsz : sz ≤ 1400) (hb : ∀ k, k < 1400 → zia z 127 k = sb (b k) ∧ b k < 256)
    (H : ∀ z', zFr (fun q => q = R) z z' → zn z' = R + 11 → RD z' R b sz → (zcls z' (R + 5) = 2 ∧ zfr z' (R + 5) 0 = .ref (R + 6) ∧ zcls z' (R + 6) = 90 ∧ zfr z' (R + 5) 1 = .ref (R + 8) ∧ zcls z' (R + 8) = 50 ∧ zlen z' (R + 8) = 16 ∧ zfr z' (R + 5) 2 = .ref (R + 9) ∧ zcls z' (R + 9) = 90) → zfi z' (R + 5) 3 = nI 0 → zfi z' (R + 5) 4 = nI 3 → zls z' (R + 6) = [] → zls z' (R + 9) = [] → (∀ h, zia z' (R + 8) h = nI 0) → (∀ j, ¬ j = 5 → zfi z' R j = zfi z R j) → zuc z' = zuc z + 10 → zus z' = zus z + 54 → Q (.inl none) z') : ZC zG (d + 1) 214 [.ref R, .ref 127, .int (nI sz)] z Q := by
  simp (disch := omega) only [e214, s214_0, s214_1, zcs_0, zcs_1, zcs_2, zcs_3, zcs_4, zcs_5, zcs_6, zcs_7, znl_i, znl_r, znl_n, Bool.and_true, Bool.true_and, zk_v, zk_n, zk_x, zir_r, zir_n, zclr_i, zclr_r, zclr_n, zclr_d, zclr_l, true_and, and_true, and_self, if_true, if_false, reduceIte, nI_add, pk_mul, zin_ok, zx_nI, nI_lt2, nI_le2, nI_eq2, nI_l0, nI_g0, nI_q0, nI_p0, nI_n0, nI_m1, Nat.add_zero, Nat.zero_add, Nat.reduceAdd, Nat.reduceMul, true_or, or_true, znar_50, bI_0, bI_1, bI_z, bft, nI_z0, nI_z1, lgc_lt, lgc_gt, lgc_le, lgc_ge, lgc_eq, not_true_eq_false, not_false_eq_true, Bool.not_eq_true, Bool.not_eq_false, reduceCtorEq, eq_self, nI_e0, nI_e1, i10, i01, decide_false, decide_true, Bool.false_eq_true]
  have s0 := fun x1 x2 => c214_0 (d := d + 1) (z := z) (Q := Q) (R := R) (x1 := x1) (x2 := x2) hq (by omega)
  rw [s0]
  obtain ⟨f0, w0, n0, u0, v0, i0, e0, g0, c0⟩ := nwA_f (z := z) (R := R) (k := 0) (l := [28, 19, 32, 33, 30, 9, 26]) (by omega) wl0
  generalize nwA z R 0 [28, 19, 32, 33, 30, 9, 26] = z0 at *
  rw [hq] at c0
  have s1 := fun x1 x2 => c214_1 (d := d + 1) (z := z0) (Q := Q) (R := R) (x1 := x1) (x2 := x2) c0 (by omega)
  rw [s1]
  obtain ⟨f1, w1, n1, u1, v1, i1, e1, g1, c1⟩ := nwA_f (z := z0) (R := R) (k := 1) (l := [27, 5, 3, 8]) (by omega) wl1
  generalize nwA z0 R 1 [27, 5, 3, 8] = z1 at *
  rw [c0] at c1
  have s2 := fun x1 x2 => c214_2 (d := d + 1) (z := z1) (Q := Q) (R := R) (x1 := x1) (x2 := x2) c1 (by omega)
  rw [s2]
  obtain ⟨f2, w2, n2, u2, v2, i2, e2, g2, c2⟩ := nwA_f (z := z1) (R := R) (k := 2) (l := [20, 16, 25]) (by omega) wl2
  generalize nwA z1 R 2 [20, 16, 25] = z2 at *
  rw [c1] at c2
  have s3 := fun x1 x2 => c214_3 (d := d + 1) (z := z2) (Q := Q) (R := R) (x1 := x1) (x2 := x2) c2 (by omega)
  rw [s3]
  obtain ⟨f3, w3, n3, u3, v3, i3, e3, g3, c3⟩ := nwA_f (z := z2) (R := R) (k := 3) (l := [17, 29, 7, 6, 15]) (by omega) wl3
  generalize nwA z2 R 3 [17, 29, 7, 6, 15] = z3 at *
  rw [c2] at c3
  have F03 : zFr (fun q => q = R) z z3 := zFr_trans (zFr_trans (zFr_trans f0 f1) f2) f3
  obtain ⟨p1, p2, p3, p4, p5, p6, p7, p8⟩ := F03.2 127 (by omega) (by omega)
  have w0' := ((w0.fr f1 (by omega) (by omega)).fr f2 (by omega) (by omega)).fr f3 (by omega) (by omega)
  have w1' := (w1.fr f2 (by omega) (by omega)).fr f3 (by omega) (by omega)
  have w2' := w2.fr f3 (by omega) (by omega)
  have m0 : zn z0 = R + 2 := by omega
  have m1 : zn z1 = R + 3 := by omega
  have m2 : zn z2 = R + 4 := by omega
  rw [hn] at w0' e0
  rw [m0] at w1' e1
  rw [m1] at w2' e2
  rw [m2] at w3 e3
  simp only [List.length_cons, List.length_nil] at v0 v1 v2 v3
  refine c214b (d := d) c3 (by omega) h162 (by rw [p1]; exact t1) (by rw [p7]; exact t2) hsz (fun k hk => by rw [p4]; exact hb k hk) w0' w1' w2' w3 (by rw [g3 0 (by omega), g2 0 (by omega), g1 0 (by omega)]; exact e0) (by rw [g3 1 (by omega), g2 1 (by omega)]; exact e1) (by rw [g3 2 (by omega)]; exact e2) e3 (fun z' q1 q2 q3 q4 q5 q6 q7 q8 q9 q10 q11 q12 => ?_)
  exact H z' (zFr_trans F03 q1) q2 q3 q4 q5 q6 q7 q8 q9 (fun j hj => by rw [q10 j hj, i3, i2, i1, i0]) (by omega) (by omega)
/-- a ledger begins, with a town behind it -/
theorem c67g {l t r : Nat} (h1 : zcls z l = 3) (h2 : zfr z l 2 = .ref (l + 1)) (h3 : zcls z (l + 1) = 50) (h4 : zlen z (l + 1) = 16) (h5 : zfr z l 3 = .ref (l + 2)) (h6 : zcls z (l + 2) = 90) (t1 : zcls z t = 2) (t2 : zfr z t 1 = .ref (t + 3)) (t3 : zcls z (t + 3) = 50) (t4 : zlen z (t + 3) = 16) (htl : l + 4 < t) : ZC zG d 67 [.ref l, .ref t, .ref r] z Q = Q (.inl none) (bgL l t r z) := by
  unfold bgL
  have n1 : ¬ t = l := by omega
  have n2 : ¬ l = t := by omega
  have n3 : ¬ t + 3 = l + 1 := by omega
  simp (disch := omega) only [e67, s67_0, s67_1, s67_2, s67_5, s67_6, s67_7, s67_10, s67_11, s67_14, s67_15, s67_16, s67_19, s67_20, s67_22, s67_25, s67_26, s67_29, s67_34, s67_35, s67_36, s67_39, zcs_0, zcs_1, zcs_2, zcs_3, zcs_4, zcs_5, zcs_6, zcs_7, znl_i, znl_r, znl_n, Bool.and_true, Bool.true_and, zk_v, zk_n, zk_x, zir_r, zir_n, zclr_i, zclr_r, zclr_n, zclr_d, zclr_l, true_and, and_true, and_self, if_true, if_false, reduceIte, nI_add, pk_mul, zin_ok, zx_nI, nI_lt2, nI_le2, nI_eq2, nI_l0, nI_g0, nI_q0, nI_p0, nI_n0, nI_m1, Nat.add_zero, Nat.zero_add, Nat.reduceAdd, Nat.reduceMul, true_or, or_true, znar_50, bI_0, bI_1, bI_z, bft, nI_z0, nI_z1, lgc_lt, lgc_gt, lgc_le, lgc_ge, lgc_eq, not_true_eq_false, not_false_eq_true, Bool.not_eq_true, Bool.not_eq_false, reduceCtorEq, cls_sfi, fi_sfi, fr_sfi, ia_sfi, la_sfi, ra_sfi, len_sfi, ls_sfi, own_sfi, n_sfi, uc_sfi, us_sfi, cls_sfr, fi_sfr, fr_sfr, ia_sfr, la_sfr, ra_sfr, len_sfr, ls_sfr, own_sfr, n_sfr, uc_sfr, us_sfr, cls_sls, fi_sls, fr_sls, ia_sls, la_sls, ra_sls, len_sls, ls_sls, own_sls, n_sls, uc_sls, us_sls, cls_sIA, fr_sIA, len_sIA, fi_sIA, ls_sIA, h1, h2, h3, h4, h5, h6, t1, t2, t3, t4, n1, n2, n3, zu1_s, zu1_n, zu2_s, zu2_n, zu2_k, ne_eq, not_false_eq_true, true_and, Nat.le_refl]
/-- a state begins -/
def stB (s t r : Nat) (z : ZH) : ZH := sfi (sls (bgL (s + 7) t r (sfr z s 0 (.ref t))) (s + 12) []) s 3 (nI 0)
theorem c60g {s t r : Nat} (h0 : zcls z s = 1) (s1 : zfr z s 1 = .ref (s + 7)) (s2 : zfr z s 2 = .ref (s + 12)) (s3 : zcls z (s + 12) = 90) (h1 : zcls z (s + 7) = 3) (h2 : zfr z (s + 7) 2 = .ref (s + 7 + 1)) (h3 : zcls z (s + 7 + 1) = 50) (h4 : zlen z (s + 7 + 1) = 16) (h5 : zfr z (s + 7) 3 = .ref (s + 7 + 2)) (h6 : zcls z (s + 7 + 2) = 90) (t1 : zcls z t = 2) (t2 : zfr z t 1 = .ref (t + 3)) (t3 : zcls z (t + 3) = 50) (t4 : zlen z (t + 3) = 16) (t5 : zfr z t 2 = .ref r) (hst : s + 14 ≤ t) : ZC zG (d + 1) 60 [.ref s, .ref t] z Q = Q (.inl none) (stB s t r z) := by
  have n1 : ¬ t = s := by omega
  have n2 : ¬ s + 7 = s := by omega
  have key : ∀ Q : ZQ, ZC zG d 67 [.ref (s + 7), .ref t, .ref r] (sfr z s 0 (.ref t)) Q = Q (.inl none) (bgL (s + 7) t r (sfr z s 0 (.ref t))) := fun Q => by
    refine c67g ?_ ?_ ?_ ?_ ?_ ?_ ?_ ?_ ?_ ?_ (by omega)
    all_goals simp (disch := omega) only [cls_sfr, fi_sfr, fr_sfr, ia_sfr, la_sfr, ra_sfr, len_sfr, ls_sfr, own_sfr, n_sfr, uc_sfr, us_sfr, h1, h2, h3, h4, h5, h6, t1, t2, t3, t4, zu2_n, ne_eq, not_false_eq_true]
  have a1 : zcls (bgL (s + 7) t r (sfr z s 0 (.ref t))) = zcls z := rfl
  have a2 : zfr (bgL (s + 7) t r (sfr z s 0 (.ref t))) s 2 = .ref (s + 12) := by
    simp (disch := omega) only [bgL, cls_sfi, fi_sfi, fr_sfi, ia_sfi, la_sfi, ra_sfi, len_sfi, ls_sfi, own_sfi, n_sfi, uc_sfi, us_sfi, cls_sfr, fi_sfr, fr_sfr, ia_sfr, la_sfr, ra_sfr, len_sfr, ls_sfr, own_sfr, n_sfr, uc_sfr, us_sfr, cls_sls, fi_sls, fr_sls, ia_sls, la_sls, ra_sls, len_sls, ls_sls, own_sls, n_sls, uc_sls, us_sls, fr_sIA, s2, zu2_n, zu2_k, ne_eq, not_false_eq_true]
  unfold stB
  simp (disch := omega) only [e60, s60_0, s60_1, s60_2, s60_5, s60_6, s60_9, s60_10, s60_11, s60_14, s60_17, s60_18, s60_21, s60_26, s60_27, s60_28, s60_31, zcs_0, zcs_1, zcs_2, zcs_3, zcs_4, zcs_5, zcs_6, zcs_7, znl_i, znl_r, znl_n, Bool.and_true, Bool.true_and, zk_v, zk_n, zk_x, zir_r, zir_n, zclr_i, zclr_r, zclr_n, zclr_d, zclr_l, true_and, and_true, and_self, if_true, if_false, reduceIte, nI_add, pk_mul, zin_ok, zx_nI, nI_lt2, nI_le2, nI_eq2, nI_l0, nI_g0, nI_q0, nI_p0, nI_n0, nI_m1, Nat.add_zero, Nat.zero_add, Nat.reduceAdd, Nat.reduceMul, true_or, or_true, znar_50, bI_0, bI_1, bI_z, bft, nI_z0, nI_z1, lgc_lt, lgc_gt, lgc_le, lgc_ge, lgc_eq, not_true_eq_false, not_false_eq_true, Bool.not_eq_true, Bool.not_eq_false, reduceCtorEq, cls_sfi, fi_sfi, fr_sfi, ia_sfi, la_sfi, ra_sfi, len_sfi, ls_sfi, own_sfi, n_sfi, uc_sfi, us_sfi, cls_sfr, fi_sfr, fr_sfr, ia_sfr, la_sfr, ra_sfr, len_sfr, ls_sfr, own_sfr, n_sfr, uc_sfr, us_sfr, cls_sls, fi_sls, fr_sls, ia_sls, la_sls, ra_sls, len_sls, ls_sls, own_sls, n_sls, uc_sls, us_sls, key, a1, a2, h0, s1, s2, s3, h1, t1, t5, n1, n2, zu1_s, zu1_n, zu2_s, zu2_n, zu2_k, ne_eq, not_false_eq_true]
end CJ
