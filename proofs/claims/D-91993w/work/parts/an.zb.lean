set_option maxRecDepth 100000
/-! the model made -/
section AN
variable {d : Nat} {z : ZH} {Q : ZQ}
/-- a new array in a field of r -/
def nAr (z : ZH) (r K N f : Nat) : ZH := sfr (sarr z K N) r f (.ref (zn z))
def nF (z z1 : ZH) (r q K N f : Nat) : Prop := zFr (fun p => p = r) z z1 ∧ zn z1 = q + 1 ∧ (zcls z1 q = K ∧ zlen z1 q = N ∧ zia z1 q = (fun _ => 0) ∧ zla z1 q = (fun _ => 0) ∧ zra z1 q = fun _ => .null) ∧ (zcls z1 r = zcls z r ∧ zfi z1 r = zfi z r ∧ zra z1 r = zra z r) ∧ (∀ j, zfr z1 r j = if j = f then .ref q else zfr z r j) ∧ zuc z1 = zuc z + 1 ∧ zus z1 = zus z + N
theorem nAr_ok {r q K N f : Nat} (hq : zn z = q) (hr : r < q) : nF z (nAr z r K N f) r q K N f := by
  subst hq
  unfold nAr
  refine ⟨zFr_sfr (zFr_sarr (zFr_refl _ _)) (Or.inr rfl), rfl, ⟨zu1_s _ _ _, zu1_s _ _ _, zu1_s _ _ _, zu1_s _ _ _, zu1_s _ _ _⟩, ⟨zu1_n _ _ _ (by omega), rfl, zu1_n _ _ _ (by omega)⟩, fun j => ?_, rfl, rfl⟩
  rw [fr_sfr, fr_sarr]
  by_cases e : j = f
  · rw [e, zu2_s, if_pos rfl]
  · rw [zu2_k _ _ _ _ e, if_neg e]
/-- .. with four numbers -1 in it -/
def nA4 (z : ZH) (r K f : Nat) : ZH := sfr (sia (sia (sia (sia (sarr z K 4) (zn z) 0 (-1)) (zn z) 1 (-1)) (zn z) 2 (-1)) (zn z) 3 (-1)) r f (.ref (zn z))
def nF4 (z z1 : ZH) (r q K f : Nat) : Prop := zFr (fun p => p = r) z z1 ∧ zn z1 = q + 1 ∧ (zcls z1 q = K ∧ zlen z1 q = 4 ∧ ∀ j, j < 4 → zia z1 q j = -1) ∧ (zcls z1 r = zcls z r ∧ zfi z1 r = zfi z r ∧ zra z1 r = zra z r) ∧ (∀ j, zfr z1 r j = if j = f then .ref q else zfr z r j) ∧ zuc z1 = zuc z + 1 ∧ zus z1 = zus z + 4
theorem nA4_ok {r q K f : Nat} (hq : zn z = q) (hr : r < q) : nF4 z (nA4 z r K f) r q K f := by
  subst hq
  unfold nA4
  refine ⟨zFr_sfr (zFr_sia (zFr_sia (zFr_sia (zFr_sia (zFr_sarr (zFr_refl _ _)) (Or.inl (Nat.le_refl _))) (Or.inl (Nat.le_refl _))) (Or.inl (Nat.le_refl _))) (Or.inl (Nat.le_refl _))) (Or.inr rfl), rfl, ⟨zu1_s _ _ _, zu1_s _ _ _, fun j hj => ?_⟩, ⟨zu1_n _ _ _ (by omega), rfl, zu1_n _ _ _ (by omega)⟩, fun j => ?_, rfl, rfl⟩
  · simp only [ia_sfr, ia_sia]
    rcases (by omega : j = 0 ∨ j = 1 ∨ j = 2 ∨ j = 3) with rfl | rfl | rfl | rfl
    · rw [zu2_k _ _ _ _ (by omega), zu2_k _ _ _ _ (by omega), zu2_k _ _ _ _ (by omega), zu2_s]
    · rw [zu2_k _ _ _ _ (by omega), zu2_k _ _ _ _ (by omega), zu2_s]
    · rw [zu2_k _ _ _ _ (by omega), zu2_s]
    · rw [zu2_s]
  · rw [fr_sfr]
    by_cases e : j = f
    · rw [e, zu2_s, if_pos rfl]
    · rw [zu2_k _ _ _ _ e, if_neg e]; rfl
def v00 : Nat → Nat := yWd (fun _ => 0) (yG0 (fun _ => 0))
theorem v00_n {i : Nat} (h : ¬ i = 5) : v00 i = 0 := by
  unfold v00 yWd yG0
  split
  · rw [zu1_n _ _ _ (by omega)]; split <;> rfl
  · split
    · rw [zu1_n _ _ _ h]; split <;> rfl
    · rfl
theorem v00_5 : v00 5 = 3 := rfl
/-- the model's part behind its making -/
def M00 (z z' : ZH) : Prop := zFr (fun q => q = 135) z z' ∧ zn z' = 162 ∧ MR v00 (fun _ => false) (fun _ _ => 0) 0 (fun _ => 0) 0 (-1) (fun _ => false) (fun _ => 0) (fun _ => 0) (fun _ _ => 0) z' ∧ zuc z' = zuc z + 26 ∧ zus z' = zus z + 330734

def mS0 (z z1 : ZH) : Prop := zFr (fun p => p = 135) z z1 ∧ zn z1 = 141 ∧ zcls z1 135 = 12 ∧ zfi z1 135 = zfi z 135 ∧ (zcls z1 136 = 50 ∧ zlen z1 136 = 9080 ∧ zia z1 136 = fun _ => 0) ∧ (zcls z1 137 = 50 ∧ zlen z1 137 = 27240 ∧ zia z1 137 = fun _ => 0) ∧ (zcls z1 138 = 54 ∧ zlen z1 138 = 3 ∧ zia z1 138 = fun _ => 0) ∧ (zcls z1 139 = 52 ∧ zlen z1 139 = 1400 ∧ zia z1 139 = fun _ => 0) ∧ (zcls z1 140 = 50 ∧ zlen z1 140 = 5 ∧ zia z1 140 = fun _ => 0) ∧ (zfr z1 135 1 = .ref 136 ∧ zfr z1 135 2 = .ref 137 ∧ zfr z1 135 3 = .ref 138 ∧ zfr z1 135 4 = .ref 139 ∧ zfr z1 135 6 = .ref 140) ∧ (∀ j, ¬ j = 1 → ¬ j = 2 → ¬ j = 3 → ¬ j = 4 → ¬ j = 6 → zfr z1 135 j = zfr z 135 j) ∧ zuc z1 = zuc z + 5 ∧ zus z1 = zus z + 37728
theorem m112_0 (hn : zn z = 136) (hc : zcls z 135 = 12) (H : ∀ z1, mS0 z z1 → ZW zG (d + 1) 112 45 [.ref 135] [] z1 Q) : ZW zG (d + 1) 112 4 [.ref 135] [] z Q := by
  have t0 : ZW zG (d + 1) 112 4 [.ref 135] [] z Q = ZW zG (d + 1) 112 13 [.ref 135] [] (nAr z 135 50 9080 1) Q := by
    simp (disch := omega) only [s112_4, s112_5, s112_8, s112_10, nAr, zcs_0, zcs_1, zcs_2, zcs_3, zcs_4, zcs_5, zcs_6, zcs_7, znl_i, znl_r, znl_n, Bool.and_true, Bool.true_and, zk_v, zk_n, zk_x, zir_r, zir_n, zclr_i, zclr_r, zclr_n, zclr_d, zclr_l, true_and, and_true, and_self, if_true, if_false, reduceIte, nI_add, pk_mul, zin_ok, zx_nI, nI_lt2, nI_le2, nI_eq2, nI_l0, nI_g0, nI_q0, nI_p0, nI_n0, nI_m1, Nat.add_zero, Nat.zero_add, Nat.reduceAdd, Nat.reduceMul, true_or, or_true, znar_50, bI_0, bI_1, bI_z, bft, nI_z0, nI_z1, lgc_lt, lgc_gt, lgc_le, lgc_ge, lgc_eq, not_true_eq_false, not_false_eq_true, Bool.not_eq_true, Bool.not_eq_false, reduceCtorEq, cls_sarr, len_sarr, cls_sia, len_sia, zu1_s, zu1_n, ne_eq, hc, znar_50]
  refine Eq.mpr t0 ?_
  clear t0
  have f0 := nAr_ok (z := z) (r := 135) (q := 136) (K := 50) (N := 9080) (f := 1) hn (by omega)
  generalize nAr z 135 50 9080 1 = y1 at f0 ⊢
  have n1 : zn y1 = 137 := f0.2.1
  have c1 : zcls y1 135 = 12 := f0.2.2.2.1.1.trans hc
  have t1 : ZW zG (d + 1) 112 13 [.ref 135] [] y1 Q = ZW zG (d + 1) 112 22 [.ref 135] [] (nAr y1 135 50 27240 2) Q := by
    simp (disch := omega) only [s112_13, s112_14, s112_17, s112_19, nAr, zcs_0, zcs_1, zcs_2, zcs_3, zcs_4, zcs_5, zcs_6, zcs_7, znl_i, znl_r, znl_n, Bool.and_true, Bool.true_and, zk_v, zk_n, zk_x, zir_r, zir_n, zclr_i, zclr_r, zclr_n, zclr_d, zclr_l, true_and, and_true, and_self, if_true, if_false, reduceIte, nI_add, pk_mul, zin_ok, zx_nI, nI_lt2, nI_le2, nI_eq2, nI_l0, nI_g0, nI_q0, nI_p0, nI_n0, nI_m1, Nat.add_zero, Nat.zero_add, Nat.reduceAdd, Nat.reduceMul, true_or, or_true, znar_50, bI_0, bI_1, bI_z, bft, nI_z0, nI_z1, lgc_lt, lgc_gt, lgc_le, lgc_ge, lgc_eq, not_true_eq_false, not_false_eq_true, Bool.not_eq_true, Bool.not_eq_false, reduceCtorEq, cls_sarr, len_sarr, cls_sia, len_sia, zu1_s, zu1_n, ne_eq, c1, znar_50]
  refine Eq.mpr t1 ?_
  clear t1
  have f1 := nAr_ok (z := y1) (r := 135) (q := 137) (K := 50) (N := 27240) (f := 2) n1 (by omega)
  generalize nAr y1 135 50 27240 2 = y2 at f1 ⊢
  have n2 : zn y2 = 138 := f1.2.1
  have c2 : zcls y2 135 = 12 := f1.2.2.2.1.1.trans c1
  have t2 : ZW zG (d + 1) 112 22 [.ref 135] [] y2 Q = ZW zG (d + 1) 112 29 [.ref 135] [] (nAr y2 135 54 3 3) Q := by
    simp (disch := omega) only [s112_22, s112_23, s112_24, s112_26, nAr, zcs_0, zcs_1, zcs_2, zcs_3, zcs_4, zcs_5, zcs_6, zcs_7, znl_i, znl_r, znl_n, Bool.and_true, Bool.true_and, zk_v, zk_n, zk_x, zir_r, zir_n, zclr_i, zclr_r, zclr_n, zclr_d, zclr_l, true_and, and_true, and_self, if_true, if_false, reduceIte, nI_add, pk_mul, zin_ok, zx_nI, nI_lt2, nI_le2, nI_eq2, nI_l0, nI_g0, nI_q0, nI_p0, nI_n0, nI_m1, Nat.add_zero, Nat.zero_add, Nat.reduceAdd, Nat.reduceMul, true_or, or_true, znar_50, bI_0, bI_1, bI_z, bft, nI_z0, nI_z1, lgc_lt, lgc_gt, lgc_le, lgc_ge, lgc_eq, not_true_eq_false, not_false_eq_true, Bool.not_eq_true, Bool.not_eq_false, reduceCtorEq, cls_sarr, len_sarr, cls_sia, len_sia, zu1_s, zu1_n, ne_eq, c2, znar_50]
  refine Eq.mpr t2 ?_
  clear t2
  have f2 := nAr_ok (z := y2) (r := 135) (q := 138) (K := 54) (N := 3) (f := 3) n2 (by omega)
  generalize nAr y2 135 54 3 3 = y3 at f2 ⊢
  have n3 : zn y3 = 139 := f2.2.1
  have c3 : zcls y3 135 = 12 := f2.2.2.2.1.1.trans c2
  have t3 : ZW zG (d + 1) 112 29 [.ref 135] [] y3 Q = ZW zG (d + 1) 112 38 [.ref 135] [] (nAr y3 135 52 1400 4) Q := by
    simp (disch := omega) only [s112_29, s112_30, s112_33, s112_35, nAr, zcs_0, zcs_1, zcs_2, zcs_3, zcs_4, zcs_5, zcs_6, zcs_7, znl_i, znl_r, znl_n, Bool.and_true, Bool.true_and, zk_v, zk_n, zk_x, zir_r, zir_n, zclr_i, zclr_r, zclr_n, zclr_d, zclr_l, true_and, and_true, and_self, if_true, if_false, reduceIte, nI_add, pk_mul, zin_ok, zx_nI, nI_lt2, nI_le2, nI_eq2, nI_l0, nI_g0, nI_q0, nI_p0, nI_n0, nI_m1, Nat.add_zero, Nat.zero_add, Nat.reduceAdd, Nat.reduceMul, true_or, or_true, znar_50, bI_0, bI_1, bI_z, bft, nI_z0, nI_z1, lgc_lt, lgc_gt, lgc_le, lgc_ge, lgc_eq, not_true_eq_false, not_false_eq_true, Bool.not_eq_true, Bool.not_eq_false, reduceCtorEq, cls_sarr, len_sarr, cls_sia, len_sia, zu1_s, zu1_n, ne_eq, c3, znar_50]
  refine Eq.mpr t3 ?_
  clear t3
  have f3 := nAr_ok (z := y3) (r := 135) (q := 139) (K := 52) (N := 1400) (f := 4) n3 (by omega)
  generalize nAr y3 135 52 1400 4 = y4 at f3 ⊢
  have n4 : zn y4 = 140 := f3.2.1
  have c4 : zcls y4 135 = 12 := f3.2.2.2.1.1.trans c3
  have t4 : ZW zG (d + 1) 112 38 [.ref 135] [] y4 Q = ZW zG (d + 1) 112 45 [.ref 135] [] (nAr y4 135 50 5 6) Q := by
    simp (disch := omega) only [s112_38, s112_39, s112_40, s112_42, nAr, zcs_0, zcs_1, zcs_2, zcs_3, zcs_4, zcs_5, zcs_6, zcs_7, znl_i, znl_r, znl_n, Bool.and_true, Bool.true_and, zk_v, zk_n, zk_x, zir_r, zir_n, zclr_i, zclr_r, zclr_n, zclr_d, zclr_l, true_and, and_true, and_self, if_true, if_false, reduceIte, nI_add, pk_mul, zin_ok, zx_nI, nI_lt2, nI_le2, nI_eq2, nI_l0, nI_g0, nI_q0, nI_p0, nI_n0, nI_m1, Nat.add_zero, Nat.zero_add, Nat.reduceAdd, Nat.reduceMul, true_or, or_true, znar_50, bI_0, bI_1, bI_z, bft, nI_z0, nI_z1, lgc_lt, lgc_gt, lgc_le, lgc_ge, lgc_eq, not_true_eq_false, not_false_eq_true, Bool.not_eq_true, Bool.not_eq_false, reduceCtorEq, cls_sarr, len_sarr, cls_sia, len_sia, zu1_s, zu1_n, ne_eq, c4, znar_50]
  refine Eq.mpr t4 ?_
  clear t4
  have f4 := nAr_ok (z := y4) (r := 135) (q := 140) (K := 50) (N := 5) (f := 6) n4 (by omega)
  generalize nAr y4 135 50 5 6 = y5 at f4 ⊢
  have n5 : zn y5 = 141 := f4.2.1
  have c5 : zcls y5 135 = 12 := f4.2.2.2.1.1.trans c4
  have G5 : zFr (fun p => p = 135) y5 y5 := zFr_refl _ _
  have G4 : zFr (fun p => p = 135) y4 y5 := zFr_trans f4.1 G5
  have G3 : zFr (fun p => p = 135) y3 y5 := zFr_trans f3.1 G4
  have G2 : zFr (fun p => p = 135) y2 y5 := zFr_trans f2.1 G3
  have G1 : zFr (fun p => p = 135) y1 y5 := zFr_trans f1.1 G2
  have G0 : zFr (fun p => p = 135) z y5 := zFr_trans f0.1 G1
  exact H _ ⟨G0, n5, c5, by simp only [f4.2.2.2.1.2.1, f3.2.2.2.1.2.1, f2.2.2.2.1.2.1, f1.2.2.2.1.2.1, f0.2.2.2.1.2.1], ⟨(G1.2 136 (by omega) (by omega)).1.trans f0.2.2.1.1, (G1.2 136 (by omega) (by omega)).2.2.2.2.2.2.1.trans f0.2.2.1.2.1, (G1.2 136 (by omega) (by omega)).2.2.2.1.trans f0.2.2.1.2.2.1⟩, ⟨(G2.2 137 (by omega) (by omega)).1.trans f1.2.2.1.1, (G2.2 137 (by omega) (by omega)).2.2.2.2.2.2.1.trans f1.2.2.1.2.1, (G2.2 137 (by omega) (by omega)).2.2.2.1.trans f1.2.2.1.2.2.1⟩, ⟨(G3.2 138 (by omega) (by omega)).1.trans f2.2.2.1.1, (G3.2 138 (by omega) (by omega)).2.2.2.2.2.2.1.trans f2.2.2.1.2.1, (G3.2 138 (by omega) (by omega)).2.2.2.1.trans f2.2.2.1.2.2.1⟩, ⟨(G4.2 139 (by omega) (by omega)).1.trans f3.2.2.1.1, (G4.2 139 (by omega) (by omega)).2.2.2.2.2.2.1.trans f3.2.2.1.2.1, (G4.2 139 (by omega) (by omega)).2.2.2.1.trans f3.2.2.1.2.2.1⟩, ⟨(G5.2 140 (by omega) (by omega)).1.trans f4.2.2.1.1, (G5.2 140 (by omega) (by omega)).2.2.2.2.2.2.1.trans f4.2.2.1.2.1, (G5.2 140 (by omega) (by omega)).2.2.2.1.trans f4.2.2.1.2.2.1⟩, ⟨by simp only [f4.2.2.2.2.1, f3.2.2.2.2.1, f2.2.2.2.2.1, f1.2.2.2.2.1, f0.2.2.2.2.1, Nat.reduceEqDiff, if_false, if_true, reduceIte, eq_self], by simp only [f4.2.2.2.2.1, f3.2.2.2.2.1, f2.2.2.2.2.1, f1.2.2.2.2.1, f0.2.2.2.2.1, Nat.reduceEqDiff, if_false, if_true, reduceIte, eq_self], by simp only [f4.2.2.2.2.1, f3.2.2.2.2.1, f2.2.2.2.2.1, f1.2.2.2.2.1, f0.2.2.2.2.1, Nat.reduceEqDiff, if_false, if_true, reduceIte, eq_self], by simp only [f4.2.2.2.2.1, f3.2.2.2.2.1, f2.2.2.2.2.1, f1.2.2.2.2.1, f0.2.2.2.2.1, Nat.reduceEqDiff, if_false, if_true, reduceIte, eq_self], by simp only [f4.2.2.2.2.1, f3.2.2.2.2.1, f2.2.2.2.2.1, f1.2.2.2.2.1, f0.2.2.2.2.1, Nat.reduceEqDiff, if_false, if_true, reduceIte, eq_self]⟩, fun j h1 h2 h3 h4 h6 => by simp only [f4.2.2.2.2.1, f3.2.2.2.2.1, f2.2.2.2.2.1, f1.2.2.2.2.1, f0.2.2.2.2.1, h1, h2, h3, h4, h6, if_false], by simp only [f4.2.2.2.2.2.1, f3.2.2.2.2.2.1, f2.2.2.2.2.2.1, f1.2.2.2.2.2.1, f0.2.2.2.2.2.1, Nat.add_assoc, Nat.reduceAdd], by simp only [f4.2.2.2.2.2.2, f3.2.2.2.2.2.2, f2.2.2.2.2.2.2, f1.2.2.2.2.2.2, f0.2.2.2.2.2.2, Nat.add_assoc, Nat.reduceAdd]⟩
def mS1 (z z1 : ZH) : Prop := zFr (fun p => p = 135) z z1 ∧ zn z1 = 146 ∧ zcls z1 135 = 12 ∧ (∀ j, zfi z1 135 j = if j = 13 then -1 else zfi z 135 j) ∧ (zcls z1 141 = 50 ∧ zlen z1 141 = 9080 ∧ zia z1 141 = fun _ => 0) ∧ (zcls z1 142 = 50 ∧ zlen z1 142 = 6 ∧ zia z1 142 = fun _ => 0) ∧ (zcls z1 143 = 50 ∧ zlen z1 143 = 16 ∧ zia z1 143 = fun _ => 0) ∧ (zcls z1 144 = 50 ∧ zlen z1 144 = 16 ∧ zia z1 144 = fun _ => 0) ∧ (zcls z1 145 = 54 ∧ zlen z1 145 = 16 ∧ zia z1 145 = fun _ => 0) ∧ (zfr z1 135 14 = .ref 141 ∧ zfr z1 135 15 = .ref 142 ∧ zfr z1 135 16 = .ref 143 ∧ zfr z1 135 18 = .ref 144 ∧ zfr z1 135 19 = .ref 145) ∧ (∀ j, ¬ j = 14 → ¬ j = 15 → ¬ j = 16 → ¬ j = 18 → ¬ j = 19 → zfr z1 135 j = zfr z 135 j) ∧ zuc z1 = zuc z + 5 ∧ zus z1 = zus z + 9134
theorem m112_1 (hn : zn z = 141) (hc : zcls z 135 = 12) (H : ∀ z1, mS1 z z1 → ZW zG (d + 1) 112 91 [.ref 135] [] z1 Q) : ZW zG (d + 1) 112 45 [.ref 135] [] z Q := by
  have tI : ZW zG (d + 1) 112 45 [.ref 135] [] z Q = ZW zG (d + 1) 112 50 [.ref 135] [] (sfi z 135 13 (-1)) Q := by
    simp (disch := omega) only [s112_45, s112_46, s112_47, zcs_0, zcs_1, zcs_2, zcs_3, zcs_4, zcs_5, zcs_6, zcs_7, znl_i, znl_r, znl_n, Bool.and_true, Bool.true_and, zk_v, zk_n, zk_x, zir_r, zir_n, zclr_i, zclr_r, zclr_n, zclr_d, zclr_l, true_and, and_true, and_self, if_true, if_false, reduceIte, nI_add, pk_mul, zin_ok, zx_nI, nI_lt2, nI_le2, nI_eq2, nI_l0, nI_g0, nI_q0, nI_p0, nI_n0, nI_m1, Nat.add_zero, Nat.zero_add, Nat.reduceAdd, Nat.reduceMul, true_or, or_true, znar_50, bI_0, bI_1, bI_z, bft, nI_z0, nI_z1, lgc_lt, lgc_gt, lgc_le, lgc_ge, lgc_eq, not_true_eq_false, not_false_eq_true, Bool.not_eq_true, Bool.not_eq_false, reduceCtorEq, hc]
  refine Eq.mpr tI ?_
  clear tI
  have fI : zFr (fun p => p = 135) z (sfi z 135 13 (-1)) ∧ zn (sfi z 135 13 (-1)) = zn z ∧ zcls (sfi z 135 13 (-1)) 135 = zcls z 135 ∧ (∀ j, zfi (sfi z 135 13 (-1)) 135 j = if j = 13 then -1 else zfi z 135 j) ∧ zfr (sfi z 135 13 (-1)) = zfr z ∧ zuc (sfi z 135 13 (-1)) = zuc z ∧ zus (sfi z 135 13 (-1)) = zus z := ⟨zFr_sfi (zFr_refl _ _) (Or.inr rfl), rfl, rfl, fun j => by
    rw [fi_sfi]
    by_cases e : j = 13
    · rw [e, zu2_s, if_pos rfl]
    · rw [zu2_k _ _ _ _ e, if_neg e], rfl, rfl, rfl⟩
  generalize sfi z 135 13 (-1) = zI at fI ⊢
  have nI' : zn zI = 141 := fI.2.1.trans hn
  have cI : zcls zI 135 = 12 := fI.2.2.1.trans hc
  have t5 : ZW zG (d + 1) 112 50 [.ref 135] [] zI Q = ZW zG (d + 1) 112 59 [.ref 135] [] (nAr zI 135 50 9080 14) Q := by
    simp (disch := omega) only [s112_50, s112_51, s112_54, s112_56, nAr, zcs_0, zcs_1, zcs_2, zcs_3, zcs_4, zcs_5, zcs_6, zcs_7, znl_i, znl_r, znl_n, Bool.and_true, Bool.true_and, zk_v, zk_n, zk_x, zir_r, zir_n, zclr_i, zclr_r, zclr_n, zclr_d, zclr_l, true_and, and_true, and_self, if_true, if_false, reduceIte, nI_add, pk_mul, zin_ok, zx_nI, nI_lt2, nI_le2, nI_eq2, nI_l0, nI_g0, nI_q0, nI_p0, nI_n0, nI_m1, Nat.add_zero, Nat.zero_add, Nat.reduceAdd, Nat.reduceMul, true_or, or_true, znar_50, bI_0, bI_1, bI_z, bft, nI_z0, nI_z1, lgc_lt, lgc_gt, lgc_le, lgc_ge, lgc_eq, not_true_eq_false, not_false_eq_true, Bool.not_eq_true, Bool.not_eq_false, reduceCtorEq, cls_sarr, len_sarr, cls_sia, len_sia, zu1_s, zu1_n, ne_eq, cI, znar_50]
  refine Eq.mpr t5 ?_
  clear t5
  have f5 := nAr_ok (z := zI) (r := 135) (q := 141) (K := 50) (N := 9080) (f := 14) nI' (by omega)
  generalize nAr zI 135 50 9080 14 = y6 at f5 ⊢
  have n6 : zn y6 = 142 := f5.2.1
  have c6 : zcls y6 135 = 12 := f5.2.2.2.1.1.trans cI
  have t6 : ZW zG (d + 1) 112 59 [.ref 135] [] y6 Q = ZW zG (d + 1) 112 67 [.ref 135] [] (nAr y6 135 50 6 15) Q := by
    simp (disch := omega) only [s112_59, s112_60, s112_62, s112_64, nAr, zcs_0, zcs_1, zcs_2, zcs_3, zcs_4, zcs_5, zcs_6, zcs_7, znl_i, znl_r, znl_n, Bool.and_true, Bool.true_and, zk_v, zk_n, zk_x, zir_r, zir_n, zclr_i, zclr_r, zclr_n, zclr_d, zclr_l, true_and, and_true, and_self, if_true, if_false, reduceIte, nI_add, pk_mul, zin_ok, zx_nI, nI_lt2, nI_le2, nI_eq2, nI_l0, nI_g0, nI_q0, nI_p0, nI_n0, nI_m1, Nat.add_zero, Nat.zero_add, Nat.reduceAdd, Nat.reduceMul, true_or, or_true, znar_50, bI_0, bI_1, bI_z, bft, nI_z0, nI_z1, lgc_lt, lgc_gt, lgc_le, lgc_ge, lgc_eq, not_true_eq_false, not_false_eq_true, Bool.not_eq_true, Bool.not_eq_false, reduceCtorEq, cls_sarr, len_sarr, cls_sia, len_sia, zu1_s, zu1_n, ne_eq, c6, znar_50]
  refine Eq.mpr t6 ?_
  clear t6
  have f6 := nAr_ok (z := y6) (r := 135) (q := 142) (K := 50) (N := 6) (f := 15) n6 (by omega)
  generalize nAr y6 135 50 6 15 = y7 at f6 ⊢
  have n7 : zn y7 = 143 := f6.2.1
  have c7 : zcls y7 135 = 12 := f6.2.2.2.1.1.trans c6
  have t7 : ZW zG (d + 1) 112 67 [.ref 135] [] y7 Q = ZW zG (d + 1) 112 75 [.ref 135] [] (nAr y7 135 50 16 16) Q := by
    simp (disch := omega) only [s112_67, s112_68, s112_70, s112_72, nAr, zcs_0, zcs_1, zcs_2, zcs_3, zcs_4, zcs_5, zcs_6, zcs_7, znl_i, znl_r, znl_n, Bool.and_true, Bool.true_and, zk_v, zk_n, zk_x, zir_r, zir_n, zclr_i, zclr_r, zclr_n, zclr_d, zclr_l, true_and, and_true, and_self, if_true, if_false, reduceIte, nI_add, pk_mul, zin_ok, zx_nI, nI_lt2, nI_le2, nI_eq2, nI_l0, nI_g0, nI_q0, nI_p0, nI_n0, nI_m1, Nat.add_zero, Nat.zero_add, Nat.reduceAdd, Nat.reduceMul, true_or, or_true, znar_50, bI_0, bI_1, bI_z, bft, nI_z0, nI_z1, lgc_lt, lgc_gt, lgc_le, lgc_ge, lgc_eq, not_true_eq_false, not_false_eq_true, Bool.not_eq_true, Bool.not_eq_false, reduceCtorEq, cls_sarr, len_sarr, cls_sia, len_sia, zu1_s, zu1_n, ne_eq, c7, znar_50]
  refine Eq.mpr t7 ?_
  clear t7
  have f7 := nAr_ok (z := y7) (r := 135) (q := 143) (K := 50) (N := 16) (f := 16) n7 (by omega)
  generalize nAr y7 135 50 16 16 = y8 at f7 ⊢
  have n8 : zn y8 = 144 := f7.2.1
  have c8 : zcls y8 135 = 12 := f7.2.2.2.1.1.trans c7
  have t8 : ZW zG (d + 1) 112 75 [.ref 135] [] y8 Q = ZW zG (d + 1) 112 83 [.ref 135] [] (nAr y8 135 50 16 18) Q := by
    simp (disch := omega) only [s112_75, s112_76, s112_78, s112_80, nAr, zcs_0, zcs_1, zcs_2, zcs_3, zcs_4, zcs_5, zcs_6, zcs_7, znl_i, znl_r, znl_n, Bool.and_true, Bool.true_and, zk_v, zk_n, zk_x, zir_r, zir_n, zclr_i, zclr_r, zclr_n, zclr_d, zclr_l, true_and, and_true, and_self, if_true, if_false, reduceIte, nI_add, pk_mul, zin_ok, zx_nI, nI_lt2, nI_le2, nI_eq2, nI_l0, nI_g0, nI_q0, nI_p0, nI_n0, nI_m1, Nat.add_zero, Nat.zero_add, Nat.reduceAdd, Nat.reduceMul, true_or, or_true, znar_50, bI_0, bI_1, bI_z, bft, nI_z0, nI_z1, lgc_lt, lgc_gt, lgc_le, lgc_ge, lgc_eq, not_true_eq_false, not_false_eq_true, Bool.not_eq_true, Bool.not_eq_false, reduceCtorEq, cls_sarr, len_sarr, cls_sia, len_sia, zu1_s, zu1_n, ne_eq, c8, znar_50]
  refine Eq.mpr t8 ?_
  clear t8
  have f8 := nAr_ok (z := y8) (r := 135) (q := 144) (K := 50) (N := 16) (f := 18) n8 (by omega)
  generalize nAr y8 135 50 16 18 = y9 at f8 ⊢
  have n9 : zn y9 = 145 := f8.2.1
  have c9 : zcls y9 135 = 12 := f8.2.2.2.1.1.trans c8
  have t9 : ZW zG (d + 1) 112 83 [.ref 135] [] y9 Q = ZW zG (d + 1) 112 91 [.ref 135] [] (nAr y9 135 54 16 19) Q := by
    simp (disch := omega) only [s112_83, s112_84, s112_86, s112_88, nAr, zcs_0, zcs_1, zcs_2, zcs_3, zcs_4, zcs_5, zcs_6, zcs_7, znl_i, znl_r, znl_n, Bool.and_true, Bool.true_and, zk_v, zk_n, zk_x, zir_r, zir_n, zclr_i, zclr_r, zclr_n, zclr_d, zclr_l, true_and, and_true, and_self, if_true, if_false, reduceIte, nI_add, pk_mul, zin_ok, zx_nI, nI_lt2, nI_le2, nI_eq2, nI_l0, nI_g0, nI_q0, nI_p0, nI_n0, nI_m1, Nat.add_zero, Nat.zero_add, Nat.reduceAdd, Nat.reduceMul, true_or, or_true, znar_50, bI_0, bI_1, bI_z, bft, nI_z0, nI_z1, lgc_lt, lgc_gt, lgc_le, lgc_ge, lgc_eq, not_true_eq_false, not_false_eq_true, Bool.not_eq_true, Bool.not_eq_false, reduceCtorEq, cls_sarr, len_sarr, cls_sia, len_sia, zu1_s, zu1_n, ne_eq, c9, znar_50]
  refine Eq.mpr t9 ?_
  clear t9
  have f9 := nAr_ok (z := y9) (r := 135) (q := 145) (K := 54) (N := 16) (f := 19) n9 (by omega)
  generalize nAr y9 135 54 16 19 = y10 at f9 ⊢
  have n10 : zn y10 = 146 := f9.2.1
  have c10 : zcls y10 135 = 12 := f9.2.2.2.1.1.trans c9
  have G6 : zFr (fun p => p = 135) y10 y10 := zFr_refl _ _
  have G5 : zFr (fun p => p = 135) y9 y10 := zFr_trans f9.1 G6
  have G4 : zFr (fun p => p = 135) y8 y10 := zFr_trans f8.1 G5
  have G3 : zFr (fun p => p = 135) y7 y10 := zFr_trans f7.1 G4
  have G2 : zFr (fun p => p = 135) y6 y10 := zFr_trans f6.1 G3
  have G1 : zFr (fun p => p = 135) zI y10 := zFr_trans f5.1 G2
  have G0 : zFr (fun p => p = 135) z y10 := zFr_trans fI.1 G1
  exact H _ ⟨G0, n10, c10, fun j => by simp only [f9.2.2.2.1.2.1, f8.2.2.2.1.2.1, f7.2.2.2.1.2.1, f6.2.2.2.1.2.1, f5.2.2.2.1.2.1, fI.2.2.2.1], ⟨(G2.2 141 (by omega) (by omega)).1.trans f5.2.2.1.1, (G2.2 141 (by omega) (by omega)).2.2.2.2.2.2.1.trans f5.2.2.1.2.1, (G2.2 141 (by omega) (by omega)).2.2.2.1.trans f5.2.2.1.2.2.1⟩, ⟨(G3.2 142 (by omega) (by omega)).1.trans f6.2.2.1.1, (G3.2 142 (by omega) (by omega)).2.2.2.2.2.2.1.trans f6.2.2.1.2.1, (G3.2 142 (by omega) (by omega)).2.2.2.1.trans f6.2.2.1.2.2.1⟩, ⟨(G4.2 143 (by omega) (by omega)).1.trans f7.2.2.1.1, (G4.2 143 (by omega) (by omega)).2.2.2.2.2.2.1.trans f7.2.2.1.2.1, (G4.2 143 (by omega) (by omega)).2.2.2.1.trans f7.2.2.1.2.2.1⟩, ⟨(G5.2 144 (by omega) (by omega)).1.trans f8.2.2.1.1, (G5.2 144 (by omega) (by omega)).2.2.2.2.2.2.1.trans f8.2.2.1.2.1, (G5.2 144 (by omega) (by omega)).2.2.2.1.trans f8.2.2.1.2.2.1⟩, ⟨(G6.2 145 (by omega) (by omega)).1.trans f9.2.2.1.1, (G6.2 145 (by omega) (by omega)).2.2.2.2.2.2.1.trans f9.2.2.1.2.1, (G6.2 145 (by omega) (by omega)).2.2.2.1.trans f9.2.2.1.2.2.1⟩, ⟨by simp only [f9.2.2.2.2.1, f8.2.2.2.2.1, f7.2.2.2.2.1, f6.2.2.2.2.1, f5.2.2.2.2.1, fI.2.2.2.2.1, Nat.reduceEqDiff, if_false, if_true, reduceIte, eq_self], by simp only [f9.2.2.2.2.1, f8.2.2.2.2.1, f7.2.2.2.2.1, f6.2.2.2.2.1, f5.2.2.2.2.1, fI.2.2.2.2.1, Nat.reduceEqDiff, if_false, if_true, reduceIte, eq_self], by simp only [f9.2.2.2.2.1, f8.2.2.2.2.1, f7.2.2.2.2.1, f6.2.2.2.2.1, f5.2.2.2.2.1, fI.2.2.2.2.1, Nat.reduceEqDiff, if_false, if_true, reduceIte, eq_self], by simp only [f9.2.2.2.2.1, f8.2.2.2.2.1, f7.2.2.2.2.1, f6.2.2.2.2.1, f5.2.2.2.2.1, fI.2.2.2.2.1, Nat.reduceEqDiff, if_false, if_true, reduceIte, eq_self], by simp only [f9.2.2.2.2.1, f8.2.2.2.2.1, f7.2.2.2.2.1, f6.2.2.2.2.1, f5.2.2.2.2.1, fI.2.2.2.2.1, Nat.reduceEqDiff, if_false, if_true, reduceIte, eq_self]⟩, fun j h14 h15 h16 h18 h19 => by simp only [f9.2.2.2.2.1, f8.2.2.2.2.1, f7.2.2.2.2.1, f6.2.2.2.2.1, f5.2.2.2.2.1, fI.2.2.2.2.1, h14, h15, h16, h18, h19, if_false], by simp only [f9.2.2.2.2.2.1, f8.2.2.2.2.2.1, f7.2.2.2.2.2.1, f6.2.2.2.2.2.1, f5.2.2.2.2.2.1, fI.2.2.2.2.2.1, Nat.add_assoc, Nat.reduceAdd], by simp only [f9.2.2.2.2.2.2, f8.2.2.2.2.2.2, f7.2.2.2.2.2.2, f6.2.2.2.2.2.2, f5.2.2.2.2.2.2, fI.2.2.2.2.2.2, Nat.add_assoc, Nat.reduceAdd]⟩
def mS2 (z z1 : ZH) : Prop := zFr (fun p => p = 135) z z1 ∧ zn z1 = 151 ∧ zcls z1 135 = 12 ∧ zfi z1 135 = zfi z 135 ∧ (zcls z1 146 = 50 ∧ zlen z1 146 = 10240 ∧ zia z1 146 = fun _ => 0) ∧ (zcls z1 147 = 50 ∧ zlen z1 147 = 10 ∧ zia z1 147 = fun _ => 0) ∧ (zcls z1 148 = 50 ∧ zlen z1 148 = 10 ∧ zia z1 148 = fun _ => 0) ∧ (zcls z1 149 = 50 ∧ zlen z1 149 = 1024 ∧ zia z1 149 = fun _ => 0) ∧ (zcls z1 150 = 50 ∧ zlen z1 150 = 1024 ∧ zia z1 150 = fun _ => 0) ∧ (zfr z1 135 20 = .ref 146 ∧ zfr z1 135 24 = .ref 147 ∧ zfr z1 135 25 = .ref 148 ∧ zfr z1 135 27 = .ref 149 ∧ zfr z1 135 28 = .ref 150) ∧ (∀ j, ¬ j = 20 → ¬ j = 24 → ¬ j = 25 → ¬ j = 27 → ¬ j = 28 → zfr z1 135 j = zfr z 135 j) ∧ zuc z1 = zuc z + 5 ∧ zus z1 = zus z + 12308
theorem m112_2 (hn : zn z = 146) (hc : zcls z 135 = 12) (H : ∀ z1, mS2 z z1 → ZW zG (d + 1) 112 134 [.ref 135] [] z1 Q) : ZW zG (d + 1) 112 91 [.ref 135] [] z Q := by
  have t10 : ZW zG (d + 1) 112 91 [.ref 135] [] z Q = ZW zG (d + 1) 112 100 [.ref 135] [] (nAr z 135 50 10240 20) Q := by
    simp (disch := omega) only [s112_91, s112_92, s112_95, s112_97, nAr, zcs_0, zcs_1, zcs_2, zcs_3, zcs_4, zcs_5, zcs_6, zcs_7, znl_i, znl_r, znl_n, Bool.and_true, Bool.true_and, zk_v, zk_n, zk_x, zir_r, zir_n, zclr_i, zclr_r, zclr_n, zclr_d, zclr_l, true_and, and_true, and_self, if_true, if_false, reduceIte, nI_add, pk_mul, zin_ok, zx_nI, nI_lt2, nI_le2, nI_eq2, nI_l0, nI_g0, nI_q0, nI_p0, nI_n0, nI_m1, Nat.add_zero, Nat.zero_add, Nat.reduceAdd, Nat.reduceMul, true_or, or_true, znar_50, bI_0, bI_1, bI_z, bft, nI_z0, nI_z1, lgc_lt, lgc_gt, lgc_le, lgc_ge, lgc_eq, not_true_eq_false, not_false_eq_true, Bool.not_eq_true, Bool.not_eq_false, reduceCtorEq, cls_sarr, len_sarr, cls_sia, len_sia, zu1_s, zu1_n, ne_eq, hc, znar_50]
  refine Eq.mpr t10 ?_
  clear t10
  have f10 := nAr_ok (z := z) (r := 135) (q := 146) (K := 50) (N := 10240) (f := 20) hn (by omega)
  generalize nAr z 135 50 10240 20 = y11 at f10 ⊢
  have n11 : zn y11 = 147 := f10.2.1
  have c11 : zcls y11 135 = 12 := f10.2.2.2.1.1.trans hc
  have t11 : ZW zG (d + 1) 112 100 [.ref 135] [] y11 Q = ZW zG (d + 1) 112 108 [.ref 135] [] (nAr y11 135 50 10 24) Q := by
    simp (disch := omega) only [s112_100, s112_101, s112_103, s112_105, nAr, zcs_0, zcs_1, zcs_2, zcs_3, zcs_4, zcs_5, zcs_6, zcs_7, znl_i, znl_r, znl_n, Bool.and_true, Bool.true_and, zk_v, zk_n, zk_x, zir_r, zir_n, zclr_i, zclr_r, zclr_n, zclr_d, zclr_l, true_and, and_true, and_self, if_true, if_false, reduceIte, nI_add, pk_mul, zin_ok, zx_nI, nI_lt2, nI_le2, nI_eq2, nI_l0, nI_g0, nI_q0, nI_p0, nI_n0, nI_m1, Nat.add_zero, Nat.zero_add, Nat.reduceAdd, Nat.reduceMul, true_or, or_true, znar_50, bI_0, bI_1, bI_z, bft, nI_z0, nI_z1, lgc_lt, lgc_gt, lgc_le, lgc_ge, lgc_eq, not_true_eq_false, not_false_eq_true, Bool.not_eq_true, Bool.not_eq_false, reduceCtorEq, cls_sarr, len_sarr, cls_sia, len_sia, zu1_s, zu1_n, ne_eq, c11, znar_50]
  refine Eq.mpr t11 ?_
  clear t11
  have f11 := nAr_ok (z := y11) (r := 135) (q := 147) (K := 50) (N := 10) (f := 24) n11 (by omega)
  generalize nAr y11 135 50 10 24 = y12 at f11 ⊢
  have n12 : zn y12 = 148 := f11.2.1
  have c12 : zcls y12 135 = 12 := f11.2.2.2.1.1.trans c11
  have t12 : ZW zG (d + 1) 112 108 [.ref 135] [] y12 Q = ZW zG (d + 1) 112 116 [.ref 135] [] (nAr y12 135 50 10 25) Q := by
    simp (disch := omega) only [s112_108, s112_109, s112_111, s112_113, nAr, zcs_0, zcs_1, zcs_2, zcs_3, zcs_4, zcs_5, zcs_6, zcs_7, znl_i, znl_r, znl_n, Bool.and_true, Bool.true_and, zk_v, zk_n, zk_x, zir_r, zir_n, zclr_i, zclr_r, zclr_n, zclr_d, zclr_l, true_and, and_true, and_self, if_true, if_false, reduceIte, nI_add, pk_mul, zin_ok, zx_nI, nI_lt2, nI_le2, nI_eq2, nI_l0, nI_g0, nI_q0, nI_p0, nI_n0, nI_m1, Nat.add_zero, Nat.zero_add, Nat.reduceAdd, Nat.reduceMul, true_or, or_true, znar_50, bI_0, bI_1, bI_z, bft, nI_z0, nI_z1, lgc_lt, lgc_gt, lgc_le, lgc_ge, lgc_eq, not_true_eq_false, not_false_eq_true, Bool.not_eq_true, Bool.not_eq_false, reduceCtorEq, cls_sarr, len_sarr, cls_sia, len_sia, zu1_s, zu1_n, ne_eq, c12, znar_50]
  refine Eq.mpr t12 ?_
  clear t12
  have f12 := nAr_ok (z := y12) (r := 135) (q := 148) (K := 50) (N := 10) (f := 25) n12 (by omega)
  generalize nAr y12 135 50 10 25 = y13 at f12 ⊢
  have n13 : zn y13 = 149 := f12.2.1
  have c13 : zcls y13 135 = 12 := f12.2.2.2.1.1.trans c12
  have t13 : ZW zG (d + 1) 112 116 [.ref 135] [] y13 Q = ZW zG (d + 1) 112 125 [.ref 135] [] (nAr y13 135 50 1024 27) Q := by
    simp (disch := omega) only [s112_116, s112_117, s112_120, s112_122, nAr, zcs_0, zcs_1, zcs_2, zcs_3, zcs_4, zcs_5, zcs_6, zcs_7, znl_i, znl_r, znl_n, Bool.and_true, Bool.true_and, zk_v, zk_n, zk_x, zir_r, zir_n, zclr_i, zclr_r, zclr_n, zclr_d, zclr_l, true_and, and_true, and_self, if_true, if_false, reduceIte, nI_add, pk_mul, zin_ok, zx_nI, nI_lt2, nI_le2, nI_eq2, nI_l0, nI_g0, nI_q0, nI_p0, nI_n0, nI_m1, Nat.add_zero, Nat.zero_add, Nat.reduceAdd, Nat.reduceMul, true_or, or_true, znar_50, bI_0, bI_1, bI_z, bft, nI_z0, nI_z1, lgc_lt, lgc_gt, lgc_le, lgc_ge, lgc_eq, not_true_eq_false, not_false_eq_true, Bool.not_eq_true, Bool.not_eq_false, reduceCtorEq, cls_sarr, len_sarr, cls_sia, len_sia, zu1_s, zu1_n, ne_eq, c13, znar_50]
  refine Eq.mpr t13 ?_
  clear t13
  have f13 := nAr_ok (z := y13) (r := 135) (q := 149) (K := 50) (N := 1024) (f := 27) n13 (by omega)
  generalize nAr y13 135 50 1024 27 = y14 at f13 ⊢
  have n14 : zn y14 = 150 := f13.2.1
  have c14 : zcls y14 135 = 12 := f13.2.2.2.1.1.trans c13
  have t14 : ZW zG (d + 1) 112 125 [.ref 135] [] y14 Q = ZW zG (d + 1) 112 134 [.ref 135] [] (nAr y14 135 50 1024 28) Q := by
    simp (disch := omega) only [s112_125, s112_126, s112_129, s112_131, nAr, zcs_0, zcs_1, zcs_2, zcs_3, zcs_4, zcs_5, zcs_6, zcs_7, znl_i, znl_r, znl_n, Bool.and_true, Bool.true_and, zk_v, zk_n, zk_x, zir_r, zir_n, zclr_i, zclr_r, zclr_n, zclr_d, zclr_l, true_and, and_true, and_self, if_true, if_false, reduceIte, nI_add, pk_mul, zin_ok, zx_nI, nI_lt2, nI_le2, nI_eq2, nI_l0, nI_g0, nI_q0, nI_p0, nI_n0, nI_m1, Nat.add_zero, Nat.zero_add, Nat.reduceAdd, Nat.reduceMul, true_or, or_true, znar_50, bI_0, bI_1, bI_z, bft, nI_z0, nI_z1, lgc_lt, lgc_gt, lgc_le, lgc_ge, lgc_eq, not_true_eq_false, not_false_eq_true, Bool.not_eq_true, Bool.not_eq_false, reduceCtorEq, cls_sarr, len_sarr, cls_sia, len_sia, zu1_s, zu1_n, ne_eq, c14, znar_50]
  refine Eq.mpr t14 ?_
  clear t14
  have f14 := nAr_ok (z := y14) (r := 135) (q := 150) (K := 50) (N := 1024) (f := 28) n14 (by omega)
  generalize nAr y14 135 50 1024 28 = y15 at f14 ⊢
  have n15 : zn y15 = 151 := f14.2.1
  have c15 : zcls y15 135 = 12 := f14.2.2.2.1.1.trans c14
  have G5 : zFr (fun p => p = 135) y15 y15 := zFr_refl _ _
  have G4 : zFr (fun p => p = 135) y14 y15 := zFr_trans f14.1 G5
  have G3 : zFr (fun p => p = 135) y13 y15 := zFr_trans f13.1 G4
  have G2 : zFr (fun p => p = 135) y12 y15 := zFr_trans f12.1 G3
  have G1 : zFr (fun p => p = 135) y11 y15 := zFr_trans f11.1 G2
  have G0 : zFr (fun p => p = 135) z y15 := zFr_trans f10.1 G1
  exact H _ ⟨G0, n15, c15, by simp only [f14.2.2.2.1.2.1, f13.2.2.2.1.2.1, f12.2.2.2.1.2.1, f11.2.2.2.1.2.1, f10.2.2.2.1.2.1], ⟨(G1.2 146 (by omega) (by omega)).1.trans f10.2.2.1.1, (G1.2 146 (by omega) (by omega)).2.2.2.2.2.2.1.trans f10.2.2.1.2.1, (G1.2 146 (by omega) (by omega)).2.2.2.1.trans f10.2.2.1.2.2.1⟩, ⟨(G2.2 147 (by omega) (by omega)).1.trans f11.2.2.1.1, (G2.2 147 (by omega) (by omega)).2.2.2.2.2.2.1.trans f11.2.2.1.2.1, (G2.2 147 (by omega) (by omega)).2.2.2.1.trans f11.2.2.1.2.2.1⟩, ⟨(G3.2 148 (by omega) (by omega)).1.trans f12.2.2.1.1, (G3.2 148 (by omega) (by omega)).2.2.2.2.2.2.1.trans f12.2.2.1.2.1, (G3.2 148 (by omega) (by omega)).2.2.2.1.trans f12.2.2.1.2.2.1⟩, ⟨(G4.2 149 (by omega) (by omega)).1.trans f13.2.2.1.1, (G4.2 149 (by omega) (by omega)).2.2.2.2.2.2.1.trans f13.2.2.1.2.1, (G4.2 149 (by omega) (by omega)).2.2.2.1.trans f13.2.2.1.2.2.1⟩, ⟨(G5.2 150 (by omega) (by omega)).1.trans f14.2.2.1.1, (G5.2 150 (by omega) (by omega)).2.2.2.2.2.2.1.trans f14.2.2.1.2.1, (G5.2 150 (by omega) (by omega)).2.2.2.1.trans f14.2.2.1.2.2.1⟩, ⟨by simp only [f14.2.2.2.2.1, f13.2.2.2.2.1, f12.2.2.2.2.1, f11.2.2.2.2.1, f10.2.2.2.2.1, Nat.reduceEqDiff, if_false, if_true, reduceIte, eq_self], by simp only [f14.2.2.2.2.1, f13.2.2.2.2.1, f12.2.2.2.2.1, f11.2.2.2.2.1, f10.2.2.2.2.1, Nat.reduceEqDiff, if_false, if_true, reduceIte, eq_self], by simp only [f14.2.2.2.2.1, f13.2.2.2.2.1, f12.2.2.2.2.1, f11.2.2.2.2.1, f10.2.2.2.2.1, Nat.reduceEqDiff, if_false, if_true, reduceIte, eq_self], by simp only [f14.2.2.2.2.1, f13.2.2.2.2.1, f12.2.2.2.2.1, f11.2.2.2.2.1, f10.2.2.2.2.1, Nat.reduceEqDiff, if_false, if_true, reduceIte, eq_self], by simp only [f14.2.2.2.2.1, f13.2.2.2.2.1, f12.2.2.2.2.1, f11.2.2.2.2.1, f10.2.2.2.2.1, Nat.reduceEqDiff, if_false, if_true, reduceIte, eq_self]⟩, fun j h20 h24 h25 h27 h28 => by simp only [f14.2.2.2.2.1, f13.2.2.2.2.1, f12.2.2.2.2.1, f11.2.2.2.2.1, f10.2.2.2.2.1, h20, h24, h25, h27, h28, if_false], by simp only [f14.2.2.2.2.2.1, f13.2.2.2.2.2.1, f12.2.2.2.2.2.1, f11.2.2.2.2.2.1, f10.2.2.2.2.2.1, Nat.add_assoc, Nat.reduceAdd], by simp only [f14.2.2.2.2.2.2, f13.2.2.2.2.2.2, f12.2.2.2.2.2.2, f11.2.2.2.2.2.2, f10.2.2.2.2.2.2, Nat.add_assoc, Nat.reduceAdd]⟩
def mS3 (z z1 : ZH) : Prop := zFr (fun p => p = 135) z z1 ∧ zn z1 = 156 ∧ zcls z1 135 = 12 ∧ zfi z1 135 = zfi z 135 ∧ (zcls z1 151 = 50 ∧ zlen z1 151 = 65536 ∧ zia z1 151 = fun _ => 0) ∧ (zcls z1 152 = 50 ∧ zlen z1 152 = 65536 ∧ zia z1 152 = fun _ => 0) ∧ (zcls z1 153 = 50 ∧ zlen z1 153 = 65536 ∧ zia z1 153 = fun _ => 0) ∧ (zcls z1 154 = 54 ∧ zlen z1 154 = 65536 ∧ zia z1 154 = fun _ => 0) ∧ (zcls z1 155 = 50 ∧ zlen z1 155 = 16 ∧ zia z1 155 = fun _ => 0) ∧ (zfr z1 135 29 = .ref 151 ∧ zfr z1 135 30 = .ref 152 ∧ zfr z1 135 31 = .ref 153 ∧ zfr z1 135 32 = .ref 154 ∧ zfr z1 135 33 = .ref 155) ∧ (∀ j, ¬ j = 29 → ¬ j = 30 → ¬ j = 31 → ¬ j = 32 → ¬ j = 33 → zfr z1 135 j = zfr z 135 j) ∧ zuc z1 = zuc z + 5 ∧ zus z1 = zus z + 262160
theorem m112_3 (hn : zn z = 151) (hc : zcls z 135 = 12) (H : ∀ z1, mS3 z z1 → ZW zG (d + 1) 112 174 [.ref 135] [] z1 Q) : ZW zG (d + 1) 112 134 [.ref 135] [] z Q := by
  have t15 : ZW zG (d + 1) 112 134 [.ref 135] [] z Q = ZW zG (d + 1) 112 142 [.ref 135] [] (nAr z 135 50 65536 29) Q := by
    simp (disch := omega) only [s112_134, s112_135, s112_137, s112_139, nAr, zcs_0, zcs_1, zcs_2, zcs_3, zcs_4, zcs_5, zcs_6, zcs_7, znl_i, znl_r, znl_n, Bool.and_true, Bool.true_and, zk_v, zk_n, zk_x, zir_r, zir_n, zclr_i, zclr_r, zclr_n, zclr_d, zclr_l, true_and, and_true, and_self, if_true, if_false, reduceIte, nI_add, pk_mul, zin_ok, zx_nI, nI_lt2, nI_le2, nI_eq2, nI_l0, nI_g0, nI_q0, nI_p0, nI_n0, nI_m1, Nat.add_zero, Nat.zero_add, Nat.reduceAdd, Nat.reduceMul, true_or, or_true, znar_50, bI_0, bI_1, bI_z, bft, nI_z0, nI_z1, lgc_lt, lgc_gt, lgc_le, lgc_ge, lgc_eq, not_true_eq_false, not_false_eq_true, Bool.not_eq_true, Bool.not_eq_false, reduceCtorEq, cls_sarr, len_sarr, cls_sia, len_sia, zu1_s, zu1_n, ne_eq, hc, znar_50]
  refine Eq.mpr t15 ?_
  clear t15
  have f15 := nAr_ok (z := z) (r := 135) (q := 151) (K := 50) (N := 65536) (f := 29) hn (by omega)
  generalize nAr z 135 50 65536 29 = y16 at f15 ⊢
  have n16 : zn y16 = 152 := f15.2.1
  have c16 : zcls y16 135 = 12 := f15.2.2.2.1.1.trans hc
  have t16 : ZW zG (d + 1) 112 142 [.ref 135] [] y16 Q = ZW zG (d + 1) 112 150 [.ref 135] [] (nAr y16 135 50 65536 30) Q := by
    simp (disch := omega) only [s112_142, s112_143, s112_145, s112_147, nAr, zcs_0, zcs_1, zcs_2, zcs_3, zcs_4, zcs_5, zcs_6, zcs_7, znl_i, znl_r, znl_n, Bool.and_true, Bool.true_and, zk_v, zk_n, zk_x, zir_r, zir_n, zclr_i, zclr_r, zclr_n, zclr_d, zclr_l, true_and, and_true, and_self, if_true, if_false, reduceIte, nI_add, pk_mul, zin_ok, zx_nI, nI_lt2, nI_le2, nI_eq2, nI_l0, nI_g0, nI_q0, nI_p0, nI_n0, nI_m1, Nat.add_zero, Nat.zero_add, Nat.reduceAdd, Nat.reduceMul, true_or, or_true, znar_50, bI_0, bI_1, bI_z, bft, nI_z0, nI_z1, lgc_lt, lgc_gt, lgc_le, lgc_ge, lgc_eq, not_true_eq_false, not_false_eq_true, Bool.not_eq_true, Bool.not_eq_false, reduceCtorEq, cls_sarr, len_sarr, cls_sia, len_sia, zu1_s, zu1_n, ne_eq, c16, znar_50]
  refine Eq.mpr t16 ?_
  clear t16
  have f16 := nAr_ok (z := y16) (r := 135) (q := 152) (K := 50) (N := 65536) (f := 30) n16 (by omega)
  generalize nAr y16 135 50 65536 30 = y17 at f16 ⊢
  have n17 : zn y17 = 153 := f16.2.1
  have c17 : zcls y17 135 = 12 := f16.2.2.2.1.1.trans c16
  have t17 : ZW zG (d + 1) 112 150 [.ref 135] [] y17 Q = ZW zG (d + 1) 112 158 [.ref 135] [] (nAr y17 135 50 65536 31) Q := by
    simp (disch := omega) only [s112_150, s112_151, s112_153, s112_155, nAr, zcs_0, zcs_1, zcs_2, zcs_3, zcs_4, zcs_5, zcs_6, zcs_7, znl_i, znl_r, znl_n, Bool.and_true, Bool.true_and, zk_v, zk_n, zk_x, zir_r, zir_n, zclr_i, zclr_r, zclr_n, zclr_d, zclr_l, true_and, and_true, and_self, if_true, if_false, reduceIte, nI_add, pk_mul, zin_ok, zx_nI, nI_lt2, nI_le2, nI_eq2, nI_l0, nI_g0, nI_q0, nI_p0, nI_n0, nI_m1, Nat.add_zero, Nat.zero_add, Nat.reduceAdd, Nat.reduceMul, true_or, or_true, znar_50, bI_0, bI_1, bI_z, bft, nI_z0, nI_z1, lgc_lt, lgc_gt, lgc_le, lgc_ge, lgc_eq, not_true_eq_false, not_false_eq_true, Bool.not_eq_true, Bool.not_eq_false, reduceCtorEq, cls_sarr, len_sarr, cls_sia, len_sia, zu1_s, zu1_n, ne_eq, c17, znar_50]
  refine Eq.mpr t17 ?_
  clear t17
  have f17 := nAr_ok (z := y17) (r := 135) (q := 153) (K := 50) (N := 65536) (f := 31) n17 (by omega)
  generalize nAr y17 135 50 65536 31 = y18 at f17 ⊢
  have n18 : zn y18 = 154 := f17.2.1
  have c18 : zcls y18 135 = 12 := f17.2.2.2.1.1.trans c17
  have t18 : ZW zG (d + 1) 112 158 [.ref 135] [] y18 Q = ZW zG (d + 1) 112 166 [.ref 135] [] (nAr y18 135 54 65536 32) Q := by
    simp (disch := omega) only [s112_158, s112_159, s112_161, s112_163, nAr, zcs_0, zcs_1, zcs_2, zcs_3, zcs_4, zcs_5, zcs_6, zcs_7, znl_i, znl_r, znl_n, Bool.and_true, Bool.true_and, zk_v, zk_n, zk_x, zir_r, zir_n, zclr_i, zclr_r, zclr_n, zclr_d, zclr_l, true_and, and_true, and_self, if_true, if_false, reduceIte, nI_add, pk_mul, zin_ok, zx_nI, nI_lt2, nI_le2, nI_eq2, nI_l0, nI_g0, nI_q0, nI_p0, nI_n0, nI_m1, Nat.add_zero, Nat.zero_add, Nat.reduceAdd, Nat.reduceMul, true_or, or_true, znar_50, bI_0, bI_1, bI_z, bft, nI_z0, nI_z1, lgc_lt, lgc_gt, lgc_le, lgc_ge, lgc_eq, not_true_eq_false, not_false_eq_true, Bool.not_eq_true, Bool.not_eq_false, reduceCtorEq, cls_sarr, len_sarr, cls_sia, len_sia, zu1_s, zu1_n, ne_eq, c18, znar_50]
  refine Eq.mpr t18 ?_
  clear t18
  have f18 := nAr_ok (z := y18) (r := 135) (q := 154) (K := 54) (N := 65536) (f := 32) n18 (by omega)
  generalize nAr y18 135 54 65536 32 = y19 at f18 ⊢
  have n19 : zn y19 = 155 := f18.2.1
  have c19 : zcls y19 135 = 12 := f18.2.2.2.1.1.trans c18
  have t19 : ZW zG (d + 1) 112 166 [.ref 135] [] y19 Q = ZW zG (d + 1) 112 174 [.ref 135] [] (nAr y19 135 50 16 33) Q := by
    simp (disch := omega) only [s112_166, s112_167, s112_169, s112_171, nAr, zcs_0, zcs_1, zcs_2, zcs_3, zcs_4, zcs_5, zcs_6, zcs_7, znl_i, znl_r, znl_n, Bool.and_true, Bool.true_and, zk_v, zk_n, zk_x, zir_r, zir_n, zclr_i, zclr_r, zclr_n, zclr_d, zclr_l, true_and, and_true, and_self, if_true, if_false, reduceIte, nI_add, pk_mul, zin_ok, zx_nI, nI_lt2, nI_le2, nI_eq2, nI_l0, nI_g0, nI_q0, nI_p0, nI_n0, nI_m1, Nat.add_zero, Nat.zero_add, Nat.reduceAdd, Nat.reduceMul, true_or, or_true, znar_50, bI_0, bI_1, bI_z, bft, nI_z0, nI_z1, lgc_lt, lgc_gt, lgc_le, lgc_ge, lgc_eq, not_true_eq_false, not_false_eq_true, Bool.not_eq_true, Bool.not_eq_false, reduceCtorEq, cls_sarr, len_sarr, cls_sia, len_sia, zu1_s, zu1_n, ne_eq, c19, znar_50]
  refine Eq.mpr t19 ?_
  clear t19
  have f19 := nAr_ok (z := y19) (r := 135) (q := 155) (K := 50) (N := 16) (f := 33) n19 (by omega)
  generalize nAr y19 135 50 16 33 = y20 at f19 ⊢
  have n20 : zn y20 = 156 := f19.2.1
  have c20 : zcls y20 135 = 12 := f19.2.2.2.1.1.trans c19
  have G5 : zFr (fun p => p = 135) y20 y20 := zFr_refl _ _
  have G4 : zFr (fun p => p = 135) y19 y20 := zFr_trans f19.1 G5
  have G3 : zFr (fun p => p = 135) y18 y20 := zFr_trans f18.1 G4
  have G2 : zFr (fun p => p = 135) y17 y20 := zFr_trans f17.1 G3
  have G1 : zFr (fun p => p = 135) y16 y20 := zFr_trans f16.1 G2
  have G0 : zFr (fun p => p = 135) z y20 := zFr_trans f15.1 G1
  exact H _ ⟨G0, n20, c20, by simp only [f19.2.2.2.1.2.1, f18.2.2.2.1.2.1, f17.2.2.2.1.2.1, f16.2.2.2.1.2.1, f15.2.2.2.1.2.1], ⟨(G1.2 151 (by omega) (by omega)).1.trans f15.2.2.1.1, (G1.2 151 (by omega) (by omega)).2.2.2.2.2.2.1.trans f15.2.2.1.2.1, (G1.2 151 (by omega) (by omega)).2.2.2.1.trans f15.2.2.1.2.2.1⟩, ⟨(G2.2 152 (by omega) (by omega)).1.trans f16.2.2.1.1, (G2.2 152 (by omega) (by omega)).2.2.2.2.2.2.1.trans f16.2.2.1.2.1, (G2.2 152 (by omega) (by omega)).2.2.2.1.trans f16.2.2.1.2.2.1⟩, ⟨(G3.2 153 (by omega) (by omega)).1.trans f17.2.2.1.1, (G3.2 153 (by omega) (by omega)).2.2.2.2.2.2.1.trans f17.2.2.1.2.1, (G3.2 153 (by omega) (by omega)).2.2.2.1.trans f17.2.2.1.2.2.1⟩, ⟨(G4.2 154 (by omega) (by omega)).1.trans f18.2.2.1.1, (G4.2 154 (by omega) (by omega)).2.2.2.2.2.2.1.trans f18.2.2.1.2.1, (G4.2 154 (by omega) (by omega)).2.2.2.1.trans f18.2.2.1.2.2.1⟩, ⟨(G5.2 155 (by omega) (by omega)).1.trans f19.2.2.1.1, (G5.2 155 (by omega) (by omega)).2.2.2.2.2.2.1.trans f19.2.2.1.2.1, (G5.2 155 (by omega) (by omega)).2.2.2.1.trans f19.2.2.1.2.2.1⟩, ⟨by simp only [f19.2.2.2.2.1, f18.2.2.2.2.1, f17.2.2.2.2.1, f16.2.2.2.2.1, f15.2.2.2.2.1, Nat.reduceEqDiff, if_false, if_true, reduceIte, eq_self], by simp only [f19.2.2.2.2.1, f18.2.2.2.2.1, f17.2.2.2.2.1, f16.2.2.2.2.1, f15.2.2.2.2.1, Nat.reduceEqDiff, if_false, if_true, reduceIte, eq_self], by simp only [f19.2.2.2.2.1, f18.2.2.2.2.1, f17.2.2.2.2.1, f16.2.2.2.2.1, f15.2.2.2.2.1, Nat.reduceEqDiff, if_false, if_true, reduceIte, eq_self], by simp only [f19.2.2.2.2.1, f18.2.2.2.2.1, f17.2.2.2.2.1, f16.2.2.2.2.1, f15.2.2.2.2.1, Nat.reduceEqDiff, if_false, if_true, reduceIte, eq_self], by simp only [f19.2.2.2.2.1, f18.2.2.2.2.1, f17.2.2.2.2.1, f16.2.2.2.2.1, f15.2.2.2.2.1, Nat.reduceEqDiff, if_false, if_true, reduceIte, eq_self]⟩, fun j h29 h30 h31 h32 h33 => by simp only [f19.2.2.2.2.1, f18.2.2.2.2.1, f17.2.2.2.2.1, f16.2.2.2.2.1, f15.2.2.2.2.1, h29, h30, h31, h32, h33, if_false], by simp only [f19.2.2.2.2.2.1, f18.2.2.2.2.2.1, f17.2.2.2.2.2.1, f16.2.2.2.2.2.1, f15.2.2.2.2.2.1, Nat.add_assoc, Nat.reduceAdd], by simp only [f19.2.2.2.2.2.2, f18.2.2.2.2.2.2, f17.2.2.2.2.2.2, f16.2.2.2.2.2.2, f15.2.2.2.2.2.2, Nat.add_assoc, Nat.reduceAdd]⟩
def mS4 (z z1 : ZH) : Prop := zFr (fun p => p = 135) z z1 ∧ zn z1 = 162 ∧ zcls z1 135 = 12 ∧ zfi z1 135 = zfi z 135 ∧ (zcls z1 156 = 50 ∧ zlen z1 156 = 16 ∧ zia z1 156 = fun _ => 0) ∧ (zcls z1 157 = 50 ∧ zlen z1 157 = 9080 ∧ zia z1 157 = fun _ => 0) ∧ (zcls z1 158 = 50 ∧ zlen z1 158 = 4 ∧ ∀ j, j < 4 → zia z1 158 j = -1) ∧ (zcls z1 159 = 50 ∧ zlen z1 159 = 4 ∧ zia z1 159 = fun _ => 0) ∧ (zcls z1 160 = 51 ∧ zlen z1 160 = 240 ∧ zia z1 160 = fun _ => 0) ∧ (zcls z1 161 = 51 ∧ zlen z1 161 = 60 ∧ zia z1 161 = fun _ => 0) ∧ (zfr z1 135 35 = .ref 156 ∧ zfr z1 135 36 = .ref 157 ∧ zfr z1 135 37 = .ref 158 ∧ zfr z1 135 38 = .ref 159 ∧ zfr z1 135 39 = .ref 160 ∧ zfr z1 135 40 = .ref 161) ∧ (∀ j, ¬ j = 35 → ¬ j = 36 → ¬ j = 37 → ¬ j = 38 → ¬ j = 39 → ¬ j = 40 → zfr z1 135 j = zfr z 135 j) ∧ zuc z1 = zuc z + 6 ∧ zus z1 = zus z + 9404
theorem m112_4 (hn : zn z = 156) (hc : zcls z 135 = 12) (H : ∀ z1, mS4 z z1 → ZW zG (d + 1) 112 238 [.ref 135] [] z1 Q) : ZW zG (d + 1) 112 174 [.ref 135] [] z Q := by
  have t20 : ZW zG (d + 1) 112 174 [.ref 135] [] z Q = ZW zG (d + 1) 112 182 [.ref 135] [] (nAr z 135 50 16 35) Q := by
    simp (disch := omega) only [s112_174, s112_175, s112_177, s112_179, nAr, zcs_0, zcs_1, zcs_2, zcs_3, zcs_4, zcs_5, zcs_6, zcs_7, znl_i, znl_r, znl_n, Bool.and_true, Bool.true_and, zk_v, zk_n, zk_x, zir_r, zir_n, zclr_i, zclr_r, zclr_n, zclr_d, zclr_l, true_and, and_true, and_self, if_true, if_false, reduceIte, nI_add, pk_mul, zin_ok, zx_nI, nI_lt2, nI_le2, nI_eq2, nI_l0, nI_g0, nI_q0, nI_p0, nI_n0, nI_m1, Nat.add_zero, Nat.zero_add, Nat.reduceAdd, Nat.reduceMul, true_or, or_true, znar_50, bI_0, bI_1, bI_z, bft, nI_z0, nI_z1, lgc_lt, lgc_gt, lgc_le, lgc_ge, lgc_eq, not_true_eq_false, not_false_eq_true, Bool.not_eq_true, Bool.not_eq_false, reduceCtorEq, cls_sarr, len_sarr, cls_sia, len_sia, zu1_s, zu1_n, ne_eq, hc, znar_50]
  refine Eq.mpr t20 ?_
  clear t20
  have f20 := nAr_ok (z := z) (r := 135) (q := 156) (K := 50) (N := 16) (f := 35) hn (by omega)
  generalize nAr z 135 50 16 35 = y21 at f20 ⊢
  have n21 : zn y21 = 157 := f20.2.1
  have c21 : zcls y21 135 = 12 := f20.2.2.2.1.1.trans hc
  have t21 : ZW zG (d + 1) 112 182 [.ref 135] [] y21 Q = ZW zG (d + 1) 112 191 [.ref 135] [] (nAr y21 135 50 9080 36) Q := by
    simp (disch := omega) only [s112_182, s112_183, s112_186, s112_188, nAr, zcs_0, zcs_1, zcs_2, zcs_3, zcs_4, zcs_5, zcs_6, zcs_7, znl_i, znl_r, znl_n, Bool.and_true, Bool.true_and, zk_v, zk_n, zk_x, zir_r, zir_n, zclr_i, zclr_r, zclr_n, zclr_d, zclr_l, true_and, and_true, and_self, if_true, if_false, reduceIte, nI_add, pk_mul, zin_ok, zx_nI, nI_lt2, nI_le2, nI_eq2, nI_l0, nI_g0, nI_q0, nI_p0, nI_n0, nI_m1, Nat.add_zero, Nat.zero_add, Nat.reduceAdd, Nat.reduceMul, true_or, or_true, znar_50, bI_0, bI_1, bI_z, bft, nI_z0, nI_z1, lgc_lt, lgc_gt, lgc_le, lgc_ge, lgc_eq, not_true_eq_false, not_false_eq_true, Bool.not_eq_true, Bool.not_eq_false, reduceCtorEq, cls_sarr, len_sarr, cls_sia, len_sia, zu1_s, zu1_n, ne_eq, c21, znar_50]
  refine Eq.mpr t21 ?_
  clear t21
  have f21 := nAr_ok (z := y21) (r := 135) (q := 157) (K := 50) (N := 9080) (f := 36) n21 (by omega)
  generalize nAr y21 135 50 9080 36 = y22 at f21 ⊢
  have n22 : zn y22 = 158 := f21.2.1
  have c22 : zcls y22 135 = 12 := f21.2.2.2.1.1.trans c21
  have t22 : ZW zG (d + 1) 112 191 [.ref 135] [] y22 Q = ZW zG (d + 1) 112 214 [.ref 135] [] (nA4 y22 135 50 37) Q := by
    simp (disch := omega) only [s112_191, s112_192, s112_193, s112_195, s112_196, s112_197, s112_198, s112_199, s112_200, s112_201, s112_202, s112_203, s112_204, s112_205, s112_206, s112_207, s112_208, s112_209, s112_210, s112_211, nA4, zcs_0, zcs_1, zcs_2, zcs_3, zcs_4, zcs_5, zcs_6, zcs_7, znl_i, znl_r, znl_n, Bool.and_true, Bool.true_and, zk_v, zk_n, zk_x, zir_r, zir_n, zclr_i, zclr_r, zclr_n, zclr_d, zclr_l, true_and, and_true, and_self, if_true, if_false, reduceIte, nI_add, pk_mul, zin_ok, zx_nI, nI_lt2, nI_le2, nI_eq2, nI_l0, nI_g0, nI_q0, nI_p0, nI_n0, nI_m1, Nat.add_zero, Nat.zero_add, Nat.reduceAdd, Nat.reduceMul, true_or, or_true, znar_50, bI_0, bI_1, bI_z, bft, nI_z0, nI_z1, lgc_lt, lgc_gt, lgc_le, lgc_ge, lgc_eq, not_true_eq_false, not_false_eq_true, Bool.not_eq_true, Bool.not_eq_false, reduceCtorEq, cls_sarr, len_sarr, cls_sia, len_sia, zu1_s, zu1_n, ne_eq, c22, znar_50]
  refine Eq.mpr t22 ?_
  clear t22
  have f22 := nA4_ok (z := y22) (r := 135) (q := 158) (K := 50) (f := 37) n22 (by omega)
  generalize nA4 y22 135 50 37 = y23 at f22 ⊢
  have n23 : zn y23 = 159 := f22.2.1
  have c23 : zcls y23 135 = 12 := f22.2.2.2.1.1.trans c22
  have t23 : ZW zG (d + 1) 112 214 [.ref 135] [] y23 Q = ZW zG (d + 1) 112 221 [.ref 135] [] (nAr y23 135 50 4 38) Q := by
    simp (disch := omega) only [s112_214, s112_215, s112_216, s112_218, nAr, zcs_0, zcs_1, zcs_2, zcs_3, zcs_4, zcs_5, zcs_6, zcs_7, znl_i, znl_r, znl_n, Bool.and_true, Bool.true_and, zk_v, zk_n, zk_x, zir_r, zir_n, zclr_i, zclr_r, zclr_n, zclr_d, zclr_l, true_and, and_true, and_self, if_true, if_false, reduceIte, nI_add, pk_mul, zin_ok, zx_nI, nI_lt2, nI_le2, nI_eq2, nI_l0, nI_g0, nI_q0, nI_p0, nI_n0, nI_m1, Nat.add_zero, Nat.zero_add, Nat.reduceAdd, Nat.reduceMul, true_or, or_true, znar_50, bI_0, bI_1, bI_z, bft, nI_z0, nI_z1, lgc_lt, lgc_gt, lgc_le, lgc_ge, lgc_eq, not_true_eq_false, not_false_eq_true, Bool.not_eq_true, Bool.not_eq_false, reduceCtorEq, cls_sarr, len_sarr, cls_sia, len_sia, zu1_s, zu1_n, ne_eq, c23, znar_50]
  refine Eq.mpr t23 ?_
  clear t23
  have f23 := nAr_ok (z := y23) (r := 135) (q := 159) (K := 50) (N := 4) (f := 38) n23 (by omega)
  generalize nAr y23 135 50 4 38 = y24 at f23 ⊢
  have n24 : zn y24 = 160 := f23.2.1
  have c24 : zcls y24 135 = 12 := f23.2.2.2.1.1.trans c23
  have t24 : ZW zG (d + 1) 112 221 [.ref 135] [] y24 Q = ZW zG (d + 1) 112 230 [.ref 135] [] (nAr y24 135 51 240 39) Q := by
    simp (disch := omega) only [s112_221, s112_222, s112_225, s112_227, nAr, zcs_0, zcs_1, zcs_2, zcs_3, zcs_4, zcs_5, zcs_6, zcs_7, znl_i, znl_r, znl_n, Bool.and_true, Bool.true_and, zk_v, zk_n, zk_x, zir_r, zir_n, zclr_i, zclr_r, zclr_n, zclr_d, zclr_l, true_and, and_true, and_self, if_true, if_false, reduceIte, nI_add, pk_mul, zin_ok, zx_nI, nI_lt2, nI_le2, nI_eq2, nI_l0, nI_g0, nI_q0, nI_p0, nI_n0, nI_m1, Nat.add_zero, Nat.zero_add, Nat.reduceAdd, Nat.reduceMul, true_or, or_true, znar_50, bI_0, bI_1, bI_z, bft, nI_z0, nI_z1, lgc_lt, lgc_gt, lgc_le, lgc_ge, lgc_eq, not_true_eq_false, not_false_eq_true, Bool.not_eq_true, Bool.not_eq_false, reduceCtorEq, cls_sarr, len_sarr, cls_sia, len_sia, zu1_s, zu1_n, ne_eq, c24, znar_50]
  refine Eq.mpr t24 ?_
  clear t24
  have f24 := nAr_ok (z := y24) (r := 135) (q := 160) (K := 51) (N := 240) (f := 39) n24 (by omega)
  generalize nAr y24 135 51 240 39 = y25 at f24 ⊢
  have n25 : zn y25 = 161 := f24.2.1
  have c25 : zcls y25 135 = 12 := f24.2.2.2.1.1.trans c24
  have t25 : ZW zG (d + 1) 112 230 [.ref 135] [] y25 Q = ZW zG (d + 1) 112 238 [.ref 135] [] (nAr y25 135 51 60 40) Q := by
    simp (disch := omega) only [s112_230, s112_231, s112_233, s112_235, nAr, zcs_0, zcs_1, zcs_2, zcs_3, zcs_4, zcs_5, zcs_6, zcs_7, znl_i, znl_r, znl_n, Bool.and_true, Bool.true_and, zk_v, zk_n, zk_x, zir_r, zir_n, zclr_i, zclr_r, zclr_n, zclr_d, zclr_l, true_and, and_true, and_self, if_true, if_false, reduceIte, nI_add, pk_mul, zin_ok, zx_nI, nI_lt2, nI_le2, nI_eq2, nI_l0, nI_g0, nI_q0, nI_p0, nI_n0, nI_m1, Nat.add_zero, Nat.zero_add, Nat.reduceAdd, Nat.reduceMul, true_or, or_true, znar_50, bI_0, bI_1, bI_z, bft, nI_z0, nI_z1, lgc_lt, lgc_gt, lgc_le, lgc_ge, lgc_eq, not_true_eq_false, not_false_eq_true, Bool.not_eq_true, Bool.not_eq_false, reduceCtorEq, cls_sarr, len_sarr, cls_sia, len_sia, zu1_s, zu1_n, ne_eq, c25, znar_50]
  refine Eq.mpr t25 ?_
  clear t25
  have f25 := nAr_ok (z := y25) (r := 135) (q := 161) (K := 51) (N := 60) (f := 40) n25 (by omega)
  generalize nAr y25 135 51 60 40 = y26 at f25 ⊢
  have n26 : zn y26 = 162 := f25.2.1
  have c26 : zcls y26 135 = 12 := f25.2.2.2.1.1.trans c25
  have G6 : zFr (fun p => p = 135) y26 y26 := zFr_refl _ _
  have G5 : zFr (fun p => p = 135) y25 y26 := zFr_trans f25.1 G6
  have G4 : zFr (fun p => p = 135) y24 y26 := zFr_trans f24.1 G5
  have G3 : zFr (fun p => p = 135) y23 y26 := zFr_trans f23.1 G4
  have G2 : zFr (fun p => p = 135) y22 y26 := zFr_trans f22.1 G3
  have G1 : zFr (fun p => p = 135) y21 y26 := zFr_trans f21.1 G2
  have G0 : zFr (fun p => p = 135) z y26 := zFr_trans f20.1 G1
  exact H _ ⟨G0, n26, c26, by simp only [f25.2.2.2.1.2.1, f24.2.2.2.1.2.1, f23.2.2.2.1.2.1, f22.2.2.2.1.2.1, f21.2.2.2.1.2.1, f20.2.2.2.1.2.1], ⟨(G1.2 156 (by omega) (by omega)).1.trans f20.2.2.1.1, (G1.2 156 (by omega) (by omega)).2.2.2.2.2.2.1.trans f20.2.2.1.2.1, (G1.2 156 (by omega) (by omega)).2.2.2.1.trans f20.2.2.1.2.2.1⟩, ⟨(G2.2 157 (by omega) (by omega)).1.trans f21.2.2.1.1, (G2.2 157 (by omega) (by omega)).2.2.2.2.2.2.1.trans f21.2.2.1.2.1, (G2.2 157 (by omega) (by omega)).2.2.2.1.trans f21.2.2.1.2.2.1⟩, ⟨(G3.2 158 (by omega) (by omega)).1.trans f22.2.2.1.1, (G3.2 158 (by omega) (by omega)).2.2.2.2.2.2.1.trans f22.2.2.1.2.1, fun j hj => by rw [(G3.2 158 (by omega) (by omega)).2.2.2.1]; exact f22.2.2.1.2.2 j hj⟩, ⟨(G4.2 159 (by omega) (by omega)).1.trans f23.2.2.1.1, (G4.2 159 (by omega) (by omega)).2.2.2.2.2.2.1.trans f23.2.2.1.2.1, (G4.2 159 (by omega) (by omega)).2.2.2.1.trans f23.2.2.1.2.2.1⟩, ⟨(G5.2 160 (by omega) (by omega)).1.trans f24.2.2.1.1, (G5.2 160 (by omega) (by omega)).2.2.2.2.2.2.1.trans f24.2.2.1.2.1, (G5.2 160 (by omega) (by omega)).2.2.2.1.trans f24.2.2.1.2.2.1⟩, ⟨(G6.2 161 (by omega) (by omega)).1.trans f25.2.2.1.1, (G6.2 161 (by omega) (by omega)).2.2.2.2.2.2.1.trans f25.2.2.1.2.1, (G6.2 161 (by omega) (by omega)).2.2.2.1.trans f25.2.2.1.2.2.1⟩, ⟨by simp only [f25.2.2.2.2.1, f24.2.2.2.2.1, f23.2.2.2.2.1, f22.2.2.2.2.1, f21.2.2.2.2.1, f20.2.2.2.2.1, Nat.reduceEqDiff, if_false, if_true, reduceIte, eq_self], by simp only [f25.2.2.2.2.1, f24.2.2.2.2.1, f23.2.2.2.2.1, f22.2.2.2.2.1, f21.2.2.2.2.1, f20.2.2.2.2.1, Nat.reduceEqDiff, if_false, if_true, reduceIte, eq_self], by simp only [f25.2.2.2.2.1, f24.2.2.2.2.1, f23.2.2.2.2.1, f22.2.2.2.2.1, f21.2.2.2.2.1, f20.2.2.2.2.1, Nat.reduceEqDiff, if_false, if_true, reduceIte, eq_self], by simp only [f25.2.2.2.2.1, f24.2.2.2.2.1, f23.2.2.2.2.1, f22.2.2.2.2.1, f21.2.2.2.2.1, f20.2.2.2.2.1, Nat.reduceEqDiff, if_false, if_true, reduceIte, eq_self], by simp only [f25.2.2.2.2.1, f24.2.2.2.2.1, f23.2.2.2.2.1, f22.2.2.2.2.1, f21.2.2.2.2.1, f20.2.2.2.2.1, Nat.reduceEqDiff, if_false, if_true, reduceIte, eq_self], by simp only [f25.2.2.2.2.1, f24.2.2.2.2.1, f23.2.2.2.2.1, f22.2.2.2.2.1, f21.2.2.2.2.1, f20.2.2.2.2.1, Nat.reduceEqDiff, if_false, if_true, reduceIte, eq_self]⟩, fun j h35 h36 h37 h38 h39 h40 => by simp only [f25.2.2.2.2.1, f24.2.2.2.2.1, f23.2.2.2.2.1, f22.2.2.2.2.1, f21.2.2.2.2.1, f20.2.2.2.2.1, h35, h36, h37, h38, h39, h40, if_false], by simp only [f25.2.2.2.2.2.1, f24.2.2.2.2.2.1, f23.2.2.2.2.2.1, f22.2.2.2.2.2.1, f21.2.2.2.2.2.1, f20.2.2.2.2.2.1, Nat.add_assoc, Nat.reduceAdd], by simp only [f25.2.2.2.2.2.2, f24.2.2.2.2.2.2, f23.2.2.2.2.2.2, f22.2.2.2.2.2.2, f21.2.2.2.2.2.2, f20.2.2.2.2.2.2, Nat.add_assoc, Nat.reduceAdd]⟩
theorem m112 (hn : zn z = 136) (hc : zcls z 135 = 12) (hf : zfi z 135 = fun _ => 0) (H : ∀ z', M00 z z' → Q (.inl none) z') : ZC zG (d + 1) 112 [.ref 135] z Q := by
  refine Eq.mpr e112 ?_
  simp (disch := omega) only [s112_0, s112_1, zcs_0, zcs_1, zcs_2, zcs_3, zcs_4, zcs_5, zcs_6, zcs_7, znl_i, znl_r, znl_n, Bool.and_true, Bool.true_and, zk_v, zk_n, zk_x, zir_r, zir_n, zclr_i, zclr_r, zclr_n, zclr_d, zclr_l, true_and, and_true, and_self, if_true, if_false, reduceIte, nI_add, pk_mul, zin_ok, zx_nI, nI_lt2, nI_le2, nI_eq2, nI_l0, nI_g0, nI_q0, nI_p0, nI_n0, nI_m1, Nat.add_zero, Nat.zero_add, Nat.reduceAdd, Nat.reduceMul, true_or, or_true, znar_50, bI_0, bI_1, bI_z, bft, nI_z0, nI_z1, lgc_lt, lgc_gt, lgc_le, lgc_ge, lgc_eq, not_true_eq_false, not_false_eq_true, Bool.not_eq_true, Bool.not_eq_false, reduceCtorEq]
  refine m112_0 hn hc (fun a0 s0 => ?_)
  obtain ⟨F0, n0, c0, i0, ⟨cl136, ln136, ia136⟩, ⟨cl137, ln137, ia137⟩, ⟨cl138, ln138, ia138⟩, ⟨cl139, ln139, ia139⟩, ⟨cl140, ln140, ia140⟩, ⟨fr136, fr137, fr138, fr139, fr140⟩, o0, u0, w0⟩ := s0
  refine m112_1 n0 c0 (fun a1 s1 => ?_)
  obtain ⟨F1, n1, c1, i1, ⟨cl141, ln141, ia141⟩, ⟨cl142, ln142, ia142⟩, ⟨cl143, ln143, ia143⟩, ⟨cl144, ln144, ia144⟩, ⟨cl145, ln145, ia145⟩, ⟨fr141, fr142, fr143, fr144, fr145⟩, o1, u1, w1⟩ := s1
  have g := F1.2 136 (by omega) (by omega)
  rw [← g.1] at cl136
  rw [← g.2.2.2.2.2.2.1] at ln136
  rw [← g.2.2.2.1] at ia136
  rw [← o1 1 (by omega) (by omega) (by omega) (by omega) (by omega)] at fr136
  clear g
  have g := F1.2 137 (by omega) (by omega)
  rw [← g.1] at cl137
  rw [← g.2.2.2.2.2.2.1] at ln137
  rw [← g.2.2.2.1] at ia137
  rw [← o1 2 (by omega) (by omega) (by omega) (by omega) (by omega)] at fr137
  clear g
  have g := F1.2 138 (by omega) (by omega)
  rw [← g.1] at cl138
  rw [← g.2.2.2.2.2.2.1] at ln138
  rw [← g.2.2.2.1] at ia138
  rw [← o1 3 (by omega) (by omega) (by omega) (by omega) (by omega)] at fr138
  clear g
  have g := F1.2 139 (by omega) (by omega)
  rw [← g.1] at cl139
  rw [← g.2.2.2.2.2.2.1] at ln139
  rw [← g.2.2.2.1] at ia139
  rw [← o1 4 (by omega) (by omega) (by omega) (by omega) (by omega)] at fr139
  clear g
  have g := F1.2 140 (by omega) (by omega)
  rw [← g.1] at cl140
  rw [← g.2.2.2.2.2.2.1] at ln140
  rw [← g.2.2.2.1] at ia140
  rw [← o1 6 (by omega) (by omega) (by omega) (by omega) (by omega)] at fr140
  clear g
  refine m112_2 n1 c1 (fun a2 s2 => ?_)
  obtain ⟨F2, n2, c2, i2, ⟨cl146, ln146, ia146⟩, ⟨cl147, ln147, ia147⟩, ⟨cl148, ln148, ia148⟩, ⟨cl149, ln149, ia149⟩, ⟨cl150, ln150, ia150⟩, ⟨fr146, fr147, fr148, fr149, fr150⟩, o2, u2, w2⟩ := s2
  have g := F2.2 136 (by omega) (by omega)
  rw [← g.1] at cl136
  rw [← g.2.2.2.2.2.2.1] at ln136
  rw [← g.2.2.2.1] at ia136
  rw [← o2 1 (by omega) (by omega) (by omega) (by omega) (by omega)] at fr136
  clear g
  have g := F2.2 137 (by omega) (by omega)
  rw [← g.1] at cl137
  rw [← g.2.2.2.2.2.2.1] at ln137
  rw [← g.2.2.2.1] at ia137
  rw [← o2 2 (by omega) (by omega) (by omega) (by omega) (by omega)] at fr137
  clear g
  have g := F2.2 138 (by omega) (by omega)
  rw [← g.1] at cl138
  rw [← g.2.2.2.2.2.2.1] at ln138
  rw [← g.2.2.2.1] at ia138
  rw [← o2 3 (by omega) (by omega) (by omega) (by omega) (by omega)] at fr138
  clear g
  have g := F2.2 139 (by omega) (by omega)
  rw [← g.1] at cl139
  rw [← g.2.2.2.2.2.2.1] at ln139
  rw [← g.2.2.2.1] at ia139
  rw [← o2 4 (by omega) (by omega) (by omega) (by omega) (by omega)] at fr139
  clear g
  have g := F2.2 140 (by omega) (by omega)
  rw [← g.1] at cl140
  rw [← g.2.2.2.2.2.2.1] at ln140
  rw [← g.2.2.2.1] at ia140
  rw [← o2 6 (by omega) (by omega) (by omega) (by omega) (by omega)] at fr140
  clear g
  have g := F2.2 141 (by omega) (by omega)
  rw [← g.1] at cl141
  rw [← g.2.2.2.2.2.2.1] at ln141
  rw [← g.2.2.2.1] at ia141
  rw [← o2 14 (by omega) (by omega) (by omega) (by omega) (by omega)] at fr141
  clear g
  have g := F2.2 142 (by omega) (by omega)
  rw [← g.1] at cl142
  rw [← g.2.2.2.2.2.2.1] at ln142
  rw [← g.2.2.2.1] at ia142
  rw [← o2 15 (by omega) (by omega) (by omega) (by omega) (by omega)] at fr142
  clear g
  have g := F2.2 143 (by omega) (by omega)
  rw [← g.1] at cl143
  rw [← g.2.2.2.2.2.2.1] at ln143
  rw [← g.2.2.2.1] at ia143
  rw [← o2 16 (by omega) (by omega) (by omega) (by omega) (by omega)] at fr143
  clear g
  have g := F2.2 144 (by omega) (by omega)
  rw [← g.1] at cl144
  rw [← g.2.2.2.2.2.2.1] at ln144
  rw [← g.2.2.2.1] at ia144
  rw [← o2 18 (by omega) (by omega) (by omega) (by omega) (by omega)] at fr144
  clear g
  have g := F2.2 145 (by omega) (by omega)
  rw [← g.1] at cl145
  rw [← g.2.2.2.2.2.2.1] at ln145
  rw [← g.2.2.2.1] at ia145
  rw [← o2 19 (by omega) (by omega) (by omega) (by omega) (by omega)] at fr145
  clear g
  refine m112_3 n2 c2 (fun a3 s3 => ?_)
  obtain ⟨F3, n3, c3, i3, ⟨cl151, ln151, ia151⟩, ⟨cl152, ln152, ia152⟩, ⟨cl153, ln153, ia153⟩, ⟨cl154, ln154, ia154⟩, ⟨cl155, ln155, ia155⟩, ⟨fr151, fr152, fr153, fr154, fr155⟩, o3, u3, w3⟩ := s3
  have g := F3.2 136 (by omega) (by omega)
  rw [← g.1] at cl136
  rw [← g.2.2.2.2.2.2.1] at ln136
  rw [← g.2.2.2.1] at ia136
  rw [← o3 1 (by omega) (by omega) (by omega) (by omega) (by omega)] at fr136
  clear g
  have g := F3.2 137 (by omega) (by omega)
  rw [← g.1] at cl137
  rw [← g.2.2.2.2.2.2.1] at ln137
  rw [← g.2.2.2.1] at ia137
  rw [← o3 2 (by omega) (by omega) (by omega) (by omega) (by omega)] at fr137
  clear g
  have g := F3.2 138 (by omega) (by omega)
  rw [← g.1] at cl138
  rw [← g.2.2.2.2.2.2.1] at ln138
  rw [← g.2.2.2.1] at ia138
  rw [← o3 3 (by omega) (by omega) (by omega) (by omega) (by omega)] at fr138
  clear g
  have g := F3.2 139 (by omega) (by omega)
  rw [← g.1] at cl139
  rw [← g.2.2.2.2.2.2.1] at ln139
  rw [← g.2.2.2.1] at ia139
  rw [← o3 4 (by omega) (by omega) (by omega) (by omega) (by omega)] at fr139
  clear g
  have g := F3.2 140 (by omega) (by omega)
  rw [← g.1] at cl140
  rw [← g.2.2.2.2.2.2.1] at ln140
  rw [← g.2.2.2.1] at ia140
  rw [← o3 6 (by omega) (by omega) (by omega) (by omega) (by omega)] at fr140
  clear g
  have g := F3.2 141 (by omega) (by omega)
  rw [← g.1] at cl141
  rw [← g.2.2.2.2.2.2.1] at ln141
  rw [← g.2.2.2.1] at ia141
  rw [← o3 14 (by omega) (by omega) (by omega) (by omega) (by omega)] at fr141
  clear g
  have g := F3.2 142 (by omega) (by omega)
  rw [← g.1] at cl142
  rw [← g.2.2.2.2.2.2.1] at ln142
  rw [← g.2.2.2.1] at ia142
  rw [← o3 15 (by omega) (by omega) (by omega) (by omega) (by omega)] at fr142
  clear g
  have g := F3.2 143 (by omega) (by omega)
  rw [← g.1] at cl143
  rw [← g.2.2.2.2.2.2.1] at ln143
  rw [← g.2.2.2.1] at ia143
  rw [← o3 16 (by omega) (by omega) (by omega) (by omega) (by omega)] at fr143
  clear g
  have g := F3.2 144 (by omega) (by omega)
  rw [← g.1] at cl144
  rw [← g.2.2.2.2.2.2.1] at ln144
  rw [← g.2.2.2.1] at ia144
  rw [← o3 18 (by omega) (by omega) (by omega) (by omega) (by omega)] at fr144
  clear g
  have g := F3.2 145 (by omega) (by omega)
  rw [← g.1] at cl145
  rw [← g.2.2.2.2.2.2.1] at ln145
  rw [← g.2.2.2.1] at ia145
  rw [← o3 19 (by omega) (by omega) (by omega) (by omega) (by omega)] at fr145
  clear g
  have g := F3.2 146 (by omega) (by omega)
  rw [← g.1] at cl146
  rw [← g.2.2.2.2.2.2.1] at ln146
  rw [← g.2.2.2.1] at ia146
  rw [← o3 20 (by omega) (by omega) (by omega) (by omega) (by omega)] at fr146
  clear g
  have g := F3.2 147 (by omega) (by omega)
  rw [← g.1] at cl147
  rw [← g.2.2.2.2.2.2.1] at ln147
  rw [← g.2.2.2.1] at ia147
  rw [← o3 24 (by omega) (by omega) (by omega) (by omega) (by omega)] at fr147
  clear g
  have g := F3.2 148 (by omega) (by omega)
  rw [← g.1] at cl148
  rw [← g.2.2.2.2.2.2.1] at ln148
  rw [← g.2.2.2.1] at ia148
  rw [← o3 25 (by omega) (by omega) (by omega) (by omega) (by omega)] at fr148
  clear g
  have g := F3.2 149 (by omega) (by omega)
  rw [← g.1] at cl149
  rw [← g.2.2.2.2.2.2.1] at ln149
  rw [← g.2.2.2.1] at ia149
  rw [← o3 27 (by omega) (by omega) (by omega) (by omega) (by omega)] at fr149
  clear g
  have g := F3.2 150 (by omega) (by omega)
  rw [← g.1] at cl150
  rw [← g.2.2.2.2.2.2.1] at ln150
  rw [← g.2.2.2.1] at ia150
  rw [← o3 28 (by omega) (by omega) (by omega) (by omega) (by omega)] at fr150
  clear g
  refine m112_4 n3 c3 (fun a4 s4 => ?_)
  obtain ⟨F4, n4, c4, i4, ⟨cl156, ln156, ia156⟩, ⟨cl157, ln157, ia157⟩, ⟨cl158, ln158, ia158⟩, ⟨cl159, ln159, ia159⟩, ⟨cl160, ln160, ia160⟩, ⟨cl161, ln161, ia161⟩, ⟨fr156, fr157, fr158, fr159, fr160, fr161⟩, o4, u4, w4⟩ := s4
  have g := F4.2 136 (by omega) (by omega)
  rw [← g.1] at cl136
  rw [← g.2.2.2.2.2.2.1] at ln136
  rw [← g.2.2.2.1] at ia136
  rw [← o4 1 (by omega) (by omega) (by omega) (by omega) (by omega) (by omega)] at fr136
  clear g
  have g := F4.2 137 (by omega) (by omega)
  rw [← g.1] at cl137
  rw [← g.2.2.2.2.2.2.1] at ln137
  rw [← g.2.2.2.1] at ia137
  rw [← o4 2 (by omega) (by omega) (by omega) (by omega) (by omega) (by omega)] at fr137
  clear g
  have g := F4.2 138 (by omega) (by omega)
  rw [← g.1] at cl138
  rw [← g.2.2.2.2.2.2.1] at ln138
  rw [← g.2.2.2.1] at ia138
  rw [← o4 3 (by omega) (by omega) (by omega) (by omega) (by omega) (by omega)] at fr138
  clear g
  have g := F4.2 139 (by omega) (by omega)
  rw [← g.1] at cl139
  rw [← g.2.2.2.2.2.2.1] at ln139
  rw [← g.2.2.2.1] at ia139
  rw [← o4 4 (by omega) (by omega) (by omega) (by omega) (by omega) (by omega)] at fr139
  clear g
  have g := F4.2 140 (by omega) (by omega)
  rw [← g.1] at cl140
  rw [← g.2.2.2.2.2.2.1] at ln140
  rw [← g.2.2.2.1] at ia140
  rw [← o4 6 (by omega) (by omega) (by omega) (by omega) (by omega) (by omega)] at fr140
  clear g
  have g := F4.2 141 (by omega) (by omega)
  rw [← g.1] at cl141
  rw [← g.2.2.2.2.2.2.1] at ln141
  rw [← g.2.2.2.1] at ia141
  rw [← o4 14 (by omega) (by omega) (by omega) (by omega) (by omega) (by omega)] at fr141
  clear g
  have g := F4.2 142 (by omega) (by omega)
  rw [← g.1] at cl142
  rw [← g.2.2.2.2.2.2.1] at ln142
  rw [← g.2.2.2.1] at ia142
  rw [← o4 15 (by omega) (by omega) (by omega) (by omega) (by omega) (by omega)] at fr142
  clear g
  have g := F4.2 143 (by omega) (by omega)
  rw [← g.1] at cl143
  rw [← g.2.2.2.2.2.2.1] at ln143
  rw [← g.2.2.2.1] at ia143
  rw [← o4 16 (by omega) (by omega) (by omega) (by omega) (by omega) (by omega)] at fr143
  clear g
  have g := F4.2 144 (by omega) (by omega)
  rw [← g.1] at cl144
  rw [← g.2.2.2.2.2.2.1] at ln144
  rw [← g.2.2.2.1] at ia144
  rw [← o4 18 (by omega) (by omega) (by omega) (by omega) (by omega) (by omega)] at fr144
  clear g
  have g := F4.2 145 (by omega) (by omega)
  rw [← g.1] at cl145
  rw [← g.2.2.2.2.2.2.1] at ln145
  rw [← g.2.2.2.1] at ia145
  rw [← o4 19 (by omega) (by omega) (by omega) (by omega) (by omega) (by omega)] at fr145
  clear g
  have g := F4.2 146 (by omega) (by omega)
  rw [← g.1] at cl146
  rw [← g.2.2.2.2.2.2.1] at ln146
  rw [← g.2.2.2.1] at ia146
  rw [← o4 20 (by omega) (by omega) (by omega) (by omega) (by omega) (by omega)] at fr146
  clear g
  have g := F4.2 147 (by omega) (by omega)
  rw [← g.1] at cl147
  rw [← g.2.2.2.2.2.2.1] at ln147
  rw [← g.2.2.2.1] at ia147
  rw [← o4 24 (by omega) (by omega) (by omega) (by omega) (by omega) (by omega)] at fr147
  clear g
  have g := F4.2 148 (by omega) (by omega)
  rw [← g.1] at cl148
  rw [← g.2.2.2.2.2.2.1] at ln148
  rw [← g.2.2.2.1] at ia148
  rw [← o4 25 (by omega) (by omega) (by omega) (by omega) (by omega) (by omega)] at fr148
  clear g
  have g := F4.2 149 (by omega) (by omega)
  rw [← g.1] at cl149
  rw [← g.2.2.2.2.2.2.1] at ln149
  rw [← g.2.2.2.1] at ia149
  rw [← o4 27 (by omega) (by omega) (by omega) (by omega) (by omega) (by omega)] at fr149
  clear g
  have g := F4.2 150 (by omega) (by omega)
  rw [← g.1] at cl150
  rw [← g.2.2.2.2.2.2.1] at ln150
  rw [← g.2.2.2.1] at ia150
  rw [← o4 28 (by omega) (by omega) (by omega) (by omega) (by omega) (by omega)] at fr150
  clear g
  have g := F4.2 151 (by omega) (by omega)
  rw [← g.1] at cl151
  rw [← g.2.2.2.2.2.2.1] at ln151
  rw [← g.2.2.2.1] at ia151
  rw [← o4 29 (by omega) (by omega) (by omega) (by omega) (by omega) (by omega)] at fr151
  clear g
  have g := F4.2 152 (by omega) (by omega)
  rw [← g.1] at cl152
  rw [← g.2.2.2.2.2.2.1] at ln152
  rw [← g.2.2.2.1] at ia152
  rw [← o4 30 (by omega) (by omega) (by omega) (by omega) (by omega) (by omega)] at fr152
  clear g
  have g := F4.2 153 (by omega) (by omega)
  rw [← g.1] at cl153
  rw [← g.2.2.2.2.2.2.1] at ln153
  rw [← g.2.2.2.1] at ia153
  rw [← o4 31 (by omega) (by omega) (by omega) (by omega) (by omega) (by omega)] at fr153
  clear g
  have g := F4.2 154 (by omega) (by omega)
  rw [← g.1] at cl154
  rw [← g.2.2.2.2.2.2.1] at ln154
  rw [← g.2.2.2.1] at ia154
  rw [← o4 32 (by omega) (by omega) (by omega) (by omega) (by omega) (by omega)] at fr154
  clear g
  have g := F4.2 155 (by omega) (by omega)
  rw [← g.1] at cl155
  rw [← g.2.2.2.2.2.2.1] at ln155
  rw [← g.2.2.2.1] at ia155
  rw [← o4 33 (by omega) (by omega) (by omega) (by omega) (by omega) (by omega)] at fr155
  clear g
  have F : zFr (fun p => p = 135) z a4 := zFr_trans F0 (zFr_trans F1 (zFr_trans F2 (zFr_trans F3 F4)))
  have fi : ∀ j, zfi a4 135 j = if j = 13 then -1 else 0 := fun j => by rw [i4, i3, i2, i1, i0, hf]
  have huc : zuc a4 = zuc z + 26 := by omega
  have hus : zus a4 = zus z + 330734 := by omega
  simp (disch := omega) only [s112_238, s112_239, s112_242, s112_243, s112_244, s112_245, zcs_0, zcs_1, zcs_2, zcs_3, zcs_4, zcs_5, zcs_6, zcs_7, znl_i, znl_r, znl_n, Bool.and_true, Bool.true_and, zk_v, zk_n, zk_x, zir_r, zir_n, zclr_i, zclr_r, zclr_n, zclr_d, zclr_l, true_and, and_true, and_self, if_true, if_false, reduceIte, nI_add, pk_mul, zin_ok, zx_nI, nI_lt2, nI_le2, nI_eq2, nI_l0, nI_g0, nI_q0, nI_p0, nI_n0, nI_m1, Nat.add_zero, Nat.zero_add, Nat.reduceAdd, Nat.reduceMul, true_or, or_true, znar_50, bI_0, bI_1, bI_z, bft, nI_z0, nI_z1, lgc_lt, lgc_gt, lgc_le, lgc_ge, lgc_eq, not_true_eq_false, not_false_eq_true, Bool.not_eq_true, Bool.not_eq_false, reduceCtorEq, c4, fr136, cl136, ln136]
  refine H _ ⟨zFr_sia F (Or.inl (by omega)), n4, ⟨?_, fun i => ?_, fun k hk => Or.inl ⟨rfl, ?_⟩, fun k hk => Or.inl ⟨rfl, ?_⟩, ?_⟩, huc, hus⟩
  · unfold MS
    simp only [cls_sia, len_sia, fr_sia, c4, fr136, cl136, ln136, fr137, cl137, ln137, fr138, cl138, ln138, fr139, cl139, ln139, fr140, cl140, ln140, fr141, cl141, ln141, fr142, cl142, ln142, fr143, cl143, ln143, fr144, cl144, ln144, fr145, cl145, ln145, fr146, cl146, ln146, fr147, cl147, ln147, fr148, cl148, ln148, fr149, cl149, ln149, fr150, cl150, ln150, fr151, cl151, ln151, fr152, cl152, ln152, fr153, cl153, ln153, fr154, cl154, ln154, fr155, cl155, ln155, fr156, cl156, ln156, fr157, cl157, ln157, fr158, cl158, ln158, fr159, cl159, ln159, fr160, cl160, ln160, fr161, cl161, ln161, and_self]
  · rw [ia_sia]
    by_cases e : i = 5
    · rw [e, zu2_s, v00_5]
    · rw [zu2_k _ _ _ _ e, ia136, v00_n e]; rfl
  · rw [ia_sia, zu2_n _ _ _ _ (by omega), ia138]
  · rw [ia_sia, zu2_n _ _ _ _ (by omega)]; exact ia158 k hk
  · refine ⟨by rw [fi_sia, fi]; rfl, fun k hk => by rw [ia_sia, zu2_n _ _ _ _ (by omega), ia139], by rw [fi_sia, fi]; rfl, by rw [fi_sia, fi]; rfl, 0, by omega, by rw [fi_sia, fi]; rfl⟩
end AN
