set_option maxRecDepth 100000
/-! the component made -/
section AO
variable {d : Nat} {z : ZH} {Q : ZQ}
theorem c81i {r : Nat} : ZC zG d 81 [.ref r] z Q = Q (.inl none) z := by simp (disch := omega) only [e81, s81_0, s81_1, s81_4, zcs_0, zcs_1, zcs_2, zcs_3, zcs_4, zcs_5, zcs_6, zcs_7, znl_i, znl_r, znl_n, Bool.and_true, Bool.true_and, zk_v, zk_n, zk_x, zir_r, zir_n, zclr_i, zclr_r, zclr_n, zclr_d, zclr_l, true_and, and_true, and_self, if_true, if_false, reduceIte]
theorem c85i {r : Nat} : ZC zG (d + 1) 85 [.ref r] z Q = Q (.inl none) z := by simp (disch := omega) only [e85, s85_0, s85_1, s85_4, zcs_0, zcs_1, zcs_2, zcs_3, zcs_4, zcs_5, zcs_6, zcs_7, znl_i, znl_r, znl_n, Bool.and_true, Bool.true_and, zk_v, zk_n, zk_x, zir_r, zir_n, zclr_i, zclr_r, zclr_n, zclr_d, zclr_l, true_and, and_true, and_self, if_true, if_false, reduceIte, c81i]
theorem c87i {r : Nat} : ZC zG (d + 2) 87 [.ref r] z Q = Q (.inl none) z := by simp (disch := omega) only [e87, s87_0, s87_1, s87_4, zcs_0, zcs_1, zcs_2, zcs_3, zcs_4, zcs_5, zcs_6, zcs_7, znl_i, znl_r, znl_n, Bool.and_true, Bool.true_and, zk_v, zk_n, zk_x, zir_r, zir_n, zclr_i, zclr_r, zclr_n, zclr_d, zclr_l, true_and, and_true, and_self, if_true, if_false, reduceIte, c85i]
theorem c89i {r : Nat} : ZC zG (d + 1) 89 [.ref r] z Q = Q (.inl none) z := by simp (disch := omega) only [e89, s89_0, s89_1, s89_4, zcs_0, zcs_1, zcs_2, zcs_3, zcs_4, zcs_5, zcs_6, zcs_7, znl_i, znl_r, znl_n, Bool.and_true, Bool.true_and, zk_v, zk_n, zk_x, zir_r, zir_n, zclr_i, zclr_r, zclr_n, zclr_d, zclr_l, true_and, and_true, and_self, if_true, if_false, reduceIte, c81i]
theorem c93i {r : Nat} : ZC zG (d + 2) 93 [.ref r] z Q = Q (.inl none) z := by simp (disch := omega) only [e93, s93_0, s93_1, s93_4, zcs_0, zcs_1, zcs_2, zcs_3, zcs_4, zcs_5, zcs_6, zcs_7, znl_i, znl_r, znl_n, Bool.and_true, Bool.true_and, zk_v, zk_n, zk_x, zir_r, zir_n, zclr_i, zclr_r, zclr_n, zclr_d, zclr_l, true_and, and_true, and_self, if_true, if_false, reduceIte, c89i]
theorem c109i {r : Nat} : ZC zG d 109 [.ref r] z Q = Q (.inl none) z := by simp (disch := omega) only [e109, s109_0, s109_1, s109_4, zcs_0, zcs_1, zcs_2, zcs_3, zcs_4, zcs_5, zcs_6, zcs_7, znl_i, znl_r, znl_n, Bool.and_true, Bool.true_and, zk_v, zk_n, zk_x, zir_r, zir_n, zclr_i, zclr_r, zclr_n, zclr_d, zclr_l, true_and, and_true, and_self, if_true, if_false, reduceIte]
/-- a new object of the class K (N fields), put at the place p of the array a -/
def nOb (z : ZH) (a K N p : Nat) : ZH := sra (snew z K N) a p (.ref (zn z))
def nO (z z1 : ZH) (a q K N p : Nat) : Prop := zFr (fun x => x = a) z z1 ∧ zn z1 = q + 1 ∧ (zcls z1 q = K ∧ zfr z1 q = fun _ => .null) ∧ (zcls z1 a = zcls z a ∧ zlen z1 a = zlen z a ∧ zfr z1 a = zfr z a ∧ zfi z1 a = zfi z a) ∧ (∀ j, zra z1 a j = if j = p then .ref q else zra z a j) ∧ zuc z1 = zuc z + 1 ∧ zus z1 = zus z + N
theorem nOb_ok {a q K N p : Nat} (hq : zn z = q) (ha : a < q) : nO z (nOb z a K N p) a q K N p := by
  subst hq
  unfold nOb
  refine ⟨zFr_sra (zFr_snew (zFr_refl _ _)) (Or.inr rfl), rfl, ⟨zu1_s _ _ _, zu1_s _ _ _⟩, ⟨zu1_n _ _ _ (by omega), rfl, zu1_n _ _ _ (by omega), zu1_n _ _ _ (by omega)⟩, fun j => ?_, rfl, rfl⟩
  rw [ra_sra, ra_snew]
  by_cases e : j = p
  · rw [e, zu2_s, if_pos rfl]
  · rw [zu2_k _ _ _ _ e, if_neg e]
/-- an afternoon made -/
def A95 (z z1 : ZH) (q : Nat) : Prop := zFr (fun x => x = q) z z1 ∧ zn z1 = q + 5 ∧ (zcls z1 q = 10 ∧ zfr z1 q 0 = .ref (q + 1) ∧ zfr z1 q 1 = .ref (q + 2) ∧ zfr z1 q 2 = .ref (q + 3) ∧ zfr z1 q 3 = .ref (q + 4) ∧ zfr z1 q 11 = .ref 100) ∧ (zcls z1 (q + 1) = 50 ∧ zcls z1 (q + 2) = 50 ∧ zcls z1 (q + 3) = 50 ∧ zcls z1 (q + 4) = 50 ∧ zlen z1 (q + 1) = 10 ∧ zlen z1 (q + 2) = 10240 ∧ zlen z1 (q + 3) = 10240 ∧ zlen z1 (q + 4) = 10) ∧ zuc z1 = zuc z + 4 ∧ zus z1 = zus z + 20500
theorem c95 {q : Nat} (hn : zn z = q + 1) (hq : 100 ≤ q) (hc : zcls z q = 10) (H : ∀ z', A95 z z' q → Q (.inl none) z') : ZC zG d 95 [.ref q, .ref 100] z Q := by
  refine Eq.mpr e95 ?_
  have t : ZW zG d 95 0 [.ref q, .ref 100] [] z Q = ZW zG d 95 9 [.ref q, .ref 100] [] (sfr z q 11 (.ref 100)) Q := by
    simp (disch := omega) only [s95_0, s95_1, s95_2, s95_5, s95_6, zcs_0, zcs_1, zcs_2, zcs_3, zcs_4, zcs_5, zcs_6, zcs_7, znl_i, znl_r, znl_n, Bool.and_true, Bool.true_and, zk_v, zk_n, zk_x, zir_r, zir_n, zclr_i, zclr_r, zclr_n, zclr_d, zclr_l, true_and, and_true, and_self, if_true, if_false, reduceIte, nI_add, pk_mul, zin_ok, zx_nI, nI_lt2, nI_le2, nI_eq2, nI_l0, nI_g0, nI_q0, nI_p0, nI_n0, nI_m1, Nat.add_zero, Nat.zero_add, Nat.reduceAdd, Nat.reduceMul, true_or, or_true, znar_50, bI_0, bI_1, bI_z, bft, nI_z0, nI_z1, lgc_lt, lgc_gt, lgc_le, lgc_ge, lgc_eq, not_true_eq_false, not_false_eq_true, Bool.not_eq_true, Bool.not_eq_false, reduceCtorEq, hc]
  refine Eq.mpr t ?_
  clear t
  have F0 : zFr (fun x => x = q) z (sfr z q 11 (.ref 100)) := zFr_sfr (zFr_refl _ _) (Or.inr rfl)
  have n0 : zn (sfr z q 11 (.ref 100)) = q + 1 := hn
  have c0 : zcls (sfr z q 11 (.ref 100)) q = 10 := hc
  have r0 : zfr (sfr z q 11 (.ref 100)) q 11 = .ref 100 := by rw [fr_sfr, zu2_s]
  have u0 : zuc (sfr z q 11 (.ref 100)) = zuc z := rfl
  have w0 : zus (sfr z q 11 (.ref 100)) = zus z := rfl
  generalize sfr z q 11 (.ref 100) = z0 at *
  have t : ZW zG d 95 9 [.ref q, .ref 100] [] z0 Q = ZW zG d 95 17 [.ref q, .ref 100] [] (nAr z0 q 50 10 0) Q := by
    simp (disch := omega) only [s95_9, s95_10, s95_12, s95_14, nAr, zcs_0, zcs_1, zcs_2, zcs_3, zcs_4, zcs_5, zcs_6, zcs_7, znl_i, znl_r, znl_n, Bool.and_true, Bool.true_and, zk_v, zk_n, zk_x, zir_r, zir_n, zclr_i, zclr_r, zclr_n, zclr_d, zclr_l, true_and, and_true, and_self, if_true, if_false, reduceIte, nI_add, pk_mul, zin_ok, zx_nI, nI_lt2, nI_le2, nI_eq2, nI_l0, nI_g0, nI_q0, nI_p0, nI_n0, nI_m1, Nat.add_zero, Nat.zero_add, Nat.reduceAdd, Nat.reduceMul, true_or, or_true, znar_50, bI_0, bI_1, bI_z, bft, nI_z0, nI_z1, lgc_lt, lgc_gt, lgc_le, lgc_ge, lgc_eq, not_true_eq_false, not_false_eq_true, Bool.not_eq_true, Bool.not_eq_false, reduceCtorEq, cls_sarr, zu1_n, ne_eq, c0]
  refine Eq.mpr t ?_
  clear t
  have f0 := nAr_ok (z := z0) (r := q) (q := q + 1) (K := 50) (N := 10) (f := 0) n0 (by omega)
  generalize nAr z0 q 50 10 0 = z1 at f0 ⊢
  have n1 : zn z1 = q + 2 := f0.2.1
  have c1 : zcls z1 q = 10 := f0.2.2.2.1.1.trans c0
  have t : ZW zG d 95 17 [.ref q, .ref 100] [] z1 Q = ZW zG d 95 26 [.ref q, .ref 100] [] (nAr z1 q 50 10240 1) Q := by
    simp (disch := omega) only [s95_17, s95_18, s95_21, s95_23, nAr, zcs_0, zcs_1, zcs_2, zcs_3, zcs_4, zcs_5, zcs_6, zcs_7, znl_i, znl_r, znl_n, Bool.and_true, Bool.true_and, zk_v, zk_n, zk_x, zir_r, zir_n, zclr_i, zclr_r, zclr_n, zclr_d, zclr_l, true_and, and_true, and_self, if_true, if_false, reduceIte, nI_add, pk_mul, zin_ok, zx_nI, nI_lt2, nI_le2, nI_eq2, nI_l0, nI_g0, nI_q0, nI_p0, nI_n0, nI_m1, Nat.add_zero, Nat.zero_add, Nat.reduceAdd, Nat.reduceMul, true_or, or_true, znar_50, bI_0, bI_1, bI_z, bft, nI_z0, nI_z1, lgc_lt, lgc_gt, lgc_le, lgc_ge, lgc_eq, not_true_eq_false, not_false_eq_true, Bool.not_eq_true, Bool.not_eq_false, reduceCtorEq, cls_sarr, zu1_n, ne_eq, c1]
  refine Eq.mpr t ?_
  clear t
  have f1 := nAr_ok (z := z1) (r := q) (q := q + 2) (K := 50) (N := 10240) (f := 1) n1 (by omega)
  generalize nAr z1 q 50 10240 1 = z2 at f1 ⊢
  have n2 : zn z2 = q + 3 := f1.2.1
  have c2 : zcls z2 q = 10 := f1.2.2.2.1.1.trans c1
  have t : ZW zG d 95 26 [.ref q, .ref 100] [] z2 Q = ZW zG d 95 35 [.ref q, .ref 100] [] (nAr z2 q 50 10240 2) Q := by
    simp (disch := omega) only [s95_26, s95_27, s95_30, s95_32, nAr, zcs_0, zcs_1, zcs_2, zcs_3, zcs_4, zcs_5, zcs_6, zcs_7, znl_i, znl_r, znl_n, Bool.and_true, Bool.true_and, zk_v, zk_n, zk_x, zir_r, zir_n, zclr_i, zclr_r, zclr_n, zclr_d, zclr_l, true_and, and_true, and_self, if_true, if_false, reduceIte, nI_add, pk_mul, zin_ok, zx_nI, nI_lt2, nI_le2, nI_eq2, nI_l0, nI_g0, nI_q0, nI_p0, nI_n0, nI_m1, Nat.add_zero, Nat.zero_add, Nat.reduceAdd, Nat.reduceMul, true_or, or_true, znar_50, bI_0, bI_1, bI_z, bft, nI_z0, nI_z1, lgc_lt, lgc_gt, lgc_le, lgc_ge, lgc_eq, not_true_eq_false, not_false_eq_true, Bool.not_eq_true, Bool.not_eq_false, reduceCtorEq, cls_sarr, zu1_n, ne_eq, c2]
  refine Eq.mpr t ?_
  clear t
  have f2 := nAr_ok (z := z2) (r := q) (q := q + 3) (K := 50) (N := 10240) (f := 2) n2 (by omega)
  generalize nAr z2 q 50 10240 2 = z3 at f2 ⊢
  have n3 : zn z3 = q + 4 := f2.2.1
  have c3 : zcls z3 q = 10 := f2.2.2.2.1.1.trans c2
  have t : ZW zG d 95 35 [.ref q, .ref 100] [] z3 Q = ZW zG d 95 43 [.ref q, .ref 100] [] (nAr z3 q 50 10 3) Q := by
    simp (disch := omega) only [s95_35, s95_36, s95_38, s95_40, nAr, zcs_0, zcs_1, zcs_2, zcs_3, zcs_4, zcs_5, zcs_6, zcs_7, znl_i, znl_r, znl_n, Bool.and_true, Bool.true_and, zk_v, zk_n, zk_x, zir_r, zir_n, zclr_i, zclr_r, zclr_n, zclr_d, zclr_l, true_and, and_true, and_self, if_true, if_false, reduceIte, nI_add, pk_mul, zin_ok, zx_nI, nI_lt2, nI_le2, nI_eq2, nI_l0, nI_g0, nI_q0, nI_p0, nI_n0, nI_m1, Nat.add_zero, Nat.zero_add, Nat.reduceAdd, Nat.reduceMul, true_or, or_true, znar_50, bI_0, bI_1, bI_z, bft, nI_z0, nI_z1, lgc_lt, lgc_gt, lgc_le, lgc_ge, lgc_eq, not_true_eq_false, not_false_eq_true, Bool.not_eq_true, Bool.not_eq_false, reduceCtorEq, cls_sarr, zu1_n, ne_eq, c3]
  refine Eq.mpr t ?_
  clear t
  have f3 := nAr_ok (z := z3) (r := q) (q := q + 4) (K := 50) (N := 10) (f := 3) n3 (by omega)
  generalize nAr z3 q 50 10 3 = z4 at f3 ⊢
  have n4 : zn z4 = q + 5 := f3.2.1
  have c4 : zcls z4 q = 10 := f3.2.2.2.1.1.trans c3
  have G4 : zFr (fun x => x = q) z4 z4 := zFr_refl _ _
  have G3 := zFr_trans f3.1 G4
  have G2 := zFr_trans f2.1 G3
  have G1 := zFr_trans f1.1 G2
  have G0 := zFr_trans f0.1 G1
  have g1 := G1.2 (q + 1) (by omega) (by omega)
  have g2 := G2.2 (q + 2) (by omega) (by omega)
  have g3 := G3.2 (q + 3) (by omega) (by omega)
  simp (disch := omega) only [s95_43, zcs_0, zcs_1, zcs_2, zcs_3, zcs_4, zcs_5, zcs_6, zcs_7, znl_i, znl_r, znl_n, Bool.and_true, Bool.true_and, zk_v, zk_n, zk_x, zir_r, zir_n, zclr_i, zclr_r, zclr_n, zclr_d, zclr_l, true_and, and_true, and_self, if_true, if_false, reduceIte, nI_add, pk_mul, zin_ok, zx_nI, nI_lt2, nI_le2, nI_eq2, nI_l0, nI_g0, nI_q0, nI_p0, nI_n0, nI_m1, Nat.add_zero, Nat.zero_add, Nat.reduceAdd, Nat.reduceMul, true_or, or_true, znar_50, bI_0, bI_1, bI_z, bft, nI_z0, nI_z1, lgc_lt, lgc_gt, lgc_le, lgc_ge, lgc_eq, not_true_eq_false, not_false_eq_true, Bool.not_eq_true, Bool.not_eq_false, reduceCtorEq]
  refine H _ ⟨zFr_trans F0 G0, n4, ⟨c4, ?_, ?_, ?_, ?_, ?_⟩, ⟨g1.1.trans f0.2.2.1.1, g2.1.trans f1.2.2.1.1, g3.1.trans f2.2.2.1.1, f3.2.2.1.1, g1.2.2.2.2.2.2.1.trans f0.2.2.1.2.1, g2.2.2.2.2.2.2.1.trans f1.2.2.1.2.1, g3.2.2.2.2.2.2.1.trans f2.2.2.1.2.1, f3.2.2.1.2.1⟩, ?_, ?_⟩
  all_goals simp only [f3.2.2.2.2.1, f2.2.2.2.2.1, f1.2.2.2.2.1, f0.2.2.2.2.1, Nat.reduceEqDiff, if_false, if_true, reduceIte, eq_self, r0, f3.2.2.2.2.2.1, f2.2.2.2.2.2.1, f1.2.2.2.2.2.1, f0.2.2.2.2.2.1, f3.2.2.2.2.2.2, f2.2.2.2.2.2.2, f1.2.2.2.2.2.2, f0.2.2.2.2.2.2, u0, w0, Nat.add_assoc, Nat.reduceAdd]
/-- the component's part behind its making -/
def CR0 (z : ZH) : Prop := CS z ∧ RS (fun q => q = 103 ∨ q = 104 ∨ q = 106 ∨ q = 107) z 102 v00 (fun _ => []) ∧ BK (fun q => q = 103 ∨ q = 104 ∨ q = 106 ∨ q = 107) (fun _ => 1) z ∧ (∀ k, k < 3 → zra z 116 k = .null) ∧ (∀ k, k < 4 → zfr z (131 + k) 0 = .null) ∧ cFe 0 (fun _ => 0) 0 (-1) z
def C00 (z z' : ZH) : Prop := zFr (fun q => q = 100) z z' ∧ zn z' = 135 ∧ CR0 z' ∧ zuc z' ≤ zuc z + 40 ∧ zus z' ≤ zus z + 89700
theorem zael_p {z : ZH} {q K : Nat} (hq : 100 ≤ q) (h : zcls z q = K) (hK : 6 ≤ K ∧ K ≤ 9) : zael z 62 (.ref q) = true := by
  simp [zael, h, hq, hK.1, hK.2]
theorem zael_o {z : ZH} {q : Nat} (hq : 100 ≤ q) (h : zcls z q = 11) : zael z 60 (.ref q) = true := by
  simp [zael, h, hq]
theorem sfr_ok {z : ZH} {r f : Nat} {x : Value} : zFr (fun p => p = r) z (sfr z r f x) ∧ zn (sfr z r f x) = zn z ∧ (zcls (sfr z r f x) r = zcls z r ∧ zfi (sfr z r f x) r = zfi z r ∧ zra (sfr z r f x) r = zra z r) ∧ (∀ j, zfr (sfr z r f x) r j = if j = f then x else zfr z r j) ∧ zuc (sfr z r f x) = zuc z ∧ zus (sfr z r f x) = zus z := ⟨zFr_sfr (zFr_refl _ _) (Or.inr rfl), rfl, ⟨rfl, rfl, rfl⟩, fun j => by
  rw [fr_sfr]
  by_cases e : j = f
  · rw [e, zu2_s, if_pos rfl]
  · rw [zu2_k _ _ _ _ e, if_neg e], rfl, rfl⟩
def c5AF (z0 z1 : ZH) : Prop := zFr (fun q => q = 100) z0 z1 ∧ zn z1 = 102 ∧ zcls z1 100 = 0 ∧ zfi z1 100 = zfi z0 100 ∧ (∀ j, zfr z1 100 j = if j = 0 then .ref 101 else zfr z0 100 j) ∧ (zcls z1 101 = 60 ∧ zlen z1 101 = 4) ∧ zuc z1 = zuc z0 + 1 ∧ zus z1 = zus z0 + 4
theorem c5A {z0 : ZH} (n0 : zn z0 = 101) (c0 : zcls z0 100 = 0) (H : ∀ z1, c5AF z0 z1 → ZW zG (d + 3) 5 12 [.ref 100, zdum] [] z1 Q) : ZW zG (d + 3) 5 4 [.ref 100, zdum] [] z0 Q := by
  have t : ZW zG (d + 3) 5 4 [.ref 100, zdum] [] z0 Q = ZW zG (d + 3) 5 12 [.ref 100, zdum] [] (nAr z0 100 60 4 0) Q := by
    simp (disch := omega) only [s5_4, s5_5, s5_6, s5_9, nAr, zcs_0, zcs_1, zcs_2, zcs_3, zcs_4, zcs_5, zcs_6, zcs_7, znl_i, znl_r, znl_n, Bool.and_true, Bool.true_and, zk_v, zk_n, zk_x, zir_r, zir_n, zclr_i, zclr_r, zclr_n, zclr_d, zclr_l, true_and, and_true, and_self, if_true, if_false, reduceIte, nI_add, pk_mul, zin_ok, zx_nI, nI_lt2, nI_le2, nI_eq2, nI_l0, nI_g0, nI_q0, nI_p0, nI_n0, nI_m1, Nat.add_zero, Nat.zero_add, Nat.reduceAdd, Nat.reduceMul, true_or, or_true, znar_50, bI_0, bI_1, bI_z, bft, nI_z0, nI_z1, lgc_lt, lgc_gt, lgc_le, lgc_ge, lgc_eq, not_true_eq_false, not_false_eq_true, Bool.not_eq_true, Bool.not_eq_false, reduceCtorEq, cls_sarr, zu1_n, ne_eq, c0]
  refine Eq.mpr t ?_
  clear t
  have f0 := nAr_ok (z := z0) (r := 100) (q := 101) (K := 60) (N := 4) (f := 0) n0 (by omega)
  generalize nAr z0 100 60 4 0 = z1 at f0 ⊢
  have n1 : zn z1 = 102 := f0.2.1
  have c1 : zcls z1 100 = 0 := f0.2.2.2.1.1.trans c0
  have i1 : zfi z1 100 = zfi z0 100 := f0.2.2.2.1.2.1
  have r1 := f0.2.2.2.2.1
  have u1 := f0.2.2.2.2.2.1
  have w1 := f0.2.2.2.2.2.2
  have F1 := f0.1
  exact H _ ⟨F1, n1, c1, i1, r1, ⟨f0.2.2.1.1, f0.2.2.1.2.1⟩, u1, w1⟩
def c5BF (z3 z1 : ZH) : Prop := zFr (fun q => q = 100) z3 z1 ∧ zn z1 = 117 ∧ zcls z1 100 = 0 ∧ zfi z1 100 = zfi z3 100 ∧ (∀ j, zfr z1 100 j = if j = 2 then .ref 116 else if j = 1 then .ref 102 else zfr z3 100 j) ∧ (zcls z1 116 = 61 ∧ zlen z1 116 = 3 ∧ zra z1 116 = fun _ => .null) ∧ zuc z1 = zuc z3 + 1 ∧ zus z1 = zus z3 + 3
theorem c5B {z3 : ZH} (n3 : zn z3 = 116) (c3 : zcls z3 100 = 0) (H : ∀ z1, c5BF z3 z1 → ZW zG (d + 3) 5 31 [.ref 100, zdum] [] z1 Q) : zk zG (d + 3) 5 none 20 [.ref 100, zdum] [.ref 102, .ref 100] Q (.inl none) z3 := by
  have t : zk zG (d + 3) 5 none 20 [.ref 100, zdum] [.ref 102, .ref 100] Q (.inl none) z3 = ZW zG (d + 3) 5 23 [.ref 100, zdum] [] (sfr z3 100 1 (.ref 102)) Q := by
    simp (disch := omega) only [s5_20, zcs_0, zcs_1, zcs_2, zcs_3, zcs_4, zcs_5, zcs_6, zcs_7, znl_i, znl_r, znl_n, Bool.and_true, Bool.true_and, zk_v, zk_n, zk_x, zir_r, zir_n, zclr_i, zclr_r, zclr_n, zclr_d, zclr_l, true_and, and_true, and_self, if_true, if_false, reduceIte, nI_add, pk_mul, zin_ok, zx_nI, nI_lt2, nI_le2, nI_eq2, nI_l0, nI_g0, nI_q0, nI_p0, nI_n0, nI_m1, Nat.add_zero, Nat.zero_add, Nat.reduceAdd, Nat.reduceMul, true_or, or_true, znar_50, bI_0, bI_1, bI_z, bft, nI_z0, nI_z1, lgc_lt, lgc_gt, lgc_le, lgc_ge, lgc_eq, not_true_eq_false, not_false_eq_true, Bool.not_eq_true, Bool.not_eq_false, reduceCtorEq, c3]
  refine Eq.mpr t ?_
  clear t
  have f3 := sfr_ok (z := z3) (r := 100) (f := 1) (x := .ref 102)
  generalize sfr z3 100 1 (.ref 102) = z4 at f3 ⊢
  have n4 : zn z4 = zn z3 := f3.2.1
  rw [n3] at n4
  have c4 : zcls z4 100 = 0 := f3.2.2.1.1.trans c3
  have i4 : zfi z4 100 = zfi z3 100 := f3.2.2.1.2.1
  have r4 := f3.2.2.2.1
  have u4 := f3.2.2.2.2.1
  have w4 := f3.2.2.2.2.2
  have F4 := f3.1
  have t : ZW zG (d + 3) 5 23 [.ref 100, zdum] [] z4 Q = ZW zG (d + 3) 5 31 [.ref 100, zdum] [] (nAr z4 100 61 3 2) Q := by
    simp (disch := omega) only [s5_23, s5_24, s5_25, s5_28, nAr, zcs_0, zcs_1, zcs_2, zcs_3, zcs_4, zcs_5, zcs_6, zcs_7, znl_i, znl_r, znl_n, Bool.and_true, Bool.true_and, zk_v, zk_n, zk_x, zir_r, zir_n, zclr_i, zclr_r, zclr_n, zclr_d, zclr_l, true_and, and_true, and_self, if_true, if_false, reduceIte, nI_add, pk_mul, zin_ok, zx_nI, nI_lt2, nI_le2, nI_eq2, nI_l0, nI_g0, nI_q0, nI_p0, nI_n0, nI_m1, Nat.add_zero, Nat.zero_add, Nat.reduceAdd, Nat.reduceMul, true_or, or_true, znar_50, bI_0, bI_1, bI_z, bft, nI_z0, nI_z1, lgc_lt, lgc_gt, lgc_le, lgc_ge, lgc_eq, not_true_eq_false, not_false_eq_true, Bool.not_eq_true, Bool.not_eq_false, reduceCtorEq, cls_sarr, zu1_n, ne_eq, c4]
  refine Eq.mpr t ?_
  clear t
  have f4 := nAr_ok (z := z4) (r := 100) (q := 116) (K := 61) (N := 3) (f := 2) n4 (by omega)
  generalize nAr z4 100 61 3 2 = z5 at f4 ⊢
  have n5 : zn z5 = 117 := f4.2.1
  have c5 : zcls z5 100 = 0 := f4.2.2.2.1.1.trans c4
  have i5 : zfi z5 100 = zfi z4 100 := f4.2.2.2.1.2.1
  have r5 := f4.2.2.2.2.1
  have u5 := f4.2.2.2.2.2.1
  have w5 := f4.2.2.2.2.2.2
  have F5 := f4.1
  exact H _ ⟨zFr_trans F4 F5, n5, c5, i5.trans i4, fun j => by rw [r5, r4], ⟨f4.2.2.1.1, f4.2.2.1.2.1, f4.2.2.1.2.2.2.2⟩, by rw [u5, u4], by rw [w5, w4]⟩
def c5CF (z5 z1 : ZH) : Prop := zFr (fun q => q = 100) z5 z1 ∧ zn z1 = 122 ∧ zcls z1 100 = 0 ∧ zfi z1 100 = zfi z5 100 ∧ (∀ j, zfr z1 100 j = if j = 3 then .ref 117 else zfr z5 100 j) ∧ (zcls z1 117 = 62 ∧ zlen z1 117 = 4) ∧ (zra z1 117 0 = .ref 118 ∧ zra z1 117 1 = .ref 119 ∧ zra z1 117 2 = .ref 120 ∧ zra z1 117 3 = .ref 121) ∧ (zcls z1 118 = 6 ∧ zcls z1 119 = 7 ∧ zcls z1 120 = 8 ∧ zcls z1 121 = 9) ∧ zuc z1 = zuc z5 + 5 ∧ zus z1 = zus z5 + 4
theorem c5C {z5 : ZH} (n5 : zn z5 = 117) (c5 : zcls z5 100 = 0) (H : ∀ z1, c5CF z5 z1 → ZW zG (d + 3) 5 79 [.ref 100, zdum] [] z1 Q) : ZW zG (d + 3) 5 31 [.ref 100, zdum] [] z5 Q := by
  have t : ZW zG (d + 3) 5 31 [.ref 100, zdum] [] z5 Q = ZW zG (d + 3) 5 36 [.ref 100, zdum] [.ref 117, .ref 100] (sarr z5 62 4) Q := by
    simp (disch := omega) only [s5_31, s5_32, s5_33, zcs_0, zcs_1, zcs_2, zcs_3, zcs_4, zcs_5, zcs_6, zcs_7, znl_i, znl_r, znl_n, Bool.and_true, Bool.true_and, zk_v, zk_n, zk_x, zir_r, zir_n, zclr_i, zclr_r, zclr_n, zclr_d, zclr_l, true_and, and_true, and_self, if_true, if_false, reduceIte, nI_add, pk_mul, zin_ok, zx_nI, nI_lt2, nI_le2, nI_eq2, nI_l0, nI_g0, nI_q0, nI_p0, nI_n0, nI_m1, Nat.add_zero, Nat.zero_add, Nat.reduceAdd, Nat.reduceMul, true_or, or_true, znar_50, bI_0, bI_1, bI_z, bft, nI_z0, nI_z1, lgc_lt, lgc_gt, lgc_le, lgc_ge, lgc_eq, not_true_eq_false, not_false_eq_true, Bool.not_eq_true, Bool.not_eq_false, reduceCtorEq, n5]
  refine Eq.mpr t ?_
  clear t
  have F6 : zFr (fun _ => False) z5 (sarr z5 62 4) := zFr_sarr (zFr_refl _ _)
  have n6 : zn (sarr z5 62 4) = 118 := by rw [n_sarr, n5]
  have kc6 : zcls (sarr z5 62 4) 117 = 62 := by rw [cls_sarr, n5, zu1_s]
  have kl6 : zlen (sarr z5 62 4) 117 = 4 := by rw [len_sarr, n5, zu1_s]
  have u6 : zuc (sarr z5 62 4) = zuc z5 + 1 := rfl
  have w6 : zus (sarr z5 62 4) = zus z5 + 4 := rfl
  generalize sarr z5 62 4 = z6 at *
  have h100 := F6.2 100 (by omega) (by first | exact fun w => w | omega)
  have c6 : zcls z6 100 = 0 := h100.1.trans c5
  have i6 : zfi z6 100 = zfi z5 100 := h100.2.1
  have r6 : zfr z6 100 = zfr z5 100 := h100.2.2.1
  clear h100
  have ze : zael (snew z6 6 0) 62 (.ref (zn z6)) = true := zael_p (by omega) (by rw [cls_snew, zu1_s]) (by omega)
  have t : ZW zG (d + 3) 5 36 [.ref 100, zdum] [.ref 117, .ref 100] z6 Q = ZW zG (d + 3) 5 46 [.ref 100, zdum] [.ref 117, .ref 100] (nOb z6 117 6 0 0) Q := by
    simp (disch := omega) only [s5_36, s5_37, s5_38, s5_41, s5_42, s5_45, nOb, zcs_0, zcs_1, zcs_2, zcs_3, zcs_4, zcs_5, zcs_6, zcs_7, znl_i, znl_r, znl_n, Bool.and_true, Bool.true_and, zk_v, zk_n, zk_x, zir_r, zir_n, zclr_i, zclr_r, zclr_n, zclr_d, zclr_l, true_and, and_true, and_self, if_true, if_false, reduceIte, nI_add, pk_mul, zin_ok, zx_nI, nI_lt2, nI_le2, nI_eq2, nI_l0, nI_g0, nI_q0, nI_p0, nI_n0, nI_m1, Nat.add_zero, Nat.zero_add, Nat.reduceAdd, Nat.reduceMul, true_or, or_true, znar_50, bI_0, bI_1, bI_z, bft, nI_z0, nI_z1, lgc_lt, lgc_gt, lgc_le, lgc_ge, lgc_eq, not_true_eq_false, not_false_eq_true, Bool.not_eq_true, Bool.not_eq_false, reduceCtorEq, c85i, cls_snew, len_snew, zu1_n, ne_eq, kc6, kl6, ze]
  refine Eq.mpr t ?_
  clear t ze
  have f6 := nOb_ok (z := z6) (a := 117) (q := 118) (K := 6) (N := 0) (p := 0) n6 (by omega)
  generalize nOb z6 117 6 0 0 = z7 at f6 ⊢
  have n7 : zn z7 = 119 := f6.2.1
  have kc7 : zcls z7 117 = 62 := f6.2.2.2.1.1.trans kc6
  have kl7 : zlen z7 117 = 4 := f6.2.2.2.1.2.1.trans kl6
  have u7 := f6.2.2.2.2.2.1
  have w7 := f6.2.2.2.2.2.2
  have F7 := f6.1
  have h100 := F7.2 100 (by omega) (by first | exact fun w => w | omega)
  have c7 : zcls z7 100 = 0 := h100.1.trans c6
  have i7 : zfi z7 100 = zfi z6 100 := h100.2.1
  have r7 : zfr z7 100 = zfr z6 100 := h100.2.2.1
  clear h100
  have ze : zael (snew z7 7 0) 62 (.ref (zn z7)) = true := zael_p (by omega) (by rw [cls_snew, zu1_s]) (by omega)
  have t : ZW zG (d + 3) 5 46 [.ref 100, zdum] [.ref 117, .ref 100] z7 Q = ZW zG (d + 3) 5 56 [.ref 100, zdum] [.ref 117, .ref 100] (nOb z7 117 7 0 1) Q := by
    simp (disch := omega) only [s5_46, s5_47, s5_48, s5_51, s5_52, s5_55, nOb, zcs_0, zcs_1, zcs_2, zcs_3, zcs_4, zcs_5, zcs_6, zcs_7, znl_i, znl_r, znl_n, Bool.and_true, Bool.true_and, zk_v, zk_n, zk_x, zir_r, zir_n, zclr_i, zclr_r, zclr_n, zclr_d, zclr_l, true_and, and_true, and_self, if_true, if_false, reduceIte, nI_add, pk_mul, zin_ok, zx_nI, nI_lt2, nI_le2, nI_eq2, nI_l0, nI_g0, nI_q0, nI_p0, nI_n0, nI_m1, Nat.add_zero, Nat.zero_add, Nat.reduceAdd, Nat.reduceMul, true_or, or_true, znar_50, bI_0, bI_1, bI_z, bft, nI_z0, nI_z1, lgc_lt, lgc_gt, lgc_le, lgc_ge, lgc_eq, not_true_eq_false, not_false_eq_true, Bool.not_eq_true, Bool.not_eq_false, reduceCtorEq, c87i, cls_snew, len_snew, zu1_n, ne_eq, kc7, kl7, ze]
  refine Eq.mpr t ?_
  clear t ze
  have f7 := nOb_ok (z := z7) (a := 117) (q := 119) (K := 7) (N := 0) (p := 1) n7 (by omega)
  generalize nOb z7 117 7 0 1 = z8 at f7 ⊢
  have n8 : zn z8 = 120 := f7.2.1
  have kc8 : zcls z8 117 = 62 := f7.2.2.2.1.1.trans kc7
  have kl8 : zlen z8 117 = 4 := f7.2.2.2.1.2.1.trans kl7
  have u8 := f7.2.2.2.2.2.1
  have w8 := f7.2.2.2.2.2.2
  have F8 := f7.1
  have h100 := F8.2 100 (by omega) (by first | exact fun w => w | omega)
  have c8 : zcls z8 100 = 0 := h100.1.trans c7
  have i8 : zfi z8 100 = zfi z7 100 := h100.2.1
  have r8 : zfr z8 100 = zfr z7 100 := h100.2.2.1
  clear h100
  have ze : zael (snew z8 8 0) 62 (.ref (zn z8)) = true := zael_p (by omega) (by rw [cls_snew, zu1_s]) (by omega)
  have t : ZW zG (d + 3) 5 56 [.ref 100, zdum] [.ref 117, .ref 100] z8 Q = ZW zG (d + 3) 5 66 [.ref 100, zdum] [.ref 117, .ref 100] (nOb z8 117 8 0 2) Q := by
    simp (disch := omega) only [s5_56, s5_57, s5_58, s5_61, s5_62, s5_65, nOb, zcs_0, zcs_1, zcs_2, zcs_3, zcs_4, zcs_5, zcs_6, zcs_7, znl_i, znl_r, znl_n, Bool.and_true, Bool.true_and, zk_v, zk_n, zk_x, zir_r, zir_n, zclr_i, zclr_r, zclr_n, zclr_d, zclr_l, true_and, and_true, and_self, if_true, if_false, reduceIte, nI_add, pk_mul, zin_ok, zx_nI, nI_lt2, nI_le2, nI_eq2, nI_l0, nI_g0, nI_q0, nI_p0, nI_n0, nI_m1, Nat.add_zero, Nat.zero_add, Nat.reduceAdd, Nat.reduceMul, true_or, or_true, znar_50, bI_0, bI_1, bI_z, bft, nI_z0, nI_z1, lgc_lt, lgc_gt, lgc_le, lgc_ge, lgc_eq, not_true_eq_false, not_false_eq_true, Bool.not_eq_true, Bool.not_eq_false, reduceCtorEq, c89i, cls_snew, len_snew, zu1_n, ne_eq, kc8, kl8, ze]
  refine Eq.mpr t ?_
  clear t ze
  have f8 := nOb_ok (z := z8) (a := 117) (q := 120) (K := 8) (N := 0) (p := 2) n8 (by omega)
  generalize nOb z8 117 8 0 2 = z9 at f8 ⊢
  have n9 : zn z9 = 121 := f8.2.1
  have kc9 : zcls z9 117 = 62 := f8.2.2.2.1.1.trans kc8
  have kl9 : zlen z9 117 = 4 := f8.2.2.2.1.2.1.trans kl8
  have u9 := f8.2.2.2.2.2.1
  have w9 := f8.2.2.2.2.2.2
  have F9 := f8.1
  have h100 := F9.2 100 (by omega) (by first | exact fun w => w | omega)
  have c9 : zcls z9 100 = 0 := h100.1.trans c8
  have i9 : zfi z9 100 = zfi z8 100 := h100.2.1
  have r9 : zfr z9 100 = zfr z8 100 := h100.2.2.1
  clear h100
  have ze : zael (snew z9 9 0) 62 (.ref (zn z9)) = true := zael_p (by omega) (by rw [cls_snew, zu1_s]) (by omega)
  have t : ZW zG (d + 3) 5 66 [.ref 100, zdum] [.ref 117, .ref 100] z9 Q = ZW zG (d + 3) 5 76 [.ref 100, zdum] [.ref 117, .ref 100] (nOb z9 117 9 0 3) Q := by
    simp (disch := omega) only [s5_66, s5_67, s5_68, s5_71, s5_72, s5_75, nOb, zcs_0, zcs_1, zcs_2, zcs_3, zcs_4, zcs_5, zcs_6, zcs_7, znl_i, znl_r, znl_n, Bool.and_true, Bool.true_and, zk_v, zk_n, zk_x, zir_r, zir_n, zclr_i, zclr_r, zclr_n, zclr_d, zclr_l, true_and, and_true, and_self, if_true, if_false, reduceIte, nI_add, pk_mul, zin_ok, zx_nI, nI_lt2, nI_le2, nI_eq2, nI_l0, nI_g0, nI_q0, nI_p0, nI_n0, nI_m1, Nat.add_zero, Nat.zero_add, Nat.reduceAdd, Nat.reduceMul, true_or, or_true, znar_50, bI_0, bI_1, bI_z, bft, nI_z0, nI_z1, lgc_lt, lgc_gt, lgc_le, lgc_ge, lgc_eq, not_true_eq_false, not_false_eq_true, Bool.not_eq_true, Bool.not_eq_false, reduceCtorEq, c93i, cls_snew, len_snew, zu1_n, ne_eq, kc9, kl9, ze]
  refine Eq.mpr t ?_
  clear t ze
  have f9 := nOb_ok (z := z9) (a := 117) (q := 121) (K := 9) (N := 0) (p := 3) n9 (by omega)
  generalize nOb z9 117 9 0 3 = z10 at f9 ⊢
  have n10 : zn z10 = 122 := f9.2.1
  have kc10 : zcls z10 117 = 62 := f9.2.2.2.1.1.trans kc9
  have kl10 : zlen z10 117 = 4 := f9.2.2.2.1.2.1.trans kl9
  have u10 := f9.2.2.2.2.2.1
  have w10 := f9.2.2.2.2.2.2
  have F10 := f9.1
  have h100 := F10.2 100 (by omega) (by first | exact fun w => w | omega)
  have c10 : zcls z10 100 = 0 := h100.1.trans c9
  have i10 : zfi z10 100 = zfi z9 100 := h100.2.1
  have r10 : zfr z10 100 = zfr z9 100 := h100.2.2.1
  clear h100
  have t : ZW zG (d + 3) 5 76 [.ref 100, zdum] [.ref 117, .ref 100] z10 Q = ZW zG (d + 3) 5 79 [.ref 100, zdum] [] (sfr z10 100 3 (.ref 117)) Q := by
    simp (disch := omega) only [s5_76, zcs_0, zcs_1, zcs_2, zcs_3, zcs_4, zcs_5, zcs_6, zcs_7, znl_i, znl_r, znl_n, Bool.and_true, Bool.true_and, zk_v, zk_n, zk_x, zir_r, zir_n, zclr_i, zclr_r, zclr_n, zclr_d, zclr_l, true_and, and_true, and_self, if_true, if_false, reduceIte, nI_add, pk_mul, zin_ok, zx_nI, nI_lt2, nI_le2, nI_eq2, nI_l0, nI_g0, nI_q0, nI_p0, nI_n0, nI_m1, Nat.add_zero, Nat.zero_add, Nat.reduceAdd, Nat.reduceMul, true_or, or_true, znar_50, bI_0, bI_1, bI_z, bft, nI_z0, nI_z1, lgc_lt, lgc_gt, lgc_le, lgc_ge, lgc_eq, not_true_eq_false, not_false_eq_true, Bool.not_eq_true, Bool.not_eq_false, reduceCtorEq, c10]
  refine Eq.mpr t ?_
  clear t
  have f10 := sfr_ok (z := z10) (r := 100) (f := 3) (x := .ref 117)
  generalize sfr z10 100 3 (.ref 117) = z11 at f10 ⊢
  have n11 : zn z11 = zn z10 := f10.2.1
  rw [n10] at n11
  have c11 : zcls z11 100 = 0 := f10.2.2.1.1.trans c10
  have i11 : zfi z11 100 = zfi z10 100 := f10.2.2.1.2.1
  have r11 := f10.2.2.2.1
  have u11 := f10.2.2.2.2.1
  have w11 := f10.2.2.2.2.2
  have F11 := f10.1
  have G11 : zFr (fun q => False) z11 z11 := zFr_refl _ _
  have G10 : zFr (fun q => q = 100) z10 z11 := zFr_tr (zFr_mono (fun q _ w => by first | exact False.elim w | omega) F11) G11 (fun q _ w => by first | exact False.elim w | omega)
  have G9 : zFr (fun q => q = 100 ∨ q = 117) z9 z11 := zFr_tr (zFr_mono (fun q _ w => by first | exact False.elim w | omega) F10) G10 (fun q _ w => by first | exact False.elim w | omega)
  have G8 : zFr (fun q => q = 100 ∨ q = 117) z8 z11 := zFr_tr (zFr_mono (fun q _ w => by first | exact False.elim w | omega) F9) G9 (fun q _ w => by first | exact False.elim w | omega)
  have G7 : zFr (fun q => q = 100 ∨ q = 117) z7 z11 := zFr_tr (zFr_mono (fun q _ w => by first | exact False.elim w | omega) F8) G8 (fun q _ w => by first | exact False.elim w | omega)
  have G6 : zFr (fun q => q = 100 ∨ q = 117) z6 z11 := zFr_tr (zFr_mono (fun q _ w => by first | exact False.elim w | omega) F7) G7 (fun q _ w => by first | exact False.elim w | omega)
  have G5 : zFr (fun q => q = 100 ∨ q = 117) z5 z11 := zFr_tr (zFr_mono (fun q _ w => by first | exact False.elim w | omega) F6) G6 (fun q _ w => by first | exact False.elim w | omega)
  have g117 := G10.2 117 (by omega) (by omega)
  refine H _ ⟨zFr_mono (fun q hq w => by omega) G5, n11, c11, by rw [i11, i10, i9, i8, i7, i6], fun j => by rw [r11, r10, r9, r8, r7, r6], ⟨g117.1.trans kc10, g117.2.2.2.2.2.2.1.trans kl10⟩, ⟨?_, ?_, ?_, ?_⟩, ⟨(G7.2 118 (by omega) (by omega)).1.trans f6.2.2.1.1, (G8.2 119 (by omega) (by omega)).1.trans f7.2.2.1.1, (G9.2 120 (by omega) (by omega)).1.trans f8.2.2.1.1, (G10.2 121 (by omega) (by omega)).1.trans f9.2.2.1.1⟩, by simp only [u11, u10, u9, u8, u7, u6, Nat.add_assoc, Nat.reduceAdd], by simp only [w11, w10, w9, w8, w7, w6, Nat.add_assoc, Nat.reduceAdd]⟩
  all_goals (rw [g117.2.2.2.2.2.1]; simp only [f9.2.2.2.2.1, f8.2.2.2.2.1, f7.2.2.2.2.1, f6.2.2.2.2.1, Nat.reduceEqDiff, if_false, if_true, reduceIte, eq_self])
def c5DF (z11 z1 : ZH) : Prop := zFr (fun q => q = 100) z11 z1 ∧ zn z1 = 127 ∧ zcls z1 100 = 0 ∧ zfi z1 100 = zfi z11 100 ∧ (∀ j, zfr z1 100 j = if j = 4 then .ref 122 else zfr z11 100 j) ∧ (zcls z1 122 = 10 ∧ zfr z1 122 0 = .ref 123 ∧ zfr z1 122 1 = .ref 124 ∧ zfr z1 122 2 = .ref 125 ∧ zfr z1 122 3 = .ref 126 ∧ zfr z1 122 11 = .ref 100) ∧ (zcls z1 123 = 50 ∧ zcls z1 124 = 50 ∧ zcls z1 125 = 50 ∧ zcls z1 126 = 50 ∧ zlen z1 123 = 10 ∧ zlen z1 124 = 10240 ∧ zlen z1 125 = 10240 ∧ zlen z1 126 = 10) ∧ zuc z1 = zuc z11 + 5 ∧ zus z1 = zus z11 + 20512
theorem c5D {z11 : ZH} (n11 : zn z11 = 122) (c11 : zcls z11 100 = 0) (H : ∀ z1, c5DF z11 z1 → ZW zG (d + 3) 5 91 [.ref 100, zdum] [] z1 Q) : ZW zG (d + 3) 5 79 [.ref 100, zdum] [] z11 Q := by
  have t : ZW zG (d + 3) 5 79 [.ref 100, zdum] [] z11 Q = ZC zG (d + 2) 95 [.ref 122, .ref 100] (snew z11 10 12) (zk zG (d + 3) 5 none 88 [.ref 100, zdum] [.ref 122, .ref 100] Q) := by
    simp (disch := omega) only [s5_79, s5_80, s5_83, s5_84, s5_85, zcs_0, zcs_1, zcs_2, zcs_3, zcs_4, zcs_5, zcs_6, zcs_7, znl_i, znl_r, znl_n, Bool.and_true, Bool.true_and, zk_v, zk_n, zk_x, zir_r, zir_n, zclr_i, zclr_r, zclr_n, zclr_d, zclr_l, true_and, and_true, and_self, if_true, if_false, reduceIte, nI_add, pk_mul, zin_ok, zx_nI, nI_lt2, nI_le2, nI_eq2, nI_l0, nI_g0, nI_q0, nI_p0, nI_n0, nI_m1, Nat.add_zero, Nat.zero_add, Nat.reduceAdd, Nat.reduceMul, true_or, or_true, znar_50, bI_0, bI_1, bI_z, bft, nI_z0, nI_z1, lgc_lt, lgc_gt, lgc_le, lgc_ge, lgc_eq, not_true_eq_false, not_false_eq_true, Bool.not_eq_true, Bool.not_eq_false, reduceCtorEq, n11]
  refine Eq.mpr t ?_
  clear t
  have F12 : zFr (fun _ => False) z11 (snew z11 10 12) := zFr_snew (zFr_refl _ _)
  have n12 : zn (snew z11 10 12) = 123 := by rw [n_snew, n11]
  have k12 : zcls (snew z11 10 12) 122 = 10 := by rw [cls_snew, n11, zu1_s]
  have u12 : zuc (snew z11 10 12) = zuc z11 + 1 := rfl
  have w12 : zus (snew z11 10 12) = zus z11 + 12 := rfl
  generalize snew z11 10 12 = z12 at *
  have h100 := F12.2 100 (by omega) (by first | exact fun w => w | omega)
  have c12 : zcls z12 100 = 0 := h100.1.trans c11
  have i12 : zfi z12 100 = zfi z11 100 := h100.2.1
  have r12 : zfr z12 100 = zfr z11 100 := h100.2.2.1
  clear h100
  refine c95 (d := d + 2) (q := 122) n12 (by omega) k12 (fun z13 hA => ?_)
  obtain ⟨F13, n13, hA1, hA2, u13, w13⟩ := hA
  simp only [Nat.reduceAdd] at n13 hA1 hA2
  have h100 := F13.2 100 (by omega) (by first | exact fun w => w | omega)
  have c13 : zcls z13 100 = 0 := h100.1.trans c12
  have i13 : zfi z13 100 = zfi z12 100 := h100.2.1
  have r13 : zfr z13 100 = zfr z12 100 := h100.2.2.1
  clear h100
  have t : zk zG (d + 3) 5 none 88 [.ref 100, zdum] [.ref 122, .ref 100] Q (.inl none) z13 = ZW zG (d + 3) 5 91 [.ref 100, zdum] [] (sfr z13 100 4 (.ref 122)) Q := by
    simp (disch := omega) only [s5_88, zcs_0, zcs_1, zcs_2, zcs_3, zcs_4, zcs_5, zcs_6, zcs_7, znl_i, znl_r, znl_n, Bool.and_true, Bool.true_and, zk_v, zk_n, zk_x, zir_r, zir_n, zclr_i, zclr_r, zclr_n, zclr_d, zclr_l, true_and, and_true, and_self, if_true, if_false, reduceIte, nI_add, pk_mul, zin_ok, zx_nI, nI_lt2, nI_le2, nI_eq2, nI_l0, nI_g0, nI_q0, nI_p0, nI_n0, nI_m1, Nat.add_zero, Nat.zero_add, Nat.reduceAdd, Nat.reduceMul, true_or, or_true, znar_50, bI_0, bI_1, bI_z, bft, nI_z0, nI_z1, lgc_lt, lgc_gt, lgc_le, lgc_ge, lgc_eq, not_true_eq_false, not_false_eq_true, Bool.not_eq_true, Bool.not_eq_false, reduceCtorEq, c13]
  refine Eq.mpr t ?_
  clear t
  have f13 := sfr_ok (z := z13) (r := 100) (f := 4) (x := .ref 122)
  generalize sfr z13 100 4 (.ref 122) = z14 at f13 ⊢
  have n14 : zn z14 = zn z13 := f13.2.1
  rw [n13] at n14
  have c14 : zcls z14 100 = 0 := f13.2.2.1.1.trans c13
  have i14 : zfi z14 100 = zfi z13 100 := f13.2.2.1.2.1
  have r14 := f13.2.2.2.1
  have u14 := f13.2.2.2.2.1
  have w14 := f13.2.2.2.2.2
  have F14 := f13.1
  have G14 : zFr (fun q => False) z14 z14 := zFr_refl _ _
  have G13 : zFr (fun q => q = 100) z13 z14 := zFr_tr (zFr_mono (fun q _ w => by first | exact False.elim w | omega) F14) G14 (fun q _ w => by first | exact False.elim w | omega)
  have G12 : zFr (fun q => q = 100 ∨ q = 122) z12 z14 := zFr_tr (zFr_mono (fun q _ w => by first | exact False.elim w | omega) F13) G13 (fun q _ w => by first | exact False.elim w | omega)
  have G11 : zFr (fun q => q = 100 ∨ q = 122) z11 z14 := zFr_tr (zFr_mono (fun q _ w => by first | exact False.elim w | omega) F12) G12 (fun q _ w => by first | exact False.elim w | omega)
  obtain ⟨A1, A2, A3, A4, A5, A6⟩ := hA1
  obtain ⟨A7, A8, A9, A10, A11, A12, A13, A14⟩ := hA2
  have g122 := G13.2 122 (by omega) (by omega)
  have g123 := G13.2 123 (by omega) (by omega)
  have g124 := G13.2 124 (by omega) (by omega)
  have g125 := G13.2 125 (by omega) (by omega)
  have g126 := G13.2 126 (by omega) (by omega)
  exact H _ ⟨zFr_mono (fun q hq w => by omega) G11, n14, c14, by rw [i14, i13, i12], fun j => by rw [r14, r13, r12], ⟨g122.1.trans A1, by rw [g122.2.2.1]; exact A2, by rw [g122.2.2.1]; exact A3, by rw [g122.2.2.1]; exact A4, by rw [g122.2.2.1]; exact A5, by rw [g122.2.2.1]; exact A6⟩, ⟨g123.1.trans A7, g124.1.trans A8, g125.1.trans A9, g126.1.trans A10, g123.2.2.2.2.2.2.1.trans A11, g124.2.2.2.2.2.2.1.trans A12, g125.2.2.2.2.2.2.1.trans A13, g126.2.2.2.2.2.2.1.trans A14⟩, by simp only [u14, u13, u12, Nat.add_assoc, Nat.reduceAdd], by simp only [w14, w13, w12, Nat.add_assoc, Nat.reduceAdd]⟩
def c5EF (z14 z1 : ZH) : Prop := zFr (fun q => q = 100) z14 z1 ∧ zn z1 = 131 ∧ zcls z1 100 = 0 ∧ (∀ j, zfi z1 100 j = if j = 8 then -1 else zfi z14 100 j) ∧ (∀ j, zfr z1 100 j = if j = 11 then .ref 130 else if j = 10 then .ref 129 else if j = 9 then .ref 128 else if j = 5 then .ref 127 else zfr z14 100 j) ∧ (zcls z1 127 = 52 ∧ zlen z1 127 = 1400 ∧ zia z1 127 = fun _ => 0) ∧ (zcls z1 128 = 50 ∧ zcls z1 129 = 50 ∧ zcls z1 130 = 50 ∧ zlen z1 128 = 1024 ∧ zlen z1 129 = 1024 ∧ zlen z1 130 = 65536) ∧ zuc z1 = zuc z14 + 4 ∧ zus z1 = zus z14 + 68984
theorem c5E {z14 : ZH} (n14 : zn z14 = 127) (c14 : zcls z14 100 = 0) (H : ∀ z1, c5EF z14 z1 → ZW zG (d + 3) 5 131 [.ref 100, zdum] [] z1 Q) : ZW zG (d + 3) 5 91 [.ref 100, zdum] [] z14 Q := by
  have t : ZW zG (d + 3) 5 91 [.ref 100, zdum] [] z14 Q = ZW zG (d + 3) 5 100 [.ref 100, zdum] [] (nAr z14 100 52 1400 5) Q := by
    simp (disch := omega) only [s5_91, s5_92, s5_95, s5_97, nAr, zcs_0, zcs_1, zcs_2, zcs_3, zcs_4, zcs_5, zcs_6, zcs_7, znl_i, znl_r, znl_n, Bool.and_true, Bool.true_and, zk_v, zk_n, zk_x, zir_r, zir_n, zclr_i, zclr_r, zclr_n, zclr_d, zclr_l, true_and, and_true, and_self, if_true, if_false, reduceIte, nI_add, pk_mul, zin_ok, zx_nI, nI_lt2, nI_le2, nI_eq2, nI_l0, nI_g0, nI_q0, nI_p0, nI_n0, nI_m1, Nat.add_zero, Nat.zero_add, Nat.reduceAdd, Nat.reduceMul, true_or, or_true, znar_50, bI_0, bI_1, bI_z, bft, nI_z0, nI_z1, lgc_lt, lgc_gt, lgc_le, lgc_ge, lgc_eq, not_true_eq_false, not_false_eq_true, Bool.not_eq_true, Bool.not_eq_false, reduceCtorEq, cls_sarr, zu1_n, ne_eq, c14]
  refine Eq.mpr t ?_
  clear t
  have f14 := nAr_ok (z := z14) (r := 100) (q := 127) (K := 52) (N := 1400) (f := 5) n14 (by omega)
  generalize nAr z14 100 52 1400 5 = z15 at f14 ⊢
  have n15 : zn z15 = 128 := f14.2.1
  have c15 : zcls z15 100 = 0 := f14.2.2.2.1.1.trans c14
  have i15 : zfi z15 100 = zfi z14 100 := f14.2.2.2.1.2.1
  have r15 := f14.2.2.2.2.1
  have u15 := f14.2.2.2.2.2.1
  have w15 := f14.2.2.2.2.2.2
  have F15 := f14.1
  have t : ZW zG (d + 3) 5 100 [.ref 100, zdum] [] z15 Q = ZW zG (d + 3) 5 105 [.ref 100, zdum] [] (sfi z15 100 8 (-1)) Q := by
    simp (disch := omega) only [s5_100, s5_101, s5_102, zcs_0, zcs_1, zcs_2, zcs_3, zcs_4, zcs_5, zcs_6, zcs_7, znl_i, znl_r, znl_n, Bool.and_true, Bool.true_and, zk_v, zk_n, zk_x, zir_r, zir_n, zclr_i, zclr_r, zclr_n, zclr_d, zclr_l, true_and, and_true, and_self, if_true, if_false, reduceIte, nI_add, pk_mul, zin_ok, zx_nI, nI_lt2, nI_le2, nI_eq2, nI_l0, nI_g0, nI_q0, nI_p0, nI_n0, nI_m1, Nat.add_zero, Nat.zero_add, Nat.reduceAdd, Nat.reduceMul, true_or, or_true, znar_50, bI_0, bI_1, bI_z, bft, nI_z0, nI_z1, lgc_lt, lgc_gt, lgc_le, lgc_ge, lgc_eq, not_true_eq_false, not_false_eq_true, Bool.not_eq_true, Bool.not_eq_false, reduceCtorEq, c15]
  refine Eq.mpr t ?_
  clear t
  have F16 : zFr (fun p => p = 100) z15 (sfi z15 100 8 (-1)) := zFr_sfi (zFr_refl _ _) (Or.inr rfl)
  have n16 : zn (sfi z15 100 8 (-1)) = 128 := n15
  have c16 : zcls (sfi z15 100 8 (-1)) 100 = 0 := c15
  have i16 : ∀ j, zfi (sfi z15 100 8 (-1)) 100 j = if j = 8 then -1 else zfi z15 100 j := fun j => by
    rw [fi_sfi]
    by_cases e : j = 8
    · rw [e, zu2_s, if_pos rfl]
    · rw [zu2_k _ _ _ _ e, if_neg e]
  have r16 : zfr (sfi z15 100 8 (-1)) 100 = zfr z15 100 := rfl
  have u16 : zuc (sfi z15 100 8 (-1)) = zuc z15 := rfl
  have w16 : zus (sfi z15 100 8 (-1)) = zus z15 := rfl
  generalize sfi z15 100 8 (-1) = z16 at *
  have t : ZW zG (d + 3) 5 105 [.ref 100, zdum] [] z16 Q = ZW zG (d + 3) 5 114 [.ref 100, zdum] [] (nAr z16 100 50 1024 9) Q := by
    simp (disch := omega) only [s5_105, s5_106, s5_109, s5_111, nAr, zcs_0, zcs_1, zcs_2, zcs_3, zcs_4, zcs_5, zcs_6, zcs_7, znl_i, znl_r, znl_n, Bool.and_true, Bool.true_and, zk_v, zk_n, zk_x, zir_r, zir_n, zclr_i, zclr_r, zclr_n, zclr_d, zclr_l, true_and, and_true, and_self, if_true, if_false, reduceIte, nI_add, pk_mul, zin_ok, zx_nI, nI_lt2, nI_le2, nI_eq2, nI_l0, nI_g0, nI_q0, nI_p0, nI_n0, nI_m1, Nat.add_zero, Nat.zero_add, Nat.reduceAdd, Nat.reduceMul, true_or, or_true, znar_50, bI_0, bI_1, bI_z, bft, nI_z0, nI_z1, lgc_lt, lgc_gt, lgc_le, lgc_ge, lgc_eq, not_true_eq_false, not_false_eq_true, Bool.not_eq_true, Bool.not_eq_false, reduceCtorEq, cls_sarr, zu1_n, ne_eq, c16]
  refine Eq.mpr t ?_
  clear t
  have f16 := nAr_ok (z := z16) (r := 100) (q := 128) (K := 50) (N := 1024) (f := 9) n16 (by omega)
  generalize nAr z16 100 50 1024 9 = z17 at f16 ⊢
  have n17 : zn z17 = 129 := f16.2.1
  have c17 : zcls z17 100 = 0 := f16.2.2.2.1.1.trans c16
  have i17 : zfi z17 100 = zfi z16 100 := f16.2.2.2.1.2.1
  have r17 := f16.2.2.2.2.1
  have u17 := f16.2.2.2.2.2.1
  have w17 := f16.2.2.2.2.2.2
  have F17 := f16.1
  have t : ZW zG (d + 3) 5 114 [.ref 100, zdum] [] z17 Q = ZW zG (d + 3) 5 123 [.ref 100, zdum] [] (nAr z17 100 50 1024 10) Q := by
    simp (disch := omega) only [s5_114, s5_115, s5_118, s5_120, nAr, zcs_0, zcs_1, zcs_2, zcs_3, zcs_4, zcs_5, zcs_6, zcs_7, znl_i, znl_r, znl_n, Bool.and_true, Bool.true_and, zk_v, zk_n, zk_x, zir_r, zir_n, zclr_i, zclr_r, zclr_n, zclr_d, zclr_l, true_and, and_true, and_self, if_true, if_false, reduceIte, nI_add, pk_mul, zin_ok, zx_nI, nI_lt2, nI_le2, nI_eq2, nI_l0, nI_g0, nI_q0, nI_p0, nI_n0, nI_m1, Nat.add_zero, Nat.zero_add, Nat.reduceAdd, Nat.reduceMul, true_or, or_true, znar_50, bI_0, bI_1, bI_z, bft, nI_z0, nI_z1, lgc_lt, lgc_gt, lgc_le, lgc_ge, lgc_eq, not_true_eq_false, not_false_eq_true, Bool.not_eq_true, Bool.not_eq_false, reduceCtorEq, cls_sarr, zu1_n, ne_eq, c17]
  refine Eq.mpr t ?_
  clear t
  have f17 := nAr_ok (z := z17) (r := 100) (q := 129) (K := 50) (N := 1024) (f := 10) n17 (by omega)
  generalize nAr z17 100 50 1024 10 = z18 at f17 ⊢
  have n18 : zn z18 = 130 := f17.2.1
  have c18 : zcls z18 100 = 0 := f17.2.2.2.1.1.trans c17
  have i18 : zfi z18 100 = zfi z17 100 := f17.2.2.2.1.2.1
  have r18 := f17.2.2.2.2.1
  have u18 := f17.2.2.2.2.2.1
  have w18 := f17.2.2.2.2.2.2
  have F18 := f17.1
  have t : ZW zG (d + 3) 5 123 [.ref 100, zdum] [] z18 Q = ZW zG (d + 3) 5 131 [.ref 100, zdum] [] (nAr z18 100 50 65536 11) Q := by
    simp (disch := omega) only [s5_123, s5_124, s5_126, s5_128, nAr, zcs_0, zcs_1, zcs_2, zcs_3, zcs_4, zcs_5, zcs_6, zcs_7, znl_i, znl_r, znl_n, Bool.and_true, Bool.true_and, zk_v, zk_n, zk_x, zir_r, zir_n, zclr_i, zclr_r, zclr_n, zclr_d, zclr_l, true_and, and_true, and_self, if_true, if_false, reduceIte, nI_add, pk_mul, zin_ok, zx_nI, nI_lt2, nI_le2, nI_eq2, nI_l0, nI_g0, nI_q0, nI_p0, nI_n0, nI_m1, Nat.add_zero, Nat.zero_add, Nat.reduceAdd, Nat.reduceMul, true_or, or_true, znar_50, bI_0, bI_1, bI_z, bft, nI_z0, nI_z1, lgc_lt, lgc_gt, lgc_le, lgc_ge, lgc_eq, not_true_eq_false, not_false_eq_true, Bool.not_eq_true, Bool.not_eq_false, reduceCtorEq, cls_sarr, zu1_n, ne_eq, c18]
  refine Eq.mpr t ?_
  clear t
  have f18 := nAr_ok (z := z18) (r := 100) (q := 130) (K := 50) (N := 65536) (f := 11) n18 (by omega)
  generalize nAr z18 100 50 65536 11 = z19 at f18 ⊢
  have n19 : zn z19 = 131 := f18.2.1
  have c19 : zcls z19 100 = 0 := f18.2.2.2.1.1.trans c18
  have i19 : zfi z19 100 = zfi z18 100 := f18.2.2.2.1.2.1
  have r19 := f18.2.2.2.2.1
  have u19 := f18.2.2.2.2.2.1
  have w19 := f18.2.2.2.2.2.2
  have F19 := f18.1
  have G19 : zFr (fun q => False) z19 z19 := zFr_refl _ _
  have G18 : zFr (fun q => q = 100) z18 z19 := zFr_tr (zFr_mono (fun q _ w => by first | exact False.elim w | omega) F19) G19 (fun q _ w => by first | exact False.elim w | omega)
  have G17 : zFr (fun q => q = 100) z17 z19 := zFr_tr (zFr_mono (fun q _ w => by first | exact False.elim w | omega) F18) G18 (fun q _ w => by first | exact False.elim w | omega)
  have G16 : zFr (fun q => q = 100) z16 z19 := zFr_tr (zFr_mono (fun q _ w => by first | exact False.elim w | omega) F17) G17 (fun q _ w => by first | exact False.elim w | omega)
  have G15 : zFr (fun q => q = 100) z15 z19 := zFr_tr (zFr_mono (fun q _ w => by first | exact False.elim w | omega) F16) G16 (fun q _ w => by first | exact False.elim w | omega)
  have G14 : zFr (fun q => q = 100) z14 z19 := zFr_tr (zFr_mono (fun q _ w => by first | exact False.elim w | omega) F15) G15 (fun q _ w => by first | exact False.elim w | omega)
  have g127 := G15.2 127 (by omega) (by omega)
  have g128 := G17.2 128 (by omega) (by omega)
  have g129 := G18.2 129 (by omega) (by omega)
  exact H _ ⟨zFr_mono (fun q hq w => by omega) G14, n19, c19, fun j => by rw [i19, i18, i17, i16, i15], fun j => by rw [r19, r18, r17, r16, r15], ⟨g127.1.trans f14.2.2.1.1, g127.2.2.2.2.2.2.1.trans f14.2.2.1.2.1, g127.2.2.2.1.trans f14.2.2.1.2.2.1⟩, ⟨g128.1.trans f16.2.2.1.1, g129.1.trans f17.2.2.1.1, f18.2.2.1.1, g128.2.2.2.2.2.2.1.trans f16.2.2.1.2.1, g129.2.2.2.2.2.2.1.trans f17.2.2.1.2.1, f18.2.2.1.2.1⟩, by simp only [u19, u18, u17, u16, u15, Nat.add_assoc, Nat.reduceAdd], by simp only [w19, w18, w17, w16, w15, Nat.add_assoc, Nat.reduceAdd]⟩
def c5GF (z19 z1 : ZH) : Prop := zFr (fun q => q = 101) z19 z1 ∧ zn z1 = 135 ∧ zcls z1 100 = 0 ∧ zfi z1 100 = zfi z19 100 ∧ zfr z1 100 = zfr z19 100 ∧ (zcls z1 101 = 60 ∧ zlen z1 101 = 4) ∧ (zra z1 101 0 = .ref 131 ∧ zra z1 101 1 = .ref 132 ∧ zra z1 101 2 = .ref 133 ∧ zra z1 101 3 = .ref 134) ∧ (zcls z1 131 = 11 ∧ zcls z1 132 = 11 ∧ zcls z1 133 = 11 ∧ zcls z1 134 = 11) ∧ (zfr z1 131 0 = .null ∧ zfr z1 132 0 = .null ∧ zfr z1 133 0 = .null ∧ zfr z1 134 0 = .null) ∧ zuc z1 = zuc z19 + 4 ∧ zus z1 = zus z19 + 4
theorem c5G {z19 : ZH} (n19 : zn z19 = 131) (c19 : zcls z19 100 = 0) (ka19 : zfr z19 100 0 = .ref 101) (kc19 : zcls z19 101 = 60) (kl19 : zlen z19 101 = 4) (H : ∀ z1, c5GF z19 z1 → Q (.inl none) z1) : ZW zG (d + 3) 5 131 [.ref 100, zdum] [] z19 Q := by
  have t : ZW zG (d + 3) 5 131 [.ref 100, zdum] [] z19 Q = ZW zG (d + 3) 5 133 [.ref 100, .int (nI 0)] [] z19 Q := by
    simp (disch := omega) only [s5_131, s5_132, zcs_0, zcs_1, zcs_2, zcs_3, zcs_4, zcs_5, zcs_6, zcs_7, znl_i, znl_r, znl_n, Bool.and_true, Bool.true_and, zk_v, zk_n, zk_x, zir_r, zir_n, zclr_i, zclr_r, zclr_n, zclr_d, zclr_l, true_and, and_true, and_self, if_true, if_false, reduceIte, nI_add, pk_mul, zin_ok, zx_nI, nI_lt2, nI_le2, nI_eq2, nI_l0, nI_g0, nI_q0, nI_p0, nI_n0, nI_m1, Nat.add_zero, Nat.zero_add, Nat.reduceAdd, Nat.reduceMul, true_or, or_true, znar_50, bI_0, bI_1, bI_z, bft, nI_z0, nI_z1, lgc_lt, lgc_gt, lgc_le, lgc_ge, lgc_eq, not_true_eq_false, not_false_eq_true, Bool.not_eq_true, Bool.not_eq_false, reduceCtorEq]
  refine Eq.mpr t ?_
  clear t
  have ze : zael (snew z19 11 1) 60 (.ref (zn z19)) = true := zael_o (by omega) (by rw [cls_snew, zu1_s])
  have t : ZW zG (d + 3) 5 133 [.ref 100, .int (nI 0)] [] z19 Q = ZW zG (d + 3) 5 133 [.ref 100, .int (nI 1)] [] (nOb z19 101 11 1 0) Q := by
    refine s5_133.trans ?_
    simp (disch := omega) only [s5_134, s5_135, s5_138, s5_139, s5_142, s5_143, s5_146, s5_147, s5_150, s5_151, s5_154, nOb, zcs_0, zcs_1, zcs_2, zcs_3, zcs_4, zcs_5, zcs_6, zcs_7, znl_i, znl_r, znl_n, Bool.and_true, Bool.true_and, zk_v, zk_n, zk_x, zir_r, zir_n, zclr_i, zclr_r, zclr_n, zclr_d, zclr_l, true_and, and_true, and_self, if_true, if_false, reduceIte, nI_add, pk_mul, zin_ok, zx_nI, nI_lt2, nI_le2, nI_eq2, nI_l0, nI_g0, nI_q0, nI_p0, nI_n0, nI_m1, Nat.add_zero, Nat.zero_add, Nat.reduceAdd, Nat.reduceMul, true_or, or_true, znar_50, bI_0, bI_1, bI_z, bft, nI_z0, nI_z1, lgc_lt, lgc_gt, lgc_le, lgc_ge, lgc_eq, not_true_eq_false, not_false_eq_true, Bool.not_eq_true, Bool.not_eq_false, reduceCtorEq, c109i, cls_snew, len_snew, fr_snew, zu1_n, ne_eq, c19, ka19, kc19, kl19, ze, Nat.reduceLeDiff]
  refine Eq.mpr t ?_
  clear t ze
  have f19 := nOb_ok (z := z19) (a := 101) (q := 131) (K := 11) (N := 1) (p := 0) n19 (by omega)
  generalize nOb z19 101 11 1 0 = z20 at f19 ⊢
  have n20 : zn z20 = 132 := f19.2.1
  have kc20 : zcls z20 101 = 60 := f19.2.2.2.1.1.trans kc19
  have kl20 : zlen z20 101 = 4 := f19.2.2.2.1.2.1.trans kl19
  have u20 := f19.2.2.2.2.2.1
  have w20 := f19.2.2.2.2.2.2
  have F20 := f19.1
  have h100 := F20.2 100 (by omega) (by first | exact fun w => w | omega)
  have c20 : zcls z20 100 = 0 := h100.1.trans c19
  have i20 : zfi z20 100 = zfi z19 100 := h100.2.1
  have r20 : zfr z20 100 = zfr z19 100 := h100.2.2.1
  clear h100
  have ka20 : zfr z20 100 0 = .ref 101 := by rw [r20]; exact ka19
  have ze : zael (snew z20 11 1) 60 (.ref (zn z20)) = true := zael_o (by omega) (by rw [cls_snew, zu1_s])
  have t : ZW zG (d + 3) 5 133 [.ref 100, .int (nI 1)] [] z20 Q = ZW zG (d + 3) 5 133 [.ref 100, .int (nI 2)] [] (nOb z20 101 11 1 1) Q := by
    refine s5_133.trans ?_
    simp (disch := omega) only [s5_134, s5_135, s5_138, s5_139, s5_142, s5_143, s5_146, s5_147, s5_150, s5_151, s5_154, nOb, zcs_0, zcs_1, zcs_2, zcs_3, zcs_4, zcs_5, zcs_6, zcs_7, znl_i, znl_r, znl_n, Bool.and_true, Bool.true_and, zk_v, zk_n, zk_x, zir_r, zir_n, zclr_i, zclr_r, zclr_n, zclr_d, zclr_l, true_and, and_true, and_self, if_true, if_false, reduceIte, nI_add, pk_mul, zin_ok, zx_nI, nI_lt2, nI_le2, nI_eq2, nI_l0, nI_g0, nI_q0, nI_p0, nI_n0, nI_m1, Nat.add_zero, Nat.zero_add, Nat.reduceAdd, Nat.reduceMul, true_or, or_true, znar_50, bI_0, bI_1, bI_z, bft, nI_z0, nI_z1, lgc_lt, lgc_gt, lgc_le, lgc_ge, lgc_eq, not_true_eq_false, not_false_eq_true, Bool.not_eq_true, Bool.not_eq_false, reduceCtorEq, c109i, cls_snew, len_snew, fr_snew, zu1_n, ne_eq, c20, ka20, kc20, kl20, ze, Nat.reduceLeDiff]
  refine Eq.mpr t ?_
  clear t ze
  have f20 := nOb_ok (z := z20) (a := 101) (q := 132) (K := 11) (N := 1) (p := 1) n20 (by omega)
  generalize nOb z20 101 11 1 1 = z21 at f20 ⊢
  have n21 : zn z21 = 133 := f20.2.1
  have kc21 : zcls z21 101 = 60 := f20.2.2.2.1.1.trans kc20
  have kl21 : zlen z21 101 = 4 := f20.2.2.2.1.2.1.trans kl20
  have u21 := f20.2.2.2.2.2.1
  have w21 := f20.2.2.2.2.2.2
  have F21 := f20.1
  have h100 := F21.2 100 (by omega) (by first | exact fun w => w | omega)
  have c21 : zcls z21 100 = 0 := h100.1.trans c20
  have i21 : zfi z21 100 = zfi z20 100 := h100.2.1
  have r21 : zfr z21 100 = zfr z20 100 := h100.2.2.1
  clear h100
  have ka21 : zfr z21 100 0 = .ref 101 := by rw [r21]; exact ka20
  have ze : zael (snew z21 11 1) 60 (.ref (zn z21)) = true := zael_o (by omega) (by rw [cls_snew, zu1_s])
  have t : ZW zG (d + 3) 5 133 [.ref 100, .int (nI 2)] [] z21 Q = ZW zG (d + 3) 5 133 [.ref 100, .int (nI 3)] [] (nOb z21 101 11 1 2) Q := by
    refine s5_133.trans ?_
    simp (disch := omega) only [s5_134, s5_135, s5_138, s5_139, s5_142, s5_143, s5_146, s5_147, s5_150, s5_151, s5_154, nOb, zcs_0, zcs_1, zcs_2, zcs_3, zcs_4, zcs_5, zcs_6, zcs_7, znl_i, znl_r, znl_n, Bool.and_true, Bool.true_and, zk_v, zk_n, zk_x, zir_r, zir_n, zclr_i, zclr_r, zclr_n, zclr_d, zclr_l, true_and, and_true, and_self, if_true, if_false, reduceIte, nI_add, pk_mul, zin_ok, zx_nI, nI_lt2, nI_le2, nI_eq2, nI_l0, nI_g0, nI_q0, nI_p0, nI_n0, nI_m1, Nat.add_zero, Nat.zero_add, Nat.reduceAdd, Nat.reduceMul, true_or, or_true, znar_50, bI_0, bI_1, bI_z, bft, nI_z0, nI_z1, lgc_lt, lgc_gt, lgc_le, lgc_ge, lgc_eq, not_true_eq_false, not_false_eq_true, Bool.not_eq_true, Bool.not_eq_false, reduceCtorEq, c109i, cls_snew, len_snew, fr_snew, zu1_n, ne_eq, c21, ka21, kc21, kl21, ze, Nat.reduceLeDiff]
  refine Eq.mpr t ?_
  clear t ze
  have f21 := nOb_ok (z := z21) (a := 101) (q := 133) (K := 11) (N := 1) (p := 2) n21 (by omega)
  generalize nOb z21 101 11 1 2 = z22 at f21 ⊢
  have n22 : zn z22 = 134 := f21.2.1
  have kc22 : zcls z22 101 = 60 := f21.2.2.2.1.1.trans kc21
  have kl22 : zlen z22 101 = 4 := f21.2.2.2.1.2.1.trans kl21
  have u22 := f21.2.2.2.2.2.1
  have w22 := f21.2.2.2.2.2.2
  have F22 := f21.1
  have h100 := F22.2 100 (by omega) (by first | exact fun w => w | omega)
  have c22 : zcls z22 100 = 0 := h100.1.trans c21
  have i22 : zfi z22 100 = zfi z21 100 := h100.2.1
  have r22 : zfr z22 100 = zfr z21 100 := h100.2.2.1
  clear h100
  have ka22 : zfr z22 100 0 = .ref 101 := by rw [r22]; exact ka21
  have ze : zael (snew z22 11 1) 60 (.ref (zn z22)) = true := zael_o (by omega) (by rw [cls_snew, zu1_s])
  have t : ZW zG (d + 3) 5 133 [.ref 100, .int (nI 3)] [] z22 Q = ZW zG (d + 3) 5 133 [.ref 100, .int (nI 4)] [] (nOb z22 101 11 1 3) Q := by
    refine s5_133.trans ?_
    simp (disch := omega) only [s5_134, s5_135, s5_138, s5_139, s5_142, s5_143, s5_146, s5_147, s5_150, s5_151, s5_154, nOb, zcs_0, zcs_1, zcs_2, zcs_3, zcs_4, zcs_5, zcs_6, zcs_7, znl_i, znl_r, znl_n, Bool.and_true, Bool.true_and, zk_v, zk_n, zk_x, zir_r, zir_n, zclr_i, zclr_r, zclr_n, zclr_d, zclr_l, true_and, and_true, and_self, if_true, if_false, reduceIte, nI_add, pk_mul, zin_ok, zx_nI, nI_lt2, nI_le2, nI_eq2, nI_l0, nI_g0, nI_q0, nI_p0, nI_n0, nI_m1, Nat.add_zero, Nat.zero_add, Nat.reduceAdd, Nat.reduceMul, true_or, or_true, znar_50, bI_0, bI_1, bI_z, bft, nI_z0, nI_z1, lgc_lt, lgc_gt, lgc_le, lgc_ge, lgc_eq, not_true_eq_false, not_false_eq_true, Bool.not_eq_true, Bool.not_eq_false, reduceCtorEq, c109i, cls_snew, len_snew, fr_snew, zu1_n, ne_eq, c22, ka22, kc22, kl22, ze, Nat.reduceLeDiff]
  refine Eq.mpr t ?_
  clear t ze
  have f22 := nOb_ok (z := z22) (a := 101) (q := 134) (K := 11) (N := 1) (p := 3) n22 (by omega)
  generalize nOb z22 101 11 1 3 = z23 at f22 ⊢
  have n23 : zn z23 = 135 := f22.2.1
  have kc23 : zcls z23 101 = 60 := f22.2.2.2.1.1.trans kc22
  have kl23 : zlen z23 101 = 4 := f22.2.2.2.1.2.1.trans kl22
  have u23 := f22.2.2.2.2.2.1
  have w23 := f22.2.2.2.2.2.2
  have F23 := f22.1
  have h100 := F23.2 100 (by omega) (by first | exact fun w => w | omega)
  have c23 : zcls z23 100 = 0 := h100.1.trans c22
  have i23 : zfi z23 100 = zfi z22 100 := h100.2.1
  have r23 : zfr z23 100 = zfr z22 100 := h100.2.2.1
  clear h100
  have ka23 : zfr z23 100 0 = .ref 101 := by rw [r23]; exact ka22
  have t : ZW zG (d + 3) 5 133 [.ref 100, .int (nI 4)] [] z23 Q = Q (.inl none) z23 := by
    refine s5_133.trans ?_
    simp (disch := omega) only [s5_134, s5_135, s5_157, zcs_0, zcs_1, zcs_2, zcs_3, zcs_4, zcs_5, zcs_6, zcs_7, znl_i, znl_r, znl_n, Bool.and_true, Bool.true_and, zk_v, zk_n, zk_x, zir_r, zir_n, zclr_i, zclr_r, zclr_n, zclr_d, zclr_l, true_and, and_true, and_self, if_true, if_false, reduceIte, nI_add, pk_mul, zin_ok, zx_nI, nI_lt2, nI_le2, nI_eq2, nI_l0, nI_g0, nI_q0, nI_p0, nI_n0, nI_m1, Nat.add_zero, Nat.zero_add, Nat.reduceAdd, Nat.reduceMul, true_or, or_true, znar_50, bI_0, bI_1, bI_z, bft, nI_z0, nI_z1, lgc_lt, lgc_gt, lgc_le, lgc_ge, lgc_eq, not_true_eq_false, not_false_eq_true, Bool.not_eq_true, Bool.not_eq_false, reduceCtorEq, Nat.reduceLeDiff]
  refine Eq.mpr t ?_
  clear t
  have G23 : zFr (fun q => False) z23 z23 := zFr_refl _ _
  have G22 : zFr (fun q => q = 101) z22 z23 := zFr_tr (zFr_mono (fun q _ w => by first | exact False.elim w | omega) F23) G23 (fun q _ w => by first | exact False.elim w | omega)
  have G21 : zFr (fun q => q = 101) z21 z23 := zFr_tr (zFr_mono (fun q _ w => by first | exact False.elim w | omega) F22) G22 (fun q _ w => by first | exact False.elim w | omega)
  have G20 : zFr (fun q => q = 101) z20 z23 := zFr_tr (zFr_mono (fun q _ w => by first | exact False.elim w | omega) F21) G21 (fun q _ w => by first | exact False.elim w | omega)
  have G19 : zFr (fun q => q = 101) z19 z23 := zFr_tr (zFr_mono (fun q _ w => by first | exact False.elim w | omega) F20) G20 (fun q _ w => by first | exact False.elim w | omega)
  have g131 := G20.2 131 (by omega) (by first | exact fun w => w | omega)
  have g132 := G21.2 132 (by omega) (by first | exact fun w => w | omega)
  have g133 := G22.2 133 (by omega) (by first | exact fun w => w | omega)
  have g134 := G23.2 134 (by omega) (by first | exact fun w => w | omega)
  refine H _ ⟨zFr_mono (fun q hq w => by omega) G19, n23, c23, by rw [i23, i22, i21, i20], by rw [r23, r22, r21, r20], ⟨kc23, kl23⟩, ⟨?_, ?_, ?_, ?_⟩, ⟨g131.1.trans f19.2.2.1.1, g132.1.trans f20.2.2.1.1, g133.1.trans f21.2.2.1.1, g134.1.trans f22.2.2.1.1⟩, ⟨by rw [g131.2.2.1]; exact congrFun f19.2.2.1.2 0, by rw [g132.2.2.1]; exact congrFun f20.2.2.1.2 0, by rw [g133.2.2.1]; exact congrFun f21.2.2.1.2 0, by rw [g134.2.2.1]; exact congrFun f22.2.2.1.2 0⟩, by simp only [u23, u22, u21, u20, Nat.add_assoc, Nat.reduceAdd], by simp only [w23, w22, w21, w20, Nat.add_assoc, Nat.reduceAdd]⟩
  all_goals simp only [f22.2.2.2.2.1, f21.2.2.2.2.1, f20.2.2.2.2.1, f19.2.2.2.2.1, Nat.reduceEqDiff, if_false, if_true, reduceIte, eq_self]
theorem c5 (hn : zn z = 101) (hc : zcls z 100 = 0) (hf : zfi z 100 = fun _ => 0) (H : ∀ z', C00 z z' → Q (.inl none) z') : ZC zG (d + 3) 5 [.ref 100] z Q := by
  refine Eq.mpr e5 ?_
  have t : ZW zG (d + 3) 5 0 [.ref 100, zdum] [] z Q = ZW zG (d + 3) 5 4 [.ref 100, zdum] [] z Q := by
    simp (disch := omega) only [s5_0, s5_1, zcs_0, zcs_1, zcs_2, zcs_3, zcs_4, zcs_5, zcs_6, zcs_7, znl_i, znl_r, znl_n, Bool.and_true, Bool.true_and, zk_v, zk_n, zk_x, zir_r, zir_n, zclr_i, zclr_r, zclr_n, zclr_d, zclr_l, true_and, and_true, and_self, if_true, if_false, reduceIte, nI_add, pk_mul, zin_ok, zx_nI, nI_lt2, nI_le2, nI_eq2, nI_l0, nI_g0, nI_q0, nI_p0, nI_n0, nI_m1, Nat.add_zero, Nat.zero_add, Nat.reduceAdd, Nat.reduceMul, true_or, or_true, znar_50, bI_0, bI_1, bI_z, bft, nI_z0, nI_z1, lgc_lt, lgc_gt, lgc_le, lgc_ge, lgc_eq, not_true_eq_false, not_false_eq_true, Bool.not_eq_true, Bool.not_eq_false, reduceCtorEq]
  refine Eq.mpr t ?_
  clear t
  refine c5A hn hc (fun z1 hA => ?_)
  obtain ⟨F1, n1, c1, i1, r1, ⟨b1, b2⟩, u1, w1⟩ := hA
  have t : ZW zG (d + 3) 5 12 [.ref 100, zdum] [] z1 Q = ZC zG (d + 2) 59 [.ref 102] (snew z1 1 4) (zk zG (d + 3) 5 none 20 [.ref 100, zdum] [.ref 102, .ref 100] Q) := by
    simp (disch := omega) only [s5_12, s5_13, s5_16, s5_17, zcs_0, zcs_1, zcs_2, zcs_3, zcs_4, zcs_5, zcs_6, zcs_7, znl_i, znl_r, znl_n, Bool.and_true, Bool.true_and, zk_v, zk_n, zk_x, zir_r, zir_n, zclr_i, zclr_r, zclr_n, zclr_d, zclr_l, true_and, and_true, and_self, if_true, if_false, reduceIte, nI_add, pk_mul, zin_ok, zx_nI, nI_lt2, nI_le2, nI_eq2, nI_l0, nI_g0, nI_q0, nI_p0, nI_n0, nI_m1, Nat.add_zero, Nat.zero_add, Nat.reduceAdd, Nat.reduceMul, true_or, or_true, znar_50, bI_0, bI_1, bI_z, bft, nI_z0, nI_z1, lgc_lt, lgc_gt, lgc_le, lgc_ge, lgc_eq, not_true_eq_false, not_false_eq_true, Bool.not_eq_true, Bool.not_eq_false, reduceCtorEq, n1]
  refine Eq.mpr t ?_
  clear t
  have F2 : zFr (fun _ => False) z1 (snew z1 1 4) := zFr_snew (zFr_refl _ _)
  have n2 : zn (snew z1 1 4) = 103 := by rw [n_snew, n1]
  have k2 : zcls (snew z1 1 4) 102 = 1 := by rw [cls_snew, n1, zu1_s]
  have u2 : zuc (snew z1 1 4) = zuc z1 + 1 := rfl
  have w2 : zus (snew z1 1 4) = zus z1 + 4 := rfl
  generalize snew z1 1 4 = z2 at *
  have h100 := F2.2 100 (by omega) (by first | exact fun w => w | omega)
  have c2 : zcls z2 100 = 0 := h100.1.trans c1
  have i2 : zfi z2 100 = zfi z1 100 := h100.2.1
  have r2 : zfr z2 100 = zfr z1 100 := h100.2.2.1
  clear h100
  refine c59 (d := d) (s := 102) n2 k2 (fun z3 F3 n3 S3 hT hI hL u3 w3 => ?_)
  simp only [Nat.reduceAdd] at n3 hT hI hL
  have h100 := F3.2 100 (by omega) (by first | exact fun w => w | omega)
  have c3 : zcls z3 100 = 0 := h100.1.trans c2
  have i3 : zfi z3 100 = zfi z2 100 := h100.2.1
  have r3 : zfr z3 100 = zfr z2 100 := h100.2.2.1
  clear h100
  refine c5B n3 c3 (fun z5 hB => ?_)
  obtain ⟨F5, n5, c5, i5, r5, ⟨B1, B2, B3⟩, u5, w5⟩ := hB
  refine c5C n5 c5 (fun z11 hC => ?_)
  obtain ⟨F11, n11, c11, i11, r11, ⟨C1, C2⟩, ⟨C3, C4, C5, C6⟩, ⟨C7, C8, C9, C10⟩, u11, w11⟩ := hC
  refine c5D n11 c11 (fun z14 hD => ?_)
  obtain ⟨F14, n14, c14, i14, r14, ⟨A1, A2, A3, A4, A5, A6⟩, ⟨A7, A8, A9, A10, A11, A12, A13, A14⟩, u14, w14⟩ := hD
  refine c5E n14 c14 (fun z19 hE => ?_)
  obtain ⟨F19, n19, c19, i19, r19, ⟨E1, E2, E3⟩, ⟨E4, E5, E6, E7, E8, E9⟩, u19, w19⟩ := hE
  have G14 : zFr (fun q => q = 100) z14 z19 := F19
  have G11 := zFr_trans F14 G14
  have G5 := zFr_trans F11 G11
  have G3 := zFr_trans F5 G5
  have G2 : zFr (fun q => q = 100 ∨ q = 102) z2 z19 := zFr_tr (zFr_mono (fun q _ w => Or.inr w) F3) G3 (fun q _ w => Or.inl w)
  have G1 : zFr (fun q => q = 100 ∨ q = 102) z1 z19 := zFr_tr (zFr_mono (fun q _ w => False.elim w) F2) G2 (fun q _ w => w)
  have e101 := G1.2 101 (by omega) (by omega)
  have R : ∀ j, zfr z19 100 j = if j = 11 then .ref 130 else if j = 10 then .ref 129 else if j = 9 then .ref 128 else if j = 5 then .ref 127 else if j = 4 then .ref 122 else if j = 3 then .ref 117 else if j = 2 then .ref 116 else if j = 1 then .ref 102 else if j = 0 then .ref 101 else zfr z 100 j := fun j => by rw [r19, r14, r11, r5, r3, r2, r1]
  have a0 : zfr z19 100 0 = .ref 101 := by rw [R]; rfl
  refine c5G n19 c19 a0 (e101.1.trans b1) (e101.2.2.2.2.2.2.1.trans b2) (fun z23 hG => ?_)
  obtain ⟨F23, n23, c23, i23, r23, ⟨K1, K2⟩, ⟨K3, K4, K5, K6⟩, ⟨K7, K8, K9, K10⟩, ⟨K11, K12, K13, K14⟩, u23, w23⟩ := hG
  have M1 : zFr (fun q => q = 100 ∨ q = 101 ∨ q = 102) z1 z23 := zFr_tr (zFr_mono (fun q _ w => by omega) G1) F23 (fun q _ w => by omega)
  have M3 : zFr (fun q => q = 100 ∨ q = 101) z3 z23 := zFr_tr (zFr_mono (fun q _ w => Or.inl w) G3) F23 (fun q _ w => Or.inr w)
  have M5 : zFr (fun q => q = 100 ∨ q = 101) z5 z23 := zFr_tr (zFr_mono (fun q _ w => Or.inl w) G5) F23 (fun q _ w => Or.inr w)
  have M11 : zFr (fun q => q = 100 ∨ q = 101) z11 z23 := zFr_tr (zFr_mono (fun q _ w => Or.inl w) G11) F23 (fun q _ w => Or.inr w)
  have M14 : zFr (fun q => q = 100 ∨ q = 101) z14 z23 := zFr_tr (zFr_mono (fun q _ w => Or.inl w) G14) F23 (fun q _ w => Or.inr w)
  have Fz : zFr (fun q => q = 100) z z23 := zFr_tr F1 M1 (fun q hq w => by omega)
  refine H z23 ?_
  have g102 := M3.2 102 (by omega) (by omega)
  have g103 := M3.2 103 (by omega) (by omega)
  have g104 := M3.2 104 (by omega) (by omega)
  have g105 := M3.2 105 (by omega) (by omega)
  have g106 := M3.2 106 (by omega) (by omega)
  have g107 := M3.2 107 (by omega) (by omega)
  have g108 := M3.2 108 (by omega) (by omega)
  have g109 := M3.2 109 (by omega) (by omega)
  have g110 := M3.2 110 (by omega) (by omega)
  have g111 := M3.2 111 (by omega) (by omega)
  have g112 := M3.2 112 (by omega) (by omega)
  have g113 := M3.2 113 (by omega) (by omega)
  have g114 := M3.2 114 (by omega) (by omega)
  have g115 := M3.2 115 (by omega) (by omega)
  have g116 := M5.2 116 (by omega) (by omega)
  have g117 := M11.2 117 (by omega) (by omega)
  have g118 := M11.2 118 (by omega) (by omega)
  have g119 := M11.2 119 (by omega) (by omega)
  have g120 := M11.2 120 (by omega) (by omega)
  have g121 := M11.2 121 (by omega) (by omega)
  have g122 := M14.2 122 (by omega) (by omega)
  have g123 := M14.2 123 (by omega) (by omega)
  have g124 := M14.2 124 (by omega) (by omega)
  have g125 := M14.2 125 (by omega) (by omega)
  have g126 := M14.2 126 (by omega) (by omega)
  have g127 := F23.2 127 (by omega) (by omega)
  have g128 := F23.2 128 (by omega) (by omega)
  have g129 := F23.2 129 (by omega) (by omega)
  have g130 := F23.2 130 (by omega) (by omega)
  obtain ⟨s1, s2, s3, s4, s5, s6, s7, s8, s9, s10, s11, s12⟩ := S3
  simp only [Nat.reduceAdd] at s2 s3 s4 s5 s6 s7 s8 s9 s10 s11 s12
  obtain ⟨T1, T2, T3, T4, T5, T6, T7, T8⟩ := hT
  obtain ⟨I1, I2, I3, I4, I5⟩ := hI
  obtain ⟨L1, L2, L3, L4, L5, L6, L7, L8⟩ := hL
  have x100 : zcls z23 100 = 0 := c23
  have x101 : zcls z23 101 = 60 := K1
  have x102 : zcls z23 102 = 1 := g102.1.trans s1
  have x109 : zcls z23 109 = 3 := g109.1.trans s5
  have x110 : zcls z23 110 = 50 := g110.1.trans s7
  have x111 : zcls z23 111 = 90 := g111.1.trans s10
  have x113 : zcls z23 113 = 4 := g113.1.trans s12
  have x114 : zcls z23 114 = 90 := g114.1.trans s4
  have x116 : zcls z23 116 = 61 := g116.1.trans B1
  have x117 : zcls z23 117 = 62 := g117.1.trans C1
  have x118 : zcls z23 118 = 6 := g118.1.trans C7
  have x119 : zcls z23 119 = 7 := g119.1.trans C8
  have x120 : zcls z23 120 = 8 := g120.1.trans C9
  have x121 : zcls z23 121 = 9 := g121.1.trans C10
  have x122 : zcls z23 122 = 10 := g122.1.trans A1
  have x123 : zcls z23 123 = 50 := g123.1.trans A7
  have x124 : zcls z23 124 = 50 := g124.1.trans A8
  have x125 : zcls z23 125 = 50 := g125.1.trans A9
  have x126 : zcls z23 126 = 50 := g126.1.trans A10
  have x127 : zcls z23 127 = 52 := g127.1.trans E1
  have x128 : zcls z23 128 = 50 := g128.1.trans E4
  have x129 : zcls z23 129 = 50 := g129.1.trans E5
  have x130 : zcls z23 130 = 50 := g130.1.trans E6
  have x131 : zcls z23 131 = 11 := K7
  have x132 : zcls z23 132 = 11 := K8
  have x133 : zcls z23 133 = 11 := K9
  have x134 : zcls z23 134 = 11 := K10
  have y100_0 : zfr z23 100 0 = .ref 101 := by rw [r23, R]; rfl
  have y100_1 : zfr z23 100 1 = .ref 102 := by rw [r23, R]; rfl
  have y100_2 : zfr z23 100 2 = .ref 116 := by rw [r23, R]; rfl
  have y100_3 : zfr z23 100 3 = .ref 117 := by rw [r23, R]; rfl
  have y100_4 : zfr z23 100 4 = .ref 122 := by rw [r23, R]; rfl
  have y100_5 : zfr z23 100 5 = .ref 127 := by rw [r23, R]; rfl
  have y100_9 : zfr z23 100 9 = .ref 128 := by rw [r23, R]; rfl
  have y100_10 : zfr z23 100 10 = .ref 129 := by rw [r23, R]; rfl
  have y100_11 : zfr z23 100 11 = .ref 130 := by rw [r23, R]; rfl
  have y102_1 : zfr z23 102 1 = .ref 109 := by rw [g102.2.2.1]; exact s2
  have y102_2 : zfr z23 102 2 = .ref 114 := by rw [g102.2.2.1]; exact s3
  have y109_2 : zfr z23 109 2 = .ref 110 := by rw [g109.2.2.1]; exact s6
  have y109_3 : zfr z23 109 3 = .ref 111 := by rw [g109.2.2.1]; exact s9
  have y109_4 : zfr z23 109 4 = .ref 113 := by rw [g109.2.2.1]; exact s11
  have y122_0 : zfr z23 122 0 = .ref 123 := by rw [g122.2.2.1]; exact A2
  have y122_1 : zfr z23 122 1 = .ref 124 := by rw [g122.2.2.1]; exact A3
  have y122_2 : zfr z23 122 2 = .ref 125 := by rw [g122.2.2.1]; exact A4
  have y122_3 : zfr z23 122 3 = .ref 126 := by rw [g122.2.2.1]; exact A5
  have y122_11 : zfr z23 122 11 = .ref 100 := by rw [g122.2.2.1]; exact A6
  have v101_0 : zra z23 101 0 = .ref 131 := K3
  have v101_1 : zra z23 101 1 = .ref 132 := K4
  have v101_2 : zra z23 101 2 = .ref 133 := K5
  have v101_3 : zra z23 101 3 = .ref 134 := K6
  have v117_0 : zra z23 117 0 = .ref 118 := by rw [g117.2.2.2.2.2.1]; exact C3
  have v117_1 : zra z23 117 1 = .ref 119 := by rw [g117.2.2.2.2.2.1]; exact C4
  have v117_2 : zra z23 117 2 = .ref 120 := by rw [g117.2.2.2.2.2.1]; exact C5
  have v117_3 : zra z23 117 3 = .ref 121 := by rw [g117.2.2.2.2.2.1]; exact C6
  have l101 : zlen z23 101 = 4 := K2
  have l110 : zlen z23 110 = 16 := g110.2.2.2.2.2.2.1.trans s8
  have l116 : zlen z23 116 = 3 := g116.2.2.2.2.2.2.1.trans B2
  have l117 : zlen z23 117 = 4 := g117.2.2.2.2.2.2.1.trans C2
  have l123 : zlen z23 123 = 10 := g123.2.2.2.2.2.2.1.trans A11
  have l124 : zlen z23 124 = 10240 := g124.2.2.2.2.2.2.1.trans A12
  have l125 : zlen z23 125 = 10240 := g125.2.2.2.2.2.2.1.trans A13
  have l126 : zlen z23 126 = 10 := g126.2.2.2.2.2.2.1.trans A14
  have l127 : zlen z23 127 = 1400 := g127.2.2.2.2.2.2.1.trans E2
  have l128 : zlen z23 128 = 1024 := g128.2.2.2.2.2.2.1.trans E7
  have l129 : zlen z23 129 = 1024 := g129.2.2.2.2.2.2.1.trans E8
  have l130 : zlen z23 130 = 65536 := g130.2.2.2.2.2.2.1.trans E9
  have hCS : CS z23 := by
    unfold CS
    simp only [x100, x101, x102, x109, x110, x111, x113, x114, x116, x117, x118, x119, x120, x121, x122, x123, x124, x125, x126, x127, x128, x129, x130, x131, x132, x133, x134, y100_0, y100_1, y100_2, y100_3, y100_4, y100_5, y100_9, y100_10, y100_11, y102_1, y102_2, y109_2, y109_3, y109_4, y122_0, y122_1, y122_2, y122_3, y122_11, v101_0, v101_1, v101_2, v101_3, v117_0, v117_1, v117_2, v117_3, l101, l110, l116, l117, l123, l124, l125, l126, l127, l128, l129, l130, and_self]
  have huc : zuc z23 ≤ zuc z + 40 := by omega
  have hus : zus z23 ≤ zus z + 89700 := by omega
  have hwf := yWd_WF (K := 0) (v := fun _ => 0) (fun _ => show (0 : Nat) < 500000000 by omega) (GI_0 (fun _ => 0)) (ZI_0 (fun _ => 0))
  refine ⟨Fz, n23, ⟨hCS, ⟨⟨x102, y102_1, y102_2, x114, ⟨x109, y109_2, x110, l110, y109_3, x111, y109_4, x113⟩⟩, 103, 104, 106, 107, fun _ => 0, fun _ => 0, fun _ => 0, fun _ => 0, ⟨?_, ?_, ?_, ?_⟩, ⟨⟨Or.inl rfl, ?_⟩, ⟨?_, Or.inr (Or.inl rfl), ?_⟩, ⟨?_, Or.inr (Or.inr (Or.inl rfl)), ?_, ?_⟩, ⟨?_, ?_⟩, fun h hh => absurd hh (by rw [v00_n (by omega)]; omega), fun h hh => ?_, ?_, ?_⟩, ⟨⟨Or.inr (Or.inr (Or.inr rfl)), ?_⟩, ?_, hwf.2.2.2.2.2.1, fun l hl => absurd hl (by rw [v00_n (by omega)]; omega)⟩, ⟨?_, by rw [v00_n (by omega)]; omega, fun i hi => absurd hi (by rw [v00_n (by omega)]; omega)⟩, fun h hh => ?_, ?_, ⟨?_, by rw [v00_n (by omega)]; omega, fun i hi => absurd hi (by rw [v00_n (by omega)]; omega)⟩, ?_⟩, ?_, fun k hk => ?_, fun k hk => ?_, ?_⟩, huc, hus⟩
  · rw [g102.2.2.1]; exact L1
  · rw [g109.2.2.1]; exact L2
  · rw [g103.2.2.1]; exact T7
  · rw [g109.2.2.1]; exact L3
  · exact g103.1.trans T1
  · rw [g103.2.2.1]; exact T2
  · exact g104.1.trans T3
  · rw [g103.2.2.1]; exact T4
  · exact g106.1.trans T5
  · exact g106.2.2.2.2.2.2.1.trans T6
  · rw [g104.2.2.2.2.2.2.2, I3, v00_n (by omega)]; rfl
  · rw [v00_n (by omega)]; omega
  · rw [g106.2.2.2.1, I5, v00_n (by omega)]
  · rw [g103.2.1, I1, v00_n (by omega)]
  · rw [g103.2.1, I2, v00_5]
  · exact g107.1.trans T8
  · rw [g107.2.2.2.2.2.2.2, I4, v00_n (by omega)]; rfl
  · rw [g111.2.2.2.2.2.2.2, L4, v00_n (by omega)]; rfl
  · rw [g110.2.2.2.1, L6 h hh, v00_n (by omega)]
  · rw [g109.2.1, L7, v00_n (by omega)]
  · rw [g114.2.2.2.2.2.2.2, L5, v00_n (by omega)]; rfl
  · rw [g102.2.1, L8, v00_n (by omega)]
  · intro q hq
    refine ⟨rfl, Or.inl (by omega), by omega, fun hc => ?_⟩
    have e : q = 103 := by
      rcases hq with e | e | e | e
      · exact e
      · rw [e, g104.1, T3] at hc; omega
      · rw [e, g106.1, T5] at hc; omega
      · rw [e, g107.1, T8] at hc; omega
    rw [e]
    exact ⟨by rw [g103.2.2.1]; exact T4, by omega⟩
  · rw [g116.2.2.2.2.2.1]; exact congrFun B3 k
  · rcases (by omega : k = 0 ∨ k = 1 ∨ k = 2 ∨ k = 3) with rfl | rfl | rfl | rfl
    · exact K11
    · exact K12
    · exact K13
    · exact K14
  · have fi : ∀ j, zfi z23 100 j = if j = 8 then -1 else 0 := fun j => by
      rw [i23, i19, i14, i11, i5, i3, i2, i1, hf]
    exact ⟨by rw [fi]; rfl, fun k hk => by rw [g127.2.2.2.1, E3], by rw [fi]; rfl, by rw [fi]; rfl⟩
theorem CR0_up {z2 : ZH} (h : CR0 z) (hn : zn z = 135) (F : zFr (fun q => q = 135) z z2) (h2 : 162 ≤ zn z2) : CR (fun q => q = 103 ∨ q = 104 ∨ q = 106 ∨ q = 107) (fun _ => 1) v00 (fun _ => []) (fun _ => false) (fun _ _ => 0) (fun _ _ => []) 0 (fun _ => 0) 0 (-1) (fun _ => false) (fun _ => 0) (fun _ => 0) (fun _ _ => 0) z2 := by
  obtain ⟨h0, hR, hB, hI, hS, hF⟩ := h
  have w100 := F.2 100 (by omega) (by omega)
  have w101 := F.2 101 (by omega) (by omega)
  have w102 := F.2 102 (by omega) (by omega)
  have w103 := F.2 103 (by omega) (by omega)
  have w104 := F.2 104 (by omega) (by omega)
  have w105 := F.2 105 (by omega) (by omega)
  have w106 := F.2 106 (by omega) (by omega)
  have w107 := F.2 107 (by omega) (by omega)
  have w108 := F.2 108 (by omega) (by omega)
  have w109 := F.2 109 (by omega) (by omega)
  have w110 := F.2 110 (by omega) (by omega)
  have w111 := F.2 111 (by omega) (by omega)
  have w112 := F.2 112 (by omega) (by omega)
  have w113 := F.2 113 (by omega) (by omega)
  have w114 := F.2 114 (by omega) (by omega)
  have w115 := F.2 115 (by omega) (by omega)
  have w116 := F.2 116 (by omega) (by omega)
  have w117 := F.2 117 (by omega) (by omega)
  have w118 := F.2 118 (by omega) (by omega)
  have w119 := F.2 119 (by omega) (by omega)
  have w120 := F.2 120 (by omega) (by omega)
  have w121 := F.2 121 (by omega) (by omega)
  have w122 := F.2 122 (by omega) (by omega)
  have w123 := F.2 123 (by omega) (by omega)
  have w124 := F.2 124 (by omega) (by omega)
  have w125 := F.2 125 (by omega) (by omega)
  have w126 := F.2 126 (by omega) (by omega)
  have w127 := F.2 127 (by omega) (by omega)
  have w128 := F.2 128 (by omega) (by omega)
  have w129 := F.2 129 (by omega) (by omega)
  have w130 := F.2 130 (by omega) (by omega)
  have w131 := F.2 131 (by omega) (by omega)
  have w132 := F.2 132 (by omega) (by omega)
  have w133 := F.2 133 (by omega) (by omega)
  have w134 := F.2 134 (by omega) (by omega)
  refine ⟨h2, ?_, RS_fr hR F (by omega) (fun q q1 q2 w => by omega) (fun q hq => by omega), fun q hq => ?_, fun k hk => Or.inl ⟨rfl, by rw [w116.2.2.2.2.2.1]; exact hI k hk⟩, fun k hk => Or.inl ⟨rfl, ?_⟩, ?_⟩
  · unfold CS at h0 ⊢
    simp only [w100, w101, w102, w103, w104, w105, w106, w107, w108, w109, w110, w111, w112, w113, w114, w115, w116, w117, w118, w119, w120, w121, w122, w123, w124, w125, w126, w127, w128, w129, w130, w131, w132, w133, w134, h0, and_self]
  · obtain ⟨b1, b2, b3, b4⟩ := hB q hq
    have e := F.2 q b3 (by omega)
    refine ⟨b1, b2, Nat.lt_of_lt_of_le b3 F.1, fun hc => ?_⟩
    rw [e.1] at hc
    rw [e.2.2.1]
    exact ⟨(b4 hc).1, Nat.lt_of_lt_of_le (b4 hc).2 F.1⟩
  · rw [(F.2 (131 + k) (by omega) (by omega)).2.2.1]
    exact hS k hk
  · unfold cFe at hF ⊢
    rw [w100.2.1, w127.2.2.2.1]
    exact hF
end AO
