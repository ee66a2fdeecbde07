set_option maxRecDepth 100000
/-! the component: an afternoon -/
/-- what an afternoon scribbles on -/
def cFr (z z2 : ZH) : Prop := (zcls z2 = zcls z ∧ zla z2 = zla z ∧ zra z2 = zra z ∧ zlen z2 = zlen z ∧ zls z2 = zls z ∧ zown z2 = zown z) ∧ (zn z2 = zn z ∧ zuc z2 = zuc z ∧ zus z2 = zus z) ∧ (∀ q j, ¬ q = 122 → zfi z2 q j = zfi z q j) ∧ (∀ q j, ¬ (q = 122 ∧ j = 9) → zfr z2 q j = zfr z q j) ∧ (∀ q, ¬ (123 ≤ q ∧ q ≤ 130 ∧ ¬ q = 127) → zia z2 q = zia z q)
theorem cFr_refl (z : ZH) : cFr z z := ⟨⟨rfl, rfl, rfl, rfl, rfl, rfl⟩, ⟨rfl, rfl, rfl⟩, fun _ _ _ => rfl, fun _ _ _ => rfl, fun _ _ => rfl⟩
theorem cFr_t {z z2 z3 : ZH} (h : cFr z z2) (k : cFr z2 z3) : cFr z z3 := by
  obtain ⟨⟨h1, h2, h3, h4, h5, h6⟩, ⟨h8, h9, h10⟩, h11, h12, h13⟩ := h
  obtain ⟨⟨k1, k2, k3, k4, k5, k6⟩, ⟨k8, k9, k10⟩, k11, k12, k13⟩ := k
  exact ⟨⟨k1.trans h1, k2.trans h2, k3.trans h3, k4.trans h4, k5.trans h5, k6.trans h6⟩, ⟨k8.trans h8, k9.trans h9, k10.trans h10⟩, fun q j hq => (k11 q j hq).trans (h11 q j hq), fun q j hq => (k12 q j hq).trans (h12 q j hq), fun q hq => (k13 q hq).trans (h13 q hq)⟩
theorem cFr_sfi {z z2 : ZH} (h : cFr z z2) (j : Nat) (x : Int32) : cFr z (sfi z2 122 j x) := ⟨h.1, h.2.1, fun q k hq => by rw [fi_sfi, zu2_n _ _ _ _ hq]; exact h.2.2.1 q k hq, h.2.2.2.1, h.2.2.2.2⟩
theorem cFr_sfr {z z2 : ZH} (h : cFr z z2) (x : Value) : cFr z (sfr z2 122 9 x) := ⟨h.1, h.2.1, h.2.2.1, fun q k hq => by
  rw [fr_sfr]
  by_cases e : q = 122
  · rw [zu2_k _ _ _ _ (by omega)]; exact h.2.2.2.1 q k hq
  · rw [zu2_n _ _ _ _ e]; exact h.2.2.2.1 q k hq, h.2.2.2.2⟩
theorem cFr_sIA {z z2 : ZH} (h : cFr z z2) {r : Nat} (hr : 123 ≤ r ∧ r ≤ 130 ∧ ¬ r = 127) (f : Nat → Int32) : cFr z (sIA z2 r f) := ⟨h.1, h.2.1, h.2.2.1, h.2.2.2.1, fun q hq => by rw [ia_sIA, zu1_n _ _ _ (by omega)]; exact h.2.2.2.2 q hq⟩
theorem cFr_sia {z z2 : ZH} (h : cFr z z2) {r : Nat} (hr : 123 ≤ r ∧ r ≤ 130 ∧ ¬ r = 127) (k : Nat) (x : Int32) : cFr z (sia z2 r k x) := ⟨h.1, h.2.1, h.2.2.1, h.2.2.2.1, fun q hq => by
  rw [← h.2.2.2.2 q hq, ia_sia]
  funext j
  exact zu2_n _ _ _ _ (by omega)⟩
theorem cFr_CS {z z2 : ZH} (h : cFr z z2) (h0 : CS z) : CS z2 := by
  obtain ⟨⟨h1, h2, h3, h4, h5, h6⟩, _, _, h12, _⟩ := h
  unfold CS at h0 ⊢
  rw [h1, h3, h4]
  simp (disch := omega) only [h12]
  exact h0
theorem cFr_st {z z2 : ZH} {B : Nat → Prop} (h : cFr z z2) (nB : ∀ q, B q → ¬ (122 ≤ q ∧ q ≤ 130)) : zSt B z z2 := by
  obtain ⟨⟨h1, h2, h3, h4, h5, h6⟩, _, h11, h12, h13⟩ := h
  intro q hq
  have hn := nB q hq
  refine ⟨by rw [h1], funext fun j => h11 q j (by omega), funext fun j => h12 q j (by omega), h13 q (by omega), by rw [h4], by rw [h5]⟩
section AF
variable {d : Nat} {B : Nat → Prop} {z : ZH} {Q : ZQ} {v : Nat → Nat} {L : Nat → List (Nat × Nat)} {t hl kn rl : Nat} {ha ra da ea : Nat → Nat} {K : Nat}
theorem NW_cFr {z2 : ZH} (h : NW B z v L t hl kn rl ha ra da ea) (nB : ∀ q, B q → ¬ (122 ≤ q ∧ q ≤ 130)) (k : cFr z z2) : NW B z2 v L t hl kn rl ha ra da ea := by
  have hst := cFr_st k nB
  obtain ⟨h0, ⟨h1, h2, h3, h4⟩, hH, hR, hD, hK, h9, hE, h6⟩ := h
  have ht := hst t hH.1.1
  have k0 := k
  obtain ⟨⟨k1, k2, k3, k4, k5, k6⟩, _, k11, k12, k13⟩ := k0
  refine ⟨cFr_CS k h0, ⟨?_, ?_, ?_, ?_⟩, hH.st hst, hR.st hst, hD.st hst (by rw [k5]), fun q hq => ?_, ?_, hE.st hst (by rw [k5]), ?_⟩
  · rw [k12 _ _ (by omega)]; exact h1
  · rw [k12 _ _ (by omega)]; exact h2
  · rw [ht.2.2.1]; exact h3
  · rw [k12 _ _ (by omega)]; exact h4
  · rw [k13 _ (by omega)]; exact hK q hq
  · rw [k11 _ _ (by omega)]; exact h9
  · rw [k11 _ _ (by omega)]; exact h6
/-- the afternoon of a on the day dy, with the houses hs -/
def aL (z : ZH) (ha : Nat → Nat) (a dy : Nat) (hs : Nat → Nat) (n : Nat) : Prop := zfi z 122 4 = nI n ∧ zfi z 122 5 = nI dy ∧ zfi z 122 10 = nI a ∧ zfr z 122 9 = .ref (ha a) ∧ (∀ k, k < n → zia z 123 k = nI (hs k))
theorem c248 (hv : ∀ i, v i < 1073741824) (hH : RHo B z t hl kn ha v) {p q : Nat} (hp : p < v 0) (hq : q < v 0) : ZC zG d 248 [.ref (ha p), .ref (ha q)] z Q = Q (.inl (some (.int (nI (dD v p q))))) z := by
  obtain ⟨_, p1, p2, p3, _⟩ := hH.fld hp
  obtain ⟨_, q1, q2, q3, _⟩ := hH.fld hq
  simp (disch := first | omega | exact hv _) only [e248, s248_0, s248_1, s248_4, s248_5, s248_8, s248_9, s248_12, s248_13, s248_16, s248_17, s248_20, s248_21, s248_24, s248_25, zcs_0, zcs_1, zcs_2, zcs_3, zcs_4, zcs_5, zcs_6, zcs_7, znl_i, znl_r, znl_n, Bool.and_true, Bool.true_and, zk_v, zk_n, zk_x, zir_r, zir_n, zclr_i, zclr_r, zclr_n, zclr_d, zclr_l, true_and, and_true, and_self, if_true, if_false, reduceIte, nI_add, pk_mul, zin_ok, zx_nI, nI_lt2, nI_le2, nI_eq2, nI_l0, nI_g0, nI_q0, nI_p0, nI_n0, nI_m1, Nat.add_zero, Nat.zero_add, Nat.reduceAdd, Nat.reduceMul, true_or, or_true, znar_50, bI_0, bI_1, bI_z, bft, nI_z0, nI_z1, lgc_lt, lgc_gt, lgc_le, lgc_ge, lgc_eq, not_true_eq_false, not_false_eq_true, Bool.not_eq_true, Bool.not_eq_false, reduceCtorEq, p1, p2, p3, q1, q2, q3, zabs_sub]
  rfl
theorem c99 (h : NW B z v L t hl kn rl ha ra da ea) {k q : Nat} (hk : k < 10) (hs : zia z 123 k = nI q) (hq : q < v 0) : ZC zG (d + 1) 99 [.ref 122, .int (nI k)] z Q = Q (.inl (some (.ref (ha q)))) z := by
  obtain ⟨h0, ⟨h1, h2, h3, h4⟩, hH, hR, hD, hK, h9, hE, h6⟩ := h
  unfold CS at h0
  have ct := hH.1.2
  simp (disch := omega) only [e99, s99_0, s99_1, s99_4, s99_7, s99_10, s99_11, s99_14, s99_15, s99_16, s99_19, s99_19r, zcs_0, zcs_1, zcs_2, zcs_3, zcs_4, zcs_5, zcs_6, zcs_7, znl_i, znl_r, znl_n, Bool.and_true, Bool.true_and, zk_v, zk_n, zk_x, zir_r, zir_n, zclr_i, zclr_r, zclr_n, zclr_d, zclr_l, true_and, and_true, and_self, if_true, if_false, reduceIte, nI_add, pk_mul, zin_ok, zx_nI, nI_lt2, nI_le2, nI_eq2, nI_l0, nI_g0, nI_q0, nI_p0, nI_n0, nI_m1, Nat.add_zero, Nat.zero_add, Nat.reduceAdd, Nat.reduceMul, true_or, or_true, znar_50, bI_0, bI_1, bI_z, bft, nI_z0, nI_z1, lgc_lt, lgc_gt, lgc_le, lgc_ge, lgc_eq, not_true_eq_false, not_false_eq_true, Bool.not_eq_true, Bool.not_eq_false, reduceCtorEq, h0, h1, ct, hs, c65 hH hq]
theorem c101 (h : NW B z v L t hl kn rl ha ra da ea) (hWD : wD v) {a k : Nat} (h10 : zfi z 122 10 = nI a) : ZC zG (d + 1) 101 [.ref 122, .int (nI k)] z Q = Q (.inl (some (.int (bI (rdC v a k))))) z := by
  have hL := h.ls
  obtain ⟨h0, ⟨h1, h2, h3, h4⟩, hH, hR, hD, hK, h9, hE, h6⟩ := h
  unfold CS at h0
  have cg := fun d Q => c75 (d := d) (z := z) (Q := Q) hL hD (a := nI a) (b := nI k)
  have g2 := great2 (v := v) (a := nI a) (b := nI k) (n := v 7) (fun i hi => (hWD.2 i hi).2.2.1)
  unfold rdC
  cases hc : sCall v (nI a) (nI k) (v 7) with
  | true =>
    rw [hc, eq_self] at g2
    have g3 : ¬ sGreat v (nI a) (nI k) (v 7) < nI 2 := Int32.not_lt.mpr (of_eq_true g2)
    simp (disch := omega) only [e101, s101_0, s101_1, s101_4, s101_7, s101_10, s101_11, s101_14, s101_15, s101_18, s101_19, s101_22, s101_23, s101_26, s101_27, zcs_0, zcs_1, zcs_2, zcs_3, zcs_4, zcs_5, zcs_6, zcs_7, znl_i, znl_r, znl_n, Bool.and_true, Bool.true_and, zk_v, zk_n, zk_x, zir_r, zir_n, zclr_i, zclr_r, zclr_n, zclr_d, zclr_l, true_and, and_true, and_self, if_true, if_false, reduceIte, nI_add, pk_mul, zin_ok, zx_nI, nI_lt2, nI_le2, nI_eq2, nI_l0, nI_g0, nI_q0, nI_p0, nI_n0, nI_m1, Nat.add_zero, Nat.zero_add, Nat.reduceAdd, Nat.reduceMul, true_or, or_true, znar_50, bI_0, bI_1, bI_z, bft, nI_z0, nI_z1, lgc_lt, lgc_gt, lgc_le, lgc_ge, lgc_eq, not_true_eq_false, not_false_eq_true, Bool.not_eq_true, Bool.not_eq_false, reduceCtorEq, h0, h10, cg, g3, nI_one, eq_self]
    rfl
  | false =>
    have g3 : sGreat v (nI a) (nI k) (v 7) < nI 2 := Int32.not_le.mp (fun e => by rw [g2, hc] at e; exact absurd e (by decide))
    simp (disch := omega) only [e101, s101_0, s101_1, s101_4, s101_7, s101_10, s101_11, s101_14, s101_15, s101_18, s101_19, s101_22, s101_23, s101_26, s101_27, zcs_0, zcs_1, zcs_2, zcs_3, zcs_4, zcs_5, zcs_6, zcs_7, znl_i, znl_r, znl_n, Bool.and_true, Bool.true_and, zk_v, zk_n, zk_x, zir_r, zir_n, zclr_i, zclr_r, zclr_n, zclr_d, zclr_l, true_and, and_true, and_self, if_true, if_false, reduceIte, nI_add, pk_mul, zin_ok, zx_nI, nI_lt2, nI_le2, nI_eq2, nI_l0, nI_g0, nI_q0, nI_p0, nI_n0, nI_m1, Nat.add_zero, Nat.zero_add, Nat.reduceAdd, Nat.reduceMul, true_or, or_true, znar_50, bI_0, bI_1, bI_z, bft, nI_z0, nI_z1, lgc_lt, lgc_gt, lgc_le, lgc_ge, lgc_eq, not_true_eq_false, not_false_eq_true, Bool.not_eq_true, Bool.not_eq_false, reduceCtorEq, h0, h10, cg, g3]
    rfl
theorem c100 (h : NW B z v L t hl kn rl ha ra da ea) (hT : wT v) (hWD : wD v) {a dy : Nat} (h10 : zfi z 122 10 = nI a) (h5 : zfi z 122 5 = nI dy) (hdy : dy < 1000) {u f k : Nat} (hk : k < v 0) (hu : u ≤ 100000) (hf : f ≤ 1000) : ZC zG (d + 2) 100 [.ref 122, .int (nI u), .int (nI f), .int (nI k)] z Q = Q (.inl (some (.int (nI (aA v (rdC v a k) dy k (u + f)))))) z := by
  have cc := fun d Q => c101 (d := d) (Q := Q) h hWD (a := a) (k := k) h10
  obtain ⟨h0, ⟨h1, h2, h3, h4⟩, hH, hR, hD, hK, h9, hE, h6⟩ := h
  unfold CS at h0
  have ct := hH.1.2
  have ch := fun d Q => c65 (d := d) (Q := Q) hH hk
  obtain ⟨_, f1, f2, f3, f4, f5, f6, f7, f8, f9⟩ := hH.fld hk
  obtain ⟨x0, x1, x2, x3, x4, x5, x6, x7⟩ := hT.2.2.2.1 k hk
  have rem : nI dy - nI dy / nI 7 * nI 7 = nI (dy % 7) := pk_rem (by omega) (by omega) (by omega)
  have f70 : (nI 7 = 0) = False := by simp [nI_q0]
  have f10 : ((1 : Int32) = 0) = False := by simp
  cases hc : rdC v a k with
  | false =>
    rw [hc] at cc
    have cc' : ∀ d Q, ZC zG (d + 1) 101 [.ref 122, .int (nI k)] z Q = Q (.inl (some (.int 0))) z := cc
    by_cases c1 : u + f ≤ 180
    · have e : aA v false dy k (u + f) = u + f := by
        unfold aA
        rw [if_neg (by decide), if_pos c1]
      have c2 : ¬ 180 < u + f := by omega
      rw [e]
      simp (disch := omega) only [e100, s100_0, s100_1, s100_4, s100_7, s100_10, s100_11, s100_14, s100_16, s100_17, s100_18, s100_19, s100_21, s100_22, s100_23, s100_26, s100_29, s100_31, s100_34, s100_37, s100_39, s100_42, s100_44, s100_45, s100_46, s100_49, s100_51, s100_52, s100_54, s100_57, s100_60, s100_62, s100_63, s100_65, s100_67, s100_70, s100_73, s100_75, s100_76, s100_78, s100_80, s100_82, s100_85, s100_88, s100_91, s100_94, s100_96, s100_99, s100_101, zcs_0, zcs_1, zcs_2, zcs_3, zcs_4, zcs_5, zcs_6, zcs_7, znl_i, znl_r, znl_n, Bool.and_true, Bool.true_and, zk_v, zk_n, zk_x, zir_r, zir_n, zclr_i, zclr_r, zclr_n, zclr_d, zclr_l, true_and, and_true, and_self, if_true, if_false, reduceIte, nI_add, pk_mul, zin_ok, zx_nI, nI_lt2, nI_le2, nI_eq2, nI_l0, nI_g0, nI_q0, nI_p0, nI_n0, nI_m1, Nat.add_zero, Nat.zero_add, Nat.reduceAdd, Nat.reduceMul, true_or, or_true, znar_50, bI_0, bI_1, bI_z, bft, nI_z0, nI_z1, lgc_lt, lgc_gt, lgc_le, lgc_ge, lgc_eq, not_true_eq_false, not_false_eq_true, Bool.not_eq_true, Bool.not_eq_false, reduceCtorEq, h0, h1, ct, ch, cc', c2]
    · have e : aA v false dy k (u + f) = 100000 := by
        unfold aA
        rw [if_neg (by decide), if_neg c1]
      have c2 : 180 < u + f := by omega
      rw [e]
      simp (disch := omega) only [e100, s100_0, s100_1, s100_4, s100_7, s100_10, s100_11, s100_14, s100_16, s100_17, s100_18, s100_19, s100_21, s100_22, s100_23, s100_26, s100_29, s100_31, s100_34, s100_37, s100_39, s100_42, s100_44, s100_45, s100_46, s100_49, s100_51, s100_52, s100_54, s100_57, s100_60, s100_62, s100_63, s100_65, s100_67, s100_70, s100_73, s100_75, s100_76, s100_78, s100_80, s100_82, s100_85, s100_88, s100_91, s100_94, s100_96, s100_99, s100_101, zcs_0, zcs_1, zcs_2, zcs_3, zcs_4, zcs_5, zcs_6, zcs_7, znl_i, znl_r, znl_n, Bool.and_true, Bool.true_and, zk_v, zk_n, zk_x, zir_r, zir_n, zclr_i, zclr_r, zclr_n, zclr_d, zclr_l, true_and, and_true, and_self, if_true, if_false, reduceIte, nI_add, pk_mul, zin_ok, zx_nI, nI_lt2, nI_le2, nI_eq2, nI_l0, nI_g0, nI_q0, nI_p0, nI_n0, nI_m1, Nat.add_zero, Nat.zero_add, Nat.reduceAdd, Nat.reduceMul, true_or, or_true, znar_50, bI_0, bI_1, bI_z, bft, nI_z0, nI_z1, lgc_lt, lgc_gt, lgc_le, lgc_ge, lgc_eq, not_true_eq_false, not_false_eq_true, Bool.not_eq_true, Bool.not_eq_false, reduceCtorEq, h0, h1, ct, ch, cc', c2]
  | true =>
    rw [hc] at cc
    have cc' : ∀ d Q, ZC zG (d + 1) 101 [.ref 122, .int (nI k)] z Q = Q (.inl (some (.int 1))) z := cc
    by_cases c1 : dy % 7 = v (10 + 9 * k + 3)
    · by_cases c2 : max (u + f) (v (10 + 9 * k + 4)) + 15 ≤ min (v (10 + 9 * k + 5)) 180
      · have e : aA v true dy k (u + f) = max (u + f) (v (10 + 9 * k + 4)) + 15 := by
          unfold aA
          rw [if_pos rfl, if_pos c1, if_pos c2]
        have c3 : ¬ min (v (10 + 9 * k + 5)) 180 < max (u + f) (v (10 + 9 * k + 4)) + 15 := by omega
        rw [e]
        simp (disch := omega) only [e100, s100_0, s100_1, s100_4, s100_7, s100_10, s100_11, s100_14, s100_16, s100_17, s100_18, s100_19, s100_21, s100_22, s100_23, s100_26, s100_29, s100_31, s100_34, s100_37, s100_39, s100_42, s100_44, s100_45, s100_46, s100_49, s100_51, s100_52, s100_54, s100_57, s100_60, s100_62, s100_63, s100_65, s100_67, s100_70, s100_73, s100_75, s100_76, s100_78, s100_80, s100_82, s100_85, s100_88, s100_91, s100_94, s100_96, s100_99, s100_101, zcs_0, zcs_1, zcs_2, zcs_3, zcs_4, zcs_5, zcs_6, zcs_7, znl_i, znl_r, znl_n, Bool.and_true, Bool.true_and, zk_v, zk_n, zk_x, zir_r, zir_n, zclr_i, zclr_r, zclr_n, zclr_d, zclr_l, true_and, and_true, and_self, if_true, if_false, reduceIte, nI_add, pk_mul, zin_ok, zx_nI, nI_lt2, nI_le2, nI_eq2, nI_l0, nI_g0, nI_q0, nI_p0, nI_n0, nI_m1, Nat.add_zero, Nat.zero_add, Nat.reduceAdd, Nat.reduceMul, true_or, or_true, znar_50, bI_0, bI_1, bI_z, bft, nI_z0, nI_z1, lgc_lt, lgc_gt, lgc_le, lgc_ge, lgc_eq, not_true_eq_false, not_false_eq_true, Bool.not_eq_true, Bool.not_eq_false, reduceCtorEq, h0, h1, ct, ch, cc', f10, f70, h5, rem, f1, f5, f6, f7, zmax_nI, zmin_nI, c1, c3]
      · have e : aA v true dy k (u + f) = 100000 := by
          unfold aA
          rw [if_pos rfl, if_pos c1, if_neg c2]
        have c3 : min (v (10 + 9 * k + 5)) 180 < max (u + f) (v (10 + 9 * k + 4)) + 15 := by omega
        rw [e]
        simp (disch := omega) only [e100, s100_0, s100_1, s100_4, s100_7, s100_10, s100_11, s100_14, s100_16, s100_17, s100_18, s100_19, s100_21, s100_22, s100_23, s100_26, s100_29, s100_31, s100_34, s100_37, s100_39, s100_42, s100_44, s100_45, s100_46, s100_49, s100_51, s100_52, s100_54, s100_57, s100_60, s100_62, s100_63, s100_65, s100_67, s100_70, s100_73, s100_75, s100_76, s100_78, s100_80, s100_82, s100_85, s100_88, s100_91, s100_94, s100_96, s100_99, s100_101, zcs_0, zcs_1, zcs_2, zcs_3, zcs_4, zcs_5, zcs_6, zcs_7, znl_i, znl_r, znl_n, Bool.and_true, Bool.true_and, zk_v, zk_n, zk_x, zir_r, zir_n, zclr_i, zclr_r, zclr_n, zclr_d, zclr_l, true_and, and_true, and_self, if_true, if_false, reduceIte, nI_add, pk_mul, zin_ok, zx_nI, nI_lt2, nI_le2, nI_eq2, nI_l0, nI_g0, nI_q0, nI_p0, nI_n0, nI_m1, Nat.add_zero, Nat.zero_add, Nat.reduceAdd, Nat.reduceMul, true_or, or_true, znar_50, bI_0, bI_1, bI_z, bft, nI_z0, nI_z1, lgc_lt, lgc_gt, lgc_le, lgc_ge, lgc_eq, not_true_eq_false, not_false_eq_true, Bool.not_eq_true, Bool.not_eq_false, reduceCtorEq, h0, h1, ct, ch, cc', f10, f70, h5, rem, f1, f5, f6, f7, zmax_nI, zmin_nI, c1, c3]
    · have e : aA v true dy k (u + f) = 100000 := by
        unfold aA
        rw [if_pos rfl, if_neg c1]
      rw [e]
      simp (disch := omega) only [e100, s100_0, s100_1, s100_4, s100_7, s100_10, s100_11, s100_14, s100_16, s100_17, s100_18, s100_19, s100_21, s100_22, s100_23, s100_26, s100_29, s100_31, s100_34, s100_37, s100_39, s100_42, s100_44, s100_45, s100_46, s100_49, s100_51, s100_52, s100_54, s100_57, s100_60, s100_62, s100_63, s100_65, s100_67, s100_70, s100_73, s100_75, s100_76, s100_78, s100_80, s100_82, s100_85, s100_88, s100_91, s100_94, s100_96, s100_99, s100_101, zcs_0, zcs_1, zcs_2, zcs_3, zcs_4, zcs_5, zcs_6, zcs_7, znl_i, znl_r, znl_n, Bool.and_true, Bool.true_and, zk_v, zk_n, zk_x, zir_r, zir_n, zclr_i, zclr_r, zclr_n, zclr_d, zclr_l, true_and, and_true, and_self, if_true, if_false, reduceIte, nI_add, pk_mul, zin_ok, zx_nI, nI_lt2, nI_le2, nI_eq2, nI_l0, nI_g0, nI_q0, nI_p0, nI_n0, nI_m1, Nat.add_zero, Nat.zero_add, Nat.reduceAdd, Nat.reduceMul, true_or, or_true, znar_50, bI_0, bI_1, bI_z, bft, nI_z0, nI_z1, lgc_lt, lgc_gt, lgc_le, lgc_ge, lgc_eq, not_true_eq_false, not_false_eq_true, Bool.not_eq_true, Bool.not_eq_false, reduceCtorEq, h0, h1, ct, ch, cc', f10, f70, h5, rem, f1, f5, f6, f7, c1]
end AF
/-! small numbers of either sign -/
def iI (x : Int) : Int32 := Int32.ofInt x
theorem iI_n (n : Nat) : iI (n : Int) = nI n := Int32.toBitVec_inj.mp (BitVec.ofInt_natCast 32 n)
theorem iI_toInt {x : Int} (h : -2147483648 ≤ x) (h2 : x < 2147483648) : (iI x).toInt = x := Int32.toInt_ofInt_of_le (by omega) (by omega)
theorem sub_iI (a b : Nat) : nI a - nI b = iI ((a : Int) - b) := by rw [← iI_n, ← iI_n]; exact (Int32.ofInt_sub _ _).symm
theorem iI_sub (x : Int) (b : Nat) : iI x - nI b = iI (x - b) := by rw [← iI_n]; exact (Int32.ofInt_sub _ _).symm
theorem iI_m1 : iI (-1) = -1 := by decide
theorem iI_le {x y : Int} (h1 : -2147483648 ≤ x) (h2 : x < 2147483648) (h3 : -2147483648 ≤ y) (h4 : y < 2147483648) : (iI x ≤ iI y) = (x ≤ y) := by
  rw [Int32.le_iff_toInt_le, iI_toInt h1 h2, iI_toInt h3 h4]
theorem nI_le_iI {n : Nat} {y : Int} (h1 : n < 2147483648) (h3 : -2147483648 ≤ y) (h4 : y < 2147483648) : (nI n ≤ iI y) = ((n : Int) ≤ y) := by
  rw [← iI_n, iI_le (by omega) (by omega) h3 h4]
theorem iI_lt_nI {n : Nat} {y : Int} (h1 : n < 2147483648) (h3 : -2147483648 ≤ y) (h4 : y < 2147483648) : (iI y < nI n) = (y < (n : Int)) := by
  rw [← iI_n, Int32.lt_iff_toInt_lt, iI_toInt h3 h4, iI_toInt (by omega) (by omega)]
theorem iI_l0 {y : Int} (h3 : -2147483648 ≤ y) (h4 : y < 2147483648) : (iI y < 0) = (y < 0) := by
  have : (0 : Int32) = nI 0 := rfl
  rw [this, iI_lt_nI (by omega) h3 h4]
  rfl
theorem iI_g0 {y : Int} (h3 : -2147483648 ≤ y) (h4 : y < 2147483648) : (0 ≤ iI y) = (0 ≤ y) := by
  have : (0 : Int32) = nI 0 := rfl
  rw [this, nI_le_iI (by omega) h3 h4]
  rfl
theorem zmax_iI {x y : Int} (h1 : -2147483648 ≤ x) (h2 : x < 2147483648) (h3 : -2147483648 ≤ y) (h4 : y < 2147483648) : zmax (iI x) (iI y) = iI (max x y) := by
  unfold zmax
  have e : (iI x < iI y) = (x < y) := by rw [Int32.lt_iff_toInt_lt, iI_toInt h1 h2, iI_toInt h3 h4]
  by_cases h : x < y
  · rw [if_pos (by rw [e]; exact h), Int.max_eq_right (by omega)]
  · rw [if_neg (by rw [e]; exact h), Int.max_eq_left (by omega)]
theorem aB_ge {v : Nat → Nat} {c : Bool} {dy h f o : Nat} (hf : f ≤ 1000) : -1000 ≤ aB v c dy h o f := by
  unfold aB
  split
  · split
    · split <;> omega
    · omega
  · omega
section AF2
variable {d : Nat} {B : Nat → Prop} {z : ZH} {Q : ZQ} {v : Nat → Nat} {L : Nat → List (Nat × Nat)} {t hl kn rl : Nat} {ha ra da ea : Nat → Nat} {K : Nat}
theorem c107 (h : NW B z v L t hl kn rl ha ra da ea) (hT : wT v) (hWD : wD v) {a dy : Nat} (h10 : zfi z 122 10 = nI a) (h5 : zfi z 122 5 = nI dy) (hdy : dy < 1000) {o f k : Nat} (hk : k < v 0) (ho : o ≤ 180) (hf : f ≤ 1000) : ZC zG (d + 2) 107 [.ref 122, .int (nI o), .int (nI f), .int (nI k)] z Q = Q (.inl (some (.int (iI (aB v (rdC v a k) dy k o f))))) z := by
  have cc := fun d Q => c101 (d := d) (Q := Q) h hWD (a := a) (k := k) h10
  obtain ⟨h0, ⟨h1, h2, h3, h4⟩, hH, hR, hD, hK, h9, hE, h6⟩ := h
  unfold CS at h0
  have ct := hH.1.2
  have ch := fun d Q => c65 (d := d) (Q := Q) hH hk
  obtain ⟨_, f1, f2, f3, f4, f5, f6, f7, f8, f9⟩ := hH.fld hk
  obtain ⟨x0, x1, x2, x3, x4, x5, x6, x7⟩ := hT.2.2.2.1 k hk
  have rem : nI dy - nI dy / nI 7 * nI 7 = nI (dy % 7) := pk_rem (by omega) (by omega) (by omega)
  have f70 : (nI 7 = 0) = False := by simp [nI_q0]
  have f10 : ((1 : Int32) = 0) = False := by simp
  cases hc : rdC v a k with
  | false =>
    rw [hc] at cc
    have cc' : ∀ d Q, ZC zG (d + 1) 101 [.ref 122, .int (nI k)] z Q = Q (.inl (some (.int 0))) z := cc
    have e : iI (aB v false dy k o f) = nI (min o 180) - nI f := by
      unfold aB
      rw [if_neg (by decide), sub_iI]
    rw [e]
    simp (disch := omega) only [e107, s107_0, s107_1, s107_4, s107_7, s107_10, s107_11, s107_14, s107_16, s107_17, s107_18, s107_21, s107_24, s107_25, s107_28, s107_31, s107_32, s107_33, s107_34, s107_35, s107_38, s107_40, s107_41, s107_43, s107_46, s107_49, s107_50, s107_51, s107_52, s107_54, s107_57, s107_60, s107_63, s107_66, s107_68, s107_70, s107_72, s107_73, s107_75, s107_78, s107_81, s107_82, s107_85, s107_87, s107_89, s107_90, s107_91, s107_92, zcs_0, zcs_1, zcs_2, zcs_3, zcs_4, zcs_5, zcs_6, zcs_7, znl_i, znl_r, znl_n, Bool.and_true, Bool.true_and, zk_v, zk_n, zk_x, zir_r, zir_n, zclr_i, zclr_r, zclr_n, zclr_d, zclr_l, true_and, and_true, and_self, if_true, if_false, reduceIte, nI_add, pk_mul, zin_ok, zx_nI, nI_lt2, nI_le2, nI_eq2, nI_l0, nI_g0, nI_q0, nI_p0, nI_n0, nI_m1, Nat.add_zero, Nat.zero_add, Nat.reduceAdd, Nat.reduceMul, true_or, or_true, znar_50, bI_0, bI_1, bI_z, bft, nI_z0, nI_z1, lgc_lt, lgc_gt, lgc_le, lgc_ge, lgc_eq, not_true_eq_false, not_false_eq_true, Bool.not_eq_true, Bool.not_eq_false, reduceCtorEq, h0, h1, ct, ch, cc', zmin_nI]
  | true =>
    rw [hc] at cc
    have cc' : ∀ d Q, ZC zG (d + 1) 101 [.ref 122, .int (nI k)] z Q = Q (.inl (some (.int 1))) z := cc
    by_cases c1 : dy % 7 = v (10 + 9 * k + 3)
    · have cmp : (nI (v (10 + 9 * k + 4)) ≤ nI (min o (min (v (10 + 9 * k + 5)) 180)) - nI 15) = (v (10 + 9 * k + 4) + 15 ≤ min o (min (v (10 + 9 * k + 5)) 180)) := by
        rw [sub_iI, nI_le_iI (by omega) (by omega) (by omega)]
        apply propext
        omega
      by_cases c2 : min o (min (v (10 + 9 * k + 5)) 180) < v (10 + 9 * k + 4) + 15
      · have e : iI (aB v true dy k o f) = -1 := by
          unfold aB
          rw [if_pos rfl, if_pos c1, if_pos c2, iI_m1]
        have c3 : ¬ v (10 + 9 * k + 4) + 15 ≤ min o (min (v (10 + 9 * k + 5)) 180) := by omega
        rw [e]
        simp (disch := omega) only [e107, s107_0, s107_1, s107_4, s107_7, s107_10, s107_11, s107_14, s107_16, s107_17, s107_18, s107_21, s107_24, s107_25, s107_28, s107_31, s107_32, s107_33, s107_34, s107_35, s107_38, s107_40, s107_41, s107_43, s107_46, s107_49, s107_50, s107_51, s107_52, s107_54, s107_57, s107_60, s107_63, s107_66, s107_68, s107_70, s107_72, s107_73, s107_75, s107_78, s107_81, s107_82, s107_85, s107_87, s107_89, s107_90, s107_91, s107_92, zcs_0, zcs_1, zcs_2, zcs_3, zcs_4, zcs_5, zcs_6, zcs_7, znl_i, znl_r, znl_n, Bool.and_true, Bool.true_and, zk_v, zk_n, zk_x, zir_r, zir_n, zclr_i, zclr_r, zclr_n, zclr_d, zclr_l, true_and, and_true, and_self, if_true, if_false, reduceIte, nI_add, pk_mul, zin_ok, zx_nI, nI_lt2, nI_le2, nI_eq2, nI_l0, nI_g0, nI_q0, nI_p0, nI_n0, nI_m1, Nat.add_zero, Nat.zero_add, Nat.reduceAdd, Nat.reduceMul, true_or, or_true, znar_50, bI_0, bI_1, bI_z, bft, nI_z0, nI_z1, lgc_lt, lgc_gt, lgc_le, lgc_ge, lgc_eq, not_true_eq_false, not_false_eq_true, Bool.not_eq_true, Bool.not_eq_false, reduceCtorEq, h0, h1, ct, ch, cc', f10, f70, h5, rem, f1, f5, f6, f7, zmin_nI, c1, cmp, c3]
      · have e : iI (aB v true dy k o f) = nI (min o (min (v (10 + 9 * k + 5)) 180)) - nI 15 - nI f := by
          unfold aB
          rw [if_pos rfl, if_pos c1, if_neg c2, sub_iI, iI_sub]
          rfl
        have c3 : v (10 + 9 * k + 4) + 15 ≤ min o (min (v (10 + 9 * k + 5)) 180) := by omega
        rw [e]
        simp (disch := omega) only [e107, s107_0, s107_1, s107_4, s107_7, s107_10, s107_11, s107_14, s107_16, s107_17, s107_18, s107_21, s107_24, s107_25, s107_28, s107_31, s107_32, s107_33, s107_34, s107_35, s107_38, s107_40, s107_41, s107_43, s107_46, s107_49, s107_50, s107_51, s107_52, s107_54, s107_57, s107_60, s107_63, s107_66, s107_68, s107_70, s107_72, s107_73, s107_75, s107_78, s107_81, s107_82, s107_85, s107_87, s107_89, s107_90, s107_91, s107_92, zcs_0, zcs_1, zcs_2, zcs_3, zcs_4, zcs_5, zcs_6, zcs_7, znl_i, znl_r, znl_n, Bool.and_true, Bool.true_and, zk_v, zk_n, zk_x, zir_r, zir_n, zclr_i, zclr_r, zclr_n, zclr_d, zclr_l, true_and, and_true, and_self, if_true, if_false, reduceIte, nI_add, pk_mul, zin_ok, zx_nI, nI_lt2, nI_le2, nI_eq2, nI_l0, nI_g0, nI_q0, nI_p0, nI_n0, nI_m1, Nat.add_zero, Nat.zero_add, Nat.reduceAdd, Nat.reduceMul, true_or, or_true, znar_50, bI_0, bI_1, bI_z, bft, nI_z0, nI_z1, lgc_lt, lgc_gt, lgc_le, lgc_ge, lgc_eq, not_true_eq_false, not_false_eq_true, Bool.not_eq_true, Bool.not_eq_false, reduceCtorEq, h0, h1, ct, ch, cc', f10, f70, h5, rem, f1, f5, f6, f7, zmin_nI, c1, cmp, c3]
    · have e : iI (aB v true dy k o f) = -1 := by
        unfold aB
        rw [if_pos rfl, if_neg c1, iI_m1]
      rw [e]
      simp (disch := omega) only [e107, s107_0, s107_1, s107_4, s107_7, s107_10, s107_11, s107_14, s107_16, s107_17, s107_18, s107_21, s107_24, s107_25, s107_28, s107_31, s107_32, s107_33, s107_34, s107_35, s107_38, s107_40, s107_41, s107_43, s107_46, s107_49, s107_50, s107_51, s107_52, s107_54, s107_57, s107_60, s107_63, s107_66, s107_68, s107_70, s107_72, s107_73, s107_75, s107_78, s107_81, s107_82, s107_85, s107_87, s107_89, s107_90, s107_91, s107_92, zcs_0, zcs_1, zcs_2, zcs_3, zcs_4, zcs_5, zcs_6, zcs_7, znl_i, znl_r, znl_n, Bool.and_true, Bool.true_and, zk_v, zk_n, zk_x, zir_r, zir_n, zclr_i, zclr_r, zclr_n, zclr_d, zclr_l, true_and, and_true, and_self, if_true, if_false, reduceIte, nI_add, pk_mul, zin_ok, zx_nI, nI_lt2, nI_le2, nI_eq2, nI_l0, nI_g0, nI_q0, nI_p0, nI_n0, nI_m1, Nat.add_zero, Nat.zero_add, Nat.reduceAdd, Nat.reduceMul, true_or, or_true, znar_50, bI_0, bI_1, bI_z, bft, nI_z0, nI_z1, lgc_lt, lgc_gt, lgc_le, lgc_ge, lgc_eq, not_true_eq_false, not_false_eq_true, Bool.not_eq_true, Bool.not_eq_false, reduceCtorEq, h0, h1, ct, ch, cc', f10, f70, h5, rem, f1, f5, f6, f7, c1]
theorem c96 (h : NW B z v L t hl kn rl ha ra da ea) (nB : ∀ q, B q → ¬ (122 ≤ q ∧ q ≤ 130)) {a dy : Nat} {hs : Nat → Nat} (hav : a < v 0) (H : ∀ z2, cFr z z2 → aL z2 ha a dy hs 0 → Q (.inl none) z2) : ZC zG (d + 1) 96 [.ref 122, .int (nI a), .int (nI dy)] z Q := by
  have k1 : cFr z (sfi z 122 10 (nI a)) := cFr_sfi (cFr_refl z) _ _
  have hN1 := NW_cFr h nB k1
  have hc := h.1
  unfold CS at hc
  have h01 := h.2.1.1
  have ct := h.2.2.1.1.2
  have ch := fun d Q => c65 (d := d) (Q := Q) hN1.2.2.1 hav
  simp (disch := omega) only [e96, s96_0, s96_1, s96_2, s96_5, s96_6, s96_7, s96_10, s96_13, s96_16, s96_17, s96_20, s96_23, s96_24, s96_25, s96_28, s96_29, s96_30, s96_33, zcs_0, zcs_1, zcs_2, zcs_3, zcs_4, zcs_5, zcs_6, zcs_7, znl_i, znl_r, znl_n, Bool.and_true, Bool.true_and, zk_v, zk_n, zk_x, zir_r, zir_n, zclr_i, zclr_r, zclr_n, zclr_d, zclr_l, true_and, and_true, and_self, if_true, if_false, reduceIte, nI_add, pk_mul, zin_ok, zx_nI, nI_lt2, nI_le2, nI_eq2, nI_l0, nI_g0, nI_q0, nI_p0, nI_n0, nI_m1, Nat.add_zero, Nat.zero_add, Nat.reduceAdd, Nat.reduceMul, true_or, or_true, znar_50, bI_0, bI_1, bI_z, bft, nI_z0, nI_z1, lgc_lt, lgc_gt, lgc_le, lgc_ge, lgc_eq, not_true_eq_false, not_false_eq_true, Bool.not_eq_true, Bool.not_eq_false, reduceCtorEq, hc, cls_sfi, fi_sfi, fr_sfi, ia_sfi, la_sfi, ra_sfi, len_sfi, ls_sfi, own_sfi, n_sfi, uc_sfi, us_sfi, cls_sfr, fi_sfr, fr_sfr, ia_sfr, la_sfr, ra_sfr, len_sfr, ls_sfr, own_sfr, n_sfr, uc_sfr, us_sfr, h01, ct, ch]
  refine H _ (cFr_sfi (cFr_sfi (cFr_sfr k1 _) _ _) _ _) ⟨?_, ?_, ?_, ?_, fun k hk => absurd hk (by omega)⟩
  · rw [fi_sfi, zu2_s]
  · rw [fi_sfi, zu2_k _ _ _ _ (by omega), fi_sfi, zu2_s]
  · rw [fi_sfi, zu2_k _ _ _ _ (by omega), fi_sfi, zu2_k _ _ _ _ (by omega), fi_sfr, fi_sfi, zu2_s]
  · rw [fr_sfi, fr_sfi, fr_sfr, zu2_s]
theorem c97 (h : NW B z v L t hl kn rl ha ra da ea) (nB : ∀ q, B q → ¬ (122 ≤ q ∧ q ≤ 130)) (hv : ∀ i, v i < 2147483648) (hWD : wD v) {a dy : Nat} {hs : Nat → Nat} (hA : aL z ha a dy hs 0) (H : ∀ z2, cFr z z2 → aL z2 ha a dy (rdHs v a) (rdN v a) → Q (.inl none) z2) : ZC zG (d + 1) 97 [.ref 122] z Q := by
  have h16 : v 0 ≤ 16 := h.2.2.1.2.2.2.1.2
  have e16 := owL_16 hv hWD h16 (nI a)
  have key := zl_inv (P := fun k (z2 : ZH) => ZW zG (d + 1) 97 2 [.ref 122, .int (nI k)] [] z2 Q) (I := fun k z2 => cFr z z2 ∧ aL z2 ha a dy (hsL (owL v (nI a) k)) (owL v (nI a) k).length) (v 0) (by
    rintro z2 ⟨i1, i2⟩
    have hN2 := NW_cFr h nB i1
    have c63' := fun d Q => c63 (d := d) (Q := Q) hN2.2.2.1
    have ct := hN2.2.2.1.1.2
    have h01 := hN2.2.1.1
    have k0 := hN2.1
    unfold CS at k0
    refine Eq.mpr s97_2 ?_
    simp (disch := omega) only [s97_0, s97_1, s97_3, s97_4, s97_7, s97_10, s97_13, s97_16, s97_19, s97_20, s97_23, s97_25, s97_28, s97_29, s97_32, s97_35, s97_38, s97_39, s97_42, s97_43, s97_46, s97_47, s97_50, s97_53, s97_54, s97_57, s97_58, s97_61, s97_62, s97_63, s97_64, s97_65, s97_68, s97_69, s97_70, s97_73, s97_76, s97_79, zcs_0, zcs_1, zcs_2, zcs_3, zcs_4, zcs_5, zcs_6, zcs_7, znl_i, znl_r, znl_n, Bool.and_true, Bool.true_and, zk_v, zk_n, zk_x, zir_r, zir_n, zclr_i, zclr_r, zclr_n, zclr_d, zclr_l, true_and, and_true, and_self, if_true, if_false, reduceIte, nI_add, pk_mul, zin_ok, zx_nI, nI_lt2, nI_le2, nI_eq2, nI_l0, nI_g0, nI_q0, nI_p0, nI_n0, nI_m1, Nat.add_zero, Nat.zero_add, Nat.reduceAdd, Nat.reduceMul, true_or, or_true, znar_50, bI_0, bI_1, bI_z, bft, nI_z0, nI_z1, lgc_lt, lgc_gt, lgc_le, lgc_ge, lgc_eq, not_true_eq_false, not_false_eq_true, Bool.not_eq_true, Bool.not_eq_false, reduceCtorEq, k0, h01, ct, c63', Nat.le_refl]
    refine H z2 i1 ?_
    rw [rdHs_d, rdN_d, e16]
    exact i2) (by
    rintro k z2 hk ⟨i1, i2⟩ hnext
    have hN2 := NW_cFr h nB i1
    have hL2 := hN2.ls
    have c63' := fun d Q => c63 (d := d) (Q := Q) hN2.2.2.1
    have ct := hN2.2.2.1.1.2
    have h01 := hN2.2.1.1
    have k0 := hN2.1
    unfold CS at k0
    have cg := fun d Q => c75 (d := d) (z := z2) (Q := Q) hL2 hN2.2.2.2.2.1 (a := nI a) (b := nI k)
    have g0 := great0 (v := v) (a := nI a) (b := nI k) (n := v 7) (fun i hi => (hWD.2 i hi).2.2.1)
    have g1 : ¬ v 0 ≤ k := by omega
    have hl := owL_len (v := v) (a := nI a) k
    obtain ⟨a4, a5, a10, a9, as⟩ := i2
    have hst : owL v (nI a) (k + 1) = if (owL v (nI a) k).length < 10 ∧ 0 < sWorth v (nI a) (nI k) (v 7) then owL v (nI a) k ++ [k] else owL v (nI a) k := rfl
    refine Eq.mpr s97_2 ?_
    by_cases c1 : (owL v (nI a) k).length < 10
    · have g2 : ¬ 10 ≤ (owL v (nI a) k).length := by omega
      by_cases c2 : sWorth v (nI a) (nI k) (v 7) = 0
      · rw [if_neg (by omega)] at hst
        simp (disch := omega) only [s97_0, s97_1, s97_3, s97_4, s97_7, s97_10, s97_13, s97_16, s97_19, s97_20, s97_23, s97_25, s97_28, s97_29, s97_32, s97_35, s97_38, s97_39, s97_42, s97_43, s97_46, s97_47, s97_50, s97_53, s97_54, s97_57, s97_58, s97_61, s97_62, s97_63, s97_64, s97_65, s97_68, s97_69, s97_70, s97_73, s97_76, s97_79, zcs_0, zcs_1, zcs_2, zcs_3, zcs_4, zcs_5, zcs_6, zcs_7, znl_i, znl_r, znl_n, Bool.and_true, Bool.true_and, zk_v, zk_n, zk_x, zir_r, zir_n, zclr_i, zclr_r, zclr_n, zclr_d, zclr_l, true_and, and_true, and_self, if_true, if_false, reduceIte, nI_add, pk_mul, zin_ok, zx_nI, nI_lt2, nI_le2, nI_eq2, nI_l0, nI_g0, nI_q0, nI_p0, nI_n0, nI_m1, Nat.add_zero, Nat.zero_add, Nat.reduceAdd, Nat.reduceMul, true_or, or_true, znar_50, bI_0, bI_1, bI_z, bft, nI_z0, nI_z1, lgc_lt, lgc_gt, lgc_le, lgc_ge, lgc_eq, not_true_eq_false, not_false_eq_true, Bool.not_eq_true, Bool.not_eq_false, reduceCtorEq, k0, h01, ct, c63', g1, a4, g2, a10, cg, g0, c2]
        refine hnext z2 ?_
        rw [hst]
        exact ⟨i1, a4, a5, a10, a9, as⟩
      · rw [if_pos ⟨c1, by omega⟩] at hst
        generalize hlen : (owL v (nI a) k).length = len at *
        simp (disch := omega) only [s97_0, s97_1, s97_3, s97_4, s97_7, s97_10, s97_13, s97_16, s97_19, s97_20, s97_23, s97_25, s97_28, s97_29, s97_32, s97_35, s97_38, s97_39, s97_42, s97_43, s97_46, s97_47, s97_50, s97_53, s97_54, s97_57, s97_58, s97_61, s97_62, s97_63, s97_64, s97_65, s97_68, s97_69, s97_70, s97_73, s97_76, s97_79, zcs_0, zcs_1, zcs_2, zcs_3, zcs_4, zcs_5, zcs_6, zcs_7, znl_i, znl_r, znl_n, Bool.and_true, Bool.true_and, zk_v, zk_n, zk_x, zir_r, zir_n, zclr_i, zclr_r, zclr_n, zclr_d, zclr_l, true_and, and_true, and_self, if_true, if_false, reduceIte, nI_add, pk_mul, zin_ok, zx_nI, nI_lt2, nI_le2, nI_eq2, nI_l0, nI_g0, nI_q0, nI_p0, nI_n0, nI_m1, Nat.add_zero, Nat.zero_add, Nat.reduceAdd, Nat.reduceMul, true_or, or_true, znar_50, bI_0, bI_1, bI_z, bft, nI_z0, nI_z1, lgc_lt, lgc_gt, lgc_le, lgc_ge, lgc_eq, not_true_eq_false, not_false_eq_true, Bool.not_eq_true, Bool.not_eq_false, reduceCtorEq, k0, h01, ct, c63', g1, a4, g2, a10, cg, g0, c2, cls_sia, fi_sia, fr_sia, ia_sia, la_sia, ra_sia, len_sia, ls_sia, own_sia, n_sia, uc_sia, us_sia, cls_sfi, fi_sfi, fr_sfi, ia_sfi, la_sfi, ra_sfi, len_sfi, ls_sfi, own_sfi, n_sfi, uc_sfi, us_sfi]
        refine hnext _ ?_
        rw [hst]
        refine ⟨cFr_sfi (cFr_sia i1 (by omega) _ _) _ _, ?_, ?_, ?_, a9, fun q hq => ?_⟩
        · rw [fi_sfi, zu2_s, List.length_append, List.length_singleton, hlen]
        · rw [fi_sfi, zu2_k _ _ _ _ (by omega)]; exact a5
        · rw [fi_sfi, zu2_k _ _ _ _ (by omega)]; exact a10
        · rw [ia_sfi, ia_sia, hsL_app, hlen]
          by_cases e : q = len
          · subst e
            rw [zu2_s, if_neg (by omega), if_pos rfl]
          · rw [List.length_append, List.length_singleton, hlen] at hq
            rw [zu2_k _ _ _ _ e, if_pos (by omega)]
            exact as q (by omega)
    · have e10 : (owL v (nI a) k).length = 10 := by omega
      have hf := owL_full e10 (16 - k)
      rw [show k + (16 - k) = 16 by omega] at hf
      have g3 : 10 ≤ 10 := Nat.le_refl _
      rw [e10] at a4
      simp (disch := omega) only [s97_0, s97_1, s97_3, s97_4, s97_7, s97_10, s97_13, s97_16, s97_19, s97_20, s97_23, s97_25, s97_28, s97_29, s97_32, s97_35, s97_38, s97_39, s97_42, s97_43, s97_46, s97_47, s97_50, s97_53, s97_54, s97_57, s97_58, s97_61, s97_62, s97_63, s97_64, s97_65, s97_68, s97_69, s97_70, s97_73, s97_76, s97_79, zcs_0, zcs_1, zcs_2, zcs_3, zcs_4, zcs_5, zcs_6, zcs_7, znl_i, znl_r, znl_n, Bool.and_true, Bool.true_and, zk_v, zk_n, zk_x, zir_r, zir_n, zclr_i, zclr_r, zclr_n, zclr_d, zclr_l, true_and, and_true, and_self, if_true, if_false, reduceIte, nI_add, pk_mul, zin_ok, zx_nI, nI_lt2, nI_le2, nI_eq2, nI_l0, nI_g0, nI_q0, nI_p0, nI_n0, nI_m1, Nat.add_zero, Nat.zero_add, Nat.reduceAdd, Nat.reduceMul, true_or, or_true, znar_50, bI_0, bI_1, bI_z, bft, nI_z0, nI_z1, lgc_lt, lgc_gt, lgc_le, lgc_ge, lgc_eq, not_true_eq_false, not_false_eq_true, Bool.not_eq_true, Bool.not_eq_false, reduceCtorEq, k0, h01, ct, c63', g1, a4, g3]
      refine H z2 i1 ⟨?_, a5, a10, a9, ?_⟩
      · rw [rdN_d, hf, e10]; exact a4
      · rw [rdN_d, rdHs_d, hf]; exact as)
  simp (disch := omega) only [e97, s97_0, s97_1, s97_3, s97_4, s97_7, s97_10, s97_13, s97_16, s97_19, s97_20, s97_23, s97_25, s97_28, s97_29, s97_32, s97_35, s97_38, s97_39, s97_42, s97_43, s97_46, s97_47, s97_50, s97_53, s97_54, s97_57, s97_58, s97_61, s97_62, s97_63, s97_64, s97_65, s97_68, s97_69, s97_70, s97_73, s97_76, s97_79, zcs_0, zcs_1, zcs_2, zcs_3, zcs_4, zcs_5, zcs_6, zcs_7, znl_i, znl_r, znl_n, Bool.and_true, Bool.true_and, zk_v, zk_n, zk_x, zir_r, zir_n, zclr_i, zclr_r, zclr_n, zclr_d, zclr_l, true_and, and_true, and_self, if_true, if_false, reduceIte, nI_add, pk_mul, zin_ok, zx_nI, nI_lt2, nI_le2, nI_eq2, nI_l0, nI_g0, nI_q0, nI_p0, nI_n0, nI_m1, Nat.add_zero, Nat.zero_add, Nat.reduceAdd, Nat.reduceMul, true_or, or_true, znar_50, bI_0, bI_1, bI_z, bft, nI_z0, nI_z1, lgc_lt, lgc_gt, lgc_le, lgc_ge, lgc_eq, not_true_eq_false, not_false_eq_true, Bool.not_eq_true, Bool.not_eq_false, reduceCtorEq]
  exact key 0 z (Nat.zero_le _) ⟨cFr_refl z, hA.1, hA.2.1, hA.2.2.1, hA.2.2.2.1, fun k hk => absurd hk (by simp [owL])⟩
end AF2
