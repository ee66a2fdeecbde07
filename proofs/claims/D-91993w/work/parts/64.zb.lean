set_option maxRecDepth 100000
/-! the component's ledger: the rule that holds -/
theorem lok_nI {n : Nat} (h : n ≤ 1000000000) : lok (nI n).toInt64 = true := by
  unfold lok linB
  rw [nI_l (by omega), Bool.and_eq_true, decide_eq_true_iff, decide_eq_true_iff, Int64.le_iff_toInt_le, Int64.le_iff_toInt_le, lN_toInt (by omega), lN_toInt (by omega)]
  constructor
  · have : (-1000000000 : Int64).toInt = -1000000000 := by decide +kernel
    omega
  · omega
theorem ptS_of {v : Nat → Nat} {pt : Nat → Int32} (hB : wB v) (hO : pOK v) (hp : ∀ j, j < 5 → ∃ n, n < 500000000 ∧ pt j = nI n) : ptS v pt := by
  intro k hk
  unfold sPart
  by_cases h : v (814 + 3 * k + 1) = 5
  · rw [if_pos h]
    exact lok_nI (by have := hB (814 + 3 * k + 2); omega)
  · rw [if_neg h]
    have h5 := hO k hk
    obtain ⟨n, h1, h2⟩ := hp (v (814 + 3 * k + 1)) (by omega)
    rw [h2]
    exact lok_nI (by omega)
theorem ptC_of {v : Nat → Nat} (hB : wB v) (h7 : v 7 ≤ 960) {a b dy : Nat} (hy : dy < 500000000) : ∀ j, j < 5 → ∃ n, n < 500000000 ∧ ptC v a b dy j = nI n := by
  intro j hj
  match j, hj with
  | 0, _ => exact ⟨_, hB _, rfl⟩
  | 1, _ => exact ⟨_, hB _, rfl⟩
  | 2, _ => exact ⟨sDebtsOf v (nI b) (v 7), by have := cntN_le (fun i => decide (nI (v (1880 + 5 * i)) = nI b)) (v 7); unfold sDebtsOf; omega, rfl⟩
  | 3, _ => exact ⟨dy, hy, rfl⟩
  | 4, _ =>
    cases h : hasI (nI (v (1864 + a))) (nI b) with
    | false => exact ⟨0, by omega, by show bI _ = _; rw [h]; rfl⟩
    | true => exact ⟨1, by omega, by show bI _ = _; rw [h]; rfl⟩
section CS1
variable {d : Nat} {B : Nat → Prop} {z : ZH} {Q : ZQ} {v da ha ra : Nat → Nat} {l t hl kn rl : Nat} {L : Nat → List (Nat × Nat)}
theorem c65 (hH : RHo B z t hl kn ha v) {h : Nat} (hh : h < v 0) : ZC zG d 65 [.ref t, .int (nI h)] z Q = Q (.inl (some (.ref (ha h)))) z := by
  obtain ⟨⟨a1, a2⟩, ⟨b1, b2, b3⟩, c, ⟨d1, d2⟩, e, f⟩ := hH
  obtain ⟨e1, e2, e3, e4⟩ := e h hh
  simp (disch := omega) only [e65, s65_0, s65_1, s65_4, s65_5, s65_10, s65_13, s65_13r, zcs_0, zcs_1, zcs_2, zcs_3, zcs_4, zcs_5, zcs_6, zcs_7, znl_i, znl_r, znl_n, Bool.and_true, Bool.true_and, zk_v, zk_n, zk_x, zir_r, zir_n, zclr_i, zclr_r, zclr_n, zclr_d, zclr_l, true_and, and_true, and_self, if_true, if_false, reduceIte, nI_add, pk_mul, zin_ok, zx_nI, nI_lt2, nI_le2, nI_eq2, nI_l0, nI_g0, nI_q0, nI_p0, nI_n0, nI_m1, Nat.add_zero, Nat.zero_add, Nat.reduceAdd, Nat.reduceMul, true_or, or_true, znar_50, bI_0, bI_1, bI_z, bft, nI_z0, nI_z1, lgc_lt, lgc_gt, lgc_le, lgc_ge, lgc_eq, not_true_eq_false, not_false_eq_true, Bool.not_eq_true, Bool.not_eq_false, reduceCtorEq, a2, b1, b3, d1, e1, e3]
theorem c63 (hH : RHo B z t hl kn ha v) : ZC zG d 63 [.ref t] z Q = Q (.inl (some (.int (nI (v 0))))) z := by
  obtain ⟨⟨a1, a2⟩, ⟨b1, b2, b3⟩, c, ⟨d1, d2⟩, e, f⟩ := hH
  simp (disch := omega) only [e63, s63_0, s63_1, s63_4, s63_9, zcs_0, zcs_1, zcs_2, zcs_3, zcs_4, zcs_5, zcs_6, zcs_7, znl_i, znl_r, znl_n, Bool.and_true, Bool.true_and, zk_v, zk_n, zk_x, zir_r, zir_n, zclr_i, zclr_r, zclr_n, zclr_d, zclr_l, true_and, and_true, and_self, if_true, if_false, reduceIte, nI_add, pk_mul, zin_ok, zx_nI, nI_lt2, nI_le2, nI_eq2, nI_l0, nI_g0, nI_q0, nI_p0, nI_n0, nI_m1, Nat.add_zero, Nat.zero_add, Nat.reduceAdd, Nat.reduceMul, true_or, or_true, znar_50, bI_0, bI_1, bI_z, bft, nI_z0, nI_z1, lgc_lt, lgc_gt, lgc_le, lgc_ge, lgc_eq, not_true_eq_false, not_false_eq_true, Bool.not_eq_true, Bool.not_eq_false, reduceCtorEq, a2, b1, b3, d1]
theorem c64 (hH : RHo B z t hl kn ha v) {a : Int32} : ZC zG (d + 1) 64 [.ref t, .int a] z Q = Q (.inl (some (.int (bI (zin a (v 0)))))) z := by
  obtain ⟨⟨a1, a2⟩, ⟨b1, b2, b3⟩, c, ⟨d1, d2⟩, e, f⟩ := hH
  simp (disch := omega) only [e64, s64_0, s64_1, s64_2, s64_3, s64_4, s64_7, s64_12, s64_13, s64_14, s64_15, s64_18, zcs_0, zcs_1, zcs_2, zcs_3, zcs_4, zcs_5, zcs_6, zcs_7, znl_i, znl_r, znl_n, Bool.and_true, Bool.true_and, zk_v, zk_n, zk_x, zir_r, zir_n, zclr_i, zclr_r, zclr_n, zclr_d, zclr_l, true_and, and_true, and_self, if_true, if_false, reduceIte, nI_add, pk_mul, zin_ok, zx_nI, nI_lt2, nI_le2, nI_eq2, nI_l0, nI_g0, nI_q0, nI_p0, nI_n0, nI_m1, Nat.add_zero, Nat.zero_add, Nat.reduceAdd, Nat.reduceMul, true_or, or_true, znar_50, bI_0, bI_1, bI_z, bft, nI_z0, nI_z1, lgc_lt, lgc_gt, lgc_le, lgc_ge, lgc_eq, not_true_eq_false, not_false_eq_true, Bool.not_eq_true, Bool.not_eq_false, reduceCtorEq, a2, b1, b3, d1, c2, lin_n]
theorem RHo.fld (hH : RHo B z t hl kn ha v) {h : Nat} (hh : h < v 0) : B (ha h) ∧ zcls z (ha h) = 21 ∧ zfi z (ha h) 0 = nI (v (10 + 9 * h)) ∧ zfi z (ha h) 1 = nI (v (10 + 9 * h + 1)) ∧ zfi z (ha h) 2 = nI (v (10 + 9 * h + 2)) ∧ zfi z (ha h) 3 = nI (v (10 + 9 * h + 3)) ∧ zfi z (ha h) 4 = nI (v (10 + 9 * h + 4)) ∧ zfi z (ha h) 5 = nI (v (10 + 9 * h + 5)) ∧ zfi z (ha h) 6 = nI (v (10 + 9 * h + 6)) ∧ zfi z (ha h) 7 = nI (v (10 + 9 * h + 7)) := by
  obtain ⟨_, b, c, e⟩ := hH.2.2.2.2.1 h hh
  exact ⟨b, c, e 0 (by omega), e 1 (by omega), e 2 (by omega), e 3 (by omega), e 4 (by omega), e 5 (by omega), e 6 (by omega), e 7 (by omega)⟩
theorem c70 (hL : LdS z l) (hT : zfr z l 0 = .ref t) (hr : zfr z l 1 = .ref rl) (hH : RHo B z t hl kn ha v) (hR : RRu B z rl ra v L) (hD : RDe B z l da v) (hK : RKn z l v) (nB : ¬ B (l + 4)) (hW : wB v) (hLl : ∀ t, t < v 2 → (L t).length ≤ 350) (hd : 1002 ≤ d) {a b p dy : Nat} (ha' : a < v 0) (hb' : b < v 0) (hp : p < 4) (hy : dy < 1000) {f0 : Nat → Int32}
    (H : ∀ f, Q (.inl (some (if sLine v (ptC v a b dy) L p = v 1 then .null else .ref (ra (sLine v (ptC v a b dy) L p))))) (sFI z (l + 4) f)) : ZC zG d 70 [.ref l, .int (nI a), .int (nI b), .int (nI p), .int (nI dy)] (sFI z (l + 4) f0) Q := by
  have hL2 := hL
  unfold LdS at hL2
  obtain ⟨d, rfl⟩ : ∃ d', d = d' + 2 := ⟨d - 2, by omega⟩
  have hst : ∀ f, zSt B z (sFI z (l + 4) f) := fun f => zSt_sFI (zSt_refl B z) nB
  have d71 : ∀ f d Q a, ZC zG d 71 [.ref l, .int a] (sFI z (l + 4) f) Q = Q (.inl (some (.int (nI (sDebtsOf v a (v 7)))))) (sFI z (l + 4) f) := fun f d Q a => c71 (z := sFI z (l + 4) f) hL (RDe.st (hst f) rfl hD)
  have d65 : ∀ f d Q h, h < v 0 → ZC zG d 65 [.ref t, .int (nI h)] (sFI z (l + 4) f) Q = Q (.inl (some (.ref (ha h)))) (sFI z (l + 4) f) := fun f d Q h hh => c65 (z := sFI z (l + 4) f) (hH.st (hst f)) hh
  have h16 : v 0 ≤ 16 := hH.2.2.2.1.2
  have d68 : ∀ f d Q, ZC zG (d + 1) 68 [.ref l, .int (nI a), .int (nI b)] (sFI z (l + 4) f) Q = Q (.inl (some (.int (bI (hasI (nI (v (1864 + a))) (nI b)))))) (sFI z (l + 4) f) := fun f d Q => c68 (z := sFI z (l + 4) f) (v := v) hL hK (by omega)
  obtain ⟨fa1, fa2, _, _, fa3, _⟩ := hH.fld ha'
  obtain ⟨fb1, fb2, _, _, fb3, _⟩ := hH.fld hb'
  have na : ¬ ha a = l + 4 := fun e => nB (e ▸ fa1)
  have nb : ¬ ha b = l + 4 := fun e => nB (e ▸ fb1)
  have ct : zcls z t = 2 := hH.1.2
  have hR0 := hR
  obtain ⟨⟨r1, r2⟩, r3, r4, r5⟩ := hR
  have h24 : v 1 ≤ 24 := r4.1
  have hvv : ∀ i, v i < 2147483648 := fun i => by have := hW i; omega
  have h7 : v 7 ≤ 600 := hD.2.1
  -- the loop
  have key : ∀ (f1 : Nat → Int32), (∀ j, j < 5 → f1 j = ptC v a b dy j) → ∀ m k x, k + m = v 1 → findF (sLineOK v (ptC v a b dy) L p) m k = sLine v (ptC v a b dy) L p → ZW zG (d + 2) 70 81 [.ref l, .int (nI a), .int (nI b), .int (nI p), .int (nI dy), .int (nI k)] [] (sfi (sFI z (l + 4) f1) (l + 4) 5 x) Q := by
    intro f1 hf1
    have hpt : zfi (sFI z (l + 4) f1) (l + 4) = f1 := by rw [fi_sFI, zu1_s]
    have hS : ptS v (zfi (sFI z (l + 4) f1) (l + 4)) := by
      rw [hpt]
      refine ptS_of hW r4.2.2.2.1 (fun j hj => ?_)
      rw [hf1 j hj]
      exact ptC_of hW (by omega) (by omega) j hj
    have hOK : ∀ k, k < v 1 → sLineOK v (zfi (sFI z (l + 4) f1) (l + 4)) L p k = sLineOK v (ptC v a b dy) L p k := by
      intro k hk
      rw [hpt]
      unfold sLineOK
      have := (r4.2.2.2.2.1 k hk).2.2.2
      rw [allN_c _ (fun j hj => tHold_c (agC_refl v) hf1 r4 (by omega))]
    intro m
    induction m with
    | zero =>
      intro k x hk hf
      have e : k = v 1 := by omega
      have H1 := H (zu1 f1 5 x)
      have hf2 : k = sLine v (ptC v a b dy) L p := hf
      rw [← hf2, if_pos e, ← sFI_sfi] at H1
      subst e
      rw [s70_81]
      simp (disch := first | omega | assumption) only [s70_0, s70_1, s70_4, s70_5, s70_8, s70_9, s70_12, s70_15, s70_18, s70_19, s70_22, s70_23, s70_26, s70_27, s70_30, s70_33, s70_36, s70_37, s70_40, s70_41, s70_42, s70_45, s70_48, s70_49, s70_52, s70_54, s70_57, s70_58, s70_61, s70_62, s70_63, s70_64, s70_67, s70_70, s70_71, s70_74, s70_75, s70_78, s70_79, s70_83, s70_84, s70_87, s70_92, s70_95, s70_96, s70_99, s70_101, s70_106, s70_109, s70_110, s70_111, s70_114, s70_117, s70_120, s70_121, s70_124, s70_126, s70_131, s70_134, s70_134r, s70_135, s70_138, s70_141, s70_142, s70_142r, zcs_0, zcs_1, zcs_2, zcs_3, zcs_4, zcs_5, zcs_6, zcs_7, znl_i, znl_r, znl_n, Bool.and_true, Bool.true_and, zk_v, zk_n, zk_x, zir_r, zir_n, zclr_i, zclr_r, zclr_n, zclr_d, zclr_l, true_and, and_true, and_self, if_true, if_false, reduceIte, nI_add, pk_mul, zin_ok, zx_nI, nI_lt2, nI_le2, nI_eq2, nI_l0, nI_g0, nI_q0, nI_p0, nI_n0, nI_m1, Nat.add_zero, Nat.zero_add, Nat.reduceAdd, Nat.reduceMul, true_or, or_true, znar_50, bI_0, bI_1, bI_z, bft, nI_z0, nI_z1, lgc_lt, lgc_gt, lgc_le, lgc_ge, lgc_eq, not_true_eq_false, not_false_eq_true, Bool.not_eq_true, Bool.not_eq_false, reduceCtorEq, cls_sFI, fr_sFI, ia_sFI, la_sFI, ra_sFI, len_sFI, ls_sFI, own_sFI, n_sFI, uc_sFI, us_sFI, cls_sfi, fr_sfi, ls_sfi, hL2, hr, r2, r3, Nat.le_refl]
      exact H1
    | succ m ih =>
      intro k x hk hf
      have h1 : ¬ v 1 ≤ k := by omega
      obtain ⟨g1, g2⟩ := r5 k (by omega)
      have g3 : zcls z (ra k) = 15 := g2.2.1
      have hfl : findF (sLineOK v (ptC v a b dy) L p) (m + 1) k = if sLineOK v (ptC v a b dy) L p k = true then k else findF (sLineOK v (ptC v a b dy) L p) m (k + 1) := rfl
      rw [hfl] at hf
      rw [s70_81]
      simp (disch := first | omega | assumption) only [s70_0, s70_1, s70_4, s70_5, s70_8, s70_9, s70_12, s70_15, s70_18, s70_19, s70_22, s70_23, s70_26, s70_27, s70_30, s70_33, s70_36, s70_37, s70_40, s70_41, s70_42, s70_45, s70_48, s70_49, s70_52, s70_54, s70_57, s70_58, s70_61, s70_62, s70_63, s70_64, s70_67, s70_70, s70_71, s70_74, s70_75, s70_78, s70_79, s70_83, s70_84, s70_87, s70_92, s70_95, s70_96, s70_99, s70_101, s70_106, s70_109, s70_110, s70_111, s70_117, s70_120, s70_121, s70_124, s70_126, s70_131, s70_134, s70_134r, s70_135, s70_138, s70_141, s70_142, s70_142r, zcs_0, zcs_1, zcs_2, zcs_3, zcs_4, zcs_5, zcs_6, zcs_7, znl_i, znl_r, znl_n, Bool.and_true, Bool.true_and, zk_v, zk_n, zk_x, zir_r, zir_n, zclr_i, zclr_r, zclr_n, zclr_d, zclr_l, true_and, and_true, and_self, if_true, if_false, reduceIte, nI_add, pk_mul, zin_ok, zx_nI, nI_lt2, nI_le2, nI_eq2, nI_l0, nI_g0, nI_q0, nI_p0, nI_n0, nI_m1, Nat.add_zero, Nat.zero_add, Nat.reduceAdd, Nat.reduceMul, true_or, or_true, znar_50, bI_0, bI_1, bI_z, bft, nI_z0, nI_z1, lgc_lt, lgc_gt, lgc_le, lgc_ge, lgc_eq, not_true_eq_false, not_false_eq_true, Bool.not_eq_true, Bool.not_eq_false, reduceCtorEq, cls_sFI, fr_sFI, ia_sFI, la_sFI, ra_sFI, len_sFI, ls_sFI, own_sFI, n_sFI, uc_sFI, us_sFI, cls_sfi, fr_sfi, ls_sfi, hL2, hr, r2, r3, h1, g1, g3]
      rw [s70_114]
      refine ⟨by rw [cls_sfi, cls_sFI]; exact g3, rfl, ?_⟩
      refine c235 (z := sFI z (l + 4) f1) (v := v) (L := L) hL2.2.2.2.2.2.2.2 nB (by omega) hS hvv r4 hLl (by omega) (by omega) (g2.st (hst f1)) (fun y => ?_)
      rw [hOK k (by omega)]
      cases ho : sLineOK v (ptC v a b dy) L p k with
      | true =>
        rw [if_pos ho] at hf
        have H1 := H (zu1 f1 5 y)
        rw [← hf, if_neg (by omega), ← sFI_sfi] at H1
        simp (disch := first | omega | assumption) only [s70_0, s70_1, s70_4, s70_5, s70_8, s70_9, s70_12, s70_15, s70_18, s70_19, s70_22, s70_23, s70_26, s70_27, s70_30, s70_33, s70_36, s70_37, s70_40, s70_41, s70_42, s70_45, s70_48, s70_49, s70_52, s70_54, s70_57, s70_58, s70_61, s70_62, s70_63, s70_64, s70_67, s70_70, s70_71, s70_74, s70_75, s70_78, s70_79, s70_83, s70_84, s70_87, s70_92, s70_95, s70_96, s70_99, s70_101, s70_106, s70_109, s70_110, s70_111, s70_117, s70_120, s70_121, s70_124, s70_126, s70_131, s70_134, s70_134r, s70_135, s70_138, s70_141, s70_142, s70_142r, zcs_0, zcs_1, zcs_2, zcs_3, zcs_4, zcs_5, zcs_6, zcs_7, znl_i, znl_r, znl_n, Bool.and_true, Bool.true_and, zk_v, zk_n, zk_x, zir_r, zir_n, zclr_i, zclr_r, zclr_n, zclr_d, zclr_l, true_and, and_true, and_self, if_true, if_false, reduceIte, nI_add, pk_mul, zin_ok, zx_nI, nI_lt2, nI_le2, nI_eq2, nI_l0, nI_g0, nI_q0, nI_p0, nI_n0, nI_m1, Nat.add_zero, Nat.zero_add, Nat.reduceAdd, Nat.reduceMul, true_or, or_true, znar_50, bI_0, bI_1, bI_z, bft, nI_z0, nI_z1, lgc_lt, lgc_gt, lgc_le, lgc_ge, lgc_eq, not_true_eq_false, not_false_eq_true, Bool.not_eq_true, Bool.not_eq_false, reduceCtorEq, cls_sFI, fr_sFI, ia_sFI, la_sFI, ra_sFI, len_sFI, ls_sFI, own_sFI, n_sFI, uc_sFI, us_sFI, cls_sfi, fr_sfi, ls_sfi, hL2, hr, r2, r3, g1, g3]
        exact H1
      | false =>
        rw [if_neg (by rw [ho]; exact fun h => by cases h)] at hf
        simp (disch := first | omega | assumption) only [s70_0, s70_1, s70_4, s70_5, s70_8, s70_9, s70_12, s70_15, s70_18, s70_19, s70_22, s70_23, s70_26, s70_27, s70_30, s70_33, s70_36, s70_37, s70_40, s70_41, s70_42, s70_45, s70_48, s70_49, s70_52, s70_54, s70_57, s70_58, s70_61, s70_62, s70_63, s70_64, s70_67, s70_70, s70_71, s70_74, s70_75, s70_78, s70_79, s70_83, s70_84, s70_87, s70_92, s70_95, s70_96, s70_99, s70_101, s70_106, s70_109, s70_110, s70_111, s70_117, s70_120, s70_121, s70_124, s70_126, s70_131, s70_134, s70_134r, s70_135, s70_138, s70_141, s70_142, s70_142r, zcs_0, zcs_1, zcs_2, zcs_3, zcs_4, zcs_5, zcs_6, zcs_7, znl_i, znl_r, znl_n, Bool.and_true, Bool.true_and, zk_v, zk_n, zk_x, zir_r, zir_n, zclr_i, zclr_r, zclr_n, zclr_d, zclr_l, true_and, and_true, and_self, if_true, if_false, reduceIte, nI_add, pk_mul, zin_ok, zx_nI, nI_lt2, nI_le2, nI_eq2, nI_l0, nI_g0, nI_q0, nI_p0, nI_n0, nI_m1, Nat.add_zero, Nat.zero_add, Nat.reduceAdd, Nat.reduceMul, true_or, or_true, znar_50, bI_0, bI_1, bI_z, bft, nI_z0, nI_z1, lgc_lt, lgc_gt, lgc_le, lgc_ge, lgc_eq, not_true_eq_false, not_false_eq_true, Bool.not_eq_true, Bool.not_eq_false, reduceCtorEq]
        exact ih (k + 1) y (by omega) hf
  have k2 := key (ptA (nI (v (10 + 9 * a + 2))) (nI (v (10 + 9 * b + 2))) (nI (sDebtsOf v (nI b) (v 7))) (nI dy) (bI (hasI (nI (v (1864 + a))) (nI b))) f0) (by
    intro j hj
    match j, hj with
    | 0, _ => rfl
    | 1, _ => rfl
    | 2, _ => rfl
    | 3, _ => rfl
    | 4, _ => rfl) (v 1) 0 (ptA (nI (v (10 + 9 * a + 2))) (nI (v (10 + 9 * b + 2))) (nI (sDebtsOf v (nI b) (v 7))) (nI dy) (bI (hasI (nI (v (1864 + a))) (nI b))) f0 5) (by omega) rfl
  have e5 : ∀ f : Nat → Int32, sfi (sFI z (l + 4) f) (l + 4) 5 (f 5) = sFI z (l + 4) f := by
    intro f
    rw [sFI_sfi]
    congr 1
    funext q
    unfold zu1
    by_cases hq : q = 5
    · rw [if_pos hq, hq]
    · rw [if_neg hq]
  rw [e5] at k2
  cases hk : hasI (nI (v (1864 + a))) (nI b) <;>
  · rw [hk] at k2 d68
    simp (disch := first | omega | assumption) only [s70_0, s70_1, s70_4, s70_5, s70_8, s70_9, s70_12, s70_15, s70_18, s70_19, s70_22, s70_23, s70_26, s70_27, s70_30, s70_33, s70_36, s70_37, s70_40, s70_41, s70_42, s70_45, s70_48, s70_49, s70_52, s70_54, s70_57, s70_58, s70_61, s70_62, s70_63, s70_64, s70_67, s70_70, s70_71, s70_74, s70_75, s70_78, s70_79, e70, zcs_0, zcs_1, zcs_2, zcs_3, zcs_4, zcs_5, zcs_6, zcs_7, znl_i, znl_r, znl_n, Bool.and_true, Bool.true_and, zk_v, zk_n, zk_x, zir_r, zir_n, zclr_i, zclr_r, zclr_n, zclr_d, zclr_l, true_and, and_true, and_self, if_true, if_false, reduceIte, nI_add, pk_mul, zin_ok, zx_nI, nI_lt2, nI_le2, nI_eq2, nI_l0, nI_g0, nI_q0, nI_p0, nI_n0, nI_m1, Nat.add_zero, Nat.zero_add, Nat.reduceAdd, Nat.reduceMul, true_or, or_true, znar_50, bI_0, bI_1, bI_z, bft, nI_z0, nI_z1, lgc_lt, lgc_gt, lgc_le, lgc_ge, lgc_eq, not_true_eq_false, not_false_eq_true, Bool.not_eq_true, Bool.not_eq_false, reduceCtorEq, cls_sFI, fr_sFI, ia_sFI, la_sFI, ra_sFI, len_sFI, ls_sFI, own_sFI, n_sFI, uc_sFI, us_sFI, hL2, hT, ct, d65, d68, d71, fi_sFI, zu1_n, fa2, fa3, fb2, fb3, sFI_sfi]
    exact k2
end CS1
