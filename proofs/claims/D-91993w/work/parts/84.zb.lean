set_option maxRecDepth 100000
/-! whom one comes to -/
theorem passB_N {bt : Nat → Nat} {s N : Nat} (hs : s < 2 ^ N) : ∀ n, (∀ h, h < n → bt h < 2 ^ N) → ∃ c, s ≤ c ∧ c < 2 ^ N ∧ passB bt (nI s) n = nI c
  | 0, _ => ⟨s, Nat.le_refl _, hs, rfl⟩
  | n + 1, hv => by
    obtain ⟨c, h1, h2, h3⟩ := passB_N hs n (fun h hh => hv h (by omega))
    unfold passB
    split
    · rw [h3, nI_or]
      have g1 : c ≤ c ||| bt n := Nat.left_le_or
      exact ⟨c ||| bt n, by omega, Nat.or_lt_two_pow h2 (hv n (by omega)), rfl⟩
    · exact ⟨c, h1, h2, h3⟩
theorem fixB_N {bt : Nat → Nat} {N n : Nat} (hb : ∀ h, h < n → bt h < 2 ^ N) : ∀ m s, s < 2 ^ N → ∃ c, s ≤ c ∧ c < 2 ^ N ∧ fixI (fun s => passB bt s n) m (nI s) = nI c
  | 0, s, hs => ⟨s, Nat.le_refl _, hs, rfl⟩
  | m + 1, s, hs => by
    obtain ⟨c, h1, h2, h3⟩ := passB_N hs n hb
    unfold fixI
    rw [h3]
    split
    · exact ⟨s, Nat.le_refl _, hs, rfl⟩
    · obtain ⟨e, g1, g2, g3⟩ := fixB_N hb m c h2
      exact ⟨e, by omega, g2, g3⟩
theorem passB_more {bt : Nat → Nat} {w : Int32} {n : Nat} : ∀ m, (∀ h, n ≤ h → h < n + m → bt h = 0) → (∃ c, passB bt w n = nI c) → passB bt w (n + m) = passB bt w n
  | 0, _, _ => rfl
  | m + 1, hz, hc => by
    have ih := passB_more (w := w) m (fun h h1 h2 => hz h h1 (by omega)) hc
    show (if hasI w (nI (n + m)) = true then passB bt w (n + m) ||| nI (bt (n + m)) else passB bt w (n + m)) = _
    rw [ih]
    split
    · obtain ⟨c, hc⟩ := hc
      rw [hz (n + m) (by omega) (by omega), hc, nI_or, Nat.or_zero]
    · rfl
def cmI (bt : Nat → Nat) (n a : Nat) : Int32 := fixI (fun s => passB bt s n) 65536 (nI (2 ^ a))
theorem cmI_more {bt : Nat → Nat} {n a : Nat} (hn : n ≤ 16) (hb : ∀ h, h < 16 → bt h < 65536) (hz : ∀ h, n ≤ h → h < 16 → bt h = 0) (ha : a < 16) : cmI bt n a = cmI bt 16 a := by
  have h2a : 2 ^ a < 65536 := by
    have : (2 : Nat) ^ a < 2 ^ 16 := Nat.pow_lt_pow_right (by omega) ha
    omega
  refine fixI_c (fun s hs => ?_) 65536 _ h2a
  obtain ⟨c, p1, p2, p3⟩ := passB_ok (bt := bt) hs n (fun q hq => hb q (by omega))
  have hm := passB_more (bt := bt) (w := nI s) (n := n) (16 - n) (fun q h1 h2 => hz q h1 (by omega)) ⟨c, p3⟩
  rw [show n + (16 - n) = 16 by omega] at hm
  exact ⟨c, p2, p3, hm.trans p3⟩
section CC
variable {d : Nat} {B : Nat → Prop} {z : ZH} {Q : ZQ} {v : Nat → Nat} {L : Nat → List (Nat × Nat)} {t hl kn rl : Nat} {ha ra da ea : Nat → Nat} {K : Nat}
theorem m205i (hM : MS z) {bt : Nat → Nat} (hz : ∀ h, h < 16 → zia z 156 h = nI (bt h)) {a w : Int32} : ∀ m h, h + m = 16 → ∃ y4, ZW zG (d + 1) 205 16 [.ref 135, .int a, .int (passB bt w h), .int w, .int (nI h)] [] (z) Q = ZW zG (d + 1) 205 6 [.ref 135, .int a, .int (passB bt w (16)), .int w, y4] [] (z) Q := by
  have h0 := hM
  unfold MS at h0
  intro m
  induction m with
  | zero =>
    intro h hh
    have : h = 16 := by omega
    subst this
    refine ⟨.int (nI (16)), s205_16.trans ?_⟩
    simp (disch := first | omega | exact hM) only [s205_0, s205_1, s205_2, s205_3, s205_4, s205_5, s205_7, s205_8, s205_11, s205_12, s205_13, s205_14, s205_18, s205_20, s205_23, s205_24, s205_26, s205_29, s205_32, s205_33, s205_34, s205_37, s205_39, s205_40, s205_41, s205_42, s205_45, s205_48, s205_51, s205_52, zcs_0, zcs_1, zcs_2, zcs_3, zcs_4, zcs_5, zcs_6, zcs_7, znl_i, znl_r, znl_n, Bool.and_true, Bool.true_and, zk_v, zk_n, zk_x, zir_r, zir_n, zclr_i, zclr_r, zclr_n, zclr_d, zclr_l, true_and, and_true, and_self, if_true, if_false, reduceIte, nI_add, pk_mul, zin_ok, zx_nI, nI_lt2, nI_le2, nI_eq2, nI_l0, nI_g0, nI_q0, nI_p0, nI_n0, nI_m1, Nat.add_zero, Nat.zero_add, Nat.reduceAdd, Nat.reduceMul, true_or, or_true, znar_50, bI_0, bI_1, bI_z, bft, nI_z0, nI_z1, lgc_lt, lgc_gt, lgc_le, lgc_ge, lgc_eq, not_true_eq_false, not_false_eq_true, Bool.not_eq_true, Bool.not_eq_false, reduceCtorEq, h0, m149, Nat.le_refl]
  | succ m ih =>
    intro h hh
    have g1 : ¬ 16 ≤ h := by omega
    have kf : h < 16 := by omega
    have kk := hz h kf
    have hs : passB bt w (h + 1) = if hasI w (nI h) = true then passB bt w h ||| nI (bt h) else passB bt w h := rfl
    obtain ⟨y4, e⟩ := ih (h + 1) (by omega)
    refine ⟨y4, (s205_16.trans ?_).trans e⟩
    cases hb : hasI w (nI h) with
    | false =>
      rw [hb] at hs
      rw [hs]
      simp (disch := first | omega | exact hM) only [s205_0, s205_1, s205_2, s205_3, s205_4, s205_5, s205_7, s205_8, s205_11, s205_12, s205_13, s205_14, s205_18, s205_20, s205_23, s205_24, s205_26, s205_29, s205_32, s205_33, s205_34, s205_37, s205_39, s205_40, s205_41, s205_42, s205_45, s205_48, s205_51, s205_52, zcs_0, zcs_1, zcs_2, zcs_3, zcs_4, zcs_5, zcs_6, zcs_7, znl_i, znl_r, znl_n, Bool.and_true, Bool.true_and, zk_v, zk_n, zk_x, zir_r, zir_n, zclr_i, zclr_r, zclr_n, zclr_d, zclr_l, true_and, and_true, and_self, if_true, if_false, reduceIte, nI_add, pk_mul, zin_ok, zx_nI, nI_lt2, nI_le2, nI_eq2, nI_l0, nI_g0, nI_q0, nI_p0, nI_n0, nI_m1, Nat.add_zero, Nat.zero_add, Nat.reduceAdd, Nat.reduceMul, true_or, or_true, znar_50, bI_0, bI_1, bI_z, bft, nI_z0, nI_z1, lgc_lt, lgc_gt, lgc_le, lgc_ge, lgc_eq, not_true_eq_false, not_false_eq_true, Bool.not_eq_true, Bool.not_eq_false, reduceCtorEq, h0, m149, g1, hb, eq_self, Bool.false_eq_true, if_false]
    | true =>
      rw [hb, if_pos rfl] at hs
      rw [hs]
      simp (disch := first | omega | exact hM) only [s205_0, s205_1, s205_2, s205_3, s205_4, s205_5, s205_7, s205_8, s205_11, s205_12, s205_13, s205_14, s205_18, s205_20, s205_23, s205_24, s205_26, s205_29, s205_32, s205_33, s205_34, s205_37, s205_39, s205_40, s205_41, s205_42, s205_45, s205_48, s205_51, s205_52, zcs_0, zcs_1, zcs_2, zcs_3, zcs_4, zcs_5, zcs_6, zcs_7, znl_i, znl_r, znl_n, Bool.and_true, Bool.true_and, zk_v, zk_n, zk_x, zir_r, zir_n, zclr_i, zclr_r, zclr_n, zclr_d, zclr_l, true_and, and_true, and_self, if_true, if_false, reduceIte, nI_add, pk_mul, zin_ok, zx_nI, nI_lt2, nI_le2, nI_eq2, nI_l0, nI_g0, nI_q0, nI_p0, nI_n0, nI_m1, Nat.add_zero, Nat.zero_add, Nat.reduceAdd, Nat.reduceMul, true_or, or_true, znar_50, bI_0, bI_1, bI_z, bft, nI_z0, nI_z1, lgc_lt, lgc_gt, lgc_le, lgc_ge, lgc_eq, not_true_eq_false, not_false_eq_true, Bool.not_eq_true, Bool.not_eq_false, reduceCtorEq, h0, m149, g1, hb, kk]
theorem m205 (hM : MS z) {bt : Nat → Nat} (hz : ∀ h, h < 16 → zia z 156 h = nI (bt h)) (hbt : ∀ h, h < 16 → bt h < 65536) {a : Nat} (ha9 : a < 16) : ZC zG (d + 1) 205 [.ref 135, .int (nI a)] (z) Q = Q (.inl (some (.int (cmI bt (16) a)))) (z) := by
  have key : ∀ m s (w : Int32) (x4 : Value), s < 65536 → 65536 - s ≤ m → ¬ w = nI s → ZW zG (d + 1) 205 6 [.ref 135, .int (nI a), .int (nI s), .int w, x4] [] (z) Q = Q (.inl (some (.int (fixI (fun s => passB bt s (16)) m (nI s))))) (z) := by
    intro m
    induction m with
    | zero => intro s w x4 hs hm; omega
    | succ m ih =>
      intro s w x4 hs hm hw
      have hN16 : 16 ≤ 16 := Nat.le_refl 16
      obtain ⟨c, p1, p2, p3⟩ := passB_ok (bt := bt) hs (16) (fun h hh => hbt h (by omega))
      obtain ⟨y4, e⟩ := m205i (d := d) (Q := Q) hM hz (a := nI a) (w := nI s) (16) 0 (by omega)
      have e2 : passB bt (nI s) 0 = nI s := rfl
      rw [e2] at e
      refine s205_6.trans ?_
      simp (disch := omega) only [s205_7, s205_8, s205_11, s205_12, s205_13, s205_14, zcs_0, zcs_1, zcs_2, zcs_3, zcs_4, zcs_5, zcs_6, zcs_7, znl_i, znl_r, znl_n, Bool.and_true, Bool.true_and, zk_v, zk_n, zk_x, zir_r, zir_n, zclr_i, zclr_r, zclr_n, zclr_d, zclr_l, true_and, and_true, and_self, if_true, if_false, reduceIte, nI_add, pk_mul, zin_ok, zx_nI, nI_lt2, nI_le2, nI_eq2, nI_l0, nI_g0, nI_q0, nI_p0, nI_n0, nI_m1, Nat.add_zero, Nat.zero_add, Nat.reduceAdd, Nat.reduceMul, true_or, or_true, znar_50, bI_0, bI_1, bI_z, bft, nI_z0, nI_z1, lgc_lt, lgc_gt, lgc_le, lgc_ge, lgc_eq, not_true_eq_false, not_false_eq_true, Bool.not_eq_true, Bool.not_eq_false, reduceCtorEq, hw]
      refine e.trans ?_
      rw [p3]
      have hf : fixI (fun s => passB bt s (16)) (m + 1) (nI s) = if passB bt (nI s) (16) = nI s then nI s else fixI (fun s => passB bt s (16)) m (passB bt (nI s) (16)) := rfl
      rw [hf, p3]
      by_cases c0 : c = s
      · subst c0
        rw [if_pos rfl]
        refine s205_6.trans ?_
        simp (disch := omega) only [s205_0, s205_1, s205_2, s205_3, s205_4, s205_5, s205_7, s205_8, s205_11, s205_12, s205_13, s205_14, s205_18, s205_20, s205_23, s205_24, s205_26, s205_29, s205_32, s205_33, s205_34, s205_37, s205_39, s205_40, s205_41, s205_42, s205_45, s205_48, s205_51, s205_52, zcs_0, zcs_1, zcs_2, zcs_3, zcs_4, zcs_5, zcs_6, zcs_7, znl_i, znl_r, znl_n, Bool.and_true, Bool.true_and, zk_v, zk_n, zk_x, zir_r, zir_n, zclr_i, zclr_r, zclr_n, zclr_d, zclr_l, true_and, and_true, and_self, if_true, if_false, reduceIte, nI_add, pk_mul, zin_ok, zx_nI, nI_lt2, nI_le2, nI_eq2, nI_l0, nI_g0, nI_q0, nI_p0, nI_n0, nI_m1, Nat.add_zero, Nat.zero_add, Nat.reduceAdd, Nat.reduceMul, true_or, or_true, znar_50, bI_0, bI_1, bI_z, bft, nI_z0, nI_z1, lgc_lt, lgc_gt, lgc_le, lgc_ge, lgc_eq, not_true_eq_false, not_false_eq_true, Bool.not_eq_true, Bool.not_eq_false, reduceCtorEq, eq_self]
      · have cn : ¬ nI c = nI s := by rw [nI_eq2 (by omega) (by omega)]; exact c0
        rw [if_neg cn]
        exact ih c (nI s) y4 p2 (by omega) (fun h => cn h.symm)
  have h2a : 2 ^ a < 65536 := by
    have : (2 : Nat) ^ a < 2 ^ 16 := Nat.pow_lt_pow_right (by omega) ha9
    omega
  have hpos := Nat.two_pow_pos a
  have hne : ¬ nI 0 = nI (2 ^ a) := by rw [nI_eq2 (by omega) (by omega)]; omega
  simp (disch := omega) only [s205_0, s205_1, s205_2, s205_3, s205_4, s205_5, e205, zcs_0, zcs_1, zcs_2, zcs_3, zcs_4, zcs_5, zcs_6, zcs_7, znl_i, znl_r, znl_n, Bool.and_true, Bool.true_and, zk_v, zk_n, zk_x, zir_r, zir_n, zclr_i, zclr_r, zclr_n, zclr_d, zclr_l, true_and, and_true, and_self, if_true, if_false, reduceIte, nI_sh1]
  exact key 65536 (2 ^ a) (nI 0) _ h2a (by omega) hne
theorem c50i (h : NW B z v L t hl kn rl ha ra da ea) (hv : ∀ i, v i < 2147483648) (hE1 : ∀ i, i < v 8 → v (6680 + 4 * i + 1) < 16) {bt : Nat → Nat} (hz : ∀ h, h < 16 → clB v h (v 8) = bt h) {a w : Int32} : ∀ m h, h + m = v 0 → ∃ y4, ZW zG (d + 2) 50 16 [.ref 100, .int a, .int (passB bt w h), .int w, .int (nI h)] [] (z) Q = ZW zG (d + 2) 50 6 [.ref 100, .int a, .int (passB bt w (v 0)), .int w, y4] [] (z) Q := by
  have c51' := fun d Q a h9 => c51 (d := d) (Q := Q) h hv hE1 (a := a) h9
  have h16 : v 0 ≤ 16 := h.2.2.1.2.2.2.1.2
  have c63' := fun d Q => c63 (d := d) (Q := Q) h.2.2.1
  have ct := h.2.2.1.1.2
  have h1 := h.2.1.1
  have h0 := h.1
  unfold CS at h0
  intro m
  induction m with
  | zero =>
    intro h hh
    have : h = v 0 := by omega
    subst this
    refine ⟨.int (nI (v 0)), s50_16.trans ?_⟩
    simp (disch := omega) only [s50_0, s50_1, s50_2, s50_3, s50_4, s50_5, s50_7, s50_8, s50_11, s50_12, s50_13, s50_14, s50_18, s50_19, s50_22, s50_25, s50_28, s50_31, s50_32, s50_34, s50_37, s50_40, s50_41, s50_42, s50_44, s50_47, s50_48, s50_49, s50_52, s50_55, s50_58, s50_59, zcs_0, zcs_1, zcs_2, zcs_3, zcs_4, zcs_5, zcs_6, zcs_7, znl_i, znl_r, znl_n, Bool.and_true, Bool.true_and, zk_v, zk_n, zk_x, zir_r, zir_n, zclr_i, zclr_r, zclr_n, zclr_d, zclr_l, true_and, and_true, and_self, if_true, if_false, reduceIte, nI_add, pk_mul, zin_ok, zx_nI, nI_lt2, nI_le2, nI_eq2, nI_l0, nI_g0, nI_q0, nI_p0, nI_n0, nI_m1, Nat.add_zero, Nat.zero_add, Nat.reduceAdd, Nat.reduceMul, true_or, or_true, znar_50, bI_0, bI_1, bI_z, bft, nI_z0, nI_z1, lgc_lt, lgc_gt, lgc_le, lgc_ge, lgc_eq, not_true_eq_false, not_false_eq_true, Bool.not_eq_true, Bool.not_eq_false, reduceCtorEq, h0, h1, ct, c63', c18, c51', Nat.le_refl]
  | succ m ih =>
    intro h hh
    have g1 : ¬ v 0 ≤ h := by omega
    have kf : h < 16 := by omega
    have kk := hz h kf
    have hs : passB bt w (h + 1) = if hasI w (nI h) = true then passB bt w h ||| nI (bt h) else passB bt w h := rfl
    obtain ⟨y4, e⟩ := ih (h + 1) (by omega)
    refine ⟨y4, (s50_16.trans ?_).trans e⟩
    cases hb : hasI w (nI h) with
    | false =>
      rw [hb] at hs
      rw [hs]
      simp (disch := omega) only [s50_0, s50_1, s50_2, s50_3, s50_4, s50_5, s50_7, s50_8, s50_11, s50_12, s50_13, s50_14, s50_18, s50_19, s50_22, s50_25, s50_28, s50_31, s50_32, s50_34, s50_37, s50_40, s50_41, s50_42, s50_44, s50_47, s50_48, s50_49, s50_52, s50_55, s50_58, s50_59, zcs_0, zcs_1, zcs_2, zcs_3, zcs_4, zcs_5, zcs_6, zcs_7, znl_i, znl_r, znl_n, Bool.and_true, Bool.true_and, zk_v, zk_n, zk_x, zir_r, zir_n, zclr_i, zclr_r, zclr_n, zclr_d, zclr_l, true_and, and_true, and_self, if_true, if_false, reduceIte, nI_add, pk_mul, zin_ok, zx_nI, nI_lt2, nI_le2, nI_eq2, nI_l0, nI_g0, nI_q0, nI_p0, nI_n0, nI_m1, Nat.add_zero, Nat.zero_add, Nat.reduceAdd, Nat.reduceMul, true_or, or_true, znar_50, bI_0, bI_1, bI_z, bft, nI_z0, nI_z1, lgc_lt, lgc_gt, lgc_le, lgc_ge, lgc_eq, not_true_eq_false, not_false_eq_true, Bool.not_eq_true, Bool.not_eq_false, reduceCtorEq, h0, h1, ct, c63', c18, c51', g1, hb, eq_self, Bool.false_eq_true, if_false]
    | true =>
      rw [hb, if_pos rfl] at hs
      rw [hs]
      simp (disch := omega) only [s50_0, s50_1, s50_2, s50_3, s50_4, s50_5, s50_7, s50_8, s50_11, s50_12, s50_13, s50_14, s50_18, s50_19, s50_22, s50_25, s50_28, s50_31, s50_32, s50_34, s50_37, s50_40, s50_41, s50_42, s50_44, s50_47, s50_48, s50_49, s50_52, s50_55, s50_58, s50_59, zcs_0, zcs_1, zcs_2, zcs_3, zcs_4, zcs_5, zcs_6, zcs_7, znl_i, znl_r, znl_n, Bool.and_true, Bool.true_and, zk_v, zk_n, zk_x, zir_r, zir_n, zclr_i, zclr_r, zclr_n, zclr_d, zclr_l, true_and, and_true, and_self, if_true, if_false, reduceIte, nI_add, pk_mul, zin_ok, zx_nI, nI_lt2, nI_le2, nI_eq2, nI_l0, nI_g0, nI_q0, nI_p0, nI_n0, nI_m1, Nat.add_zero, Nat.zero_add, Nat.reduceAdd, Nat.reduceMul, true_or, or_true, znar_50, bI_0, bI_1, bI_z, bft, nI_z0, nI_z1, lgc_lt, lgc_gt, lgc_le, lgc_ge, lgc_eq, not_true_eq_false, not_false_eq_true, Bool.not_eq_true, Bool.not_eq_false, reduceCtorEq, h0, h1, ct, c63', c18, c51', g1, hb, kk]
theorem c50 (h : NW B z v L t hl kn rl ha ra da ea) (hv : ∀ i, v i < 2147483648) (hE1 : ∀ i, i < v 8 → v (6680 + 4 * i + 1) < 16) {bt : Nat → Nat} (hz : ∀ h, h < 16 → clB v h (v 8) = bt h) (hbt : ∀ h, h < 16 → bt h < 65536) {a : Nat} (ha9 : a < 16) : ZC zG (d + 2) 50 [.ref 100, .int (nI a)] (z) Q = Q (.inl (some (.int (cmI bt (v 0) a)))) (z) := by
  have key : ∀ m s (w : Int32) (x4 : Value), s < 65536 → 65536 - s ≤ m → ¬ w = nI s → ZW zG (d + 2) 50 6 [.ref 100, .int (nI a), .int (nI s), .int w, x4] [] (z) Q = Q (.inl (some (.int (fixI (fun s => passB bt s (v 0)) m (nI s))))) (z) := by
    intro m
    induction m with
    | zero => intro s w x4 hs hm; omega
    | succ m ih =>
      intro s w x4 hs hm hw
      have hN16 : v 0 ≤ 16 := h.2.2.1.2.2.2.1.2
      obtain ⟨c, p1, p2, p3⟩ := passB_ok (bt := bt) hs (v 0) (fun h hh => hbt h (by omega))
      obtain ⟨y4, e⟩ := c50i (d := d) (Q := Q) h hv hE1 hz (a := nI a) (w := nI s) (v 0) 0 (by omega)
      have e2 : passB bt (nI s) 0 = nI s := rfl
      rw [e2] at e
      refine s50_6.trans ?_
      simp (disch := omega) only [s50_7, s50_8, s50_11, s50_12, s50_13, s50_14, zcs_0, zcs_1, zcs_2, zcs_3, zcs_4, zcs_5, zcs_6, zcs_7, znl_i, znl_r, znl_n, Bool.and_true, Bool.true_and, zk_v, zk_n, zk_x, zir_r, zir_n, zclr_i, zclr_r, zclr_n, zclr_d, zclr_l, true_and, and_true, and_self, if_true, if_false, reduceIte, nI_add, pk_mul, zin_ok, zx_nI, nI_lt2, nI_le2, nI_eq2, nI_l0, nI_g0, nI_q0, nI_p0, nI_n0, nI_m1, Nat.add_zero, Nat.zero_add, Nat.reduceAdd, Nat.reduceMul, true_or, or_true, znar_50, bI_0, bI_1, bI_z, bft, nI_z0, nI_z1, lgc_lt, lgc_gt, lgc_le, lgc_ge, lgc_eq, not_true_eq_false, not_false_eq_true, Bool.not_eq_true, Bool.not_eq_false, reduceCtorEq, hw]
      refine e.trans ?_
      rw [p3]
      have hf : fixI (fun s => passB bt s (v 0)) (m + 1) (nI s) = if passB bt (nI s) (v 0) = nI s then nI s else fixI (fun s => passB bt s (v 0)) m (passB bt (nI s) (v 0)) := rfl
      rw [hf, p3]
      by_cases c0 : c = s
      · subst c0
        rw [if_pos rfl]
        refine s50_6.trans ?_
        simp (disch := omega) only [s50_0, s50_1, s50_2, s50_3, s50_4, s50_5, s50_7, s50_8, s50_11, s50_12, s50_13, s50_14, s50_18, s50_19, s50_22, s50_25, s50_28, s50_31, s50_32, s50_34, s50_37, s50_40, s50_41, s50_42, s50_44, s50_47, s50_48, s50_49, s50_52, s50_55, s50_58, s50_59, zcs_0, zcs_1, zcs_2, zcs_3, zcs_4, zcs_5, zcs_6, zcs_7, znl_i, znl_r, znl_n, Bool.and_true, Bool.true_and, zk_v, zk_n, zk_x, zir_r, zir_n, zclr_i, zclr_r, zclr_n, zclr_d, zclr_l, true_and, and_true, and_self, if_true, if_false, reduceIte, nI_add, pk_mul, zin_ok, zx_nI, nI_lt2, nI_le2, nI_eq2, nI_l0, nI_g0, nI_q0, nI_p0, nI_n0, nI_m1, Nat.add_zero, Nat.zero_add, Nat.reduceAdd, Nat.reduceMul, true_or, or_true, znar_50, bI_0, bI_1, bI_z, bft, nI_z0, nI_z1, lgc_lt, lgc_gt, lgc_le, lgc_ge, lgc_eq, not_true_eq_false, not_false_eq_true, Bool.not_eq_true, Bool.not_eq_false, reduceCtorEq, eq_self]
      · have cn : ¬ nI c = nI s := by rw [nI_eq2 (by omega) (by omega)]; exact c0
        rw [if_neg cn]
        exact ih c (nI s) y4 p2 (by omega) (fun h => cn h.symm)
  have h2a : 2 ^ a < 65536 := by
    have : (2 : Nat) ^ a < 2 ^ 16 := Nat.pow_lt_pow_right (by omega) ha9
    omega
  have hpos := Nat.two_pow_pos a
  have hne : ¬ nI 0 = nI (2 ^ a) := by rw [nI_eq2 (by omega) (by omega)]; omega
  simp (disch := omega) only [s50_0, s50_1, s50_2, s50_3, s50_4, s50_5, e50, zcs_0, zcs_1, zcs_2, zcs_3, zcs_4, zcs_5, zcs_6, zcs_7, znl_i, znl_r, znl_n, Bool.and_true, Bool.true_and, zk_v, zk_n, zk_x, zir_r, zir_n, zclr_i, zclr_r, zclr_n, zclr_d, zclr_l, true_and, and_true, and_self, if_true, if_false, reduceIte, nI_sh1]
  exact key 65536 (2 ^ a) (nI 0) _ h2a (by omega) hne
end CC
