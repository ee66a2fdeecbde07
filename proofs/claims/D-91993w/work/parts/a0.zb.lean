set_option maxRecDepth 100000
/-! the component's reader: a house, who knows whom -/
section HP
variable {b : Nat → Nat} {sz : Nat} {S : YS} {G : Nat → Nat} {L : Nat → List (Nat × Nat)}
theorem yNum_v {lo n : Nat} (h : yFk (yNum b sz lo n S).1 = 0) : lo ≤ (yNum b sz lo n S).2 ∧ (yNum b sz lo n S).2 < n := by
  obtain ⟨h1, h2, h3, h4⟩ := yNum_g h
  rw [h4]
  exact h3
theorem yH_b7 (h : ¬ yFk (yH7 b sz S).1 = 0) : (yH8 b sz S).1 = (yH7 b sz S).1 := by
  unfold yH8
  rw [yIs_bad h, if_neg (by simp)]
theorem yH_b6 (h : ¬ yFk (yH6 b sz S).1 = 0) : (yH8 b sz S).1 = (yH6 b sz S).1 := by
  have e : (yH7 b sz S).1 = (yH6 b sz S).1 := by
    unfold yH7
    rw [yIs_bad h, if_neg (by simp)]
  rw [yH_b7 (by rw [e]; exact h), e]
theorem yH_b5 (h : ¬ yFk (yH5 b sz S).1 = 0) : (yH8 b sz S).1 = (yH5 b sz S).1 := by
  have e : (yH6 b sz S).1 = (yH5 b sz S).1 := by
    unfold yH6
    rw [yNum_bad h]
  rw [yH_b6 (by rw [e]; exact h), e]
theorem yH_b4 (h : ¬ yFk (yH4 b sz S) = 0) : (yH8 b sz S).1 = yH4 b sz S := by
  have e : (yH5 b sz S).1 = yH4 b sz S := by
    unfold yH5
    rw [yNum_bad h]
  rw [yH_b5 (by rw [e]; exact h), e]
theorem yH_bn (h : ¬ yFk (yNeed b sz 10 (yH3 b sz S).1) = 0) : (yH8 b sz S).1 = yNeed b sz 10 (yH3 b sz S).1 := by
  have e : yH4 b sz S = yNeed b sz 10 (yH3 b sz S).1 := by
    unfold yH4
    rw [yTkn_bad h]
  rw [yH_b4 (by rw [e]; exact h), e]
theorem yH_b3 (h : ¬ yFk (yH3 b sz S).1 = 0) : (yH8 b sz S).1 = (yH3 b sz S).1 := by
  have e : yNeed b sz 10 (yH3 b sz S).1 = (yH3 b sz S).1 := yNeed_bad h
  rw [yH_bn (by rw [e]; exact h), e]
theorem yH_b2 (h : ¬ yFk (yH2 b sz S).1 = 0) : (yH8 b sz S).1 = (yH2 b sz S).1 := by
  have e : (yH3 b sz S).1 = (yH2 b sz S).1 := by
    unfold yH3
    rw [yNeed_bad h, yNum_bad h]
  rw [yH_b3 (by rw [e]; exact h), e]
theorem yH_b1 (h : ¬ yFk (yH1 b sz S).1 = 0) : (yH8 b sz S).1 = (yH1 b sz S).1 := by
  have e : (yH2 b sz S).1 = (yH1 b sz S).1 := by
    unfold yH2
    rw [yNum_bad h]
  rw [yH_b2 (by rw [e]; exact h), e]
theorem cOK_hi {v v2 : Nat → Nat} (h : ∀ i, i = 1 ∨ i = 2 ∨ i = 3 ∨ 154 ≤ i → v2 i = v i) (k : cOK v L) : cOK v2 L := by
  obtain ⟨a, b, c, e, f, g⟩ := k
  have e1 := h 1 (by omega)
  have e2 := h 2 (by omega)
  have e3 := h 3 (by omega)
  refine ⟨by omega, by omega, by omega, ?_, ?_, ?_⟩
  · intro k hk
    rw [h _ (by omega)]
    exact e k (by omega)
  · intro l hl
    rw [h (154 + 5 * l) (by omega), h (154 + 5 * l + 1) (by omega), h (154 + 5 * l + 2) (by omega), h (154 + 5 * l + 3) (by omega), h (154 + 5 * l + 4) (by omega), e2]
    exact f l (by omega)
  · intro t ht
    obtain ⟨g1, g2⟩ := g t (by omega)
    rw [h (274 + 3 * t + 1) (by omega), h (274 + 3 * t + 2) (by omega), e3]
    exact ⟨tLay_ap (N := v 3) (fun i _ _ => h i (by omega)) g2 _ _ g1, g2⟩
theorem GI_hi {v v2 : Nat → Nat} (h : ∀ i, i = 1 ∨ i = 2 ∨ i = 3 ∨ 154 ≤ i → v2 i = v i) (k : GI v L) (w : wT v2) : GI v2 L := by
  refine ⟨w, cOK_hi h k.2.1, fun t ht => k.2.2 t ?_⟩
  rw [h 2 (by omega)] at ht
  exact ht
/-- the new house's numbers -/
theorem yHG_v : yHG b sz S G (10 + 9 * G 0) = (yH1 b sz S).2 ∧ yHG b sz S G (10 + 9 * G 0 + 1) = (yH2 b sz S).2 ∧ yHG b sz S G (10 + 9 * G 0 + 2) = (yH3 b sz S).2 ∧ yHG b sz S G (10 + 9 * G 0 + 3) = yH4k b sz S ∧ yHG b sz S G (10 + 9 * G 0 + 4) = (yH5 b sz S).2 ∧ yHG b sz S G (10 + 9 * G 0 + 5) = (yH6 b sz S).2 ∧ yHG b sz S G (10 + 9 * G 0 + 6) = (yH7 b sz S).2 ∧ yHG b sz S G (10 + 9 * G 0 + 7) = (yH8 b sz S).2 ∧ yHG b sz S G (10 + 9 * G 0 + 8) = 0 ∧ yHG b sz S G 0 = G 0 + 1 ∧ ∀ i, ¬ i = 0 → (i < 10 + 9 * G 0 ∨ 19 + 9 * G 0 ≤ i) → yHG b sz S G i = G i := by
  unfold yHG
  refine ⟨?_, ?_, ?_, ?_, ?_, ?_, ?_, ?_, ?_, ?_, fun i h1 h2 => ?_⟩
  all_goals simp (disch := omega) only [zu1_s, zu1_n, ne_eq]
theorem yHG_GI (hS : yOK sz S) (h0 : G 0 < 16) (hI : GI G L) (h : yFk (yH8 b sz S).1 = 0) : GI (yHG b sz S G) L := by
  obtain ⟨g7, g6, g5, g4, gk, g3, g2, g1⟩ := yH_g h
  obtain ⟨v1, v2, v3, v4, v5, v6, v7, v8, v9, v0, vi⟩ := yHG_v (b := b) (sz := sz) (S := S) (G := G)
  have w1 : (yH1 b sz S).2 < 100 := by unfold yH1 at g1 ⊢; exact (yNum_v g1).2
  have w2 : (yH2 b sz S).2 < 100 := by unfold yH2 at g2 ⊢; exact (yNum_v g2).2
  have w3 : (yH3 b sz S).2 < 10 := by unfold yH3 at g3 ⊢; exact (yNum_v g3).2
  have w5 : (yH5 b sz S).2 < 181 := by unfold yH5 at g5 ⊢; exact (yNum_v g5).2
  have w6 : (yH6 b sz S).2 < 181 := by unfold yH6 at g6 ⊢; exact (yNum_v g6).2
  have w7 : (yH7 b sz S).2 < 400 := by
    unfold yH7 at g7 ⊢
    generalize yH6 b sz S = X at g7
    by_cases c : yIs b X.1 4 = true
    · rw [if_pos c] at g7 ⊢; exact (yNum_v g7).2
    · rw [if_neg c]; dsimp only; omega
  have w8 : (yH8 b sz S).2 < 100 := by
    unfold yH8 at h ⊢
    generalize yH7 b sz S = X at h
    by_cases c : yIs b X.1 2 = true
    · rw [if_pos c] at h ⊢; exact (yNum_v h).2
    · rw [if_neg c]; dsimp only; omega
  refine GI_hi (fun i hi => vi i (by omega) (by omega)) hI ?_
  obtain ⟨⟨a, b', c, e, f⟩, _, _⟩ := hI
  have x4 := vi 4 (by omega) (by omega)
  have x5 := vi 5 (by omega) (by omega)
  have p2 : (2 : Nat) ^ G 0 < 2 ^ (G 0 + 1) := Nat.pow_lt_pow_right (by omega) (by omega)
  refine ⟨by omega, by omega, by omega, ?_, ?_⟩
  · intro x hx
    rw [v0] at hx
    by_cases cx : x = G 0
    · subst cx
      rw [v1, v2, v3, v4, v5, v6, v7, v8]
      omega
    · rw [vi (10 + 9 * x) (by omega) (by omega), vi (10 + 9 * x + 1) (by omega) (by omega), vi (10 + 9 * x + 2) (by omega) (by omega), vi (10 + 9 * x + 3) (by omega) (by omega), vi (10 + 9 * x + 4) (by omega) (by omega), vi (10 + 9 * x + 5) (by omega) (by omega), vi (10 + 9 * x + 6) (by omega) (by omega), vi (10 + 9 * x + 7) (by omega) (by omega)]
      exact e x (by omega)
  · intro x hx
    rw [v0]
    by_cases cx : x = G 0
    · subst cx
      rw [v9]
      exact ⟨by have : 0 < 2 ^ (G 0 + 1) := Nat.two_pow_pos _; omega, fun q => absurd q (by omega), by simp⟩
    · rw [vi (10 + 9 * x + 8) (by omega) (by omega)]
      obtain ⟨f1, f2, f3⟩ := f x hx
      exact ⟨by omega, fun q => f2 (by omega), f3⟩
end HP
section CH
variable {d : Nat} {z : ZH} {Q : ZQ} {b : Nat → Nat} {sz R : Nat} {S : YS} {G : Nat → Nat} {L : Nat → List (Nat × Nat)}
theorem c63b {t hl : Nat} (h1 : zcls z t = 2) (h2 : zfr z t 0 = .ref hl) (h3 : zcls z hl = 90) : ZC zG d 63 [.ref t] z Q = Q (.inl (some (.int (nI (zls z hl).length)))) z := by
  simp (disch := omega) only [e63, s63_0, s63_1, s63_4, s63_9, zcs_0, zcs_1, zcs_2, zcs_3, zcs_4, zcs_5, zcs_6, zcs_7, znl_i, znl_r, znl_n, Bool.and_true, Bool.true_and, zk_v, zk_n, zk_x, zir_r, zir_n, zclr_i, zclr_r, zclr_n, zclr_d, zclr_l, true_and, and_true, and_self, if_true, if_false, reduceIte, nI_add, pk_mul, zin_ok, zx_nI, nI_lt2, nI_le2, nI_eq2, nI_l0, nI_g0, nI_q0, nI_p0, nI_n0, nI_m1, Nat.add_zero, Nat.zero_add, Nat.reduceAdd, Nat.reduceMul, true_or, or_true, znar_50, bI_0, bI_1, bI_z, bft, nI_z0, nI_z1, lgc_lt, lgc_gt, lgc_le, lgc_ge, lgc_eq, not_true_eq_false, not_false_eq_true, Bool.not_eq_true, Bool.not_eq_false, reduceCtorEq, eq_self, nI_e0, nI_e1, i10, i01, decide_false, decide_true, Bool.false_eq_true, h1, h2, h3]
/-- rules stay when other cells change -/
theorem CT_rules {W : Nat → Prop} {z z' : ZH} {G6 : Nat → Nat} (h : zFr W z z') (hW : ∀ q, W q → q < R + 11) (hI : GI G L) (ag : ∀ i, 154 ≤ i → G6 i = G i) {l q : Nat} (hl : l < G 1) (k : zRl (Bn R z) z G L l q) : zRl (Bn R z') z' G6 L l q := by
  have st : zSt (Bn R z) z z' := h.st (fun y hy => ⟨hy.2, fun w => by have := hW y w; have := hy.1; omega⟩)
  have k2 := (k.st st).mono (B2 := Bn R z') (fun y hy => ⟨hy.1, by have := h.1; have := hy.2; omega⟩)
  have hc := (hI.2.1.2.2.2.2.1 l hl).2.2.2
  exact k2.ap (N := G 3) (fun i h1 _ => ag i (by omega)) (fun j _ => ag _ (by omega)) (T := G 2) (fun t ht => ⟨ag _ (by omega), rfl, TI.lt hI.ti ht⟩) hc
theorem hQs (z1 : ZH) (h : FN z z1 ∧ zn z1 = zn z + 1 ∧ zcls z1 (zn z) = 21 ∧ zuc z1 = zuc z + 1 ∧ zus z1 = zus z + 8 ∧ zls z1 = zls z) (j : Nat) (x : Int32) : FN z (sfi z1 (zn z) j x) ∧ zn (sfi z1 (zn z) j x) = zn z + 1 ∧ zcls (sfi z1 (zn z) j x) (zn z) = 21 ∧ zuc (sfi z1 (zn z) j x) = zuc z + 1 ∧ zus (sfi z1 (zn z) j x) = zus z + 8 ∧ zls (sfi z1 (zn z) j x) = zls z := ⟨h.1.sfi (Nat.le_refl _), h.2.1, h.2.2.1, h.2.2.2.1, h.2.2.2.2.1, h.2.2.2.2.2⟩
theorem c231f (hR : RD z R b sz) (hS : yOK sz S) (hk : yFk S = 0) (hn : R + 11 ≤ zn z) (h162 : 162 ≤ R) (hC : CT z R G L) (hI : GI G L) (h0 : G 0 < 16)
    (H : yFk (yH8 b sz S).1 = 0 → ∀ z', zFr (TW R) z z' → CT z' R (yHG b sz S G) L → zuc z ≤ zuc z' → zuc z' ≤ zuc z + 2 → zus z ≤ zus z' → zus z' ≤ zus z + 50 → Q (.inl none) (cP z' R (yH8 b sz S).1)) {z9 : ZH} (B9 : (FN z z9 ∧ zn z9 = zn z + 1 ∧ zcls z9 (zn z) = 21 ∧ zuc z9 = zuc z + 1 ∧ zus z9 = zus z + 8 ∧ zls z9 = zls z)) (g : yFk (yH8 b sz S).1 = 0) (vals : (zfi z9 (zn z) 0 = nI (yH1 b sz S).2 ∧ zfi z9 (zn z) 1 = nI (yH2 b sz S).2 ∧ zfi z9 (zn z) 2 = nI (yH3 b sz S).2 ∧ zfi z9 (zn z) 3 = nI (yH4k b sz S) ∧ zfi z9 (zn z) 4 = nI (yH5 b sz S).2 ∧ zfi z9 (zn z) 5 = nI (yH6 b sz S).2 ∧ zfi z9 (zn z) 6 = nI (yH7 b sz S).2 ∧ zfi z9 (zn z) 7 = nI (yH8 b sz S).2)) : ZW zG (d + 5) 231 135 [.ref R, .ref (zn z)] [] (cP z9 R (yH8 b sz S).1) Q := by
  have r0 := hR.1.1.1
  obtain ⟨k1, k2, k3, k4, k5, k6, k7, k8, k9⟩ := yH_ok (b := b) hS
  have hne : ¬ zn z = R := by omega
  have si := fun z1 S' (j : Nat) (x : Int32) => cP_sfi (z := z1) (S := S') (R := R) (q := zn z) (k := j) (x := x) hne
  have bb := @hQs z
  have rd := fun z1 (h : FN z z1) => hR.fn h (by omega) h162
  obtain ⟨f1, n9, q1, u9, w9, l9⟩ := B9
  have hR9 := rd z9 f1
  have s0 : zcls z9 R = 13 := hR9.1.1.1
  have s6 : zfr z9 R 6 = .ref (R + 5) := hR9.2.2.2.2.2
  have hC9 := hC.fn f1 hn
  obtain ⟨⟨⟨a1, a2, a3, a4, a5, a6, a7, a8⟩, a9, a10⟩, ⟨b1, b2⟩, c, e1, e2⟩ := hC9
  have le9 : zlel (cP z9 R (yH8 b sz S).1) (.ref (zn z)) = true := by
    have : 100 ≤ zn z := by omega
    simp [zlel, cls_cP, q1, this]
  have all9 : (zls z9 (R + 6)).all (zlel (cP z9 R (yH8 b sz S).1)) = true := by
    refine all_getD (fun i hi => ?_)
    obtain ⟨q', w1, w2, w3, _⟩ := b2 i (by omega)
    rw [w1]
    have := w2.1
    have : 100 ≤ q' := by omega
    simp [zlel, cls_cP, w3, this]
  have len9 : (zls z9 (R + 6)).length < 100000 := by omega
  simp (disch := omega) only [s231_135, s231_136, s231_139, s231_142, s231_143, s231_148, s231_149, zcs_0, zcs_1, zcs_2, zcs_3, zcs_4, zcs_5, zcs_6, zcs_7, znl_i, znl_r, znl_n, Bool.and_true, Bool.true_and, zk_v, zk_n, zk_x, zir_r, zir_n, zclr_i, zclr_r, zclr_n, zclr_d, zclr_l, true_and, and_true, and_self, if_true, if_false, reduceIte, nI_add, pk_mul, zin_ok, zx_nI, nI_lt2, nI_le2, nI_eq2, nI_l0, nI_g0, nI_q0, nI_p0, nI_n0, nI_m1, Nat.add_zero, Nat.zero_add, Nat.reduceAdd, Nat.reduceMul, true_or, or_true, znar_50, bI_0, bI_1, bI_z, bft, nI_z0, nI_z1, lgc_lt, lgc_gt, lgc_le, lgc_ge, lgc_eq, not_true_eq_false, not_false_eq_true, Bool.not_eq_true, Bool.not_eq_false, reduceCtorEq, eq_self, nI_e0, nI_e1, i10, i01, decide_false, decide_true, Bool.false_eq_true, cls_cP, fr_cP, len_cP, ls_cP, n_cP, s0, s6, a1, a2, a3, le9, all9, len9, cP_sladd]
  have cost := add_cost z9 (R + 6) (.ref (zn z))
  rw [b1] at cost
  have F := zFr_sladd (r := R + 6) (x := .ref (zn z)) (zFr_refl (fun x => x = R + 6) z9) (Or.inr rfl)
  have hls : zls (sladd z9 (R + 6) (.ref (zn z))) (R + 6) = zls z9 (R + 6) ++ [.ref (zn z)] := by rw [ls_sladd, zu1_s]
  have hlsn : ∀ y, ¬ y = R + 6 → zls (sladd z9 (R + 6) (.ref (zn z))) y = zls z9 y := fun y hy => by rw [ls_sladd, zu1_n _ _ _ hy]
  have n' := n_sladd z9 (R + 6) (.ref (zn z))
  have cl' : ∀ y, y < zn z9 → zcls (sladd z9 (R + 6) (.ref (zn z))) y = zcls z9 y := fun y hy => cls_sladd _ _ _ hy
  have fi' : zfi (sladd z9 (R + 6) (.ref (zn z))) = zfi z9 := fi_sladd _ _ _
  have ia' : zia (sladd z9 (R + 6) (.ref (zn z))) = zia z9 := ia_sladd _ _ _
  have fr' : ∀ y, ¬ y = R + 6 → zfr (sladd z9 (R + 6) (.ref (zn z))) y = zfr z9 y := fun y hy => fr_sladd _ _ _ hy
  have ln' : ∀ y, y < zn z9 → zlen (sladd z9 (R + 6) (.ref (zn z))) y = zlen z9 y := fun y hy => len_sladd _ _ _ hy
  generalize hz' : sladd z9 (R + 6) (.ref (zn z)) = z' at *
  have mo9 : ∀ y, Bn R z9 y → Bn R z' y := fun y hy => ⟨hy.1, by have := hy.2; omega⟩
  obtain ⟨v1, v2, v3, v4, v5, v6, v7, v8, v9, v0, vi⟩ := yHG_v (b := b) (sz := sz) (S := S) (G := G)
  refine H g z' (zFr_trans (zFr_mono (fun _ _ w => w.elim) f1) (zFr_mono (fun y _ w => Or.inr (Or.inl w)) F)) ⟨⟨⟨?_, ?_, ?_, ?_, ?_, ?_, ?_, ?_⟩, ?_, ?_⟩, ⟨?_, ?_⟩, ?_, ?_, ?_⟩ (by omega) (by omega) (by omega) (by omega)
  · rw [cl' _ (by omega)]; exact a1
  · rw [fr' _ (by omega)]; exact a2
  · rw [cl' _ (by omega)]; exact a3
  · rw [fr' _ (by omega)]; exact a4
  · rw [cl' _ (by omega)]; exact a5
  · rw [ln' _ (by omega)]; exact a6
  · rw [fr' _ (by omega)]; exact a7
  · rw [cl' _ (by omega)]; exact a8
  · rw [fi', vi 4 (by omega) (by omega)]; exact a9
  · rw [fi', vi 5 (by omega) (by omega)]; exact a10
  · rw [hls, List.length_append, v0, b1]; rfl
  · intro h hh
    rw [v0] at hh
    rw [hls, getD_app, b1]
    by_cases ch : h < G 0
    · rw [if_pos ch]
      obtain ⟨y, w1, w2, w3, w4⟩ := b2 h ch
      refine ⟨y, w1, mo9 y w2, by rw [cl' _ w2.2]; exact w3, fun j hj => ?_⟩
      rw [fi', vi _ (by omega) (by omega)]
      exact w4 j hj
    · have eh : h = G 0 := by omega
      subst eh
      rw [if_neg (by omega), if_pos rfl]
      refine ⟨zn z, rfl, ⟨by omega, by omega⟩, by rw [cl' _ (by omega)]; exact q1, fun j hj => ?_⟩
      obtain ⟨x0, x1, x2, x3, x4, x5, x6, x7⟩ := vals
      rw [fi']
      rcases (show j = 0 ∨ j = 1 ∨ j = 2 ∨ j = 3 ∨ j = 4 ∨ j = 5 ∨ j = 6 ∨ j = 7 by omega) with rfl | rfl | rfl | rfl | rfl | rfl | rfl | rfl
      · rw [Nat.add_zero, v1]; exact x0
      · rw [v2]; exact x1
      · rw [v3]; exact x2
      · rw [v4]; exact x3
      · rw [v5]; exact x4
      · rw [v6]; exact x5
      · rw [v7]; exact x6
      · rw [v8]; exact x7
  · intro h hh
    rw [ia']
    by_cases ch : h = G 0
    · subst ch
      rw [v9]
      have e9 := c (G 0) hh
      rw [(hI.1.2.2.2.2 (G 0) hh).2.1 (Nat.le_refl _)] at e9
      exact e9
    · rw [vi _ (by omega) (by omega)]
      exact c h hh
  · rw [hlsn _ (by omega), vi 1 (by omega) (by omega)]; exact e1
  · intro l hl
    rw [vi 1 (by omega) (by omega)] at hl
    rw [hlsn _ (by omega)]
    obtain ⟨y, w1, w2⟩ := e2 l hl
    exact ⟨y, w1, CT_rules F (fun q w => by omega) hI (fun i hi => vi i (by omega) (by omega)) hl w2⟩
theorem c231b (hR : RD z R b sz) (hS : yOK sz S) (hk : yFk S = 0) (hn : R + 11 ≤ zn z) (h162 : 162 ≤ R) (hC : CT z R G L) (hI : GI G L) (h0 : G 0 < 16)
    (H : yFk (yH8 b sz S).1 = 0 → ∀ z', zFr (TW R) z z' → CT z' R (yHG b sz S G) L → zuc z ≤ zuc z' → zuc z' ≤ zuc z + 2 → zus z ≤ zus z' → zus z' ≤ zus z + 50 → Q (.inl none) (cP z' R (yH8 b sz S).1))
    (HX : ¬ yFk (yH8 b sz S).1 = 0 → ∀ z' S', FN z z' → zuc z ≤ zuc z' → zuc z' ≤ zuc z + 2000 → zus z ≤ zus z' → zus z' ≤ zus z + 5000 → Q (.inr (.ref (zn z'))) (mkW (cP z' R S') (nI (yFk (yH8 b sz S).1)) (yFp (yH8 b sz S).1))) {z8 : ZH} (B8 : (FN z z8 ∧ zn z8 = zn z + 1 ∧ zcls z8 (zn z) = 21 ∧ zuc z8 = zuc z + 1 ∧ zus z8 = zus z + 8 ∧ zls z8 = zls z)) (g7 : yFk (yH7 b sz S).1 = 0) (vals : (zfi z8 (zn z) 0 = nI (yH1 b sz S).2 ∧ zfi z8 (zn z) 1 = nI (yH2 b sz S).2 ∧ zfi z8 (zn z) 2 = nI (yH3 b sz S).2 ∧ zfi z8 (zn z) 3 = nI (yH4k b sz S) ∧ zfi z8 (zn z) 4 = nI (yH5 b sz S).2 ∧ zfi z8 (zn z) 5 = nI (yH6 b sz S).2 ∧ zfi z8 (zn z) 6 = nI (yH7 b sz S).2 ∧ zfi z8 (zn z) 7 = nI 0)) : ZW zG (d + 5) 231 113 [.ref R, .ref (zn z)] [] (cP z8 R (yH7 b sz S).1) Q := by
  have r0 := hR.1.1.1
  obtain ⟨k1, k2, k3, k4, k5, k6, k7, k8, k9⟩ := yH_ok (b := b) hS
  have hne : ¬ zn z = R := by omega
  have si := fun z1 S' (j : Nat) (x : Int32) => cP_sfi (z := z1) (S := S') (R := R) (q := zn z) (k := j) (x := x) hne
  have bb := @hQs z
  have rd := fun z1 (h : FN z z1) => hR.fn h (by omega) h162
  have hR8 := rd z8 B8.1
  have s0 : zcls z8 R = 13 := hR8.1.1.1
  have is := fun d Q => c220 (d := d) (Q := Q) hR8.1 k8 g7 (r := 2) (by omega)
  have q1 := B8.2.2.1
  by_cases g : yIs b (yH7 b sz S).1 2 = true
  · rw [g] at is
    have e8 : yH8 b sz S = yNum b sz 0 100 (yNeed b sz 2 (yH7 b sz S).1) := by
      unfold yH8 yNeed
      rw [if_pos g, if_pos g]
    simp (disch := omega) only [s231_113, s231_114, s231_116, s231_119, s231_122, s231_123, s231_124, s231_126, s231_127, s231_129, zcs_0, zcs_1, zcs_2, zcs_3, zcs_4, zcs_5, zcs_6, zcs_7, znl_i, znl_r, znl_n, Bool.and_true, Bool.true_and, zk_v, zk_n, zk_x, zir_r, zir_n, zclr_i, zclr_r, zclr_n, zclr_d, zclr_l, true_and, and_true, and_self, if_true, if_false, reduceIte, nI_add, pk_mul, zin_ok, zx_nI, nI_lt2, nI_le2, nI_eq2, nI_l0, nI_g0, nI_q0, nI_p0, nI_n0, nI_m1, Nat.add_zero, Nat.zero_add, Nat.reduceAdd, Nat.reduceMul, true_or, or_true, znar_50, bI_0, bI_1, bI_z, bft, nI_z0, nI_z1, lgc_lt, lgc_gt, lgc_le, lgc_ge, lgc_eq, not_true_eq_false, not_false_eq_true, Bool.not_eq_true, Bool.not_eq_false, reduceCtorEq, eq_self, nI_e0, nI_e1, i10, i01, decide_false, decide_true, Bool.false_eq_true, cls_cP, fr_cP, len_cP, ls_cP, n_cP, s0, is, bI_t]
    have B8' := B8
    obtain ⟨f8, n8, _, u8, w8, _⟩ := B8'
    refine c226 (d := d + 0) hR8.1 k8 g7 (by omega) (by omega) (by omega) (by omega) (fun g9 => ?_) (fun g9 S' => ?_)
    · have g9 : yFk (yNum b sz 0 100 (yNeed b sz 2 (yH7 b sz S).1)).1 = 0 := g9
      rw [← e8] at g9
      show zk _ _ _ _ _ _ _ _ (.inl (some (.int (nI (yNum b sz 0 100 (yNeed b sz 2 (yH7 b sz S).1)).2)))) (cP z8 R (yNum b sz 0 100 (yNeed b sz 2 (yH7 b sz S).1)).1)
      rw [← e8]
      simp (disch := omega) only [s231_132, zcs_0, zcs_1, zcs_2, zcs_3, zcs_4, zcs_5, zcs_6, zcs_7, znl_i, znl_r, znl_n, Bool.and_true, Bool.true_and, zk_v, zk_n, zk_x, zir_r, zir_n, zclr_i, zclr_r, zclr_n, zclr_d, zclr_l, true_and, and_true, and_self, if_true, if_false, reduceIte, nI_add, pk_mul, zin_ok, zx_nI, nI_lt2, nI_le2, nI_eq2, nI_l0, nI_g0, nI_q0, nI_p0, nI_n0, nI_m1, Nat.add_zero, Nat.zero_add, Nat.reduceAdd, Nat.reduceMul, true_or, or_true, znar_50, bI_0, bI_1, bI_z, bft, nI_z0, nI_z1, lgc_lt, lgc_gt, lgc_le, lgc_ge, lgc_eq, not_true_eq_false, not_false_eq_true, Bool.not_eq_true, Bool.not_eq_false, reduceCtorEq, eq_self, nI_e0, nI_e1, i10, i01, decide_false, decide_true, Bool.false_eq_true, cls_cP, fr_cP, len_cP, ls_cP, n_cP, q1, si]
      obtain ⟨x0, x1, x2, x3, x4, x5, x6, x7⟩ := vals
      refine c231f hR hS hk hn h162 hC hI h0 H (bb z8 B8 7 _) g9 ⟨?_, ?_, ?_, ?_, ?_, ?_, ?_, ?_⟩
      · rw [fi_sfi, zu2_k _ _ _ _ (by omega)]; exact x0
      · rw [fi_sfi, zu2_k _ _ _ _ (by omega)]; exact x1
      · rw [fi_sfi, zu2_k _ _ _ _ (by omega)]; exact x2
      · rw [fi_sfi, zu2_k _ _ _ _ (by omega)]; exact x3
      · rw [fi_sfi, zu2_k _ _ _ _ (by omega)]; exact x4
      · rw [fi_sfi, zu2_k _ _ _ _ (by omega)]; exact x5
      · rw [fi_sfi, zu2_k _ _ _ _ (by omega)]; exact x6
      · rw [fi_sfi, zu2_s]
    · have g9 : ¬ yFk (yNum b sz 0 100 (yNeed b sz 2 (yH7 b sz S).1)).1 = 0 := g9
      rw [← e8] at g9
      have hx := HX g9 z8 S' f8 (by omega) (by omega) (by omega) (by omega)
      simp only [zcs_0, zcs_1, zcs_2, zcs_3, zcs_4, zcs_5, zcs_6, zcs_7, znl_i, znl_r, znl_n, Bool.and_true, Bool.true_and, zk_v, zk_n, zk_x, zir_r, zir_n, zclr_i, zclr_r, zclr_n, zclr_d, zclr_l, true_and, and_true, and_self, if_true, if_false, reduceIte]
      show Q _ (mkW _ (nI (yFk (yNum b sz 0 100 (yNeed b sz 2 (yH7 b sz S).1)).1)) (yFp (yNum b sz 0 100 (yNeed b sz 2 (yH7 b sz S).1)).1))
      rw [← e8]
      exact hx
  · rw [Bool.not_eq_true] at g
    rw [g] at is
    have e8 : yH8 b sz S = ((yH7 b sz S).1, 0) := by
      unfold yH8
      rw [g, if_neg (by simp)]
    have e81 : (yH8 b sz S).1 = (yH7 b sz S).1 := by rw [e8]
    have e82 : (yH8 b sz S).2 = 0 := by rw [e8]
    simp (disch := omega) only [s231_113, s231_114, s231_116, s231_119, zcs_0, zcs_1, zcs_2, zcs_3, zcs_4, zcs_5, zcs_6, zcs_7, znl_i, znl_r, znl_n, Bool.and_true, Bool.true_and, zk_v, zk_n, zk_x, zir_r, zir_n, zclr_i, zclr_r, zclr_n, zclr_d, zclr_l, true_and, and_true, and_self, if_true, if_false, reduceIte, nI_add, pk_mul, zin_ok, zx_nI, nI_lt2, nI_le2, nI_eq2, nI_l0, nI_g0, nI_q0, nI_p0, nI_n0, nI_m1, Nat.add_zero, Nat.zero_add, Nat.reduceAdd, Nat.reduceMul, true_or, or_true, znar_50, bI_0, bI_1, bI_z, bft, nI_z0, nI_z1, lgc_lt, lgc_gt, lgc_le, lgc_ge, lgc_eq, not_true_eq_false, not_false_eq_true, Bool.not_eq_true, Bool.not_eq_false, reduceCtorEq, eq_self, nI_e0, nI_e1, i10, i01, decide_false, decide_true, Bool.false_eq_true, cls_cP, fr_cP, len_cP, ls_cP, n_cP, s0, is, bI_f]
    rw [← e81]
    exact c231f hR hS hk hn h162 hC hI h0 H B8 (by rw [e81]; exact g7) (by rw [e82]; exact vals)
theorem c231c (hR : RD z R b sz) (hS : yOK sz S) (hk : yFk S = 0) (hn : R + 11 ≤ zn z) (h162 : 162 ≤ R) (hC : CT z R G L) (hI : GI G L) (h0 : G 0 < 16)
    (H : yFk (yH8 b sz S).1 = 0 → ∀ z', zFr (TW R) z z' → CT z' R (yHG b sz S G) L → zuc z ≤ zuc z' → zuc z' ≤ zuc z + 2 → zus z ≤ zus z' → zus z' ≤ zus z + 50 → Q (.inl none) (cP z' R (yH8 b sz S).1))
    (HX : ¬ yFk (yH8 b sz S).1 = 0 → ∀ z' S', FN z z' → zuc z ≤ zuc z' → zuc z' ≤ zuc z + 2000 → zus z ≤ zus z' → zus z' ≤ zus z + 5000 → Q (.inr (.ref (zn z'))) (mkW (cP z' R S') (nI (yFk (yH8 b sz S).1)) (yFp (yH8 b sz S).1))) {z8 : ZH} (B8 : (FN z z8 ∧ zn z8 = zn z + 1 ∧ zcls z8 (zn z) = 21 ∧ zuc z8 = zuc z + 1 ∧ zus z8 = zus z + 8 ∧ zls z8 = zls z)) (g7 : yFk (yH6 b sz S).1 = 0) (vals : (zfi z8 (zn z) 0 = nI (yH1 b sz S).2 ∧ zfi z8 (zn z) 1 = nI (yH2 b sz S).2 ∧ zfi z8 (zn z) 2 = nI (yH3 b sz S).2 ∧ zfi z8 (zn z) 3 = nI (yH4k b sz S) ∧ zfi z8 (zn z) 4 = nI (yH5 b sz S).2 ∧ zfi z8 (zn z) 5 = nI (yH6 b sz S).2 ∧ zfi z8 (zn z) 6 = nI 0 ∧ zfi z8 (zn z) 7 = nI 0)) : ZW zG (d + 5) 231 90 [.ref R, .ref (zn z)] [] (cP z8 R (yH6 b sz S).1) Q := by
  have r0 := hR.1.1.1
  obtain ⟨k1, k2, k3, k4, k5, k6, k7, k8, k9⟩ := yH_ok (b := b) hS
  have hne : ¬ zn z = R := by omega
  have si := fun z1 S' (j : Nat) (x : Int32) => cP_sfi (z := z1) (S := S') (R := R) (q := zn z) (k := j) (x := x) hne
  have bb := @hQs z
  have rd := fun z1 (h : FN z z1) => hR.fn h (by omega) h162
  have hR8 := rd z8 B8.1
  have s0 : zcls z8 R = 13 := hR8.1.1.1
  have is := fun d Q => c220 (d := d) (Q := Q) hR8.1 k7 g7 (r := 4) (by omega)
  have q1 := B8.2.2.1
  by_cases g : yIs b (yH6 b sz S).1 4 = true
  · rw [g] at is
    have e8 : yH7 b sz S = yNum b sz 0 400 (yNeed b sz 4 (yH6 b sz S).1) := by
      unfold yH7 yNeed
      rw [if_pos g, if_pos g]
    simp (disch := omega) only [s231_90, s231_91, s231_93, s231_96, s231_99, s231_100, s231_101, s231_103, s231_104, s231_107, zcs_0, zcs_1, zcs_2, zcs_3, zcs_4, zcs_5, zcs_6, zcs_7, znl_i, znl_r, znl_n, Bool.and_true, Bool.true_and, zk_v, zk_n, zk_x, zir_r, zir_n, zclr_i, zclr_r, zclr_n, zclr_d, zclr_l, true_and, and_true, and_self, if_true, if_false, reduceIte, nI_add, pk_mul, zin_ok, zx_nI, nI_lt2, nI_le2, nI_eq2, nI_l0, nI_g0, nI_q0, nI_p0, nI_n0, nI_m1, Nat.add_zero, Nat.zero_add, Nat.reduceAdd, Nat.reduceMul, true_or, or_true, znar_50, bI_0, bI_1, bI_z, bft, nI_z0, nI_z1, lgc_lt, lgc_gt, lgc_le, lgc_ge, lgc_eq, not_true_eq_false, not_false_eq_true, Bool.not_eq_true, Bool.not_eq_false, reduceCtorEq, eq_self, nI_e0, nI_e1, i10, i01, decide_false, decide_true, Bool.false_eq_true, cls_cP, fr_cP, len_cP, ls_cP, n_cP, s0, is, bI_t]
    have B8' := B8
    obtain ⟨f8, n8, _, u8, w8, _⟩ := B8'
    refine c226 (d := d + 0) hR8.1 k7 g7 (by omega) (by omega) (by omega) (by omega) (fun g9 => ?_) (fun g9 S' => ?_)
    · have g9 : yFk (yNum b sz 0 400 (yNeed b sz 4 (yH6 b sz S).1)).1 = 0 := g9
      rw [← e8] at g9
      show zk _ _ _ _ _ _ _ _ (.inl (some (.int (nI (yNum b sz 0 400 (yNeed b sz 4 (yH6 b sz S).1)).2)))) (cP z8 R (yNum b sz 0 400 (yNeed b sz 4 (yH6 b sz S).1)).1)
      rw [← e8]
      simp (disch := omega) only [s231_110, zcs_0, zcs_1, zcs_2, zcs_3, zcs_4, zcs_5, zcs_6, zcs_7, znl_i, znl_r, znl_n, Bool.and_true, Bool.true_and, zk_v, zk_n, zk_x, zir_r, zir_n, zclr_i, zclr_r, zclr_n, zclr_d, zclr_l, true_and, and_true, and_self, if_true, if_false, reduceIte, nI_add, pk_mul, zin_ok, zx_nI, nI_lt2, nI_le2, nI_eq2, nI_l0, nI_g0, nI_q0, nI_p0, nI_n0, nI_m1, Nat.add_zero, Nat.zero_add, Nat.reduceAdd, Nat.reduceMul, true_or, or_true, znar_50, bI_0, bI_1, bI_z, bft, nI_z0, nI_z1, lgc_lt, lgc_gt, lgc_le, lgc_ge, lgc_eq, not_true_eq_false, not_false_eq_true, Bool.not_eq_true, Bool.not_eq_false, reduceCtorEq, eq_self, nI_e0, nI_e1, i10, i01, decide_false, decide_true, Bool.false_eq_true, cls_cP, fr_cP, len_cP, ls_cP, n_cP, q1, si]
      obtain ⟨x0, x1, x2, x3, x4, x5, x6, x7⟩ := vals
      refine c231b hR hS hk hn h162 hC hI h0 H HX (bb z8 B8 6 _) g9 ⟨?_, ?_, ?_, ?_, ?_, ?_, ?_, ?_⟩
      · rw [fi_sfi, zu2_k _ _ _ _ (by omega)]; exact x0
      · rw [fi_sfi, zu2_k _ _ _ _ (by omega)]; exact x1
      · rw [fi_sfi, zu2_k _ _ _ _ (by omega)]; exact x2
      · rw [fi_sfi, zu2_k _ _ _ _ (by omega)]; exact x3
      · rw [fi_sfi, zu2_k _ _ _ _ (by omega)]; exact x4
      · rw [fi_sfi, zu2_k _ _ _ _ (by omega)]; exact x5
      · rw [fi_sfi, zu2_s]
      · rw [fi_sfi, zu2_k _ _ _ _ (by omega)]; exact x7
    · have g9 : ¬ yFk (yNum b sz 0 400 (yNeed b sz 4 (yH6 b sz S).1)).1 = 0 := g9
      rw [← e8] at g9
      rw [yH_b7 g9] at HX
      have hx := HX g9 z8 S' f8 (by omega) (by omega) (by omega) (by omega)
      simp only [zcs_0, zcs_1, zcs_2, zcs_3, zcs_4, zcs_5, zcs_6, zcs_7, znl_i, znl_r, znl_n, Bool.and_true, Bool.true_and, zk_v, zk_n, zk_x, zir_r, zir_n, zclr_i, zclr_r, zclr_n, zclr_d, zclr_l, true_and, and_true, and_self, if_true, if_false, reduceIte]
      show Q _ (mkW _ (nI (yFk (yNum b sz 0 400 (yNeed b sz 4 (yH6 b sz S).1)).1)) (yFp (yNum b sz 0 400 (yNeed b sz 4 (yH6 b sz S).1)).1))
      rw [← e8]
      exact hx
  · rw [Bool.not_eq_true] at g
    rw [g] at is
    have e8 : yH7 b sz S = ((yH6 b sz S).1, 0) := by
      unfold yH7
      rw [g, if_neg (by simp)]
    have e81 : (yH7 b sz S).1 = (yH6 b sz S).1 := by rw [e8]
    have e82 : (yH7 b sz S).2 = 0 := by rw [e8]
    simp (disch := omega) only [s231_90, s231_91, s231_93, s231_96, zcs_0, zcs_1, zcs_2, zcs_3, zcs_4, zcs_5, zcs_6, zcs_7, znl_i, znl_r, znl_n, Bool.and_true, Bool.true_and, zk_v, zk_n, zk_x, zir_r, zir_n, zclr_i, zclr_r, zclr_n, zclr_d, zclr_l, true_and, and_true, and_self, if_true, if_false, reduceIte, nI_add, pk_mul, zin_ok, zx_nI, nI_lt2, nI_le2, nI_eq2, nI_l0, nI_g0, nI_q0, nI_p0, nI_n0, nI_m1, Nat.add_zero, Nat.zero_add, Nat.reduceAdd, Nat.reduceMul, true_or, or_true, znar_50, bI_0, bI_1, bI_z, bft, nI_z0, nI_z1, lgc_lt, lgc_gt, lgc_le, lgc_ge, lgc_eq, not_true_eq_false, not_false_eq_true, Bool.not_eq_true, Bool.not_eq_false, reduceCtorEq, eq_self, nI_e0, nI_e1, i10, i01, decide_false, decide_true, Bool.false_eq_true, cls_cP, fr_cP, len_cP, ls_cP, n_cP, s0, is, bI_f]
    rw [← e81]
    exact c231b hR hS hk hn h162 hC hI h0 H HX B8 (by rw [e81]; exact g7) (by rw [e82]; exact vals)

theorem c231_5 (hR : RD z R b sz) (hS : yOK sz S) (hk : yFk S = 0) (hn : R + 11 ≤ zn z) (h162 : 162 ≤ R) (hC : CT z R G L) (hI : GI G L) (h0 : G 0 < 16)
    (H : yFk (yH8 b sz S).1 = 0 → ∀ z', zFr (TW R) z z' → CT z' R (yHG b sz S G) L → zuc z ≤ zuc z' → zuc z' ≤ zuc z + 2 → zus z ≤ zus z' → zus z' ≤ zus z + 50 → Q (.inl none) (cP z' R (yH8 b sz S).1))
    (HX : ¬ yFk (yH8 b sz S).1 = 0 → ∀ z' S', FN z z' → zuc z ≤ zuc z' → zuc z' ≤ zuc z + 2000 → zus z ≤ zus z' → zus z' ≤ zus z + 5000 → Q (.inr (.ref (zn z'))) (mkW (cP z' R S') (nI (yFk (yH8 b sz S).1)) (yFp (yH8 b sz S).1))) {z8 : ZH} (B8 : (FN z z8 ∧ zn z8 = zn z + 1 ∧ zcls z8 (zn z) = 21 ∧ zuc z8 = zuc z + 1 ∧ zus z8 = zus z + 8 ∧ zls z8 = zls z)) (g8 : yFk (yH5 b sz S).1 = 0) (vals : (zfi z8 (zn z) 0 = nI (yH1 b sz S).2 ∧ zfi z8 (zn z) 1 = nI (yH2 b sz S).2 ∧ zfi z8 (zn z) 2 = nI (yH3 b sz S).2 ∧ zfi z8 (zn z) 3 = nI (yH4k b sz S) ∧ zfi z8 (zn z) 4 = nI (yH5 b sz S).2 ∧ zfi z8 (zn z) 5 = nI 0 ∧ zfi z8 (zn z) 6 = nI 0 ∧ zfi z8 (zn z) 7 = nI 0)) : ZW zG (d + 5) 231 75 [.ref R, .ref (zn z)] [] (cP z8 R (yH5 b sz S).1) Q := by
  have r0 := hR.1.1.1
  obtain ⟨k1, k2, k3, k4, k5, k6, k7, k8, k9⟩ := yH_ok (b := b) hS
  have hne : ¬ zn z = R := by omega
  have si := fun z1 S' (j : Nat) (x : Int32) => cP_sfi (z := z1) (S := S') (R := R) (q := zn z) (k := j) (x := x) hne
  have hR8 := hR.fn B8.1 (by omega) h162
  have s0 : zcls z8 R = 13 := hR8.1.1.1
  have q1 := B8.2.2.1
  obtain ⟨x0, x1, x2, x3, x4, x5, x6, x7⟩ := vals
  have hv5 : (yH5 b sz S).2 < 10000 := yNum_lt k5
  have v4 : ∀ S', zfi (cP z8 R S') (zn z) 4 = nI (yH5 b sz S).2 := fun S' => by rw [fi_cP _ hne]; exact x4
  simp (disch := omega) only [s231_75, s231_76, s231_77, s231_78, s231_81, s231_84, zcs_0, zcs_1, zcs_2, zcs_3, zcs_4, zcs_5, zcs_6, zcs_7, znl_i, znl_r, znl_n, Bool.and_true, Bool.true_and, zk_v, zk_n, zk_x, zir_r, zir_n, zclr_i, zclr_r, zclr_n, zclr_d, zclr_l, true_and, and_true, and_self, if_true, if_false, reduceIte, nI_add, pk_mul, zin_ok, zx_nI, nI_lt2, nI_le2, nI_eq2, nI_l0, nI_g0, nI_q0, nI_p0, nI_n0, nI_m1, Nat.add_zero, Nat.zero_add, Nat.reduceAdd, Nat.reduceMul, true_or, or_true, znar_50, bI_0, bI_1, bI_z, bft, nI_z0, nI_z1, lgc_lt, lgc_gt, lgc_le, lgc_ge, lgc_eq, not_true_eq_false, not_false_eq_true, Bool.not_eq_true, Bool.not_eq_false, reduceCtorEq, eq_self, nI_e0, nI_e1, i10, i01, decide_false, decide_true, Bool.false_eq_true, cls_cP, fr_cP, len_cP, ls_cP, n_cP, q1, s0, v4]
  refine c227 (d := d + 2) hR8.1 k6 g8 (by have := B8.2.1; omega) hv5 (by omega) (fun g9 => ?_) (fun g9 S' => ?_)
  rotate_left
  · have g9 : ¬ yFk (yH6 b sz S).1 = 0 := g9
    rw [yH_b6 g9] at HX
    simp only [zcs_0, zcs_1, zcs_2, zcs_3, zcs_4, zcs_5, zcs_6, zcs_7, znl_i, znl_r, znl_n, Bool.and_true, Bool.true_and, zk_v, zk_n, zk_x, zir_r, zir_n, zclr_i, zclr_r, zclr_n, zclr_d, zclr_l, true_and, and_true, and_self, if_true, if_false, reduceIte]
    obtain ⟨f9, n9, _, u9, w9, _⟩ := B8
    exact HX g9 _ S' f9 (by omega) (by omega) (by omega) (by omega)
  have g9 : yFk (yH6 b sz S).1 = 0 := g9
  show zk _ _ _ _ _ _ _ _ (.inl (some (.int (nI (yH6 b sz S).2)))) (cP _ R (yH6 b sz S).1)
  simp (disch := omega) only [s231_87, zcs_0, zcs_1, zcs_2, zcs_3, zcs_4, zcs_5, zcs_6, zcs_7, znl_i, znl_r, znl_n, Bool.and_true, Bool.true_and, zk_v, zk_n, zk_x, zir_r, zir_n, zclr_i, zclr_r, zclr_n, zclr_d, zclr_l, true_and, and_true, and_self, if_true, if_false, reduceIte, nI_add, pk_mul, zin_ok, zx_nI, nI_lt2, nI_le2, nI_eq2, nI_l0, nI_g0, nI_q0, nI_p0, nI_n0, nI_m1, Nat.add_zero, Nat.zero_add, Nat.reduceAdd, Nat.reduceMul, true_or, or_true, znar_50, bI_0, bI_1, bI_z, bft, nI_z0, nI_z1, lgc_lt, lgc_gt, lgc_le, lgc_ge, lgc_eq, not_true_eq_false, not_false_eq_true, Bool.not_eq_true, Bool.not_eq_false, reduceCtorEq, eq_self, nI_e0, nI_e1, i10, i01, decide_false, decide_true, Bool.false_eq_true, cls_cP, fr_cP, len_cP, ls_cP, n_cP, q1, si]
  refine c231c hR hS hk hn h162 hC hI h0 H HX (hQs z8 B8 5 (nI (yH6 b sz S).2)) g9 ⟨?_, ?_, ?_, ?_, ?_, ?_, ?_, ?_⟩
  · rw [fi_sfi, zu2_k _ _ _ _ (by omega)]; exact x0
  · rw [fi_sfi, zu2_k _ _ _ _ (by omega)]; exact x1
  · rw [fi_sfi, zu2_k _ _ _ _ (by omega)]; exact x2
  · rw [fi_sfi, zu2_k _ _ _ _ (by omega)]; exact x3
  · rw [fi_sfi, zu2_k _ _ _ _ (by omega)]; exact x4
  · rw [fi_sfi, zu2_s]
  · rw [fi_sfi, zu2_k _ _ _ _ (by omega)]; exact x6
  · rw [fi_sfi, zu2_k _ _ _ _ (by omega)]; exact x7
theorem c231_4 (hR : RD z R b sz) (hS : yOK sz S) (hk : yFk S = 0) (hn : R + 11 ≤ zn z) (h162 : 162 ≤ R) (hC : CT z R G L) (hI : GI G L) (h0 : G 0 < 16)
    (H : yFk (yH8 b sz S).1 = 0 → ∀ z', zFr (TW R) z z' → CT z' R (yHG b sz S G) L → zuc z ≤ zuc z' → zuc z' ≤ zuc z + 2 → zus z ≤ zus z' → zus z' ≤ zus z + 50 → Q (.inl none) (cP z' R (yH8 b sz S).1))
    (HX : ¬ yFk (yH8 b sz S).1 = 0 → ∀ z' S', FN z z' → zuc z ≤ zuc z' → zuc z' ≤ zuc z + 2000 → zus z ≤ zus z' → zus z' ≤ zus z + 5000 → Q (.inr (.ref (zn z'))) (mkW (cP z' R S') (nI (yFk (yH8 b sz S).1)) (yFp (yH8 b sz S).1))) {z8 : ZH} (B8 : (FN z z8 ∧ zn z8 = zn z + 1 ∧ zcls z8 (zn z) = 21 ∧ zuc z8 = zuc z + 1 ∧ zus z8 = zus z + 8 ∧ zls z8 = zls z)) (g8 : yFk (yH4 b sz S) = 0) (vals : (zfi z8 (zn z) 0 = nI (yH1 b sz S).2 ∧ zfi z8 (zn z) 1 = nI (yH2 b sz S).2 ∧ zfi z8 (zn z) 2 = nI (yH3 b sz S).2 ∧ zfi z8 (zn z) 3 = nI (yH4k b sz S) ∧ zfi z8 (zn z) 4 = nI 0 ∧ zfi z8 (zn z) 5 = nI 0 ∧ zfi z8 (zn z) 6 = nI 0 ∧ zfi z8 (zn z) 7 = nI 0)) : ZW zG (d + 5) 231 63 [.ref R, .ref (zn z)] [] (cP z8 R (yH4 b sz S)) Q := by
  have r0 := hR.1.1.1
  obtain ⟨k1, k2, k3, k4, k5, k6, k7, k8, k9⟩ := yH_ok (b := b) hS
  have hne : ¬ zn z = R := by omega
  have si := fun z1 S' (j : Nat) (x : Int32) => cP_sfi (z := z1) (S := S') (R := R) (q := zn z) (k := j) (x := x) hne
  have hR8 := hR.fn B8.1 (by omega) h162
  have s0 : zcls z8 R = 13 := hR8.1.1.1
  have q1 := B8.2.2.1
  obtain ⟨x0, x1, x2, x3, x4, x5, x6, x7⟩ := vals
  simp (disch := omega) only [s231_63, s231_64, s231_65, s231_66, s231_69, zcs_0, zcs_1, zcs_2, zcs_3, zcs_4, zcs_5, zcs_6, zcs_7, znl_i, znl_r, znl_n, Bool.and_true, Bool.true_and, zk_v, zk_n, zk_x, zir_r, zir_n, zclr_i, zclr_r, zclr_n, zclr_d, zclr_l, true_and, and_true, and_self, if_true, if_false, reduceIte, nI_add, pk_mul, zin_ok, zx_nI, nI_lt2, nI_le2, nI_eq2, nI_l0, nI_g0, nI_q0, nI_p0, nI_n0, nI_m1, Nat.add_zero, Nat.zero_add, Nat.reduceAdd, Nat.reduceMul, true_or, or_true, znar_50, bI_0, bI_1, bI_z, bft, nI_z0, nI_z1, lgc_lt, lgc_gt, lgc_le, lgc_ge, lgc_eq, not_true_eq_false, not_false_eq_true, Bool.not_eq_true, Bool.not_eq_false, reduceCtorEq, eq_self, nI_e0, nI_e1, i10, i01, decide_false, decide_true, Bool.false_eq_true, cls_cP, fr_cP, len_cP, ls_cP, n_cP, s0]
  refine c227 (d := d + 2) hR8.1 k5 g8 (by have := B8.2.1; omega) (by omega) (by omega) (fun g9 => ?_) (fun g9 S' => ?_)
  rotate_left
  · have g9 : ¬ yFk (yH5 b sz S).1 = 0 := g9
    rw [yH_b5 g9] at HX
    simp only [zcs_0, zcs_1, zcs_2, zcs_3, zcs_4, zcs_5, zcs_6, zcs_7, znl_i, znl_r, znl_n, Bool.and_true, Bool.true_and, zk_v, zk_n, zk_x, zir_r, zir_n, zclr_i, zclr_r, zclr_n, zclr_d, zclr_l, true_and, and_true, and_self, if_true, if_false, reduceIte]
    obtain ⟨f9, n9, _, u9, w9, _⟩ := B8
    exact HX g9 _ S' f9 (by omega) (by omega) (by omega) (by omega)
  have g9 : yFk (yH5 b sz S).1 = 0 := g9
  show zk _ _ _ _ _ _ _ _ (.inl (some (.int (nI (yH5 b sz S).2)))) (cP _ R (yH5 b sz S).1)
  simp (disch := omega) only [s231_72, zcs_0, zcs_1, zcs_2, zcs_3, zcs_4, zcs_5, zcs_6, zcs_7, znl_i, znl_r, znl_n, Bool.and_true, Bool.true_and, zk_v, zk_n, zk_x, zir_r, zir_n, zclr_i, zclr_r, zclr_n, zclr_d, zclr_l, true_and, and_true, and_self, if_true, if_false, reduceIte, nI_add, pk_mul, zin_ok, zx_nI, nI_lt2, nI_le2, nI_eq2, nI_l0, nI_g0, nI_q0, nI_p0, nI_n0, nI_m1, Nat.add_zero, Nat.zero_add, Nat.reduceAdd, Nat.reduceMul, true_or, or_true, znar_50, bI_0, bI_1, bI_z, bft, nI_z0, nI_z1, lgc_lt, lgc_gt, lgc_le, lgc_ge, lgc_eq, not_true_eq_false, not_false_eq_true, Bool.not_eq_true, Bool.not_eq_false, reduceCtorEq, eq_self, nI_e0, nI_e1, i10, i01, decide_false, decide_true, Bool.false_eq_true, cls_cP, fr_cP, len_cP, ls_cP, n_cP, q1, si]
  refine c231_5 hR hS hk hn h162 hC hI h0 H HX (hQs z8 B8 4 (nI (yH5 b sz S).2)) g9 ⟨?_, ?_, ?_, ?_, ?_, ?_, ?_, ?_⟩
  · rw [fi_sfi, zu2_k _ _ _ _ (by omega)]; exact x0
  · rw [fi_sfi, zu2_k _ _ _ _ (by omega)]; exact x1
  · rw [fi_sfi, zu2_k _ _ _ _ (by omega)]; exact x2
  · rw [fi_sfi, zu2_k _ _ _ _ (by omega)]; exact x3
  · rw [fi_sfi, zu2_s]
  · rw [fi_sfi, zu2_k _ _ _ _ (by omega)]; exact x5
  · rw [fi_sfi, zu2_k _ _ _ _ (by omega)]; exact x6
  · rw [fi_sfi, zu2_k _ _ _ _ (by omega)]; exact x7
theorem c231_3 (hR : RD z R b sz) (hS : yOK sz S) (hk : yFk S = 0) (hn : R + 11 ≤ zn z) (h162 : 162 ≤ R) (hC : CT z R G L) (hI : GI G L) (h0 : G 0 < 16)
    (H : yFk (yH8 b sz S).1 = 0 → ∀ z', zFr (TW R) z z' → CT z' R (yHG b sz S G) L → zuc z ≤ zuc z' → zuc z' ≤ zuc z + 2 → zus z ≤ zus z' → zus z' ≤ zus z + 50 → Q (.inl none) (cP z' R (yH8 b sz S).1))
    (HX : ¬ yFk (yH8 b sz S).1 = 0 → ∀ z' S', FN z z' → zuc z ≤ zuc z' → zuc z' ≤ zuc z + 2000 → zus z ≤ zus z' → zus z' ≤ zus z + 5000 → Q (.inr (.ref (zn z'))) (mkW (cP z' R S') (nI (yFk (yH8 b sz S).1)) (yFp (yH8 b sz S).1))) {z8 : ZH} (B8 : (FN z z8 ∧ zn z8 = zn z + 1 ∧ zcls z8 (zn z) = 21 ∧ zuc z8 = zuc z + 1 ∧ zus z8 = zus z + 8 ∧ zls z8 = zls z)) (g8 : yFk (yH3 b sz S).1 = 0) (vals : (zfi z8 (zn z) 0 = nI (yH1 b sz S).2 ∧ zfi z8 (zn z) 1 = nI (yH2 b sz S).2 ∧ zfi z8 (zn z) 2 = nI (yH3 b sz S).2 ∧ zfi z8 (zn z) 3 = nI 0 ∧ zfi z8 (zn z) 4 = nI 0 ∧ zfi z8 (zn z) 5 = nI 0 ∧ zfi z8 (zn z) 6 = nI 0 ∧ zfi z8 (zn z) 7 = nI 0)) : ZW zG (d + 5) 231 45 [.ref R, .ref (zn z)] [] (cP z8 R (yH3 b sz S).1) Q := by
  have r0 := hR.1.1.1
  obtain ⟨k1, k2, k3, k4, k5, k6, k7, k8, k9⟩ := yH_ok (b := b) hS
  have hne : ¬ zn z = R := by omega
  have si := fun z1 S' (j : Nat) (x : Int32) => cP_sfi (z := z1) (S := S') (R := R) (q := zn z) (k := j) (x := x) hne
  have hR8 := hR.fn B8.1 (by omega) h162
  have s0 : zcls z8 R = 13 := hR8.1.1.1
  have q1 := B8.2.2.1
  obtain ⟨x0, x1, x2, x3, x4, x5, x6, x7⟩ := vals
  have a3 : zfr z8 R 0 = .ref (R + 1) := hR8.2.1.1
  simp (disch := omega) only [s231_45, s231_46, s231_48, zcs_0, zcs_1, zcs_2, zcs_3, zcs_4, zcs_5, zcs_6, zcs_7, znl_i, znl_r, znl_n, Bool.and_true, Bool.true_and, zk_v, zk_n, zk_x, zir_r, zir_n, zclr_i, zclr_r, zclr_n, zclr_d, zclr_l, true_and, and_true, and_self, if_true, if_false, reduceIte, nI_add, pk_mul, zin_ok, zx_nI, nI_lt2, nI_le2, nI_eq2, nI_l0, nI_g0, nI_q0, nI_p0, nI_n0, nI_m1, Nat.add_zero, Nat.zero_add, Nat.reduceAdd, Nat.reduceMul, true_or, or_true, znar_50, bI_0, bI_1, bI_z, bft, nI_z0, nI_z1, lgc_lt, lgc_gt, lgc_le, lgc_ge, lgc_eq, not_true_eq_false, not_false_eq_true, Bool.not_eq_true, Bool.not_eq_false, reduceCtorEq, eq_self, nI_e0, nI_e1, i10, i01, decide_false, decide_true, Bool.false_eq_true, cls_cP, fr_cP, len_cP, ls_cP, n_cP, s0]
  refine c223 (d := d + 1) hR8.1 k3 g8 (by have := B8.2.1; omega) (by omega) (fun g9 => ?_) (fun g9 S' => ?_)
  rotate_left
  · have g9 : ¬ yFk (yNeed b sz 10 (yH3 b sz S).1) = 0 := g9
    rw [yH_bn g9] at HX
    simp only [zcs_0, zcs_1, zcs_2, zcs_3, zcs_4, zcs_5, zcs_6, zcs_7, znl_i, znl_r, znl_n, Bool.and_true, Bool.true_and, zk_v, zk_n, zk_x, zir_r, zir_n, zclr_i, zclr_r, zclr_n, zclr_d, zclr_l, true_and, and_true, and_self, if_true, if_false, reduceIte]
    obtain ⟨f9, n9, _, u9, w9, _⟩ := B8
    exact HX g9 _ S' f9 (by omega) (by omega) (by omega) (by omega)
  have g9 : yFk (yNeed b sz 10 (yH3 b sz S).1) = 0 := g9
  simp (disch := omega) only [s231_51, s231_52, s231_53, s231_54, s231_57, zcs_0, zcs_1, zcs_2, zcs_3, zcs_4, zcs_5, zcs_6, zcs_7, znl_i, znl_r, znl_n, Bool.and_true, Bool.true_and, zk_v, zk_n, zk_x, zir_r, zir_n, zclr_i, zclr_r, zclr_n, zclr_d, zclr_l, true_and, and_true, and_self, if_true, if_false, reduceIte, nI_add, pk_mul, zin_ok, zx_nI, nI_lt2, nI_le2, nI_eq2, nI_l0, nI_g0, nI_q0, nI_p0, nI_n0, nI_m1, Nat.add_zero, Nat.zero_add, Nat.reduceAdd, Nat.reduceMul, true_or, or_true, znar_50, bI_0, bI_1, bI_z, bft, nI_z0, nI_z1, lgc_lt, lgc_gt, lgc_le, lgc_ge, lgc_eq, not_true_eq_false, not_false_eq_true, Bool.not_eq_true, Bool.not_eq_false, reduceCtorEq, eq_self, nI_e0, nI_e1, i10, i01, decide_false, decide_true, Bool.false_eq_true, cls_cP, fr_cP, len_cP, ls_cP, n_cP, s0, a3]
  refine c225 (d := d + 2) hR8.1 k4 g9 (by have := B8.2.1; omega) hR8.2.1.2 (fun g9 => ?_) (fun g9 S' => ?_)
  rotate_left
  · have g9 : ¬ yFk (yH4 b sz S) = 0 := g9
    rw [yH_b4 g9] at HX
    simp only [zcs_0, zcs_1, zcs_2, zcs_3, zcs_4, zcs_5, zcs_6, zcs_7, znl_i, znl_r, znl_n, Bool.and_true, Bool.true_and, zk_v, zk_n, zk_x, zir_r, zir_n, zclr_i, zclr_r, zclr_n, zclr_d, zclr_l, true_and, and_true, and_self, if_true, if_false, reduceIte]
    obtain ⟨f9, n9, _, u9, w9, _⟩ := B8
    exact HX g9 _ S' f9 (by omega) (by omega) (by omega) (by omega)
  have g9 : yFk (yH4 b sz S) = 0 := g9
  show zk _ _ _ _ _ _ _ _ (.inl (some (.int (nI (yH4k b sz S))))) (cP _ R (yH4 b sz S))
  simp (disch := omega) only [s231_60, zcs_0, zcs_1, zcs_2, zcs_3, zcs_4, zcs_5, zcs_6, zcs_7, znl_i, znl_r, znl_n, Bool.and_true, Bool.true_and, zk_v, zk_n, zk_x, zir_r, zir_n, zclr_i, zclr_r, zclr_n, zclr_d, zclr_l, true_and, and_true, and_self, if_true, if_false, reduceIte, nI_add, pk_mul, zin_ok, zx_nI, nI_lt2, nI_le2, nI_eq2, nI_l0, nI_g0, nI_q0, nI_p0, nI_n0, nI_m1, Nat.add_zero, Nat.zero_add, Nat.reduceAdd, Nat.reduceMul, true_or, or_true, znar_50, bI_0, bI_1, bI_z, bft, nI_z0, nI_z1, lgc_lt, lgc_gt, lgc_le, lgc_ge, lgc_eq, not_true_eq_false, not_false_eq_true, Bool.not_eq_true, Bool.not_eq_false, reduceCtorEq, eq_self, nI_e0, nI_e1, i10, i01, decide_false, decide_true, Bool.false_eq_true, cls_cP, fr_cP, len_cP, ls_cP, n_cP, q1, si]
  refine c231_4 hR hS hk hn h162 hC hI h0 H HX (hQs z8 B8 3 (nI (yH4k b sz S))) g9 ⟨?_, ?_, ?_, ?_, ?_, ?_, ?_, ?_⟩
  · rw [fi_sfi, zu2_k _ _ _ _ (by omega)]; exact x0
  · rw [fi_sfi, zu2_k _ _ _ _ (by omega)]; exact x1
  · rw [fi_sfi, zu2_k _ _ _ _ (by omega)]; exact x2
  · rw [fi_sfi, zu2_s]
  · rw [fi_sfi, zu2_k _ _ _ _ (by omega)]; exact x4
  · rw [fi_sfi, zu2_k _ _ _ _ (by omega)]; exact x5
  · rw [fi_sfi, zu2_k _ _ _ _ (by omega)]; exact x6
  · rw [fi_sfi, zu2_k _ _ _ _ (by omega)]; exact x7
theorem c231_2 (hR : RD z R b sz) (hS : yOK sz S) (hk : yFk S = 0) (hn : R + 11 ≤ zn z) (h162 : 162 ≤ R) (hC : CT z R G L) (hI : GI G L) (h0 : G 0 < 16)
    (H : yFk (yH8 b sz S).1 = 0 → ∀ z', zFr (TW R) z z' → CT z' R (yHG b sz S G) L → zuc z ≤ zuc z' → zuc z' ≤ zuc z + 2 → zus z ≤ zus z' → zus z' ≤ zus z + 50 → Q (.inl none) (cP z' R (yH8 b sz S).1))
    (HX : ¬ yFk (yH8 b sz S).1 = 0 → ∀ z' S', FN z z' → zuc z ≤ zuc z' → zuc z' ≤ zuc z + 2000 → zus z ≤ zus z' → zus z' ≤ zus z + 5000 → Q (.inr (.ref (zn z'))) (mkW (cP z' R S') (nI (yFk (yH8 b sz S).1)) (yFp (yH8 b sz S).1))) {z8 : ZH} (B8 : (FN z z8 ∧ zn z8 = zn z + 1 ∧ zcls z8 (zn z) = 21 ∧ zuc z8 = zuc z + 1 ∧ zus z8 = zus z + 8 ∧ zls z8 = zls z)) (g8 : yFk (yH2 b sz S).1 = 0) (vals : (zfi z8 (zn z) 0 = nI (yH1 b sz S).2 ∧ zfi z8 (zn z) 1 = nI (yH2 b sz S).2 ∧ zfi z8 (zn z) 2 = nI 0 ∧ zfi z8 (zn z) 3 = nI 0 ∧ zfi z8 (zn z) 4 = nI 0 ∧ zfi z8 (zn z) 5 = nI 0 ∧ zfi z8 (zn z) 6 = nI 0 ∧ zfi z8 (zn z) 7 = nI 0)) : ZW zG (d + 5) 231 32 [.ref R, .ref (zn z)] [] (cP z8 R (yH2 b sz S).1) Q := by
  have r0 := hR.1.1.1
  obtain ⟨k1, k2, k3, k4, k5, k6, k7, k8, k9⟩ := yH_ok (b := b) hS
  have hne : ¬ zn z = R := by omega
  have si := fun z1 S' (j : Nat) (x : Int32) => cP_sfi (z := z1) (S := S') (R := R) (q := zn z) (k := j) (x := x) hne
  have hR8 := hR.fn B8.1 (by omega) h162
  have s0 : zcls z8 R = 13 := hR8.1.1.1
  have q1 := B8.2.2.1
  obtain ⟨x0, x1, x2, x3, x4, x5, x6, x7⟩ := vals
  simp (disch := omega) only [s231_32, s231_33, s231_34, s231_36, s231_37, s231_39, zcs_0, zcs_1, zcs_2, zcs_3, zcs_4, zcs_5, zcs_6, zcs_7, znl_i, znl_r, znl_n, Bool.and_true, Bool.true_and, zk_v, zk_n, zk_x, zir_r, zir_n, zclr_i, zclr_r, zclr_n, zclr_d, zclr_l, true_and, and_true, and_self, if_true, if_false, reduceIte, nI_add, pk_mul, zin_ok, zx_nI, nI_lt2, nI_le2, nI_eq2, nI_l0, nI_g0, nI_q0, nI_p0, nI_n0, nI_m1, Nat.add_zero, Nat.zero_add, Nat.reduceAdd, Nat.reduceMul, true_or, or_true, znar_50, bI_0, bI_1, bI_z, bft, nI_z0, nI_z1, lgc_lt, lgc_gt, lgc_le, lgc_ge, lgc_eq, not_true_eq_false, not_false_eq_true, Bool.not_eq_true, Bool.not_eq_false, reduceCtorEq, eq_self, nI_e0, nI_e1, i10, i01, decide_false, decide_true, Bool.false_eq_true, cls_cP, fr_cP, len_cP, ls_cP, n_cP, s0]
  refine c226 (d := d) hR8.1 k2 g8 (by have := B8.2.1; omega) (by omega) (by omega) (by omega) (fun g9 => ?_) (fun g9 S' => ?_)
  rotate_left
  · have g9 : ¬ yFk (yH3 b sz S).1 = 0 := g9
    rw [yH_b3 g9] at HX
    simp only [zcs_0, zcs_1, zcs_2, zcs_3, zcs_4, zcs_5, zcs_6, zcs_7, znl_i, znl_r, znl_n, Bool.and_true, Bool.true_and, zk_v, zk_n, zk_x, zir_r, zir_n, zclr_i, zclr_r, zclr_n, zclr_d, zclr_l, true_and, and_true, and_self, if_true, if_false, reduceIte]
    obtain ⟨f9, n9, _, u9, w9, _⟩ := B8
    exact HX g9 _ S' f9 (by omega) (by omega) (by omega) (by omega)
  have g9 : yFk (yH3 b sz S).1 = 0 := g9
  show zk _ _ _ _ _ _ _ _ (.inl (some (.int (nI (yH3 b sz S).2)))) (cP _ R (yH3 b sz S).1)
  simp (disch := omega) only [s231_42, zcs_0, zcs_1, zcs_2, zcs_3, zcs_4, zcs_5, zcs_6, zcs_7, znl_i, znl_r, znl_n, Bool.and_true, Bool.true_and, zk_v, zk_n, zk_x, zir_r, zir_n, zclr_i, zclr_r, zclr_n, zclr_d, zclr_l, true_and, and_true, and_self, if_true, if_false, reduceIte, nI_add, pk_mul, zin_ok, zx_nI, nI_lt2, nI_le2, nI_eq2, nI_l0, nI_g0, nI_q0, nI_p0, nI_n0, nI_m1, Nat.add_zero, Nat.zero_add, Nat.reduceAdd, Nat.reduceMul, true_or, or_true, znar_50, bI_0, bI_1, bI_z, bft, nI_z0, nI_z1, lgc_lt, lgc_gt, lgc_le, lgc_ge, lgc_eq, not_true_eq_false, not_false_eq_true, Bool.not_eq_true, Bool.not_eq_false, reduceCtorEq, eq_self, nI_e0, nI_e1, i10, i01, decide_false, decide_true, Bool.false_eq_true, cls_cP, fr_cP, len_cP, ls_cP, n_cP, q1, si]
  refine c231_3 hR hS hk hn h162 hC hI h0 H HX (hQs z8 B8 2 (nI (yH3 b sz S).2)) g9 ⟨?_, ?_, ?_, ?_, ?_, ?_, ?_, ?_⟩
  · rw [fi_sfi, zu2_k _ _ _ _ (by omega)]; exact x0
  · rw [fi_sfi, zu2_k _ _ _ _ (by omega)]; exact x1
  · rw [fi_sfi, zu2_s]
  · rw [fi_sfi, zu2_k _ _ _ _ (by omega)]; exact x3
  · rw [fi_sfi, zu2_k _ _ _ _ (by omega)]; exact x4
  · rw [fi_sfi, zu2_k _ _ _ _ (by omega)]; exact x5
  · rw [fi_sfi, zu2_k _ _ _ _ (by omega)]; exact x6
  · rw [fi_sfi, zu2_k _ _ _ _ (by omega)]; exact x7
theorem c231_1 (hR : RD z R b sz) (hS : yOK sz S) (hk : yFk S = 0) (hn : R + 11 ≤ zn z) (h162 : 162 ≤ R) (hC : CT z R G L) (hI : GI G L) (h0 : G 0 < 16)
    (H : yFk (yH8 b sz S).1 = 0 → ∀ z', zFr (TW R) z z' → CT z' R (yHG b sz S G) L → zuc z ≤ zuc z' → zuc z' ≤ zuc z + 2 → zus z ≤ zus z' → zus z' ≤ zus z + 50 → Q (.inl none) (cP z' R (yH8 b sz S).1))
    (HX : ¬ yFk (yH8 b sz S).1 = 0 → ∀ z' S', FN z z' → zuc z ≤ zuc z' → zuc z' ≤ zuc z + 2000 → zus z ≤ zus z' → zus z' ≤ zus z + 5000 → Q (.inr (.ref (zn z'))) (mkW (cP z' R S') (nI (yFk (yH8 b sz S).1)) (yFp (yH8 b sz S).1))) {z8 : ZH} (B8 : (FN z z8 ∧ zn z8 = zn z + 1 ∧ zcls z8 (zn z) = 21 ∧ zuc z8 = zuc z + 1 ∧ zus z8 = zus z + 8 ∧ zls z8 = zls z)) (g8 : yFk (yH1 b sz S).1 = 0) (vals : (zfi z8 (zn z) 0 = nI (yH1 b sz S).2 ∧ zfi z8 (zn z) 1 = nI 0 ∧ zfi z8 (zn z) 2 = nI 0 ∧ zfi z8 (zn z) 3 = nI 0 ∧ zfi z8 (zn z) 4 = nI 0 ∧ zfi z8 (zn z) 5 = nI 0 ∧ zfi z8 (zn z) 6 = nI 0 ∧ zfi z8 (zn z) 7 = nI 0)) : ZW zG (d + 5) 231 21 [.ref R, .ref (zn z)] [] (cP z8 R (yH1 b sz S).1) Q := by
  have r0 := hR.1.1.1
  obtain ⟨k1, k2, k3, k4, k5, k6, k7, k8, k9⟩ := yH_ok (b := b) hS
  have hne : ¬ zn z = R := by omega
  have si := fun z1 S' (j : Nat) (x : Int32) => cP_sfi (z := z1) (S := S') (R := R) (q := zn z) (k := j) (x := x) hne
  have hR8 := hR.fn B8.1 (by omega) h162
  have s0 : zcls z8 R = 13 := hR8.1.1.1
  have q1 := B8.2.2.1
  obtain ⟨x0, x1, x2, x3, x4, x5, x6, x7⟩ := vals
  simp (disch := omega) only [s231_21, s231_22, s231_23, s231_24, s231_26, zcs_0, zcs_1, zcs_2, zcs_3, zcs_4, zcs_5, zcs_6, zcs_7, znl_i, znl_r, znl_n, Bool.and_true, Bool.true_and, zk_v, zk_n, zk_x, zir_r, zir_n, zclr_i, zclr_r, zclr_n, zclr_d, zclr_l, true_and, and_true, and_self, if_true, if_false, reduceIte, nI_add, pk_mul, zin_ok, zx_nI, nI_lt2, nI_le2, nI_eq2, nI_l0, nI_g0, nI_q0, nI_p0, nI_n0, nI_m1, Nat.add_zero, Nat.zero_add, Nat.reduceAdd, Nat.reduceMul, true_or, or_true, znar_50, bI_0, bI_1, bI_z, bft, nI_z0, nI_z1, lgc_lt, lgc_gt, lgc_le, lgc_ge, lgc_eq, not_true_eq_false, not_false_eq_true, Bool.not_eq_true, Bool.not_eq_false, reduceCtorEq, eq_self, nI_e0, nI_e1, i10, i01, decide_false, decide_true, Bool.false_eq_true, cls_cP, fr_cP, len_cP, ls_cP, n_cP, s0]
  refine c227 (d := d + 2) hR8.1 k1 g8 (by have := B8.2.1; omega) (by omega) (by omega) (fun g9 => ?_) (fun g9 S' => ?_)
  rotate_left
  · have g9 : ¬ yFk (yH2 b sz S).1 = 0 := g9
    rw [yH_b2 g9] at HX
    simp only [zcs_0, zcs_1, zcs_2, zcs_3, zcs_4, zcs_5, zcs_6, zcs_7, znl_i, znl_r, znl_n, Bool.and_true, Bool.true_and, zk_v, zk_n, zk_x, zir_r, zir_n, zclr_i, zclr_r, zclr_n, zclr_d, zclr_l, true_and, and_true, and_self, if_true, if_false, reduceIte]
    obtain ⟨f9, n9, _, u9, w9, _⟩ := B8
    exact HX g9 _ S' f9 (by omega) (by omega) (by omega) (by omega)
  have g9 : yFk (yH2 b sz S).1 = 0 := g9
  show zk _ _ _ _ _ _ _ _ (.inl (some (.int (nI (yH2 b sz S).2)))) (cP _ R (yH2 b sz S).1)
  simp (disch := omega) only [s231_29, zcs_0, zcs_1, zcs_2, zcs_3, zcs_4, zcs_5, zcs_6, zcs_7, znl_i, znl_r, znl_n, Bool.and_true, Bool.true_and, zk_v, zk_n, zk_x, zir_r, zir_n, zclr_i, zclr_r, zclr_n, zclr_d, zclr_l, true_and, and_true, and_self, if_true, if_false, reduceIte, nI_add, pk_mul, zin_ok, zx_nI, nI_lt2, nI_le2, nI_eq2, nI_l0, nI_g0, nI_q0, nI_p0, nI_n0, nI_m1, Nat.add_zero, Nat.zero_add, Nat.reduceAdd, Nat.reduceMul, true_or, or_true, znar_50, bI_0, bI_1, bI_z, bft, nI_z0, nI_z1, lgc_lt, lgc_gt, lgc_le, lgc_ge, lgc_eq, not_true_eq_false, not_false_eq_true, Bool.not_eq_true, Bool.not_eq_false, reduceCtorEq, eq_self, nI_e0, nI_e1, i10, i01, decide_false, decide_true, Bool.false_eq_true, cls_cP, fr_cP, len_cP, ls_cP, n_cP, q1, si]
  refine c231_2 hR hS hk hn h162 hC hI h0 H HX (hQs z8 B8 1 (nI (yH2 b sz S).2)) g9 ⟨?_, ?_, ?_, ?_, ?_, ?_, ?_, ?_⟩
  · rw [fi_sfi, zu2_k _ _ _ _ (by omega)]; exact x0
  · rw [fi_sfi, zu2_s]
  · rw [fi_sfi, zu2_k _ _ _ _ (by omega)]; exact x2
  · rw [fi_sfi, zu2_k _ _ _ _ (by omega)]; exact x3
  · rw [fi_sfi, zu2_k _ _ _ _ (by omega)]; exact x4
  · rw [fi_sfi, zu2_k _ _ _ _ (by omega)]; exact x5
  · rw [fi_sfi, zu2_k _ _ _ _ (by omega)]; exact x6
  · rw [fi_sfi, zu2_k _ _ _ _ (by omega)]; exact x7
theorem c231_0 (hR : RD z R b sz) (hS : yOK sz S) (hk : yFk S = 0) (hn : R + 11 ≤ zn z) (h162 : 162 ≤ R) (hC : CT z R G L) (hI : GI G L) (h0 : G 0 < 16)
    (H : yFk (yH8 b sz S).1 = 0 → ∀ z', zFr (TW R) z z' → CT z' R (yHG b sz S G) L → zuc z ≤ zuc z' → zuc z' ≤ zuc z + 2 → zus z ≤ zus z' → zus z' ≤ zus z + 50 → Q (.inl none) (cP z' R (yH8 b sz S).1))
    (HX : ¬ yFk (yH8 b sz S).1 = 0 → ∀ z' S', FN z z' → zuc z ≤ zuc z' → zuc z' ≤ zuc z + 2000 → zus z ≤ zus z' → zus z' ≤ zus z + 5000 → Q (.inr (.ref (zn z'))) (mkW (cP z' R S') (nI (yFk (yH8 b sz S).1)) (yFp (yH8 b sz S).1))) {z8 : ZH} (B8 : (FN z z8 ∧ zn z8 = zn z + 1 ∧ zcls z8 (zn z) = 21 ∧ zuc z8 = zuc z + 1 ∧ zus z8 = zus z + 8 ∧ zls z8 = zls z)) (g8 : yFk S = 0) (vals : (zfi z8 (zn z) 0 = nI 0 ∧ zfi z8 (zn z) 1 = nI 0 ∧ zfi z8 (zn z) 2 = nI 0 ∧ zfi z8 (zn z) 3 = nI 0 ∧ zfi z8 (zn z) 4 = nI 0 ∧ zfi z8 (zn z) 5 = nI 0 ∧ zfi z8 (zn z) 6 = nI 0 ∧ zfi z8 (zn z) 7 = nI 0)) : ZW zG (d + 5) 231 8 [.ref R, .ref (zn z)] [] (cP z8 R S) Q := by
  have r0 := hR.1.1.1
  obtain ⟨k1, k2, k3, k4, k5, k6, k7, k8, k9⟩ := yH_ok (b := b) hS
  have hne : ¬ zn z = R := by omega
  have si := fun z1 S' (j : Nat) (x : Int32) => cP_sfi (z := z1) (S := S') (R := R) (q := zn z) (k := j) (x := x) hne
  have hR8 := hR.fn B8.1 (by omega) h162
  have s0 : zcls z8 R = 13 := hR8.1.1.1
  have q1 := B8.2.2.1
  obtain ⟨x0, x1, x2, x3, x4, x5, x6, x7⟩ := vals
  simp (disch := omega) only [s231_8, s231_9, s231_10, s231_12, s231_13, s231_15, zcs_0, zcs_1, zcs_2, zcs_3, zcs_4, zcs_5, zcs_6, zcs_7, znl_i, znl_r, znl_n, Bool.and_true, Bool.true_and, zk_v, zk_n, zk_x, zir_r, zir_n, zclr_i, zclr_r, zclr_n, zclr_d, zclr_l, true_and, and_true, and_self, if_true, if_false, reduceIte, nI_add, pk_mul, zin_ok, zx_nI, nI_lt2, nI_le2, nI_eq2, nI_l0, nI_g0, nI_q0, nI_p0, nI_n0, nI_m1, Nat.add_zero, Nat.zero_add, Nat.reduceAdd, Nat.reduceMul, true_or, or_true, znar_50, bI_0, bI_1, bI_z, bft, nI_z0, nI_z1, lgc_lt, lgc_gt, lgc_le, lgc_ge, lgc_eq, not_true_eq_false, not_false_eq_true, Bool.not_eq_true, Bool.not_eq_false, reduceCtorEq, eq_self, nI_e0, nI_e1, i10, i01, decide_false, decide_true, Bool.false_eq_true, cls_cP, fr_cP, len_cP, ls_cP, n_cP, s0]
  refine c226 (d := d) hR8.1 hS hk (by have := B8.2.1; omega) (by omega) (by omega) (by omega) (fun g9 => ?_) (fun g9 S' => ?_)
  rotate_left
  · have g9 : ¬ yFk (yH1 b sz S).1 = 0 := g9
    rw [yH_b1 g9] at HX
    simp only [zcs_0, zcs_1, zcs_2, zcs_3, zcs_4, zcs_5, zcs_6, zcs_7, znl_i, znl_r, znl_n, Bool.and_true, Bool.true_and, zk_v, zk_n, zk_x, zir_r, zir_n, zclr_i, zclr_r, zclr_n, zclr_d, zclr_l, true_and, and_true, and_self, if_true, if_false, reduceIte]
    obtain ⟨f9, n9, _, u9, w9, _⟩ := B8
    exact HX g9 _ S' f9 (by omega) (by omega) (by omega) (by omega)
  have g9 : yFk (yH1 b sz S).1 = 0 := g9
  show zk _ _ _ _ _ _ _ _ (.inl (some (.int (nI (yH1 b sz S).2)))) (cP _ R (yH1 b sz S).1)
  simp (disch := omega) only [s231_18, zcs_0, zcs_1, zcs_2, zcs_3, zcs_4, zcs_5, zcs_6, zcs_7, znl_i, znl_r, znl_n, Bool.and_true, Bool.true_and, zk_v, zk_n, zk_x, zir_r, zir_n, zclr_i, zclr_r, zclr_n, zclr_d, zclr_l, true_and, and_true, and_self, if_true, if_false, reduceIte, nI_add, pk_mul, zin_ok, zx_nI, nI_lt2, nI_le2, nI_eq2, nI_l0, nI_g0, nI_q0, nI_p0, nI_n0, nI_m1, Nat.add_zero, Nat.zero_add, Nat.reduceAdd, Nat.reduceMul, true_or, or_true, znar_50, bI_0, bI_1, bI_z, bft, nI_z0, nI_z1, lgc_lt, lgc_gt, lgc_le, lgc_ge, lgc_eq, not_true_eq_false, not_false_eq_true, Bool.not_eq_true, Bool.not_eq_false, reduceCtorEq, eq_self, nI_e0, nI_e1, i10, i01, decide_false, decide_true, Bool.false_eq_true, cls_cP, fr_cP, len_cP, ls_cP, n_cP, q1, si]
  refine c231_1 hR hS hk hn h162 hC hI h0 H HX (hQs z8 B8 0 (nI (yH1 b sz S).2)) g9 ⟨?_, ?_, ?_, ?_, ?_, ?_, ?_, ?_⟩
  · rw [fi_sfi, zu2_s]
  · rw [fi_sfi, zu2_k _ _ _ _ (by omega)]; exact x1
  · rw [fi_sfi, zu2_k _ _ _ _ (by omega)]; exact x2
  · rw [fi_sfi, zu2_k _ _ _ _ (by omega)]; exact x3
  · rw [fi_sfi, zu2_k _ _ _ _ (by omega)]; exact x4
  · rw [fi_sfi, zu2_k _ _ _ _ (by omega)]; exact x5
  · rw [fi_sfi, zu2_k _ _ _ _ (by omega)]; exact x6
  · rw [fi_sfi, zu2_k _ _ _ _ (by omega)]; exact x7
theorem c231 (hR : RD z R b sz) (hS : yOK sz S) (hk : yFk S = 0) (hn : R + 11 ≤ zn z) (h162 : 162 ≤ R) (hC : CT z R G L) (hI : GI G L) (h0 : G 0 < 16)
    (H : yFk (yH8 b sz S).1 = 0 → ∀ z', zFr (TW R) z z' → CT z' R (yHG b sz S G) L → zuc z ≤ zuc z' → zuc z' ≤ zuc z + 2 → zus z ≤ zus z' → zus z' ≤ zus z + 50 → Q (.inl none) (cP z' R (yH8 b sz S).1))
    (HX : ¬ yFk (yH8 b sz S).1 = 0 → ∀ z' S', FN z z' → zuc z ≤ zuc z' → zuc z' ≤ zuc z + 2000 → zus z ≤ zus z' → zus z' ≤ zus z + 5000 → Q (.inr (.ref (zn z'))) (mkW (cP z' R S') (nI (yFk (yH8 b sz S).1)) (yFp (yH8 b sz S).1))) : ZC zG (d + 5) 231 [.ref R] (cP z R S) Q := by
  have r0 := hR.1.1.1
  have cs := fun S' => cP_snew (z := z) (R := R) (S := S') (c := 21) (N := 8) (by omega)
  have fz : ∀ j, zfi (snew z 21 8) (zn z) j = nI 0 := fun j => by rw [fi_snew, zu1_s]; exact nI_0.symm
  have c245' := fun d Q z => @c245 d z Q
  simp (disch := omega) only [e231, s231_0, s231_3, s231_4, s231_7, zcs_0, zcs_1, zcs_2, zcs_3, zcs_4, zcs_5, zcs_6, zcs_7, znl_i, znl_r, znl_n, Bool.and_true, Bool.true_and, zk_v, zk_n, zk_x, zir_r, zir_n, zclr_i, zclr_r, zclr_n, zclr_d, zclr_l, true_and, and_true, and_self, if_true, if_false, reduceIte, nI_add, pk_mul, zin_ok, zx_nI, nI_lt2, nI_le2, nI_eq2, nI_l0, nI_g0, nI_q0, nI_p0, nI_n0, nI_m1, Nat.add_zero, Nat.zero_add, Nat.reduceAdd, Nat.reduceMul, true_or, or_true, znar_50, bI_0, bI_1, bI_z, bft, nI_z0, nI_z1, lgc_lt, lgc_gt, lgc_le, lgc_ge, lgc_eq, not_true_eq_false, not_false_eq_true, Bool.not_eq_true, Bool.not_eq_false, reduceCtorEq, eq_self, nI_e0, nI_e1, i10, i01, decide_false, decide_true, Bool.false_eq_true, cls_cP, fr_cP, len_cP, ls_cP, n_cP, cs, c245']
  exact c231_0 hR hS hk hn h162 hC hI h0 H HX ⟨(FN.refl z).snew _ _, rfl, by rw [cls_snew, zu1_s], rfl, rfl, rfl⟩ hk ⟨fz 0, fz 1, fz 2, fz 3, fz 4, fz 5, fz 6, fz 7⟩
end CH
