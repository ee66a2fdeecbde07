set_option maxRecDepth 100000
/-! the component's reader: a whole rule -/
theorem wT_low {v v2 : Nat → Nat} (h : ∀ i, i = 0 ∨ i = 4 ∨ i = 5 ∨ (10 ≤ i ∧ i < 154) → v2 i = v i) (k : wT v) : wT v2 := by
  obtain ⟨a, b, c, e, f⟩ := k
  have e0 := h 0 (by omega)
  have e4 := h 4 (by omega)
  have e5 := h 5 (by omega)
  refine ⟨by omega, by omega, by omega, ?_, ?_⟩
  · intro x hx
    rw [h (10 + 9 * x) (by omega), h (10 + 9 * x + 1) (by omega), h (10 + 9 * x + 2) (by omega), h (10 + 9 * x + 3) (by omega), h (10 + 9 * x + 4) (by omega), h (10 + 9 * x + 5) (by omega), h (10 + 9 * x + 6) (by omega), h (10 + 9 * x + 7) (by omega)]
    exact e x (by omega)
  · intro x hx
    rw [h (10 + 9 * x + 8) (by omega), e0]
    exact f x hx
section CZ
variable {d : Nat} {z : ZH} {Q : ZQ} {b : Nat → Nat} {sz R : Nat} {S : YS} {G : Nat → Nat} {L : Nat → List (Nat × Nat)}
/-- what stays while a rule's tests are read; what they cost -/
def RK (z z3 : ZH) (q f0 : Nat) (S3 : YS) (G GO G3 : Nat → Nat) (L L3 : Nat → List (Nat × Nat)) : Prop :=
  (∀ t, t < G 2 → L3 t = L t) ∧ (∀ i, ¬ i = 2 → ¬ i = 3 → i < 274 + 3 * G 2 → G3 i = GO i) ∧ agP G G3 (G 3) ∧ G 3 ≤ G3 3 ∧
  (zuc z ≤ zuc z3 ∧ zuc z3 + f0 ≤ zuc z + yFr S3 + 2 * (G3 2 - G 2) + 3) ∧ (zus z ≤ zus z3 ∧ zus z3 + f0 ≤ zus z + yFr S3 + 3 * (G3 2 - G 2) + 9 + 4 * capL z3 (q + 1)) ∧ capL z3 (q + 1) ≤ 2 * (G3 2 - G 2) + 2
/-- the rule is put among the others -/
theorem c222f (hR : RD z R b sz) (hn : R + 11 ≤ zn z) (h162 : 162 ≤ R) (hC : CT z R G L) (hI : GI G L) (h1 : G 1 < 24) (hsz : sz ≤ 1400) {z9 : ZH} {q ow wi : Nat} {G9 : Nat → Nat} {L9 : Nat → List (Nat × Nat)} {S9 : YS} {x4 x5 : Value} (hq : zn z ≤ q) (hM : RM z z9 q (yLp b S) ow wi (G 2) G9 L9) (hK : RK z z9 q (yFr S) S9 G (yOG b sz S G) G9 L L9) (hS : yOK sz S9) (hB : yB S9 G9) (hg : yFk S9 = 0) (ho : ow = yWh b (yO2 b sz S) [27, 5, 3, 8]) (hw : wi = (yO4 b sz S).2) (h4 : yFk (yO4 b sz S).1 = 0) (e : yO5 b sz S G = (S9, G9))
    (H : ∀ z' L', zFr (TW R) z z' → CT z' R (yO6 b sz S G) L' → GI (yO6 b sz S G) L' → zuc z ≤ zuc z' → zuc z' + yFr S ≤ zuc z + yFr S9 + 400 → zus z ≤ zus z' → zus z' + yFr S ≤ zus z + yFr S9 + 2100 → Q (.inl none) (cP z' R S9)) : ZW zG (d + 6) 222 93 [.ref R, .int (nI (yLp b S)), .int (nI ow), .ref q, x4, x5] [] (cP z9 R S9) Q := by
  obtain ⟨⟨f1, f2⟩, ⟨q1, q2, q3, q4, q5, q6, q7⟩, ⟨m1, m2, m3⟩, ti, pk⟩ := hM
  obtain ⟨K1, K2, K3, K4, ⟨K5, K6⟩, ⟨K7, K8⟩, K9⟩ := hK
  have hR9 := hR.fn f1 (by omega) h162
  have r0 : zcls z9 R = 13 := hR9.1.1.1
  have r6 : zfr z9 R 6 = .ref (R + 5) := hR9.2.2.2.2.2
  have n9 := f1.1
  have hC9 := hC.fn f1 hn
  obtain ⟨⟨⟨a1, a2, a3, a4, a5, a6, a7, a8⟩, a9, a10⟩, ⟨b1, b2⟩, c, e1, e2⟩ := hC9
  obtain ⟨B1, B2⟩ := hB hg
  have hfr := hS.1
  obtain ⟨_, _, _, g0, gp, go, gw⟩ := yO4_g h4
  -- the new numbers
  have e6 : yO6 b sz S G = zu1 (zu1 G9 (154 + 5 * G 1 + 4) (G9 2 - G 2)) 1 (G 1 + 1) := by
    unfold yO6
    rw [e]
  have v1 : yO6 b sz S G 1 = G 1 + 1 := by rw [e6, zu1_s]
  have v4 : yO6 b sz S G (154 + 5 * G 1 + 4) = G9 2 - G 2 := by rw [e6, zu1_n _ _ _ (by omega), zu1_s]
  have vi : ∀ i, ¬ i = 1 → ¬ i = 154 + 5 * G 1 + 4 → yO6 b sz S G i = G9 i := fun i h1 h2 => by rw [e6, zu1_n _ _ _ h1, zu1_n _ _ _ h2]
  have vo : ∀ i, ¬ i = 1 → ¬ i = 2 → ¬ i = 3 → (i < 154 + 5 * G 1 ∨ 159 + 5 * G 1 ≤ i) → i < 274 + 3 * G 2 → yO6 b sz S G i = G i := fun i h1 h2 h3 h4 h5 => by
    rw [vi i h1 (by omega), K2 i h2 h3 h5, yOG_n i (by omega)]
  have vr : yO6 b sz S G (154 + 5 * G 1) = yLp b S ∧ yO6 b sz S G (154 + 5 * G 1 + 1) = ow ∧ yO6 b sz S G (154 + 5 * G 1 + 2) = wi ∧ yO6 b sz S G (154 + 5 * G 1 + 3) = G 2 := by
    rw [vi _ (by omega) (by omega), vi _ (by omega) (by omega), vi _ (by omega) (by omega), vi _ (by omega) (by omega), K2 _ (by omega) (by omega) (by omega), K2 _ (by omega) (by omega) (by omega), K2 _ (by omega) (by omega) (by omega), K2 _ (by omega) (by omega) (by omega)]
    unfold yOG
    refine ⟨?_, ?_, ?_, ?_⟩
    · rw [zu1_n _ _ _ (by omega), zu1_n _ _ _ (by omega), zu1_n _ _ _ (by omega), zu1_s]; rfl
    · rw [zu1_n _ _ _ (by omega), zu1_n _ _ _ (by omega), zu1_s, ho]
    · rw [zu1_n _ _ _ (by omega), zu1_s, hw]
    · rw [zu1_s]
  generalize hG6 : yO6 b sz S G = G6 at *
  have agP6 : agP G9 G6 (G9 3) := fun i h1 h2 => vi i (by omega) (by omega)
  have t6 : ∀ t j, j < 3 → G6 (274 + 3 * t + j) = G9 (274 + 3 * t + j) := fun t j hj => vi _ (by omega) (by omega)
  -- the list takes it
  have ra : ∀ l, l < G 1 → ∃ q' : Nat, (zls z9 (R + 9)).getD l .null = .ref q' ∧ Bn R z9 q' ∧ zcls z9 q' = 15 := fun l hl => by
    obtain ⟨q', w1, w2⟩ := e2 l hl
    exact ⟨q', w1, w2.1, w2.2.1⟩
  have le9 : zlel (cP z9 R S9) (.ref q) = true := by
    have : 100 ≤ q := by omega
    simp [zlel, cls_cP, q1, this]
  have all9 : (zls z9 (R + 9)).all (zlel (cP z9 R S9)) = true := by
    refine all_getD (fun i hi => ?_)
    obtain ⟨q', w1, w2, w3⟩ := ra i (by omega)
    rw [w1]
    have := w2.1
    have : 100 ≤ q' := by omega
    simp [zlel, cls_cP, w3, this]
  have len9 : (zls z9 (R + 9)).length < 100000 := by omega
  simp (disch := omega) only [s222_93, s222_94, s222_97, s222_100, s222_101, s222_106, s222_107, zcs_0, zcs_1, zcs_2, zcs_3, zcs_4, zcs_5, zcs_6, zcs_7, znl_i, znl_r, znl_n, Bool.and_true, Bool.true_and, zk_v, zk_n, zk_x, zir_r, zir_n, zclr_i, zclr_r, zclr_n, zclr_d, zclr_l, true_and, and_true, and_self, if_true, if_false, reduceIte, nI_add, pk_mul, zin_ok, zx_nI, nI_lt2, nI_le2, nI_eq2, nI_l0, nI_g0, nI_q0, nI_p0, nI_n0, nI_m1, Nat.add_zero, Nat.zero_add, Nat.reduceAdd, Nat.reduceMul, true_or, or_true, znar_50, bI_0, bI_1, bI_z, bft, nI_z0, nI_z1, lgc_lt, lgc_gt, lgc_le, lgc_ge, lgc_eq, not_true_eq_false, not_false_eq_true, Bool.not_eq_true, Bool.not_eq_false, reduceCtorEq, eq_self, nI_e0, nI_e1, i10, i01, decide_false, decide_true, Bool.false_eq_true, cls_cP, fr_cP, len_cP, ls_cP, n_cP, r0, r6, a1, a7, a8, le9, all9, len9, cP_sladd]
  have cost := add_cost z9 (R + 9) (.ref q)
  rw [e1] at cost
  have F := zFr_sladd (r := R + 9) (x := .ref q) (zFr_refl (fun x => x = R + 9) z9) (Or.inr rfl)
  have hls : zls (sladd z9 (R + 9) (.ref q)) (R + 9) = zls z9 (R + 9) ++ [.ref q] := by rw [ls_sladd, zu1_s]
  have hlsn : ∀ y, ¬ y = R + 9 → zls (sladd z9 (R + 9) (.ref q)) y = zls z9 y := fun y hy => by rw [ls_sladd, zu1_n _ _ _ hy]
  have n' := n_sladd z9 (R + 9) (.ref q)
  have cl' : ∀ y, y < zn z9 → zcls (sladd z9 (R + 9) (.ref q)) y = zcls z9 y := fun y hy => cls_sladd _ _ _ hy
  have fi' : zfi (sladd z9 (R + 9) (.ref q)) = zfi z9 := fi_sladd _ _ _
  have ia' : zia (sladd z9 (R + 9) (.ref q)) = zia z9 := ia_sladd _ _ _
  have fr' : ∀ y, ¬ y = R + 9 → zfr (sladd z9 (R + 9) (.ref q)) y = zfr z9 y := fun y hy => fr_sladd _ _ _ hy
  have ln' : ∀ y, y < zn z9 → zlen (sladd z9 (R + 9) (.ref q)) y = zlen z9 y := fun y hy => len_sladd _ _ _ hy
  generalize hz' : sladd z9 (R + 9) (.ref q) = z' at *
  have st9 : zSt (Bn R z9) z9 z' := F.st (fun y hy => ⟨hy.2, fun w => by have := hy.1; omega⟩)
  have mo9 : ∀ y, Bn R z9 y → Bn R z' y := fun y hy => ⟨hy.1, by have := hy.2; omega⟩
  have T9 : G9 2 ≤ 175 ∧ G9 3 ≤ 350 := by omega
  obtain ⟨hI1, hI2, hI3⟩ := hI
  have hT2 : ∀ t, t < G 2 → ∀ x, x ∈ L t → x.1 + x.2 < G 3 := fun t ht => TI.lt (GI.ti ⟨hI1, hI2, hI3⟩) ht
  have ag6 : agP G G6 (G 3) := agP_trans K3 agP6 K4
  have lines : ∀ l, l < G 1 → ∀ j, j < 5 → G6 (154 + 5 * l + j) = G (154 + 5 * l + j) := fun l hl j hj => vo _ (by omega) (by omega) (by omega) (by omega) (by omega)
  have v2 : G6 2 = G9 2 := vi 2 (by omega) (by omega)
  have v3 : G6 3 = G9 3 := vi 3 (by omega) (by omega)
  have v0 : G6 0 = G 0 := vo 0 (by omega) (by omega) (by omega) (by omega) (by omega)
  refine H z' L9 (zFr_trans (zFr_mono (fun _ _ w => w.elim) f1) (zFr_mono (fun y _ w => Or.inr (Or.inr (Or.inr w))) F)) ⟨⟨⟨?_, ?_, ?_, ?_, ?_, ?_, ?_, ?_⟩, ?_, ?_⟩, ⟨?_, ?_⟩, ?_, ?_, ?_⟩ ⟨?_, ?_, ?_⟩ (by omega) (by omega) (by omega) (by omega)
  · rw [cl' _ (by omega)]; exact a1
  · rw [fr' _ (by omega)]; exact a2
  · rw [cl' _ (by omega)]; exact a3
  · rw [fr' _ (by omega)]; exact a4
  · rw [cl' _ (by omega)]; exact a5
  · rw [ln' _ (by omega)]; exact a6
  · rw [fr' _ (by omega)]; exact a7
  · rw [cl' _ (by omega)]; exact a8
  · rw [fi', vo 4 (by omega) (by omega) (by omega) (by omega) (by omega)]; exact a9
  · rw [fi', vo 5 (by omega) (by omega) (by omega) (by omega) (by omega)]; exact a10
  · rw [hlsn _ (by omega), v0]; exact b1
  · intro h hh
    rw [v0] at hh
    obtain ⟨y, w1, w2, w3, w4⟩ := b2 h hh
    have h16 : h < 16 := by have := hI1.1; omega
    refine ⟨y, by rw [hlsn _ (by omega)]; exact w1, mo9 y w2, by rw [cl' _ w2.2]; exact w3, fun j hj => ?_⟩
    rw [fi', vo _ (by omega) (by omega) (by omega) (by omega) (by omega)]
    exact w4 j hj
  · intro h hh
    rw [ia', vo _ (by omega) (by omega) (by omega) (by omega) (by omega)]
    exact c h hh
  · rw [hls, List.length_append, v1, e1]; rfl
  · intro l hl
    rw [v1] at hl
    rw [hls, getD_app, e1]
    by_cases cl : l < G 1
    · rw [if_pos cl]
      obtain ⟨y, w1, w2⟩ := e2 l cl
      refine ⟨y, w1, ?_⟩
      have w3 := (w2.st st9).mono mo9
      have hc := (hI2.2.2.2.2.1 l cl).2.2.2
      exact w3.ap ag6 (lines l cl) (T := G 2) (fun t ht => ⟨by have := t6 t 0 (by omega); rw [Nat.add_zero] at this; rw [this, K2 _ (by omega) (by omega) (by omega), yOG_n _ (by omega)], K1 t ht, hT2 t ht⟩) hc
    · have el : l = G 1 := by omega
      subst el
      rw [if_neg (by omega), if_pos rfl]
      refine ⟨q, rfl, ?_⟩
      obtain ⟨r1, r2, r3, r4⟩ := vr
      have hnth : ∀ i, G 2 + i < G9 2 → ∃ r : Nat, (zls z9 (q + 1)).getD i .null = .ref r ∧ zTs (Bn R z') z' G6 (L9 (G 2 + i)) (G 2 + i) r := fun i hi => by
        obtain ⟨r, w1, w2⟩ := m3 i hi
        have w3 := w2.mono (B2 := Bn R z9) (fun y hy => ⟨by have := hy.1; omega, hy.2⟩)
        have w4 := (w3.st st9).mono mo9
        refine ⟨r, w1, w4.ap agP6 ?_ (ti.lt hi)⟩
        have := t6 (G 2 + i) 0 (by omega)
        rw [Nat.add_zero] at this
        exact this
      refine ⟨⟨by omega, by omega⟩, by rw [cl' _ (by omega)]; exact q1, by rw [fi', r1]; exact q2, by rw [fi', r2]; exact q3, by rw [fi', r3]; exact q4, q + 1, fun i => if hi : G 2 + i < G9 2 then Classical.choose (hnth i hi) else 0, ⟨by rw [fr' _ (by omega)]; exact q5, ⟨by omega, by omega⟩, by rw [cl' _ (by omega)]; exact q6, by rw [hlsn _ (by omega), v4]; omega⟩, ?_⟩
      rw [v4, r4]
      intro i hi
      have hi2 : G 2 + i < G9 2 := by omega
      rw [hlsn _ (by omega)]
      dsimp only
      rw [dif_pos hi2]
      exact Classical.choose_spec (hnth i hi2)
  · refine wT_low (fun i hi => vo i (by omega) (by omega) (by omega) (by omega) (by omega)) hI1
  · refine ⟨by omega, by omega, by omega, ?_, ?_, ?_⟩
    · intro k hk
      rw [v3] at hk
      rw [vi _ (by omega) (by omega)]
      exact pk k hk
    · intro l hl
      rw [v1] at hl
      by_cases cl : l < G 1
      · have e0 := lines l cl 0 (by omega)
        rw [Nat.add_zero] at e0
        rw [e0, lines l cl 1 (by omega), lines l cl 2 (by omega), lines l cl 3 (by omega), lines l cl 4 (by omega), v2]
        obtain ⟨c1, c2, c3, c4⟩ := hI2.2.2.2.2.1 l cl
        exact ⟨c1, c2, c3, by omega⟩
      · have el : l = G 1 := by omega
        subst el
        obtain ⟨r1, r2, r3, r4⟩ := vr
        rw [r1, r2, r3, r4, v4, v2]
        exact ⟨gp, by rw [ho]; exact go, by rw [hw]; exact gw, by omega⟩
    · intro t ht
      rw [v2] at ht
      obtain ⟨x1, x2, x3⟩ := ti t ht
      rw [t6 t 1 (by omega), t6 t 2 (by omega), v3]
      exact ⟨tLay_ap agP6 x2 _ _ x1, x2⟩
  · intro t ht
    rw [v2] at ht
    exact (ti t ht).2.2
/-- a rule -/
theorem c222 (hR : RD z R b sz) (hS : yOK sz S) (hk : yFk S = 0) (hp : yLp b S < 4) (hn : R + 11 ≤ zn z) (h162 : 162 ≤ R) (hC : CT z R G L) (hI : GI G L) (h1 : G 1 < 24) (hB : yB S G) (hsz : sz ≤ 1400)
    (H : yFk (yO5 b sz S G).1 = 0 → ∀ z' L', zFr (TW R) z z' → CT z' R (yO6 b sz S G) L' → GI (yO6 b sz S G) L' → zuc z ≤ zuc z' → zuc z' + yFr S ≤ zuc z + yFr (yO5 b sz S G).1 + 400 → zus z ≤ zus z' → zus z' + yFr S ≤ zus z + yFr (yO5 b sz S G).1 + 2100 → Q (.inl none) (cP z' R (yO5 b sz S G).1))
    (HX : ¬ yFk (yO5 b sz S G).1 = 0 → ∀ z' S', FN z z' → zuc z ≤ zuc z' → zuc z' ≤ zuc z + 2000 → zus z ≤ zus z' → zus z' ≤ zus z + 5000 → Q (.inr (.ref (zn z'))) (mkW (cP z' R S') (nI (yFk (yO5 b sz S G).1)) (yFp (yO5 b sz S G).1))) : ZC zG (d + 6) 222 [.ref R, .int (nI (yLp b S))] (cP z R (yAdv b sz S)) Q := by
  have r0 := hR.1.1.1
  have r1 : zfr z R 1 = .ref (R + 2) := hR.2.2.1.1
  have eO1 : yO1 b sz S = yAdv b sz S := by
    unfold yO1 yTkn
    rw [if_pos (show yWh b S [27, 5, 3, 8] < 4 from hp), if_pos hk]
  obtain ⟨k1, k2, k3, k4, k5⟩ := yO_ok (b := b) (G := G) hS
  have gO1 : yFk (yO1 b sz S) = 0 := by rw [eO1, (yAdv_fk b sz S).1, hk]
  have hfr := hS.1
  have mo4 := yO4_mo (b := b) hS
  have mo1 : yFr S ≤ yFr (yO1 b sz S) := yTkn_mo hS
  rw [← eO1]
  simp (disch := omega) only [e222, s222_0, s222_1, s222_3, zcs_0, zcs_1, zcs_2, zcs_3, zcs_4, zcs_5, zcs_6, zcs_7, znl_i, znl_r, znl_n, Bool.and_true, Bool.true_and, zk_v, zk_n, zk_x, zir_r, zir_n, zclr_i, zclr_r, zclr_n, zclr_d, zclr_l, true_and, and_true, and_self, if_true, if_false, reduceIte, nI_add, pk_mul, zin_ok, zx_nI, nI_lt2, nI_le2, nI_eq2, nI_l0, nI_g0, nI_q0, nI_p0, nI_n0, nI_m1, Nat.add_zero, Nat.zero_add, Nat.reduceAdd, Nat.reduceMul, true_or, or_true, znar_50, bI_0, bI_1, bI_z, bft, nI_z0, nI_z1, lgc_lt, lgc_gt, lgc_le, lgc_ge, lgc_eq, not_true_eq_false, not_false_eq_true, Bool.not_eq_true, Bool.not_eq_false, reduceCtorEq, eq_self, nI_e0, nI_e1, i10, i01, decide_false, decide_true, Bool.false_eq_true, cls_cP, fr_cP, len_cP, ls_cP, n_cP, r0]
  refine c223 (d := d + 2) hR.1 k1 gO1 (by omega) (by omega) (fun g2 => ?_) (fun g2 S' => ?_)
  rotate_left
  · have g2 : ¬ yFk (yO2 b sz S) = 0 := g2
    rw [yO_bad2 g2] at HX
    simp only [zcs_0, zcs_1, zcs_2, zcs_3, zcs_4, zcs_5, zcs_6, zcs_7, znl_i, znl_r, znl_n, Bool.and_true, Bool.true_and, zk_v, zk_n, zk_x, zir_r, zir_n, zclr_i, zclr_r, zclr_n, zclr_d, zclr_l, true_and, and_true, and_self, if_true, if_false, reduceIte]
    exact HX g2 z S' (FN.refl z) (Nat.le_refl _) (by omega) (Nat.le_refl _) (by omega)
  have g2 : yFk (yO2 b sz S) = 0 := g2
  show zk _ _ _ _ _ _ _ _ _ (cP z R (yO2 b sz S))
  simp (disch := omega) only [s222_6, s222_7, s222_8, s222_11, zcs_0, zcs_1, zcs_2, zcs_3, zcs_4, zcs_5, zcs_6, zcs_7, znl_i, znl_r, znl_n, Bool.and_true, Bool.true_and, zk_v, zk_n, zk_x, zir_r, zir_n, zclr_i, zclr_r, zclr_n, zclr_d, zclr_l, true_and, and_true, and_self, if_true, if_false, reduceIte, nI_add, pk_mul, zin_ok, zx_nI, nI_lt2, nI_le2, nI_eq2, nI_l0, nI_g0, nI_q0, nI_p0, nI_n0, nI_m1, Nat.add_zero, Nat.zero_add, Nat.reduceAdd, Nat.reduceMul, true_or, or_true, znar_50, bI_0, bI_1, bI_z, bft, nI_z0, nI_z1, lgc_lt, lgc_gt, lgc_le, lgc_ge, lgc_eq, not_true_eq_false, not_false_eq_true, Bool.not_eq_true, Bool.not_eq_false, reduceCtorEq, eq_self, nI_e0, nI_e1, i10, i01, decide_false, decide_true, Bool.false_eq_true, cls_cP, fr_cP, len_cP, ls_cP, n_cP, r0, r1]
  refine c225 (d := d + 3) hR.1 k2 g2 (by omega) hR.2.2.1.2 (fun g3 => ?_) (fun g3 S' => ?_)
  rotate_left
  · have g3 : ¬ yFk (yO3 b sz S) = 0 := g3
    rw [yO_bad3 g3] at HX
    simp only [zcs_0, zcs_1, zcs_2, zcs_3, zcs_4, zcs_5, zcs_6, zcs_7, znl_i, znl_r, znl_n, Bool.and_true, Bool.true_and, zk_v, zk_n, zk_x, zir_r, zir_n, zclr_i, zclr_r, zclr_n, zclr_d, zclr_l, true_and, and_true, and_self, if_true, if_false, reduceIte]
    exact HX g3 z S' (FN.refl z) (Nat.le_refl _) (by omega) (Nat.le_refl _) (by omega)
  have g3 : yFk (yO3 b sz S) = 0 := g3
  show zk _ _ _ _ _ _ _ _ (.inl (some (.int (nI (yWh b (yO2 b sz S) [27, 5, 3, 8]))))) (cP z R (yO3 b sz S))
  have cs := fun S' => cP_snew (z := z) (R := R) (S := S') (c := 15) (N := 4) (by omega)
  have F1 : FN z (snew z 15 4) := (FN.refl z).snew _ _
  have hR1 := hR.fn F1 (by omega) h162
  have t0 : zcls (snew z 15 4) R = 13 := hR1.1.1.1
  have tq : zcls (snew z 15 4) (zn z) = 15 := by rw [cls_snew, zu1_s]
  simp (disch := omega) only [s222_14, s222_15, s222_18, s222_19, s222_20, s222_21, s222_22, s222_24, s222_25, s222_27, zcs_0, zcs_1, zcs_2, zcs_3, zcs_4, zcs_5, zcs_6, zcs_7, znl_i, znl_r, znl_n, Bool.and_true, Bool.true_and, zk_v, zk_n, zk_x, zir_r, zir_n, zclr_i, zclr_r, zclr_n, zclr_d, zclr_l, true_and, and_true, and_self, if_true, if_false, reduceIte, nI_add, pk_mul, zin_ok, zx_nI, nI_lt2, nI_le2, nI_eq2, nI_l0, nI_g0, nI_q0, nI_p0, nI_n0, nI_m1, Nat.add_zero, Nat.zero_add, Nat.reduceAdd, Nat.reduceMul, true_or, or_true, znar_50, bI_0, bI_1, bI_z, bft, nI_z0, nI_z1, lgc_lt, lgc_gt, lgc_le, lgc_ge, lgc_eq, not_true_eq_false, not_false_eq_true, Bool.not_eq_true, Bool.not_eq_false, reduceCtorEq, eq_self, nI_e0, nI_e1, i10, i01, decide_false, decide_true, Bool.false_eq_true, cls_cP, fr_cP, len_cP, ls_cP, n_cP, r0, t0, cs]
  refine c226 (d := d + 1) hR1.1 k3 g3 (by rw [n_snew]; omega) (by omega) (by omega) (by omega) (fun g4 => ?_) (fun g4 S' => ?_)
  rotate_left
  · have g4 : ¬ yFk (yO4 b sz S).1 = 0 := g4
    rw [yO_bad4 g4] at HX
    simp only [zcs_0, zcs_1, zcs_2, zcs_3, zcs_4, zcs_5, zcs_6, zcs_7, znl_i, znl_r, znl_n, Bool.and_true, Bool.true_and, zk_v, zk_n, zk_x, zir_r, zir_n, zclr_i, zclr_r, zclr_n, zclr_d, zclr_l, true_and, and_true, and_self, if_true, if_false, reduceIte]
    exact HX g4 (snew z 15 4) S' F1 (by rw [uc_snew]; omega) (by rw [uc_snew]; omega) (by rw [us_snew]; omega) (by rw [us_snew]; omega)
  have g4 : yFk (yO4 b sz S).1 = 0 := g4
  show zk _ _ _ _ _ _ _ _ (.inl (some (.int (nI (yO4 b sz S).2)))) (cP (snew z 15 4) R (yO4 b sz S).1)
  have hne : ¬ zn z = R := by omega
  have cr := fun (d : Nat) (Q : ZQ) (S' : YS) (x y w : Int32) => c234 (d := d) (Q := Q) (z := cP (snew z 15 4) R S') (q := zn z) (a := x) (e := y) (c := w) tq (by rw [n_cP, n_snew]; omega)
  have er := fun S' x y w => mkR_cP (z := snew z 15 4) (S := S') (R := R) (q := zn z) (a := x) (e := y) (c := w) hne (by rw [n_snew]; omega)
  have F2 : FN z (mkR (zn z) (nI (yLp b S)) (nI (yWh b (yO2 b sz S) [27, 5, 3, 8])) (nI (yO4 b sz S).2) (snew z 15 4)) := by
    unfold mkR
    have f := zFr_slin (r := zn (snew z 15 4)) (N := 2) (F1.snew 24 3) (Or.inl (by rw [n_snew]; omega))
    exact ((((FN.sfr f (Nat.le_refl _)).sfi (Nat.le_refl _)).sfi (Nat.le_refl _)).sfi (Nat.le_refl _))
  simp (disch := omega) only [s222_30, s222_33, zcs_0, zcs_1, zcs_2, zcs_3, zcs_4, zcs_5, zcs_6, zcs_7, znl_i, znl_r, znl_n, Bool.and_true, Bool.true_and, zk_v, zk_n, zk_x, zir_r, zir_n, zclr_i, zclr_r, zclr_n, zclr_d, zclr_l, true_and, and_true, and_self, if_true, if_false, reduceIte, nI_add, pk_mul, zin_ok, zx_nI, nI_lt2, nI_le2, nI_eq2, nI_l0, nI_g0, nI_q0, nI_p0, nI_n0, nI_m1, Nat.add_zero, Nat.zero_add, Nat.reduceAdd, Nat.reduceMul, true_or, or_true, znar_50, bI_0, bI_1, bI_z, bft, nI_z0, nI_z1, lgc_lt, lgc_gt, lgc_le, lgc_ge, lgc_eq, not_true_eq_false, not_false_eq_true, Bool.not_eq_true, Bool.not_eq_false, reduceCtorEq, eq_self, nI_e0, nI_e1, i10, i01, decide_false, decide_true, Bool.false_eq_true, cls_cP, fr_cP, len_cP, ls_cP, n_cP, cr, er]
  -- the new rule
  have M2 : RM z (mkR (zn z) (nI (yLp b S)) (nI (yWh b (yO2 b sz S) [27, 5, 3, 8])) (nI (yO4 b sz S).2) (snew z 15 4)) (zn z) (yLp b S) (yWh b (yO2 b sz S) [27, 5, 3, 8]) (yO4 b sz S).2 (G 2) (yOG b sz S G) L := by
    obtain ⟨t1, t2⟩ := yOG_TI (b := b) (sz := sz) (S := S) h1 hI
    have e2 := yOG_n (b := b) (sz := sz) (S := S) (G := G) 2 (by omega)
    have hls : zls (mkR (zn z) (nI (yLp b S)) (nI (yWh b (yO2 b sz S) [27, 5, 3, 8])) (nI (yO4 b sz S).2) (snew z 15 4)) (zn z + 1) = [] := by
      unfold mkR
      rw [ls_sfi, ls_sfi, ls_sfi, ls_sfr, ls_slin, n_snew, zu1_s]
    have nz1 : zn (snew z 15 4) = zn z + 1 := rfl
    have nz2 : zn (snew (snew z 15 4) 24 3) = zn z + 2 := rfl
    refine ⟨⟨F2, Nat.le_refl _⟩, ⟨?_, ?_, ?_, ?_, ?_, ?_, zn z + 2, ?_, Nat.le_refl _⟩, ⟨by omega, ?_, ?_⟩, t1, t2⟩
    · unfold mkR
      rw [cls_sfi, cls_sfi, cls_sfi, cls_sfr, cls_slin, nz2, nz1, zu1_n _ _ _ (by omega), zu1_n _ _ _ (by omega), cls_snew, nz1, zu1_n _ _ _ (by omega)]
      exact tq
    · unfold mkR
      rw [fi_sfi, zu2_k _ _ _ _ (by omega), fi_sfi, zu2_k _ _ _ _ (by omega), fi_sfi, zu2_s]
    · unfold mkR
      rw [fi_sfi, zu2_k _ _ _ _ (by omega), fi_sfi, zu2_s]
    · unfold mkR
      rw [fi_sfi, zu2_s]
    · unfold mkR
      rw [fr_sfi, fr_sfi, fr_sfi, fr_sfr, zu2_s, n_snew]
    · unfold mkR
      rw [cls_sfi, cls_sfi, cls_sfi, cls_sfr, cls_slin, nz2, nz1, zu1_n _ _ _ (by omega), zu1_s]
    · unfold mkR
      rw [fr_sfi, fr_sfi, fr_sfi, fr_sfr, n_snew, zu2_n _ _ _ _ (by omega), fr_slin, zu2_s]; rfl
    · rw [hls, e2]; simp
    · intro i hi
      rw [e2] at hi
      omega
  have K2 : ∀ S3 : YS, yFr S ≤ yFr S3 → RK z (mkR (zn z) (nI (yLp b S)) (nI (yWh b (yO2 b sz S) [27, 5, 3, 8])) (nI (yO4 b sz S).2) (snew z 15 4)) (zn z) (yFr S) S3 G (yOG b sz S G) (yOG b sz S G) L L := by
    intro S3 hS3
    have e2 := yOG_n (b := b) (sz := sz) (S := S) (G := G) 2 (by omega)
    have e3 := yOG_n (b := b) (sz := sz) (S := S) (G := G) 3 (by omega)
    have u : zuc (mkR (zn z) (nI (yLp b S)) (nI (yWh b (yO2 b sz S) [27, 5, 3, 8])) (nI (yO4 b sz S).2) (snew z 15 4)) = zuc z + 3 := rfl
    have w : zus (mkR (zn z) (nI (yLp b S)) (nI (yWh b (yO2 b sz S) [27, 5, 3, 8])) (nI (yO4 b sz S).2) (snew z 15 4)) = zus z + 9 := rfl
    have cp : capL (mkR (zn z) (nI (yLp b S)) (nI (yWh b (yO2 b sz S) [27, 5, 3, 8])) (nI (yO4 b sz S).2) (snew z 15 4)) (zn z + 1) = 2 := by
      unfold capL zdat mkR
      rw [fr_sfi, fr_sfi, fr_sfi, fr_sfr, n_snew, zu2_n _ _ _ _ (by omega), fr_slin, zu2_s]
      dsimp only
      rw [len_sfi, len_sfi, len_sfi, len_sfr, len_slin, zu1_s]
    exact ⟨fun t _ => rfl, fun i _ _ _ => rfl, fun i h1 h2 => yOG_n i (by omega), by omega, by omega, by omega, by omega⟩
  generalize hz2 : mkR (zn z) (nI (yLp b S)) (nI (yWh b (yO2 b sz S) [27, 5, 3, 8])) (nI (yO4 b sz S).2) (snew z 15 4) = z2 at *
  have hR2 := hR.fn F2 (by omega) h162
  have n2 := F2.1
  have s0 : zcls z2 R = 13 := hR2.1.1.1
  -- tests
  have lp : ∀ (n : Nat) (z3 : ZH) (S3 : YS) (G3 : Nat → Nat) (L3 : Nat → List (Nat × Nat)) (x4 x5 : Value), RM z z3 (zn z) (yLp b S) (yWh b (yO2 b sz S) [27, 5, 3, 8]) (yO4 b sz S).2 (G 2) G3 L3 → RK z z3 (zn z) (yFr S) S3 G (yOG b sz S G) G3 L L3 → yOK sz S3 → yFk S3 = 0 → yA S3 G3 → yFr S ≤ yFr S3 → (yFk (yT3 b sz S3 G3).1 = 0 → sz < yFr (yT3 b sz S3 G3).1 + n) → yTL b sz n (yT3 b sz S3 G3).1 (yTG b sz S3 G3) = yO5 b sz S G → ZW zG (d + 6) 222 43 [.ref R, .int (nI (yLp b S)), .int (nI (yWh b (yO2 b sz S) [27, 5, 3, 8])), .ref (zn z), x4, x5] [] (cP z3 R S3) Q := by
    intro n
    induction n with
    | zero =>
      intro z3 S3 G3 L3 x4 x5 M3 K3 o1 o2 o3 o4 hf e
      have K3' := K3
      obtain ⟨_, _, _, _, ⟨u1, u2⟩, ⟨v1, v2⟩, w⟩ := K3'
      have okT := (yT_ok (b := b) (G := G3) o1).2.2.1
      obtain ⟨B1, B2⟩ := o3 o2
      have hb3 := o1.1
      refine c222t (d := d) hR hn h162 (Nat.le_refl _) M3 o1 o2 o3 hsz (fun g => by have := hf g; omega) (fun g z8 S' F8 c1 c2 c3 c4 => ?_)
      have e5 : (yO5 b sz S G).1 = (yT3 b sz S3 G3).1 := by rw [← e, yTL]
      rw [e5] at HX
      exact HX g z8 S' F8 (by omega) (by omega) (by omega) (by omega)
    | succ n ih =>
      intro z3 S3 G3 L3 x4 x5 M3 K3 o1 o2 o3 o4 hf e
      have K3' := K3
      obtain ⟨t1, t2, t3, t4, ⟨u1, u2⟩, ⟨v1, v2⟩, w⟩ := K3'
      have okT := (yT_ok (b := b) (G := G3) o1).2.2
      obtain ⟨B1, B2⟩ := o3 o2
      have hb3 := o1.1
      have m1 := M3.2.2.1.1
      refine c222t (d := d) hR hn h162 (Nat.le_refl _) M3 o1 o2 o3 hsz (fun g z8 r1 si L8 M8 l8 c1 c2 c3 c4 c5 => ?_) (fun g z8 S' F8 c1 c2 c3 c4 => ?_)
      rotate_left
      · have e5 : (yO5 b sz S G).1 = (yT3 b sz S3 G3).1 := by rw [← e, yTL_bad g]
        rw [e5] at HX
        exact HX g z8 S' F8 (by omega) (by omega) (by omega) (by omega)
      have hR8 := hR.fn M8.1.1 (by omega) h162
      have y0 : zcls z8 R = 13 := hR8.1.1.1
      have tk := fun d Q => c224 (d := d) (Q := Q) hR8.1 okT g (r := 0) (by omega)
      unfold yTake at tk
      have fr3 := yT3_fr o1 g
      have nn := yTG_n (b := b) (sz := sz) (S := S3) (G := G3)
      have e82 : yTG b sz S3 G3 2 = G3 2 + 1 := by
        unfold yTG
        rw [if_pos g, zu1_s]
      have B8 := yTG_B (b := b) o1 o3
      have ag3 : agP G3 (yTG b sz S3 G3) (G3 3) := fun i h1 h2 => by
        have h275 : G3 2 ≤ 175 := by omega
        have w2 := yT3_n (b := b) (sz := sz) (S := S3) (G := G3)
        unfold yTG
        rw [if_pos g, zu1_n _ _ _ (by omega), zu1_n _ _ _ (by omega), zu1_n _ _ _ (by omega), zu1_n _ _ _ (by omega)]
        exact w2.2 i (by omega) (by omega)
      have K8 : ∀ S4 : YS, yFr (yT3 b sz S3 G3).1 ≤ yFr S4 → RK z z8 (zn z) (yFr S) S4 G (yOG b sz S G) (yTG b sz S3 G3) L L8 := fun S4 h4 =>
        ⟨fun t ht => by rw [l8 t (by omega)]; exact t1 t ht, fun i i1 i2 i3 => by rw [nn.2.2 i i2 i1 (by omega) (by omega)]; exact t2 i i1 i2 i3, agP_trans t3 ag3 t4, by have := nn.1; omega, ⟨by omega, by omega⟩, ⟨by omega, by omega⟩, by omega⟩
      unfold yTL at e
      by_cases g0 : yIs b (yT3 b sz S3 G3).1 0 = true
      · rw [if_pos g0] at e
        rw [g0] at tk
        simp only [if_true] at tk
        have okA := yAdv_ok (b := b) okT
        have gA : yFk (yAdv b sz (yT3 b sz S3 G3).1) = 0 := by rw [(yAdv_fk b sz _).1]; exact g
        have hA := and_A okT g0 B8
        have moA := yAdv_mo (b := b) okT
        simp (disch := omega) only [s222_84, s222_85, s222_87, s222_90, zcs_0, zcs_1, zcs_2, zcs_3, zcs_4, zcs_5, zcs_6, zcs_7, znl_i, znl_r, znl_n, Bool.and_true, Bool.true_and, zk_v, zk_n, zk_x, zir_r, zir_n, zclr_i, zclr_r, zclr_n, zclr_d, zclr_l, true_and, and_true, and_self, if_true, if_false, reduceIte, nI_add, pk_mul, zin_ok, zx_nI, nI_lt2, nI_le2, nI_eq2, nI_l0, nI_g0, nI_q0, nI_p0, nI_n0, nI_m1, Nat.add_zero, Nat.zero_add, Nat.reduceAdd, Nat.reduceMul, true_or, or_true, znar_50, bI_0, bI_1, bI_z, bft, nI_z0, nI_z1, lgc_lt, lgc_gt, lgc_le, lgc_ge, lgc_eq, not_true_eq_false, not_false_eq_true, Bool.not_eq_true, Bool.not_eq_false, reduceCtorEq, eq_self, nI_e0, nI_e1, i10, i01, decide_false, decide_true, Bool.false_eq_true, cls_cP, fr_cP, len_cP, ls_cP, n_cP, y0, tk, bI_t]
        refine ih z8 _ _ L8 _ _ M8 (K8 _ moA) okA gA hA (by omega) (fun q => ?_) e
        have := yT3_fr okA q
        have := hf g
        have := yIs_fr okT g0
        have h3 : 3 ≤ (ztx 0).length := by decide
        omega
      · rw [if_neg g0] at e
        rw [Bool.not_eq_true] at g0
        rw [g0] at tk
        simp only [Bool.false_eq_true, if_false] at tk
        simp (disch := omega) only [s222_84, s222_85, s222_87, s222_90, zcs_0, zcs_1, zcs_2, zcs_3, zcs_4, zcs_5, zcs_6, zcs_7, znl_i, znl_r, znl_n, Bool.and_true, Bool.true_and, zk_v, zk_n, zk_x, zir_r, zir_n, zclr_i, zclr_r, zclr_n, zclr_d, zclr_l, true_and, and_true, and_self, if_true, if_false, reduceIte, nI_add, pk_mul, zin_ok, zx_nI, nI_lt2, nI_le2, nI_eq2, nI_l0, nI_g0, nI_q0, nI_p0, nI_n0, nI_m1, Nat.add_zero, Nat.zero_add, Nat.reduceAdd, Nat.reduceMul, true_or, or_true, znar_50, bI_0, bI_1, bI_z, bft, nI_z0, nI_z1, lgc_lt, lgc_gt, lgc_le, lgc_ge, lgc_eq, not_true_eq_false, not_false_eq_true, Bool.not_eq_true, Bool.not_eq_false, reduceCtorEq, eq_self, nI_e0, nI_e1, i10, i01, decide_false, decide_true, Bool.false_eq_true, cls_cP, fr_cP, len_cP, ls_cP, n_cP, y0, tk, bI_f]
        refine c222f (d := d) hR hn h162 hC hI h1 hsz (Nat.le_refl _) M8 (K8 _ (Nat.le_refl _)) okT B8 g rfl rfl g4 e.symm (fun z' L' w1 w2 w3 w4 w5 w6 w7 => ?_)
        rw [← e] at H
        dsimp only at H
        exact H g z' L' w1 w2 w3 w4 w5 w6 w7
  have tk := fun d Q => c224 (d := d) (Q := Q) hR2.1 k4 g4 (r := 12) (by omega)
  unfold yTake at tk
  have mo4' : yFr S ≤ yFr (yO4 b sz S).1 := by omega
  by_cases g5 : yIs b (yO4 b sz S).1 12 = true
  · rw [g5] at tk
    simp only [if_true] at tk
    have okA := yAdv_ok (b := b) k4
    have gA : yFk (yAdv b sz (yO4 b sz S).1) = 0 := by rw [(yAdv_fk b sz _).1]; exact g4
    have hA := yO_A hS h1 hB g5
    have moA := yAdv_mo (b := b) k4
    have e5 : yO5 b sz S G = yTA b sz (yAdv b sz (yO4 b sz S).1) (yOG b sz S G) := if_pos g5
    simp (disch := omega) only [s222_34, s222_35, s222_37, s222_40, zcs_0, zcs_1, zcs_2, zcs_3, zcs_4, zcs_5, zcs_6, zcs_7, znl_i, znl_r, znl_n, Bool.and_true, Bool.true_and, zk_v, zk_n, zk_x, zir_r, zir_n, zclr_i, zclr_r, zclr_n, zclr_d, zclr_l, true_and, and_true, and_self, if_true, if_false, reduceIte, nI_add, pk_mul, zin_ok, zx_nI, nI_lt2, nI_le2, nI_eq2, nI_l0, nI_g0, nI_q0, nI_p0, nI_n0, nI_m1, Nat.add_zero, Nat.zero_add, Nat.reduceAdd, Nat.reduceMul, true_or, or_true, znar_50, bI_0, bI_1, bI_z, bft, nI_z0, nI_z1, lgc_lt, lgc_gt, lgc_le, lgc_ge, lgc_eq, not_true_eq_false, not_false_eq_true, Bool.not_eq_true, Bool.not_eq_false, reduceCtorEq, eq_self, nI_e0, nI_e1, i10, i01, decide_false, decide_true, Bool.false_eq_true, cls_cP, fr_cP, len_cP, ls_cP, n_cP, s0, tk, bI_t]
    exact lp (sz + 1) z2 _ _ L _ _ M2 (K2 _ (by omega)) okA gA hA (by omega) (fun _ => by omega) e5.symm
  · rw [Bool.not_eq_true] at g5
    rw [g5] at tk
    simp only [Bool.false_eq_true, if_false] at tk
    have e5 : yO5 b sz S G = ((yO4 b sz S).1, yOG b sz S G) := by
      unfold yO5
      rw [g5, if_neg (by simp)]
    have hB4 : yB (yO4 b sz S).1 (yOG b sz S G) := fun g => by
      obtain ⟨b1, b2⟩ := hB hk
      rw [yOG_n 2 (by omega), yOG_n 3 (by omega)]
      omega
    simp (disch := omega) only [s222_34, s222_35, s222_37, s222_40, zcs_0, zcs_1, zcs_2, zcs_3, zcs_4, zcs_5, zcs_6, zcs_7, znl_i, znl_r, znl_n, Bool.and_true, Bool.true_and, zk_v, zk_n, zk_x, zir_r, zir_n, zclr_i, zclr_r, zclr_n, zclr_d, zclr_l, true_and, and_true, and_self, if_true, if_false, reduceIte, nI_add, pk_mul, zin_ok, zx_nI, nI_lt2, nI_le2, nI_eq2, nI_l0, nI_g0, nI_q0, nI_p0, nI_n0, nI_m1, Nat.add_zero, Nat.zero_add, Nat.reduceAdd, Nat.reduceMul, true_or, or_true, znar_50, bI_0, bI_1, bI_z, bft, nI_z0, nI_z1, lgc_lt, lgc_gt, lgc_le, lgc_ge, lgc_eq, not_true_eq_false, not_false_eq_true, Bool.not_eq_true, Bool.not_eq_false, reduceCtorEq, eq_self, nI_e0, nI_e1, i10, i01, decide_false, decide_true, Bool.false_eq_true, cls_cP, fr_cP, len_cP, ls_cP, n_cP, s0, tk, bI_f]
    refine c222f (d := d) hR hn h162 hC hI h1 hsz (Nat.le_refl _) M2 (K2 _ mo4') k4 hB4 g4 rfl rfl g4 e5 (fun z' L' w1 w2 w3 w4 w5 w6 w7 => ?_)
    rw [e5] at H
    dsimp only at H
    exact H g4 z' L' w1 w2 w3 w4 w5 w6 w7
end CZ
