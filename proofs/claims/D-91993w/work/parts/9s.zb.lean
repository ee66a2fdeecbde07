set_option maxRecDepth 100000
/-! the model: lines, a town -/
section MT6
variable {d : Nat} {z : ZH} {Q : ZQ} {b : Nat → Nat} {sz : Nat} {S : YS} {F : Nat → Int32} {G : Nat → Nat}
/-- what a line says first: a paying, another word -/
def yLp (b : Nat → Nat) (S : YS) : Nat := yWh b S [27, 5, 3, 8]
def yLw (b : Nat → Nat) (S : YS) : Nat := yWh b S [11, 14, 21, 13]
def yBo (b : Nat → Nat) (sz : Nat) (S : YS) (G : Nat → Nat) : YS × (Nat → Nat) :=
  if yLp b S < 4 then ((yO5 b sz S G).1, yO6 b sz S G)
  else if yLw b S = 0 then ((yH8 b sz (yAdv b sz S)).1, yHG b sz (yAdv b sz S) G)
  else if yLw b S = 1 then ((yK3 b sz (G 0) (yAdv b sz S)).1, yKG b sz (G 0) (yAdv b sz S) G)
  else if yLw b S = 2 then ((yNum b sz 0 100 (yAdv b sz S)).1, zu1 G 4 (yNum b sz 0 100 (yAdv b sz S)).2)
  else ((yNum b sz 1 10 (yAdv b sz S)).1, zu1 G 5 (yNum b sz 1 10 (yAdv b sz S)).2)
def yEnd (b : Nat → Nat) (sz : Nat) (S : YS) : YS := if yFk S = 0 then (if yTk S = 3 then yAdv b sz S else yErr 1 S) else S
def yLn (b : Nat → Nat) (sz : Nat) (S : YS) (G : Nat → Nat) : YS × (Nat → Nat) :=
  if yLp b S = 4 ∧ yLw b S = 4 then (yErr 1 S, G)
  else if (yLw b S = 0 ∧ G 0 = 16) ∨ (yLp b S < 4 ∧ G 1 = 24) then (yErr 3 S, G)
  else (yEnd b sz (yBo b sz S G).1, (yBo b sz S G).2)
theorem yLp_le : yLp b S ≤ 4 := yWh_le [27, 5, 3, 8]
theorem yLw_le : yLw b S ≤ 4 := yWh_le [11, 14, 21, 13]
theorem yBo_ok (h : yOK sz S) : yOK sz (yBo b sz S G).1 := by
  unfold yBo
  repeat' split
  all_goals dsimp only
  · exact (yO_ok (b := b) (G := G) h).2.2.2.2
  · exact (yH_ok (yAdv_ok h)).2.2.2.2.2.2.2.2
  · exact (yK_ok (yAdv_ok h)).2.2
  · exact yNum_ok (yAdv_ok h)
  · exact yNum_ok (yAdv_ok h)
theorem yEnd_ok (h : yOK sz S) : yOK sz (yEnd b sz S) := by
  unfold yEnd
  repeat' split
  · exact yAdv_ok h
  · exact yErr_ok h (by omega)
  · exact h
theorem yLn_ok (h : yOK sz S) : yOK sz (yLn b sz S G).1 := by
  unfold yLn
  repeat' split
  all_goals dsimp only
  · exact yErr_ok h (by omega)
  · exact yErr_ok h (by omega)
  · exact yEnd_ok (yBo_ok h)
theorem yBo_mo (h : yOK sz S) : yFr S ≤ yFr (yBo b sz S G).1 := by
  have h1 := yAdv_mo (b := b) h
  unfold yBo
  repeat' split
  all_goals dsimp only
  · exact yO5_mo (b := b) (G := G) h
  · exact Nat.le_trans h1 (yH_mo (yAdv_ok h))
  · exact Nat.le_trans h1 (yK_mo (yAdv_ok h))
  · exact Nat.le_trans h1 (yNum_mo (yAdv_ok h))
  · exact Nat.le_trans h1 (yNum_mo (yAdv_ok h))
theorem yEnd_g (hS : yOK sz S) (h : yFk (yEnd b sz S) = 0) : yFk S = 0 ∧ yTk S = 3 ∧ yEnd b sz S = yAdv b sz S ∧ yFr S < yFr (yEnd b sz S) := by
  unfold yEnd at h ⊢
  by_cases g : yFk S = 0
  · rw [if_pos g] at h ⊢
    by_cases g2 : yTk S = 3
    · rw [if_pos g2]
      exact ⟨g, g2, rfl, yTk_fr hS (by omega)⟩
    · rw [if_neg g2] at h
      exact absurd h (yErr_fk (by omega))
  · rw [if_neg g] at h
    exact absurd h g
/-- a good line -/
theorem yLn_g (hS : yOK sz S) (h : yFk (yLn b sz S G).1 = 0) : ¬ (yLp b S = 4 ∧ yLw b S = 4) ∧ ¬ ((yLw b S = 0 ∧ G 0 = 16) ∨ (yLp b S < 4 ∧ G 1 = 24)) ∧ yLn b sz S G = (yEnd b sz (yBo b sz S G).1, (yBo b sz S G).2) ∧ yFk (yBo b sz S G).1 = 0 ∧ yFr S < yFr (yLn b sz S G).1 := by
  unfold yLn at h ⊢
  by_cases g : yLp b S = 4 ∧ yLw b S = 4
  · rw [if_pos g] at h
    exact absurd h (yErr_fk (by omega))
  · rw [if_neg g] at h ⊢
    by_cases g2 : (yLw b S = 0 ∧ G 0 = 16) ∨ (yLp b S < 4 ∧ G 1 = 24)
    · rw [if_pos g2] at h
      exact absurd h (yErr_fk (by omega))
    · rw [if_neg g2] at h ⊢
      obtain ⟨h1, h2, h3, h4⟩ := yEnd_g (yBo_ok hS) h
      have := yBo_mo (b := b) (G := G) hS
      exact ⟨g, g2, rfl, h1, by dsimp only; omega⟩
/-- the counts while lines are read -/
def yLi (S : YS) (G : Nat → Nat) : Prop := yB S G ∧ (yFk S = 0 → G 0 ≤ 16 ∧ G 1 ≤ 24)
theorem yO6_n (h1 : G 1 < 24) : yO6 b sz S G 0 = G 0 ∧ yO6 b sz S G 1 = G 1 + 1 ∧ yO6 b sz S G 2 = (yO5 b sz S G).2 2 ∧ yO6 b sz S G 3 = (yO5 b sz S G).2 3 := by
  have n0 := (yO5_n (b := b) (sz := sz) (S := S) h1).2.2 0 (by omega) (by omega) (by omega) (by omega)
  rw [yOG_n 0 (by omega)] at n0
  unfold yO6
  rw [zu1_s, zu1_n _ _ _ (by omega), zu1_n _ _ _ (by omega), zu1_n _ _ _ (by omega), zu1_n _ _ _ (by omega), zu1_n _ _ _ (by omega), zu1_n _ _ _ (by omega)]
  exact ⟨n0, rfl, rfl, rfl⟩
theorem yO5_B (hS : yOK sz S) (h1 : G 1 < 24) (hB : yB S G) : yB (yO5 b sz S G).1 (yO5 b sz S G).2 := by
  have k4 := (yO_ok (b := b) (G := G) hS).2.2.2.1
  have e5 := yO5_mo (b := b) (G := G) hS
  unfold yO5 at e5 ⊢
  split
  · rename_i e
    have hA := yO_A hS h1 hB e
    exact yTL_B _ _ _ (yT_ok (yAdv_ok k4)).2.2 (yTG_B (yAdv_ok k4) hA)
  · rename_i e
    rw [if_neg e] at e5
    dsimp only at e5 ⊢
    intro g
    have g0 := (yO4_g g).2.2.2.1
    obtain ⟨b1, b2⟩ := hB g0
    rw [yOG_n 2 (by omega), yOG_n 3 (by omega)]
    omega
theorem yLn_li (hS : yOK sz S) (hg : yFk S = 0) (hL : yLi S G) : yLi (yLn b sz S G).1 (yLn b sz S G).2 := by
  obtain ⟨hB, hL⟩ := hL
  obtain ⟨l1, l2⟩ := hL hg
  obtain ⟨b1, b2⟩ := hB hg
  have mo := yBo_mo (b := b) (G := G) hS
  have hall : yFk (yLn b sz S G).1 = 0 → (4 * (yLn b sz S G).2 3 ≤ yFr (yLn b sz S G).1 + 3 ∧ 2 * (yLn b sz S G).2 2 ≤ (yLn b sz S G).2 3) ∧ (yLn b sz S G).2 0 ≤ 16 ∧ (yLn b sz S G).2 1 ≤ 24 := by
    intro g
    obtain ⟨g1, g2, g3, g4, g5⟩ := yLn_g hS g
    have g6 : yFr (yBo b sz S G).1 < yFr (yEnd b sz (yBo b sz S G).1) := by
      rw [g3] at g
      exact (yEnd_g (yBo_ok hS) g).2.2.2
    rw [g3]
    dsimp only
    have key : ((yBo b sz S G).2 3 = G 3 ∧ (yBo b sz S G).2 2 = G 2 ∧ (yBo b sz S G).2 0 ≤ 16 ∧ (yBo b sz S G).2 1 ≤ 24) ∨ ((4 * (yBo b sz S G).2 3 ≤ yFr (yBo b sz S G).1 + 3 ∧ 2 * (yBo b sz S G).2 2 ≤ (yBo b sz S G).2 3) ∧ (yBo b sz S G).2 0 ≤ 16 ∧ (yBo b sz S G).2 1 ≤ 24) := by
      have lp := yLp_le (b := b) (S := S)
      have lw := yLw_le (b := b) (S := S)
      unfold yBo at g4 ⊢
      by_cases c1 : yLp b S < 4
      · rw [if_pos c1] at g4 ⊢
        dsimp only at g4 ⊢
        right
        have h1 : G 1 < 24 := by omega
        obtain ⟨o1, o2, o3, o4⟩ := yO6_n (b := b) (sz := sz) (S := S) h1
        have hB5 := yO5_B (b := b) hS h1 hB g4
        rw [o1, o2, o3, o4]
        exact ⟨hB5, by omega, by omega⟩
      · rw [if_neg c1] at g4 ⊢
        left
        by_cases c2 : yLw b S = 0
        · rw [if_pos c2] at g4 ⊢
          dsimp only at g4 ⊢
          have h0 : G 0 < 16 := by omega
          unfold yHG
          refine ⟨?_, ?_, ?_, ?_⟩
          all_goals simp (disch := omega) only [zu1_s, zu1_n, ne_eq]
          all_goals omega
        · rw [if_neg c2] at g4 ⊢
          by_cases c3 : yLw b S = 1
          · rw [if_pos c3] at g4 ⊢
            dsimp only at g4 ⊢
            obtain ⟨q1, q2, q3, q4, q5, q6⟩ := yK_g g4
            unfold yKG
            rw [if_pos g4]
            refine ⟨?_, ?_, ?_, ?_⟩
            all_goals simp (disch := omega) only [zu1_s, zu1_n, ne_eq]
            all_goals omega
          · rw [if_neg c3] at g4 ⊢
            by_cases c4 : yLw b S = 2
            · rw [if_pos c4] at g4 ⊢
              dsimp only at g4 ⊢
              refine ⟨?_, ?_, ?_, ?_⟩
              all_goals simp (disch := omega) only [zu1_s, zu1_n, ne_eq]
              all_goals omega
            · rw [if_neg c4] at g4 ⊢
              dsimp only at g4 ⊢
              refine ⟨?_, ?_, ?_, ?_⟩
              all_goals simp (disch := omega) only [zu1_s, zu1_n, ne_eq]
              all_goals omega
    omega
  exact ⟨fun g => (hall g).1, fun g => (hall g).2⟩
theorem yWh4 {r1 r2 r3 r4 : Nat} : (yWh b S [r1, r2, r3, r4] = 0 ↔ yIs b S r1 = true) ∧ (yIs b S r1 = false → (yWh b S [r1, r2, r3, r4] = 1 ↔ yIs b S r2 = true)) ∧ (yIs b S r1 = false → yIs b S r2 = false → (yWh b S [r1, r2, r3, r4] = 2 ↔ yIs b S r3 = true)) ∧ (yIs b S r1 = false → yIs b S r2 = false → yIs b S r3 = false → (yWh b S [r1, r2, r3, r4] = 3 ↔ yIs b S r4 = true)) := by
  simp only [yWh]
  cases yIs b S r1 <;> cases yIs b S r2 <;> cases yIs b S r3 <;> cases yIs b S r4 <;> simp
theorem m123 (hM : MS z) (hT : TPm z b sz) (hS : yOK sz S) (hg : yFk S = 0) (hL : yLi S G) (H1 : yFk (yLn b sz S G).1 = 0 → Q (.inl none) (mG z (yLn b sz S G).1 (yLn b sz S G).2)) (H2 : ¬ yFk (yLn b sz S G).1 = 0 → ∀ F, Q (.inl none) (mP z (yLn b sz S G).1 F)) : ZC zG (d + 8) 123 [.ref 135] (mG z S G) Q := by
  have h0 := hM
  unfold MS at h0
  obtain ⟨hB, hL⟩ := hL
  obtain ⟨l1, l2⟩ := hL hg
  have hsz : sz ≤ 1400 := hT.2.1
  have lp := yLp_le (b := b) (S := S)
  have lw := yLw_le (b := b) (S := S)
  have hk4 : yFk S < 4 := hS.2.2.2.2
  have pay : ∀ d Q, ZC zG (d + 2) 124 [.ref 135] (mG z S G) Q = Q (.inl (some (.int (wI 4 (yLp b S))))) (mG z S G) := fun d Q => m124 hM hT hS
  have wm : (wI 4 (yLp b S) = -1) = (4 ≤ yLp b S) := wI_m1 (by omega)
  have c := fun d Q r (hr : r < 35) => g125 (d := d) (Q := Q) (G := G) (r := r) hM hT hS hr
  have good := fun d Q => g122 (d := d) (Q := Q) (G := G) (S := S) hM (by omega)
  rw [decide_eq_true hg] at good
  have adv := fun d Q => g120 (d := d) (Q := Q) (G := G) (S := S) hM hT hS.1.2
  have okA := yAdv_ok (b := b) hS
  have err := fun x d Q => g126 (d := d) (Q := Q) (G := G) (S := S) (x := x) hM (by omega)
  have bad := fun x d Q (hx : 0 < x) (hx4 : x < 4) => (show ZC zG d 122 [.ref 135] (mG z (yErr x S) G) Q = Q (.inl (some (.int (bI false)))) (mG z (yErr x S) G) from by
    have := g122 (d := d) (Q := Q) (G := G) (S := yErr x S) hM (by have := (yErr_ok hS hx4).2.2.2.2; omega)
    rw [decide_eq_false (yErr_fk hx)] at this
    exact this)
  -- the end of a line
  have fG : ∀ (x1 x2 : Value) (S' : YS) (G' : Nat → Nat), yOK sz S' → yFk S' = 0 → (Q (.inl none) (mG z (yEnd b sz S') G')) → ZW zG (d + 8) 123 210 [.ref 135, x1, x2] [] (mG z S' G') Q := by
    intro x1 x2 S' G' hS' g hq
    have hk' : yTk S' < 5 := hS'.2.2.1
    have good' := fun d Q => g122 (d := d) (Q := Q) (G := G') (S := S') hM (by omega)
    rw [decide_eq_true g] at good'
    unfold yEnd at hq
    rw [if_pos g] at hq
    by_cases t : yTk S' = 3
    · rw [if_pos t] at hq
      have adv' := fun d Q => g120 (d := d) (Q := Q) (G := G') (S := S') hM hT hS'.1.2
      simp (disch := omega) only [s123_210, s123_211, s123_214, s123_217, s123_218, s123_221, s123_222, s123_225, s123_226, s123_227, s123_230, s123_231, s123_234, s123_237, s123_238, s123_241, zcs_0, zcs_1, zcs_2, zcs_3, zcs_4, zcs_5, zcs_6, zcs_7, znl_i, znl_r, znl_n, Bool.and_true, Bool.true_and, zk_v, zk_n, zk_x, zir_r, zir_n, zclr_i, zclr_r, zclr_n, zclr_d, zclr_l, true_and, and_true, and_self, if_true, if_false, reduceIte, nI_add, pk_mul, zin_ok, zx_nI, nI_lt2, nI_le2, nI_eq2, nI_l0, nI_g0, nI_q0, nI_p0, nI_n0, nI_m1, Nat.add_zero, Nat.zero_add, Nat.reduceAdd, Nat.reduceMul, true_or, or_true, znar_50, bI_0, bI_1, bI_z, bft, nI_z0, nI_z1, lgc_lt, lgc_gt, lgc_le, lgc_ge, lgc_eq, not_true_eq_false, not_false_eq_true, Bool.not_eq_true, Bool.not_eq_false, reduceCtorEq, eq_self, nI_e0, nI_e1, i10, i01, decide_false, decide_true, Bool.false_eq_true, cls_mG, fr_mG, len_mG, h0, good', adv', mG_10, t, bI_t]
      exact hq
    · rw [if_neg t] at hq
      have err' := fun d Q => g126 (d := d) (Q := Q) (G := G') (S := S') (x := 1) hM (by omega)
      have bad' := fun d Q => (show ZC zG d 122 [.ref 135] (mG z (yErr 1 S') G') Q = Q (.inl (some (.int (bI false)))) (mG z (yErr 1 S') G') from by
        have := g122 (d := d) (Q := Q) (G := G') (S := yErr 1 S') hM (by have := (yErr_ok hS' (x := 1) (by omega)).2.2.2.2; omega)
        rw [decide_eq_false (yErr_fk (by omega))] at this
        exact this)
      simp (disch := omega) only [s123_210, s123_211, s123_214, s123_217, s123_218, s123_221, s123_222, s123_225, s123_226, s123_227, s123_230, s123_231, s123_234, s123_237, s123_238, s123_241, zcs_0, zcs_1, zcs_2, zcs_3, zcs_4, zcs_5, zcs_6, zcs_7, znl_i, znl_r, znl_n, Bool.and_true, Bool.true_and, zk_v, zk_n, zk_x, zir_r, zir_n, zclr_i, zclr_r, zclr_n, zclr_d, zclr_l, true_and, and_true, and_self, if_true, if_false, reduceIte, nI_add, pk_mul, zin_ok, zx_nI, nI_lt2, nI_le2, nI_eq2, nI_l0, nI_g0, nI_q0, nI_p0, nI_n0, nI_m1, Nat.add_zero, Nat.zero_add, Nat.reduceAdd, Nat.reduceMul, true_or, or_true, znar_50, bI_0, bI_1, bI_z, bft, nI_z0, nI_z1, lgc_lt, lgc_gt, lgc_le, lgc_ge, lgc_eq, not_true_eq_false, not_false_eq_true, Bool.not_eq_true, Bool.not_eq_false, reduceCtorEq, eq_self, nI_e0, nI_e1, i10, i01, decide_false, decide_true, Bool.false_eq_true, cls_mG, fr_mG, len_mG, h0, good', err', bad', mG_10, t, bI_t, bI_f]
      exact hq
  have fP : ∀ (x1 x2 : Value) (S' : YS) (F' : Nat → Int32), yOK sz S' → ¬ yFk S' = 0 → (Q (.inl none) (mP z S' F')) → ZW zG (d + 8) 123 210 [.ref 135, x1, x2] [] (mP z S' F') Q := by
    intro x1 x2 S' F' hS' g hq
    have good' := fun d Q => m122 (d := d) (Q := Q) (F := F') (S := S') hM (by have := hS'.2.2.2.2; omega)
    rw [decide_eq_false g] at good'
    simp (disch := omega) only [s123_210, s123_211, s123_214, s123_217, s123_218, s123_221, s123_222, s123_225, s123_226, s123_227, s123_230, s123_231, s123_234, s123_237, s123_238, s123_241, zcs_0, zcs_1, zcs_2, zcs_3, zcs_4, zcs_5, zcs_6, zcs_7, znl_i, znl_r, znl_n, Bool.and_true, Bool.true_and, zk_v, zk_n, zk_x, zir_r, zir_n, zclr_i, zclr_r, zclr_n, zclr_d, zclr_l, true_and, and_true, and_self, if_true, if_false, reduceIte, nI_add, pk_mul, zin_ok, zx_nI, nI_lt2, nI_le2, nI_eq2, nI_l0, nI_g0, nI_q0, nI_p0, nI_n0, nI_m1, Nat.add_zero, Nat.zero_add, Nat.reduceAdd, Nat.reduceMul, true_or, or_true, znar_50, bI_0, bI_1, bI_z, bft, nI_z0, nI_z1, lgc_lt, lgc_gt, lgc_le, lgc_ge, lgc_eq, not_true_eq_false, not_false_eq_true, Bool.not_eq_true, Bool.not_eq_false, reduceCtorEq, eq_self, nI_e0, nI_e1, i10, i01, decide_false, decide_true, Bool.false_eq_true, cls_mP, fr_mP, len_mP, h0, good', bI_f]
    exact hq
  obtain ⟨w1, w2, w3, w4⟩ := yWh4 (b := b) (S := S) (r1 := 11) (r2 := 14) (r3 := 21) (r4 := 13)
  have w1 : yLw b S = 0 ↔ yIs b S 11 = true := w1
  have w2 : yIs b S 11 = false → (yLw b S = 1 ↔ yIs b S 14 = true) := w2
  have w3 : yIs b S 11 = false → yIs b S 14 = false → (yLw b S = 2 ↔ yIs b S 21 = true) := w3
  have w4 : yIs b S 11 = false → yIs b S 14 = false → yIs b S 21 = false → (yLw b S = 3 ↔ yIs b S 13 = true) := w4
  obtain ⟨w, hw1, hw2⟩ : ∃ w : Nat, (yLp b S < 4 → w = 1) ∧ (¬ yLp b S < 4 → w = 0) := ⟨if yLp b S < 4 then 1 else 0, fun h => if_pos h, fun h => if_neg h⟩
  -- is it a line at all
  have A : ∀ kn : Prop, (kn ↔ ¬ (yLp b S = 4 ∧ yLw b S = 4)) → (kn → ZW zG (d + 8) 123 73 [.ref 135, .int (nI w), .int (nI 1)] [] (mG z S G) Q) → ZC zG (d + 8) 123 [.ref 135] (mG z S G) Q := by
    intro kn hkn hq
    by_cases k : kn
    · have hq := hq k
      by_cases p : 4 ≤ yLp b S
      · have p2 : ¬ yLp b S < 4 := by omega
        rw [hw2 p2] at hq
        have n4 : ¬ yLw b S = 4 := fun q => (hkn.mp k) ⟨by omega, q⟩
        by_cases e11 : yIs b S 11 = true
        · simp (disch := omega) only [e123, s123_0, s123_1, s123_4, s123_5, s123_8, s123_9, s123_12, s123_13, s123_14, s123_15, s123_18, s123_19, s123_22, s123_25, s123_28, s123_29, s123_32, s123_35, s123_38, s123_39, s123_42, s123_45, s123_48, s123_49, s123_52, s123_55, s123_58, s123_59, s123_62, s123_63, s123_64, s123_65, s123_68, s123_69, s123_70, zcs_0, zcs_1, zcs_2, zcs_3, zcs_4, zcs_5, zcs_6, zcs_7, znl_i, znl_r, znl_n, Bool.and_true, Bool.true_and, zk_v, zk_n, zk_x, zir_r, zir_n, zclr_i, zclr_r, zclr_n, zclr_d, zclr_l, true_and, and_true, and_self, if_true, if_false, reduceIte, nI_add, pk_mul, zin_ok, zx_nI, nI_lt2, nI_le2, nI_eq2, nI_l0, nI_g0, nI_q0, nI_p0, nI_n0, nI_m1, Nat.add_zero, Nat.zero_add, Nat.reduceAdd, Nat.reduceMul, true_or, or_true, znar_50, bI_0, bI_1, bI_z, bft, nI_z0, nI_z1, lgc_lt, lgc_gt, lgc_le, lgc_ge, lgc_eq, not_true_eq_false, not_false_eq_true, Bool.not_eq_true, Bool.not_eq_false, reduceCtorEq, eq_self, nI_e0, nI_e1, i10, i01, decide_false, decide_true, Bool.false_eq_true, cls_mG, fr_mG, len_mG, h0, pay, wm, p, c, e11, bI_t, bI_f]
          exact hq
        · rw [Bool.not_eq_true] at e11
          by_cases e14 : yIs b S 14 = true
          · simp (disch := omega) only [e123, s123_0, s123_1, s123_4, s123_5, s123_8, s123_9, s123_12, s123_13, s123_14, s123_15, s123_18, s123_19, s123_22, s123_25, s123_28, s123_29, s123_32, s123_35, s123_38, s123_39, s123_42, s123_45, s123_48, s123_49, s123_52, s123_55, s123_58, s123_59, s123_62, s123_63, s123_64, s123_65, s123_68, s123_69, s123_70, zcs_0, zcs_1, zcs_2, zcs_3, zcs_4, zcs_5, zcs_6, zcs_7, znl_i, znl_r, znl_n, Bool.and_true, Bool.true_and, zk_v, zk_n, zk_x, zir_r, zir_n, zclr_i, zclr_r, zclr_n, zclr_d, zclr_l, true_and, and_true, and_self, if_true, if_false, reduceIte, nI_add, pk_mul, zin_ok, zx_nI, nI_lt2, nI_le2, nI_eq2, nI_l0, nI_g0, nI_q0, nI_p0, nI_n0, nI_m1, Nat.add_zero, Nat.zero_add, Nat.reduceAdd, Nat.reduceMul, true_or, or_true, znar_50, bI_0, bI_1, bI_z, bft, nI_z0, nI_z1, lgc_lt, lgc_gt, lgc_le, lgc_ge, lgc_eq, not_true_eq_false, not_false_eq_true, Bool.not_eq_true, Bool.not_eq_false, reduceCtorEq, eq_self, nI_e0, nI_e1, i10, i01, decide_false, decide_true, Bool.false_eq_true, cls_mG, fr_mG, len_mG, h0, pay, wm, p, c, e11, e14, bI_t, bI_f]
            exact hq
          · rw [Bool.not_eq_true] at e14
            by_cases e21 : yIs b S 21 = true
            · simp (disch := omega) only [e123, s123_0, s123_1, s123_4, s123_5, s123_8, s123_9, s123_12, s123_13, s123_14, s123_15, s123_18, s123_19, s123_22, s123_25, s123_28, s123_29, s123_32, s123_35, s123_38, s123_39, s123_42, s123_45, s123_48, s123_49, s123_52, s123_55, s123_58, s123_59, s123_62, s123_63, s123_64, s123_65, s123_68, s123_69, s123_70, zcs_0, zcs_1, zcs_2, zcs_3, zcs_4, zcs_5, zcs_6, zcs_7, znl_i, znl_r, znl_n, Bool.and_true, Bool.true_and, zk_v, zk_n, zk_x, zir_r, zir_n, zclr_i, zclr_r, zclr_n, zclr_d, zclr_l, true_and, and_true, and_self, if_true, if_false, reduceIte, nI_add, pk_mul, zin_ok, zx_nI, nI_lt2, nI_le2, nI_eq2, nI_l0, nI_g0, nI_q0, nI_p0, nI_n0, nI_m1, Nat.add_zero, Nat.zero_add, Nat.reduceAdd, Nat.reduceMul, true_or, or_true, znar_50, bI_0, bI_1, bI_z, bft, nI_z0, nI_z1, lgc_lt, lgc_gt, lgc_le, lgc_ge, lgc_eq, not_true_eq_false, not_false_eq_true, Bool.not_eq_true, Bool.not_eq_false, reduceCtorEq, eq_self, nI_e0, nI_e1, i10, i01, decide_false, decide_true, Bool.false_eq_true, cls_mG, fr_mG, len_mG, h0, pay, wm, p, c, e11, e14, e21, bI_t, bI_f]
              exact hq
            · rw [Bool.not_eq_true] at e21
              have e13 : yIs b S 13 = true := by
                have v1 : ¬ yLw b S = 0 := fun q => by rw [w1, e11] at q; exact Bool.false_ne_true q
                have v2 : ¬ yLw b S = 1 := fun q => by rw [w2 e11, e14] at q; exact Bool.false_ne_true q
                have v3 : ¬ yLw b S = 2 := fun q => by rw [w3 e11 e14, e21] at q; exact Bool.false_ne_true q
                exact (w4 e11 e14 e21).mp (by omega)
              simp (disch := omega) only [e123, s123_0, s123_1, s123_4, s123_5, s123_8, s123_9, s123_12, s123_13, s123_14, s123_15, s123_18, s123_19, s123_22, s123_25, s123_28, s123_29, s123_32, s123_35, s123_38, s123_39, s123_42, s123_45, s123_48, s123_49, s123_52, s123_55, s123_58, s123_59, s123_62, s123_63, s123_64, s123_65, s123_68, s123_69, s123_70, zcs_0, zcs_1, zcs_2, zcs_3, zcs_4, zcs_5, zcs_6, zcs_7, znl_i, znl_r, znl_n, Bool.and_true, Bool.true_and, zk_v, zk_n, zk_x, zir_r, zir_n, zclr_i, zclr_r, zclr_n, zclr_d, zclr_l, true_and, and_true, and_self, if_true, if_false, reduceIte, nI_add, pk_mul, zin_ok, zx_nI, nI_lt2, nI_le2, nI_eq2, nI_l0, nI_g0, nI_q0, nI_p0, nI_n0, nI_m1, Nat.add_zero, Nat.zero_add, Nat.reduceAdd, Nat.reduceMul, true_or, or_true, znar_50, bI_0, bI_1, bI_z, bft, nI_z0, nI_z1, lgc_lt, lgc_gt, lgc_le, lgc_ge, lgc_eq, not_true_eq_false, not_false_eq_true, Bool.not_eq_true, Bool.not_eq_false, reduceCtorEq, eq_self, nI_e0, nI_e1, i10, i01, decide_false, decide_true, Bool.false_eq_true, cls_mG, fr_mG, len_mG, h0, pay, wm, p, c, e11, e14, e21, e13, bI_t, bI_f]
              exact hq
      · have p2 : yLp b S < 4 := by omega
        rw [hw1 p2] at hq
        simp (disch := omega) only [e123, s123_0, s123_1, s123_4, s123_5, s123_8, s123_9, s123_12, s123_13, s123_14, s123_15, s123_18, s123_19, s123_22, s123_25, s123_28, s123_29, s123_32, s123_35, s123_38, s123_39, s123_42, s123_45, s123_48, s123_49, s123_52, s123_55, s123_58, s123_59, s123_62, s123_63, s123_64, s123_65, s123_68, s123_69, s123_70, zcs_0, zcs_1, zcs_2, zcs_3, zcs_4, zcs_5, zcs_6, zcs_7, znl_i, znl_r, znl_n, Bool.and_true, Bool.true_and, zk_v, zk_n, zk_x, zir_r, zir_n, zclr_i, zclr_r, zclr_n, zclr_d, zclr_l, true_and, and_true, and_self, if_true, if_false, reduceIte, nI_add, pk_mul, zin_ok, zx_nI, nI_lt2, nI_le2, nI_eq2, nI_l0, nI_g0, nI_q0, nI_p0, nI_n0, nI_m1, Nat.add_zero, Nat.zero_add, Nat.reduceAdd, Nat.reduceMul, true_or, or_true, znar_50, bI_0, bI_1, bI_z, bft, nI_z0, nI_z1, lgc_lt, lgc_gt, lgc_le, lgc_ge, lgc_eq, not_true_eq_false, not_false_eq_true, Bool.not_eq_true, Bool.not_eq_false, reduceCtorEq, eq_self, nI_e0, nI_e1, i10, i01, decide_false, decide_true, Bool.false_eq_true, cls_mG, fr_mG, len_mG, h0, pay, wm, p, bI_t, bI_f]
        exact hq
    · have k2 : yLp b S = 4 ∧ yLw b S = 4 := Classical.byContradiction fun q => k (hkn.mpr q)
      have p : 4 ≤ yLp b S := by omega
      have el : yLn b sz S G = (yErr 1 S, G) := if_pos k2
      have e11 : yIs b S 11 = false := by
        rw [← Bool.not_eq_true, ← w1]; omega
      have e14 : yIs b S 14 = false := by
        rw [← Bool.not_eq_true, ← w2 e11]; omega
      have e21 : yIs b S 21 = false := by
        rw [← Bool.not_eq_true, ← w3 e11 e14]; omega
      have e13 : yIs b S 13 = false := by
        rw [← Bool.not_eq_true, ← w4 e11 e14 e21]; omega
      have hb : ¬ yFk (yErr 1 S) = 0 := yErr_fk (by omega)
      have i11 := yIs_bad (b := b) (r := 11) hb
      have c1 := fun d Q => (show ZC zG (d + 1) 125 [.ref 135, .ref 11] (mG z (yErr 1 S) G) Q = Q (.inl (some (.int (bI false)))) (mG z (yErr 1 S) G) from by
        have := g125 (d := d) (Q := Q) (G := G) (r := 11) hM hT (yErr_ok hS (x := 1) (by omega)) (by omega)
        rw [i11] at this
        exact this)
      have bad1 := fun d Q => bad 1 d Q (by omega) (by omega)
      have err1 := fun d Q => err 1 d Q
      have hq := H2 (by rw [el]; exact hb) (fun i => nI (G i))
      rw [el] at hq
      simp (disch := omega) only [e123, s123_0, s123_1, s123_4, s123_5, s123_8, s123_9, s123_12, s123_13, s123_14, s123_15, s123_18, s123_19, s123_22, s123_25, s123_28, s123_29, s123_32, s123_35, s123_38, s123_39, s123_42, s123_45, s123_48, s123_49, s123_52, s123_55, s123_58, s123_59, s123_62, s123_63, s123_64, s123_65, s123_68, s123_69, s123_70, s123_73, s123_74, s123_77, s123_80, s123_83, s123_84, s123_87, s123_88, s123_89, s123_91, s123_94, s123_95, s123_98, s123_99, s123_102, s123_103, s123_104, s123_106, s123_109, s123_110, s123_111, s123_114, s123_115, s123_118, s123_121, zcs_0, zcs_1, zcs_2, zcs_3, zcs_4, zcs_5, zcs_6, zcs_7, znl_i, znl_r, znl_n, Bool.and_true, Bool.true_and, zk_v, zk_n, zk_x, zir_r, zir_n, zclr_i, zclr_r, zclr_n, zclr_d, zclr_l, true_and, and_true, and_self, if_true, if_false, reduceIte, nI_add, pk_mul, zin_ok, zx_nI, nI_lt2, nI_le2, nI_eq2, nI_l0, nI_g0, nI_q0, nI_p0, nI_n0, nI_m1, Nat.add_zero, Nat.zero_add, Nat.reduceAdd, Nat.reduceMul, true_or, or_true, znar_50, bI_0, bI_1, bI_z, bft, nI_z0, nI_z1, lgc_lt, lgc_gt, lgc_le, lgc_ge, lgc_eq, not_true_eq_false, not_false_eq_true, Bool.not_eq_true, Bool.not_eq_false, reduceCtorEq, eq_self, nI_e0, nI_e1, i10, i01, decide_false, decide_true, Bool.false_eq_true, cls_mG, fr_mG, len_mG, h0, pay, wm, p, c, e11, e14, e21, e13, err1, c1, bad1, bI_t, bI_f]
      exact hq
  refine A (¬ (yLp b S = 4 ∧ yLw b S = 4)) Iff.rfl (fun kn => ?_)
  -- is there room
  have B : ((yLw b S = 0 ∧ G 0 = 16) ∨ (yLp b S < 4 ∧ G 1 = 24) → ZW zG (d + 8) 123 73 [.ref 135, .int (nI w), .int (nI 1)] [] (mG z S G) Q) ∧ (¬ ((yLw b S = 0 ∧ G 0 = 16) ∨ (yLp b S < 4 ∧ G 1 = 24)) → ZW zG (d + 8) 123 122 [.ref 135, .int (nI w), .int (nI 1)] [] (mG z S G) Q → ZW zG (d + 8) 123 73 [.ref 135, .int (nI w), .int (nI 1)] [] (mG z S G) Q) := by
    have err3 := fun d Q => err 3 d Q
    have bad3 := fun d Q => bad 3 d Q (by omega) (by omega)
    constructor
    · intro fu
      have el : yLn b sz S G = (yErr 3 S, G) := by
        unfold yLn
        rw [if_neg kn, if_pos fu]
      have hq := H2 (by rw [el]; exact yErr_fk (by omega)) (fun i => nI (G i))
      rw [el] at hq
      have hq : Q (.inl none) (mG z (yErr 3 S) G) := hq
      by_cases e11 : yIs b S 11 = true
      · by_cases q0 : G 0 = 16
        · simp (disch := omega) only [s123_73, s123_74, s123_77, s123_80, s123_83, s123_84, s123_87, s123_88, s123_89, s123_91, s123_94, s123_95, s123_98, s123_99, s123_102, s123_103, s123_104, s123_106, s123_109, s123_110, s123_111, s123_114, s123_115, s123_118, s123_121, zcs_0, zcs_1, zcs_2, zcs_3, zcs_4, zcs_5, zcs_6, zcs_7, znl_i, znl_r, znl_n, Bool.and_true, Bool.true_and, zk_v, zk_n, zk_x, zir_r, zir_n, zclr_i, zclr_r, zclr_n, zclr_d, zclr_l, true_and, and_true, and_self, if_true, if_false, reduceIte, nI_add, pk_mul, zin_ok, zx_nI, nI_lt2, nI_le2, nI_eq2, nI_l0, nI_g0, nI_q0, nI_p0, nI_n0, nI_m1, Nat.add_zero, Nat.zero_add, Nat.reduceAdd, Nat.reduceMul, true_or, or_true, znar_50, bI_0, bI_1, bI_z, bft, nI_z0, nI_z1, lgc_lt, lgc_gt, lgc_le, lgc_ge, lgc_eq, not_true_eq_false, not_false_eq_true, Bool.not_eq_true, Bool.not_eq_false, reduceCtorEq, eq_self, nI_e0, nI_e1, i10, i01, decide_false, decide_true, Bool.false_eq_true, cls_mG, fr_mG, len_mG, h0, c, e11, ia_mG, q0, err3, bad3, bI_t, bI_f]
          exact hq
        · have fu2 : yLp b S < 4 ∧ G 1 = 24 := by omega
          rw [hw1 fu2.1]
          simp (disch := omega) only [s123_73, s123_74, s123_77, s123_80, s123_83, s123_84, s123_87, s123_88, s123_89, s123_91, s123_94, s123_95, s123_98, s123_99, s123_102, s123_103, s123_104, s123_106, s123_109, s123_110, s123_111, s123_114, s123_115, s123_118, s123_121, zcs_0, zcs_1, zcs_2, zcs_3, zcs_4, zcs_5, zcs_6, zcs_7, znl_i, znl_r, znl_n, Bool.and_true, Bool.true_and, zk_v, zk_n, zk_x, zir_r, zir_n, zclr_i, zclr_r, zclr_n, zclr_d, zclr_l, true_and, and_true, and_self, if_true, if_false, reduceIte, nI_add, pk_mul, zin_ok, zx_nI, nI_lt2, nI_le2, nI_eq2, nI_l0, nI_g0, nI_q0, nI_p0, nI_n0, nI_m1, Nat.add_zero, Nat.zero_add, Nat.reduceAdd, Nat.reduceMul, true_or, or_true, znar_50, bI_0, bI_1, bI_z, bft, nI_z0, nI_z1, lgc_lt, lgc_gt, lgc_le, lgc_ge, lgc_eq, not_true_eq_false, not_false_eq_true, Bool.not_eq_true, Bool.not_eq_false, reduceCtorEq, eq_self, nI_e0, nI_e1, i10, i01, decide_false, decide_true, Bool.false_eq_true, cls_mG, fr_mG, len_mG, h0, c, e11, ia_mG, q0, fu2.2, err3, bad3, bI_t, bI_f]
          exact hq
      · rw [Bool.not_eq_true] at e11
        have n0 : ¬ yLw b S = 0 := fun q => by rw [w1, e11] at q; exact Bool.false_ne_true q
        have fu2 : yLp b S < 4 ∧ G 1 = 24 := by omega
        rw [hw1 fu2.1]
        simp (disch := omega) only [s123_73, s123_74, s123_77, s123_80, s123_83, s123_84, s123_87, s123_88, s123_89, s123_91, s123_94, s123_95, s123_98, s123_99, s123_102, s123_103, s123_104, s123_106, s123_109, s123_110, s123_111, s123_114, s123_115, s123_118, s123_121, zcs_0, zcs_1, zcs_2, zcs_3, zcs_4, zcs_5, zcs_6, zcs_7, znl_i, znl_r, znl_n, Bool.and_true, Bool.true_and, zk_v, zk_n, zk_x, zir_r, zir_n, zclr_i, zclr_r, zclr_n, zclr_d, zclr_l, true_and, and_true, and_self, if_true, if_false, reduceIte, nI_add, pk_mul, zin_ok, zx_nI, nI_lt2, nI_le2, nI_eq2, nI_l0, nI_g0, nI_q0, nI_p0, nI_n0, nI_m1, Nat.add_zero, Nat.zero_add, Nat.reduceAdd, Nat.reduceMul, true_or, or_true, znar_50, bI_0, bI_1, bI_z, bft, nI_z0, nI_z1, lgc_lt, lgc_gt, lgc_le, lgc_ge, lgc_eq, not_true_eq_false, not_false_eq_true, Bool.not_eq_true, Bool.not_eq_false, reduceCtorEq, eq_self, nI_e0, nI_e1, i10, i01, decide_false, decide_true, Bool.false_eq_true, cls_mG, fr_mG, len_mG, h0, c, e11, ia_mG, fu2.2, err3, bad3, bI_t, bI_f]
        exact hq
    · intro fu hq
      by_cases p : yLp b S < 4
      · have q1 : ¬ G 1 = 24 := by omega
        rw [hw1 p] at hq ⊢
        by_cases e11 : yIs b S 11 = true
        · have q0 : ¬ G 0 = 16 := fun q => fu (Or.inl ⟨w1.mpr e11, q⟩)
          simp (disch := omega) only [s123_73, s123_74, s123_77, s123_80, s123_83, s123_84, s123_87, s123_88, s123_89, s123_91, s123_94, s123_95, s123_98, s123_99, s123_102, s123_103, s123_104, s123_106, s123_109, s123_110, s123_111, s123_114, s123_115, s123_118, zcs_0, zcs_1, zcs_2, zcs_3, zcs_4, zcs_5, zcs_6, zcs_7, znl_i, znl_r, znl_n, Bool.and_true, Bool.true_and, zk_v, zk_n, zk_x, zir_r, zir_n, zclr_i, zclr_r, zclr_n, zclr_d, zclr_l, true_and, and_true, and_self, if_true, if_false, reduceIte, nI_add, pk_mul, zin_ok, zx_nI, nI_lt2, nI_le2, nI_eq2, nI_l0, nI_g0, nI_q0, nI_p0, nI_n0, nI_m1, Nat.add_zero, Nat.zero_add, Nat.reduceAdd, Nat.reduceMul, true_or, or_true, znar_50, bI_0, bI_1, bI_z, bft, nI_z0, nI_z1, lgc_lt, lgc_gt, lgc_le, lgc_ge, lgc_eq, not_true_eq_false, not_false_eq_true, Bool.not_eq_true, Bool.not_eq_false, reduceCtorEq, eq_self, nI_e0, nI_e1, i10, i01, decide_false, decide_true, Bool.false_eq_true, cls_mG, fr_mG, len_mG, h0, c, e11, ia_mG, q0, q1, good, bI_t, bI_f]
          exact hq
        · rw [Bool.not_eq_true] at e11
          simp (disch := omega) only [s123_73, s123_74, s123_77, s123_80, s123_83, s123_84, s123_87, s123_88, s123_89, s123_91, s123_94, s123_95, s123_98, s123_99, s123_102, s123_103, s123_104, s123_106, s123_109, s123_110, s123_111, s123_114, s123_115, s123_118, zcs_0, zcs_1, zcs_2, zcs_3, zcs_4, zcs_5, zcs_6, zcs_7, znl_i, znl_r, znl_n, Bool.and_true, Bool.true_and, zk_v, zk_n, zk_x, zir_r, zir_n, zclr_i, zclr_r, zclr_n, zclr_d, zclr_l, true_and, and_true, and_self, if_true, if_false, reduceIte, nI_add, pk_mul, zin_ok, zx_nI, nI_lt2, nI_le2, nI_eq2, nI_l0, nI_g0, nI_q0, nI_p0, nI_n0, nI_m1, Nat.add_zero, Nat.zero_add, Nat.reduceAdd, Nat.reduceMul, true_or, or_true, znar_50, bI_0, bI_1, bI_z, bft, nI_z0, nI_z1, lgc_lt, lgc_gt, lgc_le, lgc_ge, lgc_eq, not_true_eq_false, not_false_eq_true, Bool.not_eq_true, Bool.not_eq_false, reduceCtorEq, eq_self, nI_e0, nI_e1, i10, i01, decide_false, decide_true, Bool.false_eq_true, cls_mG, fr_mG, len_mG, h0, c, e11, ia_mG, q1, good, bI_t, bI_f]
          exact hq
      · rw [hw2 p] at hq ⊢
        by_cases e11 : yIs b S 11 = true
        · have q0 : ¬ G 0 = 16 := fun q => fu (Or.inl ⟨w1.mpr e11, q⟩)
          simp (disch := omega) only [s123_73, s123_74, s123_77, s123_80, s123_83, s123_84, s123_87, s123_88, s123_89, s123_91, s123_94, s123_95, s123_98, s123_99, s123_102, s123_103, s123_104, s123_106, s123_109, s123_110, s123_111, s123_114, s123_115, s123_118, zcs_0, zcs_1, zcs_2, zcs_3, zcs_4, zcs_5, zcs_6, zcs_7, znl_i, znl_r, znl_n, Bool.and_true, Bool.true_and, zk_v, zk_n, zk_x, zir_r, zir_n, zclr_i, zclr_r, zclr_n, zclr_d, zclr_l, true_and, and_true, and_self, if_true, if_false, reduceIte, nI_add, pk_mul, zin_ok, zx_nI, nI_lt2, nI_le2, nI_eq2, nI_l0, nI_g0, nI_q0, nI_p0, nI_n0, nI_m1, Nat.add_zero, Nat.zero_add, Nat.reduceAdd, Nat.reduceMul, true_or, or_true, znar_50, bI_0, bI_1, bI_z, bft, nI_z0, nI_z1, lgc_lt, lgc_gt, lgc_le, lgc_ge, lgc_eq, not_true_eq_false, not_false_eq_true, Bool.not_eq_true, Bool.not_eq_false, reduceCtorEq, eq_self, nI_e0, nI_e1, i10, i01, decide_false, decide_true, Bool.false_eq_true, cls_mG, fr_mG, len_mG, h0, c, e11, ia_mG, q0, good, bI_t, bI_f]
          exact hq
        · rw [Bool.not_eq_true] at e11
          simp (disch := omega) only [s123_73, s123_74, s123_77, s123_80, s123_83, s123_84, s123_87, s123_88, s123_89, s123_91, s123_94, s123_95, s123_98, s123_99, s123_102, s123_103, s123_104, s123_106, s123_109, s123_110, s123_111, s123_114, s123_115, s123_118, zcs_0, zcs_1, zcs_2, zcs_3, zcs_4, zcs_5, zcs_6, zcs_7, znl_i, znl_r, znl_n, Bool.and_true, Bool.true_and, zk_v, zk_n, zk_x, zir_r, zir_n, zclr_i, zclr_r, zclr_n, zclr_d, zclr_l, true_and, and_true, and_self, if_true, if_false, reduceIte, nI_add, pk_mul, zin_ok, zx_nI, nI_lt2, nI_le2, nI_eq2, nI_l0, nI_g0, nI_q0, nI_p0, nI_n0, nI_m1, Nat.add_zero, Nat.zero_add, Nat.reduceAdd, Nat.reduceMul, true_or, or_true, znar_50, bI_0, bI_1, bI_z, bft, nI_z0, nI_z1, lgc_lt, lgc_gt, lgc_le, lgc_ge, lgc_eq, not_true_eq_false, not_false_eq_true, Bool.not_eq_true, Bool.not_eq_false, reduceCtorEq, eq_self, nI_e0, nI_e1, i10, i01, decide_false, decide_true, Bool.false_eq_true, cls_mG, fr_mG, len_mG, h0, c, e11, ia_mG, good, bI_t, bI_f]
          exact hq
  by_cases fu : (yLw b S = 0 ∧ G 0 = 16) ∨ (yLp b S < 4 ∧ G 1 = 24)
  · exact B.1 fu
  refine B.2 fu ?_
  have el : yLn b sz S G = (yEnd b sz (yBo b sz S G).1, (yBo b sz S G).2) := by
    unfold yLn
    rw [if_neg kn, if_neg fu]
  rw [el] at H1 H2
  dsimp only at H1 H2
  have okB := yBo_ok (b := b) (G := G) hS
  -- the end, either way
  have fGo : ∀ (x1 x2 : Value), yFk (yBo b sz S G).1 = 0 → ZW zG (d + 8) 123 210 [.ref 135, x1, x2] [] (mG z (yBo b sz S G).1 (yBo b sz S G).2) Q := by
    intro x1 x2 g
    refine fG x1 x2 _ _ okB g ?_
    by_cases g2 : yFk (yEnd b sz (yBo b sz S G).1) = 0
    · exact H1 g2
    · exact H2 g2 _
  have fPo : ∀ (x1 x2 : Value), ¬ yFk (yBo b sz S G).1 = 0 → ∀ F, ZW zG (d + 8) 123 210 [.ref 135, x1, x2] [] (mP z (yBo b sz S G).1 F) Q := by
    intro x1 x2 g F
    have e : yEnd b sz (yBo b sz S G).1 = (yBo b sz S G).1 := if_neg g
    refine fP x1 x2 _ F okB g ?_
    have := H2 (by rw [e]; exact g) F
    rw [e] at this
    exact this
  have fB : ∀ (x1 x2 : Value) (S' : YS) (G' : Nat → Nat), yBo b sz S G = (S', G') → ZW zG (d + 8) 123 210 [.ref 135, x1, x2] [] (mG z S' G') Q := by
    intro x1 x2 S' G' e
    have f1 := fGo x1 x2
    have f2 := fPo x1 x2
    rw [e] at f1 f2
    dsimp only at f1 f2
    by_cases g : yFk S' = 0
    · exact f1 g
    · exact f2 g _
  by_cases p : yLp b S < 4
  · have eb : yBo b sz S G = ((yO5 b sz S G).1, yO6 b sz S G) := if_pos p
    rw [eb] at fGo fPo
    dsimp only at fGo fPo
    have h1 : G 1 < 24 := by omega
    rw [hw1 p]
    simp (disch := omega) only [s123_122, s123_123, s123_126, s123_127, zcs_0, zcs_1, zcs_2, zcs_3, zcs_4, zcs_5, zcs_6, zcs_7, znl_i, znl_r, znl_n, Bool.and_true, Bool.true_and, zk_v, zk_n, zk_x, zir_r, zir_n, zclr_i, zclr_r, zclr_n, zclr_d, zclr_l, true_and, and_true, and_self, if_true, if_false, reduceIte, nI_add, pk_mul, zin_ok, zx_nI, nI_lt2, nI_le2, nI_eq2, nI_l0, nI_g0, nI_q0, nI_p0, nI_n0, nI_m1, Nat.add_zero, Nat.zero_add, Nat.reduceAdd, Nat.reduceMul, true_or, or_true, znar_50, bI_0, bI_1, bI_z, bft, nI_z0, nI_z1, lgc_lt, lgc_gt, lgc_le, lgc_ge, lgc_eq, not_true_eq_false, not_false_eq_true, Bool.not_eq_true, Bool.not_eq_false, reduceCtorEq, eq_self, nI_e0, nI_e1, i10, i01, decide_false, decide_true, Bool.false_eq_true, cls_mG, fr_mG, len_mG, h0]
    refine m127 (d := d) hM hT hS h1 hB hg (fun g => ?_) (fun g F => ?_)
    · simp (disch := omega) only [s123_130, zcs_0, zcs_1, zcs_2, zcs_3, zcs_4, zcs_5, zcs_6, zcs_7, znl_i, znl_r, znl_n, Bool.and_true, Bool.true_and, zk_v, zk_n, zk_x, zir_r, zir_n, zclr_i, zclr_r, zclr_n, zclr_d, zclr_l, true_and, and_true, and_self, if_true, if_false, reduceIte, nI_add, pk_mul, zin_ok, zx_nI, nI_lt2, nI_le2, nI_eq2, nI_l0, nI_g0, nI_q0, nI_p0, nI_n0, nI_m1, Nat.add_zero, Nat.zero_add, Nat.reduceAdd, Nat.reduceMul, true_or, or_true, znar_50, bI_0, bI_1, bI_z, bft, nI_z0, nI_z1, lgc_lt, lgc_gt, lgc_le, lgc_ge, lgc_eq, not_true_eq_false, not_false_eq_true, Bool.not_eq_true, Bool.not_eq_false, reduceCtorEq, eq_self, nI_e0, nI_e1, i10, i01, decide_false, decide_true, Bool.false_eq_true, cls_mG, fr_mG, len_mG, h0]
      exact fGo _ _ g
    · simp (disch := omega) only [s123_130, zcs_0, zcs_1, zcs_2, zcs_3, zcs_4, zcs_5, zcs_6, zcs_7, znl_i, znl_r, znl_n, Bool.and_true, Bool.true_and, zk_v, zk_n, zk_x, zir_r, zir_n, zclr_i, zclr_r, zclr_n, zclr_d, zclr_l, true_and, and_true, and_self, if_true, if_false, reduceIte, nI_add, pk_mul, zin_ok, zx_nI, nI_lt2, nI_le2, nI_eq2, nI_l0, nI_g0, nI_q0, nI_p0, nI_n0, nI_m1, Nat.add_zero, Nat.zero_add, Nat.reduceAdd, Nat.reduceMul, true_or, or_true, znar_50, bI_0, bI_1, bI_z, bft, nI_z0, nI_z1, lgc_lt, lgc_gt, lgc_le, lgc_ge, lgc_eq, not_true_eq_false, not_false_eq_true, Bool.not_eq_true, Bool.not_eq_false, reduceCtorEq, eq_self, nI_e0, nI_e1, i10, i01, decide_false, decide_true, Bool.false_eq_true, cls_mG, fr_mG, len_mG, h0]
      exact fPo _ _ g F
  · rw [hw2 p]
    have tk := fun r (hr : r < 35) d Q => g130 (d := d) (Q := Q) (G := G) (r := r) hM hT hS hr
    unfold yTake at tk
    have gA : yFk (yAdv b sz S) = 0 := by rw [(yAdv_fk b sz S).1, hg]
    by_cases e11 : yIs b S 11 = true
    · have lw0 : yLw b S = 0 := w1.mpr e11
      have eb : yBo b sz S G = ((yH8 b sz (yAdv b sz S)).1, yHG b sz (yAdv b sz S) G) := by
        unfold yBo
        rw [if_neg p, if_pos lw0]
      have h16 : G 0 < 16 := by omega
      have tk1 := tk 11 (by omega)
      rw [e11] at tk1
      simp only [if_true] at tk1
      have hs := fun d Q => m136 (d := d) (Q := Q) (n := G 0) (F := fun i => nI (G i)) hM hT okA rfl h16
      rw [eb] at fGo fPo
      dsimp only at fGo fPo
      by_cases g : yFk (yH8 b sz (yAdv b sz S)).1 = 0
      · rw [if_pos g, yHF_g g] at hs
        have hs : ∀ d Q, ZC zG (d + 5) 136 [.ref 135] (mG z (yAdv b sz S) G) Q = Q (.inl none) (mG z (yH8 b sz (yAdv b sz S)).1 (yHG b sz (yAdv b sz S) G)) := hs
        simp (disch := omega) only [s123_122, s123_123, s123_126, s123_127, s123_130, s123_133, s123_134, s123_137, s123_140, s123_143, s123_144, s123_147, zcs_0, zcs_1, zcs_2, zcs_3, zcs_4, zcs_5, zcs_6, zcs_7, znl_i, znl_r, znl_n, Bool.and_true, Bool.true_and, zk_v, zk_n, zk_x, zir_r, zir_n, zclr_i, zclr_r, zclr_n, zclr_d, zclr_l, true_and, and_true, and_self, if_true, if_false, reduceIte, nI_add, pk_mul, zin_ok, zx_nI, nI_lt2, nI_le2, nI_eq2, nI_l0, nI_g0, nI_q0, nI_p0, nI_n0, nI_m1, Nat.add_zero, Nat.zero_add, Nat.reduceAdd, Nat.reduceMul, true_or, or_true, znar_50, bI_0, bI_1, bI_z, bft, nI_z0, nI_z1, lgc_lt, lgc_gt, lgc_le, lgc_ge, lgc_eq, not_true_eq_false, not_false_eq_true, Bool.not_eq_true, Bool.not_eq_false, reduceCtorEq, eq_self, nI_e0, nI_e1, i10, i01, decide_false, decide_true, Bool.false_eq_true, cls_mG, fr_mG, len_mG, h0, tk1, hs, bI_t, bI_f]
        exact fGo _ _ g
      · rw [if_neg g] at hs
        have hs : ∀ d Q, ZC zG (d + 5) 136 [.ref 135] (mG z (yAdv b sz S) G) Q = Q (.inl none) (mP z (yH8 b sz (yAdv b sz S)).1 (yHF b sz (yAdv b sz S) (G 0) (fun i => nI (G i)))) := hs
        simp (disch := omega) only [s123_122, s123_123, s123_126, s123_127, s123_130, s123_133, s123_134, s123_137, s123_140, s123_143, s123_144, s123_147, zcs_0, zcs_1, zcs_2, zcs_3, zcs_4, zcs_5, zcs_6, zcs_7, znl_i, znl_r, znl_n, Bool.and_true, Bool.true_and, zk_v, zk_n, zk_x, zir_r, zir_n, zclr_i, zclr_r, zclr_n, zclr_d, zclr_l, true_and, and_true, and_self, if_true, if_false, reduceIte, nI_add, pk_mul, zin_ok, zx_nI, nI_lt2, nI_le2, nI_eq2, nI_l0, nI_g0, nI_q0, nI_p0, nI_n0, nI_m1, Nat.add_zero, Nat.zero_add, Nat.reduceAdd, Nat.reduceMul, true_or, or_true, znar_50, bI_0, bI_1, bI_z, bft, nI_z0, nI_z1, lgc_lt, lgc_gt, lgc_le, lgc_ge, lgc_eq, not_true_eq_false, not_false_eq_true, Bool.not_eq_true, Bool.not_eq_false, reduceCtorEq, eq_self, nI_e0, nI_e1, i10, i01, decide_false, decide_true, Bool.false_eq_true, cls_mG, fr_mG, len_mG, h0, tk1, hs, bI_t, bI_f]
        exact fPo _ _ g _
    · rw [Bool.not_eq_true] at e11
      have n0 : ¬ yLw b S = 0 := fun q => by rw [w1, e11] at q; exact Bool.false_ne_true q
      have tk1 := tk 11 (by omega)
      rw [e11] at tk1
      simp only [Bool.false_eq_true, if_false] at tk1
      by_cases e14 : yIs b S 14 = true
      · have lw1 : yLw b S = 1 := (w2 e11).mpr e14
        have eb : yBo b sz S G = ((yK3 b sz (G 0) (yAdv b sz S)).1, yKG b sz (G 0) (yAdv b sz S) G) := by
          unfold yBo
          rw [if_neg p, if_neg n0, if_pos lw1]
        have tk2 := tk 14 (by omega)
        rw [e14] at tk2
        simp only [if_true] at tk2
        have hs := fun d Q => m138 (d := d) (Q := Q) hM hT okA l1
        simp (disch := omega) only [s123_122, s123_123, s123_126, s123_127, s123_130, s123_133, s123_134, s123_137, s123_140, s123_143, s123_144, s123_147, s123_150, s123_151, s123_154, s123_157, s123_160, s123_161, s123_164, zcs_0, zcs_1, zcs_2, zcs_3, zcs_4, zcs_5, zcs_6, zcs_7, znl_i, znl_r, znl_n, Bool.and_true, Bool.true_and, zk_v, zk_n, zk_x, zir_r, zir_n, zclr_i, zclr_r, zclr_n, zclr_d, zclr_l, true_and, and_true, and_self, if_true, if_false, reduceIte, nI_add, pk_mul, zin_ok, zx_nI, nI_lt2, nI_le2, nI_eq2, nI_l0, nI_g0, nI_q0, nI_p0, nI_n0, nI_m1, Nat.add_zero, Nat.zero_add, Nat.reduceAdd, Nat.reduceMul, true_or, or_true, znar_50, bI_0, bI_1, bI_z, bft, nI_z0, nI_z1, lgc_lt, lgc_gt, lgc_le, lgc_ge, lgc_eq, not_true_eq_false, not_false_eq_true, Bool.not_eq_true, Bool.not_eq_false, reduceCtorEq, eq_self, nI_e0, nI_e1, i10, i01, decide_false, decide_true, Bool.false_eq_true, cls_mG, fr_mG, len_mG, h0, tk1, tk2, hs, bI_t, bI_f]
        exact fB _ _ _ _ eb
      · rw [Bool.not_eq_true] at e14
        have n1 : ¬ yLw b S = 1 := fun q => by rw [w2 e11, e14] at q; exact Bool.false_ne_true q
        have tk2 := tk 14 (by omega)
        rw [e14] at tk2
        simp only [Bool.false_eq_true, if_false] at tk2
        by_cases e21 : yIs b S 21 = true
        · have lw2 : yLw b S = 2 := (w3 e11 e14).mpr e21
          have eb : yBo b sz S G = ((yNum b sz 0 100 (yAdv b sz S)).1, zu1 G 4 (yNum b sz 0 100 (yAdv b sz S)).2) := by
            unfold yBo
            rw [if_neg p, if_neg n0, if_neg n1, if_pos lw2]
          have tk3 := tk 21 (by omega)
          rw [e21] at tk3
          simp only [if_true] at tk3
          have hs := fun d Q => g132 (d := d) (Q := Q) (G := G) (lo := 0) (n := 99) hM hT okA (by omega) (by omega)
          simp only [Nat.reduceAdd] at hs
          simp (disch := omega) only [s123_122, s123_123, s123_126, s123_127, s123_130, s123_133, s123_134, s123_137, s123_140, s123_143, s123_144, s123_147, s123_150, s123_151, s123_154, s123_157, s123_160, s123_161, s123_164, s123_167, s123_168, s123_171, s123_174, s123_177, s123_178, s123_181, s123_182, s123_183, s123_184, s123_186, s123_189, s123_190, zcs_0, zcs_1, zcs_2, zcs_3, zcs_4, zcs_5, zcs_6, zcs_7, znl_i, znl_r, znl_n, Bool.and_true, Bool.true_and, zk_v, zk_n, zk_x, zir_r, zir_n, zclr_i, zclr_r, zclr_n, zclr_d, zclr_l, true_and, and_true, and_self, if_true, if_false, reduceIte, nI_add, pk_mul, zin_ok, zx_nI, nI_lt2, nI_le2, nI_eq2, nI_l0, nI_g0, nI_q0, nI_p0, nI_n0, nI_m1, Nat.add_zero, Nat.zero_add, Nat.reduceAdd, Nat.reduceMul, true_or, or_true, znar_50, bI_0, bI_1, bI_z, bft, nI_z0, nI_z1, lgc_lt, lgc_gt, lgc_le, lgc_ge, lgc_eq, not_true_eq_false, not_false_eq_true, Bool.not_eq_true, Bool.not_eq_false, reduceCtorEq, eq_self, nI_e0, nI_e1, i10, i01, decide_false, decide_true, Bool.false_eq_true, cls_mG, fr_mG, len_mG, h0, tk1, tk2, tk3, hs, mG_w, bI_t, bI_f]
          exact fB _ _ _ _ eb
        · rw [Bool.not_eq_true] at e21
          have n2 : ¬ yLw b S = 2 := fun q => by rw [w3 e11 e14, e21] at q; exact Bool.false_ne_true q
          have eb : yBo b sz S G = ((yNum b sz 1 10 (yAdv b sz S)).1, zu1 G 5 (yNum b sz 1 10 (yAdv b sz S)).2) := by
            unfold yBo
            rw [if_neg p, if_neg n0, if_neg n1, if_neg n2]
          have tk3 := tk 21 (by omega)
          rw [e21] at tk3
          simp only [Bool.false_eq_true, if_false] at tk3
          have hs := fun d Q => g132 (d := d) (Q := Q) (G := G) (lo := 1) (n := 9) hM hT okA (by omega) (by omega)
          simp only [Nat.reduceAdd] at hs
          simp (disch := omega) only [s123_122, s123_123, s123_126, s123_127, s123_130, s123_133, s123_134, s123_137, s123_140, s123_143, s123_144, s123_147, s123_150, s123_151, s123_154, s123_157, s123_160, s123_161, s123_164, s123_167, s123_168, s123_171, s123_174, s123_177, s123_178, s123_181, s123_182, s123_183, s123_184, s123_186, s123_189, s123_190, s123_193, s123_194, s123_197, s123_198, s123_201, s123_202, s123_203, s123_204, s123_206, s123_209, zcs_0, zcs_1, zcs_2, zcs_3, zcs_4, zcs_5, zcs_6, zcs_7, znl_i, znl_r, znl_n, Bool.and_true, Bool.true_and, zk_v, zk_n, zk_x, zir_r, zir_n, zclr_i, zclr_r, zclr_n, zclr_d, zclr_l, true_and, and_true, and_self, if_true, if_false, reduceIte, nI_add, pk_mul, zin_ok, zx_nI, nI_lt2, nI_le2, nI_eq2, nI_l0, nI_g0, nI_q0, nI_p0, nI_n0, nI_m1, Nat.add_zero, Nat.zero_add, Nat.reduceAdd, Nat.reduceMul, true_or, or_true, znar_50, bI_0, bI_1, bI_z, bft, nI_z0, nI_z1, lgc_lt, lgc_gt, lgc_le, lgc_ge, lgc_eq, not_true_eq_false, not_false_eq_true, Bool.not_eq_true, Bool.not_eq_false, reduceCtorEq, eq_self, nI_e0, nI_e1, i10, i01, decide_false, decide_true, Bool.false_eq_true, cls_mG, fr_mG, len_mG, h0, tk1, tk2, tk3, adv, hs, mG_w, bI_t, bI_f]
          exact fB _ _ _ _ eb
/-- lines, n at most -/
def yTW (b : Nat → Nat) (sz : Nat) : Nat → YS → (Nat → Nat) → YS × (Nat → Nat)
  | 0, S, G => (S, G)
  | n + 1, S, G => if yFk S = 0 ∧ ¬ yTk S = 0 then yTW b sz n (yLn b sz S G).1 (yLn b sz S G).2 else (S, G)
theorem yTW_ok : ∀ (n : Nat) (S : YS) (G : Nat → Nat), yOK sz S → yOK sz (yTW b sz n S G).1
  | 0, S, G, h => h
  | n + 1, S, G, h => by
    unfold yTW
    split
    · exact yTW_ok n _ _ (yLn_ok h)
    · exact h
theorem yTW_bad (h : ¬ yFk S = 0) : ∀ n, yTW b sz n S G = (S, G)
  | 0 => rfl
  | n + 1 => if_neg (fun q => h q.1)
theorem i32_ex (x : Int32) : ∃ n : Nat, x = nI n := ⟨x.toUInt32.toNat, by
  apply Int32.toBitVec_inj.mp
  show x.toBitVec = BitVec.ofNat 32 x.toBitVec.toNat
  rw [BitVec.ofNat_toNat, BitVec.setWidth_eq]⟩
theorem mP_self (h8 : zfi z 135 8 = nI (yAt S)) (h9 : zfi z 135 9 = nI (yFr S)) (h10 : zfi z 135 10 = nI (yTk S)) (h11 : zfi z 135 11 = nI (yVl S)) (h12 : zfi z 135 12 = nI (yFk S)) (h13 : zfi z 135 13 = yFp S) (hF : ∀ i, zia z 141 i = F i) : mP z S F = z := by
  have e : F = zia z 141 := funext fun i => (hF i).symm
  subst e
  have e2 : (fun j => if j = 8 then nI (yAt S) else if j = 9 then nI (yFr S) else if j = 10 then nI (yTk S) else if j = 11 then nI (yVl S) else if j = 12 then nI (yFk S) else if j = 13 then yFp S else zfi z 135 j) = zfi z 135 := by
    funext j
    by_cases c8 : j = 8
    · subst c8; exact h8.symm
    rw [if_neg c8]
    by_cases c9 : j = 9
    · subst c9; exact h9.symm
    rw [if_neg c9]
    by_cases c10 : j = 10
    · subst c10; exact h10.symm
    rw [if_neg c10]
    by_cases c11 : j = 11
    · subst c11; exact h11.symm
    rw [if_neg c11]
    by_cases c12 : j = 12
    · subst c12; exact h12.symm
    rw [if_neg c12]
    by_cases c13 : j = 13
    · subst c13; exact h13.symm
    rw [if_neg c13]
  unfold mP
  rw [e2]
  have e3 : sFI z 135 (zfi z 135) = z := by
    unfold sFI zmk
    have : zu1 (zfi z) 135 (zfi z 135) = zfi z := by
      funext q
      unfold zu1
      by_cases hq : q = 135
      · subst hq; rw [if_pos rfl]
      · rw [if_neg hq]
    rw [this]
    rfl
  rw [e3]
  exact sIA_self z 141
/-- the world with the new town -/
def yWd (v G : Nat → Nat) : Nat → Nat := fun i => if 1864 ≤ i ∧ i < 1880 then G (10 + 9 * (i - 1864) + 8) else if i < 9080 then G i else v i
/-- the empty town -/
def yG0 (g : Nat → Nat) : Nat → Nat := zu1 (fun i => if i < 9080 then 0 else g i) 5 3
/-- the model's cells when it begins to read -/
def mB (z : ZH) (sz : Nat) : ZH := sfi (sfi (sfi (sfi (sfi z 135 7 (nI sz)) 135 5 (nI 0)) 135 8 (nI 0)) 135 12 (nI 0)) 135 13 (-1)
theorem m119 {v g : Nat → Nat} {fr tk vl : Nat} (hM : MS z) (hw : ∀ i, zia z 136 i = nI (v i)) (hg : ∀ i, zia z 141 i = nI (g i)) (h5 : zfi z 135 5 = nI sz) (hsz : sz ≤ 1400) (hb : ∀ k, k < 1400 → zia z 139 k = sb (b k) ∧ b k < 256) (h9 : zfi z 135 9 = nI fr) (h10 : zfi z 135 10 = nI tk) (h11 : zfi z 135 11 = nI vl) (hvl : vl < 10000)
    (H1 : yFk (yTW b sz (sz + 1) (yAdv b sz (0, fr, tk, vl, 0, -1)) (yG0 g)).1 = 0 → Q (.inl (some (.int (nI ((yTW b sz (sz + 1) (yAdv b sz (0, fr, tk, vl, 0, -1)) (yG0 g)).2 0))))) (sW (mG (mB z sz) (yTW b sz (sz + 1) (yAdv b sz (0, fr, tk, vl, 0, -1)) (yG0 g)).1 (yTW b sz (sz + 1) (yAdv b sz (0, fr, tk, vl, 0, -1)) (yG0 g)).2) (yWd v (yTW b sz (sz + 1) (yAdv b sz (0, fr, tk, vl, 0, -1)) (yG0 g)).2)))
    (H2 : ¬ yFk (yTW b sz (sz + 1) (yAdv b sz (0, fr, tk, vl, 0, -1)) (yG0 g)).1 = 0 → ∀ F, Q (.inl (some (.int (-4)))) (mP (mB z sz) (yTW b sz (sz + 1) (yAdv b sz (0, fr, tk, vl, 0, -1)) (yG0 g)).1 F)) : ZC zG (d + 9) 119 [.ref 135] z Q := by
  have h0 := hM
  unfold MS at h0
  have hMB : MS (mB z sz) := hM
  have clB : zcls (mB z sz) = zcls z := rfl
  have frB : zfr (mB z sz) = zfr z := rfl
  have lnB : zlen (mB z sz) = zlen z := rfl
  have fiB : ∀ j, ¬ j = 7 → ¬ j = 5 → ¬ j = 8 → ¬ j = 12 → ¬ j = 13 → zfi (mB z sz) 135 j = zfi z 135 j := by
    intro j a1 a2 a3 a4 a5
    unfold mB
    rw [fi_sfi, zu2_k _ _ _ _ a5, fi_sfi, zu2_k _ _ _ _ a4, fi_sfi, zu2_k _ _ _ _ a3, fi_sfi, zu2_k _ _ _ _ a2, fi_sfi, zu2_k _ _ _ _ a1]
  have B7 : zfi (mB z sz) 135 7 = nI sz := by
    unfold mB
    rw [fi_sfi, zu2_k _ _ _ _ (by omega), fi_sfi, zu2_k _ _ _ _ (by omega), fi_sfi, zu2_k _ _ _ _ (by omega), fi_sfi, zu2_k _ _ _ _ (by omega), fi_sfi, zu2_s]
  have B8 : zfi (mB z sz) 135 8 = nI 0 := by
    unfold mB
    rw [fi_sfi, zu2_k _ _ _ _ (by omega), fi_sfi, zu2_k _ _ _ _ (by omega), fi_sfi, zu2_s]
  have B12 : zfi (mB z sz) 135 12 = nI 0 := by
    unfold mB
    rw [fi_sfi, zu2_k _ _ _ _ (by omega), fi_sfi, zu2_s]
  have B13 : zfi (mB z sz) 135 13 = -1 := by
    unfold mB
    rw [fi_sfi, zu2_s]
  have hT : TPm (mB z sz) b sz := ⟨B7, hsz, hb⟩
  generalize hS0 : ((0, fr, tk, vl, 0, -1) : YS) = S0 at *
  have s0 : yAt S0 = 0 ∧ yFr S0 = fr ∧ yTk S0 = tk ∧ yVl S0 = vl ∧ yFk S0 = 0 ∧ yFp S0 = -1 := by
    rw [← hS0]; exact ⟨rfl, rfl, rfl, rfl, rfl, rfl⟩
  obtain ⟨p1, p2, p3, p4, p5, p6⟩ := s0
  have self : mG (mB z sz) S0 g = mB z sz := by
    refine mP_self ?_ ?_ ?_ ?_ ?_ ?_ hg
    · rw [B8, p1]
    · rw [fiB 9 (by omega) (by omega) (by omega) (by omega) (by omega), h9, p2]
    · rw [fiB 10 (by omega) (by omega) (by omega) (by omega) (by omega), h10, p3]
    · rw [fiB 11 (by omega) (by omega) (by omega) (by omega) (by omega), h11, p4]
    · rw [B12, p5]
    · rw [B13, p6]
  -- the new town is cleared
  have k1 := zl_up (P := fun k => ZW zG (d + 9) 119 30 [.ref 135, .int (nI k)] [] (mG (mB z sz) S0 (fun i => if i < k then 0 else g i)) Q) 9080 (by
    intro k hk
    have h1 : ¬ 9080 ≤ k := by omega
    have e : zu1 (fun i => if i < k then 0 else g i) k 0 = fun i => if i < k + 1 then 0 else g i := by
      funext i
      unfold zu1
      by_cases c : i = k
      · rw [if_pos c, if_pos (by omega)]
      · rw [if_neg c]
        dsimp only
        by_cases c2 : i < k
        · rw [if_pos c2, if_pos (by omega)]
        · rw [if_neg c2, if_neg (by omega)]
    rw [← e]
    refine s119_30.trans ?_
    simp (disch := omega) only [s119_31, s119_34, s119_37, s119_38, s119_41, s119_42, s119_43, s119_44, s119_47, zcs_0, zcs_1, zcs_2, zcs_3, zcs_4, zcs_5, zcs_6, zcs_7, znl_i, znl_r, znl_n, Bool.and_true, Bool.true_and, zk_v, zk_n, zk_x, zir_r, zir_n, zclr_i, zclr_r, zclr_n, zclr_d, zclr_l, true_and, and_true, and_self, if_true, if_false, reduceIte, nI_add, pk_mul, zin_ok, zx_nI, nI_lt2, nI_le2, nI_eq2, nI_l0, nI_g0, nI_q0, nI_p0, nI_n0, nI_m1, Nat.add_zero, Nat.zero_add, Nat.reduceAdd, Nat.reduceMul, true_or, or_true, znar_50, bI_0, bI_1, bI_z, bft, nI_z0, nI_z1, lgc_lt, lgc_gt, lgc_le, lgc_ge, lgc_eq, not_true_eq_false, not_false_eq_true, Bool.not_eq_true, Bool.not_eq_false, reduceCtorEq, eq_self, nI_e0, nI_e1, i10, i01, decide_false, decide_true, Bool.false_eq_true, cls_mG, fr_mG, len_mG, clB, frB, lnB, h0, h1, mG_w])
  have z0 : (fun i => if i < 0 then 0 else g i) = g := by
    funext i
    rw [if_neg (by omega)]
  rw [z0, self] at k1
  have start : ZC zG (d + 9) 119 [.ref 135] z Q = ZW zG (d + 9) 119 30 [.ref 135, .int (nI 0)] [] (mB z sz) Q := by
    unfold mB
    simp (disch := omega) only [e119, s119_0, s119_1, s119_2, s119_5, s119_8, s119_9, s119_10, s119_13, s119_14, s119_15, s119_18, s119_19, s119_20, s119_23, s119_24, s119_25, s119_28, s119_29, zcs_0, zcs_1, zcs_2, zcs_3, zcs_4, zcs_5, zcs_6, zcs_7, znl_i, znl_r, znl_n, Bool.and_true, Bool.true_and, zk_v, zk_n, zk_x, zir_r, zir_n, zclr_i, zclr_r, zclr_n, zclr_d, zclr_l, true_and, and_true, and_self, if_true, if_false, reduceIte, nI_add, pk_mul, zin_ok, zx_nI, nI_lt2, nI_le2, nI_eq2, nI_l0, nI_g0, nI_q0, nI_p0, nI_n0, nI_m1, Nat.add_zero, Nat.zero_add, Nat.reduceAdd, Nat.reduceMul, true_or, or_true, znar_50, bI_0, bI_1, bI_z, bft, nI_z0, nI_z1, lgc_lt, lgc_gt, lgc_le, lgc_ge, lgc_eq, not_true_eq_false, not_false_eq_true, Bool.not_eq_true, Bool.not_eq_false, reduceCtorEq, eq_self, nI_e0, nI_e1, i10, i01, decide_false, decide_true, Bool.false_eq_true, cls_sfi, fi_sfi, fr_sfi, ia_sfi, la_sfi, ra_sfi, len_sfi, ls_sfi, own_sfi, n_sfi, uc_sfi, us_sfi, h0, h5]
  rw [start, k1]
  refine Eq.mpr s119_30 ?_
  have adv0 := fun G d Q => g120 (d := d) (Q := Q) (G := G) (S := S0) hMB hT (by rw [p1]; omega)
  have e5 : zu1 (fun i => if i < 9080 then 0 else g i) 5 3 = yG0 g := rfl
  simp (disch := omega) only [s119_31, s119_34, s119_50, s119_51, s119_54, s119_55, s119_56, s119_57, s119_58, zcs_0, zcs_1, zcs_2, zcs_3, zcs_4, zcs_5, zcs_6, zcs_7, znl_i, znl_r, znl_n, Bool.and_true, Bool.true_and, zk_v, zk_n, zk_x, zir_r, zir_n, zclr_i, zclr_r, zclr_n, zclr_d, zclr_l, true_and, and_true, and_self, if_true, if_false, reduceIte, nI_add, pk_mul, zin_ok, zx_nI, nI_lt2, nI_le2, nI_eq2, nI_l0, nI_g0, nI_q0, nI_p0, nI_n0, nI_m1, Nat.add_zero, Nat.zero_add, Nat.reduceAdd, Nat.reduceMul, true_or, or_true, znar_50, bI_0, bI_1, bI_z, bft, nI_z0, nI_z1, lgc_lt, lgc_gt, lgc_le, lgc_ge, lgc_eq, not_true_eq_false, not_false_eq_true, Bool.not_eq_true, Bool.not_eq_false, reduceCtorEq, eq_self, nI_e0, nI_e1, i10, i01, decide_false, decide_true, Bool.false_eq_true, cls_mG, fr_mG, len_mG, clB, frB, lnB, h0, mG_w, adv0, e5, Nat.le_refl]
  have ok1 : yOK sz (yAdv b sz S0) := by
    unfold yAdv
    rw [p1]
    exact yTok_ok ((skp_le b sz isSp sz 0).2 (by omega)) (by rw [p4]; exact hvl) (by rw [p5]; omega)
  -- lines
  have lp : ∀ (n : Nat) (S : YS) (G : Nat → Nat), yOK sz S → yLi S G → yFk S = 0 → sz < yFr S + n → (yFk (yTW b sz n S G).1 = 0 → ZW zG (d + 9) 119 92 [.ref 135, .int (nI 9080)] [] (mG (mB z sz) (yTW b sz n S G).1 (yTW b sz n S G).2) Q) → (¬ yFk (yTW b sz n S G).1 = 0 → ∀ F, Q (.inl (some (.int (-4)))) (mP (mB z sz) (yTW b sz n S G).1 F)) → ZW zG (d + 9) 119 61 [.ref 135, .int (nI 9080)] [] (mG (mB z sz) S G) Q := by
    intro n
    induction n with
    | zero =>
      intro S G hS hL hgd hf _ _
      have := hS.1
      omega
    | succ n ih =>
      intro S G hS hL hgd hf H1 H2
      have good := fun d Q => g122 (d := d) (Q := Q) (G := G) (S := S) hMB (by omega)
      rw [decide_eq_true hgd] at good
      unfold yTW at H1 H2
      have hk5 : yTk S < 5 := hS.2.2.1
      refine Eq.mpr s119_61 ?_
      by_cases t : yTk S = 0
      · rw [if_neg (fun q => q.2 t)] at H1
        have h1 := H1 hgd
        simp (disch := omega) only [s119_62, s119_65, s119_68, s119_69, s119_72, s119_75, s119_76, s119_79, s119_82, s119_83, s119_86, zcs_0, zcs_1, zcs_2, zcs_3, zcs_4, zcs_5, zcs_6, zcs_7, znl_i, znl_r, znl_n, Bool.and_true, Bool.true_and, zk_v, zk_n, zk_x, zir_r, zir_n, zclr_i, zclr_r, zclr_n, zclr_d, zclr_l, true_and, and_true, and_self, if_true, if_false, reduceIte, nI_add, pk_mul, zin_ok, zx_nI, nI_lt2, nI_le2, nI_eq2, nI_l0, nI_g0, nI_q0, nI_p0, nI_n0, nI_m1, Nat.add_zero, Nat.zero_add, Nat.reduceAdd, Nat.reduceMul, true_or, or_true, znar_50, bI_0, bI_1, bI_z, bft, nI_z0, nI_z1, lgc_lt, lgc_gt, lgc_le, lgc_ge, lgc_eq, not_true_eq_false, not_false_eq_true, Bool.not_eq_true, Bool.not_eq_false, reduceCtorEq, eq_self, nI_e0, nI_e1, i10, i01, decide_false, decide_true, Bool.false_eq_true, cls_mG, fr_mG, len_mG, clB, frB, lnB, h0, good, mG_10, t, bI_t]
        exact h1
      · rw [if_pos ⟨hgd, t⟩] at H1 H2
        simp (disch := omega) only [s119_62, s119_65, s119_68, s119_69, s119_72, s119_75, s119_76, zcs_0, zcs_1, zcs_2, zcs_3, zcs_4, zcs_5, zcs_6, zcs_7, znl_i, znl_r, znl_n, Bool.and_true, Bool.true_and, zk_v, zk_n, zk_x, zir_r, zir_n, zclr_i, zclr_r, zclr_n, zclr_d, zclr_l, true_and, and_true, and_self, if_true, if_false, reduceIte, nI_add, pk_mul, zin_ok, zx_nI, nI_lt2, nI_le2, nI_eq2, nI_l0, nI_g0, nI_q0, nI_p0, nI_n0, nI_m1, Nat.add_zero, Nat.zero_add, Nat.reduceAdd, Nat.reduceMul, true_or, or_true, znar_50, bI_0, bI_1, bI_z, bft, nI_z0, nI_z1, lgc_lt, lgc_gt, lgc_le, lgc_ge, lgc_eq, not_true_eq_false, not_false_eq_true, Bool.not_eq_true, Bool.not_eq_false, reduceCtorEq, eq_self, nI_e0, nI_e1, i10, i01, decide_false, decide_true, Bool.false_eq_true, cls_mG, fr_mG, len_mG, clB, frB, lnB, h0, good, mG_10, t, bI_t]
        refine m123 (d := d) hMB hT hS hgd hL (fun g2 => ?_) (fun g2 F => ?_)
        · simp (disch := omega) only [s119_79, zcs_0, zcs_1, zcs_2, zcs_3, zcs_4, zcs_5, zcs_6, zcs_7, znl_i, znl_r, znl_n, Bool.and_true, Bool.true_and, zk_v, zk_n, zk_x, zir_r, zir_n, zclr_i, zclr_r, zclr_n, zclr_d, zclr_l, true_and, and_true, and_self, if_true, if_false, reduceIte]
          exact ih _ _ (yLn_ok hS) (yLn_li hS hgd hL) g2 (by have := (yLn_g hS g2).2.2.2.2; omega) H1 H2
        · have bad := fun d Q => m122 (d := d) (Q := Q) (F := F) (S := (yLn b sz S G).1) hMB (by have := (yLn_ok (b := b) (G := G) hS).2.2.2.2; omega)
          rw [decide_eq_false g2] at bad
          rw [yTW_bad g2] at H2
          have h2 := H2 g2 F
          simp (disch := omega) only [s119_79, s119_61, s119_62, s119_65, s119_82, s119_83, s119_86, s119_89, s119_91, zcs_0, zcs_1, zcs_2, zcs_3, zcs_4, zcs_5, zcs_6, zcs_7, znl_i, znl_r, znl_n, Bool.and_true, Bool.true_and, zk_v, zk_n, zk_x, zir_r, zir_n, zclr_i, zclr_r, zclr_n, zclr_d, zclr_l, true_and, and_true, and_self, if_true, if_false, reduceIte, nI_add, pk_mul, zin_ok, zx_nI, nI_lt2, nI_le2, nI_eq2, nI_l0, nI_g0, nI_q0, nI_p0, nI_n0, nI_m1, Nat.add_zero, Nat.zero_add, Nat.reduceAdd, Nat.reduceMul, true_or, or_true, znar_50, bI_0, bI_1, bI_z, bft, nI_z0, nI_z1, lgc_lt, lgc_gt, lgc_le, lgc_ge, lgc_eq, not_true_eq_false, not_false_eq_true, Bool.not_eq_true, Bool.not_eq_false, reduceCtorEq, eq_self, nI_e0, nI_e1, i10, i01, decide_false, decide_true, Bool.false_eq_true, cls_mP, fr_mP, len_mP, clB, frB, lnB, h0, bad, bI_f]
          exact h2
  have li0 : yLi (yAdv b sz S0) (yG0 g) := ⟨fun _ => ⟨by show 4 * 0 ≤ _; omega, by show 2 * 0 ≤ _; omega⟩, fun _ => ⟨by show 0 ≤ 16; omega, by show 0 ≤ 24; omega⟩⟩
  refine lp (sz + 1) _ _ ok1 li0 (by rw [(yAdv_fk b sz S0).1, p5]) (by omega) (fun g9 => ?_) H2
  have H1 := H1 g9
  clear H2
  generalize yTW b sz (sz + 1) (yAdv b sz S0) (yG0 g) = R at H1 g9
  obtain ⟨S9, G9⟩ := R
  dsimp only at H1 g9 ⊢
  -- the world
  have hw9 : sW (mG (mB z sz) S9 G9) v = mG (mB z sz) S9 G9 := sW_eq _ _ hw
  have k2 := zl_up (P := fun k => ZW zG (d + 9) 119 94 [.ref 135, .int (nI k)] [] (sW (mG (mB z sz) S9 G9) (fun i => if i < k then G9 i else v i)) Q) 9080 (by
    intro k hk
    have h1 : ¬ 9080 ≤ k := by omega
    have e : zu1 (fun i => if i < k then G9 i else v i) k (G9 k) = fun i => if i < k + 1 then G9 i else v i := by
      funext i
      unfold zu1
      by_cases c : i = k
      · rw [if_pos c, if_pos (by omega), c]
      · rw [if_neg c]
        dsimp only
        by_cases c2 : i < k
        · rw [if_pos c2, if_pos (by omega)]
        · rw [if_neg c2, if_neg (by omega)]
    rw [← e]
    refine s119_94.trans ?_
    have r1 : zia (sW (mG (mB z sz) S9 G9) (fun i => if i < k then G9 i else v i)) 141 k = nI (G9 k) := by
      rw [sW_n _ _ (by omega)]
      exact ia_mG
    simp (disch := omega) only [s119_95, s119_98, s119_101, s119_102, s119_105, s119_106, s119_107, s119_110, s119_111, s119_112, s119_113, s119_116, zcs_0, zcs_1, zcs_2, zcs_3, zcs_4, zcs_5, zcs_6, zcs_7, znl_i, znl_r, znl_n, Bool.and_true, Bool.true_and, zk_v, zk_n, zk_x, zir_r, zir_n, zclr_i, zclr_r, zclr_n, zclr_d, zclr_l, true_and, and_true, and_self, if_true, if_false, reduceIte, nI_add, pk_mul, zin_ok, zx_nI, nI_lt2, nI_le2, nI_eq2, nI_l0, nI_g0, nI_q0, nI_p0, nI_n0, nI_m1, Nat.add_zero, Nat.zero_add, Nat.reduceAdd, Nat.reduceMul, true_or, or_true, znar_50, bI_0, bI_1, bI_z, bft, nI_z0, nI_z1, lgc_lt, lgc_gt, lgc_le, lgc_ge, lgc_eq, not_true_eq_false, not_false_eq_true, Bool.not_eq_true, Bool.not_eq_false, reduceCtorEq, eq_self, nI_e0, nI_e1, i10, i01, decide_false, decide_true, Bool.false_eq_true, cls_sW, fr_sW, len_sW, sW_w, cls_mG, fr_mG, len_mG, clB, frB, lnB, h0, h1, r1])
  have zv : (fun i => if i < 0 then G9 i else v i) = v := by
    funext i
    rw [if_neg (by omega)]
  rw [zv, hw9] at k2
  have s92 : ZW zG (d + 9) 119 92 [.ref 135, .int (nI 9080)] [] (mG (mB z sz) S9 G9) Q = ZW zG (d + 9) 119 94 [.ref 135, .int (nI 0)] [] (mG (mB z sz) S9 G9) Q := by
    simp (disch := omega) only [s119_92, s119_93, zcs_0, zcs_1, zcs_2, zcs_3, zcs_4, zcs_5, zcs_6, zcs_7, znl_i, znl_r, znl_n, Bool.and_true, Bool.true_and, zk_v, zk_n, zk_x, zir_r, zir_n, zclr_i, zclr_r, zclr_n, zclr_d, zclr_l, true_and, and_true, and_self, if_true, if_false, reduceIte]
  rw [s92, k2]
  have k3 := zl_up (P := fun k => ZW zG (d + 9) 119 121 [.ref 135, .int (nI k)] [] (sW (mG (mB z sz) S9 G9) (fun i => if 1864 ≤ i ∧ i < 1864 + k then G9 (10 + 9 * (i - 1864) + 8) else if i < 9080 then G9 i else v i)) Q) 16 (by
    intro k hk
    have h1 : ¬ 16 ≤ k := by omega
    have e : zu1 (fun i => if 1864 ≤ i ∧ i < 1864 + k then G9 (10 + 9 * (i - 1864) + 8) else if i < 9080 then G9 i else v i) (1864 + k) (G9 (10 + 9 * k + 8)) = fun i => if 1864 ≤ i ∧ i < 1864 + (k + 1) then G9 (10 + 9 * (i - 1864) + 8) else if i < 9080 then G9 i else v i := by
      funext i
      unfold zu1
      by_cases c : i = 1864 + k
      · rw [if_pos c, if_pos (by omega), c, Nat.add_sub_cancel_left]
      · rw [if_neg c]
        dsimp only
        by_cases c2 : 1864 ≤ i ∧ i < 1864 + k
        · rw [if_pos c2, if_pos (by omega)]
        · rw [if_neg c2, if_neg (show ¬ (1864 ≤ i ∧ i < 1864 + (k + 1)) by omega)]
    rw [← e]
    refine s119_121.trans ?_
    have oh := fun d Q => m139 (d := d) (Q := Q) (z := mG (mB z sz) S9 G9) (v := fun i => if 1864 ≤ i ∧ i < 1864 + k then G9 (10 + 9 * (i - 1864) + 8) else if i < 9080 then G9 i else v i) (h := k) (j := 8) hM (by omega)
    have er : (if 1864 ≤ 10 + 9 * k + 8 ∧ 10 + 9 * k + 8 < 1864 + k then G9 (10 + 9 * (10 + 9 * k + 8 - 1864) + 8) else if 10 + 9 * k + 8 < 9080 then G9 (10 + 9 * k + 8) else v (10 + 9 * k + 8)) = G9 (10 + 9 * k + 8) := by
      rw [if_neg (by omega), if_pos (by omega)]
    simp only [er] at oh
    simp (disch := omega) only [s119_122, s119_124, s119_127, s119_128, s119_131, s119_134, s119_135, s119_136, s119_137, s119_138, s119_140, s119_143, s119_144, s119_147, zcs_0, zcs_1, zcs_2, zcs_3, zcs_4, zcs_5, zcs_6, zcs_7, znl_i, znl_r, znl_n, Bool.and_true, Bool.true_and, zk_v, zk_n, zk_x, zir_r, zir_n, zclr_i, zclr_r, zclr_n, zclr_d, zclr_l, true_and, and_true, and_self, if_true, if_false, reduceIte, nI_add, pk_mul, zin_ok, zx_nI, nI_lt2, nI_le2, nI_eq2, nI_l0, nI_g0, nI_q0, nI_p0, nI_n0, nI_m1, Nat.add_zero, Nat.zero_add, Nat.reduceAdd, Nat.reduceMul, true_or, or_true, znar_50, bI_0, bI_1, bI_z, bft, nI_z0, nI_z1, lgc_lt, lgc_gt, lgc_le, lgc_ge, lgc_eq, not_true_eq_false, not_false_eq_true, Bool.not_eq_true, Bool.not_eq_false, reduceCtorEq, eq_self, nI_e0, nI_e1, i10, i01, decide_false, decide_true, Bool.false_eq_true, cls_sW, fr_sW, len_sW, sW_w, cls_mG, fr_mG, len_mG, clB, frB, lnB, h0, h1, oh])
  have z3 : (fun i => if 1864 ≤ i ∧ i < 1864 + 0 then G9 (10 + 9 * (i - 1864) + 8) else if i < 9080 then G9 i else v i) = fun i => if i < 9080 then G9 i else v i := by
    funext i
    rw [if_neg (by omega)]
  rw [z3] at k3
  have s94 : ZW zG (d + 9) 119 94 [.ref 135, .int (nI 9080)] [] (sW (mG (mB z sz) S9 G9) (fun i => if i < 9080 then G9 i else v i)) Q = ZW zG (d + 9) 119 121 [.ref 135, .int (nI 0)] [] (sW (mG (mB z sz) S9 G9) (fun i => if i < 9080 then G9 i else v i)) Q := by
    refine s119_94.trans ?_
    simp (disch := omega) only [s119_95, s119_98, s119_119, s119_120, zcs_0, zcs_1, zcs_2, zcs_3, zcs_4, zcs_5, zcs_6, zcs_7, znl_i, znl_r, znl_n, Bool.and_true, Bool.true_and, zk_v, zk_n, zk_x, zir_r, zir_n, zclr_i, zclr_r, zclr_n, zclr_d, zclr_l, true_and, and_true, and_self, if_true, if_false, reduceIte, nI_add, pk_mul, zin_ok, zx_nI, nI_lt2, nI_le2, nI_eq2, nI_l0, nI_g0, nI_q0, nI_p0, nI_n0, nI_m1, Nat.add_zero, Nat.zero_add, Nat.reduceAdd, Nat.reduceMul, true_or, or_true, znar_50, bI_0, bI_1, bI_z, bft, nI_z0, nI_z1, lgc_lt, lgc_gt, lgc_le, lgc_ge, lgc_eq, not_true_eq_false, not_false_eq_true, Bool.not_eq_true, Bool.not_eq_false, reduceCtorEq, eq_self, nI_e0, nI_e1, i10, i01, decide_false, decide_true, Bool.false_eq_true, Nat.le_refl]
  rw [s94, k3]
  refine Eq.mpr s119_121 ?_
  have e16 : (fun i => if 1864 ≤ i ∧ i < 1864 + 16 then G9 (10 + 9 * (i - 1864) + 8) else if i < 9080 then G9 i else v i) = yWd v G9 := rfl
  rw [e16]
  have r0 : yWd v G9 0 = G9 0 := rfl
  simp (disch := omega) only [s119_122, s119_124, s119_150, s119_151, s119_154, s119_155, s119_156, zcs_0, zcs_1, zcs_2, zcs_3, zcs_4, zcs_5, zcs_6, zcs_7, znl_i, znl_r, znl_n, Bool.and_true, Bool.true_and, zk_v, zk_n, zk_x, zir_r, zir_n, zclr_i, zclr_r, zclr_n, zclr_d, zclr_l, true_and, and_true, and_self, if_true, if_false, reduceIte, nI_add, pk_mul, zin_ok, zx_nI, nI_lt2, nI_le2, nI_eq2, nI_l0, nI_g0, nI_q0, nI_p0, nI_n0, nI_m1, Nat.add_zero, Nat.zero_add, Nat.reduceAdd, Nat.reduceMul, true_or, or_true, znar_50, bI_0, bI_1, bI_z, bft, nI_z0, nI_z1, lgc_lt, lgc_gt, lgc_le, lgc_ge, lgc_eq, not_true_eq_false, not_false_eq_true, Bool.not_eq_true, Bool.not_eq_false, reduceCtorEq, eq_self, nI_e0, nI_e1, i10, i01, decide_false, decide_true, Bool.false_eq_true, cls_sW, fr_sW, len_sW, sW_r, cls_mG, fr_mG, len_mG, clB, frB, lnB, h0, r0, Nat.le_refl]
  exact H1
end MT6
