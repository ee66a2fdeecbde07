set_option maxRecDepth 100000
/-! the new town's numbers are small -/
section zSml
variable {b : Nat → Nat} {sz : Nat} {S : YS} {G : Nat → Nat} {L : Nat → List (Nat × Nat)}
/-- small, and nothing done yet; who knows whom aside -/
def zSml (G : Nat → Nat) : Prop := ∀ i, 6 ≤ i → i < 9080 → ¬ (i < 154 ∧ 10 ≤ i ∧ (i - 10) % 9 = 8) → (i < 10 → G i = 0) ∧ G i < 100000
theorem ZI_z {k x : Nat} (h : zSml G) (hk : k < 6 ∨ (10 ≤ k ∧ x < 100000)) : zSml (zu1 G k x) := by
  intro i h1 h2 h3
  by_cases c : i = k
  · subst c
    rw [zu1_s]
    exact ⟨fun q => by omega, by omega⟩
  · rw [zu1_n _ _ _ c]
    exact h i h1 h2 h3
theorem ZI_k {k x : Nat} (h : zSml G) (hk : k < 154 ∧ 10 ≤ k ∧ (k - 10) % 9 = 8) : zSml (zu1 G k x) := by
  intro i h1 h2 h3
  rw [zu1_n _ _ _ (fun e => h3 (by rw [e]; exact hk))]
  exact h i h1 h2 h3
theorem ZI_P {j : Nat} (hS : yOK sz S) (hj : j < 100000) (h : zSml G) : zSml (yPG b sz j S G) := by
  have hle : yPK b S ≤ 5 := yWh_le [17, 29, 7, 6, 15]
  have hv : (yP1 b sz S).2 < 10000 := by
    unfold yP1
    split
    · dsimp only; omega
    · exact yNum_lt hS
  unfold yPG
  split
  · exact ZI_z (ZI_z (ZI_z (ZI_z h (Or.inr ⟨by omega, hj⟩)) (Or.inr ⟨by omega, by omega⟩)) (Or.inr ⟨by omega, by omega⟩)) (Or.inl (by omega))
  · exact h
theorem ZI_SL : ∀ (n : Nat) (S : YS) (G : Nat → Nat), yOK sz S → zSml G → zSml (ySL b sz n S G).2
  | 0, S, G, _, h => h
  | n + 1, S, G, hS, h => by
    have hle := yWh_le (b := b) (S := S) [23, 18, 31]
    simp only [List.length_cons, List.length_nil] at hle
    unfold ySL
    split
    · exact ZI_SL n _ _ (yP1_ok (yAdv_ok hS)) (ZI_P (yAdv_ok hS) (by omega) h)
    · exact h
theorem ZI_S {j : Nat} (hS : yOK sz S) (hj : j < 100000) (h : zSml G) : zSml (ySum b sz j S G).2 := ZI_SL _ _ _ (yP1_ok hS) (ZI_P hS hj h)
theorem ZI_T (hS : yOK sz S) (hA : yA S G) (hsz : sz ≤ 1400) (hg : yFk (yT3 b sz S G).1 = 0) (h : zSml G) : zSml (yTG b sz S G) := by
  obtain ⟨g1, g2, g3, g4, g5, g6⟩ := yT3_g hS hg
  obtain ⟨k1, k2, k3⟩ := yT_ok (b := b) (G := G) hS
  have h3 : zSml (yT3 b sz S G).2 := by
    rw [g6]
    exact ZI_S k2 (by omega) (ZI_S hS (by omega) h)
  obtain ⟨a1, a2⟩ := hA g3
  have hfr := hS.1
  have hk3 := k3.1
  have B := ySum_B (b := b) (j := 4) k2 (yT_A (b := b) hS hA)
  rw [← g6] at B
  obtain ⟨b1, b2⟩ := B hg
  unfold yTG
  rw [if_pos hg]
  exact ZI_z (ZI_z (ZI_z (ZI_z h3 (Or.inr ⟨by omega, by omega⟩)) (Or.inr ⟨by omega, by omega⟩)) (Or.inr ⟨by omega, by omega⟩)) (Or.inl (by omega))
theorem ZI_TL (hsz : sz ≤ 1400) : ∀ (n : Nat) (S : YS) (G : Nat → Nat), yOK sz S → yB S G → yFk (yTL b sz n S G).1 = 0 → zSml G → zSml (yTL b sz n S G).2
  | 0, S, G, _, _, _, h => h
  | n + 1, S, G, hS, hB, hg, h => by
    unfold yTL at hg ⊢
    by_cases c : yIs b S 0 = true
    · rw [if_pos c] at hg ⊢
      have hA := and_A hS c hB
      have g := yTL_gr _ _ _ hg
      exact ZI_TL hsz n _ _ (yT_ok (yAdv_ok hS)).2.2 (yTG_B (yAdv_ok hS) hA) hg (ZI_T (yAdv_ok hS) hA hsz g h)
    · rw [if_neg c]
      exact h
theorem ZI_O (hS : yOK sz S) (hk : yFk S = 0) (h1 : G 1 < 24) (hB : yB S G) (hsz : sz ≤ 1400) (hg : yFk (yO5 b sz S G).1 = 0) (h : zSml G) : zSml (yO6 b sz S G) := by
  have g4 := yO5_g hg
  have w4 := (yO4_g g4).2.2.2.2.2.2
  obtain ⟨k1, k2, k3, k4, k5⟩ := yO_ok (b := b) (G := G) hS
  obtain ⟨b1, b2⟩ := hB hk
  have hfr := hS.1
  have l1 := yWh_le (b := b) (S := S) [27, 5, 3, 8]
  have l2 := yWh_le (b := b) (S := yO2 b sz S) [27, 5, 3, 8]
  simp only [List.length_cons, List.length_nil] at l1 l2
  have hO : zSml (yOG b sz S G) := by
    unfold yOG
    exact ZI_z (ZI_z (ZI_z (ZI_z h (Or.inr ⟨by omega, by omega⟩)) (Or.inr ⟨by omega, by omega⟩)) (Or.inr ⟨by omega, by omega⟩)) (Or.inr ⟨by omega, by omega⟩)
  have B5 := yO5_B (b := b) hS h1 hB hg
  have h5 : zSml (yO5 b sz S G).2 := by
    unfold yO5 at hg ⊢
    by_cases c : yIs b (yO4 b sz S).1 12 = true
    · rw [if_pos c] at hg ⊢
      have hA := yO_A hS h1 hB c
      have okA := yAdv_ok (b := b) k4
      unfold yTA at hg ⊢
      have g := yTL_gr _ _ _ hg
      exact ZI_TL hsz _ _ _ (yT_ok okA).2.2 (yTG_B okA hA) hg (ZI_T okA hA hsz g hO)
    · rw [if_neg c]
      exact hO
  have hk5 := k5.1
  unfold yO6
  exact ZI_z (ZI_z h5 (Or.inr ⟨by omega, by omega⟩)) (Or.inl (by omega))
theorem ZI_H (hS : yOK sz S) (h0 : G 0 < 16) (h : zSml G) : zSml (yHG b sz S G) := by
  obtain ⟨k1, k2, k3, k4, k5, k6, k7, k8, k9⟩ := yH_ok (b := b) hS
  have l4 : yH4k b sz S ≤ 7 := yWh_le [28, 19, 32, 33, 30, 9, 26]
  have w1 : (yH1 b sz S).2 < 10000 := yNum_lt (yNeed_ok hS)
  have w2 : (yH2 b sz S).2 < 10000 := yNum_lt k1
  have w3 : (yH3 b sz S).2 < 10000 := yNum_lt (yNeed_ok k2)
  have w5 : (yH5 b sz S).2 < 10000 := yNum_lt k5
  have w6 : (yH6 b sz S).2 < 10000 := yNum_lt k6
  have w7 : (yH7 b sz S).2 < 10000 := by
    unfold yH7
    generalize yH6 b sz S = X at k7
    by_cases c : yIs b X.1 4 = true
    · rw [if_pos c]; exact yNum_lt (yAdv_ok k7)
    · rw [if_neg c]; dsimp only; omega
  have w8 : (yH8 b sz S).2 < 10000 := by
    unfold yH8
    generalize yH7 b sz S = X at k8
    by_cases c : yIs b X.1 2 = true
    · rw [if_pos c]; exact yNum_lt (yAdv_ok k8)
    · rw [if_neg c]; dsimp only; omega
  unfold yHG
  exact ZI_z (ZI_z (ZI_z (ZI_z (ZI_z (ZI_z (ZI_z (ZI_z (ZI_z (ZI_z h (Or.inr ⟨by omega, by omega⟩)) (Or.inr ⟨by omega, by omega⟩)) (Or.inr ⟨by omega, by omega⟩)) (Or.inr ⟨by omega, by omega⟩)) (Or.inr ⟨by omega, by omega⟩)) (Or.inr ⟨by omega, by omega⟩)) (Or.inr ⟨by omega, by omega⟩)) (Or.inr ⟨by omega, by omega⟩)) (Or.inr ⟨by omega, by omega⟩)) (Or.inl (by omega))
theorem ZI_K (h0 : G 0 ≤ 16) (hg : yFk (yK3 b sz (G 0) S).1 = 0) (h : zSml G) : zSml (yKG b sz (G 0) S G) := by
  obtain ⟨q1, q2, q3, q4, q5, q6⟩ := yK_g hg
  unfold yKG
  rw [if_pos hg]
  exact ZI_k (ZI_k h (by omega)) (by omega)
theorem ZI_L (hS : yOK sz S) (hk : yFk S = 0) (hL : yLi S G) (hsz : sz ≤ 1400) (hg : yFk (yLn b sz S G).1 = 0) (h : zSml G) : zSml (yLn b sz S G).2 := by
  obtain ⟨g1, g2, g3, g4, g5⟩ := yLn_g hS hg
  obtain ⟨hB, hL⟩ := hL
  obtain ⟨l1, l2⟩ := hL hk
  have lp := yLp_le (b := b) (S := S)
  have okA := yAdv_ok (b := b) hS
  rw [g3]
  dsimp only
  unfold yBo at g4 ⊢
  by_cases c1 : yLp b S < 4
  · rw [if_pos c1] at g4 ⊢
    dsimp only at g4 ⊢
    exact ZI_O hS hk (by omega) hB hsz g4 h
  · rw [if_neg c1] at g4 ⊢
    by_cases c2 : yLw b S = 0
    · rw [if_pos c2] at g4 ⊢
      dsimp only at g4 ⊢
      exact ZI_H okA (by omega) h
    · rw [if_neg c2] at g4 ⊢
      by_cases c3 : yLw b S = 1
      · rw [if_pos c3] at g4 ⊢
        dsimp only at g4 ⊢
        exact ZI_K l1 g4 h
      · rw [if_neg c3] at g4 ⊢
        by_cases c4 : yLw b S = 2
        · rw [if_pos c4]
          exact ZI_z h (Or.inl (by omega))
        · rw [if_neg c4]
          exact ZI_z h (Or.inl (by omega))
theorem ZI_W (hsz : sz ≤ 1400) : ∀ (n : Nat) (S : YS) (G : Nat → Nat), yOK sz S → yFk S = 0 → yLi S G → yFk (yTW b sz n S G).1 = 0 → zSml G → zSml (yTW b sz n S G).2
  | 0, S, G, _, _, _, _, h => h
  | n + 1, S, G, hS, hk, hL, hg, h => by
    unfold yTW at hg ⊢
    by_cases c : yFk S = 0 ∧ ¬ yTk S = 0
    · rw [if_pos c] at hg ⊢
      by_cases g : yFk (yLn b sz S G).1 = 0
      · exact ZI_W hsz n _ _ (yLn_ok hS) g (yLn_li hS hk hL) hg (ZI_L hS hk hL hsz g h)
      · rw [yTW_bad g] at hg
        exact absurd hg g
    · rw [if_neg c]
      exact h
theorem ZI_0 (g : Nat → Nat) : zSml (yG0 g) := by
  intro i h1 h2 h3
  have e : yG0 g i = 0 := by
    unfold yG0
    rw [zu1_n _ _ _ (by omega)]
    exact if_pos h2
  rw [e]
  exact ⟨fun _ => rfl, by omega⟩
theorem GI_0 (g : Nat → Nat) : GI (yG0 g) (fun _ => []) := by
  have e : ∀ i, ¬ i = 5 → i < 9080 → yG0 g i = 0 := fun i h1 h2 => by
    unfold yG0
    rw [zu1_n _ _ _ h1]
    exact if_pos h2
  have e5 : yG0 g 5 = 3 := zu1_s _ _ _
  have e0 := e 0 (by omega) (by omega)
  have e1 := e 1 (by omega) (by omega)
  have e2 := e 2 (by omega) (by omega)
  have e3 := e 3 (by omega) (by omega)
  have e4 := e 4 (by omega) (by omega)
  refine ⟨⟨by omega, by omega, by omega, fun h hh => by omega, fun h hh => ?_⟩, ⟨by omega, by omega, by omega, fun k hk => by omega, fun l hl => by omega, fun t ht => by omega⟩, fun t ht => by omega⟩
  rw [e (10 + 9 * h + 8) (by omega) (by omega), e0]
  exact ⟨by simp, fun _ => rfl, by simp⟩
/-- the world behind a town -/
theorem yWd_WF {v G : Nat → Nat} {K : Nat} (hv : wB v) (hI : GI G L) (hZ : zSml G) : WF (yWd v G) L K := by
  have e : ∀ i, i < 1864 → yWd v G i = G i := fun i hi => by
    unfold yWd
    rw [if_neg (by omega), if_pos (by omega)]
  have ek : ∀ h, h < 16 → yWd v G (1864 + h) = G (10 + 9 * h + 8) := fun h hh => by
    unfold yWd
    rw [if_pos (by omega), Nat.add_sub_cancel_left]
  have z6 := hZ 6 (by omega) (by omega) (by omega)
  have z7 := hZ 7 (by omega) (by omega) (by omega)
  have z8 := hZ 8 (by omega) (by omega) (by omega)
  have z9 := hZ 9 (by omega) (by omega) (by omega)
  have e0 := e 0 (by omega)
  have e6 : yWd v G 6 = 0 := by rw [e 6 (by omega)]; exact z6.1 (by omega)
  have e7 : yWd v G 7 = 0 := by rw [e 7 (by omega)]; exact z7.1 (by omega)
  have e8 : yWd v G 8 = 0 := by rw [e 8 (by omega)]; exact z8.1 (by omega)
  have e9 : yWd v G 9 = 0 := by rw [e 9 (by omega)]; exact z9.1 (by omega)
  obtain ⟨hT, hC, hLn⟩ := hI
  have hkn : ∀ h, h < 16 → G (10 + 9 * h + 8) < 65536 := fun h hh => by
    have h1 := (hT.2.2.2.2 h hh).1
    have h2 : (2 : Nat) ^ G 0 ≤ 2 ^ 16 := Nat.pow_le_pow_right (by omega) hT.1
    have h3 : (2 : Nat) ^ 16 = 65536 := rfl
    omega
  refine ⟨fun i => ?_, wT_low (fun i hi => e i (by omega)) hT, fun h hh => ?_, ⟨by omega, fun i hi => by omega⟩, ⟨by omega, by omega, fun i hi => by omega⟩, cOK_c (fun i hi => e i (by omega)) hC, by omega⟩
  · unfold yWd
    by_cases c1 : 1864 ≤ i ∧ i < 1880
    · rw [if_pos c1]
      have := hkn (i - 1864) (by omega)
      omega
    · rw [if_neg c1]
      by_cases c2 : i < 9080
      · rw [if_pos c2]
        by_cases c3 : i < 6
        · have := hT.1
          have := hT.2.1
          have := hT.2.2.1
          have := hC.1
          have := hC.2.1
          have := hC.2.2.1
          rcases (show i = 0 ∨ i = 1 ∨ i = 2 ∨ i = 3 ∨ i = 4 ∨ i = 5 by omega) with rfl | rfl | rfl | rfl | rfl | rfl <;> omega
        · by_cases c4 : i < 154 ∧ 10 ≤ i ∧ (i - 10) % 9 = 8
          · have := hkn ((i - 10) / 9) (by omega)
            rw [show 10 + 9 * ((i - 10) / 9) + 8 = i by omega] at this
            omega
          · have := (hZ i (by omega) c2 c4).2
            omega
      · rw [if_neg c2]
        exact hv i
  · rw [ek h hh, e0]
    exact hT.2.2.2.2 h hh
end zSml
