set_option maxRecDepth 100000
/-! the model: rules, lines, a town -/
section MT5
variable {d : Nat} {z : ZH} {Q : ZQ} {b : Nat → Nat} {sz : Nat} {S : YS} {F : Nat → Int32} {G : Nat → Nat}
/-- more tests -/
def yTL (b : Nat → Nat) (sz : Nat) : Nat → YS → (Nat → Nat) → YS × (Nat → Nat)
  | 0, S, G => (S, G)
  | n + 1, S, G => if yIs b S 0 = true then yTL b sz n (yT3 b sz (yAdv b sz S) G).1 (yTG b sz (yAdv b sz S) G) else (S, G)
/-- tests -/
def yTA (b : Nat → Nat) (sz : Nat) (S : YS) (G : Nat → Nat) : YS × (Nat → Nat) := yTL b sz (sz + 1) (yT3 b sz S G).1 (yTG b sz S G)
theorem yTG_n : G 3 ≤ yTG b sz S G 3 ∧ G 2 ≤ yTG b sz S G 2 ∧ ∀ q, ¬ q = 3 → ¬ q = 2 → q < 274 + 3 * G 2 → q < 814 + 3 * G 3 → yTG b sz S G q = G q := by
  obtain ⟨h1, h2⟩ := yT3_n (b := b) (sz := sz) (S := S) (G := G)
  unfold yTG
  split
  · refine ⟨?_, ?_, fun q h3 h4 h5 h6 => ?_⟩
    · rw [zu1_n _ _ _ (by omega), zu1_n _ _ _ (by omega), zu1_n _ _ _ (by omega), zu1_n _ _ _ (by omega)]
      exact h1
    · rw [zu1_s]
      omega
    · rw [zu1_n _ _ _ h4, zu1_n _ _ _ (by omega), zu1_n _ _ _ (by omega), zu1_n _ _ _ (by omega)]
      exact h2 q h3 h6
  · exact ⟨h1, by rw [h2 2 (by omega) (by omega)]; exact Nat.le_refl _, fun q h3 _ _ h6 => h2 q h3 h6⟩
theorem yTL_ok : ∀ (n : Nat) (S : YS) (G : Nat → Nat), yOK sz S → yOK sz (yTL b sz n S G).1
  | 0, S, G, h => h
  | n + 1, S, G, h => by
    unfold yTL
    split
    · exact yTL_ok n _ _ (yT_ok (yAdv_ok h)).2.2
    · exact h
theorem yTL_n : ∀ (n : Nat) (S : YS) (G : Nat → Nat), G 3 ≤ (yTL b sz n S G).2 3 ∧ G 2 ≤ (yTL b sz n S G).2 2 ∧ ∀ q, ¬ q = 3 → ¬ q = 2 → q < 274 + 3 * G 2 → q < 814 + 3 * G 3 → (yTL b sz n S G).2 q = G q
  | 0, S, G => ⟨Nat.le_refl _, Nat.le_refl _, fun _ _ _ _ _ => rfl⟩
  | n + 1, S, G => by
    unfold yTL
    split
    · obtain ⟨h1, h2, h3⟩ := yTL_n n (yT3 b sz (yAdv b sz S) G).1 (yTG b sz (yAdv b sz S) G)
      obtain ⟨g1, g2, g3⟩ := yTG_n (b := b) (sz := sz) (S := yAdv b sz S) (G := G)
      exact ⟨by omega, by omega, fun q q1 q2 q3 q4 => by rw [h3 q q1 q2 (by omega) (by omega), g3 q q1 q2 q3 q4]⟩
    · exact ⟨Nat.le_refl _, Nat.le_refl _, fun _ _ _ _ _ => rfl⟩
theorem and_A (hS : yOK sz S) (h : yIs b S 0 = true) (hB : yB S G) : yA (yAdv b sz S) G := by
  have h3 := yIs_fr hS h
  have h4 : 3 ≤ (ztx 0).length := by decide
  intro g
  obtain ⟨b1, b2⟩ := hB (yIs_g h).1
  omega
theorem yTL_B : ∀ (n : Nat) (S : YS) (G : Nat → Nat), yOK sz S → yB S G → yB (yTL b sz n S G).1 (yTL b sz n S G).2
  | 0, S, G, h, hB => hB
  | n + 1, S, G, h, hB => by
    unfold yTL
    split
    · rename_i hc
      exact yTL_B n _ _ (yT_ok (yAdv_ok h)).2.2 (yTG_B (yAdv_ok h) (and_A h hc hB))
    · exact hB
theorem yTL_gr : ∀ (n : Nat) (S : YS) (G : Nat → Nat), yFk (yTL b sz n S G).1 = 0 → yFk S = 0
  | 0, S, G, h => h
  | n + 1, S, G, h => by
    unfold yTL at h
    split at h
    · rename_i hc
      exact (yIs_g hc).1
    · exact h
theorem yTA_ok (h : yOK sz S) : yOK sz (yTA b sz S G).1 := yTL_ok _ _ _ (yT_ok h).2.2
theorem yTA_n : G 3 ≤ (yTA b sz S G).2 3 ∧ G 2 ≤ (yTA b sz S G).2 2 ∧ ∀ q, ¬ q = 3 → ¬ q = 2 → q < 274 + 3 * G 2 → q < 814 + 3 * G 3 → (yTA b sz S G).2 q = G q := by
  obtain ⟨h1, h2, h3⟩ := yTL_n (b := b) (sz := sz) (sz + 1) (yT3 b sz S G).1 (yTG b sz S G)
  obtain ⟨g1, g2, g3⟩ := yTG_n (b := b) (sz := sz) (S := S) (G := G)
  unfold yTA
  generalize yTL b sz (sz + 1) (yT3 b sz S G).1 (yTG b sz S G) = X at h1 h2 h3
  exact ⟨by omega, by omega, fun q q1 q2 q3 q4 => by rw [h3 q q1 q2 (by omega) (by omega), g3 q q1 q2 q3 q4]⟩
theorem ySL_mo : ∀ (n : Nat) (S : YS) (G : Nat → Nat), yOK sz S → yFr S ≤ yFr (ySL b sz n S G).1
  | 0, S, G, h => Nat.le_refl _
  | n + 1, S, G, h => by
    unfold ySL
    split
    · have h1 := ySL_mo n (yP1 b sz (yAdv b sz S)).1 (yPG b sz (yWh b S [23, 18, 31] + 1) (yAdv b sz S) G) (yP1_ok (yAdv_ok h))
      have h2 := yP1_mo (yAdv_ok (b := b) h) (b := b)
      have h3 := yAdv_mo h (b := b)
      omega
    · exact Nat.le_refl _
theorem ySum_mo {j : Nat} (h : yOK sz S) : yFr (yP1 b sz S).1 ≤ yFr (ySum b sz j S G).1 := ySL_mo _ _ _ (yP1_ok h)
theorem yT3_mo (h : yOK sz S) : yFr (yP1 b sz S).1 ≤ yFr (yT3 b sz S G).1 := by
  have k := yT_ok (b := b) (G := G) h
  have h1 : yFr (yP1 b sz S).1 ≤ yFr (yT1 b sz S G).1 := ySum_mo h
  have h2 : yFr (yT1 b sz S G).1 ≤ yFr (yT2 b sz S G) := yTkn_mo k.1
  have h3 : yFr (yT2 b sz S G) ≤ yFr (yT3 b sz S G).1 := by
    unfold yT3
    split
    · exact Nat.le_trans (yP1_mo k.2.1) (ySum_mo k.2.1)
    · exact Nat.le_refl _
  omega
theorem yT3_fr (hS : yOK sz S) (h : yFk (yT3 b sz S G).1 = 0) : yFr S < yFr (yT3 b sz S G).1 := by
  have h1 := (ySum_g hS (show yFk (ySum b sz 0 S G).1 = 0 from (yT3_g hS h).2.1)).2.1
  have h2 := (yP1_g hS h1).2
  have h3 := yT3_mo (b := b) (G := G) hS
  omega
theorem yTL_mo : ∀ (n : Nat) (S : YS) (G : Nat → Nat), yOK sz S → yFr S ≤ yFr (yTL b sz n S G).1
  | 0, S, G, h => Nat.le_refl _
  | n + 1, S, G, h => by
    unfold yTL
    split
    · have h1 := yTL_mo n (yT3 b sz (yAdv b sz S) G).1 (yTG b sz (yAdv b sz S) G) (yT_ok (yAdv_ok h)).2.2
      have h2 := yT3_mo (yAdv_ok (b := b) h) (b := b) (G := G)
      have h3 := yAdv_mo h (b := b)
      have h4 := yP1_mo (yAdv_ok (b := b) h) (b := b)
      omega
    · exact Nat.le_refl _
theorem yTA_mo (h : yOK sz S) : yFr S ≤ yFr (yTA b sz S G).1 := by
  have h1 := yP1_mo (b := b) h
  have h2 := yT3_mo (b := b) (G := G) h
  have h3 : yFr (yT3 b sz S G).1 ≤ yFr (yTA b sz S G).1 := yTL_mo _ _ _ (yT_ok h).2.2
  omega
/-- a rule: where it stands -/
def yO1 (b : Nat → Nat) (sz : Nat) (S : YS) : YS := yTkn b sz 4 (yWh b S [27, 5, 3, 8]) S
def yO2 (b : Nat → Nat) (sz : Nat) (S : YS) : YS := yNeed b sz 22 (yO1 b sz S)
def yO3 (b : Nat → Nat) (sz : Nat) (S : YS) : YS := yTkn b sz 4 (yWh b (yO2 b sz S) [27, 5, 3, 8]) (yO2 b sz S)
def yO4 (b : Nat → Nat) (sz : Nat) (S : YS) : YS × Nat := yNum b sz 0 100 (yNeed b sz 34 (yO3 b sz S))
def yOF (b : Nat → Nat) (sz : Nat) (S : YS) (n m : Nat) (F : Nat → Int32) : Nat → Int32 := zu1 (zu1 (zu1 (zu1 F (154 + 5 * n) (wI 4 (yWh b S [27, 5, 3, 8]))) (154 + 5 * n + 1) (wI 4 (yWh b (yO2 b sz S) [27, 5, 3, 8]))) (154 + 5 * n + 2) (nI (yO4 b sz S).2)) (154 + 5 * n + 3) (nI m)
def yOG (b : Nat → Nat) (sz : Nat) (S : YS) (G : Nat → Nat) : Nat → Nat := zu1 (zu1 (zu1 (zu1 G (154 + 5 * G 1) (yWh b S [27, 5, 3, 8])) (154 + 5 * G 1 + 1) (yWh b (yO2 b sz S) [27, 5, 3, 8])) (154 + 5 * G 1 + 2) (yO4 b sz S).2) (154 + 5 * G 1 + 3) (G 2)
def yO5 (b : Nat → Nat) (sz : Nat) (S : YS) (G : Nat → Nat) : YS × (Nat → Nat) := if yIs b (yO4 b sz S).1 12 = true then yTA b sz (yAdv b sz (yO4 b sz S).1) (yOG b sz S G) else ((yO4 b sz S).1, yOG b sz S G)
/-- the new town with this rule -/
def yO6 (b : Nat → Nat) (sz : Nat) (S : YS) (G : Nat → Nat) : Nat → Nat := zu1 (zu1 (yO5 b sz S G).2 (154 + 5 * G 1 + 4) ((yO5 b sz S G).2 2 - G 2)) 1 (G 1 + 1)
theorem yO_ok (h : yOK sz S) : yOK sz (yO1 b sz S) ∧ yOK sz (yO2 b sz S) ∧ yOK sz (yO3 b sz S) ∧ yOK sz (yO4 b sz S).1 ∧ yOK sz (yO5 b sz S G).1 := by
  have h1 : yOK sz (yO1 b sz S) := yTkn_ok h
  have h2 : yOK sz (yO2 b sz S) := yNeed_ok h1
  have h3 : yOK sz (yO3 b sz S) := yTkn_ok h2
  have h4 : yOK sz (yO4 b sz S).1 := yNum_ok (yNeed_ok h3)
  refine ⟨h1, h2, h3, h4, ?_⟩
  unfold yO5
  split
  · exact yTA_ok (yAdv_ok h4)
  · exact h4
theorem yO4_g (h : yFk (yO4 b sz S).1 = 0) : yFk (yO3 b sz S) = 0 ∧ yFk (yO2 b sz S) = 0 ∧ yFk (yO1 b sz S) = 0 ∧ yFk S = 0 ∧ yWh b S [27, 5, 3, 8] < 4 ∧ yWh b (yO2 b sz S) [27, 5, 3, 8] < 4 ∧ (yO4 b sz S).2 < 100 := by
  obtain ⟨h1, h2, h3, h4⟩ := yNum_g (show yFk (yNum b sz 0 100 (yNeed b sz 34 (yO3 b sz S))).1 = 0 from h)
  have g3 := (yNeed_g h1).1
  obtain ⟨g4, g5, _⟩ := yTkn_g (show yFk (yTkn b sz 4 (yWh b (yO2 b sz S) [27, 5, 3, 8]) (yO2 b sz S)) = 0 from g3)
  have g6 := (yNeed_g (show yFk (yNeed b sz 22 (yO1 b sz S)) = 0 from g5)).1
  obtain ⟨g7, g8, _⟩ := yTkn_g (show yFk (yTkn b sz 4 (yWh b S [27, 5, 3, 8]) S) = 0 from g6)
  exact ⟨g3, g5, g6, g8, g7, g4, by unfold yO4; rw [h4]; exact h3.2⟩
theorem yO5_g (h : yFk (yO5 b sz S G).1 = 0) : yFk (yO4 b sz S).1 = 0 := by
  unfold yO5 at h
  split at h
  · rename_i hc
    exact (yIs_g hc).1
  · exact h
theorem yOF_g (h : yFk (yO4 b sz S).1 = 0) : yOF b sz S (G 1) (G 2) (fun i => nI (G i)) = fun i => nI (yOG b sz S G i) := by
  obtain ⟨_, _, _, _, h5, h6, _⟩ := yO4_g h
  unfold yOF yOG
  rw [show wI 4 (yWh b S [27, 5, 3, 8]) = nI (yWh b S [27, 5, 3, 8]) from if_pos h5, show wI 4 (yWh b (yO2 b sz S) [27, 5, 3, 8]) = nI (yWh b (yO2 b sz S) [27, 5, 3, 8]) from if_pos h6]
  simp only [zu1_nI]
theorem yOG_n : ∀ q, (q < 154 + 5 * G 1 ∨ 158 + 5 * G 1 ≤ q) → yOG b sz S G q = G q := by
  intro q hq
  unfold yOG
  rw [zu1_n _ _ _ (by omega), zu1_n _ _ _ (by omega), zu1_n _ _ _ (by omega), zu1_n _ _ _ (by omega)]
theorem yO5_n (h1 : G 1 < 24) : G 3 ≤ (yO5 b sz S G).2 3 ∧ G 2 ≤ (yO5 b sz S G).2 2 ∧ ∀ q, ¬ q = 3 → ¬ q = 2 → q < 274 + 3 * G 2 → q < 814 + 3 * G 3 → (yO5 b sz S G).2 q = yOG b sz S G q := by
  have e2 := yOG_n (b := b) (sz := sz) (S := S) (G := G) 2 (by omega)
  have e3 := yOG_n (b := b) (sz := sz) (S := S) (G := G) 3 (by omega)
  unfold yO5
  split
  · obtain ⟨a1, a2, a3⟩ := yTA_n (b := b) (sz := sz) (S := yAdv b sz (yO4 b sz S).1) (G := yOG b sz S G)
    rw [e2] at a2 a3
    rw [e3] at a1 a3
    exact ⟨a1, a2, a3⟩
  · exact ⟨by dsimp only; omega, by dsimp only; omega, fun _ _ _ _ _ => rfl⟩
theorem yO4_mo (hS : yOK sz S) : yFr (yO1 b sz S) ≤ yFr (yO4 b sz S).1 := by
  obtain ⟨k1, k2, k3, k4, _⟩ := yO_ok (b := b) (G := fun _ => 0) hS
  have f2 : yFr (yO1 b sz S) ≤ yFr (yO2 b sz S) := yNeed_mo k1
  have f3 : yFr (yO2 b sz S) ≤ yFr (yO3 b sz S) := yTkn_mo k2
  have f4 : yFr (yO3 b sz S) ≤ yFr (yO4 b sz S).1 := Nat.le_trans (yNeed_mo k3) (yNum_mo (yNeed_ok k3))
  omega
theorem yO5_mo (hS : yOK sz S) : yFr S ≤ yFr (yO5 b sz S G).1 := by
  obtain ⟨k1, k2, k3, k4, _⟩ := yO_ok (b := b) (G := fun _ => 0) hS
  have f1 : yFr S ≤ yFr (yO1 b sz S) := yTkn_mo hS
  have f2 := yO4_mo (b := b) hS
  unfold yO5
  split
  · have h1 := yAdv_mo k4 (b := b)
    have h2 := yTA_mo (b := b) (G := yOG b sz S G) (yAdv_ok (b := b) k4)
    omega
  · dsimp only; omega
theorem py_len : ∀ r, r ∈ [27, 5, 3, 8] → 4 ≤ (ztx r).length := by decide
/-- ahead of a rule's tests -/
theorem yO_A (hS : yOK sz S) (h1 : G 1 < 24) (hA : yB S G) (h : yIs b (yO4 b sz S).1 12 = true) : yA (yAdv b sz (yO4 b sz S).1) (yOG b sz S G) := by
  obtain ⟨k1, k2, k3, k4, k5⟩ := yO_ok (b := b) (G := G) hS
  intro g
  have g4 := (yIs_g h).1
  obtain ⟨g3, g2, g1, g0, _, _, _⟩ := yO4_g g4
  obtain ⟨a1, a2⟩ := hA g0
  rw [yOG_n 2 (by omega), yOG_n 3 (by omega)]
  have f1 : yFr S + 4 ≤ yFr (yO1 b sz S) := by
    obtain ⟨e1, _, e⟩ := yTkn_g (show yFk (yTkn b sz 4 (yWh b S [27, 5, 3, 8]) S) = 0 from g1)
    obtain ⟨r, r1, r2⟩ := yWh_lt [27, 5, 3, 8] e1
    have := py_len r r1
    have := yIs_fr hS r2
    unfold yO1; rw [e]
    omega
  have f2 := yO4_mo (b := b) hS
  have f3 := yAdv_mo k4 (b := b)
  omega
theorem m127 (hM : MS z) (hT : TPm z b sz) (hS : yOK sz S) (h1 : G 1 < 24) (hA : yB S G) (hg : yFk S = 0) (H1 : yFk (yO5 b sz S G).1 = 0 → Q (.inl none) (mG z (yO5 b sz S G).1 (yO6 b sz S G))) (H2 : ¬ yFk (yO5 b sz S G).1 = 0 → ∀ F, Q (.inl none) (mP z (yO5 b sz S G).1 F)) : ZC zG (d + 7) 127 [.ref 135] (mG z S G) Q := by
  have h0 := hM
  unfold MS at h0
  have hsz : sz ≤ 1400 := hT.2.1
  have hfr := hS.1
  obtain ⟨A1, A2⟩ := hA hg
  obtain ⟨k1, k2, k3, k4, k5⟩ := yO_ok (b := b) (G := G) hS
  have nn := yO5_n (b := b) (sz := sz) (S := S) h1
  have c1 : ∀ d Q F, ZC zG (d + 2) 124 [.ref 135] (mP z S F) Q = Q (.inl (some (.int (wI 4 (yWh b S [27, 5, 3, 8]))))) (mP z S F) := fun d Q F => m124 hM hT hS
  have c2 : ∀ d Q F, ZC zG (d + 2) 128 [.ref 135, .int (wI 4 (yWh b S [27, 5, 3, 8]))] (mP z S F) Q = Q (.inl (some (.int (wI 4 (yWh b S [27, 5, 3, 8]))))) (mP z (yO1 b sz S) F) := fun d Q F => m128 hM hT hS (by omega)
  have c3 : ∀ d Q F, ZC zG (d + 3) 129 [.ref 135, .ref 22] (mP z (yO1 b sz S) F) Q = Q (.inl none) (mP z (yO2 b sz S) F) := fun d Q F => m129 hM hT k1 (by omega)
  have c4 : ∀ d Q F, ZC zG (d + 2) 124 [.ref 135] (mP z (yO2 b sz S) F) Q = Q (.inl (some (.int (wI 4 (yWh b (yO2 b sz S) [27, 5, 3, 8]))))) (mP z (yO2 b sz S) F) := fun d Q F => m124 hM hT k2
  have c5 : ∀ d Q F, ZC zG (d + 2) 128 [.ref 135, .int (wI 4 (yWh b (yO2 b sz S) [27, 5, 3, 8]))] (mP z (yO2 b sz S) F) Q = Q (.inl (some (.int (wI 4 (yWh b (yO2 b sz S) [27, 5, 3, 8]))))) (mP z (yO3 b sz S) F) := fun d Q F => m128 hM hT k2 (by omega)
  have c6 : ∀ d Q F, ZC zG (d + 4) 131 [.ref 135, .ref 34, .int (nI 0), .int (nI 99)] (mP z (yO3 b sz S) F) Q = Q (.inl (some (.int (nI (yO4 b sz S).2)))) (mP z (yO4 b sz S).1 F) := fun d Q F => m131 hM hT k3 (by omega) (by omega) (by omega)
  -- the end, when all is well
  have fin : yFk (yO5 b sz S G).1 = 0 → ∀ Q, ZW zG (d + 7) 127 112 [.ref 135, .int (nI (154 + 5 * G 1))] [] (mG z (yO5 b sz S G).1 (yO5 b sz S G).2) Q = Q (.inl none) (mG z (yO5 b sz S G).1 (yO6 b sz S G)) := by
    intro g Q
    have good := fun G' d Q => g122 (d := d) (Q := Q) (G := G') (S := (yO5 b sz S G).1) hM (by omega)
    rw [decide_eq_true g] at good
    have e3 : (yO5 b sz S G).2 (154 + 5 * G 1 + 3) = G 2 := by
      rw [nn.2.2 _ (by omega) (by omega) (by omega) (by omega)]
      exact zu1_s _ _ _
    have e1 : (yO5 b sz S G).2 1 = G 1 := by
      rw [nn.2.2 _ (by omega) (by omega) (by omega) (by omega)]
      exact yOG_n _ (by omega)
    have e2 := nn.2.1
    unfold yO6
    generalize (yO5 b sz S G).2 = G5 at *
    simp (disch := omega) only [s127_112, s127_113, s127_116, s127_117, s127_118, s127_119, s127_120, s127_123, s127_124, s127_125, s127_126, s127_129, s127_130, s127_131, s127_132, s127_133, s127_134, s127_135, s127_136, s127_139, s127_142, s127_143, s127_146, s127_147, s127_148, s127_149, s127_150, s127_151, s127_152, zcs_0, zcs_1, zcs_2, zcs_3, zcs_4, zcs_5, zcs_6, zcs_7, znl_i, znl_r, znl_n, Bool.and_true, Bool.true_and, zk_v, zk_n, zk_x, zir_r, zir_n, zclr_i, zclr_r, zclr_n, zclr_d, zclr_l, true_and, and_true, and_self, if_true, if_false, reduceIte, nI_add, pk_mul, zin_ok, zx_nI, nI_lt2, nI_le2, nI_eq2, nI_l0, nI_g0, nI_q0, nI_p0, nI_n0, nI_m1, Nat.add_zero, Nat.zero_add, Nat.reduceAdd, Nat.reduceMul, true_or, or_true, znar_50, bI_0, bI_1, bI_z, bft, nI_z0, nI_z1, lgc_lt, lgc_gt, lgc_le, lgc_ge, lgc_eq, not_true_eq_false, not_false_eq_true, Bool.not_eq_true, Bool.not_eq_false, reduceCtorEq, eq_self, nI_e0, nI_e1, i10, i01, decide_false, decide_true, Bool.false_eq_true, cls_mG, fr_mG, len_mG, h0, good, ia_mG, mG_w, nI_sbn, e3, e1, zu1_n, zu1_s, ne_eq, bI_t]
  -- the end, when it isn't
  have bad : ¬ yFk (yO5 b sz S G).1 = 0 → ∀ F Q, (∀ F2, Q (.inl none) (mP z (yO5 b sz S G).1 F2)) → ZW zG (d + 7) 127 112 [.ref 135, .int (nI (154 + 5 * G 1))] [] (mP z (yO5 b sz S G).1 F) Q := by
    intro g F Q hq
    have good := fun F' d Q => m122 (d := d) (Q := Q) (F := F') (S := (yO5 b sz S G).1) hM (by have := k5.2.2.2.2; omega)
    rw [decide_eq_false g] at good
    simp (disch := omega) only [s127_112, s127_113, s127_116, s127_117, s127_118, s127_119, s127_120, s127_123, s127_124, s127_125, s127_126, s127_129, s127_130, s127_131, s127_132, s127_133, s127_134, s127_135, s127_136, s127_139, s127_142, s127_143, s127_146, s127_147, s127_148, s127_149, s127_150, s127_151, s127_152, zcs_0, zcs_1, zcs_2, zcs_3, zcs_4, zcs_5, zcs_6, zcs_7, znl_i, znl_r, znl_n, Bool.and_true, Bool.true_and, zk_v, zk_n, zk_x, zir_r, zir_n, zclr_i, zclr_r, zclr_n, zclr_d, zclr_l, true_and, and_true, and_self, if_true, if_false, reduceIte, nI_add, pk_mul, zin_ok, zx_nI, nI_lt2, nI_le2, nI_eq2, nI_l0, nI_g0, nI_q0, nI_p0, nI_n0, nI_m1, Nat.add_zero, Nat.zero_add, Nat.reduceAdd, Nat.reduceMul, true_or, or_true, znar_50, bI_0, bI_1, bI_z, bft, nI_z0, nI_z1, lgc_lt, lgc_gt, lgc_le, lgc_ge, lgc_eq, not_true_eq_false, not_false_eq_true, Bool.not_eq_true, Bool.not_eq_false, reduceCtorEq, eq_self, nI_e0, nI_e1, i10, i01, decide_false, decide_true, Bool.false_eq_true, cls_mP, fr_mP, len_mP, h0, good, ia_mP, mP_F, bI_f, hq]
  -- tests
  have lp : ∀ (n : Nat) (S : YS) (G : Nat → Nat) (Q : ZQ) (x : Value), yOK sz S → yB S G → (yFk S = 0 → sz < yFr S + n) → ZW zG (d + 7) 127 95 [.ref 135, x] [] (mG z S G) Q = ZW zG (d + 7) 127 112 [.ref 135, x] [] (mG z (yTL b sz n S G).1 (yTL b sz n S G).2) Q := by
    intro n
    induction n with
    | zero =>
      intro S G Q x hS hB hf
      have hbad : ¬ yFk S = 0 := fun q => by
        have := hf q
        have := hS.1
        omega
      have tk := fun d Q => g130 (d := d) (Q := Q) (G := G) (r := 0) hM hT hS (by omega)
      have e := yIs_bad (b := b) (r := 0) hbad
      unfold yTake at tk
      rw [e] at tk
      simp only [Bool.false_eq_true, if_false] at tk
      refine s127_95.trans ?_
      unfold yTL
      simp (disch := omega) only [s127_96, s127_99, s127_102, zcs_0, zcs_1, zcs_2, zcs_3, zcs_4, zcs_5, zcs_6, zcs_7, znl_i, znl_r, znl_n, Bool.and_true, Bool.true_and, zk_v, zk_n, zk_x, zir_r, zir_n, zclr_i, zclr_r, zclr_n, zclr_d, zclr_l, true_and, and_true, and_self, if_true, if_false, reduceIte, nI_add, pk_mul, zin_ok, zx_nI, nI_lt2, nI_le2, nI_eq2, nI_l0, nI_g0, nI_q0, nI_p0, nI_n0, nI_m1, Nat.add_zero, Nat.zero_add, Nat.reduceAdd, Nat.reduceMul, true_or, or_true, znar_50, bI_0, bI_1, bI_z, bft, nI_z0, nI_z1, lgc_lt, lgc_gt, lgc_le, lgc_ge, lgc_eq, not_true_eq_false, not_false_eq_true, Bool.not_eq_true, Bool.not_eq_false, reduceCtorEq, eq_self, nI_e0, nI_e1, i10, i01, decide_false, decide_true, Bool.false_eq_true, cls_mG, fr_mG, len_mG, h0, tk, bI_f]
    | succ n ih =>
      intro S G Q x hS hB hf
      have tk := fun d Q => g130 (d := d) (Q := Q) (G := G) (r := 0) hM hT hS (by omega)
      unfold yTake at tk
      refine s127_95.trans ?_
      unfold yTL
      by_cases e : yIs b S 0 = true
      · rw [e] at tk
        simp only [if_true] at tk
        have hA2 := and_A hS e hB
        have okA := yAdv_ok (b := b) hS
        have g2 : yFk (yAdv b sz S) = 0 := by rw [(yAdv_fk b sz S).1, (yIs_g e).1]
        have ts := fun d Q => m133 (d := d) (Q := Q) hM hT okA hA2 g2
        have ih1 := ih (yT3 b sz (yAdv b sz S) G).1 (yTG b sz (yAdv b sz S) G) Q x (yT_ok okA).2.2 (yTG_B okA hA2) (fun q => by
          have := yT3_fr okA q
          have := hf (yIs_g e).1
          have := yIs_fr hS e
          omega)
        rw [if_pos e, ← ih1]
        simp (disch := omega) only [s127_96, s127_99, s127_102, s127_105, s127_106, s127_109, zcs_0, zcs_1, zcs_2, zcs_3, zcs_4, zcs_5, zcs_6, zcs_7, znl_i, znl_r, znl_n, Bool.and_true, Bool.true_and, zk_v, zk_n, zk_x, zir_r, zir_n, zclr_i, zclr_r, zclr_n, zclr_d, zclr_l, true_and, and_true, and_self, if_true, if_false, reduceIte, nI_add, pk_mul, zin_ok, zx_nI, nI_lt2, nI_le2, nI_eq2, nI_l0, nI_g0, nI_q0, nI_p0, nI_n0, nI_m1, Nat.add_zero, Nat.zero_add, Nat.reduceAdd, Nat.reduceMul, true_or, or_true, znar_50, bI_0, bI_1, bI_z, bft, nI_z0, nI_z1, lgc_lt, lgc_gt, lgc_le, lgc_ge, lgc_eq, not_true_eq_false, not_false_eq_true, Bool.not_eq_true, Bool.not_eq_false, reduceCtorEq, eq_self, nI_e0, nI_e1, i10, i01, decide_false, decide_true, Bool.false_eq_true, cls_mG, fr_mG, len_mG, h0, tk, ts, bI_t]
      · rw [Bool.not_eq_true] at e
        rw [e] at tk
        simp only [Bool.false_eq_true, if_false] at tk
        rw [e, if_neg (by simp)]
        simp (disch := omega) only [s127_96, s127_99, s127_102, zcs_0, zcs_1, zcs_2, zcs_3, zcs_4, zcs_5, zcs_6, zcs_7, znl_i, znl_r, znl_n, Bool.and_true, Bool.true_and, zk_v, zk_n, zk_x, zir_r, zir_n, zclr_i, zclr_r, zclr_n, zclr_d, zclr_l, true_and, and_true, and_self, if_true, if_false, reduceIte, nI_add, pk_mul, zin_ok, zx_nI, nI_lt2, nI_le2, nI_eq2, nI_l0, nI_g0, nI_q0, nI_p0, nI_n0, nI_m1, Nat.add_zero, Nat.zero_add, Nat.reduceAdd, Nat.reduceMul, true_or, or_true, znar_50, bI_0, bI_1, bI_z, bft, nI_z0, nI_z1, lgc_lt, lgc_gt, lgc_le, lgc_ge, lgc_eq, not_true_eq_false, not_false_eq_true, Bool.not_eq_true, Bool.not_eq_false, reduceCtorEq, eq_self, nI_e0, nI_e1, i10, i01, decide_false, decide_true, Bool.false_eq_true, cls_mG, fr_mG, len_mG, h0, tk, bI_f]
  -- all
  have run : ZC zG (d + 7) 127 [.ref 135] (mG z S G) Q = ZW zG (d + 7) 127 81 [.ref 135, .int (nI (154 + 5 * G 1))] [] (mP z (yO4 b sz S).1 (yOF b sz S (G 1) (G 2) (fun i => nI (G i)))) Q := by
    unfold yOF mG
    simp (disch := omega) only [e127, s127_0, s127_3, s127_4, s127_5, s127_8, s127_9, s127_10, s127_11, s127_12, s127_13, s127_14, s127_17, s127_18, s127_19, s127_20, s127_23, s127_26, s127_27, s127_28, s127_30, s127_33, s127_34, s127_37, s127_38, s127_39, s127_40, s127_41, s127_42, s127_45, s127_48, s127_49, s127_50, s127_53, s127_54, s127_55, s127_56, s127_57, s127_60, s127_61, s127_63, s127_66, s127_67, s127_68, s127_71, s127_72, s127_73, s127_74, s127_75, s127_78, s127_79, s127_80, zcs_0, zcs_1, zcs_2, zcs_3, zcs_4, zcs_5, zcs_6, zcs_7, znl_i, znl_r, znl_n, Bool.and_true, Bool.true_and, zk_v, zk_n, zk_x, zir_r, zir_n, zclr_i, zclr_r, zclr_n, zclr_d, zclr_l, true_and, and_true, and_self, if_true, if_false, reduceIte, nI_add, pk_mul, zin_ok, zx_nI, nI_lt2, nI_le2, nI_eq2, nI_l0, nI_g0, nI_q0, nI_p0, nI_n0, nI_m1, Nat.add_zero, Nat.zero_add, Nat.reduceAdd, Nat.reduceMul, true_or, or_true, znar_50, bI_0, bI_1, bI_z, bft, nI_z0, nI_z1, lgc_lt, lgc_gt, lgc_le, lgc_ge, lgc_eq, not_true_eq_false, not_false_eq_true, Bool.not_eq_true, Bool.not_eq_false, reduceCtorEq, eq_self, nI_e0, nI_e1, i10, i01, decide_false, decide_true, Bool.false_eq_true, cls_mP, fr_mP, len_mP, h0, c1, c2, c3, c4, c5, c6, ia_mP, mP_F, zu1_n, zu1_s, ne_eq]
  rw [run]
  have tk := fun F d Q => m130 (d := d) (Q := Q) (F := F) (r := 12) hM hT k4 (by omega)
  unfold yTake at tk
  by_cases e : yIs b (yO4 b sz S).1 12 = true
  · rw [e] at tk
    simp only [if_true] at tk
    have g4 := (yIs_g e).1
    rw [yOF_g g4]
    have hA2 := yO_A hS h1 hA e
    have okA := yAdv_ok (b := b) k4
    have g2 : yFk (yAdv b sz (yO4 b sz S).1) = 0 := by rw [(yAdv_fk b sz _).1, g4]
    have ts := fun d Q => m133 (d := d) (Q := Q) hM hT okA hA2 g2
    have l1 := fun Q => lp (sz + 1) (yT3 b sz (yAdv b sz (yO4 b sz S).1) (yOG b sz S G)).1 (yTG b sz (yAdv b sz (yO4 b sz S).1) (yOG b sz S G)) Q (.int (nI (154 + 5 * G 1))) (yT_ok okA).2.2 (yTG_B okA hA2) (fun _ => by omega)
    have e5 : yO5 b sz S G = yTA b sz (yAdv b sz (yO4 b sz S).1) (yOG b sz S G) := if_pos e
    have l2 : ∀ Q, ZW zG (d + 7) 127 81 [.ref 135, .int (nI (154 + 5 * G 1))] [] (mP z (yO4 b sz S).1 (fun i => nI (yOG b sz S G i))) Q = ZW zG (d + 7) 127 112 [.ref 135, .int (nI (154 + 5 * G 1))] [] (mG z (yO5 b sz S G).1 (yO5 b sz S G).2) Q := by
      intro Q
      rw [e5]
      unfold yTA
      rw [← l1]
      have tk2 : ∀ d Q, ZC zG (d + 2) 130 [.ref 135, .ref 12] (mP z (yO4 b sz S).1 (fun i => nI (yOG b sz S G i))) Q = Q (.inl (some (.int (bI true)))) (mG z (yAdv b sz (yO4 b sz S).1) (yOG b sz S G)) := fun d Q => tk _ d Q
      simp (disch := omega) only [s127_81, s127_82, s127_85, s127_88, s127_91, s127_92, zcs_0, zcs_1, zcs_2, zcs_3, zcs_4, zcs_5, zcs_6, zcs_7, znl_i, znl_r, znl_n, Bool.and_true, Bool.true_and, zk_v, zk_n, zk_x, zir_r, zir_n, zclr_i, zclr_r, zclr_n, zclr_d, zclr_l, true_and, and_true, and_self, if_true, if_false, reduceIte, nI_add, pk_mul, zin_ok, zx_nI, nI_lt2, nI_le2, nI_eq2, nI_l0, nI_g0, nI_q0, nI_p0, nI_n0, nI_m1, Nat.add_zero, Nat.zero_add, Nat.reduceAdd, Nat.reduceMul, true_or, or_true, znar_50, bI_0, bI_1, bI_z, bft, nI_z0, nI_z1, lgc_lt, lgc_gt, lgc_le, lgc_ge, lgc_eq, not_true_eq_false, not_false_eq_true, Bool.not_eq_true, Bool.not_eq_false, reduceCtorEq, eq_self, nI_e0, nI_e1, i10, i01, decide_false, decide_true, Bool.false_eq_true, cls_mG, fr_mG, len_mG, h0, cls_mP, tk2, ts, bI_t]
    rw [l2]
    by_cases g : yFk (yO5 b sz S G).1 = 0
    · rw [fin g]
      exact H1 g
    · exact bad g _ _ (H2 g)
  · rw [Bool.not_eq_true] at e
    rw [e] at tk
    simp only [Bool.false_eq_true, if_false] at tk
    have e5 : yO5 b sz S G = ((yO4 b sz S).1, yOG b sz S G) := by
      unfold yO5
      rw [e]; rfl
    have l2 : ∀ F Q, ZW zG (d + 7) 127 81 [.ref 135, .int (nI (154 + 5 * G 1))] [] (mP z (yO4 b sz S).1 F) Q = ZW zG (d + 7) 127 112 [.ref 135, .int (nI (154 + 5 * G 1))] [] (mP z (yO4 b sz S).1 F) Q := by
      intro F Q
      simp (disch := omega) only [s127_81, s127_82, s127_85, s127_88, zcs_0, zcs_1, zcs_2, zcs_3, zcs_4, zcs_5, zcs_6, zcs_7, znl_i, znl_r, znl_n, Bool.and_true, Bool.true_and, zk_v, zk_n, zk_x, zir_r, zir_n, zclr_i, zclr_r, zclr_n, zclr_d, zclr_l, true_and, and_true, and_self, if_true, if_false, reduceIte, nI_add, pk_mul, zin_ok, zx_nI, nI_lt2, nI_le2, nI_eq2, nI_l0, nI_g0, nI_q0, nI_p0, nI_n0, nI_m1, Nat.add_zero, Nat.zero_add, Nat.reduceAdd, Nat.reduceMul, true_or, or_true, znar_50, bI_0, bI_1, bI_z, bft, nI_z0, nI_z1, lgc_lt, lgc_gt, lgc_le, lgc_ge, lgc_eq, not_true_eq_false, not_false_eq_true, Bool.not_eq_true, Bool.not_eq_false, reduceCtorEq, eq_self, nI_e0, nI_e1, i10, i01, decide_false, decide_true, Bool.false_eq_true, cls_mP, fr_mP, len_mP, h0, tk, bI_f]
    rw [l2]
    have e51 : (yO5 b sz S G).1 = (yO4 b sz S).1 := by rw [e5]
    have e52 : (yO5 b sz S G).2 = yOG b sz S G := by rw [e5]
    by_cases g : yFk (yO5 b sz S G).1 = 0
    · have f1 := fin g Q
      rw [yOF_g (yO5_g g)]
      rw [e51, e52] at f1
      have f2 : ZW zG (d + 7) 127 112 [.ref 135, .int (nI (154 + 5 * G 1))] [] (mP z (yO4 b sz S).1 (fun i => nI (yOG b sz S G i))) Q = Q (.inl none) (mG z (yO4 b sz S).1 (yO6 b sz S G)) := f1
      rw [f2, ← e51]
      exact H1 g
    · have f1 := bad g (yOF b sz S (G 1) (G 2) (fun i => nI (G i))) Q (H2 g)
      rw [e51] at f1
      exact f1
end MT5
