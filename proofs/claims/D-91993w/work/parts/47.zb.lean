set_option maxRecDepth 100000
/-! the world's numbers are as they may be -/
def wB (v : Nat → Nat) : Prop := ∀ i, v i < 500000000
def wT (v : Nat → Nat) : Prop := v 0 ≤ 16 ∧ v 4 < 100 ∧ (0 < v 5 ∧ v 5 < 10) ∧
  (∀ h, h < v 0 → v (10 + 9 * h) < 100 ∧ v (10 + 9 * h + 1) < 100 ∧ v (10 + 9 * h + 2) < 10 ∧ v (10 + 9 * h + 3) < 7 ∧ v (10 + 9 * h + 4) ≤ 180 ∧ v (10 + 9 * h + 5) ≤ 180 ∧ v (10 + 9 * h + 6) ≤ 399 ∧ v (10 + 9 * h + 7) < 100) ∧
  (∀ h, h < 16 → v (10 + 9 * h + 8) < 2 ^ v 0 ∧ (v 0 ≤ h → v (10 + 9 * h + 8) = 0) ∧ v (10 + 9 * h + 8) / 2 ^ h % 2 = 0)
def wK (v : Nat → Nat) : Prop := ∀ h, h < 16 → v (1864 + h) < 2 ^ v 0 ∧ (v 0 ≤ h → v (1864 + h) = 0) ∧ v (1864 + h) / 2 ^ h % 2 = 0
def wD (v : Nat → Nat) : Prop := v 7 ≤ v 8 ∧ (∀ i, i < v 7 → v (1880 + 5 * i) < v 0 ∧ v (1880 + 5 * i + 1) < v 0 ∧ v (1880 + 5 * i + 2) < 4 ∧ v (1880 + 5 * i + 3) ≤ 399 ∧ v (1880 + 5 * i + 4) ≤ 399)
def wE (v : Nat → Nat) : Prop := v 8 ≤ 600 ∧ v 6 ≤ 399 ∧ (∀ i, i < v 8 → v (6680 + 4 * i) < v 0 ∧ v (6680 + 4 * i + 1) < v 0 ∧ v (6680 + 4 * i + 2) < 5 ∧ v (6680 + 4 * i + 3) ≤ 399 ∧ ¬ v (6680 + 4 * i) = v (6680 + 4 * i + 1))
/-- all; paid at most K -/
def WF (v : Nat → Nat) (L : Nat → List (Nat × Nat)) (K : Nat) : Prop := wB v ∧ wT v ∧ wK v ∧ wD v ∧ wE v ∧ cOK v L ∧ v 9 ≤ K
theorem wT_c {v v2 : Nat → Nat} (h : agC v v2) (k : wT v) : wT v2 := by
  obtain ⟨a, b, c, e, f⟩ := k
  have e0 := h 0 (by omega)
  have e4 := h 4 (by omega)
  have e5 := h 5 (by omega)
  refine ⟨by omega, by omega, by omega, ?_, ?_⟩
  · intro x hx
    rw [h (10 + 9 * x) (by omega), h (10 + 9 * x + 1) (by omega), h (10 + 9 * x + 2) (by omega), h (10 + 9 * x + 3) (by omega), h (10 + 9 * x + 4) (by omega), h (10 + 9 * x + 5) (by omega), h (10 + 9 * x + 6) (by omega), h (10 + 9 * x + 7) (by omega)]
    exact e x (by omega)
  · intro x hx
    rw [h (10 + 9 * x + 8) (by omega), e0]
    exact f x hx
theorem wD_drop {v : Nat → Nat} {k : Nat} (hk : k < v 7) (h7 : v 7 ≤ 960) (h : wD v) : wD (sDrop v k) := by
  obtain ⟨a, b⟩ := h
  have e7 : sDrop v k 7 = v 7 - 1 := zu1_s _ _ _
  have e8 : sDrop v k 8 = v 8 := by unfold sDrop; rw [zu1_n _ _ _ (by omega), sShift_lo _ _ _ _ (by omega)]
  have e0 : sDrop v k 0 = v 0 := by unfold sDrop; rw [zu1_n _ _ _ (by omega), sShift_lo _ _ _ _ (by omega)]
  refine ⟨by omega, ?_⟩
  intro i hi
  rw [e7] at hi
  rw [e0]
  have key : ∀ j, j < 5 → sDrop v k (1880 + 5 * i + j) = if i < k then v (1880 + 5 * i + j) else v (1880 + 5 * (i + 1) + j) := by
    intro j hj
    unfold sDrop
    rw [zu1_n _ _ _ (by omega)]
    unfold sShift
    by_cases c : i < k
    · rw [if_pos c, if_neg (by omega)]
    · rw [if_neg c, if_pos (by omega)]
      congr 1
      omega
  have k0 := key 0 (by omega)
  rw [Nat.add_zero, Nat.add_zero] at k0
  rw [k0, key 1 (by omega), key 2 (by omega), key 3 (by omega), key 4 (by omega)]
  by_cases c : i < k
  · simp only [c, if_true]
    exact b i (by omega)
  · simp only [c, if_false]
    exact b (i + 1) (by omega)
theorem sDrop_n {v : Nat → Nat} {k q : Nat} (hk : k < v 7) (hq : q < 1880 ∨ 1880 + 5 * v 7 ≤ q) (h7 : ¬ q = 7) : sDrop v k q = v q := by
  unfold sDrop
  rw [zu1_n _ _ _ h7]
  unfold sShift
  exact if_neg (by omega)
theorem sPays_wD {a b p : Nat} : ∀ (k : Nat) (v : Nat → Nat) (n : Nat), k ≤ v 7 → v 7 ≤ 960 → wD v → wD (sPays a b p k v n).1
  | 0, v, n, _, _, h => h
  | k + 1, v, n, hk, h7, h => by
    unfold sPays
    split
    · have e7 : sDrop v k 7 = v 7 - 1 := zu1_s _ _ _
      exact sPays_wD k _ _ (by omega) (by omega) (wD_drop (by omega) h7 h)
    · exact sPays_wD k v n (by omega) h7 h
/-- payings leave alone what isn't debts -/
theorem sPays_n {a b p : Nat} : ∀ (k : Nat) (v : Nat → Nat) (n : Nat) (q : Nat), k ≤ v 7 → (q < 1880 ∨ 1880 + 5 * v 7 ≤ q) → ¬ q = 7 → (sPays a b p k v n).1 q = v q
  | 0, v, n, q, _, _, _ => rfl
  | k + 1, v, n, q, hk, hq, h7 => by
    unfold sPays
    split
    · have e7 : sDrop v k 7 = v 7 - 1 := zu1_s _ _ _
      rw [sPays_n k _ _ q (by omega) (by omega) h7, sDrop_n (by omega) hq h7]
    · exact sPays_n k v n q (by omega) hq h7
theorem sPays_cnt {a b p : Nat} : ∀ (k : Nat) (v : Nat → Nat) (n : Nat), (sPays a b p k v n).2 ≤ n + k
  | 0, v, n => Nat.le_refl _
  | k + 1, v, n => by
    unfold sPays
    split
    · have := sPays_cnt (a := a) (b := b) (p := p) k (sDrop v k) (n + 1); omega
    · have := sPays_cnt (a := a) (b := b) (p := p) k v n; omega
theorem or_lt {x b n : Nat} (hx : x < 2 ^ n) (hb : b < n) : x ||| 2 ^ b < 2 ^ n := Nat.or_lt_two_pow hx (Nat.pow_lt_pow_right (by omega) hb)
theorem or_bit {x b h : Nat} (hx : x / 2 ^ h % 2 = 0) (hb : ¬ b = h) : (x ||| 2 ^ b) / 2 ^ h % 2 = 0 := by
  have e : ∀ y, y / 2 ^ h % 2 = 0 ↔ y.testBit h = false := by
    intro y
    rw [Nat.testBit_eq_decide_div_mod_eq]
    have := Nat.mod_two_eq_zero_or_one (y / 2 ^ h)
    rw [decide_eq_false_iff_not]
    omega
  rw [e] at hx ⊢
  rw [Nat.testBit_or, hx, Nat.testBit_two_pow]
  simp [hb]
theorem sMeets_0 {v : Nat → Nat} {a b q : Nat} (hq : q < 1864 ∨ 1880 ≤ q) (ha : a < 16) (hb : b < 16) : sMeets v a b q = v q := by
  unfold sMeets
  rw [zu1_n _ _ _ (by omega), zu1_n _ _ _ (by omega)]
theorem wK_meets {v : Nat → Nat} {a b : Nat} (h16 : v 0 ≤ 16) (ha : a < v 0) (hb : b < v 0) (hab : ¬ a = b) (h : wK v) : wK (sMeets v a b) := by
  have e0 : sMeets v a b 0 = v 0 := sMeets_0 (by omega) (by omega) (by omega)
  intro x hx
  rw [e0]
  obtain ⟨x1, x2, x3⟩ := h x hx
  have hA := h a (by omega)
  have hB := h b (by omega)
  unfold sMeets
  by_cases hxb : x = b
  · subst hxb
    rw [zu1_s, zu1_n _ _ _ (by omega)]
    exact ⟨or_lt x1 ha, fun q => absurd q (by omega), or_bit x3 hab⟩
  · rw [zu1_n _ _ _ (by omega)]
    by_cases hxa : x = a
    · subst hxa
      rw [zu1_s]
      exact ⟨or_lt x1 hb, fun q => absurd q (by omega), or_bit x3 (fun e => hab e.symm)⟩
    · rw [zu1_n _ _ _ (by omega)]
      exact ⟨x1, x2, x3⟩
theorem sComes_n {v : Nat → Nat} {b a k u y q : Nat} (hq : q < 1880 + 5 * v 7 ∨ 1880 + 5 * v 7 + 5 ≤ q) (h7 : ¬ q = 7) : sComes v b a k u y q = v q := by
  unfold sComes
  rw [zu1_n _ _ _ h7, zu1_n _ _ _ (by omega), zu1_n _ _ _ (by omega), zu1_n _ _ _ (by omega), zu1_n _ _ _ (by omega), zu1_n _ _ _ (by omega)]
theorem sComes_7 {v : Nat → Nat} {b a k u y : Nat} : sComes v b a k u y 7 = v 7 + 1 := zu1_s _ _ _
theorem sComes_f {v : Nat → Nat} {b a k u y : Nat} : sComes v b a k u y (1880 + 5 * v 7) = b ∧ sComes v b a k u y (1880 + 5 * v 7 + 1) = a ∧ sComes v b a k u y (1880 + 5 * v 7 + 2) = k ∧ sComes v b a k u y (1880 + 5 * v 7 + 3) = u ∧ sComes v b a k u y (1880 + 5 * v 7 + 4) = y := by
  unfold sComes
  refine ⟨?_, ?_, ?_, ?_, ?_⟩
  · rw [zu1_n _ _ _ (by omega), zu1_n _ _ _ (by omega), zu1_n _ _ _ (by omega), zu1_n _ _ _ (by omega), zu1_n _ _ _ (by omega), zu1_s]
  · rw [zu1_n _ _ _ (by omega), zu1_n _ _ _ (by omega), zu1_n _ _ _ (by omega), zu1_n _ _ _ (by omega), zu1_s]
  · rw [zu1_n _ _ _ (by omega), zu1_n _ _ _ (by omega), zu1_n _ _ _ (by omega), zu1_s]
  · rw [zu1_n _ _ _ (by omega), zu1_n _ _ _ (by omega), zu1_s]
  · rw [zu1_n _ _ _ (by omega), zu1_s]
/-- what sGoes keeps: debts at most one more, known, bounds, all else -/
theorem sGoes_wf {v : Nat → Nat} {L : Nat → List (Nat × Nat)} {a b p dy : Nat} (hB : wB v) (h16 : v 0 ≤ 16) (hK : wK v) (hD : (∀ i, i < v 7 → v (1880 + 5 * i) < v 0 ∧ v (1880 + 5 * i + 1) < v 0 ∧ v (1880 + 5 * i + 2) < 4 ∧ v (1880 + 5 * i + 3) ≤ 399 ∧ v (1880 + 5 * i + 4) ≤ 399)) (h7 : v 7 < 600) (hc : cOK v L) (ha : a < v 0) (hb : b < v 0) (hab : ¬ a = b) (hp : p < 5) (hy : dy ≤ 399) :
    wB (sGoes v L a b p dy).1 ∧ wK (sGoes v L a b p dy).1 ∧ (∀ i, i < (sGoes v L a b p dy).1 7 → (sGoes v L a b p dy).1 (1880 + 5 * i) < v 0 ∧ (sGoes v L a b p dy).1 (1880 + 5 * i + 1) < v 0 ∧ (sGoes v L a b p dy).1 (1880 + 5 * i + 2) < 4 ∧ (sGoes v L a b p dy).1 (1880 + 5 * i + 3) ≤ 399 ∧ (sGoes v L a b p dy).1 (1880 + 5 * i + 4) ≤ 399) ∧ (sGoes v L a b p dy).1 7 ≤ v 7 + 1 ∧ (sGoes v L a b p dy).2 ≤ v 7 ∧ agC v (sGoes v L a b p dy).1 ∧ (∀ q, (6 ≤ q ∧ q < 10 ∧ ¬ q = 7) ∨ 6680 ≤ q → (sGoes v L a b p dy).1 q = v q) := by
  have meets : ∀ v2 : Nat → Nat, wB v2 → wK v2 → v2 0 = v 0 → wB (sMeets v2 a b) ∧ wK (sMeets v2 a b) := by
    intro v2 hB2 hK2 e0
    refine ⟨?_, wK_meets (by omega) (by omega) (by omega) hab hK2⟩
    intro i
    have hp16 : (2 : Nat) ^ v2 0 ≤ 2 ^ 16 := Nat.pow_le_pow_right (by omega) (by omega)
    have h65 : (2 : Nat) ^ 16 = 65536 := by decide
    by_cases hi : 1864 ≤ i ∧ i < 1880
    · have := (wK_meets (v := v2) (a := a) (b := b) (by omega) (by omega) (by omega) hab hK2 (i - 1864) (by omega)).1
      rw [show 1864 + (i - 1864) = i by omega, sMeets_0 (q := 0) (by omega) (by omega) (by omega)] at this
      omega
    · rw [sMeets_0 (by omega) (by omega) (by omega)]
      exact hB2 i
  by_cases h4 : p = 4
  · have hg : sGoes v L a b p dy = (sMeets v a b, 0) := if_pos h4
    rw [hg]
    obtain ⟨m1, m2⟩ := meets v hB hK rfl
    have e7 : sMeets v a b 7 = v 7 := sMeets_0 (by omega) (by omega) (by omega)
    refine ⟨m1, m2, ?_, by dsimp only; omega, by dsimp only; omega, agC_meets (agC_refl v), fun q hq => sMeets_0 (by omega) (by omega) (by omega)⟩
    intro i hi
    dsimp only at hi ⊢
    rw [e7] at hi
    rw [sMeets_0 (by omega) (by omega) (by omega), sMeets_0 (by omega) (by omega) (by omega), sMeets_0 (by omega) (by omega) (by omega), sMeets_0 (by omega) (by omega) (by omega), sMeets_0 (by omega) (by omega) (by omega)]
    exact hD i hi
  · have hg : sGoes v L a b p dy = (if 2 ≤ p then sMeets (sAfter (sPays a b p (v 7) v 0).1 (ptC (sPays a b p (v 7) v 0).1 a b dy) L a b p dy) a b else sAfter (sPays a b p (v 7) v 0).1 (ptC (sPays a b p (v 7) v 0).1 a b dy) L a b p dy, (sPays a b p (v 7) v 0).2) := if_neg h4
    have hag := agC_pays (a := a) (b := b) (p := p) (v 7) (n := 0) (agC_refl v)
    have hn := fun q => sPays_n (a := a) (b := b) (p := p) (v 7) v 0 q (Nat.le_refl _)
    have h71 := sPays_7 (a := a) (b := b) (p := p) (v 7) v 0
    have hcnt := sPays_cnt (a := a) (b := b) (p := p) (v 7) v 0
    have hB1 : wB (sPays a b p (v 7) v 0).1 := sPays_v (v 7) v 0 hB
    have hD1 : ∀ i, i < (sPays a b p (v 7) v 0).1 7 → (sPays a b p (v 7) v 0).1 (1880 + 5 * i) < v 0 ∧ (sPays a b p (v 7) v 0).1 (1880 + 5 * i + 1) < v 0 ∧ (sPays a b p (v 7) v 0).1 (1880 + 5 * i + 2) < 4 ∧ (sPays a b p (v 7) v 0).1 (1880 + 5 * i + 3) ≤ 399 ∧ (sPays a b p (v 7) v 0).1 (1880 + 5 * i + 4) ≤ 399 := by
      have w1 : wD (zu1 v 8 (v 7)) := by
        refine ⟨by rw [zu1_n _ _ _ (by omega), zu1_s]; exact Nat.le_refl _, ?_⟩
        intro i hi
        rw [zu1_n _ _ _ (by omega)] at hi
        rw [zu1_n _ _ _ (by omega), zu1_n _ _ _ (by omega), zu1_n _ _ _ (by omega), zu1_n _ _ _ (by omega), zu1_n _ _ _ (by omega), zu1_n _ _ _ (by omega)]
        exact hD i hi
      have gen : ∀ (k : Nat) (u : Nat → Nat) (n : Nat), k ≤ u 7 → u 7 ≤ 960 → (∀ i, i < u 7 → u (1880 + 5 * i) < v 0 ∧ u (1880 + 5 * i + 1) < v 0 ∧ u (1880 + 5 * i + 2) < 4 ∧ u (1880 + 5 * i + 3) ≤ 399 ∧ u (1880 + 5 * i + 4) ≤ 399) → ∀ i, i < (sPays a b p k u n).1 7 → (sPays a b p k u n).1 (1880 + 5 * i) < v 0 ∧ (sPays a b p k u n).1 (1880 + 5 * i + 1) < v 0 ∧ (sPays a b p k u n).1 (1880 + 5 * i + 2) < 4 ∧ (sPays a b p k u n).1 (1880 + 5 * i + 3) ≤ 399 ∧ (sPays a b p k u n).1 (1880 + 5 * i + 4) ≤ 399 := by
        intro k
        induction k with
        | zero => exact fun u n _ _ h => h
        | succ k ih =>
          intro u n hk hu h
          unfold sPays
          split
          · have e7 : sDrop u k 7 = u 7 - 1 := zu1_s _ _ _
            refine ih _ _ (by omega) (by omega) ?_
            intro i hi
            rw [e7] at hi
            have key : ∀ j, j < 5 → sDrop u k (1880 + 5 * i + j) = if i < k then u (1880 + 5 * i + j) else u (1880 + 5 * (i + 1) + j) := by
              intro j hj
              unfold sDrop
              rw [zu1_n _ _ _ (by omega)]
              unfold sShift
              by_cases c : i < k
              · rw [if_pos c, if_neg (by omega)]
              · rw [if_neg c, if_pos (by omega)]
                congr 1
                omega
            have k0 := key 0 (by omega)
            rw [Nat.add_zero, Nat.add_zero] at k0
            rw [k0, key 1 (by omega), key 2 (by omega), key 3 (by omega), key 4 (by omega)]
            by_cases c : i < k
            · simp only [c, if_true]
              exact h i (by omega)
            · simp only [c, if_false]
              exact h (i + 1) (by omega)
          · exact ih u n (by omega) hu h
      exact gen (v 7) v 0 (Nat.le_refl _) (by omega) hD
    rw [hg]
    dsimp only
    generalize (sPays a b p (v 7) v 0).1 = v1 at hag hn h71 hB1 hD1
    generalize (sPays a b p (v 7) v 0).2 = n1 at hcnt
    have hK1 : wK v1 := by
      intro x hx
      rw [hag 0 (by omega), hn (1864 + x) (by omega) (by omega)]
      exact hK x hx
    have hc1 := cOK_c hag hc
    -- what comes
    have hA : wB (sAfter v1 (ptC v1 a b dy) L a b p dy) ∧ wK (sAfter v1 (ptC v1 a b dy) L a b p dy) ∧ (∀ i, i < sAfter v1 (ptC v1 a b dy) L a b p dy 7 → sAfter v1 (ptC v1 a b dy) L a b p dy (1880 + 5 * i) < v 0 ∧ sAfter v1 (ptC v1 a b dy) L a b p dy (1880 + 5 * i + 1) < v 0 ∧ sAfter v1 (ptC v1 a b dy) L a b p dy (1880 + 5 * i + 2) < 4 ∧ sAfter v1 (ptC v1 a b dy) L a b p dy (1880 + 5 * i + 3) ≤ 399 ∧ sAfter v1 (ptC v1 a b dy) L a b p dy (1880 + 5 * i + 4) ≤ 399) ∧ sAfter v1 (ptC v1 a b dy) L a b p dy 7 ≤ v 7 + 1 ∧ agC v (sAfter v1 (ptC v1 a b dy) L a b p dy) ∧ (∀ q, (6 ≤ q ∧ q < 10 ∧ ¬ q = 7) ∨ 6680 ≤ q → sAfter v1 (ptC v1 a b dy) L a b p dy q = v q) := by
      have same : wB v1 ∧ wK v1 ∧ (∀ i, i < v1 7 → v1 (1880 + 5 * i) < v 0 ∧ v1 (1880 + 5 * i + 1) < v 0 ∧ v1 (1880 + 5 * i + 2) < 4 ∧ v1 (1880 + 5 * i + 3) ≤ 399 ∧ v1 (1880 + 5 * i + 4) ≤ 399) ∧ v1 7 ≤ v 7 + 1 ∧ agC v v1 ∧ (∀ q, (6 ≤ q ∧ q < 10 ∧ ¬ q = 7) ∨ 6680 ≤ q → v1 q = v q) := ⟨hB1, hK1, hD1, by omega, hag, fun q hq => hn q (by omega) (by omega)⟩
      unfold sAfter
      by_cases hn1 : sLine v1 (ptC v1 a b dy) L p = v1 1
      · rw [if_pos hn1]; exact same
      · rw [if_neg hn1]
        by_cases ho : sOwe v1 b a (v1 (154 + 5 * sLine v1 (ptC v1 a b dy) L p + 1)) = true
        · rw [if_pos ho]; exact same
        · rw [if_neg ho]
          have hlt : sLine v1 (ptC v1 a b dy) L p < v1 1 := by
            have : sLine v1 (ptC v1 a b dy) L p ≤ 0 + v1 1 := (findF_le _ _ _).2
            omega
          obtain ⟨g1, g2, g3, g4⟩ := hc1.2.2.2.2.1 _ hlt
          generalize v1 (154 + 5 * sLine v1 (ptC v1 a b dy) L p + 1) = kd at g2
          generalize hu : min 399 (dy + v1 (154 + 5 * sLine v1 (ptC v1 a b dy) L p + 2)) = u
          have hu2 : u ≤ 399 := by omega
          refine ⟨?_, ?_, ?_, by rw [sComes_7]; omega, agC_comes hag, ?_⟩
          · intro i
            unfold sComes zu1
            have := hB1 i
            have := hB1 7
            repeat' split
            all_goals omega
          · intro x hx
            rw [sComes_n (q := 1864 + x) (by omega) (by omega), sComes_n (q := 0) (by omega) (by omega)]
            exact hK1 x hx
          · intro i hi
            rw [sComes_7] at hi
            by_cases e : i = v1 7
            · subst e
              obtain ⟨f0, f1, f2, f3, f4⟩ := sComes_f (v := v1) (b := b) (a := a) (k := kd) (u := u) (y := dy)
              rw [f0, f1, f2, f3, f4]
              exact ⟨by omega, by omega, by omega, by omega, by omega⟩
            · rw [sComes_n (by omega) (by omega), sComes_n (by omega) (by omega), sComes_n (by omega) (by omega), sComes_n (by omega) (by omega), sComes_n (by omega) (by omega)]
              exact hD1 i (by omega)
          · intro q hq
            rw [sComes_n (by omega) (by omega)]
            exact hn q (by omega) (by omega)
    generalize sAfter v1 (ptC v1 a b dy) L a b p dy = v2 at hA
    obtain ⟨b1, b2, b3, b4, b5, b6⟩ := hA
    by_cases h2 : 2 ≤ p
    · rw [if_pos h2]
      have e0 := b5 0 (by omega)
      obtain ⟨m1, m2⟩ := meets v2 b1 b2 e0
      refine ⟨m1, m2, ?_, by rw [sMeets_0 (by omega) (by omega) (by omega)]; exact b4, by omega, agC_trans b5 (agC_meets (agC_refl v2)), ?_⟩
      · intro i hi
        rw [sMeets_0 (by omega) (by omega) (by omega)] at hi
        rw [sMeets_0 (by omega) (by omega) (by omega), sMeets_0 (by omega) (by omega) (by omega), sMeets_0 (by omega) (by omega) (by omega), sMeets_0 (by omega) (by omega) (by omega), sMeets_0 (by omega) (by omega) (by omega)]
        exact b3 i hi
      · intro q hq
        rw [sMeets_0 (by omega) (by omega) (by omega)]
        exact b6 q hq
    · rw [if_neg h2]
      exact ⟨b1, b2, b3, b4, by omega, b5, b6⟩
