set_option maxRecDepth 100000
/-! rounds: the law (no program in sight) -/
/-- the least of f below n, at most 100000 -/
def minN (f : Nat → Nat) : Nat → Nat
  | 0 => 100000
  | n + 1 => min (minN f n) (f n)
theorem minN_F (f : Nat → Nat) : ∀ n, minN f n ≤ 100000
  | 0 => Nat.le_refl _
  | n + 1 => Nat.le_trans (Nat.min_le_left _ _) (minN_F f n)
theorem minN_le (f : Nat → Nat) : ∀ n k, k < n → minN f n ≤ f k
  | 0, k, h => absurd h (by omega)
  | n + 1, k, h => by
    unfold minN
    by_cases e : k = n
    · subst e; exact Nat.min_le_right _ _
    · exact Nat.le_trans (Nat.min_le_left _ _) (minN_le f n k (by omega))
theorem minN_iff (f : Nat → Nat) {x : Nat} (hx : x < 100000) : ∀ n, minN f n ≤ x ↔ ∃ k, k < n ∧ f k ≤ x
  | 0 => by
    unfold minN
    constructor
    · intro h; omega
    · rintro ⟨k, h, _⟩; omega
  | n + 1 => by
    unfold minN
    rw [show (min (minN f n) (f n) ≤ x) ↔ (minN f n ≤ x ∨ f n ≤ x) by omega, minN_iff f hx n]
    constructor
    · rintro (⟨k, h, h2⟩ | h)
      · exact ⟨k, by omega, h2⟩
      · exact ⟨n, by omega, h⟩
    · rintro ⟨k, h, h2⟩
      by_cases e : k = n
      · subst e; exact Or.inr h2
      · exact Or.inl ⟨k, by omega, h2⟩
theorem minN_c {f g : Nat → Nat} : ∀ n, (∀ k, k < n → f k = g k) → minN f n = minN g n
  | 0, _ => rfl
  | n + 1, h => by
    unfold minN
    rw [minN_c n (fun k hk => h k (by omega)), h n (by omega)]
/-- arriving: A l t, the minute at which l has been seen if one comes at t; 100000: never -/
def aOK (A : Nat → Nat → Nat) : Prop := (∀ l t u, t ≤ u → A l t ≤ A l u) ∧ (∀ l t, A l t ≤ 100000) ∧ (∀ l t, 100000 ≤ t → A l t = 100000) ∧ (∀ l t, A l t < 100000 → A l t ≤ 180)
theorem tb_pos {S l : Nat} (h : S.testBit l = true) : 0 < S := by
  cases S with
  | zero => simp at h
  | succ n => omega
/-- the earliest minute at which S has been seen, l the last; st: when one comes to the first -/
def eE (n : Nat) (A D : Nat → Nat → Nat) (st : Nat → Nat) (S l : Nat) : Nat :=
  if h : S.testBit l = true then (if S = 2 ^ l then A l (st l) else minN (fun q => if (S - 2 ^ l).testBit q = true then A l (eE n A D st (S - 2 ^ l) q + D q l) else 100000) n) else 100000
termination_by S
decreasing_by
  have := tb_pos h
  have := Nat.two_pow_pos l
  omega
def gG (n : Nat) (A D : Nat → Nat → Nat) (st : Nat → Nat) (S : Nat) : Nat := minN (eE n A D st S) n
section LAW
variable {n : Nat} {A D : Nat → Nat → Nat}
theorem eE_n {st : Nat → Nat} {S l : Nat} (h : ¬ S.testBit l = true) : eE n A D st S l = 100000 := by
  rw [eE, dif_neg h]
theorem eE_1 {st : Nat → Nat} {l : Nat} : eE n A D st (2 ^ l) l = A l (st l) := by
  rw [eE, dif_pos (Nat.testBit_two_pow_self), if_pos rfl]
theorem eE_s {st : Nat → Nat} {S l : Nat} (h : S.testBit l = true) (h2 : ¬ S = 2 ^ l) : eE n A D st S l = minN (fun q => if (S - 2 ^ l).testBit q = true then A l (eE n A D st (S - 2 ^ l) q + D q l) else 100000) n := by
  rw [eE, dif_pos h, if_neg h2]
/-- a bit taken away -/
theorem tb_sub {S l : Nat} (h : S.testBit l = true) (q : Nat) : (S - 2 ^ l).testBit q = (S.testBit q && !decide (q = l)) := by
  rw [Nat.testBit_eq_decide_div_mod_eq] at h
  have h1 := of_decide_eq_true h
  obtain ⟨u, r, hu, hr, e⟩ : ∃ u r, S / 2 ^ l = 2 * u + 1 ∧ r < 2 ^ l ∧ S = 2 ^ (l + 1) * u + (2 ^ l + r) := by
    refine ⟨S / 2 ^ l / 2, S % 2 ^ l, by omega, Nat.mod_lt _ (Nat.two_pow_pos l), ?_⟩
    have h2 := Nat.div_add_mod S (2 ^ l)
    have h3 : S / 2 ^ l = 2 * (S / 2 ^ l / 2) + 1 := by omega
    rw [Nat.pow_succ, Nat.mul_assoc, ← Nat.add_assoc]
    generalize S / 2 ^ l / 2 = w at h3 ⊢
    rw [h3, Nat.mul_add, Nat.mul_one] at h2
    omega
  have e2 : S - 2 ^ l = 2 ^ (l + 1) * u + r := by omega
  have hp : 2 ^ (l + 1) = 2 ^ l + 2 ^ l := by rw [Nat.pow_succ]; omega
  rw [e2, e, Nat.testBit_two_pow_mul_add _ (by omega), Nat.testBit_two_pow_mul_add _ (by omega)]
  by_cases c : q < l + 1
  · rw [if_pos c, if_pos c]
    by_cases c2 : q = l
    · subst c2
      rw [Nat.testBit_lt_two_pow hr]
      simp
    · rw [Nat.testBit_two_pow_add_gt (by omega)]
      simp [c2]
  · rw [if_neg c, if_neg c]
    have c2 : ¬ q = l := by omega
    simp [c2]
theorem eE_iff (hA : aOK A) {st : Nat → Nat} {S l x : Nat} (hx : x < 100000) (hn : ∀ i, S.testBit i = true → i < n) : eE n A D st S l ≤ x ↔ S.testBit l = true ∧ ((S = 2 ^ l ∧ A l (st l) ≤ x) ∨ (¬ S = 2 ^ l ∧ ∃ q y, (S.testBit q = true ∧ ¬ q = l) ∧ eE n A D st (S - 2 ^ l) q ≤ y ∧ y < 100000 ∧ A l (y + D q l) ≤ x)) := by
  by_cases h : S.testBit l = true
  · by_cases h2 : S = 2 ^ l
    · subst h2
      rw [eE_1]
      simp [h]
    · rw [eE_s h h2, minN_iff _ hx]
      constructor
      · rintro ⟨q, hq, h3⟩
        by_cases h4 : (S - 2 ^ l).testBit q = true
        · rw [if_pos h4] at h3
          rw [tb_sub h, Bool.and_eq_true] at h4
          refine ⟨h, Or.inr ⟨h2, q, eE n A D st (S - 2 ^ l) q, ⟨h4.1, by simpa using h4.2⟩, Nat.le_refl _, ?_, h3⟩⟩
          by_cases h5 : eE n A D st (S - 2 ^ l) q < 100000
          · exact h5
          · have := hA.2.2.1 l (eE n A D st (S - 2 ^ l) q + D q l) (by omega)
            omega
        · rw [if_neg h4] at h3
          omega
      · rintro ⟨_, (⟨h3, _⟩ | ⟨_, q, y, ⟨h3, h4⟩, h5, h6, h7⟩)⟩
        · exact absurd h3 h2
        · refine ⟨q, hn q h3, ?_⟩
          have h8 : (S - 2 ^ l).testBit q = true := by rw [tb_sub h, h3]; simp [h4]
          rw [if_pos h8]
          exact Nat.le_trans (hA.1 l _ _ (by omega)) h7
  · rw [eE_n h]
    constructor
    · intro h3; omega
    · rintro ⟨h3, _⟩; exact absurd h3 h
/-- the first step instead of the last -/
theorem eE_first (hA : aOK A) : ∀ (S : Nat) {st : Nat → Nat} {l x : Nat}, x < 100000 → (∀ i, S.testBit i = true → i < n) → S.testBit l = true → ¬ S = 2 ^ l → (eE n A D st S l ≤ x ↔ ∃ j, (S.testBit j = true ∧ ¬ j = l) ∧ eE n A D (fun q => A j (st j) + D j q) (S - 2 ^ j) l ≤ x) := by
  intro S
  induction S using Nat.strongRecOn with
  | _ S ih =>
    intro st l x hx hn hl hS
    rw [eE_iff hA hx hn]
    have sub : ∀ {j}, S.testBit j = true → ∀ i, (S - 2 ^ j).testBit i = true → i < n := by
      intro j hj i hi
      rw [tb_sub hj, Bool.and_eq_true] at hi
      exact hn i hi.1
    constructor
    · rintro ⟨_, (⟨h3, _⟩ | ⟨_, q, y, ⟨h3, h4⟩, h5, h6, h7⟩)⟩
      · exact absurd h3 hS
      · have hq : (S - 2 ^ l).testBit q = true := by rw [tb_sub hl, h3]; simp [h4]
        by_cases h1 : S - 2 ^ l = 2 ^ q
        · rw [h1, eE_1] at h5
          refine ⟨q, ⟨h3, h4⟩, ?_⟩
          have e1 : S - 2 ^ q = 2 ^ l := by
            have := Nat.two_pow_pos q
            have := Nat.two_pow_pos l
            omega
          rw [e1, eE_1]
          exact Nat.le_trans (hA.1 l _ _ (by omega)) h7
        · have hpos := tb_pos hl
          have hp2 := Nat.two_pow_pos l
          obtain ⟨j, ⟨h8, h9⟩, h10⟩ := (ih (S - 2 ^ l) (by omega) h6 (sub hl) hq h1).mp h5
          rw [tb_sub hl, Bool.and_eq_true] at h8
          have hjl : ¬ j = l := by simpa using h8.2
          refine ⟨j, ⟨h8.1, hjl⟩, ?_⟩
          rw [eE_iff hA hx (sub h8.1)]
          have hl2 : (S - 2 ^ j).testBit l = true := by rw [tb_sub h8.1, hl, decide_eq_false (fun e : l = j => hjl e.symm)]; rfl
          have hq2 : (S - 2 ^ j).testBit q = true := by rw [tb_sub h8.1, h3, decide_eq_false (fun e : q = j => h9 e.symm)]; rfl
          refine ⟨hl2, Or.inr ⟨?_, q, y, ⟨hq2, h4⟩, ?_, h6, h7⟩⟩
          · intro e
            rw [e, Nat.testBit_two_pow] at hq2
            exact h4 (of_decide_eq_true hq2).symm
          · rw [show S - 2 ^ j - 2 ^ l = S - 2 ^ l - 2 ^ j by omega]
            exact h10
    · rintro ⟨j, ⟨h8, h9⟩, h10⟩
      rw [eE_iff hA hx (sub h8)] at h10
      obtain ⟨hl2, h10⟩ := h10
      refine ⟨hl, Or.inr ⟨hS, ?_⟩⟩
      have hj2 : (S - 2 ^ l).testBit j = true := by rw [tb_sub hl, h8]; simp [h9]
      have hpos := tb_pos hl
      have hp2 := Nat.two_pow_pos l
      rcases h10 with ⟨h11, h12⟩ | ⟨h11, q, y, ⟨h12, h13⟩, h14, h15, h16⟩
      · have e1 : S - 2 ^ l = 2 ^ j := by
          have := Nat.two_pow_pos j
          have := Nat.ge_two_pow_of_testBit h8
          have := Nat.ge_two_pow_of_testBit hl
          omega
        refine ⟨j, A j (st j), ⟨h8, h9⟩, ?_, ?_, h12⟩
        · rw [e1, eE_1]
          exact Nat.le_refl _
        · by_cases h5 : A j (st j) < 100000
          · exact h5
          · have := hA.2.2.1 l (A j (st j) + D j l) (by omega)
            omega
      · rw [tb_sub h8, Bool.and_eq_true] at h12
        have hqj : ¬ q = j := by simpa using h12.2
        refine ⟨q, y, ⟨h12.1, h13⟩, ?_, h15, h16⟩
        have hq3 : (S - 2 ^ l).testBit q = true := by rw [tb_sub hl, h12.1]; simp [h13]
        have hne : ¬ S - 2 ^ l = 2 ^ q := by
          intro e
          rw [e, Nat.testBit_two_pow] at hj2
          exact hqj (of_decide_eq_true hj2)
        refine (ih (S - 2 ^ l) (by omega) h15 (sub hl) hq3 hne).mpr ⟨j, ⟨hj2, fun e => hqj e.symm⟩, ?_⟩
        rw [show S - 2 ^ l - 2 ^ j = S - 2 ^ j - 2 ^ l by omega]
        exact h14
/-- .. for the earliest at all -/
theorem gG_first (hA : aOK A) {S : Nat} {st : Nat → Nat} {x : Nat} (hx : x < 100000) (hn : ∀ i, S.testBit i = true → i < n) : gG n A D st S ≤ x ↔ ∃ j, S.testBit j = true ∧ ((S = 2 ^ j ∧ A j (st j) ≤ x) ∨ (¬ S = 2 ^ j ∧ gG n A D (fun q => A j (st j) + D j q) (S - 2 ^ j) ≤ x)) := by
  unfold gG
  rw [minN_iff _ hx]
  constructor
  · rintro ⟨l, hl, h⟩
    have h2 := h
    rw [eE_iff hA hx hn] at h2
    obtain ⟨hb, h2⟩ := h2
    by_cases h1 : S = 2 ^ l
    · subst h1
      rw [eE_1] at h
      exact ⟨l, hb, Or.inl ⟨rfl, h⟩⟩
    · obtain ⟨j, ⟨h3, h4⟩, h5⟩ := (eE_first hA S hx hn hb h1).mp h
      refine ⟨j, h3, Or.inr ⟨?_, ?_⟩⟩
      · intro e
        rw [e, Nat.testBit_two_pow] at hb
        exact h4 (of_decide_eq_true hb)
      · rw [minN_iff _ hx]
        exact ⟨l, hl, h5⟩
  · rintro ⟨j, hj, (⟨h1, h2⟩ | ⟨h1, h2⟩)⟩
    · subst h1
      exact ⟨j, hn j hj, by rw [eE_1]; exact h2⟩
    · rw [minN_iff _ hx] at h2
      obtain ⟨l, hl, h5⟩ := h2
      refine ⟨l, hl, ?_⟩
      have h6 := h5
      rw [eE_iff hA hx (by intro i hi; rw [tb_sub hj, Bool.and_eq_true] at hi; exact hn i hi.1)] at h6
      have hb := h6.1
      rw [tb_sub hj, Bool.and_eq_true] at hb
      have hlj : ¬ l = j := by simpa using hb.2
      refine (eE_first hA S hx hn hb.1 ?_).mpr ⟨j, ⟨hj, fun e => hlj e.symm⟩, h5⟩
      intro e
      rw [e, Nat.testBit_two_pow] at hj
      exact hlj (of_decide_eq_true hj)
end LAW
