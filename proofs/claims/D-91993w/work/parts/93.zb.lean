set_option maxRecDepth 100000
/-! rounds: places, arriving, rows (no program in sight) -/
/-- a loop with an invariant over what it scribbles on -/
theorem zl_inv {α : Type} {P : Nat → α → Prop} {I : Nat → α → Prop} (N : Nat) (hend : ∀ x, I N x → P N x) (hstep : ∀ k x, k < N → I k x → (∀ y, I (k + 1) y → P (k + 1) y) → P k x) : ∀ k x, k ≤ N → I k x → P k x := by
  have : ∀ m k x, k + m = N → I k x → P k x := by
    intro m
    induction m with
    | zero => intro k x h hi; have e : k = N := by omega
              subst e; exact hend x hi
    | succ m ih =>
      intro k x h hi
      exact hstep k x (by omega) hi (fun y hy => ih (k + 1) y (by omega) hy)
  intro k x h hi
  exact this (N - k) k x (by omega) hi
def dAbs (x y : Nat) : Nat := if x ≤ y then y - x else x - y
def dD (v : Nat → Nat) (p h : Nat) : Nat := dAbs (v (10 + 9 * p)) (v (10 + 9 * h)) + dAbs (v (10 + 9 * p + 1)) (v (10 + 9 * h + 1))
/-- when h has been seen, if one comes at t; 100000: never -/
def aA (v : Nat → Nat) (c : Bool) (dy h t : Nat) : Nat :=
  if c = true then (if dy % 7 = v (10 + 9 * h + 3) then (if max t (v (10 + 9 * h + 4)) + 15 ≤ min (v (10 + 9 * h + 5)) 180 then max t (v (10 + 9 * h + 4)) + 15 else 100000) else 100000) else (if t ≤ 180 then t else 100000)
/-- as the model says it -/
def eM (x : Nat) : Int32 := if x < 100000 then nI x else -1
theorem aA_F {v : Nat → Nat} {c : Bool} {dy h t : Nat} : aA v c dy h t ≤ 180 ∨ aA v c dy h t = 100000 := by
  unfold aA
  split
  · split
    · split
      · left; omega
      · right; rfl
    · right; rfl
  · split
    · left; assumption
    · right; rfl
theorem aA_ge {v : Nat → Nat} {c : Bool} {dy h t : Nat} (k : 100000 ≤ t) : aA v c dy h t = 100000 := by
  unfold aA
  split
  · split
    · rw [if_neg (by omega)]
    · rfl
  · rw [if_neg (by omega)]
theorem aA_mono {v : Nat → Nat} {c : Bool} {dy h t u : Nat} (k : t ≤ u) : aA v c dy h t ≤ aA v c dy h u := by
  unfold aA
  by_cases h1 : c = true
  · rw [if_pos h1, if_pos h1]
    by_cases h2 : dy % 7 = v (10 + 9 * h + 3)
    · rw [if_pos h2, if_pos h2]
      split <;> split <;> omega
    · rw [if_neg h2, if_neg h2]
      exact Nat.le_refl _
  · rw [if_neg h1, if_neg h1]
    split <;> split <;> omega
/-- the latest minute at which one may set out -/
def aB (v : Nat → Nat) (c : Bool) (dy h o f : Nat) : Int :=
  if c = true then (if dy % 7 = v (10 + 9 * h + 3) then (if min o (min (v (10 + 9 * h + 5)) 180) < v (10 + 9 * h + 4) + 15 then -1 else ((min o (min (v (10 + 9 * h + 5)) 180) : Nat) : Int) - 15 - (f : Int)) else -1) else ((min o 180 : Nat) : Int) - (f : Int)
theorem aA_iff {v : Nat → Nat} {c : Bool} {dy h t f o : Nat} (ho : o < 100000) : aA v c dy h (t + f) ≤ o ↔ (t : Int) ≤ aB v c dy h o f := by
  unfold aA aB
  by_cases h1 : c = true
  · rw [if_pos h1, if_pos h1]
    by_cases h2 : dy % 7 = v (10 + 9 * h + 3)
    · rw [if_pos h2, if_pos h2]
      split <;> split <;> omega
    · rw [if_neg h2, if_neg h2]
      omega
  · rw [if_neg h1, if_neg h1]
    split <;> omega
theorem aB_le {v : Nat → Nat} {c : Bool} {dy h f o : Nat} (ho : o ≤ 180) : aB v c dy h o f ≤ 180 := by
  unfold aB
  split
  · split
    · split <;> omega
    · omega
  · omega
section RL
variable {v : Nat → Nat} {c : Nat → Bool} {dy : Nat} {hs : Nat → Nat} {n : Nat}
def rA (v : Nat → Nat) (c : Nat → Bool) (dy : Nat) (hs : Nat → Nat) (l t : Nat) : Nat := aA v (c (hs l)) dy (hs l) t
def rD (v : Nat → Nat) (hs : Nat → Nat) (q l : Nat) : Nat := dD v (hs q) (hs l)
theorem rA_OK : aOK (rA v c dy hs) := by
  refine ⟨fun l t u h => aA_mono h, fun l t => ?_, fun l t h => aA_ge h, fun l t h => ?_⟩
  · rcases aA_F (v := v) (c := c (hs l)) (dy := dy) (h := hs l) (t := t) with e | e
    · exact Nat.le_trans e (by omega)
    · exact Nat.le_of_eq e
  · rcases aA_F (v := v) (c := c (hs l)) (dy := dy) (h := hs l) (t := t) with e | e
    · exact e
    · exact absurd e (by have : rA v c dy hs l t < 100000 := h
                         unfold rA at this; omega)
/-- the earliest minute at which all of R have been seen, if one sets out from the house p at t -/
def gP (v : Nat → Nat) (c : Nat → Bool) (dy : Nat) (hs : Nat → Nat) (n p t R : Nat) : Nat := if R = 0 then t else gG n (rA v c dy hs) (rD v hs) (fun q => t + dD v p (hs q)) R
theorem gP_0 {p t : Nat} : gP v c dy hs n p t 0 = t := if_pos rfl
theorem gP_n {p t R : Nat} (h : ¬ R = 0) : gP v c dy hs n p t R = gG n (rA v c dy hs) (rD v hs) (fun q => t + dD v p (hs q)) R := if_neg h
theorem gP_first {p t R x : Nat} (hx : x < 100000) (hn : ∀ i, R.testBit i = true → i < n) (hR : ¬ R = 0) : gP v c dy hs n p t R ≤ x ↔ ∃ j, R.testBit j = true ∧ gP v c dy hs n (hs j) (rA v c dy hs j (t + dD v p (hs j))) (R - 2 ^ j) ≤ x := by
  rw [gP_n hR, gG_first rA_OK hx hn]
  constructor
  · rintro ⟨j, hj, (⟨h1, h2⟩ | ⟨h1, h2⟩)⟩
    · refine ⟨j, hj, ?_⟩
      rw [h1, Nat.sub_self, gP_0]
      exact h2
    · refine ⟨j, hj, ?_⟩
      have := Nat.ge_two_pow_of_testBit hj
      rw [gP_n (by omega)]
      exact h2
  · rintro ⟨j, hj, h⟩
    by_cases h1 : R = 2 ^ j
    · rw [h1, Nat.sub_self, gP_0] at h
      exact ⟨j, hj, Or.inl ⟨h1, h⟩⟩
    · have := Nat.ge_two_pow_of_testBit hj
      rw [gP_n (by omega)] at h
      exact ⟨j, hj, Or.inr ⟨h1, h⟩⟩
theorem gG_le {A D : Nat → Nat → Nat} {st : Nat → Nat} {S : Nat} : gG n A D st S ≤ 100000 := minN_F _ _
theorem eE_F {A D : Nat → Nat → Nat} (hA : aOK A) {st : Nat → Nat} {S l : Nat} : eE n A D st S l ≤ 100000 := by
  by_cases h : S.testBit l = true
  · by_cases h2 : S = 2 ^ l
    · subst h2; rw [eE_1]; exact hA.2.1 _ _
    · rw [eE_s h h2]; exact minN_F _ _
  · rw [eE_n h]; exact Nat.le_refl _
theorem minN_180 {f : Nat → Nat} : ∀ n, (∀ k, k < n → f k < 100000 → f k ≤ 180) → minN f n < 100000 → minN f n ≤ 180
  | 0, _, h => absurd h (Nat.lt_irrefl _)
  | n + 1, hf, h => by
    unfold minN at h ⊢
    have h1 := minN_180 n (fun k hk => hf k (by omega))
    have h2 := hf n (by omega)
    omega
theorem eE_180 {A D : Nat → Nat → Nat} (hA : aOK A) {st : Nat → Nat} {S l : Nat} (h : eE n A D st S l < 100000) : eE n A D st S l ≤ 180 := by
  by_cases h1 : S.testBit l = true
  · by_cases h2 : S = 2 ^ l
    · subst h2; rw [eE_1] at h ⊢; exact hA.2.2.2 _ _ h
    · rw [eE_s h1 h2] at h ⊢
      refine minN_180 n (fun k hk hlt => ?_) h
      split at hlt
      · rename_i h3
        rw [if_pos h3]
        exact hA.2.2.2 _ _ hlt
      · exact absurd hlt (Nat.lt_irrefl _)
  · rw [eE_n h1] at h; exact absurd h (Nat.lt_irrefl _)
theorem gG_180 {A D : Nat → Nat → Nat} (hA : aOK A) {st : Nat → Nat} {S : Nat} (h : gG n A D st S < 100000) : gG n A D st S ≤ 180 := minN_180 n (fun k _ hlt => eE_180 hA hlt) h
/-- who sets out too late is never there -/
theorem eE_late {A D : Nat → Nat → Nat} (hA : aOK A) : ∀ (S : Nat) {st : Nat → Nat} {l : Nat}, (∀ q, 100000 ≤ st q) → eE n A D st S l = 100000 := by
  intro S
  induction S using Nat.strongRecOn with
  | _ S ih =>
    intro st l hst
    by_cases h : S.testBit l = true
    · by_cases h2 : S = 2 ^ l
      · subst h2; rw [eE_1]; exact hA.2.2.1 _ _ (hst l)
      · rw [eE_s h h2]
        have hp := tb_pos h
        have hp2 := Nat.two_pow_pos l
        have key : ∀ m, minN (fun q => if (S - 2 ^ l).testBit q = true then A l (eE n A D st (S - 2 ^ l) q + D q l) else 100000) m = 100000 := by
          intro m
          induction m with
          | zero => rfl
          | succ m ihm =>
            unfold minN
            rw [ihm]
            have e : (if (S - 2 ^ l).testBit m = true then A l (eE n A D st (S - 2 ^ l) m + D m l) else 100000) = 100000 := by
              split
              · rw [ih (S - 2 ^ l) (by omega) hst]
                exact hA.2.2.1 _ _ (by omega)
              · rfl
            rw [e]
            omega
        exact key n
    · exact eE_n h
theorem minN_100 {f : Nat → Nat} : ∀ n, (∀ k, k < n → f k = 100000) → minN f n = 100000
  | 0, _ => rfl
  | n + 1, h => by
    unfold minN
    rw [minN_100 n (fun k hk => h k (by omega)), h n (by omega)]
    omega
theorem gP_late {p t R : Nat} (ht : 100000 ≤ t) : 100000 ≤ gP v c dy hs n p t R := by
  unfold gP
  split
  · exact ht
  · exact Nat.le_of_eq (minN_100 n (fun k _ => eE_late rA_OK R (fun q => by omega))).symm
/-- the next house of a row that is over at bo -/
def rNx (v : Nat → Nat) (c : Nat → Bool) (dy : Nat) (hs : Nat → Nat) (n bo p t R : Nat) : Nat := findN (fun j => R.testBit j && decide (gP v c dy hs n (hs j) (rA v c dy hs j (t + dD v p (hs j))) (R - 2 ^ j) ≤ bo)) n
/-- where one is, when, what is left -/
def rSt (v : Nat → Nat) (c : Nat → Bool) (dy : Nat) (hs : Nat → Nat) (n bo p A : Nat) : Nat → Nat × Nat × Nat
  | 0 => (p, 0, A)
  | i + 1 => (hs (rNx v c dy hs n bo (rSt v c dy hs n bo p A i).1 (rSt v c dy hs n bo p A i).2.1 (rSt v c dy hs n bo p A i).2.2), rA v c dy hs (rNx v c dy hs n bo (rSt v c dy hs n bo p A i).1 (rSt v c dy hs n bo p A i).2.1 (rSt v c dy hs n bo p A i).2.2) ((rSt v c dy hs n bo p A i).2.1 + dD v (rSt v c dy hs n bo p A i).1 (hs (rNx v c dy hs n bo (rSt v c dy hs n bo p A i).1 (rSt v c dy hs n bo p A i).2.1 (rSt v c dy hs n bo p A i).2.2))), (rSt v c dy hs n bo p A i).2.2 - 2 ^ rNx v c dy hs n bo (rSt v c dy hs n bo p A i).1 (rSt v c dy hs n bo p A i).2.1 (rSt v c dy hs n bo p A i).2.2)
def rNi (v : Nat → Nat) (c : Nat → Bool) (dy : Nat) (hs : Nat → Nat) (n bo p A i : Nat) : Nat := rNx v c dy hs n bo (rSt v c dy hs n bo p A i).1 (rSt v c dy hs n bo p A i).2.1 (rSt v c dy hs n bo p A i).2.2
/-- the row -/
def rRow (v : Nat → Nat) (c : Nat → Bool) (dy : Nat) (hs : Nat → Nat) (n bo p A i : Nat) : Nat := hs (rNi v c dy hs n bo p A i)
def cntB (R n : Nat) : Nat := cntN (fun k => R.testBit k) n
theorem cntB_0 : ∀ n, cntB 0 n = 0
  | 0 => rfl
  | n + 1 => by
    have := cntB_0 n
    unfold cntB at this ⊢
    unfold cntN
    rw [this, Nat.zero_testBit]
    rfl
theorem cntB_pos {R : Nat} : ∀ {n : Nat}, (∃ i, i < n ∧ R.testBit i = true) → 0 < cntB R n
  | 0, ⟨i, h, _⟩ => absurd h (by omega)
  | n + 1, ⟨i, h, h2⟩ => by
    unfold cntB cntN
    by_cases e : i = n
    · subst e; rw [h2, if_pos rfl]; omega
    · have := cntB_pos (n := n) ⟨i, by omega, h2⟩
      unfold cntB at this
      omega
theorem cntB_sub {R j : Nat} (hj : R.testBit j = true) : ∀ {n : Nat}, (n ≤ j → cntB (R - 2 ^ j) n = cntB R n) ∧ (j < n → cntB (R - 2 ^ j) n + 1 = cntB R n)
  | 0 => ⟨fun _ => rfl, fun h => absurd h (by omega)⟩
  | n + 1 => by
    obtain ⟨h1, h2⟩ := cntB_sub hj (n := n)
    unfold cntB at h1 h2 ⊢
    unfold cntN
    rw [tb_sub hj]
    constructor
    · intro h
      rw [h1 (by omega), decide_eq_false (show ¬ n = j by omega), Bool.not_false, Bool.and_true]
    · intro h
      by_cases e : n = j
      · subst e
        rw [h1 (Nat.le_refl _), hj]
        simp
      · rw [decide_eq_false e, Bool.not_false, Bool.and_true]
        have := h2 (by omega)
        omega
theorem ne0_tb {R : Nat} (h : ¬ R = 0) : ∃ i, R.testBit i = true := Nat.exists_testBit_of_ne_zero h
theorem findN_t {q : Nat → Bool} {n : Nat} (h : ∃ j, j < n ∧ q j = true) : findN q n < n ∧ q (findN q n) = true ∧ ∀ j, j < findN q n → q j = false := by
  have key : ∀ m k, (∃ j, k ≤ j ∧ j < k + m ∧ q j = true) → findF q m k < k + m ∧ ∀ j, k ≤ j → j < findF q m k → q j = false := by
    intro m
    induction m with
    | zero => rintro k ⟨j, h1, h2, _⟩; omega
    | succ m ih =>
      rintro k ⟨j, h1, h2, h3⟩
      unfold findF
      by_cases hq : q k = true
      · rw [if_pos hq]
        exact ⟨by omega, fun j a b => by omega⟩
      · rw [if_neg hq]
        have hne : ¬ j = k := fun e => hq (by rw [← e]; exact h3)
        obtain ⟨i1, i2⟩ := ih (k + 1) ⟨j, by omega, by omega, h3⟩
        refine ⟨by omega, fun j a b => ?_⟩
        by_cases e : j = k
        · subst e; cases hh : q j with
          | true => exact absurd hh hq
          | false => rfl
        · exact i2 j (by omega) b
  obtain ⟨j, h1, h2⟩ := h
  obtain ⟨k1, k2⟩ := key n 0 ⟨j, by omega, by omega, h2⟩
  unfold findN
  exact ⟨by omega, findF_t q n 0 k1, fun j hj => k2 j (by omega) hj⟩
theorem rNx_ok {bo p t R : Nat} (hb : bo < 100000) (hn : ∀ i, R.testBit i = true → i < n) (hR : ¬ R = 0) (hg : gP v c dy hs n p t R = bo) :
    rNx v c dy hs n bo p t R < n ∧ R.testBit (rNx v c dy hs n bo p t R) = true ∧ gP v c dy hs n (hs (rNx v c dy hs n bo p t R)) (rA v c dy hs (rNx v c dy hs n bo p t R) (t + dD v p (hs (rNx v c dy hs n bo p t R)))) (R - 2 ^ rNx v c dy hs n bo p t R) = bo ∧ rA v c dy hs (rNx v c dy hs n bo p t R) (t + dD v p (hs (rNx v c dy hs n bo p t R))) ≤ 180 ∧
    ∀ j, j < rNx v c dy hs n bo p t R → R.testBit j = true → ¬ gP v c dy hs n (hs j) (rA v c dy hs j (t + dD v p (hs j))) (R - 2 ^ j) ≤ bo := by
  obtain ⟨j, hj, h1⟩ := (gP_first hb hn hR).mp (Nat.le_of_eq hg)
  obtain ⟨f1, f2, f3⟩ := findN_t (q := fun j => R.testBit j && decide (gP v c dy hs n (hs j) (rA v c dy hs j (t + dD v p (hs j))) (R - 2 ^ j) ≤ bo)) (n := n) ⟨j, hn j hj, by rw [hj, decide_eq_true h1]; rfl⟩
  rw [Bool.and_eq_true, decide_eq_true_iff] at f2
  obtain ⟨f2, f4⟩ := f2
  have f5 : bo ≤ gP v c dy hs n (hs (rNx v c dy hs n bo p t R)) (rA v c dy hs (rNx v c dy hs n bo p t R) (t + dD v p (hs (rNx v c dy hs n bo p t R)))) (R - 2 ^ rNx v c dy hs n bo p t R) := by
    have f4' : gP v c dy hs n (hs (rNx v c dy hs n bo p t R)) (rA v c dy hs (rNx v c dy hs n bo p t R) (t + dD v p (hs (rNx v c dy hs n bo p t R)))) (R - 2 ^ rNx v c dy hs n bo p t R) ≤ bo := f4
    have := (gP_first (p := p) (t := t) (Nat.lt_of_le_of_lt f4' hb) hn hR).mpr ⟨rNx v c dy hs n bo p t R, f2, Nat.le_refl _⟩
    omega
  refine ⟨f1, f2, Nat.le_antisymm f4 f5, ?_, ?_⟩
  · rcases aA_F (v := v) (c := c (hs (rNx v c dy hs n bo p t R))) (dy := dy) (h := hs (rNx v c dy hs n bo p t R)) (t := t + dD v p (hs (rNx v c dy hs n bo p t R))) with e | e
    · exact e
    · exfalso
      have e2 : rA v c dy hs (rNx v c dy hs n bo p t R) (t + dD v p (hs (rNx v c dy hs n bo p t R))) = 100000 := e
      have f6 : gP v c dy hs n (hs (rNx v c dy hs n bo p t R)) (rA v c dy hs (rNx v c dy hs n bo p t R) (t + dD v p (hs (rNx v c dy hs n bo p t R)))) (R - 2 ^ rNx v c dy hs n bo p t R) ≤ bo := f4
      rw [e2] at f6
      have f7 := gP_late (v := v) (c := c) (dy := dy) (hs := hs) (n := n) (p := hs (rNx v c dy hs n bo p t R)) (t := 100000) (R := R - 2 ^ rNx v c dy hs n bo p t R) (Nat.le_refl _)
      omega
  · intro j hj hb2 hle
    have := f3 j hj
    rw [hb2, decide_eq_true hle] at this
    exact absurd this (by decide)
theorem rSt_ok {bo p A : Nat} (hb : bo < 100000) (hn : ∀ i, A.testBit i = true → i < n) (hg : gP v c dy hs n p 0 A = bo) : ∀ i, i ≤ cntB A n →
    cntB (rSt v c dy hs n bo p A i).2.2 n + i = cntB A n ∧ gP v c dy hs n (rSt v c dy hs n bo p A i).1 (rSt v c dy hs n bo p A i).2.1 (rSt v c dy hs n bo p A i).2.2 = bo ∧ (∀ k, (rSt v c dy hs n bo p A i).2.2.testBit k = true → A.testBit k = true) ∧ (rSt v c dy hs n bo p A i).2.1 ≤ 180 ∧ (i < cntB A n → ¬ (rSt v c dy hs n bo p A i).2.2 = 0) ∧ (i = cntB A n → (rSt v c dy hs n bo p A i).2.2 = 0)
  | 0, _ => by
    refine ⟨rfl, hg, fun k h => h, Nat.zero_le _, fun h e => ?_, fun h => ?_⟩
    · have e2 : A = 0 := e
      rw [e2, cntB_0] at h
      exact absurd h (by omega)
    · by_cases e : A = 0
      · exact e
      · obtain ⟨i, hi⟩ := ne0_tb e
        have := cntB_pos (n := n) ⟨i, hn i hi, hi⟩
        omega
  | i + 1, hi => by
    obtain ⟨h1, h2, h3, h4, h5, h6⟩ := rSt_ok hb hn hg i (by omega)
    have hn2 : ∀ k, (rSt v c dy hs n bo p A i).2.2.testBit k = true → k < n := fun k hk => hn k (h3 k hk)
    obtain ⟨g1, g2, g3, g4, g5⟩ := rNx_ok hb hn2 (h5 (by omega)) h2
    unfold rSt
    dsimp only
    have hc := (cntB_sub g2 (n := n)).2 g1
    have hsub : ∀ k, ((rSt v c dy hs n bo p A i).2.2 - 2 ^ rNx v c dy hs n bo (rSt v c dy hs n bo p A i).1 (rSt v c dy hs n bo p A i).2.1 (rSt v c dy hs n bo p A i).2.2).testBit k = true → A.testBit k = true := by
      intro k hk
      rw [tb_sub g2, Bool.and_eq_true] at hk
      exact h3 k hk.1
    refine ⟨by omega, g3, hsub, g4, fun h e => ?_, fun h => ?_⟩
    · rw [e, cntB_0] at hc
      omega
    · by_cases e : (rSt v c dy hs n bo p A i).2.2 - 2 ^ rNx v c dy hs n bo (rSt v c dy hs n bo p A i).1 (rSt v c dy hs n bo p A i).2.1 (rSt v c dy hs n bo p A i).2.2 = 0
      · exact e
      · obtain ⟨k, hk⟩ := ne0_tb e
        have := cntB_pos (n := n) ⟨k, hn k (hsub k hk), hk⟩
        omega
end RL
/-! the best set -/
def wSet (v : Nat → Nat) (a : Int32) (hs : Nat → Nat) (S : Nat) : Nat → Nat
  | 0 => 0
  | k + 1 => wSet v a hs S k + (if S.testBit k = true then sWorth v a (nI (hs k)) (v 7) else 0)
/-- mask, over, worth -/
def bSt (v : Nat → Nat) (a : Int32) (c : Nat → Bool) (dy : Nat) (hs : Nat → Nat) (n p : Nat) : Nat → Nat × Nat × Nat
  | 0 => (0, 0, 0)
  | S + 1 => if gG n (rA v c dy hs) (rD v hs) (fun q => 0 + dD v p (hs q)) S < 100000 ∧ ((bSt v a c dy hs n p S).2.2 < wSet v a hs S n ∨ (wSet v a hs S n = (bSt v a c dy hs n p S).2.2 ∧ gG n (rA v c dy hs) (rD v hs) (fun q => 0 + dD v p (hs q)) S < (bSt v a c dy hs n p S).2.1)) then (S, gG n (rA v c dy hs) (rD v hs) (fun q => 0 + dD v p (hs q)) S, wSet v a hs S n) else bSt v a c dy hs n p S
section BB
variable {v : Nat → Nat} {a : Int32} {c : Nat → Bool} {dy : Nat} {hs : Nat → Nat} {n p : Nat}
theorem gG_0 {A D : Nat → Nat → Nat} {st : Nat → Nat} : gG n A D st 0 = 100000 := minN_100 n (fun k _ => eE_n (by simp))
theorem bSt_1 : bSt v a c dy hs n p 1 = (0, 0, 0) := by
  show (if _ then _ else _) = _
  rw [gG_0, if_neg (by omega)]
  rfl
theorem bSt_ok : ∀ S, (bSt v a c dy hs n p S).1 = 0 ∧ (bSt v a c dy hs n p S).2.1 = 0 ∨ ((bSt v a c dy hs n p S).1 < S ∧ 0 < (bSt v a c dy hs n p S).1 ∧ (bSt v a c dy hs n p S).2.1 = gG n (rA v c dy hs) (rD v hs) (fun q => 0 + dD v p (hs q)) (bSt v a c dy hs n p S).1 ∧ (bSt v a c dy hs n p S).2.1 < 100000)
  | 0 => Or.inl ⟨rfl, rfl⟩
  | S + 1 => by
    unfold bSt
    split
    · rename_i h
      refine Or.inr ⟨by dsimp only; omega, ?_, rfl, h.1⟩
      by_cases e : S = 0
      · subst e
        rw [gG_0] at h
        exact absurd h.1 (by omega)
      · dsimp only; omega
    · rcases bSt_ok S with h | ⟨h1, h2⟩
      · exact Or.inl h
      · exact Or.inr ⟨by omega, h2⟩
theorem bSt_gP {S : Nat} : gP v c dy hs n p 0 (bSt v a c dy hs n p S).1 = (bSt v a c dy hs n p S).2.1 ∧ (bSt v a c dy hs n p S).2.1 < 100000 := by
  rcases bSt_ok (v := v) (a := a) (c := c) (dy := dy) (hs := hs) (n := n) (p := p) S with ⟨h1, h2⟩ | ⟨h1, h2, h3, h4⟩
  · rw [h1, h2, gP_0]; exact ⟨rfl, by omega⟩
  · rw [gP_n (by omega)]; exact ⟨h3.symm, h4⟩
theorem wSet_le (hw : ∀ h, sWorth v a (nI h) (v 7) ≤ 4000) {S : Nat} : ∀ k, wSet v a hs S k ≤ 4000 * k
  | 0 => Nat.le_refl _
  | k + 1 => by
    have := wSet_le hw (S := S) k
    have := hw (hs k)
    unfold wSet
    split <;> omega
theorem bSt_w (hw : ∀ h, sWorth v a (nI h) (v 7) ≤ 4000) : ∀ S, (bSt v a c dy hs n p S).2.2 ≤ 4000 * n
  | 0 => Nat.zero_le _
  | S + 1 => by
    unfold bSt
    split
    · exact wSet_le hw n
    · exact bSt_w hw S
end BB
/-! sets of houses by their numbers: the greater set has the greater bits -/
def bitsN (hs : Nat → Nat) (S : Nat) : Nat → Nat
  | 0 => 0
  | k + 1 => bitsN hs S k + (if S.testBit k = true then 2 ^ hs k else 0)
theorem bitsN_lt {hs : Nat → Nat} {S : Nat} : ∀ n, (∀ i j, i < j → j < n → hs i < hs j) → ∀ m, (∀ i, i < n → hs i < m) → bitsN hs S n < 2 ^ m
  | 0, _, m, _ => Nat.two_pow_pos m
  | n + 1, hi, m, hm => by
    have h1 := bitsN_lt (S := S) n (fun i j a b => hi i j a (by omega)) (hs n) (fun i h => hi i n h (by omega))
    have h2 : 2 ^ (hs n + 1) ≤ 2 ^ m := Nat.pow_le_pow_right (by omega) (hm n (by omega))
    rw [Nat.pow_succ] at h2
    unfold bitsN
    split <;> omega
theorem bitsN_mod {hs : Nat → Nat} {S : Nat} : ∀ n m, n ≤ m → bitsN hs (S % 2 ^ m) n = bitsN hs S n
  | 0, m, _ => rfl
  | n + 1, m, h => by
    unfold bitsN
    rw [bitsN_mod n m (by omega), Nat.testBit_mod_two_pow, decide_eq_true (show n < m by omega), Bool.true_and]
theorem top_bit {S n : Nat} (h : S < 2 ^ (n + 1)) : S = S % 2 ^ n + (if S.testBit n = true then 2 ^ n else 0) := by
  have hd := Nat.div_add_mod S (2 ^ n)
  have hp := Nat.two_pow_pos n
  rw [Nat.pow_succ] at h
  have hq : S / 2 ^ n < 2 := Nat.div_lt_of_lt_mul (by omega)
  rw [Nat.testBit_eq_decide_div_mod_eq]
  generalize S / 2 ^ n = q at hd hq ⊢
  generalize S % 2 ^ n = r at hd ⊢
  rcases (show q = 0 ∨ q = 1 by omega) with e | e
  · subst e
    simp at hd ⊢
    omega
  · subst e
    simp at hd ⊢
    omega
theorem bitsN_mono {hs : Nat → Nat} : ∀ n, (∀ i j, i < j → j < n → hs i < hs j) → ∀ S T, S < T → T < 2 ^ n → bitsN hs S n < bitsN hs T n
  | 0, _, S, T, h, h2 => by rw [Nat.pow_zero] at h2; omega
  | n + 1, hi, S, T, h, h2 => by
    have hS := top_bit (show S < 2 ^ (n + 1) by omega)
    have hT := top_bit h2
    have l1 := bitsN_lt (S := S) n (fun i j a b => hi i j a (by omega)) (hs n) (fun i h => hi i n h (by omega))
    have m1 := Nat.mod_lt S (Nat.two_pow_pos n)
    have m2 := Nat.mod_lt T (Nat.two_pow_pos n)
    have ih := bitsN_mono n (fun i j a b => hi i j a (by omega)) (S % 2 ^ n) (T % 2 ^ n)
    rw [bitsN_mod n n (Nat.le_refl _), bitsN_mod n n (Nat.le_refl _)] at ih
    unfold bitsN
    by_cases b1 : S.testBit n = true
    · rw [if_pos b1] at hS ⊢
      by_cases b2 : T.testBit n = true
      · rw [if_pos b2] at hT ⊢
        have := ih (by omega) m2
        omega
      · rw [if_neg b2] at hT ⊢
        omega
    · rw [if_neg b1] at hS ⊢
      by_cases b2 : T.testBit n = true
      · rw [if_pos b2] at hT ⊢
        omega
      · rw [if_neg b2] at hT ⊢
        have := ih (by omega) m2
        omega
/-! to whom one owes -/
def owL (v : Nat → Nat) (a : Int32) : Nat → List Nat
  | 0 => []
  | h + 1 => if (owL v a h).length < 10 ∧ 0 < sWorth v a (nI h) (v 7) then owL v a h ++ [h] else owL v a h
theorem owL_len {v : Nat → Nat} {a : Int32} : ∀ h, (owL v a h).length ≤ 10 ∧ (owL v a h).length ≤ h
  | 0 => ⟨Nat.zero_le _, Nat.le_refl _⟩
  | h + 1 => by
    have := owL_len (v := v) (a := a) h
    unfold owL
    split
    · rw [List.length_append, List.length_singleton]; omega
    · omega
def hsL (l : List Nat) (k : Nat) : Nat := l.getD k 0
theorem hsL_app {l : List Nat} {x k : Nat} : hsL (l ++ [x]) k = if k < l.length then hsL l k else if k = l.length then x else 0 := by
  unfold hsL
  simp only [List.getD_eq_getElem?_getD, List.getElem?_append]
  split
  · rfl
  · split
    · rename_i h; subst h; simp
    · rw [List.getElem?_eq_none (by simp; omega)]; rfl
theorem owL_lt {v : Nat → Nat} {a : Int32} : ∀ h k, k < (owL v a h).length → hsL (owL v a h) k < h
  | 0, k, hk => absurd hk (by simp [owL])
  | h + 1, k, hk => by
    unfold owL at hk ⊢
    split at hk
    · rename_i hc
      rw [if_pos hc, hsL_app]
      split
      · rename_i h1
        have := owL_lt h k h1
        omega
      · split <;> omega
    · rename_i hc
      rw [if_neg hc]
      have := owL_lt h k hk
      omega
theorem owL_inc {v : Nat → Nat} {a : Int32} : ∀ h i j, i < j → j < (owL v a h).length → hsL (owL v a h) i < hsL (owL v a h) j
  | 0, i, j, _, hj => absurd hj (by simp [owL])
  | h + 1, i, j, hi, hj => by
    unfold owL at hj ⊢
    split at hj
    · rename_i hc
      rw [if_pos hc, hsL_app, hsL_app]
      rw [List.length_append, List.length_singleton] at hj
      rw [if_pos (show i < (owL v a h).length by omega)]
      split
      · rename_i h1
        exact owL_inc h i j hi h1
      · rw [if_pos (by omega)]
        exact owL_lt h i (by omega)
    · rename_i hc
      rw [if_neg hc]
      exact owL_inc h i j hi hj
theorem owL_full {v : Nat → Nat} {a : Int32} {h : Nat} (hl : (owL v a h).length = 10) : ∀ m, owL v a (h + m) = owL v a h
  | 0 => rfl
  | m + 1 => by
    have e : owL v a (h + (m + 1)) = if (owL v a (h + m)).length < 10 ∧ 0 < sWorth v a (nI (h + m)) (v 7) then owL v a (h + m) ++ [h + m] else owL v a (h + m) := rfl
    rw [e, owL_full hl m, if_neg (by omega)]
theorem owL_none {v : Nat → Nat} {a : Int32} {h : Nat} : ∀ m, (∀ k, h ≤ k → k < h + m → sWorth v a (nI k) (v 7) = 0) → owL v a (h + m) = owL v a h
  | 0, _ => rfl
  | m + 1, hz => by
    have ih := owL_none m (fun k a b => hz k a (by omega))
    have e : owL v a (h + (m + 1)) = if (owL v a (h + m)).length < 10 ∧ 0 < sWorth v a (nI (h + m)) (v 7) then owL v a (h + m) ++ [h + m] else owL v a (h + m) := rfl
    rw [e, hz (h + m) (by omega) (by omega), if_neg (by omega), ih]
