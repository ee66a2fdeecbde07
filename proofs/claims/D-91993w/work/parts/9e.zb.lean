set_option maxRecDepth 100000
/-! calls until a house is known: numbers -/
def mcW (v : Nat → Nat) (a S w : Nat) : Bool := (!decide (w = a) && !S.testBit w) && (decide (v (10 + 9 * w + 6) ≤ v 6) && decide (v 5 ≤ cntB (S &&& v (1864 + w)) 16))
theorem mcW_tb {v : Nat → Nat} {a S w : Nat} (h : mcW v a S w = true) : S.testBit w = false := by
  unfold mcW at h
  rw [Bool.and_eq_true, Bool.and_eq_true] at h
  have := h.1.2
  simpa using this
theorem or_gt {S w : Nat} (h : S.testBit w = false) : S < S ||| 2 ^ w := by
  rw [or_add2 h]
  have := Nat.two_pow_pos w
  omega
def dW (v : Nat → Nat) (a b S : Nat) : Nat :=
  if S.testBit b = true then 0 else if S < 65536 then minN (fun w => if h : mcW v a S w = true ∧ S < 65536 then 1 + dW v a b (S ||| 2 ^ w) else 100000) (v 0) else 100000
termination_by 65536 - S
decreasing_by
  have := or_gt (mcW_tb h.1)
  have := h.2
  omega
section DW
variable {v : Nat → Nat} {a b : Nat}
theorem dW_b {S : Nat} (h : S.testBit b = true) : dW v a b S = 0 := by rw [dW, if_pos h]
theorem dW_s {S : Nat} (h : S.testBit b = false) (hS : S < 65536) : dW v a b S = minN (fun w => if mcW v a S w = true then 1 + dW v a b (S ||| 2 ^ w) else 100000) (v 0) := by
  rw [dW, if_neg (by rw [h]; decide), if_pos hS]
  refine minN_c _ (fun w _ => ?_)
  by_cases c : mcW v a S w = true
  · rw [dif_pos ⟨c, hS⟩, if_pos c]
  · rw [dif_neg (fun q => c q.1), if_neg c]
theorem dW_F {S : Nat} : dW v a b S ≤ 100000 := by
  rw [dW]
  split
  · omega
  · split
    · exact minN_F _ _
    · omega
theorem or16 {S w n : Nat} (hS : S < 65536) (hn : n ≤ 16) (hw : w < n) : S ||| 2 ^ w < 65536 := by
  have h1 : 2 ^ w < 2 ^ 16 := Nat.pow_lt_pow_right (by omega) (by omega)
  have h2 : S ||| 2 ^ w < 2 ^ 16 := Nat.or_lt_two_pow (by omega) h1
  omega
theorem dW_le {S w : Nat} (hS : S < 65536) (hw : w < v 0) (hc : mcW v a S w = true) : dW v a b S ≤ 1 + dW v a b (S ||| 2 ^ w) := by
  cases hb : S.testBit b with
  | true => rw [dW_b hb]; omega
  | false =>
    rw [dW_s hb hS]
    have := minN_le (fun w => if mcW v a S w = true then 1 + dW v a b (S ||| 2 ^ w) else 100000) (v 0) w hw
    rw [if_pos hc] at this
    exact this
theorem dW_child {S m : Nat} (hS : S < 65536) (h : dW v a b S = m + 1) (hm : m + 1 < 100000) : ∃ w, w < v 0 ∧ mcW v a S w = true ∧ dW v a b (S ||| 2 ^ w) = m := by
  cases hb : S.testBit b with
  | true => rw [dW_b hb] at h; omega
  | false =>
    have h2 := h
    rw [dW_s hb hS] at h2
    obtain ⟨w, w1, w2⟩ := (minN_iff _ hm (v 0)).mp (Nat.le_of_eq h2)
    by_cases c : mcW v a S w = true
    · rw [if_pos c] at w2
      have := dW_le (b := b) hS w1 c
      exact ⟨w, w1, c, by omega⟩
    · rw [if_neg c] at w2
      omega
/-- the least house to go on with, so that n - i - 1 calls are left -/
def wNx (v : Nat → Nat) (a b S m : Nat) : Nat := findN (fun w => mcW v a S w && decide (dW v a b (S ||| 2 ^ w) = m)) (v 0)
def gS (v : Nat → Nat) (a b root : Nat) : Nat → Nat
  | 0 => root
  | i + 1 => gS v a b root i ||| 2 ^ wNx v a b (gS v a b root i) (dW v a b root - i - 1)
def wN (v : Nat → Nat) (a b root i : Nat) : Nat := wNx v a b (gS v a b root i) (dW v a b root - i - 1)
theorem wNx_ok {S m : Nat} (hS : S < 65536) (h : dW v a b S = m + 1) (hm : m + 1 < 100000) : wNx v a b S m < v 0 ∧ mcW v a S (wNx v a b S m) = true ∧ dW v a b (S ||| 2 ^ wNx v a b S m) = m ∧ ∀ w, w < wNx v a b S m → ¬ (mcW v a S w = true ∧ dW v a b (S ||| 2 ^ w) = m) := by
  obtain ⟨w, w1, w2, w3⟩ := dW_child hS h hm
  obtain ⟨f1, f2, f3⟩ := findN_t (q := fun w => mcW v a S w && decide (dW v a b (S ||| 2 ^ w) = m)) (n := v 0) ⟨w, w1, by rw [w2, decide_eq_true w3]; rfl⟩
  rw [Bool.and_eq_true, decide_eq_true_iff] at f2
  refine ⟨f1, f2.1, f2.2, fun w hw hc => ?_⟩
  have := f3 w hw
  rw [hc.1, decide_eq_true hc.2] at this
  exact absurd this (by decide)
theorem gS_ok {root : Nat} (h16 : v 0 ≤ 16) (hr : root < 65536) (hn : dW v a b root < 100000) : ∀ i, i ≤ dW v a b root → gS v a b root i < 65536 ∧ dW v a b (gS v a b root i) = dW v a b root - i ∧ i ≤ cntB (gS v a b root i) 16
  | 0, _ => ⟨hr, rfl, Nat.zero_le _⟩
  | i + 1, hi => by
    obtain ⟨h1, h2, h3⟩ := gS_ok h16 hr hn i (by omega)
    obtain ⟨w1, w2, w3, _⟩ := wNx_ok (v := v) (a := a) (b := b) (m := dW v a b root - i - 1) h1 (by omega) (by omega)
    show (gS v a b root i ||| 2 ^ wNx v a b (gS v a b root i) (dW v a b root - i - 1) < 65536) ∧ dW v a b (gS v a b root i ||| 2 ^ wNx v a b (gS v a b root i) (dW v a b root - i - 1)) = _ ∧ _ ≤ cntB (gS v a b root i ||| 2 ^ wNx v a b (gS v a b root i) (dW v a b root - i - 1)) 16
    generalize wNx v a b (gS v a b root i) (dW v a b root - i - 1) = w at w1 w2 w3 ⊢
    have hb := mcW_tb w2
    have hor : (gS v a b root i ||| 2 ^ w).testBit w = true := by rw [Nat.testBit_or, Nat.testBit_two_pow_self, Bool.or_true]
    have hs := (cntB_sub hor (n := 16)).2 (by omega)
    rw [or_add2 hb, Nat.add_sub_cancel] at hs
    rw [or_add2 hb] at *
    refine ⟨?_, by omega, by omega⟩
    have := or16 h1 h16 w1
    rw [or_add2 hb] at this
    exact this
theorem dW_16 {root : Nat} (h16 : v 0 ≤ 16) (hr : root < 65536) (hn : dW v a b root < 100000) : dW v a b root ≤ 16 := by
  obtain ⟨_, _, h⟩ := gS_ok h16 hr hn (dW v a b root) (Nat.le_refl _)
  exact Nat.le_trans h (cntB_le _ _)
/-! sets as they are come to, the least houses first -/
def FA (v : Nat → Nat) (a b root : Nat) (q lev : Nat → Nat) (en j k : Nat) : Prop := k < en ∧ lev k = j ∧ dW v a b (q k) + j = dW v a b root ∧ ∀ k', k' < k → lev k' = j → ¬ dW v a b (q k') + j = dW v a b root
def bfI (v : Nat → Nat) (a b root : Nat) (q par cam lev : Nat → Nat) (bg h en : Nat) : Prop :=
  (0 < en ∧ q 0 = root ∧ lev 0 = 0) ∧ bg ≤ en ∧
  (∀ k, 0 < k → k < en → par k < k ∧ par k ≤ bg ∧ cam k < v 0 ∧ mcW v a (q (par k)) (cam k) = true ∧ q k = q (par k) ||| 2 ^ cam k ∧ lev k = lev (par k) + 1) ∧
  (∀ k, k < en → q k < 65536 ∧ (q k).testBit b = false) ∧
  (∀ k w, k < en → w < v 0 → (k < bg ∨ (k = bg ∧ w < h)) → mcW v a (q k) w = true → ∃ k2, k2 < en ∧ q k2 = q k ||| 2 ^ w ∧ lev k2 ≤ lev k + 1) ∧
  (∀ k k2, k ≤ k2 → k2 < en → lev k ≤ lev k2) ∧ (∀ k, k < en → bg < en → lev k ≤ lev bg + 1) ∧
  (dW v a b root < 100000 → ∀ j k, FA v a b root q lev en j k → q k = gS v a b root j ∧ (0 < j → FA v a b root q lev en (j - 1) (par k) ∧ cam k = wN v a b root (j - 1)))
variable {root : Nat} {q par cam lev : Nat → Nat} {bg h en : Nat}
theorem bf_skip (hI : bfI v a b root q par cam lev bg h en) (hb : bg < en) (hs : mcW v a (q bg) h = true → ∃ k2, k2 < en ∧ q k2 = q bg ||| 2 ^ h) : bfI v a b root q par cam lev bg (h + 1) en := by
  obtain ⟨i1, i2, i3, i4, i5, i6, i7, i8⟩ := hI
  refine ⟨i1, i2, i3, i4, fun k w hk hw hc hm => ?_, i6, i7, i8⟩
  by_cases e : k = bg ∧ w = h
  · obtain ⟨e1, e2⟩ := e
    subst e1; subst e2
    obtain ⟨k2, c1, c2⟩ := hs hm
    exact ⟨k2, c1, c2, i7 k2 c1 hb⟩
  · exact i5 k w hk hw (by omega) hm
theorem bf_next (hI : bfI v a b root q par cam lev bg (v 0) en) (hb : bg < en) : bfI v a b root q par cam lev (bg + 1) 0 en := by
  obtain ⟨i1, i2, i3, i4, i5, i6, i7, i8⟩ := hI
  refine ⟨i1, by omega, fun k h1 h2 => ?_, i4, fun k w hk hw hc hm => i5 k w hk hw (by omega) hm, i6, fun k h1 h2 => ?_, i8⟩
  · obtain ⟨c1, c2, c3⟩ := i3 k h1 h2
    exact ⟨c1, by omega, c3⟩
  · have := i7 k h1 hb
    have := i6 bg (bg + 1) (by omega) h2
    omega
/-- a node is as far as its level says, at least -/
theorem bf_lev (hI : bfI v a b root q par cam lev bg h en) : ∀ k, k < en → dW v a b root ≤ lev k + dW v a b (q k) := by
  obtain ⟨i1, i2, i3, i4, i5, i6, i7, i8⟩ := hI
  intro k
  induction k using Nat.strongRecOn with
  | _ k ih =>
    intro hk
    by_cases h0 : k = 0
    · subst h0
      rw [i1.2.1]
      omega
    · obtain ⟨c1, c2, c3, c4, c5, c6⟩ := i3 k (by omega) hk
      have := ih (par k) c1 (by omega)
      have := dW_le (b := b) (i4 (par k) (by omega)).1 c3 c4
      rw [← c5] at this
      omega
/-- an alive node that has been gone through has an alive child -/
theorem bf_child (hI : bfI v a b root q par cam lev bg h en) (hn : dW v a b root < 100000) {k j : Nat} (hk : k < en) (hj : lev k = j) (ha : dW v a b (q k) + j = dW v a b root) (hx : ∀ w, w < v 0 → mcW v a (q k) w = true → dW v a b (q k ||| 2 ^ w) + (j + 1) = dW v a b root → ∃ k2, k2 < en ∧ q k2 = q k ||| 2 ^ w) (hlt : j < dW v a b root) : ∃ k2, k2 < en ∧ dW v a b (q k2) + (j + 1) = dW v a b root ∧ j + 1 ≤ lev k2 := by
  have i4 := hI.2.2.2.1
  obtain ⟨w, w1, w2, w3⟩ := dW_child (v := v) (a := a) (b := b) (m := dW v a b root - j - 1) (i4 k hk).1 (by omega) (by omega)
  obtain ⟨k2, e1, e2⟩ := hx w w1 w2 (by omega)
  have := bf_lev hI k2 e1
  refine ⟨k2, e1, by rw [e2]; omega, ?_⟩
  rw [e2] at this
  omega
theorem bf_new (h16 : v 0 ≤ 16) (hI : bfI v a b root q par cam lev bg h en) (hb : bg < en) (hh : h < v 0) (hm : mcW v a (q bg) h = true) (hnew : ∀ k2, k2 < en → ¬ q k2 = q bg ||| 2 ^ h) (hnb : ¬ h = b) : bfI v a b root (zu1 q en (q bg ||| 2 ^ h)) (zu1 par en bg) (zu1 cam en h) (zu1 lev en (lev bg + 1)) bg (h + 1) (en + 1) := by
  have hI0 := hI
  obtain ⟨i1, i2, i3, i4, i5, i6, i7, i8⟩ := hI
  have old : ∀ {α : Type} (f : Nat → α) (x : α) k, k < en → zu1 f en x k = f k := fun f x k hk => zu1_n _ _ _ (by omega)
  have new : ∀ {α : Type} (f : Nat → α) (x : α), zu1 f en x en = x := fun f x => zu1_s _ _ _
  have hl7 := fun k hk => i7 k hk hb
  refine ⟨⟨by omega, by rw [old _ _ _ i1.1]; exact i1.2.1, by rw [old _ _ _ i1.1]; exact i1.2.2⟩, by omega, fun k h1 h2 => ?_, fun k hk => ?_, fun k w hk hw hc hmc => ?_, fun k k2 h1 h2 => ?_, fun k h1 _ => ?_, fun hn j k hF => ?_⟩
  · by_cases e : k = en
    · subst e
      rw [new, new, new, new, old _ _ bg hb, old _ _ bg hb]
      exact ⟨hb, Nat.le_refl _, hh, hm, rfl, rfl⟩
    · obtain ⟨c1, c2, c3, c4, c5, c6⟩ := i3 k h1 (by omega)
      rw [old _ _ k (by omega), old _ _ k (by omega), old _ _ k (by omega), old _ _ k (by omega), old _ _ (par k) (by omega), old _ _ (par k) (by omega)]
      exact ⟨c1, c2, c3, c4, c5, c6⟩
  · by_cases e : k = en
    · subst e
      rw [new]
      refine ⟨or16 (i4 bg hb).1 h16 hh, ?_⟩
      rw [Nat.testBit_or, (i4 bg hb).2, Nat.testBit_two_pow, decide_eq_false hnb]
      rfl
    · rw [old _ _ k (by omega)]
      exact i4 k (by omega)
  · by_cases e : k = en
    · omega
    · rw [old _ _ k (by omega)] at hmc ⊢
      by_cases e2 : k = bg ∧ w = h
      · obtain ⟨e3, e4⟩ := e2
        subst e3; subst e4
        exact ⟨en, by omega, new _ _, by rw [new, old _ _ k hb]; exact Nat.le_refl _⟩
      · obtain ⟨k2, c1, c2, c3⟩ := i5 k w (by omega) hw (by omega) hmc
        exact ⟨k2, by omega, by rw [old _ _ k2 c1]; exact c2, by rw [old _ _ k2 c1, old _ _ k (by omega)]; exact c3⟩
  · by_cases e : k2 = en
    · subst e
      rw [new]
      by_cases e2 : k = k2
      · subst e2; rw [new]; exact Nat.le_refl _
      · rw [old _ _ k (by omega)]; exact hl7 k (by omega)
    · rw [old _ _ k2 (by omega), old _ _ k (by omega)]
      exact i6 k k2 h1 (by omega)
  · rw [old _ _ bg hb]
    by_cases e : k = en
    · subst e; rw [new]; exact Nat.le_refl _
    · rw [old _ _ k (by omega)]; exact hl7 k (by omega)
  · obtain ⟨f1, f2, f3, f4⟩ := hF
    have lift : ∀ j k, FA v a b root q lev en j k → FA v a b root (zu1 q en (q bg ||| 2 ^ h)) (zu1 lev en (lev bg + 1)) (en + 1) j k := by
      rintro j k ⟨u1, u2, u3, u4⟩
      refine ⟨by omega, by rw [old _ _ k u1]; exact u2, by rw [old _ _ k u1]; exact u3, fun k' hk' => ?_⟩
      rw [old _ _ k' (by omega), old _ _ k' (by omega)]
      exact u4 k' hk'
    by_cases e : k = en
    · subst e
      rw [new] at f2 f3
      rw [new, new, new]
      subst f2
      -- the node that is gone through is the first alive one of its level
      have hp := bf_lev hI0 bg hb
      have hle := dW_le (b := b) (i4 bg hb).1 hh hm
      have hal : dW v a b (q bg) + lev bg = dW v a b root := by omega
      have noChild : ∀ k2, k2 < k → dW v a b (q k2) + (lev bg + 1) = dW v a b root → lev bg + 1 ≤ lev k2 → False := by
        intro k2 c1 c2 c3
        have := hl7 k2 c1
        refine f4 k2 c1 (by rw [old _ _ k2 c1]; omega) (by rw [old _ _ k2 c1]; exact c2)
      have hFA : FA v a b root q lev k (lev bg) bg := by
        refine ⟨hb, rfl, hal, fun k' c1 c2 c3 => ?_⟩
        obtain ⟨k2, d1, d2, d3⟩ := bf_child hI0 hn (k := k') (by omega) c2 c3 (fun w w1 w2 _ => by obtain ⟨k2, e1, e2, _⟩ := i5 k' w (by omega) w1 (Or.inl c1) w2; exact ⟨k2, e1, e2⟩) (by omega)
        exact noChild k2 d1 d2 d3
      obtain ⟨g1, g2⟩ := i8 hn (lev bg) bg hFA
      have hw : h = wN v a b root (lev bg) := by
        unfold wN
        obtain ⟨x1, x2, x3, x4⟩ := wNx_ok (v := v) (a := a) (b := b) (S := gS v a b root (lev bg)) (m := dW v a b root - lev bg - 1) (by rw [← g1]; exact (i4 bg hb).1) (by rw [← g1]; omega) (by omega)
        rcases Nat.lt_trichotomy h (wNx v a b (gS v a b root (lev bg)) (dW v a b root - lev bg - 1)) with c | c | c
        · exact absurd ⟨by rw [← g1]; exact hm, by rw [← g1]; omega⟩ (x4 h c)
        · exact c
        · exfalso
          rw [← g1] at x1 x2 x3 c
          obtain ⟨k2, d1, d2, _⟩ := i5 bg _ hb x1 (Or.inr ⟨rfl, c⟩) x2
          have := bf_lev hI0 k2 d1
          rw [d2] at this
          exact noChild k2 d1 (by rw [d2]; omega) (by omega)
      refine ⟨?_, fun _ => ⟨lift _ _ (by rw [Nat.add_sub_cancel]; exact hFA), by rw [Nat.add_sub_cancel]; exact hw⟩⟩
      show _ = gS v a b root (lev bg) ||| 2 ^ wNx v a b (gS v a b root (lev bg)) (dW v a b root - lev bg - 1)
      have hw2 : h = wNx v a b (gS v a b root (lev bg)) (dW v a b root - lev bg - 1) := hw
      rw [← hw2, g1]
    · rw [old _ _ k (by omega)] at f2 f3
      have hF' : FA v a b root q lev en j k := by
        refine ⟨by omega, f2, f3, fun k' hk' => ?_⟩
        have := f4 k' hk'
        rw [old _ _ k' (by omega), old _ _ k' (by omega)] at this
        exact this
      obtain ⟨g1, g2⟩ := i8 hn j k hF'
      rw [old _ _ k (by omega), old _ _ k (by omega), old _ _ k (by omega)]
      exact ⟨g1, fun hj => ⟨lift _ _ (g2 hj).1, (g2 hj).2⟩⟩
/-- nothing left to go through: it is never known -/
theorem bf_done (hI : bfI v a b root q par cam lev en 0 en) : dW v a b root = 100000 := by
  obtain ⟨i1, i2, i3, i4, i5, i6, i7, i8⟩ := hI
  have key : ∀ m k, k < en → dW v a b (q k) = m → m < 100000 → False := by
    intro m
    induction m with
    | zero =>
      intro k hk hd _
      obtain ⟨h1, h2⟩ := i4 k hk
      rw [dW_s h2 h1] at hd
      obtain ⟨w, w1, w2⟩ := (minN_iff _ (show 0 < 100000 by omega) (v 0)).mp (Nat.le_of_eq hd)
      split at w2 <;> omega
    | succ m ih =>
      intro k hk hd hm
      obtain ⟨w, w1, w2, w3⟩ := dW_child (i4 k hk).1 hd hm
      obtain ⟨k2, c1, c2, _⟩ := i5 k w hk w1 (Or.inl hk) w2
      exact ih k2 c1 (by rw [c2]; exact w3) (by omega)
  have hF := dW_F (v := v) (a := a) (b := b) (S := root)
  by_cases c : dW v a b root < 100000
  · exact (key _ 0 i1.1 (by rw [i1.2.1]) c).elim
  · omega
/-- on the way -/
def onC (par cam w : Nat → Nat) : Nat → Nat → Prop
  | 0, k => k = 0
  | j + 1, k => ¬ k = 0 ∧ cam k = w j ∧ onC par cam w j (par k)
theorem FA_on (hI : bfI v a b root q par cam lev bg h en) (hn : dW v a b root < 100000) : ∀ j k, FA v a b root q lev en j k → onC par cam (wN v a b root) j k
  | 0, k, hF => by
    show k = 0
    by_cases c : k = 0
    · exact c
    · have := (hI.2.2.1 k (by omega) hF.1).2.2.2.2.2
      have := hF.2.1
      omega
  | j + 1, k, hF => by
    obtain ⟨_, g2⟩ := hI.2.2.2.2.2.2.2 hn (j + 1) k hF
    obtain ⟨g3, g4⟩ := g2 (by omega)
    rw [Nat.add_sub_cancel] at g3 g4
    refine ⟨fun e => ?_, g4, FA_on hI hn j _ g3⟩
    have := hF.2.1
    rw [e, hI.1.2.2] at this
    omega
theorem bf_found (h16 : v 0 ≤ 16) (hr : root < 65536) (hI : bfI v a b root q par cam lev bg b en) (hb : bg < en) (hbv : b < v 0) (hm : mcW v a (q bg) b = true) : dW v a b root < 100000 ∧ dW v a b root = lev bg + 1 ∧ onC par cam (wN v a b root) (lev bg) bg ∧ wN v a b root (lev bg) = b := by
  have hI0 := hI
  obtain ⟨i1, i2, i3, i4, i5, i6, i7, i8⟩ := hI
  have hbb : (q bg ||| 2 ^ b).testBit b = true := by rw [Nat.testBit_or, Nat.testBit_two_pow_self, Bool.or_true]
  have hle := dW_le (b := b) (i4 bg hb).1 hbv hm
  rw [dW_b hbb] at hle
  have hpos : ∀ k, k < en → 0 < dW v a b (q k) := by
    intro k hk
    obtain ⟨h1, h2⟩ := i4 k hk
    by_cases c : dW v a b (q k) = 0
    · rw [dW_s h2 h1] at c
      obtain ⟨w, w1, w2⟩ := (minN_iff _ (show 0 < 100000 by omega) (v 0)).mp (Nat.le_of_eq c)
      split at w2 <;> omega
    · omega
  have h1 : dW v a b (q bg) = 1 := by have := hpos bg hb; omega
  have hlv := bf_lev hI0 bg hb
  -- levels are small
  have hl16 : ∀ k, k < en → lev k ≤ cntB (q k) 16 := by
    intro k
    induction k using Nat.strongRecOn with
    | _ k ih =>
      intro hk
      by_cases h0 : k = 0
      · subst h0; rw [i1.2.2]; omega
      · obtain ⟨c1, c2, c3, c4, c5, c6⟩ := i3 k (by omega) hk
        have h3 := ih (par k) c1 (by omega)
        have hbt := mcW_tb c4
        have hor : (q (par k) ||| 2 ^ cam k).testBit (cam k) = true := by rw [Nat.testBit_or, Nat.testBit_two_pow_self, Bool.or_true]
        have hs := (cntB_sub hor (n := 16)).2 (by omega)
        rw [or_add2 hbt, Nat.add_sub_cancel] at hs
        rw [c5, or_add2 hbt, c6]
        omega
  have hlb := Nat.le_trans (hl16 bg hb) (cntB_le _ 16)
  have hn : dW v a b root < 100000 := by omega
  -- an alive node on every level up to this one
  have alive : ∀ i, i ≤ lev bg → i ≤ dW v a b root → ∃ k, k < en ∧ lev k = i ∧ dW v a b (q k) + i = dW v a b root := by
    intro i
    induction i with
    | zero => intro _ _; exact ⟨0, i1.1, i1.2.2, by rw [i1.2.1]; rfl⟩
    | succ i ih =>
      intro c1 c2
      obtain ⟨k, d1, d2, d3⟩ := ih (by omega) (by omega)
      have hkb : k < bg := by
        by_cases e : k < bg
        · exact e
        · have := i6 bg k (by omega) d1
          omega
      obtain ⟨w, w1, w2, w3⟩ := dW_child (v := v) (a := a) (b := b) (m := dW v a b root - i - 1) (i4 k d1).1 (by omega) (by omega)
      obtain ⟨k3, x1, x2, x3⟩ := i5 k w d1 w1 (Or.inl hkb) w2
      have l1 := bf_lev hI0 k3 x1
      rw [x2, w3] at l1
      exact ⟨k3, x1, by omega, by rw [x2, w3]; omega⟩
  have hnl : lev bg + 1 ≤ dW v a b root := by
    by_cases c : lev bg + 1 ≤ dW v a b root
    · exact c
    · obtain ⟨k, d1, d2, d3⟩ := alive (dW v a b root) (by omega) (Nat.le_refl _)
      have := hpos k d1
      omega
  have hnn : dW v a b root = lev bg + 1 := by omega
  have hFA : FA v a b root q lev en (lev bg) bg := by
    refine ⟨hb, rfl, by omega, fun k' c1 c2 c3 => ?_⟩
    obtain ⟨w, w1, w2, w3⟩ := dW_child (v := v) (a := a) (b := b) (m := 0) (i4 k' (by omega)).1 (by omega) (by omega)
    obtain ⟨k2, d1, d2, _⟩ := i5 k' w (by omega) w1 (Or.inl c1) w2
    have := hpos k2 d1
    rw [d2, w3] at this
    omega
  refine ⟨hn, hnn, FA_on hI0 hn _ _ hFA, ?_⟩
  obtain ⟨g1, _⟩ := i8 hn _ _ hFA
  unfold wN
  rw [← g1, show dW v a b root - lev bg - 1 = 0 by omega]
  obtain ⟨x1, x2, x3, x4⟩ := wNx_ok (v := v) (a := a) (b := b) (S := q bg) (m := 0) (i4 bg hb).1 (by omega) (by omega)
  rcases Nat.lt_trichotomy b (wNx v a b (q bg) 0) with c | c | c
  · exact absurd ⟨hm, dW_b hbb⟩ (x4 b c)
  · exact c.symm
  · exfalso
    obtain ⟨k2, d1, d2, _⟩ := i5 bg _ hb x1 (Or.inr ⟨rfl, c⟩) x2
    have := hpos k2 d1
    rw [d2, x3] at this
    omega
end DW
