set_option maxRecDepth 100000
/-! over Z: truths as ints, numbers, loops -/
def bI (b : Bool) : Int32 := if b then 1 else 0
theorem bI_t : bI true = 1 := rfl
theorem bI_f : bI false = 0 := rfl
theorem bI_0 (b : Bool) : (bI b = 0) = (b = false) := by cases b <;> simp [bI]
theorem bI_1 (b : Bool) : (bI b = 1) = (b = true) := by cases b <;> simp [bI]
theorem bI_z (b : Bool) : (bI b = 0 ∨ bI b = 1) = True := by cases b <;> simp [bI]
theorem bft (b : Bool) : (b = false ∨ b = true) = True := by cases b <;> simp
def znl (v : Value) : Bool := match v with | .long _ => false | .double _ => false | _ => true
theorem znl_i {x : Int32} : znl (.int x) = true := rfl
theorem znl_r {x : Nat} : znl (.ref x) = true := rfl
theorem znl_n : znl .null = true := rfl
theorem zcs_5 {a b c d e : Value} : zcs [a, b, c, d, e] = (znl a && (znl b && (znl c && (znl d && (znl e && true))))) := rfl
theorem zcs_6 {a b c d e f : Value} : zcs [a, b, c, d, e, f] = (znl a && (znl b && (znl c && (znl d && (znl e && (znl f && true)))))) := rfl
theorem zcs_7 {a b c d e f g : Value} : zcs [a, b, c, d, e, f, g] = (znl a && (znl b && (znl c && (znl d && (znl e && (znl f && (znl g && true))))))) := rfl
theorem nI_z0 : (nI 0 = 0 ∨ nI 0 = 1) = True := by simp [nI_0]
theorem nI_z1 : (nI 1 = 0 ∨ nI 1 = 1) = True := by simp [show nI 1 = 1 from rfl]
theorem nI_e0 : (nI 0 = 0) = True := by simp [nI_0]
theorem nI_e1 : (nI 1 = 0) = False := by simp [show nI 1 = 1 from rfl]
theorem nI_one : nI 1 = 1 := rfl
theorem bI_ite (b : Bool) : (if b = true then nI 1 else nI 0) = bI b := by cases b <;> rfl
theorem lgc_lt (x y : Int64) : (lg_cmp x y < 0) = (x < y) := by
  unfold lg_cmp
  by_cases h : x > y
  · rw [if_pos h]
    have h1 : ¬ x < y := fun h2 => Int64.lt_irrefl (Int64.lt_trans h2 h)
    simp [h1]
  · rw [if_neg h]
    by_cases h2 : x = y
    · subst h2
      simp
    · rw [if_neg h2]
      have h3 : x < y := by
        rcases Int64.lt_or_lt_of_ne h2 with h3 | h3
        · exact h3
        · exact absurd h3 h
      simp [h3]
theorem lgc_gt (x y : Int64) : (0 < lg_cmp x y) = (y < x) := by
  unfold lg_cmp
  by_cases h : x > y
  · rw [if_pos h]
    have h1 : y < x := h
    simp [h1]
  · rw [if_neg h]
    have h1 : ¬ y < x := h
    by_cases h2 : x = y
    · subst h2
      simp
    · rw [if_neg h2]
      simp [h1]
theorem lgc_le (x y : Int64) : (lg_cmp x y ≤ 0) = (x ≤ y) := by
  have h := lgc_gt x y
  have h1 : (lg_cmp x y ≤ 0) = ¬ (0 < lg_cmp x y) := by rw [Int32.not_lt]
  rw [h1, h, Int64.not_lt]
theorem lgc_ge (x y : Int64) : (0 ≤ lg_cmp x y) = (y ≤ x) := by
  have h := lgc_lt x y
  have h1 : (0 ≤ lg_cmp x y) = ¬ (lg_cmp x y < 0) := by rw [Int32.not_lt]
  rw [h1, h, Int64.not_lt]
theorem lgc_eq (x y : Int64) : (lg_cmp x y = 0) = (x = y) := by
  unfold lg_cmp
  by_cases h : x > y
  · rw [if_pos h]
    have h1 : ¬ x = y := fun h2 => by subst h2; exact Int64.lt_irrefl h
    simp [h1]
  · rw [if_neg h]
    by_cases h2 : x = y
    · simp [h2]
    · rw [if_neg h2]
      simp [h2]
/-- between, over longs -/
def linB (v lo hi : Int64) : Bool := decide (lo ≤ v) && decide (v ≤ hi)
theorem ltlt {a b : Int32} : (a.toInt64 < b.toInt64) = (a < b) := by
  rw [Int64.lt_iff_toInt_lt, Int32.lt_iff_toInt_lt, Int32.toInt_toInt64, Int32.toInt_toInt64]
theorem lele {a b : Int32} : (a.toInt64 ≤ b.toInt64) = (a ≤ b) := by
  rw [Int64.le_iff_toInt_le, Int32.le_iff_toInt_le, Int32.toInt_toInt64, Int32.toInt_toInt64]
theorem zx_nI {n : Nat} (h : n < 2147483648) : zx (nI n) = n := nI_clamp h
theorem zin_nI {n m : Nat} (h : n < 2147483648) : zin (nI n) m = decide (n < m) := by
  unfold zin
  rw [nI_clamp h]
  have := nI_pos (n := n) h
  simp [this]
theorem zin_of {a : Int32} {n : Nat} (h : zin a n = true) : ∃ k : Nat, k < n ∧ k < 2147483648 ∧ a = nI k := by
  unfold zin at h
  rw [Bool.and_eq_true] at h
  have h1 : ¬ a < 0 := by
    intro h2
    have := h.1
    simp [h2] at this
  obtain ⟨j, hj, rfl⟩ := nI_of h1
  have h2 := of_decide_eq_true h.2
  rw [nI_clamp hj] at h2
  exact ⟨j, h2, hj, rfl⟩
theorem zin_iff {a : Int32} {n : Nat} (hn : n < 2147483648) : (zin a n = true) ↔ (0 ≤ a ∧ a < nI n) := by
  constructor
  · intro h
    obtain ⟨k, hk, hk2, rfl⟩ := zin_of h
    exact ⟨nI_pos' hk2, nI_lt hk hn⟩
  · rintro ⟨h1, h2⟩
    obtain ⟨j, hj, rfl⟩ := nI_of (Int32.not_lt.mpr h1)
    rw [zin_nI hj]
    exact decide_eq_true ((nI_ltI hj hn).mp h2)
theorem lin_c {a : Int32} {c : Nat} (hc : c < 2147483647) : linB a.toInt64 (lN 0) (lN c) = zin a (c + 1) := by
  have h1 : lN c = (nI c).toInt64 := (nI_l (by omega)).symm
  have h0 : lN 0 = (nI 0).toInt64 := rfl
  unfold linB
  rw [h1, h0, Bool.eq_iff_iff, Bool.and_eq_true, decide_eq_true_iff, decide_eq_true_iff, zin_iff (by omega), lele, lele]
  constructor
  · rintro ⟨h2, h3⟩
    obtain ⟨j, hj, rfl⟩ := nI_of (Int32.not_lt.mpr h2)
    exact ⟨h2, nI_lt (by have := (nI_leI hj (by omega)).mp h3; omega) (by omega)⟩
  · rintro ⟨h2, h3⟩
    obtain ⟨j, hj, rfl⟩ := nI_of (Int32.not_lt.mpr h2)
    exact ⟨h2, nI_le (by have := (nI_ltI hj (by omega)).mp h3; omega) (by omega)⟩
theorem lin_n {a : Int32} {n : Nat} (hn : n < 2147483648) : linB a.toInt64 (lN 0) (nI n - nI 1).toInt64 = zin a n := by
  have h0 : lN 0 = (nI 0).toInt64 := rfl
  unfold linB
  rw [h0, Bool.eq_iff_iff, Bool.and_eq_true, decide_eq_true_iff, decide_eq_true_iff, zin_iff hn, lele, lele]
  cases n with
  | zero =>
    constructor
    · rintro ⟨h2, h3⟩
      exact absurd (Int32.le_trans h2 h3) (by decide)
    · rintro ⟨h2, h3⟩
      exact absurd (Int32.lt_of_le_of_lt h2 h3) (by decide)
  | succ n =>
    have h5 : nI (n + 1) - nI 1 = nI n := nI_pred n
    rw [h5]
    constructor
    · rintro ⟨h2, h3⟩
      obtain ⟨j, hj, rfl⟩ := nI_of (Int32.not_lt.mpr h2)
      exact ⟨h2, nI_lt (by have := (nI_leI hj (by omega)).mp h3; omega) (by omega)⟩
    · rintro ⟨h2, h3⟩
      obtain ⟨j, hj, rfl⟩ := nI_of (Int32.not_lt.mpr h2)
      exact ⟨h2, nI_le (by have := (nI_ltI hj (by omega)).mp h3; omega) (by omega)⟩
theorem zin_ok {n m : Nat} (h : n < m) (h2 : n < 2147483648) : (zin (nI n) m = true) = True := by
  rw [zin_nI h2]
  simp [h]
theorem nI_lt2 {a b : Nat} (ha : a < 2147483648) (hb : b < 2147483648) : (nI a < nI b) = (a < b) := propext (nI_ltI ha hb)
theorem nI_le2 {a b : Nat} (ha : a < 2147483648) (hb : b < 2147483648) : (nI a ≤ nI b) = (a ≤ b) := propext (nI_leI ha hb)
theorem nI_eq2 {a b : Nat} (ha : a < 2147483648) (hb : b < 2147483648) : (nI a = nI b) = (a = b) := propext (nI_eq ha hb)
theorem nI_l0 {a : Nat} (ha : a < 2147483648) : (nI a < 0) = False := by simp [nI_pos ha]
theorem nI_g0 {a : Nat} (ha : a < 2147483648) : (0 ≤ nI a) = True := by simp [nI_pos' ha]
theorem nI_q0 {a : Nat} (ha : a < 2147483648) : (nI a = 0) = (a = 0) := propext (nI_eq (b := 0) ha (by decide))
theorem nI_p0 {a : Nat} (ha : a < 2147483648) : (0 < nI a) = (0 < a) := propext (nI_ltI (a := 0) (by decide) ha)
theorem nI_n0 {a : Nat} (ha : a < 2147483648) : (nI a ≤ 0) = (a = 0) := by
  have := nI_leI (b := 0) ha (by decide)
  exact propext (this.trans (by omega))
theorem nI_m1 {a : Nat} (ha : a < 2147483648) : (nI a = -1) = False := by
  apply propext
  constructor
  · intro h
    have h2 := nI_pos (n := a) ha
    rw [h] at h2
    exact h2 (by decide)
  · exact False.elim
theorem znar_50 (b : Int32) : znar 50 b = b := rfl
/-- a loop with locals that don't matter -/
theorem zl_x {α : Type} {P : Nat → α → Prop} {R : Prop} (N : Nat) (hend : ∀ x, P N x = R) (hstep : ∀ k x, k < N → ∃ y, P k x = P (k + 1) y) : ∀ k x, k ≤ N → P k x = R := by
  have : ∀ m k x, k + m = N → P k x = R := by
    intro m
    induction m with
    | zero => intro k x h; rw [show k = N by omega]; exact hend x
    | succ m ih =>
      intro k x h
      obtain ⟨y, e⟩ := hstep k x (by omega)
      rw [e]
      exact ih (k + 1) y (by omega)
  intro k x h
  exact this (N - k) k x (by omega)
/-- a loop that counts up -/
theorem zl_up {P : Nat → Prop} (N : Nat) (h : ∀ k, k < N → P k = P (k + 1)) : P 0 = P N := by
  induction N with
  | zero => rfl
  | succ n ih => rw [ih (fun k hk => h k (by omega)), h n (by omega)]
/-- a loop from a place on -/
theorem zl_upf {P : Nat → Prop} (a N : Nat) (ha : a ≤ N) (h : ∀ k, a ≤ k → k < N → P k = P (k + 1)) : P a = P N := by
  obtain ⟨m, rfl⟩ := Nat.exists_eq_add_of_le ha
  clear ha
  induction m with
  | zero => rfl
  | succ n ih => rw [ih (fun k hk hk2 => h k hk (by omega)), h (a + n) (by omega) (by omega)]; rfl
/-- a loop that counts down -/
theorem zl_dn {P : Nat → Prop} (N : Nat) (h : ∀ k, k < N → P (k + 1) = P k) : P N = P 0 := by
  induction N with
  | zero => rfl
  | succ n ih => rw [h n (by omega), ih (fun k hk => h k (by omega))]

/-- the model's cells -/
def MS (z : ZH) : Prop := zcls z 135 = 12 ∧ zfr z 135 1 = .ref 136 ∧ zcls z 136 = 50 ∧ zlen z 136 = 9080 ∧ zfr z 135 2 = .ref 137 ∧ zcls z 137 = 50 ∧ zlen z 137 = 27240 ∧ zfr z 135 3 = .ref 138 ∧ zcls z 138 = 54 ∧ zlen z 138 = 3 ∧ zfr z 135 4 = .ref 139 ∧ zcls z 139 = 52 ∧ zlen z 139 = 1400 ∧ zfr z 135 6 = .ref 140 ∧ zcls z 140 = 50 ∧ zlen z 140 = 5 ∧ zfr z 135 14 = .ref 141 ∧ zcls z 141 = 50 ∧ zlen z 141 = 9080 ∧ zfr z 135 15 = .ref 142 ∧ zcls z 142 = 50 ∧ zlen z 142 = 6 ∧ zfr z 135 16 = .ref 143 ∧ zcls z 143 = 50 ∧ zlen z 143 = 16 ∧ zfr z 135 18 = .ref 144 ∧ zcls z 144 = 50 ∧ zlen z 144 = 16 ∧ zfr z 135 19 = .ref 145 ∧ zcls z 145 = 54 ∧ zlen z 145 = 16 ∧ zfr z 135 20 = .ref 146 ∧ zcls z 146 = 50 ∧ zlen z 146 = 10240 ∧ zfr z 135 24 = .ref 147 ∧ zcls z 147 = 50 ∧ zlen z 147 = 10 ∧ zfr z 135 25 = .ref 148 ∧ zcls z 148 = 50 ∧ zlen z 148 = 10 ∧ zfr z 135 27 = .ref 149 ∧ zcls z 149 = 50 ∧ zlen z 149 = 1024 ∧ zfr z 135 28 = .ref 150 ∧ zcls z 150 = 50 ∧ zlen z 150 = 1024 ∧ zfr z 135 29 = .ref 151 ∧ zcls z 151 = 50 ∧ zlen z 151 = 65536 ∧ zfr z 135 30 = .ref 152 ∧ zcls z 152 = 50 ∧ zlen z 152 = 65536 ∧ zfr z 135 31 = .ref 153 ∧ zcls z 153 = 50 ∧ zlen z 153 = 65536 ∧ zfr z 135 32 = .ref 154 ∧ zcls z 154 = 54 ∧ zlen z 154 = 65536 ∧ zfr z 135 33 = .ref 155 ∧ zcls z 155 = 50 ∧ zlen z 155 = 16 ∧ zfr z 135 35 = .ref 156 ∧ zcls z 156 = 50 ∧ zlen z 156 = 16 ∧ zfr z 135 36 = .ref 157 ∧ zcls z 157 = 50 ∧ zlen z 157 = 9080 ∧ zfr z 135 37 = .ref 158 ∧ zcls z 158 = 50 ∧ zlen z 158 = 4 ∧ zfr z 135 38 = .ref 159 ∧ zcls z 159 = 50 ∧ zlen z 159 = 4 ∧ zfr z 135 39 = .ref 160 ∧ zcls z 160 = 51 ∧ zlen z 160 = 240 ∧ zfr z 135 40 = .ref 161 ∧ zcls z 161 = 51 ∧ zlen z 161 = 60
theorem MS_sfi (z : ZH) (r k : Nat) (v : Int32) : MS (sfi z r k v) = MS z := rfl
theorem MS_sia (z : ZH) (r k : Nat) (v : Int32) : MS (sia z r k v) = MS z := rfl
theorem MS_sla (z : ZH) (r k : Nat) (v : Int64) : MS (sla z r k v) = MS z := rfl
theorem MS_sra (z : ZH) (r k : Nat) (v : Value) : MS (sra z r k v) = MS z := rfl
theorem MS_sIA (z : ZH) (r : Nat) (f : Nat → Int32) : MS (sIA z r f) = MS z := rfl
theorem MS_sLA (z : ZH) (r : Nat) (f : Nat → Int64) : MS (sLA z r f) = MS z := rfl
theorem MS_sls (z : ZH) (r : Nat) (l : List Value) : MS (sls z r l) = MS z := rfl
theorem MS_spay (z : ZH) (a b : Nat) : MS (spay z a b) = MS z := rfl
/-- the component's fixed cells -/
def CS (z : ZH) : Prop := zcls z 100 = 0 ∧ zcls z 101 = 60 ∧ zcls z 102 = 1 ∧ zcls z 109 = 3 ∧ zcls z 110 = 50 ∧ zcls z 111 = 90 ∧ zcls z 113 = 4 ∧ zcls z 114 = 90 ∧ zcls z 116 = 61 ∧ zcls z 117 = 62 ∧ zcls z 118 = 6 ∧ zcls z 119 = 7 ∧ zcls z 120 = 8 ∧ zcls z 121 = 9 ∧ zcls z 122 = 10 ∧ zcls z 123 = 50 ∧ zcls z 124 = 50 ∧ zcls z 125 = 50 ∧ zcls z 126 = 50 ∧ zcls z 127 = 52 ∧ zcls z 128 = 50 ∧ zcls z 129 = 50 ∧ zcls z 130 = 50 ∧ zcls z 131 = 11 ∧ zcls z 132 = 11 ∧ zcls z 133 = 11 ∧ zcls z 134 = 11 ∧ zfr z 100 0 = .ref 101 ∧ zfr z 100 1 = .ref 102 ∧ zfr z 100 2 = .ref 116 ∧ zfr z 100 3 = .ref 117 ∧ zfr z 100 4 = .ref 122 ∧ zfr z 100 5 = .ref 127 ∧ zfr z 100 9 = .ref 128 ∧ zfr z 100 10 = .ref 129 ∧ zfr z 100 11 = .ref 130 ∧ zfr z 102 1 = .ref 109 ∧ zfr z 102 2 = .ref 114 ∧ zfr z 109 2 = .ref 110 ∧ zfr z 109 3 = .ref 111 ∧ zfr z 109 4 = .ref 113 ∧ zfr z 122 0 = .ref 123 ∧ zfr z 122 1 = .ref 124 ∧ zfr z 122 2 = .ref 125 ∧ zfr z 122 3 = .ref 126 ∧ zfr z 122 11 = .ref 100 ∧ zra z 101 0 = .ref 131 ∧ zra z 101 1 = .ref 132 ∧ zra z 101 2 = .ref 133 ∧ zra z 101 3 = .ref 134 ∧ zra z 117 0 = .ref 118 ∧ zra z 117 1 = .ref 119 ∧ zra z 117 2 = .ref 120 ∧ zra z 117 3 = .ref 121 ∧ zlen z 101 = 4 ∧ zlen z 110 = 16 ∧ zlen z 116 = 3 ∧ zlen z 117 = 4 ∧ zlen z 123 = 10 ∧ zlen z 124 = 10240 ∧ zlen z 125 = 10240 ∧ zlen z 126 = 10 ∧ zlen z 127 = 1400 ∧ zlen z 128 = 1024 ∧ zlen z 129 = 1024 ∧ zlen z 130 = 65536
theorem CS_sfi (z : ZH) (r k : Nat) (v : Int32) : CS (sfi z r k v) = CS z := rfl
theorem CS_sia (z : ZH) (r k : Nat) (v : Int32) : CS (sia z r k v) = CS z := rfl
theorem CS_sla (z : ZH) (r k : Nat) (v : Int64) : CS (sla z r k v) = CS z := rfl
theorem CS_sIA (z : ZH) (r : Nat) (f : Nat → Int32) : CS (sIA z r f) = CS z := rfl
theorem CS_sLA (z : ZH) (r : Nat) (f : Nat → Int64) : CS (sLA z r f) = CS z := rfl
theorem CS_sls (z : ZH) (r : Nat) (l : List Value) : CS (sls z r l) = CS z := rfl
theorem CS_spay (z : ZH) (a b : Nat) : CS (spay z a b) = CS z := rfl
/-- the model's world as numbers -/
def sW (z : ZH) (v : Nat → Nat) : ZH := sIA z 136 (fun i => nI (v i))
theorem MS_sW (z : ZH) (v : Nat → Nat) : MS (sW z v) = MS z := rfl
theorem CS_sW (z : ZH) (v : Nat → Nat) : CS (sW z v) = CS z := rfl
theorem sW_r (z : ZH) (v : Nat → Nat) (i : Nat) : zia (sW z v) 136 i = nI (v i) := congrFun (zu1_s (zia z) 136 (fun i => nI (v i))) i
theorem sW_n (z : ZH) (v : Nat → Nat) {q : Nat} (h : q ≠ 136) : zia (sW z v) q = zia z q := zu1_n _ _ _ h
theorem sW_w (z : ZH) (v : Nat → Nat) (k x : Nat) : sia (sW z v) 136 k (nI x) = sW z (zu1 v k x) := by
  unfold sW sIA sia zmk
  simp only [zcls, zfi, zfr, zia, zla, zra, zlen, zls, zown, zn, zuc, zus, Prod.mk.injEq, true_and, and_true]
  funext q j
  unfold zu2 zu1
  by_cases hq : q = 136
  · subst hq
    by_cases hj : j = k
    · subst hj; simp
    · simp [hj]
  · simp [hq]
theorem sW_eq (z : ZH) (v : Nat → Nat) (h : ∀ i, zia z 136 i = nI (v i)) : sW z v = z := by
  unfold sW sIA zmk
  have : zu1 (zia z) 136 (fun i => nI (v i)) = zia z := by
    funext q
    unfold zu1
    by_cases hq : q = 136
    · subst hq
      rw [if_pos rfl]
      funext i
      exact (h i).symm
    · rw [if_neg hq]
  rw [this]
  rfl
theorem cls_sW (z : ZH) (v : Nat → Nat) : zcls (sW z v) = zcls z := rfl
theorem fi_sW (z : ZH) (v : Nat → Nat) : zfi (sW z v) = zfi z := rfl
theorem fr_sW (z : ZH) (v : Nat → Nat) : zfr (sW z v) = zfr z := rfl
theorem la_sW (z : ZH) (v : Nat → Nat) : zla (sW z v) = zla z := rfl
theorem ra_sW (z : ZH) (v : Nat → Nat) : zra (sW z v) = zra z := rfl
theorem len_sW (z : ZH) (v : Nat → Nat) : zlen (sW z v) = zlen z := rfl
theorem ls_sW (z : ZH) (v : Nat → Nat) : zls (sW z v) = zls z := rfl
theorem own_sW (z : ZH) (v : Nat → Nat) : zown (sW z v) = zown z := rfl
theorem n_sW (z : ZH) (v : Nat → Nat) : zn (sW z v) = zn z := rfl
theorem uc_sW (z : ZH) (v : Nat → Nat) : zuc (sW z v) = zuc z := rfl
theorem us_sW (z : ZH) (v : Nat → Nat) : zus (sW z v) = zus z := rfl
theorem sW_sfi (z : ZH) (v : Nat → Nat) (r k : Nat) (x : Int32) : sfi (sW z v) r k x = sW (sfi z r k x) v := rfl
theorem sW_sla (z : ZH) (v : Nat → Nat) (r k : Nat) (x : Int64) : sla (sW z v) r k x = sW (sla z r k x) v := rfl
theorem sW_sLA (z : ZH) (v : Nat → Nat) (r : Nat) (f : Nat → Int64) : sLA (sW z v) r f = sW (sLA z r f) v := rfl
theorem sW_sls (z : ZH) (v : Nat → Nat) (r : Nat) (l : List Value) : sls (sW z v) r l = sW (sls z r l) v := rfl
theorem sW_spay (z : ZH) (v : Nat → Nat) (a b : Nat) : spay (sW z v) a b = sW (spay z a b) v := rfl
theorem sW_sia (z : ZH) (v : Nat → Nat) {r : Nat} (k : Nat) (x : Int32) (h : r ≠ 136) : sia (sW z v) r k x = sW (sia z r k x) v := by
  unfold sW sIA sia zmk
  simp only [zcls, zfi, zfr, zia, zla, zra, zlen, zls, zown, zn, zuc, zus, Prod.mk.injEq, true_and, and_true]
  funext q j
  unfold zu2 zu1
  by_cases hq : q = 136
  · subst hq
    have : ¬ (136 = r) := fun e => h e.symm
    simp [this]
  · simp [hq]
theorem sW_sIA (z : ZH) (v : Nat → Nat) {r : Nat} (f : Nat → Int32) (h : r ≠ 136) : sIA (sW z v) r f = sW (sIA z r f) v := by
  unfold sW sIA zmk
  simp only [zcls, zfi, zfr, zia, zla, zra, zlen, zls, zown, zn, zuc, zus, Prod.mk.injEq, true_and, and_true]
  funext q
  unfold zu1
  by_cases hq : q = 136
  · subst hq
    have : ¬ (136 = r) := fun e => h e.symm
    simp [this]
  · simp [hq]
theorem sIA_sia (z : ZH) (r : Nat) (f : Nat → Int32) (k : Nat) (x : Int32) : sia (sIA z r f) r k x = sIA z r (zu1 f k x) := by
  unfold sIA sia zmk
  simp only [zcls, zfi, zfr, zia, zla, zra, zlen, zls, zown, zn, zuc, zus, Prod.mk.injEq, true_and, and_true]
  funext q j
  unfold zu2 zu1
  by_cases hq : q = r
  · subst hq
    by_cases hj : j = k
    · subst hj; simp
    · simp [hj]
  · simp [hq]
theorem sIA_self (z : ZH) (r : Nat) : sIA z r (zia z r) = z := by
  unfold sIA zmk
  have : zu1 (zia z) r (zia z r) = zia z := by
    funext q
    unfold zu1
    by_cases hq : q = r
    · subst hq; rw [if_pos rfl]
    · rw [if_neg hq]
  rw [this]
  rfl
theorem sIA_sIA (z : ZH) (r : Nat) (f g : Nat → Int32) : sIA (sIA z r f) r g = sIA z r g := by
  unfold sIA zmk
  simp only [zcls, zfi, zfr, zia, zla, zra, zlen, zls, zown, zn, zuc, zus, Prod.mk.injEq, true_and, and_true]
  funext q
  unfold zu1
  by_cases hq : q = r
  · simp [hq]
  · simp [hq]
theorem sIA_siaN (z : ZH) {r r2 : Nat} (f : Nat → Int32) (k : Nat) (x : Int32) (h : r ≠ r2) : sia (sIA z r2 f) r k x = sIA (sia z r k x) r2 f := by
  unfold sIA sia zmk
  simp only [zcls, zfi, zfr, zia, zla, zra, zlen, zls, zown, zn, zuc, zus, Prod.mk.injEq, true_and, and_true]
  funext q j
  unfold zu2 zu1
  by_cases hq : q = r2
  · subst hq
    have : ¬ (q = r) := fun e => h e.symm
    simp [this]
  · simp [hq]
theorem sfi_sia (z : ZH) (r k : Nat) (x : Int32) (r2 k2 : Nat) (y : Int32) : sia (sfi z r k x) r2 k2 y = sfi (sia z r2 k2 y) r k x := rfl
theorem sfi_sIA (z : ZH) (r k : Nat) (x : Int32) (r2 : Nat) (f : Nat → Int32) : sIA (sfi z r k x) r2 f = sfi (sIA z r2 f) r k x := rfl
theorem sfi_sfi (z : ZH) (r k : Nat) (x y : Int32) : sfi (sfi z r k x) r k y = sfi z r k y := by
  unfold sfi zmk
  simp only [zcls, zfi, zfr, zia, zla, zra, zlen, zls, zown, zn, zuc, zus, Prod.mk.injEq, true_and, and_true]
  funext q j
  unfold zu2
  by_cases hq : q = r ∧ j = k
  · simp [hq]
  · simp [hq]
theorem sfi_self (z : ZH) (r k : Nat) : sfi z r k (zfi z r k) = z := by
  unfold sfi zmk
  have : zu2 (zfi z) r k (zfi z r k) = zfi z := by
    funext q j
    unfold zu2
    by_cases hq : q = r ∧ j = k
    · rw [if_pos hq, hq.1, hq.2]
    · rw [if_neg hq]
  rw [this]
  rfl
