set_option maxRecDepth 100000
/-! who hangs together: numbers, the model -/
def bitsI (v : Nat → Nat) (x y : Int32) (h : Nat) : Int32 :=
  let b := if nI h = x then nI (v (1864 + h)) &&& ((nI 1 <<< (y &&& 31)) ^^^ (-1)) else nI (v (1864 + h))
  if nI h = y then b &&& ((nI 1 <<< (x &&& 31)) ^^^ (-1)) else b
/-- one pass: from the set w, through the first n houses -/
def passI (v : Nat → Nat) (x y : Int32) (w : Int32) : Nat → Int32
  | 0 => w
  | h + 1 => if hasI w (nI h) = true then passI v x y w h ||| bitsI v x y h else passI v x y w h
/-- until nothing comes to it -/
def fixI (f : Int32 → Int32) : Nat → Int32 → Int32
  | 0, s => s
  | m + 1, s => if f s = s then s else fixI f m (f s)
theorem andI_le (b : Nat) (m : Int32) : ∃ c, c ≤ b ∧ nI b &&& m = nI c := by
  have e : m = nI m.toBitVec.toNat := by
    apply Int32.toBitVec_inj.mp
    show m.toBitVec = BitVec.ofNat 32 m.toBitVec.toNat
    rw [BitVec.ofNat_toNat, BitVec.setWidth_eq]
  rw [e, nI_and]
  exact ⟨_, Nat.and_le_left, rfl⟩
theorem bitsI_le (v : Nat → Nat) (x y : Int32) (h : Nat) : ∃ c, c ≤ v (1864 + h) ∧ bitsI v x y h = nI c := by
  unfold bitsI
  dsimp only
  by_cases c1 : nI h = x
  · rw [if_pos c1]
    obtain ⟨c, hc, e⟩ := andI_le (v (1864 + h)) ((nI 1 <<< (y &&& 31)) ^^^ (-1))
    rw [e]
    by_cases c2 : nI h = y
    · rw [if_pos c2]
      obtain ⟨c', hc', e'⟩ := andI_le c ((nI 1 <<< (x &&& 31)) ^^^ (-1))
      exact ⟨c', by omega, e'⟩
    · rw [if_neg c2]
      exact ⟨c, hc, rfl⟩
  · rw [if_neg c1]
    by_cases c2 : nI h = y
    · rw [if_pos c2]
      exact andI_le _ _
    · rw [if_neg c2]
      exact ⟨_, Nat.le_refl _, rfl⟩
theorem passI_ok {v : Nat → Nat} {x y : Int32} {s : Nat} (hs : s < 65536) : ∀ n, (∀ h, h < n → v (1864 + h) < 65536) → ∃ c, s ≤ c ∧ c < 65536 ∧ passI v x y (nI s) n = nI c
  | 0, _ => ⟨s, Nat.le_refl _, hs, rfl⟩
  | n + 1, hv => by
    obtain ⟨c, h1, h2, h3⟩ := passI_ok (x := x) (y := y) hs n (fun h hh => hv h (by omega))
    obtain ⟨b, h4, h5⟩ := bitsI_le v x y n
    unfold passI
    split
    · rw [h3, h5, nI_or]
      have hvn := hv n (by omega)
      have g1 : c ≤ c ||| b := Nat.left_le_or
      have g2 : c ||| b < 2 ^ 16 := Nat.or_lt_two_pow (show c < 2 ^ 16 by omega) (show b < 2 ^ 16 by omega)
      exact ⟨c ||| b, by omega, g2, rfl⟩
    · exact ⟨c, h1, h2, h3⟩
/-- houses that aren't there add nothing -/
theorem passI_more {v : Nat → Nat} {x y : Int32} {w : Int32} {n : Nat} : ∀ m, (∀ h, n ≤ h → h < n + m → v (1864 + h) = 0) → (∃ c, passI v x y w n = nI c) → passI v x y w (n + m) = passI v x y w n
  | 0, _, _ => rfl
  | m + 1, hz, hc => by
    have ih := passI_more (x := x) (y := y) (w := w) m (fun h h1 h2 => hz h h1 (by omega)) hc
    show (if hasI w (nI (n + m)) = true then passI v x y w (n + m) ||| bitsI v x y (n + m) else passI v x y w (n + m)) = _
    rw [ih]
    split
    · obtain ⟨b, h4, h5⟩ := bitsI_le v x y (n + m)
      rw [hz (n + m) (by omega) (by omega)] at h4
      obtain ⟨c, hc⟩ := hc
      have hb : b = 0 := by omega
      rw [h5, hb, hc, nI_or, Nat.or_zero]
    · rfl

