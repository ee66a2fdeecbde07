set_option maxRecDepth 100000
/-! how many bits -/
def usr (a : Int32) (b : Int32) : Int32 := (a.toUInt32 >>> (b.toUInt32 &&& Int32.toUInt32 31)).toInt32
def bcA (i : Int32) : Int32 := i - (usr i (nI 1) &&& nI 1431655765)
def bcB (i : Int32) : Int32 := (i &&& nI 858993459) + (usr i (nI 2) &&& nI 858993459)
def bcC (i : Int32) : Int32 := (i + usr i (nI 4)) &&& nI 252645135
def bcD (i : Int32) : Int32 := i + usr i (nI 8)
def bcE (i : Int32) : Int32 := (i + usr i (nI 16)) &&& nI 63
def bcI (x : Int32) : Int32 := bcE (bcD (bcC (bcB (bcA x))))
theorem c251 {d : Nat} {z : ZH} {Q : ZQ} {x : Int32} : ZC zG d 251 [.int x] z Q = Q (.inl (some (.int (bcI x)))) z := by
  simp only [e251, s251_0, s251_1, s251_2, s251_3, s251_4, s251_7, s251_8, s251_9, s251_10, s251_11, s251_14, s251_15, s251_16, s251_17, s251_18, s251_21, s251_22, s251_23, s251_24, s251_25, s251_26, s251_27, s251_28, s251_29, s251_32, s251_33, s251_34, s251_35, s251_36, s251_38, s251_39, s251_40, s251_41, s251_42, s251_43, s251_45, s251_46, s251_47, s251_48, s251_49, s251_51, s251_52, zcs_0, zcs_1, zcs_2, zcs_3, zcs_4, zcs_5, zcs_6, zcs_7, znl_i, znl_r, znl_n, Bool.and_true, Bool.true_and, zk_v, zk_n, zk_x, zir_r, zir_n, zclr_i, zclr_r, zclr_n, zclr_d, zclr_l, true_and, and_true, and_self, if_true, if_false, reduceIte]
  rfl
/-- bits of a byte -/
def pcN (n : Nat) : Nat → Nat
  | 0 => 0
  | k + 1 => pcN n k + n / 2 ^ k % 2
theorem and256 (x y : Nat) : x &&& y = 256 * (x / 256 &&& y / 256) + (x % 256 &&& y % 256) := by
  have h1 : (x &&& y) / 2 ^ 8 = x / 2 ^ 8 &&& y / 2 ^ 8 := Nat.and_div_two_pow
  have h2 : (x &&& y) % 2 ^ 8 = x % 2 ^ 8 &&& y % 2 ^ 8 := Nat.and_mod_two_pow
  have h3 : (2 : Nat) ^ 8 = 256 := rfl
  rw [h3] at h1 h2
  omega
def a8 (x : Nat) : Nat := x - (x / 2 &&& 85)
def b8 (x : Nat) : Nat := (x &&& 51) + (x / 4 &&& 51)
def c8 (x : Nat) : Nat := x + x / 16 &&& 15
theorem k1 : ∀ e, e < 2 → ∀ m, m < 128 → (128 * e + m &&& 85) = (m &&& 85) := by decide +kernel
theorem k2 : ∀ e, e < 4 → ∀ m, m < 64 → (64 * e + m &&& 51) = (m &&& 51) := by decide +kernel
theorem k3 : ∀ x, x < 256 → (x / 2 &&& 85) ≤ x ∧ (x / 2 &&& 5592405) = (x / 2 &&& 85) ∧ a8 x < 256 ∧ (x &&& 3355443) = (x &&& 51) ∧ (x / 4 &&& 3355443) = (x / 4 &&& 51) ∧ b8 (a8 x) ≤ 68 ∧ c8 (b8 (a8 x)) = pcN x 8 ∧ c8 (b8 (a8 x)) ≤ 8 ∧ b8 (a8 x) % 16 ≤ 4 := by decide +kernel
theorem k4 : ∀ h, h < 69 → h % 16 ≤ 4 → ∀ l, l < 69 → (16 * (h % 16) + l + l / 16) < 256 ∧ (16 * (h % 16) + l + l / 16 &&& 15) = c8 l ∧ h + h / 16 < 256 ∧ (h + h / 16 &&& 986895) = c8 h := by decide +kernel
theorem k5 : ∀ m, m < 64 → ∀ h, h < 17 → (256 * h + m &&& 63) = m := by decide +kernel
theorem sA {h l : Nat} (hh : h < 256) (hl : l < 256) : (256 * h + l) / 2 &&& 1431655765 = 256 * (h / 2 &&& 85) + (l / 2 &&& 85) := by
  rw [and256]
  have e1 : (256 * h + l) / 2 / 256 = h / 2 := by omega
  have e2 : (256 * h + l) / 2 % 256 = 128 * (h % 2) + l / 2 := by omega
  rw [e1, e2, show 1431655765 / 256 = 5592405 from rfl, show 1431655765 % 256 = 85 from rfl, k1 _ (by omega) _ (by omega), (k3 h hh).2.1]
theorem sB {h l : Nat} (hh : h < 256) (hl : l < 256) : (256 * h + l &&& 858993459) = 256 * (h &&& 51) + (l &&& 51) ∧ ((256 * h + l) / 4 &&& 858993459) = 256 * (h / 4 &&& 51) + (l / 4 &&& 51) := by
  constructor
  · rw [and256, show (256 * h + l) / 256 = h by omega, show (256 * h + l) % 256 = l by omega, show 858993459 / 256 = 3355443 from rfl, show 858993459 % 256 = 51 from rfl, (k3 h hh).2.2.2.1]
  · rw [and256, show (256 * h + l) / 4 / 256 = h / 4 by omega, show (256 * h + l) / 4 % 256 = 64 * (h % 4) + l / 4 by omega, show 858993459 / 256 = 3355443 from rfl, show 858993459 % 256 = 51 from rfl, k2 _ (by omega) _ (by omega), (k3 h hh).2.2.2.2.1]
theorem sC {h l : Nat} (hh : h < 69) (h4 : h % 16 ≤ 4) (hl : l < 69) : (256 * h + l) + (256 * h + l) / 16 &&& 252645135 = 256 * c8 h + c8 l := by
  obtain ⟨g1, g2, g3, g4⟩ := k4 h hh h4 l hl
  rw [and256, show ((256 * h + l) + (256 * h + l) / 16) / 256 = h + h / 16 by omega, show ((256 * h + l) + (256 * h + l) / 16) % 256 = 16 * (h % 16) + l + l / 16 by omega, show 252645135 / 256 = 986895 from rfl, show 252645135 % 256 = 15 from rfl, g2, g4]
theorem pc_lo {h l : Nat} : ∀ k, k ≤ 8 → pcN (256 * h + l) k = pcN l k
  | 0, _ => rfl
  | k + 1, hk => by
    unfold pcN
    rw [pc_lo k (by omega)]
    congr 1
    match k, hk with
    | 0, _ => omega
    | 1, _ => omega
    | 2, _ => omega
    | 3, _ => omega
    | 4, _ => omega
    | 5, _ => omega
    | 6, _ => omega
    | 7, _ => omega
theorem pc_hi {h l : Nat} (hl : l < 256) : ∀ k, k ≤ 8 → pcN (256 * h + l) (8 + k) = pcN l 8 + pcN h k
  | 0, _ => pc_lo 8 (Nat.le_refl 8)
  | k + 1, hk => by
    have e : pcN (256 * h + l) (8 + (k + 1)) = pcN (256 * h + l) (8 + k) + (256 * h + l) / 2 ^ (8 + k) % 2 := rfl
    have e2 : pcN h (k + 1) = pcN h k + h / 2 ^ k % 2 := rfl
    have e3 : (256 * h + l) / 2 ^ (8 + k) = h / 2 ^ k := by
      rw [Nat.pow_add, ← Nat.div_div_eq_div_mul, show (2 : Nat) ^ 8 = 256 from rfl, show (256 * h + l) / 256 = h by omega]
    rw [e, e2, e3, pc_hi hl k (by omega)]
    omega
theorem usr_n {n k : Nat} (hn : n < 4294967296) (hk : k < 32) : usr (nI n) (nI k) = nI (n / 2 ^ k) := by
  have key : ∀ k, k < 32 → ((((nI k).toUInt32 &&& Int32.toUInt32 31).toBitVec % 32).toNat = k) := by decide +kernel
  exact pk_ushrN hn (nI k) k (key k hk)
theorem bc_pc {n : Nat} (hn : n < 65536) : bcI (nI n) = nI (pcN n 16) := by
  obtain ⟨h, l, hh, hl, rfl⟩ : ∃ h l, h < 256 ∧ l < 256 ∧ n = 256 * h + l := ⟨n / 256, n % 256, by omega, by omega, by omega⟩
  obtain ⟨p1, p2, p3, p4, p5, p6, p7, p8, p9⟩ := k3 h hh
  obtain ⟨q1, q2, q3, q4, q5, q6, q7, q8, q9⟩ := k3 l hl
  have eA : bcA (nI (256 * h + l)) = nI (256 * a8 h + a8 l) := by
    unfold bcA
    rw [usr_n (by omega) (by omega), nI_and, Nat.pow_one, sA hh hl, pk_sub (by omega)]
    congr 1
    unfold a8
    omega
  obtain ⟨sB1, sB2⟩ := sB p3 q3
  have eB : bcB (nI (256 * a8 h + a8 l)) = nI (256 * b8 (a8 h) + b8 (a8 l)) := by
    unfold bcB
    rw [usr_n (by omega) (by omega), nI_and, nI_and, show (2 : Nat) ^ 2 = 4 from rfl, sB1, sB2, nI_add]
    congr 1
    unfold b8
    omega
  have eC : bcC (nI (256 * b8 (a8 h) + b8 (a8 l))) = nI (256 * c8 (b8 (a8 h)) + c8 (b8 (a8 l))) := by
    unfold bcC
    rw [usr_n (by omega) (by omega), nI_add, nI_and, show (2 : Nat) ^ 4 = 16 from rfl, sC (by omega) p9 (by omega)]
  unfold bcI
  rw [eA, eB, eC, p7, q7]
  rw [p7] at p8
  rw [q7] at q8
  have eD : bcD (nI (256 * pcN h 8 + pcN l 8)) = nI (256 * pcN h 8 + (pcN l 8 + pcN h 8)) := by
    unfold bcD
    rw [usr_n (by omega) (by omega), nI_add, show (2 : Nat) ^ 8 = 256 from rfl]
    congr 1
    omega
  have eE : bcE (nI (256 * pcN h 8 + (pcN l 8 + pcN h 8))) = nI (pcN l 8 + pcN h 8) := by
    unfold bcE
    rw [usr_n (by omega) (by omega), nI_add, nI_and, show (2 : Nat) ^ 16 = 65536 from rfl, show (256 * pcN h 8 + (pcN l 8 + pcN h 8)) / 65536 = 0 by omega, Nat.add_zero, k5 _ (by omega) _ (by omega)]
  rw [eD, eE]
  rw [pc_hi hl 8 (Nat.le_refl 8)]
theorem has_bit {n k : Nat} (hn : n < 2147483648) (hk : k < 31) : (nI n >>> (nI k &&& 31)) &&& nI 1 = nI (n / 2 ^ k % 2) := by
  have hs : ((nI k &&& 31).toBitVec.smod 32).toNat = k := by
    have key : ∀ k, k < 31 → ((nI k &&& 31).toBitVec.smod 32).toNat = k := by decide +kernel
    exact key k hk
  rw [pk_shrN hn _ k hs, pk_andN (by have := Nat.div_le_self n (2 ^ k); omega) 1 rfl, Nat.pow_one]
theorem hasI_n {n k : Nat} (hn : n < 2147483648) (hk : k < 31) : hasI (nI n) (nI k) = n.testBit k := by
  unfold hasI
  rw [has_bit hn hk, Nat.testBit_eq_decide_div_mod_eq]
  have h2 := Nat.mod_lt (n / 2 ^ k) (show 2 > 0 by omega)
  by_cases h : n / 2 ^ k % 2 = 1
  · rw [h]
    simp
  · have h0 : n / 2 ^ k % 2 = 0 := by omega
    rw [h0]
    decide
theorem ones_pc {n : Nat} (hn : n < 2147483648) : ∀ k, k ≤ 16 → onesN (nI n) k = nI (pcN n k)
  | 0, _ => rfl
  | k + 1, h => by
    unfold onesN pcN
    rw [ones_pc hn k (by omega), has_bit hn (by omega), nI_add]
