set_option maxRecDepth 100000
/-! trailing zeros -/
theorem odd_part : ∀ n, 0 < n → ∃ p u, n = 2 ^ p * (2 * u + 1) := by
  intro n
  induction n using Nat.strongRecOn with
  | _ n ih =>
    intro hn
    by_cases h : n % 2 = 1
    · exact ⟨0, n / 2, by rw [Nat.pow_zero]; omega⟩
    · obtain ⟨p, u, e⟩ := ih (n / 2) (by omega) (by omega)
      refine ⟨p + 1, u, ?_⟩
      rw [Nat.pow_succ, Nat.mul_right_comm, ← e]
      omega
theorem ntz_bits {p u i : Nat} : ((2 ^ p * (2 * u + 1)).testBit i = false → (2 ^ p * (2 * u + 1) - 1).testBit i = decide (i < p)) ∧ ((2 ^ p * (2 * u + 1)).testBit i = true → ¬ i < p) := by
  have e1 : 2 ^ p * (2 * u + 1) = 2 ^ p * (2 * u + 1) + 0 := rfl
  have hp := Nat.two_pow_pos p
  have e2 : 2 ^ p * (2 * u + 1) - 1 = 2 ^ p * (2 * u) + (2 ^ p - 1) := by rw [Nat.mul_add]; omega
  have b1 := Nat.testBit_two_pow_mul_add (2 * u + 1) (b := 0) (i := p) hp i
  have b2 := Nat.testBit_two_pow_mul_add (2 * u) (b := 2 ^ p - 1) (i := p) (by omega) i
  rw [← e1] at b1
  rw [e2, b1, b2]
  by_cases c : i < p
  · rw [if_pos c, if_pos c, Nat.testBit_two_pow_sub_one]
    simp [c]
  · rw [if_neg c, if_neg c]
    cases hj : i - p with
    | zero => simp; omega
    | succ j =>
      refine ⟨fun h => ?_, fun _ => c⟩
      rw [Nat.testBit_succ] at h ⊢
      rw [show (2 * u + 1) / 2 = u by omega] at h
      rw [show 2 * u / 2 = u by omega, h]
      simp [c]
theorem ntz_mask {p u : Nat} (hn : 2 ^ p * (2 * u + 1) < 65536) : (nI (2 ^ p * (2 * u + 1)) ^^^ (-1)) &&& (nI (2 ^ p * (2 * u + 1)) - nI 1) = nI (2 ^ p - 1) := by
  have hp := Nat.two_pow_pos p
  have hp2 : 2 ^ p ≤ 2 ^ p * (2 * u + 1) := Nat.le_mul_of_pos_right _ (by omega)
  have hs : nI (2 ^ p * (2 * u + 1)) - nI 1 = nI (2 ^ p * (2 * u + 1) - 1) := pk_sub (by omega)
  rw [hs]
  apply Int32.toBitVec_inj.mp
  show (BitVec.ofNat 32 (2 ^ p * (2 * u + 1)) ^^^ BitVec.allOnes 32) &&& BitVec.ofNat 32 (2 ^ p * (2 * u + 1) - 1) = BitVec.ofNat 32 (2 ^ p - 1)
  apply BitVec.eq_of_getLsbD_eq
  intro i hi
  obtain ⟨b1, b2⟩ := ntz_bits (p := p) (u := u) (i := i)
  simp only [BitVec.getLsbD_and, BitVec.getLsbD_xor, BitVec.getLsbD_ofNat, BitVec.getLsbD_allOnes, hi, decide_true, Bool.true_and, Nat.testBit_two_pow_sub_one, Bool.xor_true]
  cases hb : (2 ^ p * (2 * u + 1)).testBit i with
  | false => rw [b1 hb]; rfl
  | true => simp [b2 hb]
section NTZ
variable {d : Nat} {z : ZH} {Q : ZQ}
theorem us_n {n k : Nat} (h1 : n < 4294967296) (h2 : k < 32) : ((nI n).toUInt32 >>> ((nI k).toUInt32 &&& Int32.toUInt32 31)).toInt32 = nI (n / 2 ^ k) := usr_n h1 h2
def nzC (i n : Nat) : Nat := if i ≤ 4 then n + i / 2 else n + 2 + i / 4 / 2
def nzB (i n : Nat) : Nat := if i ≤ 16 then nzC i n else nzC (i / 16) (n + 4)
def nzA (i n : Nat) : Nat := if i ≤ 256 then nzB i n else nzB (i / 256) (n + 8)
theorem nz_at : ∀ p, p < 16 → 0 < p → nzA (2 ^ p - 1) 1 = p := by decide
theorem n252d {i n : Nat} (hi : i < 65536) (hn : n < 100) : ZW zG d 252 74 [.int (nI i), .int (nI n)] [] z Q = Q (.inl (some (.int (nI (n + i / 2))))) z := by
  simp (disch := omega) only [s252_74, s252_75, s252_76, s252_77, s252_78, s252_79, zcs_0, zcs_1, zcs_2, zcs_3, zcs_4, zcs_5, zcs_6, zcs_7, znl_i, znl_r, znl_n, Bool.and_true, Bool.true_and, zk_v, zk_n, zk_x, zir_r, zir_n, zclr_i, zclr_r, zclr_n, zclr_d, zclr_l, true_and, and_true, and_self, if_true, if_false, reduceIte, nI_add, pk_mul, zin_ok, zx_nI, nI_lt2, nI_le2, nI_eq2, nI_l0, nI_g0, nI_q0, nI_p0, nI_n0, nI_m1, Nat.add_zero, Nat.zero_add, Nat.reduceAdd, Nat.reduceMul, true_or, or_true, znar_50, bI_0, bI_1, bI_z, bft, nI_z0, nI_z1, lgc_lt, lgc_gt, lgc_le, lgc_ge, lgc_eq, not_true_eq_false, not_false_eq_true, Bool.not_eq_true, Bool.not_eq_false, reduceCtorEq, us_n, Nat.reducePow]
theorem n252c {i n : Nat} (hi : i < 65536) (hn : n < 90) : ZW zG d 252 62 [.int (nI i), .int (nI n)] [] z Q = Q (.inl (some (.int (nI (nzC i n))))) z := by
  unfold nzC
  by_cases c : i ≤ 4
  · rw [if_pos c]
    simp (disch := omega) only [s252_62, s252_63, s252_64, s252_67, s252_70, s252_71, s252_72, s252_73, zcs_0, zcs_1, zcs_2, zcs_3, zcs_4, zcs_5, zcs_6, zcs_7, znl_i, znl_r, znl_n, Bool.and_true, Bool.true_and, zk_v, zk_n, zk_x, zir_r, zir_n, zclr_i, zclr_r, zclr_n, zclr_d, zclr_l, true_and, and_true, and_self, if_true, if_false, reduceIte, nI_add, pk_mul, zin_ok, zx_nI, nI_lt2, nI_le2, nI_eq2, nI_l0, nI_g0, nI_q0, nI_p0, nI_n0, nI_m1, Nat.add_zero, Nat.zero_add, Nat.reduceAdd, Nat.reduceMul, true_or, or_true, znar_50, bI_0, bI_1, bI_z, bft, nI_z0, nI_z1, lgc_lt, lgc_gt, lgc_le, lgc_ge, lgc_eq, not_true_eq_false, not_false_eq_true, Bool.not_eq_true, Bool.not_eq_false, reduceCtorEq, c, n252d]
  · rw [if_neg c]
    simp (disch := omega) only [s252_62, s252_63, s252_64, s252_67, s252_70, s252_71, s252_72, s252_73, zcs_0, zcs_1, zcs_2, zcs_3, zcs_4, zcs_5, zcs_6, zcs_7, znl_i, znl_r, znl_n, Bool.and_true, Bool.true_and, zk_v, zk_n, zk_x, zir_r, zir_n, zclr_i, zclr_r, zclr_n, zclr_d, zclr_l, true_and, and_true, and_self, if_true, if_false, reduceIte, nI_add, pk_mul, zin_ok, zx_nI, nI_lt2, nI_le2, nI_eq2, nI_l0, nI_g0, nI_q0, nI_p0, nI_n0, nI_m1, Nat.add_zero, Nat.zero_add, Nat.reduceAdd, Nat.reduceMul, true_or, or_true, znar_50, bI_0, bI_1, bI_z, bft, nI_z0, nI_z1, lgc_lt, lgc_gt, lgc_le, lgc_ge, lgc_eq, not_true_eq_false, not_false_eq_true, Bool.not_eq_true, Bool.not_eq_false, reduceCtorEq, c, us_n, Nat.reducePow, n252d]
theorem n252b {i n : Nat} (hi : i < 65536) (hn : n < 80) : ZW zG d 252 49 [.int (nI i), .int (nI n)] [] z Q = Q (.inl (some (.int (nI (nzB i n))))) z := by
  unfold nzB
  by_cases c : i ≤ 16
  · rw [if_pos c]
    simp (disch := omega) only [s252_49, s252_50, s252_52, s252_55, s252_58, s252_59, s252_60, s252_61, zcs_0, zcs_1, zcs_2, zcs_3, zcs_4, zcs_5, zcs_6, zcs_7, znl_i, znl_r, znl_n, Bool.and_true, Bool.true_and, zk_v, zk_n, zk_x, zir_r, zir_n, zclr_i, zclr_r, zclr_n, zclr_d, zclr_l, true_and, and_true, and_self, if_true, if_false, reduceIte, nI_add, pk_mul, zin_ok, zx_nI, nI_lt2, nI_le2, nI_eq2, nI_l0, nI_g0, nI_q0, nI_p0, nI_n0, nI_m1, Nat.add_zero, Nat.zero_add, Nat.reduceAdd, Nat.reduceMul, true_or, or_true, znar_50, bI_0, bI_1, bI_z, bft, nI_z0, nI_z1, lgc_lt, lgc_gt, lgc_le, lgc_ge, lgc_eq, not_true_eq_false, not_false_eq_true, Bool.not_eq_true, Bool.not_eq_false, reduceCtorEq, c, n252c]
  · rw [if_neg c]
    simp (disch := omega) only [s252_49, s252_50, s252_52, s252_55, s252_58, s252_59, s252_60, s252_61, zcs_0, zcs_1, zcs_2, zcs_3, zcs_4, zcs_5, zcs_6, zcs_7, znl_i, znl_r, znl_n, Bool.and_true, Bool.true_and, zk_v, zk_n, zk_x, zir_r, zir_n, zclr_i, zclr_r, zclr_n, zclr_d, zclr_l, true_and, and_true, and_self, if_true, if_false, reduceIte, nI_add, pk_mul, zin_ok, zx_nI, nI_lt2, nI_le2, nI_eq2, nI_l0, nI_g0, nI_q0, nI_p0, nI_n0, nI_m1, Nat.add_zero, Nat.zero_add, Nat.reduceAdd, Nat.reduceMul, true_or, or_true, znar_50, bI_0, bI_1, bI_z, bft, nI_z0, nI_z1, lgc_lt, lgc_gt, lgc_le, lgc_ge, lgc_eq, not_true_eq_false, not_false_eq_true, Bool.not_eq_true, Bool.not_eq_false, reduceCtorEq, c, us_n, Nat.reducePow, n252c]
theorem n252a {i n : Nat} (hi : i < 65536) (hn : n < 70) : ZW zG d 252 34 [.int (nI i), .int (nI n)] [] z Q = Q (.inl (some (.int (nI (nzA i n))))) z := by
  unfold nzA
  by_cases c : i ≤ 256
  · rw [if_pos c]
    simp (disch := omega) only [s252_34, s252_35, s252_38, s252_41, s252_44, s252_45, s252_47, s252_48, zcs_0, zcs_1, zcs_2, zcs_3, zcs_4, zcs_5, zcs_6, zcs_7, znl_i, znl_r, znl_n, Bool.and_true, Bool.true_and, zk_v, zk_n, zk_x, zir_r, zir_n, zclr_i, zclr_r, zclr_n, zclr_d, zclr_l, true_and, and_true, and_self, if_true, if_false, reduceIte, nI_add, pk_mul, zin_ok, zx_nI, nI_lt2, nI_le2, nI_eq2, nI_l0, nI_g0, nI_q0, nI_p0, nI_n0, nI_m1, Nat.add_zero, Nat.zero_add, Nat.reduceAdd, Nat.reduceMul, true_or, or_true, znar_50, bI_0, bI_1, bI_z, bft, nI_z0, nI_z1, lgc_lt, lgc_gt, lgc_le, lgc_ge, lgc_eq, not_true_eq_false, not_false_eq_true, Bool.not_eq_true, Bool.not_eq_false, reduceCtorEq, c, n252b]
  · rw [if_neg c]
    simp (disch := omega) only [s252_34, s252_35, s252_38, s252_41, s252_44, s252_45, s252_47, s252_48, zcs_0, zcs_1, zcs_2, zcs_3, zcs_4, zcs_5, zcs_6, zcs_7, znl_i, znl_r, znl_n, Bool.and_true, Bool.true_and, zk_v, zk_n, zk_x, zir_r, zir_n, zclr_i, zclr_r, zclr_n, zclr_d, zclr_l, true_and, and_true, and_self, if_true, if_false, reduceIte, nI_add, pk_mul, zin_ok, zx_nI, nI_lt2, nI_le2, nI_eq2, nI_l0, nI_g0, nI_q0, nI_p0, nI_n0, nI_m1, Nat.add_zero, Nat.zero_add, Nat.reduceAdd, Nat.reduceMul, true_or, or_true, znar_50, bI_0, bI_1, bI_z, bft, nI_z0, nI_z1, lgc_lt, lgc_gt, lgc_le, lgc_ge, lgc_eq, not_true_eq_false, not_false_eq_true, Bool.not_eq_true, Bool.not_eq_false, reduceCtorEq, c, us_n, Nat.reducePow, n252b]
theorem c252 {p u : Nat} (hp : p < 16) (hn : 2 ^ p * (2 * u + 1) < 65536) : ZC zG d 252 [.int (nI (2 ^ p * (2 * u + 1)))] z Q = Q (.inl (some (.int (nI p)))) z := by
  have hm := ntz_mask hn
  generalize 2 ^ p * (2 * u + 1) = x at hm ⊢
  simp only [e252, s252_0, s252_1, s252_2, s252_3, s252_4, s252_5, s252_6, s252_7, zcs_0, zcs_1, zcs_2, zcs_3, zcs_4, zcs_5, zcs_6, zcs_7, znl_i, znl_r, znl_n, Bool.and_true, Bool.true_and, zk_v, zk_n, zk_x, zir_r, zir_n, zclr_i, zclr_r, zclr_n, zclr_d, zclr_l, true_and, and_true, and_self, if_true, if_false, reduceIte, hm]
  have hpl : 2 ^ p < 65537 := by
    have : (2 : Nat) ^ p ≤ 2 ^ 16 := Nat.pow_le_pow_right (by omega) (by omega)
    omega
  have hp0 := Nat.two_pow_pos p
  by_cases c : p = 0
  · subst c
    have e0 : nI (2 ^ 0 - 1) = nI 0 := rfl
    rw [e0]
    simp (disch := omega) only [s252_8, s252_9, s252_12, s252_13, s252_15, s252_16, zcs_0, zcs_1, zcs_2, zcs_3, zcs_4, zcs_5, zcs_6, zcs_7, znl_i, znl_r, znl_n, Bool.and_true, Bool.true_and, zk_v, zk_n, zk_x, zir_r, zir_n, zclr_i, zclr_r, zclr_n, zclr_d, zclr_l, true_and, and_true, and_self, if_true, if_false, reduceIte, nI_add, pk_mul, zin_ok, zx_nI, nI_lt2, nI_le2, nI_eq2, nI_l0, nI_g0, nI_q0, nI_p0, nI_n0, nI_m1, Nat.add_zero, Nat.zero_add, Nat.reduceAdd, Nat.reduceMul, true_or, or_true, znar_50, bI_0, bI_1, bI_z, bft, nI_z0, nI_z1, lgc_lt, lgc_gt, lgc_le, lgc_ge, lgc_eq, not_true_eq_false, not_false_eq_true, Bool.not_eq_true, Bool.not_eq_false, reduceCtorEq, Nat.lt_irrefl, nI_and, Nat.zero_and]
  · have h2 : 1 < 2 ^ p := Nat.one_lt_two_pow c
    have h3 : 0 < 2 ^ p - 1 := by omega
    have h4 : 2 ^ p - 1 ≤ 65536 := by omega
    have fin := fun n => n252a (d := d) (z := z) (Q := Q) (i := 2 ^ p - 1) (n := n) (by omega)
    have e9 := nz_at p hp (by omega)
    generalize 2 ^ p - 1 = i at h3 h4 fin e9 ⊢
    have f1 := fin 1 (by omega)
    rw [e9] at f1
    simp (disch := omega) only [s252_8, s252_9, s252_12, s252_13, s252_15, s252_16, s252_17, s252_18, s252_19, s252_20, s252_23, s252_26, s252_29, s252_30, s252_32, s252_33, zcs_0, zcs_1, zcs_2, zcs_3, zcs_4, zcs_5, zcs_6, zcs_7, znl_i, znl_r, znl_n, Bool.and_true, Bool.true_and, zk_v, zk_n, zk_x, zir_r, zir_n, zclr_i, zclr_r, zclr_n, zclr_d, zclr_l, true_and, and_true, and_self, if_true, if_false, reduceIte, nI_add, pk_mul, zin_ok, zx_nI, nI_lt2, nI_le2, nI_eq2, nI_l0, nI_g0, nI_q0, nI_p0, nI_n0, nI_m1, Nat.add_zero, Nat.zero_add, Nat.reduceAdd, Nat.reduceMul, true_or, or_true, znar_50, bI_0, bI_1, bI_z, bft, nI_z0, nI_z1, lgc_lt, lgc_gt, lgc_le, lgc_ge, lgc_eq, not_true_eq_false, not_false_eq_true, Bool.not_eq_true, Bool.not_eq_false, reduceCtorEq, h3, h4, f1]

theorem ntz_iff {n h p u : Nat} (e : n = 2 ^ p * (2 * u + 1)) (hb : n.testBit h = true) : (n &&& (2 ^ h - 1) = 0) ↔ p = h := by
  rw [Nat.and_two_pow_sub_one_eq_mod]
  constructor
  · intro hz
    have hb2 := hb
    rw [e] at hb2
    have := (ntz_bits (p := p) (u := u) (i := h)).2 hb2
    by_cases c : p = h
    · exact c
    · exfalso
      have hd : 2 ^ h ∣ n := Nat.dvd_of_mod_eq_zero hz
      have hd2 : 2 ^ (p + 1) ∣ 2 ^ h := Nat.pow_dvd_pow 2 (by omega)
      obtain ⟨w, hw⟩ := Nat.dvd_trans hd2 hd
      rw [e, Nat.pow_succ, Nat.mul_assoc] at hw
      have := Nat.eq_of_mul_eq_mul_left (Nat.two_pow_pos p) hw
      omega
  · intro hc
    subst hc
    rw [e]
    exact Nat.mul_mod_right _ _
end NTZ
/-- a house is in what it comes to -/
theorem or_tb {a b i : Nat} (h : a.testBit i = true) : (a ||| b).testBit i = true := by rw [Nat.testBit_or, h]; rfl
theorem passB_tb {bt : Nat → Nat} {s i : Nat} (hi : s.testBit i = true) : ∀ n, ∃ c, passB bt (nI s) n = nI c ∧ c.testBit i = true
  | 0 => ⟨s, rfl, hi⟩
  | n + 1 => by
    obtain ⟨c, h1, h2⟩ := passB_tb (bt := bt) hi n
    unfold passB
    split
    · rw [h1, nI_or]
      exact ⟨_, rfl, or_tb h2⟩
    · exact ⟨c, h1, h2⟩
theorem fixB_tb {bt : Nat → Nat} {n i : Nat} (hb : ∀ h, h < n → bt h < 65536) : ∀ m s, s < 65536 → s.testBit i = true → ∃ c, c < 65536 ∧ c.testBit i = true ∧ fixI (fun s => passB bt s n) m (nI s) = nI c
  | 0, s, hs, hi => ⟨s, hs, hi, rfl⟩
  | m + 1, s, hs, hi => by
    obtain ⟨c, h1, h2, h3⟩ := passB_ok (bt := bt) hs n hb
    obtain ⟨c', g1, g2⟩ := passB_tb (bt := bt) hi n
    unfold fixI
    split
    · exact ⟨s, hs, hi, rfl⟩
    · rw [h3]
      have e : c.testBit i = true := by
        have he := g1.symm.trans h3
        have h5 : c' % 2 ^ 32 = c % 2 ^ 32 := by
          have h6 : (nI c').toBitVec.toNat = (nI c).toBitVec.toNat := by rw [he]
          exact h6
        rw [Nat.mod_eq_of_lt (a := c) (by omega)] at h5
        rw [← h5, Nat.testBit_mod_two_pow, g2, Bool.and_true, decide_eq_true]
        by_cases hi32 : i < 32
        · exact hi32
        · exfalso
          have := Nat.ge_two_pow_of_testBit hi
          have h7 : (2 : Nat) ^ 32 ≤ 2 ^ i := Nat.pow_le_pow_right (by omega) (by omega)
          omega
      exact fixB_tb hb m c h2 e
theorem rg_tb {bt : Nat → Nat} (hb : ∀ h, h < 16 → bt h < 65536) {n a : Nat} (ha : a < 16) : rgI bt n a = nI 0 ∨ ∃ c, 0 < c ∧ c < 65536 ∧ c.testBit a = true ∧ rgI bt n a = nI c := by
  have h2a : 2 ^ a < 65536 := by
    have : (2 : Nat) ^ a < 2 ^ 16 := Nat.pow_lt_pow_right (by omega) ha
    omega
  obtain ⟨c, h1, h2, h3⟩ := fixB_tb (bt := bt) (n := 16) (i := a) hb 65536 (2 ^ a) h2a Nat.testBit_two_pow_self
  have e : cmI bt 16 a = nI c := h3
  unfold rgI
  split
  · exact Or.inl rfl
  · split
    · exact Or.inl rfl
    · exact Or.inr ⟨c, tb_pos h2, h1, h2, e⟩
def rgP (v : Nat → Nat) (h : Nat) : Bool := !decide (rgI (btV v) (v 0) h = nI 0) && decide (rgI (btV v) (v 0) h &&& (nI (2 ^ h) - nI 1) = nI 0)
def rRings (v : Nat → Nat) : Int32 := nI (cntN (rgP v) (v 0))
section RGS
variable {d : Nat} {B : Nat → Prop} {z : ZH} {Q : ZQ} {v : Nat → Nat} {L : Nat → List (Nat × Nat)} {t hl kn rl : Nat} {ha ra da ea : Nat → Nat} {K : Nat}
theorem m206 (hM : MS z) (hv : ∀ i, v i < 2147483648) (h16 : v 0 ≤ 16) (hE : wE v) (H : ∀ f, Q (.inl (some (.int (rRings v)))) (sW (sIA z 156 f) v)) : ZC zG (d + 3) 206 [.ref 135] (sW z v) Q := by
  have h0 := hM
  unfold MS at h0
  obtain ⟨b1, b2, b3⟩ := btV_ok h16 hE
  have H1 := H (clA v (zia z 156) (v 8))
  have hcl : ∀ h, h < 16 → zia (sW (sIA z 156 (clA v (zia z 156) (v 8))) v) 156 h = nI (btV v h) := by
    intro h hh
    rw [sW_n _ _ (by omega), ia_sIA, zu1_s]
    exact if_pos hh
  have cr := fun d Q i hi => m204 (d := d) (z := sW (sIA z 156 (clA v (zia z 156) (v 8))) v) (Q := Q) hM hcl b2 (a := i) hi
  have hWE := hE.2.2
  have c203 := fun d Q => m203 (d := d) (z := z) (Q := Q) hM hv hE.1 (fun q hq => by have := (hWE q hq).1; omega) (fun q hq => by have := (hWE q hq).2.1; omega)
  have z2 := zl_x (P := fun k x => ZW zG (d + 3) 206 8 [.ref 135, .int (nI (cntN (rgP v) k)), .int (nI k), x] [] (sW (sIA z 156 (clA v (zia z 156) (v 8))) v) Q) (R := Q (.inl (some (.int (rRings v)))) (sW (sIA z 156 (clA v (zia z 156) (v 8))) v)) (v 0) (by
    intro x
    refine s206_8.trans ?_
    simp (disch := first | omega | exact hM | exact hv _ | (simp only [MS_sW, MS_sfi, MS_sia, MS_sIA, MS_sla, MS_sLA, MS_sls]; exact hM)) only [s206_0, s206_1, s206_4, s206_5, s206_6, s206_7, s206_9, s206_10, s206_13, s206_14, s206_15, s206_18, s206_19, s206_20, s206_23, s206_24, s206_25, s206_26, s206_29, s206_30, s206_31, s206_32, s206_33, s206_34, s206_35, s206_36, s206_39, s206_40, s206_43, s206_44, s206_45, s206_46, s206_49, s206_52, s206_53, zcs_0, zcs_1, zcs_2, zcs_3, zcs_4, zcs_5, zcs_6, zcs_7, znl_i, znl_r, znl_n, Bool.and_true, Bool.true_and, zk_v, zk_n, zk_x, zir_r, zir_n, zclr_i, zclr_r, zclr_n, zclr_d, zclr_l, true_and, and_true, and_self, if_true, if_false, reduceIte, nI_add, pk_mul, zin_ok, zx_nI, nI_lt2, nI_le2, nI_eq2, nI_l0, nI_g0, nI_q0, nI_p0, nI_n0, nI_m1, Nat.add_zero, Nat.zero_add, Nat.reduceAdd, Nat.reduceMul, true_or, or_true, znar_50, bI_0, bI_1, bI_z, bft, nI_z0, nI_z1, lgc_lt, lgc_gt, lgc_le, lgc_ge, lgc_eq, not_true_eq_false, not_false_eq_true, Bool.not_eq_true, Bool.not_eq_false, reduceCtorEq, MS_sW, CS_sW, sW_r, sW_n, sW_w, cls_sW, fi_sW, fr_sW, la_sW, ra_sW, len_sW, ls_sW, own_sW, n_sW, uc_sW, us_sW, sW_sfi, sW_sla, sW_sLA, sW_sls, sW_spay, sW_sia, sW_sIA, ne_eq, cls_sfi, fr_sfi, ia_sfi, la_sfi, ra_sfi, len_sfi, ls_sfi, own_sfi, n_sfi, uc_sfi, us_sfi, cls_sia, fi_sia, fr_sia, la_sia, ra_sia, len_sia, ls_sia, own_sia, n_sia, uc_sia, us_sia, cls_sIA, fi_sIA, fr_sIA, la_sIA, ra_sIA, len_sIA, ls_sIA, own_sIA, n_sIA, uc_sIA, us_sIA, cls_sla, fi_sla, fr_sla, ia_sla, ra_sla, len_sla, ls_sla, own_sla, n_sla, uc_sla, us_sla, cls_sLA, fi_sLA, fr_sLA, ia_sLA, ra_sLA, len_sLA, ls_sLA, own_sLA, n_sLA, uc_sLA, us_sLA, h0, Nat.le_refl]
    rfl) (by
    intro k x hk
    have g1 : ¬ v 0 ≤ k := by omega
    refine ⟨.int (rgI (btV v) (v 0) k), s206_8.trans ?_⟩
    have hst : cntN (rgP v) (k + 1) = cntN (rgP v) k + (if (!decide (rgI (btV v) (v 0) k = nI 0) && decide (rgI (btV v) (v 0) k &&& (nI (2 ^ k) - nI 1) = nI 0)) = true then 1 else 0) := rfl
    have crk := fun d Q => cr d Q k (by omega)
    rw [rg_more h16 hE hk] at crk
    have f00 : nI 0 = 0 := rfl
    by_cases c1 : rgI (btV v) (v 0) k = nI 0
    · rw [decide_eq_true c1] at hst
      simp only [Bool.not_true, Bool.false_and, Bool.false_eq_true, if_false, Nat.add_zero] at hst
      rw [hst]
      rw [f00] at c1
      simp (disch := first | omega | exact hM | exact hv _ | (simp only [MS_sW, MS_sfi, MS_sia, MS_sIA, MS_sla, MS_sLA, MS_sls]; exact hM)) only [s206_0, s206_1, s206_4, s206_5, s206_6, s206_7, s206_9, s206_10, s206_13, s206_14, s206_15, s206_18, s206_19, s206_20, s206_23, s206_24, s206_25, s206_26, s206_29, s206_30, s206_31, s206_32, s206_33, s206_34, s206_35, s206_36, s206_39, s206_40, s206_43, s206_44, s206_45, s206_46, s206_49, s206_52, s206_53, zcs_0, zcs_1, zcs_2, zcs_3, zcs_4, zcs_5, zcs_6, zcs_7, znl_i, znl_r, znl_n, Bool.and_true, Bool.true_and, zk_v, zk_n, zk_x, zir_r, zir_n, zclr_i, zclr_r, zclr_n, zclr_d, zclr_l, true_and, and_true, and_self, if_true, if_false, reduceIte, nI_add, pk_mul, zin_ok, zx_nI, nI_lt2, nI_le2, nI_eq2, nI_l0, nI_g0, nI_q0, nI_p0, nI_n0, nI_m1, Nat.add_zero, Nat.zero_add, Nat.reduceAdd, Nat.reduceMul, true_or, or_true, znar_50, bI_0, bI_1, bI_z, bft, nI_z0, nI_z1, lgc_lt, lgc_gt, lgc_le, lgc_ge, lgc_eq, not_true_eq_false, not_false_eq_true, Bool.not_eq_true, Bool.not_eq_false, reduceCtorEq, MS_sW, CS_sW, sW_r, sW_n, sW_w, cls_sW, fi_sW, fr_sW, la_sW, ra_sW, len_sW, ls_sW, own_sW, n_sW, uc_sW, us_sW, sW_sfi, sW_sla, sW_sLA, sW_sls, sW_spay, sW_sia, sW_sIA, ne_eq, cls_sfi, fr_sfi, ia_sfi, la_sfi, ra_sfi, len_sfi, ls_sfi, own_sfi, n_sfi, uc_sfi, us_sfi, cls_sia, fi_sia, fr_sia, la_sia, ra_sia, len_sia, ls_sia, own_sia, n_sia, uc_sia, us_sia, cls_sIA, fi_sIA, fr_sIA, la_sIA, ra_sIA, len_sIA, ls_sIA, own_sIA, n_sIA, uc_sIA, us_sIA, cls_sla, fi_sla, fr_sla, ia_sla, ra_sla, len_sla, ls_sla, own_sla, n_sla, uc_sla, us_sla, cls_sLA, fi_sLA, fr_sLA, ia_sLA, ra_sLA, len_sLA, ls_sLA, own_sLA, n_sLA, uc_sLA, us_sLA, h0, g1, crk, c1, eq_self]
    · rw [decide_eq_false c1, Bool.not_false, Bool.true_and] at hst
      rw [f00] at c1
      by_cases c2 : rgI (btV v) (v 0) k &&& (nI (2 ^ k) - nI 1) = nI 0
      · rw [decide_eq_true c2, if_pos rfl] at hst
        rw [hst]
        rw [f00] at c2
        simp (disch := first | omega | exact hM | exact hv _ | (simp only [MS_sW, MS_sfi, MS_sia, MS_sIA, MS_sla, MS_sLA, MS_sls]; exact hM)) only [s206_0, s206_1, s206_4, s206_5, s206_6, s206_7, s206_9, s206_10, s206_13, s206_14, s206_15, s206_18, s206_19, s206_20, s206_23, s206_24, s206_25, s206_26, s206_29, s206_30, s206_31, s206_32, s206_33, s206_34, s206_35, s206_36, s206_39, s206_40, s206_43, s206_44, s206_45, s206_46, s206_49, s206_52, s206_53, zcs_0, zcs_1, zcs_2, zcs_3, zcs_4, zcs_5, zcs_6, zcs_7, znl_i, znl_r, znl_n, Bool.and_true, Bool.true_and, zk_v, zk_n, zk_x, zir_r, zir_n, zclr_i, zclr_r, zclr_n, zclr_d, zclr_l, true_and, and_true, and_self, if_true, if_false, reduceIte, nI_add, pk_mul, zin_ok, zx_nI, nI_lt2, nI_le2, nI_eq2, nI_l0, nI_g0, nI_q0, nI_p0, nI_n0, nI_m1, Nat.add_zero, Nat.zero_add, Nat.reduceAdd, Nat.reduceMul, true_or, or_true, znar_50, bI_0, bI_1, bI_z, bft, nI_z0, nI_z1, lgc_lt, lgc_gt, lgc_le, lgc_ge, lgc_eq, not_true_eq_false, not_false_eq_true, Bool.not_eq_true, Bool.not_eq_false, reduceCtorEq, MS_sW, CS_sW, sW_r, sW_n, sW_w, cls_sW, fi_sW, fr_sW, la_sW, ra_sW, len_sW, ls_sW, own_sW, n_sW, uc_sW, us_sW, sW_sfi, sW_sla, sW_sLA, sW_sls, sW_spay, sW_sia, sW_sIA, ne_eq, cls_sfi, fr_sfi, ia_sfi, la_sfi, ra_sfi, len_sfi, ls_sfi, own_sfi, n_sfi, uc_sfi, us_sfi, cls_sia, fi_sia, fr_sia, la_sia, ra_sia, len_sia, ls_sia, own_sia, n_sia, uc_sia, us_sia, cls_sIA, fi_sIA, fr_sIA, la_sIA, ra_sIA, len_sIA, ls_sIA, own_sIA, n_sIA, uc_sIA, us_sIA, cls_sla, fi_sla, fr_sla, ia_sla, ra_sla, len_sla, ls_sla, own_sla, n_sla, uc_sla, us_sla, cls_sLA, fi_sLA, fr_sLA, ia_sLA, ra_sLA, len_sLA, ls_sLA, own_sLA, n_sLA, uc_sLA, us_sLA, h0, g1, crk, c1, nI_sh1, c2, eq_self]
      · rw [decide_eq_false c2, if_neg (by decide), Nat.add_zero] at hst
        rw [hst]
        rw [f00] at c2
        simp (disch := first | omega | exact hM | exact hv _ | (simp only [MS_sW, MS_sfi, MS_sia, MS_sIA, MS_sla, MS_sLA, MS_sls]; exact hM)) only [s206_0, s206_1, s206_4, s206_5, s206_6, s206_7, s206_9, s206_10, s206_13, s206_14, s206_15, s206_18, s206_19, s206_20, s206_23, s206_24, s206_25, s206_26, s206_29, s206_30, s206_31, s206_32, s206_33, s206_34, s206_35, s206_36, s206_39, s206_40, s206_43, s206_44, s206_45, s206_46, s206_49, s206_52, s206_53, zcs_0, zcs_1, zcs_2, zcs_3, zcs_4, zcs_5, zcs_6, zcs_7, znl_i, znl_r, znl_n, Bool.and_true, Bool.true_and, zk_v, zk_n, zk_x, zir_r, zir_n, zclr_i, zclr_r, zclr_n, zclr_d, zclr_l, true_and, and_true, and_self, if_true, if_false, reduceIte, nI_add, pk_mul, zin_ok, zx_nI, nI_lt2, nI_le2, nI_eq2, nI_l0, nI_g0, nI_q0, nI_p0, nI_n0, nI_m1, Nat.add_zero, Nat.zero_add, Nat.reduceAdd, Nat.reduceMul, true_or, or_true, znar_50, bI_0, bI_1, bI_z, bft, nI_z0, nI_z1, lgc_lt, lgc_gt, lgc_le, lgc_ge, lgc_eq, not_true_eq_false, not_false_eq_true, Bool.not_eq_true, Bool.not_eq_false, reduceCtorEq, MS_sW, CS_sW, sW_r, sW_n, sW_w, cls_sW, fi_sW, fr_sW, la_sW, ra_sW, len_sW, ls_sW, own_sW, n_sW, uc_sW, us_sW, sW_sfi, sW_sla, sW_sLA, sW_sls, sW_spay, sW_sia, sW_sIA, ne_eq, cls_sfi, fr_sfi, ia_sfi, la_sfi, ra_sfi, len_sfi, ls_sfi, own_sfi, n_sfi, uc_sfi, us_sfi, cls_sia, fi_sia, fr_sia, la_sia, ra_sia, len_sia, ls_sia, own_sia, n_sia, uc_sia, us_sia, cls_sIA, fi_sIA, fr_sIA, la_sIA, ra_sIA, len_sIA, ls_sIA, own_sIA, n_sIA, uc_sIA, us_sIA, cls_sla, fi_sla, fr_sla, ia_sla, ra_sla, len_sla, ls_sla, own_sla, n_sla, uc_sla, us_sla, cls_sLA, fi_sLA, fr_sLA, ia_sLA, ra_sLA, len_sLA, ls_sLA, own_sLA, n_sLA, uc_sLA, us_sLA, h0, g1, crk, c1, nI_sh1, c2, eq_self])
  simp (disch := first | omega | exact hM | exact hv _ | (simp only [MS_sW, MS_sfi, MS_sia, MS_sIA, MS_sla, MS_sLA, MS_sls]; exact hM)) only [e206, s206_0, s206_1, s206_4, s206_5, s206_6, s206_7, s206_9, s206_10, s206_13, s206_14, s206_15, s206_18, s206_19, s206_20, s206_23, s206_24, s206_25, s206_26, s206_29, s206_30, s206_31, s206_32, s206_33, s206_34, s206_35, s206_36, s206_39, s206_40, s206_43, s206_44, s206_45, s206_46, s206_49, s206_52, s206_53, zcs_0, zcs_1, zcs_2, zcs_3, zcs_4, zcs_5, zcs_6, zcs_7, znl_i, znl_r, znl_n, Bool.and_true, Bool.true_and, zk_v, zk_n, zk_x, zir_r, zir_n, zclr_i, zclr_r, zclr_n, zclr_d, zclr_l, true_and, and_true, and_self, if_true, if_false, reduceIte, nI_add, pk_mul, zin_ok, zx_nI, nI_lt2, nI_le2, nI_eq2, nI_l0, nI_g0, nI_q0, nI_p0, nI_n0, nI_m1, Nat.add_zero, Nat.zero_add, Nat.reduceAdd, Nat.reduceMul, true_or, or_true, znar_50, bI_0, bI_1, bI_z, bft, nI_z0, nI_z1, lgc_lt, lgc_gt, lgc_le, lgc_ge, lgc_eq, not_true_eq_false, not_false_eq_true, Bool.not_eq_true, Bool.not_eq_false, reduceCtorEq, MS_sW, CS_sW, sW_r, sW_n, sW_w, cls_sW, fi_sW, fr_sW, la_sW, ra_sW, len_sW, ls_sW, own_sW, n_sW, uc_sW, us_sW, sW_sfi, sW_sla, sW_sLA, sW_sls, sW_spay, sW_sia, sW_sIA, ne_eq, cls_sfi, fr_sfi, ia_sfi, la_sfi, ra_sfi, len_sfi, ls_sfi, own_sfi, n_sfi, uc_sfi, us_sfi, cls_sia, fi_sia, fr_sia, la_sia, ra_sia, len_sia, ls_sia, own_sia, n_sia, uc_sia, us_sia, cls_sIA, fi_sIA, fr_sIA, la_sIA, ra_sIA, len_sIA, ls_sIA, own_sIA, n_sIA, uc_sIA, us_sIA, cls_sla, fi_sla, fr_sla, ia_sla, ra_sla, len_sla, ls_sla, own_sla, n_sla, uc_sla, us_sla, cls_sLA, fi_sLA, fr_sLA, ia_sLA, ra_sLA, len_sLA, ls_sLA, own_sLA, n_sLA, uc_sLA, us_sLA, h0, c203]
  have z3 := z2 0 zdum (by omega)
  refine Eq.mpr z3 ?_
  exact H1
theorem c48 (h : NW B z v L t hl kn rl ha ra da ea) (hv : ∀ i, v i < 2147483648) (hWE : wE v) : ZC zG (d + 4) 48 [.ref 100] z Q = Q (.inl (some (.int (rRings v)))) z := by
  have h16 : v 0 ≤ 16 := h.2.2.1.2.2.2.1.2
  obtain ⟨b1, b2, b3⟩ := btV_ok h16 hWE
  have hw := hWE.2.2
  have cr := fun d Q i h9 => c49 (d := d) (Q := Q) h hv (fun q hq => by have := (hw q hq).2.1; omega) (bt := btV v) (fun _ _ => rfl) b3 b2 (a := i) h9
  have c63' := fun d Q => c63 (d := d) (Q := Q) h.2.2.1
  have ct := h.2.2.1.1.2
  have h1 := h.2.1.1
  have h0 := h.1
  unfold CS at h0
  have z2 := zl_x (P := fun k x => ZW zG (d + 4) 48 4 [.ref 100, .int (nI (cntN (rgP v) k)), .int (nI k), x] [] z Q) (R := Q (.inl (some (.int (rRings v)))) z) (v 0) (by
    intro x
    refine s48_4.trans ?_
    simp (disch := omega) only [s48_0, s48_1, s48_2, s48_3, s48_5, s48_6, s48_9, s48_12, s48_15, s48_18, s48_19, s48_20, s48_23, s48_24, s48_25, s48_26, s48_29, s48_30, s48_33, s48_34, s48_37, s48_38, s48_41, s48_42, s48_43, s48_44, s48_47, s48_50, s48_51, zcs_0, zcs_1, zcs_2, zcs_3, zcs_4, zcs_5, zcs_6, zcs_7, znl_i, znl_r, znl_n, Bool.and_true, Bool.true_and, zk_v, zk_n, zk_x, zir_r, zir_n, zclr_i, zclr_r, zclr_n, zclr_d, zclr_l, true_and, and_true, and_self, if_true, if_false, reduceIte, nI_add, pk_mul, zin_ok, zx_nI, nI_lt2, nI_le2, nI_eq2, nI_l0, nI_g0, nI_q0, nI_p0, nI_n0, nI_m1, Nat.add_zero, Nat.zero_add, Nat.reduceAdd, Nat.reduceMul, true_or, or_true, znar_50, bI_0, bI_1, bI_z, bft, nI_z0, nI_z1, lgc_lt, lgc_gt, lgc_le, lgc_ge, lgc_eq, not_true_eq_false, not_false_eq_true, Bool.not_eq_true, Bool.not_eq_false, reduceCtorEq, h0, h1, ct, c63', Nat.le_refl]
    rfl) (by
    intro k x hk
    have g1 : ¬ v 0 ≤ k := by omega
    refine ⟨.int (rgI (btV v) (v 0) k), s48_4.trans ?_⟩
    have hst : cntN (rgP v) (k + 1) = cntN (rgP v) k + (if (!decide (rgI (btV v) (v 0) k = nI 0) && decide (rgI (btV v) (v 0) k &&& (nI (2 ^ k) - nI 1) = nI 0)) = true then 1 else 0) := rfl
    have crk := fun d Q => cr d Q k (by omega)
    rcases rg_tb (bt := btV v) b2 (n := v 0) (a := k) (by omega) with c1 | ⟨c, p1, p2, p3, p4⟩
    · rw [decide_eq_true c1] at hst
      simp only [Bool.not_true, Bool.false_and, Bool.false_eq_true, if_false, Nat.add_zero] at hst
      rw [hst]
      rw [c1] at crk
      rw [c1]
      simp (disch := omega) only [s48_0, s48_1, s48_2, s48_3, s48_5, s48_6, s48_9, s48_12, s48_15, s48_18, s48_19, s48_20, s48_23, s48_24, s48_25, s48_26, s48_29, s48_30, s48_33, s48_34, s48_37, s48_38, s48_41, s48_42, s48_43, s48_44, s48_47, s48_50, s48_51, zcs_0, zcs_1, zcs_2, zcs_3, zcs_4, zcs_5, zcs_6, zcs_7, znl_i, znl_r, znl_n, Bool.and_true, Bool.true_and, zk_v, zk_n, zk_x, zir_r, zir_n, zclr_i, zclr_r, zclr_n, zclr_d, zclr_l, true_and, and_true, and_self, if_true, if_false, reduceIte, nI_add, pk_mul, zin_ok, zx_nI, nI_lt2, nI_le2, nI_eq2, nI_l0, nI_g0, nI_q0, nI_p0, nI_n0, nI_m1, Nat.add_zero, Nat.zero_add, Nat.reduceAdd, Nat.reduceMul, true_or, or_true, znar_50, bI_0, bI_1, bI_z, bft, nI_z0, nI_z1, lgc_lt, lgc_gt, lgc_le, lgc_ge, lgc_eq, not_true_eq_false, not_false_eq_true, Bool.not_eq_true, Bool.not_eq_false, reduceCtorEq, h0, h1, ct, c63', g1, crk, eq_self]
    · obtain ⟨p, u, e⟩ := odd_part c p1
      have hpl : p < 16 := by
        have hp2 : 2 ^ p ≤ 2 ^ p * (2 * u + 1) := Nat.le_mul_of_pos_right _ (by omega)
        exact Nat.pow_lt_pow_iff_right (a := 2) (by omega) |>.mp (by omega : 2 ^ p < 2 ^ 16)
      have hi := ntz_iff e p3
      have cz := fun d Q => c252 (d := d) (z := z) (Q := Q) (p := p) (u := u) hpl (by omega)
      rw [← e] at cz
      have hpos := Nat.two_pow_pos k
      have hsb : nI (2 ^ k) - nI 1 = nI (2 ^ k - 1) := pk_sub (by omega)
      have han : c &&& (2 ^ k - 1) ≤ c := Nat.and_le_left
      have c0 : ¬ nI c = nI 0 := by rw [nI_eq2 (by omega) (by omega)]; omega
      have c0' : ¬ c = 0 := by omega
      rw [p4, decide_eq_false c0, Bool.not_false, Bool.true_and, hsb, nI_and] at hst
      rw [p4] at crk ⊢
      by_cases c2 : p = k
      · rw [decide_eq_true (show nI (c &&& (2 ^ k - 1)) = nI 0 by rw [hi.mpr c2]), if_pos rfl] at hst
        rw [hst]
        simp (disch := omega) only [s48_0, s48_1, s48_2, s48_3, s48_5, s48_6, s48_9, s48_12, s48_15, s48_18, s48_19, s48_20, s48_23, s48_24, s48_25, s48_26, s48_29, s48_30, s48_33, s48_34, s48_37, s48_38, s48_41, s48_42, s48_43, s48_44, s48_47, s48_50, s48_51, zcs_0, zcs_1, zcs_2, zcs_3, zcs_4, zcs_5, zcs_6, zcs_7, znl_i, znl_r, znl_n, Bool.and_true, Bool.true_and, zk_v, zk_n, zk_x, zir_r, zir_n, zclr_i, zclr_r, zclr_n, zclr_d, zclr_l, true_and, and_true, and_self, if_true, if_false, reduceIte, nI_add, pk_mul, zin_ok, zx_nI, nI_lt2, nI_le2, nI_eq2, nI_l0, nI_g0, nI_q0, nI_p0, nI_n0, nI_m1, Nat.add_zero, Nat.zero_add, Nat.reduceAdd, Nat.reduceMul, true_or, or_true, znar_50, bI_0, bI_1, bI_z, bft, nI_z0, nI_z1, lgc_lt, lgc_gt, lgc_le, lgc_ge, lgc_eq, not_true_eq_false, not_false_eq_true, Bool.not_eq_true, Bool.not_eq_false, reduceCtorEq, h0, h1, ct, c63', g1, crk, cz, c0', c2]
      · have c3 : ¬ nI (c &&& (2 ^ k - 1)) = nI 0 := by
          rw [nI_eq2 (by omega) (by omega)]
          exact fun e => c2 (hi.mp e)
        rw [decide_eq_false c3, if_neg (by decide), Nat.add_zero] at hst
        rw [hst]
        simp (disch := omega) only [s48_0, s48_1, s48_2, s48_3, s48_5, s48_6, s48_9, s48_12, s48_15, s48_18, s48_19, s48_20, s48_23, s48_24, s48_25, s48_26, s48_29, s48_30, s48_33, s48_34, s48_37, s48_38, s48_41, s48_42, s48_43, s48_44, s48_47, s48_50, s48_51, zcs_0, zcs_1, zcs_2, zcs_3, zcs_4, zcs_5, zcs_6, zcs_7, znl_i, znl_r, znl_n, Bool.and_true, Bool.true_and, zk_v, zk_n, zk_x, zir_r, zir_n, zclr_i, zclr_r, zclr_n, zclr_d, zclr_l, true_and, and_true, and_self, if_true, if_false, reduceIte, nI_add, pk_mul, zin_ok, zx_nI, nI_lt2, nI_le2, nI_eq2, nI_l0, nI_g0, nI_q0, nI_p0, nI_n0, nI_m1, Nat.add_zero, Nat.zero_add, Nat.reduceAdd, Nat.reduceMul, true_or, or_true, znar_50, bI_0, bI_1, bI_z, bft, nI_z0, nI_z1, lgc_lt, lgc_gt, lgc_le, lgc_ge, lgc_eq, not_true_eq_false, not_false_eq_true, Bool.not_eq_true, Bool.not_eq_false, reduceCtorEq, h0, h1, ct, c63', g1, crk, cz, c0', c2])
  simp (disch := omega) only [e48, s48_0, s48_1, s48_2, s48_3, s48_5, s48_6, s48_9, s48_12, s48_15, s48_18, s48_19, s48_20, s48_23, s48_24, s48_25, s48_26, s48_29, s48_30, s48_33, s48_34, s48_37, s48_38, s48_41, s48_42, s48_43, s48_44, s48_47, s48_50, s48_51, zcs_0, zcs_1, zcs_2, zcs_3, zcs_4, zcs_5, zcs_6, zcs_7, znl_i, znl_r, znl_n, Bool.and_true, Bool.true_and, zk_v, zk_n, zk_x, zir_r, zir_n, zclr_i, zclr_r, zclr_n, zclr_d, zclr_l, true_and, and_true, and_self, if_true, if_false, reduceIte, nI_add, pk_mul, zin_ok, zx_nI, nI_lt2, nI_le2, nI_eq2, nI_l0, nI_g0, nI_q0, nI_p0, nI_n0, nI_m1, Nat.add_zero, Nat.zero_add, Nat.reduceAdd, Nat.reduceMul, true_or, or_true, znar_50, bI_0, bI_1, bI_z, bft, nI_z0, nI_z1, lgc_lt, lgc_gt, lgc_le, lgc_ge, lgc_eq, not_true_eq_false, not_false_eq_true, Bool.not_eq_true, Bool.not_eq_false, reduceCtorEq]
  exact z2 0 zdum (by omega)
end RGS

