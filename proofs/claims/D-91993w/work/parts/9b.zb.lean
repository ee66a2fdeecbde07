set_option maxRecDepth 100000
/-! the first ten debts -/
def tnC (v : Nat → Nat) (a : Int32) (l : List Nat) (i : Nat) : Prop := l.length < 10 ∧ nI (v (1880 + 5 * i)) = a
def tnL (v : Nat → Nat) (a : Int32) : Nat → List Nat
  | 0 => []
  | i + 1 => if (tnL v a i).length < 10 ∧ nI (v (1880 + 5 * i)) = a then tnL v a i ++ [i] else tnL v a i
def tnS (v : Nat → Nat) (a : Int32) : Nat → Nat
  | 0 => 0
  | i + 1 => if (tnL v a i).length < 10 ∧ nI (v (1880 + 5 * i)) = a then tnS v a i ||| 2 ^ v (1880 + 5 * i + 1) else tnS v a i
def thL (s : Nat) : Nat → List Nat
  | 0 => []
  | h + 1 => if s.testBit h = true then thL s h ++ [h] else thL s h
theorem tnL_len {v : Nat → Nat} {a : Int32} : ∀ i, (tnL v a i).length = min 10 (sDebtsOf v a i)
  | 0 => rfl
  | i + 1 => by
    have ih := tnL_len (v := v) (a := a) i
    have hs : sDebtsOf v a (i + 1) = sDebtsOf v a i + (if decide (nI (v (1880 + 5 * i)) = a) = true then 1 else 0) := rfl
    rw [hs]
    unfold tnL
    by_cases c : nI (v (1880 + 5 * i)) = a
    · rw [decide_eq_true c, if_pos rfl]
      by_cases c2 : (tnL v a i).length < 10
      · rw [if_pos ⟨c2, c⟩, List.length_append, List.length_singleton]
        omega
      · rw [if_neg (fun q => c2 q.1)]
        omega
    · rw [decide_eq_false c, if_neg (fun q => c q.2), if_neg (by decide)]
      exact ih
theorem tnL_at {v : Nat → Nat} {a : Int32} : ∀ i k, k < (tnL v a i).length → hsL (tnL v a i) k < i ∧ nI (v (1880 + 5 * hsL (tnL v a i) k)) = a ∧ sDebtsOf v a (hsL (tnL v a i) k) = k
  | 0, k, h => absurd h (by simp [tnL])
  | i + 1, k, h => by
    have hl := tnL_len (v := v) (a := a) i
    unfold tnL at h ⊢
    split at h
    · rename_i hc
      rw [if_pos hc, hsL_app]
      rw [List.length_append, List.length_singleton] at h
      by_cases c : k < (tnL v a i).length
      · rw [if_pos c]
        obtain ⟨h1, h2, h3⟩ := tnL_at i k c
        exact ⟨by omega, h2, h3⟩
      · have e : k = (tnL v a i).length := by omega
        rw [if_neg c, if_pos e]
        exact ⟨by omega, hc.2, by omega⟩
    · rename_i hc
      rw [if_neg hc]
      obtain ⟨h1, h2, h3⟩ := tnL_at i k h
      exact ⟨by omega, h2, h3⟩
theorem cntN_mono (p : Nat → Bool) {i : Nat} : ∀ m, cntN p i ≤ cntN p (i + m)
  | 0 => Nat.le_refl _
  | m + 1 => Nat.le_trans (cntN_mono p m) (Nat.le_add_right _ _)
theorem sPlace_at {v : Nat → Nat} {a : Int32} {k : Nat} (hk : k < (tnL v a (v 7)).length) : sPlace v a k = hsL (tnL v a (v 7)) k := by
  obtain ⟨h1, h2, h3⟩ := tnL_at (v := v) (a := a) (v 7) k hk
  obtain ⟨f1, f2, f3⟩ := findN_t (q := fun q => decide (nI (v (1880 + 5 * q)) = a) && decide (sDebtsOf v a q = k)) (n := v 7) ⟨_, h1, by rw [decide_eq_true h2, decide_eq_true h3]; rfl⟩
  rw [Bool.and_eq_true, decide_eq_true_iff, decide_eq_true_iff] at f2
  have key : ∀ x y, x < y → nI (v (1880 + 5 * x)) = a → sDebtsOf v a x = k → ¬ sDebtsOf v a y = k := by
    intro x y hxy e1 e2 e3
    have hs : sDebtsOf v a (x + 1) = sDebtsOf v a x + (if decide (nI (v (1880 + 5 * x)) = a) = true then 1 else 0) := rfl
    rw [decide_eq_true e1, if_pos rfl] at hs
    have := cntN_mono (fun q => decide (nI (v (1880 + 5 * q)) = a)) (i := x + 1) (y - (x + 1))
    rw [show x + 1 + (y - (x + 1)) = y by omega] at this
    have h5 : sDebtsOf v a (x + 1) ≤ sDebtsOf v a y := this
    omega
  show findN _ _ = _
  rcases Nat.lt_trichotomy (findN (fun q => decide (nI (v (1880 + 5 * q)) = a) && decide (sDebtsOf v a q = k)) (v 7)) (hsL (tnL v a (v 7)) k) with q | q | q
  · exact absurd h3 (key _ _ q f2.1 f2.2)
  · exact q
  · exact absurd f2.2 (key _ _ q h2 h3)
def orN (f : Nat → Nat) : Nat → Nat
  | 0 => 0
  | k + 1 => orN f k ||| 2 ^ f k
theorem orN_c {f g : Nat → Nat} : ∀ n, (∀ k, k < n → f k = g k) → orN f n = orN g n
  | 0, _ => rfl
  | n + 1, h => by
    unfold orN
    rw [orN_c n (fun k hk => h k (by omega)), h n (by omega)]
theorem orN_tn {v : Nat → Nat} {a : Int32} : ∀ i, orN (fun k => v (1880 + 5 * hsL (tnL v a i) k + 1)) (tnL v a i).length = tnS v a i
  | 0 => rfl
  | i + 1 => by
    have ih := orN_tn (v := v) (a := a) i
    unfold tnS
    by_cases c : (tnL v a i).length < 10 ∧ nI (v (1880 + 5 * i)) = a
    · have e : tnL v a (i + 1) = tnL v a i ++ [i] := if_pos c
      rw [e, if_pos c, List.length_append, List.length_singleton]
      unfold orN
      rw [← ih, hsL_app, if_neg (Nat.lt_irrefl _), if_pos rfl]
      congr 1
      exact orN_c _ (fun k hk => by rw [hsL_app, if_pos hk])
    · have e : tnL v a (i + 1) = tnL v a i := if_neg c
      rw [e, if_neg c]
      exact ih
theorem cntB_or {s w : Nat} : ∀ n, cntB (s ||| 2 ^ w) n ≤ cntB s n + (if w < n then 1 else 0)
  | 0 => Nat.zero_le _
  | n + 1 => by
    have ih := cntB_or (s := s) (w := w) n
    have e1 : cntB (s ||| 2 ^ w) (n + 1) = cntB (s ||| 2 ^ w) n + (if (s ||| 2 ^ w).testBit n = true then 1 else 0) := rfl
    have e2 : cntB s (n + 1) = cntB s n + (if s.testBit n = true then 1 else 0) := rfl
    rw [e1, e2, Nat.testBit_or, Nat.testBit_two_pow]
    by_cases e : w = n
    · subst e
      rw [if_neg (Nat.lt_irrefl _)] at ih
      rw [if_pos (show w < w + 1 by omega)]
      have h1 : (if (s.testBit w || decide (w = w)) = true then 1 else 0) ≤ 1 := by split <;> omega
      omega
    · rw [decide_eq_false e, Bool.or_false]
      by_cases e3 : w < n
      · rw [if_pos e3] at ih
        rw [if_pos (show w < n + 1 by omega)]
        omega
      · rw [if_neg e3] at ih
        rw [if_neg (show ¬ w < n + 1 by omega)]
        omega
theorem tnS_ok {v : Nat → Nat} (h16 : v 0 ≤ 16) (hD : wD v) {a : Int32} : ∀ i, i ≤ v 7 → tnS v a i < 65536 ∧ (∀ b, (tnS v a i).testBit b = true → b < v 0) ∧ cntB (tnS v a i) 16 ≤ (tnL v a i).length
  | 0, _ => by
    refine ⟨show (0 : Nat) < 65536 by omega, fun b h => ?_, ?_⟩
    · have h' : (0 : Nat).testBit b = true := h
      rw [Nat.zero_testBit] at h'
      cases h'
    · show cntB 0 16 ≤ _
      rw [cntB_0]
      exact Nat.zero_le _
  | i + 1, hi => by
    obtain ⟨h1, h2, h3⟩ := tnS_ok h16 hD (a := a) i (by omega)
    have hb := (hD.2 i (by omega)).2.1
    have eL : tnL v a (i + 1) = if (tnL v a i).length < 10 ∧ nI (v (1880 + 5 * i)) = a then tnL v a i ++ [i] else tnL v a i := rfl
    have eS : tnS v a (i + 1) = if (tnL v a i).length < 10 ∧ nI (v (1880 + 5 * i)) = a then tnS v a i ||| 2 ^ v (1880 + 5 * i + 1) else tnS v a i := rfl
    rw [eS, eL]
    split
    · have hp : 2 ^ v (1880 + 5 * i + 1) < 2 ^ 16 := Nat.pow_lt_pow_right (by omega) (by omega)
      have ho : tnS v a i ||| 2 ^ v (1880 + 5 * i + 1) < 2 ^ 16 := Nat.or_lt_two_pow (by omega) hp
      refine ⟨by omega, fun b h => ?_, ?_⟩
      · rw [Nat.testBit_or, Nat.testBit_two_pow, Bool.or_eq_true] at h
        rcases h with h | h
        · exact h2 b h
        · have := of_decide_eq_true h
          omega
      · rw [List.length_append, List.length_singleton]
        have key := fun n => cntB_or (s := tnS v a i) (w := v (1880 + 5 * i + 1)) n
        have := key 16
        rw [if_pos (by omega)] at this
        omega
    · exact ⟨h1, h2, h3⟩
theorem thL_len (s : Nat) : ∀ h, (thL s h).length = cntB s h
  | 0 => rfl
  | h + 1 => by
    have ih := thL_len s h
    unfold cntB at ih ⊢
    unfold thL cntN
    split
    · rw [List.length_append, List.length_singleton, ih]
    · rw [ih, Nat.add_zero]
theorem thL_at (s : Nat) : ∀ h k, k < (thL s h).length → s.testBit (hsL (thL s h) k) = true
  | 0, k, hk => absurd hk (by simp [thL])
  | h + 1, k, hk => by
    unfold thL at hk ⊢
    split at hk
    · rename_i hc
      rw [if_pos hc, hsL_app]
      rw [List.length_append, List.length_singleton] at hk
      by_cases c : k < (thL s h).length
      · rw [if_pos c]; exact thL_at s h k c
      · rw [if_neg c, if_pos (by omega)]; exact hc
    · rename_i hc
      rw [if_neg hc]
      exact thL_at s h k hk
def tnN (v : Nat → Nat) (a : Nat) : Nat := (tnL v (nI a) (v 7)).length
def tnI (v : Nat → Nat) (a k : Nat) : Nat := hsL (tnL v (nI a) (v 7)) k
noncomputable def thHs (v : Nat → Nat) (a : Nat) : Nat → Nat := Classical.choose (⟨_, rfl⟩ : ∃ f, f = hsL (thL (tnS v (nI a) (v 7)) 16))
theorem thHs_d (v : Nat → Nat) (a : Nat) : thHs v a = hsL (thL (tnS v (nI a) (v 7)) 16) := Classical.choose_spec (⟨_, rfl⟩ : ∃ f, f = hsL (thL (tnS v (nI a) (v 7)) 16))
noncomputable def thN (v : Nat → Nat) (a : Nat) : Nat := Classical.choose (⟨_, rfl⟩ : ∃ n, n = (thL (tnS v (nI a) (v 7)) 16).length)
theorem thN_d (v : Nat → Nat) (a : Nat) : thN v a = (thL (tnS v (nI a) (v 7)) 16).length := Classical.choose_spec (⟨_, rfl⟩ : ∃ n, n = (thL (tnS v (nI a) (v 7)) 16).length)
theorem tnN_le (v : Nat → Nat) (a : Nat) : tnN v a ≤ 10 := by
  unfold tnN
  rw [tnL_len]
  omega
theorem th_OK {v : Nat → Nat} (h16 : v 0 ≤ 16) (hD : wD v) (a : Nat) : lOK v (thHs v a) (thN v a) := by
  obtain ⟨h1, h2, h3⟩ := tnS_ok h16 hD (a := nI a) (v 7) (Nat.le_refl _)
  have := tnN_le v a
  unfold tnN at this
  rw [thHs_d, thN_d]
  refine ⟨?_, fun k hk => h2 _ (thL_at _ 16 k hk)⟩
  rw [thL_len]
  omega
theorem tnI_at {v : Nat → Nat} {a k : Nat} (hk : k < tnN v a) : tnI v a k < v 7 ∧ sPlace v (nI a) k = tnI v a k := ⟨(tnL_at (v 7) k hk).1, sPlace_at hk⟩
/-! bits by a test -/
def cvB (P : Nat → Bool) : Nat → Nat
  | 0 => 0
  | k + 1 => cvB P k ||| (if P k = true then 2 ^ k else 0)
theorem cvB_tb (P : Nat → Bool) {i : Nat} : ∀ n, (cvB P n).testBit i = (decide (i < n) && P i)
  | 0 => by unfold cvB; rw [Nat.zero_testBit]; simp
  | n + 1 => by
    unfold cvB
    rw [Nat.testBit_or, cvB_tb P n]
    by_cases e : i = n
    · subst e
      cases hp : P i with
      | true => rw [if_pos rfl, Nat.testBit_two_pow_self]; simp
      | false => rw [if_neg (by decide), Nat.zero_testBit]; simp
    · have e2 : (if P n = true then 2 ^ n else 0).testBit i = false := by
        split
        · rw [Nat.testBit_two_pow]; exact decide_eq_false (fun q => e q.symm)
        · exact Nat.zero_testBit i
      have e3 : (decide (i < n + 1)) = decide (i < n) := by
        rw [Bool.eq_iff_iff, decide_eq_true_iff, decide_eq_true_iff]; omega
      rw [e2, e3, Bool.or_false]
theorem cvB_lt (P : Nat → Bool) (n : Nat) : cvB P n < 2 ^ n := Nat.lt_pow_two_of_testBit _ (fun i hi => by
  rw [cvB_tb, decide_eq_false (by omega)]; rfl)
theorem cvB_c {P P' : Nat → Bool} {n : Nat} (h : ∀ k, k < n → P k = P' k) : cvB P n = cvB P' n := by
  apply Nat.eq_of_testBit_eq
  intro i
  rw [cvB_tb, cvB_tb]
  by_cases c : i < n
  · rw [h i c]
  · rw [decide_eq_false c]; rfl
theorem andn_eq {S T l : Nat} (hl : l < 31) (h : ∀ i, i < 32 → T.testBit i = (S.testBit i && !decide (i = l))) : nI S &&& (nI (2 ^ l) ^^^ (-1)) = nI T := by
  apply Int32.toBitVec_inj.mp
  show BitVec.ofNat 32 S &&& (BitVec.ofNat 32 (2 ^ l) ^^^ BitVec.allOnes 32) = BitVec.ofNat 32 T
  apply BitVec.eq_of_getLsbD_eq
  intro i hi
  simp only [BitVec.getLsbD_and, BitVec.getLsbD_xor, BitVec.getLsbD_ofNat, BitVec.getLsbD_allOnes, hi, decide_true, Bool.true_and, Bool.xor_true, h i hi, Nat.testBit_two_pow]
  by_cases e : l = i
  · subst e; simp
  · have e2 : ¬ i = l := fun q => e q.symm
    simp [e, e2]
/-- what is seen in time by the set S on the day dy -/
def cvP (v : Nat → Nat) (hs : Nat → Nat) (n : Nat) (ix : Nat → Nat) (S dy k : Nat) : Bool := anyN (fun l => (S.testBit l && decide (hs l = v (1880 + 5 * ix k + 1))) && decide (dy ≤ v (1880 + 5 * ix k + 3))) n
theorem tn_full {v : Nat → Nat} {a : Int32} {i : Nat} (h : (tnL v a i).length = 10) : ∀ m, tnL v a (i + m) = tnL v a i ∧ tnS v a (i + m) = tnS v a i
  | 0 => ⟨rfl, rfl⟩
  | m + 1 => by
    obtain ⟨h1, h2⟩ := tn_full h m
    have e1 : tnL v a (i + (m + 1)) = if (tnL v a (i + m)).length < 10 ∧ nI (v (1880 + 5 * (i + m))) = a then tnL v a (i + m) ++ [i + m] else tnL v a (i + m) := rfl
    have e2 : tnS v a (i + (m + 1)) = if (tnL v a (i + m)).length < 10 ∧ nI (v (1880 + 5 * (i + m))) = a then tnS v a (i + m) ||| 2 ^ v (1880 + 5 * (i + m) + 1) else tnS v a (i + m) := rfl
    refine ⟨?_, ?_⟩
    · rw [e1, h1, if_neg (by omega)]
    · rw [e2, h1, h2, if_neg (by omega)]
section MN
variable {d : Nat} {z : ZH} {Q : ZQ} {v : Nat → Nat} {c : Nat → Bool} {dy n p t am a : Nat} {hs : Nat → Nat} {S l : Nat} {f : Nat → Int32}
theorem m191 (hM : MS z) (hv : ∀ i, v i < 2147483648) (ha : a < 2147483648) (h16 : v 0 ≤ 16) (hD : wD v) (h8 : v 8 ≤ 600)
    (H : ∀ z2, mFr z z2 → mL z2 (rdC v a) (thHs v a) (thN v a) → zfi z2 135 26 = nI (tnN v a) → (∀ k, k < tnN v a → zia z2 148 k = nI (tnI v a k)) → Q (.inl none) (sW z2 v)) : ZC zG (d + 2) 191 [.ref 135, .int (nI a)] (sW z v) Q := by
  have h0 := hM
  unfold MS at h0
  have h7 := hD.1
  obtain ⟨s1, s2, s3⟩ := tnS_ok h16 hD (a := nI a) (v 7) (Nat.le_refl _)
  have hth := (th_OK h16 hD a).1
  have cw := fun d Q => m181 (d := d) (z := z) (Q := Q) hM hv (by omega) (fun i hi => by have := (hD.2 i hi).2.1; omega) (a := nI a)
  have hW : mFr z (sWg z v (nI a)) := mFr_sIA (mFr_sIA (mFr_refl z) (by omega) _) (by omega) _
  have k2 := zl_inv (P := fun h (z3 : ZH) => ZW zG (d + 2) 191 91 [.ref 135, .int (nI a), .int (nI (tnS v (nI a) (v 7))), .int (nI h)] [] (sW z3 v) Q) (I := fun h z3 => mFr z z3 ∧ zfi z3 135 26 = nI (tnN v a) ∧ (∀ k, k < tnN v a → zia z3 148 k = nI (tnI v a k)) ∧ (∀ q, q < 16 → zia z3 145 q = bI (rdC v a q)) ∧ zfi z3 135 17 = nI (thL (tnS v (nI a) (v 7)) h).length ∧ (∀ k, k < (thL (tnS v (nI a) (v 7)) h).length → zia z3 143 k = nI (hsL (thL (tnS v (nI a) (v 7)) h) k))) 16 (by
    rintro z3 ⟨i1, i2, i3, i4, i5, i6⟩
    refine Eq.mpr s191_91 ?_
    simp (disch := first | omega | exact hM | exact hv _ | (simp only [MS_sW, MS_sfi, MS_sia, MS_sIA, MS_sla, MS_sLA, MS_sls]; exact hM)) only [s191_0, s191_1, s191_2, s191_5, s191_6, s191_7, s191_10, s191_11, s191_12, s191_13, s191_15, s191_16, s191_19, s191_21, s191_22, s191_25, s191_26, s191_29, s191_31, s191_34, s191_35, s191_36, s191_37, s191_40, s191_41, s191_44, s191_47, s191_48, s191_51, s191_52, s191_55, s191_56, s191_57, s191_58, s191_59, s191_62, s191_63, s191_64, s191_67, s191_68, s191_69, s191_70, s191_71, s191_72, s191_75, s191_76, s191_77, s191_78, s191_81, s191_84, s191_85, s191_86, s191_89, s191_90, s191_92, s191_94, s191_97, s191_98, s191_99, s191_102, s191_105, s191_108, s191_109, s191_112, s191_113, s191_116, s191_117, s191_118, s191_119, s191_120, s191_123, s191_124, s191_125, s191_128, s191_131, s191_134, zcs_0, zcs_1, zcs_2, zcs_3, zcs_4, zcs_5, zcs_6, zcs_7, znl_i, znl_r, znl_n, Bool.and_true, Bool.true_and, zk_v, zk_n, zk_x, zir_r, zir_n, zclr_i, zclr_r, zclr_n, zclr_d, zclr_l, true_and, and_true, and_self, if_true, if_false, reduceIte, nI_add, pk_mul, zin_ok, zx_nI, nI_lt2, nI_le2, nI_eq2, nI_l0, nI_g0, nI_q0, nI_p0, nI_n0, nI_m1, Nat.add_zero, Nat.zero_add, Nat.reduceAdd, Nat.reduceMul, true_or, or_true, znar_50, bI_0, bI_1, bI_z, bft, nI_z0, nI_z1, lgc_lt, lgc_gt, lgc_le, lgc_ge, lgc_eq, not_true_eq_false, not_false_eq_true, Bool.not_eq_true, Bool.not_eq_false, reduceCtorEq, Nat.le_refl]
    exact H z3 i1 (by rw [thHs_d, thN_d]; exact ⟨i5, i6, i4⟩) i2 i3) (by
    rintro h z3 hh ⟨i1, i2, i3, i4, i5, i6⟩ hnext
    have k0 := mFr_MS i1 hM
    unfold MS at k0
    have g1 : ¬ 16 ≤ h := by omega
    have hl : (thL (tnS v (nI a) (v 7)) h).length ≤ h := by rw [thL_len]; exact cntB_le _ h
    have hst : thL (tnS v (nI a) (v 7)) (h + 1) = if (tnS v (nI a) (v 7)).testBit h = true then thL (tnS v (nI a) (v 7)) h ++ [h] else thL (tnS v (nI a) (v 7)) h := rfl
    refine Eq.mpr s191_91 ?_
    cases hb : (tnS v (nI a) (v 7)).testBit h with
    | false =>
      rw [hb, if_neg (by decide)] at hst
      simp (disch := first | omega | exact hM | exact hv _ | (simp only [MS_sW, MS_sfi, MS_sia, MS_sIA, MS_sla, MS_sLA, MS_sls]; exact hM)) only [s191_0, s191_1, s191_2, s191_5, s191_6, s191_7, s191_10, s191_11, s191_12, s191_13, s191_15, s191_16, s191_19, s191_21, s191_22, s191_25, s191_26, s191_29, s191_31, s191_34, s191_35, s191_36, s191_37, s191_40, s191_41, s191_44, s191_47, s191_48, s191_51, s191_52, s191_55, s191_56, s191_57, s191_58, s191_59, s191_62, s191_63, s191_64, s191_67, s191_68, s191_69, s191_70, s191_71, s191_72, s191_75, s191_76, s191_77, s191_78, s191_81, s191_84, s191_85, s191_86, s191_89, s191_90, s191_92, s191_94, s191_97, s191_98, s191_99, s191_102, s191_105, s191_108, s191_109, s191_112, s191_113, s191_116, s191_117, s191_118, s191_119, s191_120, s191_123, s191_124, s191_125, s191_128, s191_131, s191_134, zcs_0, zcs_1, zcs_2, zcs_3, zcs_4, zcs_5, zcs_6, zcs_7, znl_i, znl_r, znl_n, Bool.and_true, Bool.true_and, zk_v, zk_n, zk_x, zir_r, zir_n, zclr_i, zclr_r, zclr_n, zclr_d, zclr_l, true_and, and_true, and_self, if_true, if_false, reduceIte, nI_add, pk_mul, zin_ok, zx_nI, nI_lt2, nI_le2, nI_eq2, nI_l0, nI_g0, nI_q0, nI_p0, nI_n0, nI_m1, Nat.add_zero, Nat.zero_add, Nat.reduceAdd, Nat.reduceMul, true_or, or_true, znar_50, bI_0, bI_1, bI_z, bft, nI_z0, nI_z1, lgc_lt, lgc_gt, lgc_le, lgc_ge, lgc_eq, not_true_eq_false, not_false_eq_true, Bool.not_eq_true, Bool.not_eq_false, reduceCtorEq, g1, m149, hasI_n, hb]
      refine hnext z3 ?_
      rw [hst]
      exact ⟨i1, i2, i3, i4, i5, i6⟩
    | true =>
      rw [hb, if_pos rfl] at hst
      generalize hlen : (thL (tnS v (nI a) (v 7)) h).length = len at *
      simp (disch := first | omega | exact hM | exact hv _ | (simp only [MS_sW, MS_sfi, MS_sia, MS_sIA, MS_sla, MS_sLA, MS_sls]; exact hM)) only [s191_0, s191_1, s191_2, s191_5, s191_6, s191_7, s191_10, s191_11, s191_12, s191_13, s191_15, s191_16, s191_19, s191_21, s191_22, s191_25, s191_26, s191_29, s191_31, s191_34, s191_35, s191_36, s191_37, s191_40, s191_41, s191_44, s191_47, s191_48, s191_51, s191_52, s191_55, s191_56, s191_57, s191_58, s191_59, s191_62, s191_63, s191_64, s191_67, s191_68, s191_69, s191_70, s191_71, s191_72, s191_75, s191_76, s191_77, s191_78, s191_81, s191_84, s191_85, s191_86, s191_89, s191_90, s191_92, s191_94, s191_97, s191_98, s191_99, s191_102, s191_105, s191_108, s191_109, s191_112, s191_113, s191_116, s191_117, s191_118, s191_119, s191_120, s191_123, s191_124, s191_125, s191_128, s191_131, s191_134, zcs_0, zcs_1, zcs_2, zcs_3, zcs_4, zcs_5, zcs_6, zcs_7, znl_i, znl_r, znl_n, Bool.and_true, Bool.true_and, zk_v, zk_n, zk_x, zir_r, zir_n, zclr_i, zclr_r, zclr_n, zclr_d, zclr_l, true_and, and_true, and_self, if_true, if_false, reduceIte, nI_add, pk_mul, zin_ok, zx_nI, nI_lt2, nI_le2, nI_eq2, nI_l0, nI_g0, nI_q0, nI_p0, nI_n0, nI_m1, Nat.add_zero, Nat.zero_add, Nat.reduceAdd, Nat.reduceMul, true_or, or_true, znar_50, bI_0, bI_1, bI_z, bft, nI_z0, nI_z1, lgc_lt, lgc_gt, lgc_le, lgc_ge, lgc_eq, not_true_eq_false, not_false_eq_true, Bool.not_eq_true, Bool.not_eq_false, reduceCtorEq, MS_sW, CS_sW, sW_r, sW_n, sW_w, cls_sW, fi_sW, fr_sW, la_sW, ra_sW, len_sW, ls_sW, own_sW, n_sW, uc_sW, us_sW, sW_sfi, sW_sla, sW_sLA, sW_sls, sW_spay, sW_sia, sW_sIA, ne_eq, cls_sfi, fr_sfi, ia_sfi, la_sfi, ra_sfi, len_sfi, ls_sfi, own_sfi, n_sfi, uc_sfi, us_sfi, cls_sia, fi_sia, fr_sia, la_sia, ra_sia, len_sia, ls_sia, own_sia, n_sia, uc_sia, us_sia, cls_sIA, fi_sIA, fr_sIA, la_sIA, ra_sIA, len_sIA, ls_sIA, own_sIA, n_sIA, uc_sIA, us_sIA, cls_sla, fi_sla, fr_sla, ia_sla, ra_sla, len_sla, ls_sla, own_sla, n_sla, uc_sla, us_sla, cls_sLA, fi_sLA, fr_sLA, ia_sLA, ra_sLA, len_sLA, ls_sLA, own_sLA, n_sLA, uc_sLA, us_sLA, k0, g1, m149, hasI_n, hb, i5]
      refine hnext _ ?_
      rw [hst]
      refine ⟨mFr_sfi (mFr_sia i1 (by omega) _ _) (by omega) _, ?_, fun k hk => ?_, fun q hq => ?_, ?_, fun k hk => ?_⟩
      · rw [fi_sfi, zu2_k _ _ _ _ (by omega)]; exact i2
      · rw [ia_sfi, ia_sia, zu2_n _ _ _ _ (by omega)]; exact i3 k hk
      · rw [ia_sfi, ia_sia, zu2_n _ _ _ _ (by omega)]; exact i4 q hq
      · rw [fi_sfi, zu2_s, List.length_append, List.length_singleton, hlen]
      · rw [ia_sfi, ia_sia, hsL_app, hlen]
        by_cases e : k = len
        · subst e
          rw [zu2_s, if_neg (by omega), if_pos rfl]
        · rw [List.length_append, List.length_singleton, hlen] at hk
          rw [zu2_k _ _ _ _ e, if_pos (by omega)]
          exact i6 k (by omega))
  have go2 : ∀ z3, mFr z z3 → zfi z3 135 26 = nI (tnN v a) → (∀ k, k < tnN v a → zia z3 148 k = nI (tnI v a k)) → (∀ q, q < 16 → zia z3 145 q = bI (rdC v a q)) → ZW zG (d + 2) 191 91 [.ref 135, .int (nI a), .int (nI (tnS v (nI a) (v 7))), .int (nI 0)] [] (sW (sfi z3 135 17 (nI 0)) v) Q := by
    intro z3 i1 i2 i3 i4
    exact k2 0 _ (by omega) ⟨mFr_sfi i1 (by omega) _, by rw [fi_sfi, zu2_k _ _ _ _ (by omega)]; exact i2, i3, i4, by rw [fi_sfi, zu2_s]; rfl, fun k hk => absurd hk (by simp [thL])⟩
  have key := zl_inv (P := fun i (z3 : ZH) => ZW zG (d + 2) 191 14 [.ref 135, .int (nI a), .int (nI (tnS v (nI a) i)), .int (nI i)] [] (sW z3 v) Q) (I := fun i z3 => mFr z z3 ∧ zfi z3 135 26 = nI (tnL v (nI a) i).length ∧ (∀ k, k < (tnL v (nI a) i).length → zia z3 148 k = nI (hsL (tnL v (nI a) i) k)) ∧ (∀ q, q < 16 → zia z3 145 q = bI (rdC v a q))) (v 7) (by
    rintro z3 ⟨i1, i2, i3, i4⟩
    have k0 := mFr_MS i1 hM
    unfold MS at k0
    refine Eq.mpr s191_14 ?_
    simp (disch := first | omega | exact hM | exact hv _ | (simp only [MS_sW, MS_sfi, MS_sia, MS_sIA, MS_sla, MS_sLA, MS_sls]; exact hM)) only [s191_0, s191_1, s191_2, s191_5, s191_6, s191_7, s191_10, s191_11, s191_12, s191_13, s191_15, s191_16, s191_19, s191_21, s191_22, s191_25, s191_26, s191_29, s191_31, s191_34, s191_35, s191_36, s191_37, s191_40, s191_41, s191_44, s191_47, s191_48, s191_51, s191_52, s191_55, s191_56, s191_57, s191_58, s191_59, s191_62, s191_63, s191_64, s191_67, s191_68, s191_69, s191_70, s191_71, s191_72, s191_75, s191_76, s191_77, s191_78, s191_81, s191_84, s191_85, s191_86, s191_89, s191_90, s191_92, s191_94, s191_97, s191_98, s191_99, s191_102, s191_105, s191_108, s191_109, s191_112, s191_113, s191_116, s191_117, s191_118, s191_119, s191_120, s191_123, s191_124, s191_125, s191_128, s191_131, s191_134, zcs_0, zcs_1, zcs_2, zcs_3, zcs_4, zcs_5, zcs_6, zcs_7, znl_i, znl_r, znl_n, Bool.and_true, Bool.true_and, zk_v, zk_n, zk_x, zir_r, zir_n, zclr_i, zclr_r, zclr_n, zclr_d, zclr_l, true_and, and_true, and_self, if_true, if_false, reduceIte, nI_add, pk_mul, zin_ok, zx_nI, nI_lt2, nI_le2, nI_eq2, nI_l0, nI_g0, nI_q0, nI_p0, nI_n0, nI_m1, Nat.add_zero, Nat.zero_add, Nat.reduceAdd, Nat.reduceMul, true_or, or_true, znar_50, bI_0, bI_1, bI_z, bft, nI_z0, nI_z1, lgc_lt, lgc_gt, lgc_le, lgc_ge, lgc_eq, not_true_eq_false, not_false_eq_true, Bool.not_eq_true, Bool.not_eq_false, reduceCtorEq, MS_sW, CS_sW, sW_r, sW_n, sW_w, cls_sW, fi_sW, fr_sW, la_sW, ra_sW, len_sW, ls_sW, own_sW, n_sW, uc_sW, us_sW, sW_sfi, sW_sla, sW_sLA, sW_sls, sW_spay, sW_sia, sW_sIA, ne_eq, cls_sfi, fr_sfi, ia_sfi, la_sfi, ra_sfi, len_sfi, ls_sfi, own_sfi, n_sfi, uc_sfi, us_sfi, cls_sia, fi_sia, fr_sia, la_sia, ra_sia, len_sia, ls_sia, own_sia, n_sia, uc_sia, us_sia, cls_sIA, fi_sIA, fr_sIA, la_sIA, ra_sIA, len_sIA, ls_sIA, own_sIA, n_sIA, uc_sIA, us_sIA, cls_sla, fi_sla, fr_sla, ia_sla, ra_sla, len_sla, ls_sla, own_sla, n_sla, uc_sla, us_sla, cls_sLA, fi_sLA, fr_sLA, ia_sLA, ra_sLA, len_sLA, ls_sLA, own_sLA, n_sLA, uc_sLA, us_sLA, k0, Nat.le_refl]
    exact go2 z3 i1 i2 i3 i4) (by
    rintro i z3 hi ⟨i1, i2, i3, i4⟩ hnext
    have k0 := mFr_MS i1 hM
    unfold MS at k0
    have j2 := mFr_MS i1 hM
    have g1 : ¬ v 7 ≤ i := by omega
    have hl := tnL_len (v := v) (a := nI a) i
    have hb := (hD.2 i hi).2.1
    have hst : tnL v (nI a) (i + 1) = if (tnL v (nI a) i).length < 10 ∧ nI (v (1880 + 5 * i)) = nI a then tnL v (nI a) i ++ [i] else tnL v (nI a) i := rfl
    have hst2 : tnS v (nI a) (i + 1) = if (tnL v (nI a) i).length < 10 ∧ nI (v (1880 + 5 * i)) = nI a then tnS v (nI a) i ||| 2 ^ v (1880 + 5 * i + 1) else tnS v (nI a) i := rfl
    have hn2 : ∀ (z4 : ZH) (x : Nat), tnS v (nI a) (i + 1) = x → (mFr z z4 ∧ zfi z4 135 26 = nI (tnL v (nI a) (i + 1)).length ∧ (∀ k, k < (tnL v (nI a) (i + 1)).length → zia z4 148 k = nI (hsL (tnL v (nI a) (i + 1)) k)) ∧ (∀ q, q < 16 → zia z4 145 q = bI (rdC v a q))) → ZW zG (d + 2) 191 14 [.ref 135, .int (nI a), .int (nI x), .int (nI (i + 1))] [] (sW z4 v) Q := fun z4 x h2 hI => by
      subst h2
      exact hnext z4 hI
    refine Eq.mpr s191_14 ?_
    by_cases c1 : (tnL v (nI a) i).length < 10
    · have g2 : ¬ 10 ≤ (tnL v (nI a) i).length := by omega
      by_cases c2 : nI (v (1880 + 5 * i)) = nI a
      · rw [if_pos ⟨c1, c2⟩] at hst hst2
        have c4 : v (1880 + 5 * i) = a := by rw [nI_eq2 (hv _) ha] at c2; exact c2
        generalize hlen : (tnL v (nI a) i).length = len at *
        simp (disch := first | omega | exact j2 | exact hv _ | (simp only [MS_sfi, MS_sia]; exact j2)) only [s191_0, s191_1, s191_2, s191_5, s191_6, s191_7, s191_10, s191_11, s191_12, s191_13, s191_15, s191_16, s191_19, s191_21, s191_22, s191_25, s191_26, s191_29, s191_31, s191_34, s191_35, s191_36, s191_37, s191_40, s191_41, s191_44, s191_47, s191_48, s191_51, s191_52, s191_55, s191_56, s191_57, s191_58, s191_59, s191_62, s191_63, s191_64, s191_67, s191_68, s191_69, s191_70, s191_71, s191_72, s191_75, s191_76, s191_77, s191_78, s191_81, s191_84, s191_85, s191_86, s191_89, s191_90, s191_92, s191_94, s191_97, s191_98, s191_99, s191_102, s191_105, s191_108, s191_109, s191_112, s191_113, s191_116, s191_117, s191_118, s191_119, s191_120, s191_123, s191_124, s191_125, s191_128, s191_131, s191_134, zcs_0, zcs_1, zcs_2, zcs_3, zcs_4, zcs_5, zcs_6, zcs_7, znl_i, znl_r, znl_n, Bool.and_true, Bool.true_and, zk_v, zk_n, zk_x, zir_r, zir_n, zclr_i, zclr_r, zclr_n, zclr_d, zclr_l, true_and, and_true, and_self, if_true, if_false, reduceIte, nI_add, pk_mul, zin_ok, zx_nI, nI_lt2, nI_le2, nI_eq2, nI_l0, nI_g0, nI_q0, nI_p0, nI_n0, nI_m1, Nat.add_zero, Nat.zero_add, Nat.reduceAdd, Nat.reduceMul, true_or, or_true, znar_50, bI_0, bI_1, bI_z, bft, nI_z0, nI_z1, lgc_lt, lgc_gt, lgc_le, lgc_ge, lgc_eq, not_true_eq_false, not_false_eq_true, Bool.not_eq_true, Bool.not_eq_false, reduceCtorEq, MS_sW, CS_sW, sW_r, sW_n, sW_w, cls_sW, fi_sW, fr_sW, la_sW, ra_sW, len_sW, ls_sW, own_sW, n_sW, uc_sW, us_sW, sW_sfi, sW_sla, sW_sLA, sW_sls, sW_spay, sW_sia, sW_sIA, ne_eq, cls_sfi, fr_sfi, ia_sfi, la_sfi, ra_sfi, len_sfi, ls_sfi, own_sfi, n_sfi, uc_sfi, us_sfi, cls_sia, fi_sia, fr_sia, la_sia, ra_sia, len_sia, ls_sia, own_sia, n_sia, uc_sia, us_sia, cls_sIA, fi_sIA, fr_sIA, la_sIA, ra_sIA, len_sIA, ls_sIA, own_sIA, n_sIA, uc_sIA, us_sIA, cls_sla, fi_sla, fr_sla, ia_sla, ra_sla, len_sla, ls_sla, own_sla, n_sla, uc_sla, us_sla, cls_sLA, fi_sLA, fr_sLA, ia_sLA, ra_sLA, len_sLA, ls_sLA, own_sLA, n_sLA, uc_sLA, us_sLA, k0, g1, g2, i2, m159, c4, eq_self, nI_sh1, nI_or]
        refine hn2 _ _ hst2 ?_
        rw [hst]
        refine ⟨mFr_sfi (mFr_sia i1 (by omega) _ _) (by omega) _, ?_, fun k hk => ?_, fun q hq => ?_⟩
        · rw [fi_sfi, zu2_s, List.length_append, List.length_singleton, hlen]
        · rw [ia_sfi, ia_sia, hsL_app, hlen]
          by_cases e : k = len
          · subst e
            rw [zu2_s, if_neg (by omega), if_pos rfl]
          · rw [List.length_append, List.length_singleton, hlen] at hk
            rw [zu2_k _ _ _ _ e, if_pos (by omega)]
            exact i3 k (by omega)
        · rw [ia_sfi, ia_sia, zu2_n _ _ _ _ (by omega)]; exact i4 q hq
      · rw [if_neg (fun q => c2 q.2)] at hst hst2
        have c4 : ¬ v (1880 + 5 * i) = a := fun e => c2 (by rw [e])
        simp (disch := first | omega | exact j2 | exact hv _ | (simp only [MS_sfi, MS_sia]; exact j2)) only [s191_0, s191_1, s191_2, s191_5, s191_6, s191_7, s191_10, s191_11, s191_12, s191_13, s191_15, s191_16, s191_19, s191_21, s191_22, s191_25, s191_26, s191_29, s191_31, s191_34, s191_35, s191_36, s191_37, s191_40, s191_41, s191_44, s191_47, s191_48, s191_51, s191_52, s191_55, s191_56, s191_57, s191_58, s191_59, s191_62, s191_63, s191_64, s191_67, s191_68, s191_69, s191_70, s191_71, s191_72, s191_75, s191_76, s191_77, s191_78, s191_81, s191_84, s191_85, s191_86, s191_89, s191_90, s191_92, s191_94, s191_97, s191_98, s191_99, s191_102, s191_105, s191_108, s191_109, s191_112, s191_113, s191_116, s191_117, s191_118, s191_119, s191_120, s191_123, s191_124, s191_125, s191_128, s191_131, s191_134, zcs_0, zcs_1, zcs_2, zcs_3, zcs_4, zcs_5, zcs_6, zcs_7, znl_i, znl_r, znl_n, Bool.and_true, Bool.true_and, zk_v, zk_n, zk_x, zir_r, zir_n, zclr_i, zclr_r, zclr_n, zclr_d, zclr_l, true_and, and_true, and_self, if_true, if_false, reduceIte, nI_add, pk_mul, zin_ok, zx_nI, nI_lt2, nI_le2, nI_eq2, nI_l0, nI_g0, nI_q0, nI_p0, nI_n0, nI_m1, Nat.add_zero, Nat.zero_add, Nat.reduceAdd, Nat.reduceMul, true_or, or_true, znar_50, bI_0, bI_1, bI_z, bft, nI_z0, nI_z1, lgc_lt, lgc_gt, lgc_le, lgc_ge, lgc_eq, not_true_eq_false, not_false_eq_true, Bool.not_eq_true, Bool.not_eq_false, reduceCtorEq, MS_sW, CS_sW, sW_r, sW_n, sW_w, cls_sW, fi_sW, fr_sW, la_sW, ra_sW, len_sW, ls_sW, own_sW, n_sW, uc_sW, us_sW, sW_sfi, sW_sla, sW_sLA, sW_sls, sW_spay, sW_sia, sW_sIA, ne_eq, cls_sfi, fr_sfi, ia_sfi, la_sfi, ra_sfi, len_sfi, ls_sfi, own_sfi, n_sfi, uc_sfi, us_sfi, cls_sia, fi_sia, fr_sia, la_sia, ra_sia, len_sia, ls_sia, own_sia, n_sia, uc_sia, us_sia, cls_sIA, fi_sIA, fr_sIA, la_sIA, ra_sIA, len_sIA, ls_sIA, own_sIA, n_sIA, uc_sIA, us_sIA, cls_sla, fi_sla, fr_sla, ia_sla, ra_sla, len_sla, ls_sla, own_sla, n_sla, uc_sla, us_sla, cls_sLA, fi_sLA, fr_sLA, ia_sLA, ra_sLA, len_sLA, ls_sLA, own_sLA, n_sLA, uc_sLA, us_sLA, k0, g1, g2, i2, m159, nI_eq2, c4]
        refine hn2 _ _ hst2 ?_
        rw [hst]
        exact ⟨i1, i2, i3, i4⟩
    · have e10 : (tnL v (nI a) i).length = 10 := by omega
      obtain ⟨f1, f2⟩ := tn_full e10 (v 7 - i)
      rw [show i + (v 7 - i) = v 7 by omega] at f1 f2
      have g3 : 10 ≤ 10 := Nat.le_refl _
      rw [e10] at i2
      have go := go2 z3 i1 (by unfold tnN; rw [f1, e10]; exact i2) (by unfold tnN tnI; rw [f1]; exact i3) i4
      rw [f2] at go
      simp (disch := first | omega | exact j2 | exact hv _ | (simp only [MS_sfi, MS_sia]; exact j2)) only [s191_0, s191_1, s191_2, s191_5, s191_6, s191_7, s191_10, s191_11, s191_12, s191_13, s191_15, s191_16, s191_19, s191_21, s191_22, s191_25, s191_26, s191_29, s191_31, s191_34, s191_35, s191_36, s191_37, s191_40, s191_41, s191_44, s191_47, s191_48, s191_51, s191_52, s191_55, s191_56, s191_57, s191_58, s191_59, s191_62, s191_63, s191_64, s191_67, s191_68, s191_69, s191_70, s191_71, s191_72, s191_75, s191_76, s191_77, s191_78, s191_81, s191_84, s191_85, s191_86, s191_89, s191_90, s191_92, s191_94, s191_97, s191_98, s191_99, s191_102, s191_105, s191_108, s191_109, s191_112, s191_113, s191_116, s191_117, s191_118, s191_119, s191_120, s191_123, s191_124, s191_125, s191_128, s191_131, s191_134, zcs_0, zcs_1, zcs_2, zcs_3, zcs_4, zcs_5, zcs_6, zcs_7, znl_i, znl_r, znl_n, Bool.and_true, Bool.true_and, zk_v, zk_n, zk_x, zir_r, zir_n, zclr_i, zclr_r, zclr_n, zclr_d, zclr_l, true_and, and_true, and_self, if_true, if_false, reduceIte, nI_add, pk_mul, zin_ok, zx_nI, nI_lt2, nI_le2, nI_eq2, nI_l0, nI_g0, nI_q0, nI_p0, nI_n0, nI_m1, Nat.add_zero, Nat.zero_add, Nat.reduceAdd, Nat.reduceMul, true_or, or_true, znar_50, bI_0, bI_1, bI_z, bft, nI_z0, nI_z1, lgc_lt, lgc_gt, lgc_le, lgc_ge, lgc_eq, not_true_eq_false, not_false_eq_true, Bool.not_eq_true, Bool.not_eq_false, reduceCtorEq, MS_sW, CS_sW, sW_r, sW_n, sW_w, cls_sW, fi_sW, fr_sW, la_sW, ra_sW, len_sW, ls_sW, own_sW, n_sW, uc_sW, us_sW, sW_sfi, sW_sla, sW_sLA, sW_sls, sW_spay, sW_sia, sW_sIA, ne_eq, cls_sfi, fr_sfi, ia_sfi, la_sfi, ra_sfi, len_sfi, ls_sfi, own_sfi, n_sfi, uc_sfi, us_sfi, cls_sia, fi_sia, fr_sia, la_sia, ra_sia, len_sia, ls_sia, own_sia, n_sia, uc_sia, us_sia, cls_sIA, fi_sIA, fr_sIA, la_sIA, ra_sIA, len_sIA, ls_sIA, own_sIA, n_sIA, uc_sIA, us_sIA, cls_sla, fi_sla, fr_sla, ia_sla, ra_sla, len_sla, ls_sla, own_sla, n_sla, uc_sla, us_sla, cls_sLA, fi_sLA, fr_sLA, ia_sLA, ra_sLA, len_sLA, ls_sLA, own_sLA, n_sLA, uc_sLA, us_sLA, k0, g1, i2, g3]
      exact go)
  have kk := key 0 (sfi (sWg z v (nI a)) 135 26 (nI 0)) (Nat.zero_le _) ⟨mFr_sfi hW (by omega) _, by rw [fi_sfi, zu2_s]; rfl, fun k hk => absurd hk (by simp [tnL]), fun q hq => by
    rw [ia_sfi]
    unfold sWg
    rw [ia_sIA, zu1_s]
    exact if_pos hq⟩
  have hM2 := mFr_MS hW hM
  unfold MS at hM2
  simp (disch := first | omega | exact hM | exact hv _ | (simp only [MS_sW, MS_sfi, MS_sia, MS_sIA, MS_sla, MS_sLA, MS_sls]; exact hM)) only [e191, s191_0, s191_1, s191_2, s191_5, s191_6, s191_7, s191_10, s191_11, s191_12, s191_13, s191_15, s191_16, s191_19, s191_21, s191_22, s191_25, s191_26, s191_29, s191_31, s191_34, s191_35, s191_36, s191_37, s191_40, s191_41, s191_44, s191_47, s191_48, s191_51, s191_52, s191_55, s191_56, s191_57, s191_58, s191_59, s191_62, s191_63, s191_64, s191_67, s191_68, s191_69, s191_70, s191_71, s191_72, s191_75, s191_76, s191_77, s191_78, s191_81, s191_84, s191_85, s191_86, s191_89, s191_90, s191_92, s191_94, s191_97, s191_98, s191_99, s191_102, s191_105, s191_108, s191_109, s191_112, s191_113, s191_116, s191_117, s191_118, s191_119, s191_120, s191_123, s191_124, s191_125, s191_128, s191_131, s191_134, zcs_0, zcs_1, zcs_2, zcs_3, zcs_4, zcs_5, zcs_6, zcs_7, znl_i, znl_r, znl_n, Bool.and_true, Bool.true_and, zk_v, zk_n, zk_x, zir_r, zir_n, zclr_i, zclr_r, zclr_n, zclr_d, zclr_l, true_and, and_true, and_self, if_true, if_false, reduceIte, nI_add, pk_mul, zin_ok, zx_nI, nI_lt2, nI_le2, nI_eq2, nI_l0, nI_g0, nI_q0, nI_p0, nI_n0, nI_m1, Nat.add_zero, Nat.zero_add, Nat.reduceAdd, Nat.reduceMul, true_or, or_true, znar_50, bI_0, bI_1, bI_z, bft, nI_z0, nI_z1, lgc_lt, lgc_gt, lgc_le, lgc_ge, lgc_eq, not_true_eq_false, not_false_eq_true, Bool.not_eq_true, Bool.not_eq_false, reduceCtorEq, h0, MS_sW, CS_sW, sW_r, sW_n, sW_w, cls_sW, fi_sW, fr_sW, la_sW, ra_sW, len_sW, ls_sW, own_sW, n_sW, uc_sW, us_sW, sW_sfi, sW_sla, sW_sLA, sW_sls, sW_spay, sW_sia, sW_sIA, ne_eq, cls_sfi, fr_sfi, ia_sfi, la_sfi, ra_sfi, len_sfi, ls_sfi, own_sfi, n_sfi, uc_sfi, us_sfi, cls_sia, fi_sia, fr_sia, la_sia, ra_sia, len_sia, ls_sia, own_sia, n_sia, uc_sia, us_sia, cls_sIA, fi_sIA, fr_sIA, la_sIA, ra_sIA, len_sIA, ls_sIA, own_sIA, n_sIA, uc_sIA, us_sIA, cls_sla, fi_sla, fr_sla, ia_sla, ra_sla, len_sla, ls_sla, own_sla, n_sla, uc_sla, us_sla, cls_sLA, fi_sLA, fr_sLA, ia_sLA, ra_sLA, len_sLA, ls_sLA, own_sLA, n_sLA, uc_sLA, us_sLA, cw, hM2]
  exact kk
theorem or_or_self {b k : Nat} : (b ||| 2 ^ k) ||| 2 ^ k = b ||| 2 ^ k := by rw [Nat.or_assoc, Nat.or_self]
theorem m192 (hM : MS z) (hv : ∀ i, v i < 2147483648) (hL : mL z c hs n) (hn : n ≤ 10) (h16 : ∀ k, k < n → hs k < 16) {m : Nat} {ix : Nat → Nat} (hm : m ≤ 10) (h26 : zfi z 135 26 = nI m) (h148 : ∀ k, k < m → zia z 148 k = nI (ix k)) (hix : ∀ k, k < m → ix k < v 7) (h7 : v 7 ≤ 960) (hS : S < 1024) (hdy : dy < 1000) : ZC zG (d + 1) 192 [.ref 135, .int (nI S), .int (nI dy)] (sW z v) Q = Q (.inl (some (.int (nI (cvB (cvP v hs n ix S dy) m))))) (sW z v) := by
  have h0 := hM
  unfold MS at h0
  obtain ⟨h17, h143, _⟩ := hL
  have z2 := zl_x (P := fun k x => ZW zG (d + 1) 192 5 [.ref 135, .int (nI S), .int (nI dy), .int (nI (cvB (cvP v hs n ix S dy) k)), .int (nI k), x] [] (sW z v) Q) (R := Q (.inl (some (.int (nI (cvB (cvP v hs n ix S dy) m))))) (sW z v)) m (by
    intro x
    refine s192_5.trans ?_
    simp (disch := first | omega | exact hM | exact hv _ | (simp only [MS_sW, MS_sfi, MS_sia, MS_sIA, MS_sla, MS_sLA, MS_sls]; exact hM)) only [s192_0, s192_1, s192_2, s192_3, s192_7, s192_8, s192_11, s192_14, s192_15, s192_19, s192_20, s192_23, s192_26, s192_27, s192_29, s192_32, s192_35, s192_36, s192_39, s192_41, s192_42, s192_43, s192_44, s192_47, s192_49, s192_50, s192_51, s192_54, s192_57, s192_58, s192_59, s192_62, s192_64, s192_65, s192_66, s192_69, s192_70, s192_73, s192_74, s192_75, s192_77, s192_78, s192_79, s192_80, s192_83, s192_86, s192_89, s192_92, s192_93, zcs_0, zcs_1, zcs_2, zcs_3, zcs_4, zcs_5, zcs_6, zcs_7, znl_i, znl_r, znl_n, Bool.and_true, Bool.true_and, zk_v, zk_n, zk_x, zir_r, zir_n, zclr_i, zclr_r, zclr_n, zclr_d, zclr_l, true_and, and_true, and_self, if_true, if_false, reduceIte, nI_add, pk_mul, zin_ok, zx_nI, nI_lt2, nI_le2, nI_eq2, nI_l0, nI_g0, nI_q0, nI_p0, nI_n0, nI_m1, Nat.add_zero, Nat.zero_add, Nat.reduceAdd, Nat.reduceMul, true_or, or_true, znar_50, bI_0, bI_1, bI_z, bft, nI_z0, nI_z1, lgc_lt, lgc_gt, lgc_le, lgc_ge, lgc_eq, not_true_eq_false, not_false_eq_true, Bool.not_eq_true, Bool.not_eq_false, reduceCtorEq, MS_sW, CS_sW, sW_r, sW_n, sW_w, cls_sW, fi_sW, fr_sW, la_sW, ra_sW, len_sW, ls_sW, own_sW, n_sW, uc_sW, us_sW, sW_sfi, sW_sla, sW_sLA, sW_sls, sW_spay, sW_sia, sW_sIA, ne_eq, cls_sfi, fr_sfi, ia_sfi, la_sfi, ra_sfi, len_sfi, ls_sfi, own_sfi, n_sfi, uc_sfi, us_sfi, cls_sia, fi_sia, fr_sia, la_sia, ra_sia, len_sia, ls_sia, own_sia, n_sia, uc_sia, us_sia, cls_sIA, fi_sIA, fr_sIA, la_sIA, ra_sIA, len_sIA, ls_sIA, own_sIA, n_sIA, uc_sIA, us_sIA, cls_sla, fi_sla, fr_sla, ia_sla, ra_sla, len_sla, ls_sla, own_sla, n_sla, uc_sla, us_sla, cls_sLA, fi_sLA, fr_sLA, ia_sLA, ra_sLA, len_sLA, ls_sLA, own_sLA, n_sLA, uc_sLA, us_sLA, h0, h26, Nat.le_refl]) (by
    intro k x hk
    have g1 : ¬ m ≤ k := by omega
    have f1 := h148 k hk
    have f2 := hix k hk
    have hst : cvB (cvP v hs n ix S dy) (k + 1) = cvB (cvP v hs n ix S dy) k ||| (if cvP v hs n ix S dy k = true then 2 ^ k else 0) := rfl
    generalize cvB (cvP v hs n ix S dy) k = b at hst
    have inner := zl_up (P := fun l => ZW zG (d + 1) 192 17 [.ref 135, .int (nI S), .int (nI dy), .int (nI (b ||| (if anyN (fun l => (S.testBit l && decide (hs l = v (1880 + 5 * ix k + 1))) && decide (dy ≤ v (1880 + 5 * ix k + 3))) l = true then 2 ^ k else 0))), .int (nI k), .int (nI l)] [] (sW z v) Q) n (by
      intro l hl
      refine s192_17.trans ?_
      have g2 : ¬ n ≤ l := by omega
      have f3 := h143 l hl
      have f4 := h16 l hl
      have hA : anyN (fun l => (S.testBit l && decide (hs l = v (1880 + 5 * ix k + 1))) && decide (dy ≤ v (1880 + 5 * ix k + 3))) (l + 1) = (anyN (fun l => (S.testBit l && decide (hs l = v (1880 + 5 * ix k + 1))) && decide (dy ≤ v (1880 + 5 * ix k + 3))) l || ((S.testBit l && decide (hs l = v (1880 + 5 * ix k + 1))) && decide (dy ≤ v (1880 + 5 * ix k + 3)))) := rfl
      rw [hA]
      generalize anyN (fun l => (S.testBit l && decide (hs l = v (1880 + 5 * ix k + 1))) && decide (dy ≤ v (1880 + 5 * ix k + 3))) l = w
      cases hb : S.testBit l with
      | false =>
        rw [Bool.false_and, Bool.false_and, Bool.or_false]
        simp (disch := first | omega | exact hM | exact hv _ | (simp only [MS_sW, MS_sfi, MS_sia, MS_sIA, MS_sla, MS_sLA, MS_sls]; exact hM)) only [s192_0, s192_1, s192_2, s192_3, s192_7, s192_8, s192_11, s192_14, s192_15, s192_19, s192_20, s192_23, s192_26, s192_27, s192_29, s192_32, s192_35, s192_36, s192_39, s192_41, s192_42, s192_43, s192_44, s192_47, s192_49, s192_50, s192_51, s192_54, s192_57, s192_58, s192_59, s192_62, s192_64, s192_65, s192_66, s192_69, s192_70, s192_73, s192_74, s192_75, s192_77, s192_78, s192_79, s192_80, s192_83, s192_86, s192_89, s192_92, s192_93, zcs_0, zcs_1, zcs_2, zcs_3, zcs_4, zcs_5, zcs_6, zcs_7, znl_i, znl_r, znl_n, Bool.and_true, Bool.true_and, zk_v, zk_n, zk_x, zir_r, zir_n, zclr_i, zclr_r, zclr_n, zclr_d, zclr_l, true_and, and_true, and_self, if_true, if_false, reduceIte, nI_add, pk_mul, zin_ok, zx_nI, nI_lt2, nI_le2, nI_eq2, nI_l0, nI_g0, nI_q0, nI_p0, nI_n0, nI_m1, Nat.add_zero, Nat.zero_add, Nat.reduceAdd, Nat.reduceMul, true_or, or_true, znar_50, bI_0, bI_1, bI_z, bft, nI_z0, nI_z1, lgc_lt, lgc_gt, lgc_le, lgc_ge, lgc_eq, not_true_eq_false, not_false_eq_true, Bool.not_eq_true, Bool.not_eq_false, reduceCtorEq, MS_sW, CS_sW, sW_r, sW_n, sW_w, cls_sW, fi_sW, fr_sW, la_sW, ra_sW, len_sW, ls_sW, own_sW, n_sW, uc_sW, us_sW, sW_sfi, sW_sla, sW_sLA, sW_sls, sW_spay, sW_sia, sW_sIA, ne_eq, cls_sfi, fr_sfi, ia_sfi, la_sfi, ra_sfi, len_sfi, ls_sfi, own_sfi, n_sfi, uc_sfi, us_sfi, cls_sia, fi_sia, fr_sia, la_sia, ra_sia, len_sia, ls_sia, own_sia, n_sia, uc_sia, us_sia, cls_sIA, fi_sIA, fr_sIA, la_sIA, ra_sIA, len_sIA, ls_sIA, own_sIA, n_sIA, uc_sIA, us_sIA, cls_sla, fi_sla, fr_sla, ia_sla, ra_sla, len_sla, ls_sla, own_sla, n_sla, uc_sla, us_sla, cls_sLA, fi_sLA, fr_sLA, ia_sLA, ra_sLA, len_sLA, ls_sLA, own_sLA, n_sLA, uc_sLA, us_sLA, h0, h17, g2, m149, hasI_n, hb]
      | true =>
        by_cases e1 : hs l = v (1880 + 5 * ix k + 1)
        · by_cases e2 : dy ≤ v (1880 + 5 * ix k + 3)
          · have e3 : ¬ v (1880 + 5 * ix k + 3) < dy := by omega
            rw [decide_eq_true e1, decide_eq_true e2, Bool.and_self, Bool.and_self, Bool.or_true, if_pos rfl]
            cases w with
            | true =>
              rw [if_pos rfl]
              simp (disch := first | omega | exact hM | exact hv _ | (simp only [MS_sW, MS_sfi, MS_sia, MS_sIA, MS_sla, MS_sLA, MS_sls]; exact hM)) only [s192_0, s192_1, s192_2, s192_3, s192_7, s192_8, s192_11, s192_14, s192_15, s192_19, s192_20, s192_23, s192_26, s192_27, s192_29, s192_32, s192_35, s192_36, s192_39, s192_41, s192_42, s192_43, s192_44, s192_47, s192_49, s192_50, s192_51, s192_54, s192_57, s192_58, s192_59, s192_62, s192_64, s192_65, s192_66, s192_69, s192_70, s192_73, s192_74, s192_75, s192_77, s192_78, s192_79, s192_80, s192_83, s192_86, s192_89, s192_92, s192_93, zcs_0, zcs_1, zcs_2, zcs_3, zcs_4, zcs_5, zcs_6, zcs_7, znl_i, znl_r, znl_n, Bool.and_true, Bool.true_and, zk_v, zk_n, zk_x, zir_r, zir_n, zclr_i, zclr_r, zclr_n, zclr_d, zclr_l, true_and, and_true, and_self, if_true, if_false, reduceIte, nI_add, pk_mul, zin_ok, zx_nI, nI_lt2, nI_le2, nI_eq2, nI_l0, nI_g0, nI_q0, nI_p0, nI_n0, nI_m1, Nat.add_zero, Nat.zero_add, Nat.reduceAdd, Nat.reduceMul, true_or, or_true, znar_50, bI_0, bI_1, bI_z, bft, nI_z0, nI_z1, lgc_lt, lgc_gt, lgc_le, lgc_ge, lgc_eq, not_true_eq_false, not_false_eq_true, Bool.not_eq_true, Bool.not_eq_false, reduceCtorEq, MS_sW, CS_sW, sW_r, sW_n, sW_w, cls_sW, fi_sW, fr_sW, la_sW, ra_sW, len_sW, ls_sW, own_sW, n_sW, uc_sW, us_sW, sW_sfi, sW_sla, sW_sLA, sW_sls, sW_spay, sW_sia, sW_sIA, ne_eq, cls_sfi, fr_sfi, ia_sfi, la_sfi, ra_sfi, len_sfi, ls_sfi, own_sfi, n_sfi, uc_sfi, us_sfi, cls_sia, fi_sia, fr_sia, la_sia, ra_sia, len_sia, ls_sia, own_sia, n_sia, uc_sia, us_sia, cls_sIA, fi_sIA, fr_sIA, la_sIA, ra_sIA, len_sIA, ls_sIA, own_sIA, n_sIA, uc_sIA, us_sIA, cls_sla, fi_sla, fr_sla, ia_sla, ra_sla, len_sla, ls_sla, own_sla, n_sla, uc_sla, us_sla, cls_sLA, fi_sLA, fr_sLA, ia_sLA, ra_sLA, len_sLA, ls_sLA, own_sLA, n_sLA, uc_sLA, us_sLA, h0, h17, g2, m149, hasI_n, hb, f1, f3, m159, e1, e3, eq_self, nI_sh1, nI_or, or_or_self]
            | false =>
              rw [if_neg (by decide), Nat.or_zero]
              simp (disch := first | omega | exact hM | exact hv _ | (simp only [MS_sW, MS_sfi, MS_sia, MS_sIA, MS_sla, MS_sLA, MS_sls]; exact hM)) only [s192_0, s192_1, s192_2, s192_3, s192_7, s192_8, s192_11, s192_14, s192_15, s192_19, s192_20, s192_23, s192_26, s192_27, s192_29, s192_32, s192_35, s192_36, s192_39, s192_41, s192_42, s192_43, s192_44, s192_47, s192_49, s192_50, s192_51, s192_54, s192_57, s192_58, s192_59, s192_62, s192_64, s192_65, s192_66, s192_69, s192_70, s192_73, s192_74, s192_75, s192_77, s192_78, s192_79, s192_80, s192_83, s192_86, s192_89, s192_92, s192_93, zcs_0, zcs_1, zcs_2, zcs_3, zcs_4, zcs_5, zcs_6, zcs_7, znl_i, znl_r, znl_n, Bool.and_true, Bool.true_and, zk_v, zk_n, zk_x, zir_r, zir_n, zclr_i, zclr_r, zclr_n, zclr_d, zclr_l, true_and, and_true, and_self, if_true, if_false, reduceIte, nI_add, pk_mul, zin_ok, zx_nI, nI_lt2, nI_le2, nI_eq2, nI_l0, nI_g0, nI_q0, nI_p0, nI_n0, nI_m1, Nat.add_zero, Nat.zero_add, Nat.reduceAdd, Nat.reduceMul, true_or, or_true, znar_50, bI_0, bI_1, bI_z, bft, nI_z0, nI_z1, lgc_lt, lgc_gt, lgc_le, lgc_ge, lgc_eq, not_true_eq_false, not_false_eq_true, Bool.not_eq_true, Bool.not_eq_false, reduceCtorEq, MS_sW, CS_sW, sW_r, sW_n, sW_w, cls_sW, fi_sW, fr_sW, la_sW, ra_sW, len_sW, ls_sW, own_sW, n_sW, uc_sW, us_sW, sW_sfi, sW_sla, sW_sLA, sW_sls, sW_spay, sW_sia, sW_sIA, ne_eq, cls_sfi, fr_sfi, ia_sfi, la_sfi, ra_sfi, len_sfi, ls_sfi, own_sfi, n_sfi, uc_sfi, us_sfi, cls_sia, fi_sia, fr_sia, la_sia, ra_sia, len_sia, ls_sia, own_sia, n_sia, uc_sia, us_sia, cls_sIA, fi_sIA, fr_sIA, la_sIA, ra_sIA, len_sIA, ls_sIA, own_sIA, n_sIA, uc_sIA, us_sIA, cls_sla, fi_sla, fr_sla, ia_sla, ra_sla, len_sla, ls_sla, own_sla, n_sla, uc_sla, us_sla, cls_sLA, fi_sLA, fr_sLA, ia_sLA, ra_sLA, len_sLA, ls_sLA, own_sLA, n_sLA, uc_sLA, us_sLA, h0, h17, g2, m149, hasI_n, hb, f1, f3, m159, e1, e3, eq_self, nI_sh1, nI_or]
          · have e3 : v (1880 + 5 * ix k + 3) < dy := by omega
            rw [decide_eq_false e2, Bool.and_false, Bool.or_false]
            simp (disch := first | omega | exact hM | exact hv _ | (simp only [MS_sW, MS_sfi, MS_sia, MS_sIA, MS_sla, MS_sLA, MS_sls]; exact hM)) only [s192_0, s192_1, s192_2, s192_3, s192_7, s192_8, s192_11, s192_14, s192_15, s192_19, s192_20, s192_23, s192_26, s192_27, s192_29, s192_32, s192_35, s192_36, s192_39, s192_41, s192_42, s192_43, s192_44, s192_47, s192_49, s192_50, s192_51, s192_54, s192_57, s192_58, s192_59, s192_62, s192_64, s192_65, s192_66, s192_69, s192_70, s192_73, s192_74, s192_75, s192_77, s192_78, s192_79, s192_80, s192_83, s192_86, s192_89, s192_92, s192_93, zcs_0, zcs_1, zcs_2, zcs_3, zcs_4, zcs_5, zcs_6, zcs_7, znl_i, znl_r, znl_n, Bool.and_true, Bool.true_and, zk_v, zk_n, zk_x, zir_r, zir_n, zclr_i, zclr_r, zclr_n, zclr_d, zclr_l, true_and, and_true, and_self, if_true, if_false, reduceIte, nI_add, pk_mul, zin_ok, zx_nI, nI_lt2, nI_le2, nI_eq2, nI_l0, nI_g0, nI_q0, nI_p0, nI_n0, nI_m1, Nat.add_zero, Nat.zero_add, Nat.reduceAdd, Nat.reduceMul, true_or, or_true, znar_50, bI_0, bI_1, bI_z, bft, nI_z0, nI_z1, lgc_lt, lgc_gt, lgc_le, lgc_ge, lgc_eq, not_true_eq_false, not_false_eq_true, Bool.not_eq_true, Bool.not_eq_false, reduceCtorEq, MS_sW, CS_sW, sW_r, sW_n, sW_w, cls_sW, fi_sW, fr_sW, la_sW, ra_sW, len_sW, ls_sW, own_sW, n_sW, uc_sW, us_sW, sW_sfi, sW_sla, sW_sLA, sW_sls, sW_spay, sW_sia, sW_sIA, ne_eq, cls_sfi, fr_sfi, ia_sfi, la_sfi, ra_sfi, len_sfi, ls_sfi, own_sfi, n_sfi, uc_sfi, us_sfi, cls_sia, fi_sia, fr_sia, la_sia, ra_sia, len_sia, ls_sia, own_sia, n_sia, uc_sia, us_sia, cls_sIA, fi_sIA, fr_sIA, la_sIA, ra_sIA, len_sIA, ls_sIA, own_sIA, n_sIA, uc_sIA, us_sIA, cls_sla, fi_sla, fr_sla, ia_sla, ra_sla, len_sla, ls_sla, own_sla, n_sla, uc_sla, us_sla, cls_sLA, fi_sLA, fr_sLA, ia_sLA, ra_sLA, len_sLA, ls_sLA, own_sLA, n_sLA, uc_sLA, us_sLA, h0, h17, g2, m149, hasI_n, hb, f1, f3, m159, e1, e3, eq_self]
        · rw [decide_eq_false e1, Bool.and_false, Bool.false_and, Bool.or_false]
          simp (disch := first | omega | exact hM | exact hv _ | (simp only [MS_sW, MS_sfi, MS_sia, MS_sIA, MS_sla, MS_sLA, MS_sls]; exact hM)) only [s192_0, s192_1, s192_2, s192_3, s192_7, s192_8, s192_11, s192_14, s192_15, s192_19, s192_20, s192_23, s192_26, s192_27, s192_29, s192_32, s192_35, s192_36, s192_39, s192_41, s192_42, s192_43, s192_44, s192_47, s192_49, s192_50, s192_51, s192_54, s192_57, s192_58, s192_59, s192_62, s192_64, s192_65, s192_66, s192_69, s192_70, s192_73, s192_74, s192_75, s192_77, s192_78, s192_79, s192_80, s192_83, s192_86, s192_89, s192_92, s192_93, zcs_0, zcs_1, zcs_2, zcs_3, zcs_4, zcs_5, zcs_6, zcs_7, znl_i, znl_r, znl_n, Bool.and_true, Bool.true_and, zk_v, zk_n, zk_x, zir_r, zir_n, zclr_i, zclr_r, zclr_n, zclr_d, zclr_l, true_and, and_true, and_self, if_true, if_false, reduceIte, nI_add, pk_mul, zin_ok, zx_nI, nI_lt2, nI_le2, nI_eq2, nI_l0, nI_g0, nI_q0, nI_p0, nI_n0, nI_m1, Nat.add_zero, Nat.zero_add, Nat.reduceAdd, Nat.reduceMul, true_or, or_true, znar_50, bI_0, bI_1, bI_z, bft, nI_z0, nI_z1, lgc_lt, lgc_gt, lgc_le, lgc_ge, lgc_eq, not_true_eq_false, not_false_eq_true, Bool.not_eq_true, Bool.not_eq_false, reduceCtorEq, MS_sW, CS_sW, sW_r, sW_n, sW_w, cls_sW, fi_sW, fr_sW, la_sW, ra_sW, len_sW, ls_sW, own_sW, n_sW, uc_sW, us_sW, sW_sfi, sW_sla, sW_sLA, sW_sls, sW_spay, sW_sia, sW_sIA, ne_eq, cls_sfi, fr_sfi, ia_sfi, la_sfi, ra_sfi, len_sfi, ls_sfi, own_sfi, n_sfi, uc_sfi, us_sfi, cls_sia, fi_sia, fr_sia, la_sia, ra_sia, len_sia, ls_sia, own_sia, n_sia, uc_sia, us_sia, cls_sIA, fi_sIA, fr_sIA, la_sIA, ra_sIA, len_sIA, ls_sIA, own_sIA, n_sIA, uc_sIA, us_sIA, cls_sla, fi_sla, fr_sla, ia_sla, ra_sla, len_sla, ls_sla, own_sla, n_sla, uc_sla, us_sla, cls_sLA, fi_sLA, fr_sLA, ia_sLA, ra_sLA, len_sLA, ls_sLA, own_sLA, n_sLA, uc_sLA, us_sLA, h0, h17, g2, m149, hasI_n, hb, f1, f3, m159, e1])
    have e0 : anyN (fun l => (S.testBit l && decide (hs l = v (1880 + 5 * ix k + 1))) && decide (dy ≤ v (1880 + 5 * ix k + 3))) 0 = false := rfl
    try dsimp only at inner
    rw [e0, if_neg (by decide), Nat.or_zero] at inner
    refine ⟨.int (nI n), s192_5.trans ?_⟩
    simp (disch := first | omega | exact hM | exact hv _ | (simp only [MS_sW, MS_sfi, MS_sia, MS_sIA, MS_sla, MS_sLA, MS_sls]; exact hM)) only [s192_0, s192_1, s192_2, s192_3, s192_7, s192_8, s192_11, s192_14, s192_15, s192_19, s192_20, s192_23, s192_26, s192_27, s192_29, s192_32, s192_35, s192_36, s192_39, s192_41, s192_42, s192_43, s192_44, s192_47, s192_49, s192_50, s192_51, s192_54, s192_57, s192_58, s192_59, s192_62, s192_64, s192_65, s192_66, s192_69, s192_70, s192_73, s192_74, s192_75, s192_77, s192_78, s192_79, s192_80, s192_83, s192_86, s192_89, s192_92, s192_93, zcs_0, zcs_1, zcs_2, zcs_3, zcs_4, zcs_5, zcs_6, zcs_7, znl_i, znl_r, znl_n, Bool.and_true, Bool.true_and, zk_v, zk_n, zk_x, zir_r, zir_n, zclr_i, zclr_r, zclr_n, zclr_d, zclr_l, true_and, and_true, and_self, if_true, if_false, reduceIte, nI_add, pk_mul, zin_ok, zx_nI, nI_lt2, nI_le2, nI_eq2, nI_l0, nI_g0, nI_q0, nI_p0, nI_n0, nI_m1, Nat.add_zero, Nat.zero_add, Nat.reduceAdd, Nat.reduceMul, true_or, or_true, znar_50, bI_0, bI_1, bI_z, bft, nI_z0, nI_z1, lgc_lt, lgc_gt, lgc_le, lgc_ge, lgc_eq, not_true_eq_false, not_false_eq_true, Bool.not_eq_true, Bool.not_eq_false, reduceCtorEq, MS_sW, CS_sW, sW_r, sW_n, sW_w, cls_sW, fi_sW, fr_sW, la_sW, ra_sW, len_sW, ls_sW, own_sW, n_sW, uc_sW, us_sW, sW_sfi, sW_sla, sW_sLA, sW_sls, sW_spay, sW_sia, sW_sIA, ne_eq, cls_sfi, fr_sfi, ia_sfi, la_sfi, ra_sfi, len_sfi, ls_sfi, own_sfi, n_sfi, uc_sfi, us_sfi, cls_sia, fi_sia, fr_sia, la_sia, ra_sia, len_sia, ls_sia, own_sia, n_sia, uc_sia, us_sia, cls_sIA, fi_sIA, fr_sIA, la_sIA, ra_sIA, len_sIA, ls_sIA, own_sIA, n_sIA, uc_sIA, us_sIA, cls_sla, fi_sla, fr_sla, ia_sla, ra_sla, len_sla, ls_sla, own_sla, n_sla, uc_sla, us_sla, cls_sLA, fi_sLA, fr_sLA, ia_sLA, ra_sLA, len_sLA, ls_sLA, own_sLA, n_sLA, uc_sLA, us_sLA, h0, h26, g1]
    refine inner.trans ?_
    refine s192_17.trans ?_
    simp (disch := first | omega | exact hM | exact hv _ | (simp only [MS_sW, MS_sfi, MS_sia, MS_sIA, MS_sla, MS_sLA, MS_sls]; exact hM)) only [s192_0, s192_1, s192_2, s192_3, s192_7, s192_8, s192_11, s192_14, s192_15, s192_19, s192_20, s192_23, s192_26, s192_27, s192_29, s192_32, s192_35, s192_36, s192_39, s192_41, s192_42, s192_43, s192_44, s192_47, s192_49, s192_50, s192_51, s192_54, s192_57, s192_58, s192_59, s192_62, s192_64, s192_65, s192_66, s192_69, s192_70, s192_73, s192_74, s192_75, s192_77, s192_78, s192_79, s192_80, s192_83, s192_86, s192_89, s192_92, s192_93, zcs_0, zcs_1, zcs_2, zcs_3, zcs_4, zcs_5, zcs_6, zcs_7, znl_i, znl_r, znl_n, Bool.and_true, Bool.true_and, zk_v, zk_n, zk_x, zir_r, zir_n, zclr_i, zclr_r, zclr_n, zclr_d, zclr_l, true_and, and_true, and_self, if_true, if_false, reduceIte, nI_add, pk_mul, zin_ok, zx_nI, nI_lt2, nI_le2, nI_eq2, nI_l0, nI_g0, nI_q0, nI_p0, nI_n0, nI_m1, Nat.add_zero, Nat.zero_add, Nat.reduceAdd, Nat.reduceMul, true_or, or_true, znar_50, bI_0, bI_1, bI_z, bft, nI_z0, nI_z1, lgc_lt, lgc_gt, lgc_le, lgc_ge, lgc_eq, not_true_eq_false, not_false_eq_true, Bool.not_eq_true, Bool.not_eq_false, reduceCtorEq, MS_sW, CS_sW, sW_r, sW_n, sW_w, cls_sW, fi_sW, fr_sW, la_sW, ra_sW, len_sW, ls_sW, own_sW, n_sW, uc_sW, us_sW, sW_sfi, sW_sla, sW_sLA, sW_sls, sW_spay, sW_sia, sW_sIA, ne_eq, cls_sfi, fr_sfi, ia_sfi, la_sfi, ra_sfi, len_sfi, ls_sfi, own_sfi, n_sfi, uc_sfi, us_sfi, cls_sia, fi_sia, fr_sia, la_sia, ra_sia, len_sia, ls_sia, own_sia, n_sia, uc_sia, us_sia, cls_sIA, fi_sIA, fr_sIA, la_sIA, ra_sIA, len_sIA, ls_sIA, own_sIA, n_sIA, uc_sIA, us_sIA, cls_sla, fi_sla, fr_sla, ia_sla, ra_sla, len_sla, ls_sla, own_sla, n_sla, uc_sla, us_sla, cls_sLA, fi_sLA, fr_sLA, ia_sLA, ra_sLA, len_sLA, ls_sLA, own_sLA, n_sLA, uc_sLA, us_sLA, h0, h17, Nat.le_refl]
    rw [hst]
    rfl)
  simp (disch := first | omega | exact hM | exact hv _ | (simp only [MS_sW, MS_sfi, MS_sia, MS_sIA, MS_sla, MS_sLA, MS_sls]; exact hM)) only [e192, s192_0, s192_1, s192_2, s192_3, s192_7, s192_8, s192_11, s192_14, s192_15, s192_19, s192_20, s192_23, s192_26, s192_27, s192_29, s192_32, s192_35, s192_36, s192_39, s192_41, s192_42, s192_43, s192_44, s192_47, s192_49, s192_50, s192_51, s192_54, s192_57, s192_58, s192_59, s192_62, s192_64, s192_65, s192_66, s192_69, s192_70, s192_73, s192_74, s192_75, s192_77, s192_78, s192_79, s192_80, s192_83, s192_86, s192_89, s192_92, s192_93, zcs_0, zcs_1, zcs_2, zcs_3, zcs_4, zcs_5, zcs_6, zcs_7, znl_i, znl_r, znl_n, Bool.and_true, Bool.true_and, zk_v, zk_n, zk_x, zir_r, zir_n, zclr_i, zclr_r, zclr_n, zclr_d, zclr_l, true_and, and_true, and_self, if_true, if_false, reduceIte, nI_add, pk_mul, zin_ok, zx_nI, nI_lt2, nI_le2, nI_eq2, nI_l0, nI_g0, nI_q0, nI_p0, nI_n0, nI_m1, Nat.add_zero, Nat.zero_add, Nat.reduceAdd, Nat.reduceMul, true_or, or_true, znar_50, bI_0, bI_1, bI_z, bft, nI_z0, nI_z1, lgc_lt, lgc_gt, lgc_le, lgc_ge, lgc_eq, not_true_eq_false, not_false_eq_true, Bool.not_eq_true, Bool.not_eq_false, reduceCtorEq, MS_sW, CS_sW, sW_r, sW_n, sW_w, cls_sW, fi_sW, fr_sW, la_sW, ra_sW, len_sW, ls_sW, own_sW, n_sW, uc_sW, us_sW, sW_sfi, sW_sla, sW_sLA, sW_sls, sW_spay, sW_sia, sW_sIA, ne_eq, cls_sfi, fr_sfi, ia_sfi, la_sfi, ra_sfi, len_sfi, ls_sfi, own_sfi, n_sfi, uc_sfi, us_sfi, cls_sia, fi_sia, fr_sia, la_sia, ra_sia, len_sia, ls_sia, own_sia, n_sia, uc_sia, us_sia, cls_sIA, fi_sIA, fr_sIA, la_sIA, ra_sIA, len_sIA, ls_sIA, own_sIA, n_sIA, uc_sIA, us_sIA, cls_sla, fi_sla, fr_sla, ia_sla, ra_sla, len_sla, ls_sla, own_sla, n_sla, uc_sla, us_sla, cls_sLA, fi_sLA, fr_sLA, ia_sLA, ra_sLA, len_sLA, ls_sLA, own_sLA, n_sLA, uc_sLA, us_sLA, h0]
  exact z2 0 zdum (by omega)
end MN
