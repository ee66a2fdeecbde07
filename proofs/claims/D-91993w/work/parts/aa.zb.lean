set_option maxRecDepth 100000
/-! beside: what would be owed by another code; the model -/
/-- the world to begin with: now's houses, the code of u, nothing owed -/
def bsV (v u : Nat → Nat) : Nat → Nat := fun i => if i = 7 then 0 else if 1864 ≤ i ∧ i < 1880 then v (10 + 9 * (i - 1864) + 8) else if (1 ≤ i ∧ i ≤ 3) ∨ (154 ≤ i ∧ i < 1864) then u i else v i
/-- the first n deeds done again -/
def bsF (L : Nat → List (Nat × Nat)) (w : Nat → Nat) : Nat → Nat → Nat
  | 0 => w
  | n + 1 => (sGoes (bsF L w n) L (w (6680 + 4 * n)) (w (6680 + 4 * n + 1)) (w (6680 + 4 * n + 2)) (w (6680 + 4 * n + 3))).1
section BS
variable {d : Nat} {z : ZH} {Q : ZQ} {v u : Nat → Nat} {L LI : Nat → List (Nat × Nat)} {K KI : Nat}
/-- what holds while they are done again -/
def bsO (w : Nat → Nat) (L : Nat → List (Nat × Nat)) (n : Nat) (x : Nat → Nat) : Prop := wB x ∧ wK x ∧ (∀ i, i < x 7 → x (1880 + 5 * i) < x 0 ∧ x (1880 + 5 * i + 1) < x 0 ∧ x (1880 + 5 * i + 2) < 4 ∧ x (1880 + 5 * i + 3) ≤ 399 ∧ x (1880 + 5 * i + 4) ≤ 399) ∧ x 7 ≤ n ∧ agC w x ∧ (∀ q, (6 ≤ q ∧ q < 10 ∧ ¬ q = 7) ∨ 6680 ≤ q → x q = w q) ∧ cOK x L
theorem cOK_mid {v v2 : Nat → Nat} (h : ∀ i, (1 ≤ i ∧ i ≤ 3) ∨ (154 ≤ i ∧ i < 1864) → v2 i = v i) (k : cOK v L) : cOK v2 L := by
  obtain ⟨a, b, c, e, f, g⟩ := k
  have e1 := h 1 (by omega)
  have e2 := h 2 (by omega)
  have e3 := h 3 (by omega)
  refine ⟨by omega, by omega, by omega, ?_, ?_, ?_⟩
  · intro k hk
    rw [h _ (by omega)]
    exact e k (by omega)
  · intro l hl
    rw [h (154 + 5 * l) (by omega), h (154 + 5 * l + 1) (by omega), h (154 + 5 * l + 2) (by omega), h (154 + 5 * l + 3) (by omega), h (154 + 5 * l + 4) (by omega), e2]
    exact f l (by omega)
  · intro t ht
    obtain ⟨g1, g2⟩ := g t (by omega)
    rw [h (274 + 3 * t + 1) (by omega), h (274 + 3 * t + 2) (by omega), e3]
    exact ⟨tLay_ap (N := v 3) (fun i _ _ => h i (by omega)) g2 _ _ g1, g2⟩
theorem bsV_0 (h : WF v L K) (hu : WF u LI KI) : bsO (bsV v u) LI 0 (bsV v u) ∧ bsV v u 0 = v 0 ∧ bsV v u 8 = v 8 ∧ ∀ q, 6680 ≤ q → bsV v u q = v q := by
  obtain ⟨hB, hT, hK, hD, hE, hC, h9⟩ := h
  obtain ⟨uB, uT, uK, uD, uE, uC, u9⟩ := hu
  have e0 : bsV v u 0 = v 0 := by unfold bsV; rw [if_neg (by omega), if_neg (by omega), if_neg (by omega)]
  have e7 : bsV v u 7 = 0 := if_pos rfl
  have ec : ∀ i, (1 ≤ i ∧ i ≤ 3) ∨ (154 ≤ i ∧ i < 1864) → bsV v u i = u i := fun i hi => by unfold bsV; rw [if_neg (by omega), if_neg (by omega), if_pos hi]
  have ek : ∀ h, h < 16 → bsV v u (1864 + h) = v (10 + 9 * h + 8) := fun h hh => by unfold bsV; rw [if_neg (by omega), if_pos (by omega), Nat.add_sub_cancel_left]
  refine ⟨⟨fun i => ?_, fun h hh => ?_, fun i hi => by omega, by omega, agC_refl _, fun _ _ => rfl, ?_⟩, e0, ?_, fun q hq => ?_⟩
  · unfold bsV
    have := hB i
    have := uB i
    have := hB (10 + 9 * (i - 1864) + 8)
    repeat' split
    all_goals omega
  · rw [ek h hh, e0]
    exact hT.2.2.2.2 h hh
  · exact cOK_mid (fun i hi => ec i (by omega)) uC
  · unfold bsV; rw [if_neg (by omega), if_neg (by omega), if_neg (by omega)]
  · unfold bsV; rw [if_neg (by omega), if_neg (by omega), if_neg (by omega)]
theorem bsO_s {w x : Nat → Nat} {n a b p y : Nat} (h : bsO w L n x) (h16 : w 0 ≤ 16) (hn : n < 600) (ha : a < w 0) (hb : b < w 0) (hab : ¬ a = b) (hp : p < 5) (hy : y ≤ 399) : bsO w L (n + 1) (sGoes x L a b p y).1 := by
  obtain ⟨h1, h2, h3, h4, h5, h6, h7⟩ := h
  have e0 := h5 0 (by omega)
  obtain ⟨r1, r2, r3, r4, _, r5, r6⟩ := sGoes_wf (L := L) (a := a) (b := b) (p := p) (dy := y) h1 (by omega) h2 h3 (by omega) h7 (by omega) (by omega) hab hp hy
  have f0 := r5 0 (by omega)
  exact ⟨r1, r2, fun i hi => by rw [f0]; exact r3 i hi, by omega, agC_trans h5 r5, fun q hq => by rw [r6 q hq]; exact h6 q hq, cOK_c r5 h7⟩
theorem bsO_n {w : Nat → Nat} (h0 : bsO w L 0 w) (h16 : w 0 ≤ 16) (h8 : w 8 ≤ 600) (hd : ∀ i, i < w 8 → w (6680 + 4 * i) < w 0 ∧ w (6680 + 4 * i + 1) < w 0 ∧ w (6680 + 4 * i + 2) < 5 ∧ w (6680 + 4 * i + 3) ≤ 399 ∧ ¬ w (6680 + 4 * i) = w (6680 + 4 * i + 1)) : ∀ n, n ≤ w 8 → bsO w L n (bsF L w n)
  | 0, _ => h0
  | n + 1, hn => by
    obtain ⟨d1, d2, d3, d4, d5⟩ := hd n (by omega)
    exact bsO_s (bsO_n h0 h16 h8 hd n (by omega)) h16 (by omega) d1 d2 d5 d3 d4
theorem sIA_upd {z : ZH} {r k : Nat} {f : Nat → Int32} {x : Int32} : sia (sIA z r f) r k x = sIA z r (zu1 f k x) := sIA_sia _ _ _ _ _
theorem m208n {k : Int32} (hk : zin k 3 = false) : ZC zG (d + 1) 208 [.ref 135, .int k] z Q = Q (.inl (some (.int (-2)))) z := by
  simp (disch := omega) only [e208, s208_0, s208_1, s208_2, s208_3, s208_6, s208_9, s208_12, s208_14, zcs_0, zcs_1, zcs_2, zcs_3, zcs_4, zcs_5, zcs_6, zcs_7, znl_i, znl_r, znl_n, Bool.and_true, Bool.true_and, zk_v, zk_n, zk_x, zir_r, zir_n, zclr_i, zclr_r, zclr_n, zclr_d, zclr_l, true_and, and_true, and_self, if_true, if_false, reduceIte, nI_add, pk_mul, zin_ok, zx_nI, nI_lt2, nI_le2, nI_eq2, nI_l0, nI_g0, nI_q0, nI_p0, nI_n0, nI_m1, Nat.add_zero, Nat.zero_add, Nat.reduceAdd, Nat.reduceMul, true_or, or_true, znar_50, bI_0, bI_1, bI_z, bft, nI_z0, nI_z1, lgc_lt, lgc_gt, lgc_le, lgc_ge, lgc_eq, not_true_eq_false, not_false_eq_true, Bool.not_eq_true, Bool.not_eq_false, reduceCtorEq, eq_self, nI_e0, nI_e1, i10, i01, decide_false, decide_true, Bool.false_eq_true, m114, lin_c, hk]
theorem m208m (hM : MS z) {k : Nat} (hk : k < 3) (hI : zia z 138 k = 0) : ZC zG (d + 1) 208 [.ref 135, .int (nI k)] z Q = Q (.inl (some (.int (-6)))) z := by
  have h0 := hM
  unfold MS at h0
  have hz : zin (nI k) 3 = true := by rw [zin_nI (by omega)]; exact decide_eq_true hk
  simp (disch := omega) only [e208, s208_0, s208_1, s208_2, s208_3, s208_6, s208_9, s208_12, s208_14, s208_15, s208_16, s208_19, s208_20, s208_21, s208_24, s208_26, zcs_0, zcs_1, zcs_2, zcs_3, zcs_4, zcs_5, zcs_6, zcs_7, znl_i, znl_r, znl_n, Bool.and_true, Bool.true_and, zk_v, zk_n, zk_x, zir_r, zir_n, zclr_i, zclr_r, zclr_n, zclr_d, zclr_l, true_and, and_true, and_self, if_true, if_false, reduceIte, nI_add, pk_mul, zin_ok, zx_nI, nI_lt2, nI_le2, nI_eq2, nI_l0, nI_g0, nI_q0, nI_p0, nI_n0, nI_m1, Nat.add_zero, Nat.zero_add, Nat.reduceAdd, Nat.reduceMul, true_or, or_true, znar_50, bI_0, bI_1, bI_z, bft, nI_z0, nI_z1, lgc_lt, lgc_gt, lgc_le, lgc_ge, lgc_eq, not_true_eq_false, not_false_eq_true, Bool.not_eq_true, Bool.not_eq_false, reduceCtorEq, eq_self, nI_e0, nI_e1, i10, i01, decide_false, decide_true, Bool.false_eq_true, m114, lin_c, hz, h0, hI]
end BS
