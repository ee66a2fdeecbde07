set_option maxRecDepth 100000
/-! what else stays: all but the cells W -/
def zFr (W : Nat → Prop) (z z2 : ZH) : Prop := zn z ≤ zn z2 ∧ ∀ q, q < zn z → ¬ W q → zcls z2 q = zcls z q ∧ zfi z2 q = zfi z q ∧ zfr z2 q = zfr z q ∧ zia z2 q = zia z q ∧ zla z2 q = zla z q ∧ zra z2 q = zra z q ∧ zlen z2 q = zlen z q ∧ zls z2 q = zls z q
theorem zFr_refl (W : Nat → Prop) (z : ZH) : zFr W z z := ⟨Nat.le_refl _, fun q _ _ => ⟨rfl, rfl, rfl, rfl, rfl, rfl, rfl, rfl⟩⟩
theorem zFr_trans {W : Nat → Prop} {z z2 z3 : ZH} (h : zFr W z z2) (h2 : zFr W z2 z3) : zFr W z z3 := by
  refine ⟨Nat.le_trans h.1 h2.1, fun q hq hw => ?_⟩
  obtain ⟨a1, a2, a3, a4, a5, a6, a7, a8⟩ := h.2 q hq hw
  obtain ⟨b1, b2, b3, b4, b5, b6, b7, b8⟩ := h2.2 q (by have := h.1; omega) hw
  exact ⟨b1.trans a1, b2.trans a2, b3.trans a3, b4.trans a4, b5.trans a5, b6.trans a6, b7.trans a7, b8.trans a8⟩
theorem zFr_mono {W W2 : Nat → Prop} {z z2 : ZH} (hw : ∀ q, q < zn z → W q → W2 q) (h : zFr W z z2) : zFr W2 z z2 := ⟨h.1, fun q hq hq2 => h.2 q hq (fun e => hq2 (hw q hq e))⟩
theorem zFr.st {W B : Nat → Prop} {z z2 : ZH} (h : zFr W z z2) (hB : ∀ q, B q → q < zn z ∧ ¬ W q) : zSt B z z2 := by
  intro q hq
  obtain ⟨a1, a2, a3, a4, a5, a6, a7, a8⟩ := h.2 q (hB q hq).1 (hB q hq).2
  exact ⟨a1, a2, a3, a4, a7, a8⟩
section FR
variable {W : Nat → Prop} {z0 z : ZH}
theorem zFr_sfi {r k : Nat} {x : Int32} (h : zFr W z0 z) (hr : zn z0 ≤ r ∨ W r) : zFr W z0 (sfi z r k x) := by
  refine ⟨h.1, fun q hq hw => ?_⟩
  obtain ⟨a1, a2, a3, a4, a5, a6, a7, a8⟩ := h.2 q hq hw
  have hne : ¬ q = r := fun e => by subst e; rcases hr with hr | hr; exact absurd hq (by omega); exact hw hr
  refine ⟨a1, ?_, a3, a4, a5, a6, a7, a8⟩
  rw [fi_sfi, ← a2]
  funext j
  exact zu2_n _ _ _ _ hne
theorem zFr_sfr {r k : Nat} {x : Value} (h : zFr W z0 z) (hr : zn z0 ≤ r ∨ W r) : zFr W z0 (sfr z r k x) := by
  refine ⟨h.1, fun q hq hw => ?_⟩
  obtain ⟨a1, a2, a3, a4, a5, a6, a7, a8⟩ := h.2 q hq hw
  have hne : ¬ q = r := fun e => by subst e; rcases hr with hr | hr; exact absurd hq (by omega); exact hw hr
  refine ⟨a1, a2, ?_, a4, a5, a6, a7, a8⟩
  rw [fr_sfr, ← a3]
  funext j
  exact zu2_n _ _ _ _ hne
theorem zFr_sia {r k : Nat} {x : Int32} (h : zFr W z0 z) (hr : zn z0 ≤ r ∨ W r) : zFr W z0 (sia z r k x) := by
  refine ⟨h.1, fun q hq hw => ?_⟩
  obtain ⟨a1, a2, a3, a4, a5, a6, a7, a8⟩ := h.2 q hq hw
  have hne : ¬ q = r := fun e => by subst e; rcases hr with hr | hr; exact absurd hq (by omega); exact hw hr
  refine ⟨a1, a2, a3, ?_, a5, a6, a7, a8⟩
  rw [ia_sia, ← a4]
  funext j
  exact zu2_n _ _ _ _ hne
theorem zFr_sla {r k : Nat} {x : Int64} (h : zFr W z0 z) (hr : zn z0 ≤ r ∨ W r) : zFr W z0 (sla z r k x) := by
  refine ⟨h.1, fun q hq hw => ?_⟩
  obtain ⟨a1, a2, a3, a4, a5, a6, a7, a8⟩ := h.2 q hq hw
  have hne : ¬ q = r := fun e => by subst e; rcases hr with hr | hr; exact absurd hq (by omega); exact hw hr
  refine ⟨a1, a2, a3, a4, ?_, a6, a7, a8⟩
  rw [la_sla, ← a5]
  funext j
  exact zu2_n _ _ _ _ hne
theorem zFr_sra {r k : Nat} {x : Value} (h : zFr W z0 z) (hr : zn z0 ≤ r ∨ W r) : zFr W z0 (sra z r k x) := by
  refine ⟨h.1, fun q hq hw => ?_⟩
  obtain ⟨a1, a2, a3, a4, a5, a6, a7, a8⟩ := h.2 q hq hw
  have hne : ¬ q = r := fun e => by subst e; rcases hr with hr | hr; exact absurd hq (by omega); exact hw hr
  refine ⟨a1, a2, a3, a4, a5, ?_, a7, a8⟩
  rw [ra_sra, ← a6]
  funext j
  exact zu2_n _ _ _ _ hne
theorem zFr_sIA {r : Nat} {x : Nat → Int32} (h : zFr W z0 z) (hr : zn z0 ≤ r ∨ W r) : zFr W z0 (sIA z r x) := by
  refine ⟨h.1, fun q hq hw => ?_⟩
  obtain ⟨a1, a2, a3, a4, a5, a6, a7, a8⟩ := h.2 q hq hw
  have hne : ¬ q = r := fun e => by subst e; rcases hr with hr | hr; exact absurd hq (by omega); exact hw hr
  refine ⟨a1, a2, a3, ?_, a5, a6, a7, a8⟩
  rw [ia_sIA, ← a4]
  exact zu1_n _ _ _ hne
theorem zFr_sLA {r : Nat} {x : Nat → Int64} (h : zFr W z0 z) (hr : zn z0 ≤ r ∨ W r) : zFr W z0 (sLA z r x) := by
  refine ⟨h.1, fun q hq hw => ?_⟩
  obtain ⟨a1, a2, a3, a4, a5, a6, a7, a8⟩ := h.2 q hq hw
  have hne : ¬ q = r := fun e => by subst e; rcases hr with hr | hr; exact absurd hq (by omega); exact hw hr
  refine ⟨a1, a2, a3, a4, ?_, a6, a7, a8⟩
  rw [la_sLA, ← a5]
  exact zu1_n _ _ _ hne
theorem zFr_sls {r : Nat} {x : List Value} (h : zFr W z0 z) (hr : zn z0 ≤ r ∨ W r) : zFr W z0 (sls z r x) := by
  refine ⟨h.1, fun q hq hw => ?_⟩
  obtain ⟨a1, a2, a3, a4, a5, a6, a7, a8⟩ := h.2 q hq hw
  have hne : ¬ q = r := fun e => by subst e; rcases hr with hr | hr; exact absurd hq (by omega); exact hw hr
  refine ⟨a1, a2, a3, a4, a5, a6, a7, ?_⟩
  rw [ls_sls, ← a8]
  exact zu1_n _ _ _ hne
theorem zFr_sFI {r : Nat} {x : Nat → Int32} (h : zFr W z0 z) (hr : zn z0 ≤ r ∨ W r) : zFr W z0 (sFI z r x) := by
  refine ⟨h.1, fun q hq hw => ?_⟩
  obtain ⟨a1, a2, a3, a4, a5, a6, a7, a8⟩ := h.2 q hq hw
  have hne : ¬ q = r := fun e => by subst e; rcases hr with hr | hr; exact absurd hq (by omega); exact hw hr
  refine ⟨a1, ?_, a3, a4, a5, a6, a7, a8⟩
  rw [fi_sFI, ← a2]
  exact zu1_n _ _ _ hne
theorem zFr_spay {a b : Nat} (h : zFr W z0 z) : zFr W z0 (spay z a b) := h
theorem zFr_snew {c N : Nat} (h : zFr W z0 z) : zFr W z0 (snew z c N) := by
  refine ⟨by rw [n_snew]; have := h.1; omega, fun q hq hw => ?_⟩
  obtain ⟨a1, a2, a3, a4, a5, a6, a7, a8⟩ := h.2 q hq hw
  have hne : ¬ q = zn z := by have := h.1; omega
  refine ⟨?_, ?_, ?_, a4, a5, a6, a7, a8⟩
  · rw [cls_snew, zu1_n _ _ _ hne, a1]
  · rw [fi_snew, zu1_n _ _ _ hne, a2]
  · rw [fr_snew, zu1_n _ _ _ hne, a3]
theorem zFr_sarr {c N : Nat} (h : zFr W z0 z) : zFr W z0 (sarr z c N) := by
  refine ⟨by rw [n_sarr]; have := h.1; omega, fun q hq hw => ?_⟩
  obtain ⟨a1, a2, a3, a4, a5, a6, a7, a8⟩ := h.2 q hq hw
  have hne : ¬ q = zn z := by have := h.1; omega
  refine ⟨?_, a2, a3, ?_, ?_, ?_, ?_, a8⟩
  · rw [cls_sarr, zu1_n _ _ _ hne, a1]
  · rw [ia_sarr, zu1_n _ _ _ hne, a4]
  · rw [la_sarr, zu1_n _ _ _ hne, a5]
  · rw [ra_sarr, zu1_n _ _ _ hne, a6]
  · rw [len_sarr, zu1_n _ _ _ hne, a7]
theorem zFr_slin {r N : Nat} (h : zFr W z0 z) (hr : zn z0 ≤ r ∨ W r) : zFr W z0 (slin z r N) := by
  refine ⟨by rw [n_slin]; have := h.1; omega, fun q hq hw => ?_⟩
  obtain ⟨a1, a2, a3, a4, a5, a6, a7, a8⟩ := h.2 q hq hw
  have hne : ¬ q = zn z := by have := h.1; omega
  have hne2 : ¬ q = r := fun e => by subst e; rcases hr with hr | hr; exact absurd hq (by omega); exact hw hr
  refine ⟨?_, a2, ?_, a4, a5, a6, ?_, ?_⟩
  · rw [cls_slin, zu1_n _ _ _ hne, zu1_n _ _ _ hne2, a1]
  · rw [fr_slin, ← a3]
    funext j
    exact zu2_n _ _ _ _ hne2
  · rw [len_slin, zu1_n _ _ _ hne, a7]
  · rw [ls_slin, zu1_n _ _ _ hne2, a8]
theorem zFr_sgro {r N : Nat} (h : zFr W z0 z) (hr : zn z0 ≤ r ∨ W r) : zFr W z0 (sgro z r N) := by
  refine ⟨by rw [n_sgro]; have := h.1; omega, fun q hq hw => ?_⟩
  obtain ⟨a1, a2, a3, a4, a5, a6, a7, a8⟩ := h.2 q hq hw
  have hne : ¬ q = zn z := by have := h.1; omega
  have hne2 : ¬ q = r := fun e => by subst e; rcases hr with hr | hr; exact absurd hq (by omega); exact hw hr
  refine ⟨?_, a2, ?_, a4, a5, a6, ?_, a8⟩
  · rw [cls_sgro, zu1_n _ _ _ hne, a1]
  · rw [fr_sgro, ← a3]
    funext j
    exact zu2_n _ _ _ _ hne2
  · rw [len_sgro, zu1_n _ _ _ hne, a7]
theorem zFr_sladd {r : Nat} {x : Value} (h : zFr W z0 z) (hr : zn z0 ≤ r ∨ W r) : zFr W z0 (sladd z r x) := by
  unfold sladd
  split
  · exact zFr_sls (zFr_sgro h hr) hr
  · exact zFr_sls h hr
end FR
/-! lists -/
theorem all_getD {p : Value → Bool} {l : List Value} (h : ∀ i, i < l.length → p (l.getD i .null) = true) : l.all p = true := by
  rw [List.all_eq_true]
  intro x hx
  obtain ⟨i, hi, rfl⟩ := List.getElem_of_mem hx
  have := h i hi
  rw [List.getD_eq_getElem?_getD, List.getElem?_eq_getElem hi] at this
  exact this
theorem getD_erase (l : List Value) (k i : Nat) : (l.eraseIdx k).getD i .null = if i < k then l.getD i .null else l.getD (i + 1) .null := by
  rw [List.getD_eq_getElem?_getD, List.getElem?_eraseIdx]
  split <;> rw [List.getD_eq_getElem?_getD]
theorem len_erase {l : List Value} {k : Nat} (h : k < l.length) : (l.eraseIdx k).length = l.length - 1 := List.length_eraseIdx_of_lt h
theorem getD_app (l : List Value) (x : Value) (i : Nat) : (l ++ [x]).getD i .null = if i < l.length then l.getD i .null else if i = l.length then x else .null := by
  rw [List.getD_eq_getElem?_getD, List.getD_eq_getElem?_getD]
  by_cases h : i < l.length
  · rw [if_pos h, List.getElem?_append_left h]
  · rw [if_neg h, List.getElem?_append_right (by omega)]
    by_cases h2 : i = l.length
    · rw [if_pos h2, h2, Nat.sub_self]; rfl
    · rw [if_neg h2, List.getElem?_eq_none (by simp; omega)]; rfl
/-- a list's places -/
def capL (z : ZH) (r : Nat) : Nat := zlen z (zdat z r)
/-- what an add costs -/
theorem add_cost (z : ZH) (r : Nat) (x : Value) : zuc (sladd z r x) ≤ zuc z + 1 ∧ zus (sladd z r x) + 4 * capL z r ≤ zus z + 4 * capL (sladd z r x) r ∧ capL z r ≤ capL (sladd z r x) r ∧ zuc z ≤ zuc (sladd z r x) ∧ zus z ≤ zus (sladd z r x) ∧ (capL (sladd z r x) r ≤ capL z r ∨ capL (sladd z r x) r ≤ 2 * (zls z r).length + 1) ∧ zus (sladd z r x) ≤ zus z + 2 * (zls z r).length + 1 := by
  unfold sladd
  by_cases h : (zls z r).length = zlen z (zdat z r)
  · rw [if_pos h]
    have e : capL (sls (sgro z r (zlen z (zdat z r) + max 1 (zlen z (zdat z r) / 2))) r (zls z r ++ [x])) r = zlen z (zdat z r) + max 1 (zlen z (zdat z r) / 2) := by
      unfold capL zdat
      rw [len_sls, fr_sls, fr_sgro, zu2_s]
      dsimp only
      rw [len_sgro, zu1_s]
    rw [e, uc_sls, us_sls, uc_sgro, us_sgro]
    unfold capL
    generalize zlen z (zdat z r) = c at h
    omega
  · rw [if_neg h]
    have e : capL (sls z r (zls z r ++ [x])) r = capL z r := rfl
    rw [e, uc_sls, us_sls]
    omega
theorem ls_sladd (z : ZH) (r : Nat) (x : Value) : zls (sladd z r x) = zu1 (zls z) r (zls z r ++ [x]) := by
  unfold sladd
  split <;> rfl
theorem fi_sladd (z : ZH) (r : Nat) (x : Value) : zfi (sladd z r x) = zfi z := by
  unfold sladd
  split <;> rfl
theorem ia_sladd (z : ZH) (r : Nat) (x : Value) : zia (sladd z r x) = zia z := by
  unfold sladd
  split <;> rfl
theorem la_sladd (z : ZH) (r : Nat) (x : Value) : zla (sladd z r x) = zla z := by
  unfold sladd
  split <;> rfl
theorem ra_sladd (z : ZH) (r : Nat) (x : Value) : zra (sladd z r x) = zra z := by
  unfold sladd
  split <;> rfl
theorem cls_sladd (z : ZH) (r : Nat) (x : Value) {q : Nat} (h : q < zn z) : zcls (sladd z r x) q = zcls z q := by
  unfold sladd
  split
  · rw [cls_sls, cls_sgro, zu1_n _ _ _ (by omega)]
  · rfl
theorem len_sladd (z : ZH) (r : Nat) (x : Value) {q : Nat} (h : q < zn z) : zlen (sladd z r x) q = zlen z q := by
  unfold sladd
  split
  · rw [len_sls, len_sgro, zu1_n _ _ _ (by omega)]
  · rfl
theorem fr_sladd (z : ZH) (r : Nat) (x : Value) {q : Nat} (h : ¬ q = r) : zfr (sladd z r x) q = zfr z q := by
  unfold sladd
  split
  · rw [fr_sls, fr_sgro]
    funext j
    exact zu2_n _ _ _ _ h
  · rfl
theorem n_sladd (z : ZH) (r : Nat) (x : Value) : zn z ≤ zn (sladd z r x) := by
  unfold sladd
  split
  · rw [n_sls, n_sgro]; omega
  · exact Nat.le_refl _
/-! payings -/
section PAY
variable {d : Nat} {z : ZH} {Q : ZQ} {pq p : Nat}
theorem pay_kind (hp : p < 4) (hc : zcls z pq = 6 + p) : ∃ k1, [(6, 86), (7, 88), (8, 91), (9, 94)].lookup (zcls z pq) = some k1 ∧ (zent [.ref pq]).length ≤ zMl k1 ∧ ∀ d Q, ZC zG (d + 1) k1 [.ref pq] z Q = Q (.inl (some (.int (nI p)))) z := by
  match p, hp with
  | 0, _ => exact ⟨86, by rw [hc]; rfl, Nat.le_of_ble_eq_true rfl, fun d Q => by simp only [e86, s86_0, s86_1, zcs_0, zcs_1, zcs_2, zcs_3, zcs_4, zcs_5, zcs_6, zcs_7, znl_i, znl_r, znl_n, Bool.and_true, Bool.true_and, zk_v, zk_n, zk_x, zir_r, zir_n, zclr_i, zclr_r, zclr_n, zclr_d, zclr_l, true_and, and_true, and_self, if_true, if_false, reduceIte]⟩
  | 1, _ => exact ⟨88, by rw [hc]; rfl, Nat.le_of_ble_eq_true rfl, fun d Q => by simp only [e88, s88_0, s88_1, zcs_0, zcs_1, zcs_2, zcs_3, zcs_4, zcs_5, zcs_6, zcs_7, znl_i, znl_r, znl_n, Bool.and_true, Bool.true_and, zk_v, zk_n, zk_x, zir_r, zir_n, zclr_i, zclr_r, zclr_n, zclr_d, zclr_l, true_and, and_true, and_self, if_true, if_false, reduceIte]⟩
  | 2, _ => exact ⟨91, by rw [hc]; rfl, Nat.le_of_ble_eq_true rfl, fun d Q => by simp only [e91, s91_0, s91_1, zcs_0, zcs_1, zcs_2, zcs_3, zcs_4, zcs_5, zcs_6, zcs_7, znl_i, znl_r, znl_n, Bool.and_true, Bool.true_and, zk_v, zk_n, zk_x, zir_r, zir_n, zclr_i, zclr_r, zclr_n, zclr_d, zclr_l, true_and, and_true, and_self, if_true, if_false, reduceIte]⟩
  | 3, _ => exact ⟨94, by rw [hc]; rfl, Nat.le_of_ble_eq_true rfl, fun d Q => by simp only [e94, s94_0, s94_1, s94_4, s94_5, s94_6, e91, s91_0, s91_1, zcs_0, zcs_1, zcs_2, zcs_3, zcs_4, zcs_5, zcs_6, zcs_7, znl_i, znl_r, znl_n, Bool.and_true, Bool.true_and, zk_v, zk_n, zk_x, zir_r, zir_n, zclr_i, zclr_r, zclr_n, zclr_d, zclr_l, true_and, and_true, and_self, if_true, if_false, reduceIte, nI_add, pk_mul, zin_ok, zx_nI, nI_lt2, nI_le2, nI_eq2, nI_l0, nI_g0, nI_q0, nI_p0, nI_n0, nI_m1, Nat.add_zero, Nat.zero_add, Nat.reduceAdd, Nat.reduceMul, true_or, or_true, znar_50, bI_0, bI_1, bI_z, bft, nI_z0, nI_z1, lgc_lt, lgc_gt, lgc_le, lgc_ge, lgc_eq, not_true_eq_false, not_false_eq_true, Bool.not_eq_true, Bool.not_eq_false, reduceCtorEq, hc]⟩
theorem pay_pays (hp : p < 4) (hc : zcls z pq = 6 + p) {q : Nat} (hq : zcls z q = 23) : ZC zG (d + 2) 83 [.ref pq, .ref q] z Q = Q (.inl (some (.int (bI (decide (zfi z q 2 ≤ nI p)))))) z := by
  obtain ⟨k1, h1, h2, h3⟩ := pay_kind hp hc
  have u1 := fun ls st Q => s83_5 (d := d + 1) (z := z) (Q := Q) (ls := ls) (st := st) (r := pq) (k1 := k1) h1 h2
  simp only [e83, s83_0, s83_1, s83_4, s83_8, s83_11, s83_12, s83_15, s83_16, u1, h3, zcs_0, zcs_1, zcs_2, zcs_3, zcs_4, zcs_5, zcs_6, zcs_7, znl_i, znl_r, znl_n, Bool.and_true, Bool.true_and, zk_v, zk_n, zk_x, zir_r, zir_n, zclr_i, zclr_r, zclr_n, zclr_d, zclr_l, true_and, and_true, and_self, if_true, if_false, reduceIte, nI_add, pk_mul, zin_ok, zx_nI, nI_lt2, nI_le2, nI_eq2, nI_l0, nI_g0, nI_q0, nI_p0, nI_n0, nI_m1, Nat.add_zero, Nat.zero_add, Nat.reduceAdd, Nat.reduceMul, true_or, or_true, znar_50, bI_0, bI_1, bI_z, bft, nI_z0, nI_z1, lgc_lt, lgc_gt, lgc_le, lgc_ge, lgc_eq, not_true_eq_false, not_false_eq_true, Bool.not_eq_true, Bool.not_eq_false, reduceCtorEq, hq]
  by_cases c : zfi z q 2 ≤ nI p
  · have c2 : ¬ nI p < zfi z q 2 := Int32.not_lt.mpr c
    simp [c, c2, bI, nI_one]
  · have c2 : nI p < zfi z q 2 := Int32.not_le.mp c
    simp [c, c2, bI, nI_0]
theorem pay_lk (hp : p < 4) (hc : zcls z pq = 6 + p) : [(6, 83), (7, 83), (8, 83), (9, 83)].lookup (zcls z pq) = some 83 := by
  match p, hp with
  | 0, _ => rw [hc]; rfl
  | 1, _ => rw [hc]; rfl
  | 2, _ => rw [hc]; rfl
  | 3, _ => rw [hc]; rfl
theorem pay_knows (hp : p < 4) (hc : zcls z pq = 6 + p) : ∃ k1, [(6, 84), (7, 84), (8, 92), (9, 92)].lookup (zcls z pq) = some k1 ∧ (zent [.ref pq]).length ≤ zMl k1 ∧ ∀ d Q, ZC zG d k1 [.ref pq] z Q = Q (.inl (some (.int (bI (decide (2 ≤ p)))))) z := by
  match p, hp with
  | 0, _ => exact ⟨84, by rw [hc]; rfl, Nat.le_of_ble_eq_true rfl, fun d Q => by simp only [e84, s84_0, s84_1, zcs_0, zcs_1, zcs_2, zcs_3, zcs_4, zcs_5, zcs_6, zcs_7, znl_i, znl_r, znl_n, Bool.and_true, Bool.true_and, zk_v, zk_n, zk_x, zir_r, zir_n, zclr_i, zclr_r, zclr_n, zclr_d, zclr_l, true_and, and_true, and_self, if_true, if_false, reduceIte, nI_add, pk_mul, zin_ok, zx_nI, nI_lt2, nI_le2, nI_eq2, nI_l0, nI_g0, nI_q0, nI_p0, nI_n0, nI_m1, Nat.add_zero, Nat.zero_add, Nat.reduceAdd, Nat.reduceMul, true_or, or_true, znar_50, bI_0, bI_1, bI_z, bft, nI_z0, nI_z1, lgc_lt, lgc_gt, lgc_le, lgc_ge, lgc_eq, not_true_eq_false, not_false_eq_true, Bool.not_eq_true, Bool.not_eq_false, reduceCtorEq]; rfl⟩
  | 1, _ => exact ⟨84, by rw [hc]; rfl, Nat.le_of_ble_eq_true rfl, fun d Q => by simp only [e84, s84_0, s84_1, zcs_0, zcs_1, zcs_2, zcs_3, zcs_4, zcs_5, zcs_6, zcs_7, znl_i, znl_r, znl_n, Bool.and_true, Bool.true_and, zk_v, zk_n, zk_x, zir_r, zir_n, zclr_i, zclr_r, zclr_n, zclr_d, zclr_l, true_and, and_true, and_self, if_true, if_false, reduceIte, nI_add, pk_mul, zin_ok, zx_nI, nI_lt2, nI_le2, nI_eq2, nI_l0, nI_g0, nI_q0, nI_p0, nI_n0, nI_m1, Nat.add_zero, Nat.zero_add, Nat.reduceAdd, Nat.reduceMul, true_or, or_true, znar_50, bI_0, bI_1, bI_z, bft, nI_z0, nI_z1, lgc_lt, lgc_gt, lgc_le, lgc_ge, lgc_eq, not_true_eq_false, not_false_eq_true, Bool.not_eq_true, Bool.not_eq_false, reduceCtorEq]; rfl⟩
  | 2, _ => exact ⟨92, by rw [hc]; rfl, Nat.le_of_ble_eq_true rfl, fun d Q => by simp only [e92, s92_0, s92_1, zcs_0, zcs_1, zcs_2, zcs_3, zcs_4, zcs_5, zcs_6, zcs_7, znl_i, znl_r, znl_n, Bool.and_true, Bool.true_and, zk_v, zk_n, zk_x, zir_r, zir_n, zclr_i, zclr_r, zclr_n, zclr_d, zclr_l, true_and, and_true, and_self, if_true, if_false, reduceIte, nI_add, pk_mul, zin_ok, zx_nI, nI_lt2, nI_le2, nI_eq2, nI_l0, nI_g0, nI_q0, nI_p0, nI_n0, nI_m1, Nat.add_zero, Nat.zero_add, Nat.reduceAdd, Nat.reduceMul, true_or, or_true, znar_50, bI_0, bI_1, bI_z, bft, nI_z0, nI_z1, lgc_lt, lgc_gt, lgc_le, lgc_ge, lgc_eq, not_true_eq_false, not_false_eq_true, Bool.not_eq_true, Bool.not_eq_false, reduceCtorEq]; rfl⟩
  | 3, _ => exact ⟨92, by rw [hc]; rfl, Nat.le_of_ble_eq_true rfl, fun d Q => by simp only [e92, s92_0, s92_1, zcs_0, zcs_1, zcs_2, zcs_3, zcs_4, zcs_5, zcs_6, zcs_7, znl_i, znl_r, znl_n, Bool.and_true, Bool.true_and, zk_v, zk_n, zk_x, zir_r, zir_n, zclr_i, zclr_r, zclr_n, zclr_d, zclr_l, true_and, and_true, and_self, if_true, if_false, reduceIte, nI_add, pk_mul, zin_ok, zx_nI, nI_lt2, nI_le2, nI_eq2, nI_l0, nI_g0, nI_q0, nI_p0, nI_n0, nI_m1, Nat.add_zero, Nat.zero_add, Nat.reduceAdd, Nat.reduceMul, true_or, or_true, znar_50, bI_0, bI_1, bI_z, bft, nI_z0, nI_z1, lgc_lt, lgc_gt, lgc_le, lgc_ge, lgc_eq, not_true_eq_false, not_false_eq_true, Bool.not_eq_true, Bool.not_eq_false, reduceCtorEq]; rfl⟩
end PAY
