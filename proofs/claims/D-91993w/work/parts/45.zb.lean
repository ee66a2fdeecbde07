set_option maxRecDepth 100000
/-! the model: what is done, as numbers -/
/-- the town is the same -/
def agC (v v2 : Nat → Nat) : Prop := ∀ i, (i < 6 ∨ (10 ≤ i ∧ i < 1864)) → v2 i = v i
theorem agC_refl (v : Nat → Nat) : agC v v := fun _ _ => rfl
theorem agC_trans {v v2 v3 : Nat → Nat} (h : agC v v2) (h2 : agC v2 v3) : agC v v3 := fun i hi => (h2 i hi).trans (h i hi)
theorem agC_zu {v v2 : Nat → Nat} {k x : Nat} (h : agC v v2) (hk : (6 ≤ k ∧ k < 10) ∨ 1864 ≤ k) : agC v (zu1 v2 k x) := by
  intro i hi
  rw [zu1_n _ _ _ (by omega)]
  exact h i hi
theorem agC_shift {v v2 : Nat → Nat} {i k : Nat} (h : agC v v2) : agC v (sShift v2 i k) := by
  intro q hq
  rw [sShift_lo _ _ _ _ (by omega)]
  exact h q hq
theorem agC_drop {v v2 : Nat → Nat} {i : Nat} (h : agC v v2) : agC v (sDrop v2 i) := agC_zu (agC_shift h) (by omega)
theorem agC_pays {a b p : Nat} : ∀ (k : Nat) {v v2 : Nat → Nat} {n : Nat}, agC v v2 → agC v (sPays a b p k v2 n).1
  | 0, _, _, _, h => h
  | k + 1, v, v2, n, h => by
    unfold sPays
    split
    · exact agC_pays k (agC_drop h)
    · exact agC_pays k h
theorem agC_comes {v v2 : Nat → Nat} {b a k u y : Nat} (h : agC v v2) : agC v (sComes v2 b a k u y) := by
  unfold sComes
  refine agC_zu (agC_zu (agC_zu (agC_zu (agC_zu (agC_zu h ?_) ?_) ?_) ?_) ?_) ?_ <;> omega
theorem agC_meets {v v2 : Nat → Nat} {a b : Nat} (h : agC v v2) : agC v (sMeets v2 a b) := agC_zu (agC_zu h (by omega)) (by omega)
theorem sPart_c {v v2 : Nat → Nat} (h : agC v v2) {pt pt2 : Nat → Int32} (hp : ∀ j, j < 5 → pt2 j = pt j) {k : Nat} (hk : k < 350) (h5 : v (814 + 3 * k + 1) ≤ 5) : sPart v2 pt2 k = sPart v pt k := by
  unfold sPart
  rw [h _ (by omega), h _ (by omega)]
  by_cases e : v (814 + 3 * k + 1) = 5
  · rw [if_pos e, if_pos e]
  · rw [if_neg e, if_neg e, hp _ (by omega)]
theorem prodV_c {v v2 : Nat → Nat} (h : agC v v2) {pt pt2 : Nat → Int32} (hp : ∀ j, j < 5 → pt2 j = pt j) {s : Nat} : ∀ n, (∀ k, k ≤ n → s + k < 350 ∧ v (814 + 3 * (s + k) + 1) ≤ 5) → prodV v2 pt2 s n = prodV v pt s n
  | 0, hk => by
    unfold prodV
    rw [sPart_c h hp (k := s) (hk 0 (by omega)).1 (hk 0 (by omega)).2]
  | n + 1, hk => by
    unfold prodV
    rw [prodV_c h hp n (fun k hk2 => hk k (by omega)), sPart_c h hp (k := s + n + 1) (hk (n + 1) (by omega)).1 (hk (n + 1) (by omega)).2]
theorem tFold_c {v v2 : Nat → Nat} (h : agC v v2) {pt pt2 : Nat → Int32} (hp : ∀ j, j < 5 → pt2 j = pt j) {e : Nat} (he : e ≤ v 3) (h3 : v 3 ≤ 350) (hO : pOK v) : ∀ (ts : List (Nat × Nat)) (k : Nat) (st : Int64 × Int64), tLay v e ts k → tFold v2 pt2 ts st = tFold v pt ts st
  | [], k, st, _ => rfl
  | (s, n) :: xs, k, st, hl => by
    obtain ⟨h1, h2, _, _, h4⟩ := hl
    have e1 : tStep v2 pt2 (s, n) st = tStep v pt (s, n) st := by
      unfold tStep
      dsimp only
      rw [prodV_c h hp n (fun k hk => ⟨by omega, hO (s + k) (by omega)⟩), h (814 + 3 * s) (by omega)]
    unfold tFold
    rw [e1]
    cases tStep v pt (s, n) st with
    | none => rfl
    | some st' => exact tFold_c h hp he h3 hO xs _ st' h4
theorem tHold_c {v v2 : Nat → Nat} (h : agC v v2) {pt pt2 : Nat → Int32} (hp : ∀ j, j < 5 → pt2 j = pt j) {L : Nat → List (Nat × Nat)} (hc : cOK v L) {t : Nat} (ht : t < v 2) : tHold v2 pt2 L t = tHold v pt L t := by
  obtain ⟨c1, c2, c3, c4, c5, c6⟩ := hc
  unfold tHold tVal
  rw [tFold_c h hp (c6 t ht).2 c3 c4 (L t) _ _ (c6 t ht).1, h (274 + 3 * t) (by omega)]
theorem allN_c {p q : Nat → Bool} : ∀ n, (∀ i, i < n → p i = q i) → allN p n = allN q n
  | 0, _ => rfl
  | n + 1, h => by
    unfold allN
    rw [allN_c n (fun i hi => h i (by omega)), h n (by omega)]
theorem findF_c {p q : Nat → Bool} : ∀ m k, (∀ i, k ≤ i → i < k + m → p i = q i) → findF p m k = findF q m k
  | 0, k, _ => rfl
  | m + 1, k, h => by
    unfold findF
    rw [h k (by omega) (by omega), findF_c m (k + 1) (fun i hi hi2 => h i (by omega) (by omega))]
theorem sLine_c {v v2 : Nat → Nat} (h : agC v v2) {pt pt2 : Nat → Int32} (hp : ∀ j, j < 5 → pt2 j = pt j) {L : Nat → List (Nat × Nat)} (hc : cOK v L) (p : Nat) : sLine v2 pt2 L p = sLine v pt L p := by
  have hc2 := hc
  obtain ⟨c1, c2, c3, c4, c5, c6⟩ := hc2
  unfold sLine findN
  rw [h 1 (by omega)]
  refine findF_c _ _ (fun i _ hi => ?_)
  unfold sLineOK
  rw [h (154 + 5 * i) (by omega), h (154 + 5 * i + 3) (by omega), h (154 + 5 * i + 4) (by omega)]
  have := (c5 i (by omega)).2.2.2
  rw [allN_c _ (fun j hj => tHold_c h hp hc (by omega))]
theorem tLay_c {v v2 : Nat → Nat} (h : agC v v2) {e : Nat} (he : e ≤ 350) : ∀ (ts : List (Nat × Nat)) (k : Nat), tLay v e ts k → tLay v2 e ts k
  | [], k, hl => hl
  | (s, n) :: xs, k, hl => by
    obtain ⟨h1, h2, h3, h4, h5⟩ := hl
    refine ⟨h1, h2, ?_, ?_, tLay_c h he xs _ h5⟩
    · rw [h _ (by omega)]; exact h3
    · intro j hj
      rw [h _ (by omega)]
      exact h4 j hj
theorem cOK_c {v v2 : Nat → Nat} (h : agC v v2) {L : Nat → List (Nat × Nat)} (hc : cOK v L) : cOK v2 L := by
  obtain ⟨c1, c2, c3, c4, c5, c6⟩ := hc
  have e1 := h 1 (by omega)
  have e2 := h 2 (by omega)
  have e3 := h 3 (by omega)
  refine ⟨by omega, by omega, by omega, ?_, ?_, ?_⟩
  · intro k hk
    rw [e3] at hk
    rw [h _ (by omega)]
    exact c4 k hk
  · intro l hl
    rw [e1] at hl
    rw [h (154 + 5 * l) (by omega), h (154 + 5 * l + 1) (by omega), h (154 + 5 * l + 2) (by omega), h (154 + 5 * l + 3) (by omega), h (154 + 5 * l + 4) (by omega), e2]
    exact c5 l hl
  · intro t ht
    rw [e2] at ht
    rw [h (274 + 3 * t + 1) (by omega), h (274 + 3 * t + 2) (by omega), e3]
    have := c6 t ht
    exact ⟨tLay_c h (by omega) _ _ this.1, this.2⟩
def ptC (v : Nat → Nat) (a b dy : Nat) : Nat → Int32 := ptOf v a b dy (hasI (nI (v (1864 + a))) (nI b)) (fun _ => 0)
/-- what is done: the world behind it; how many debts were paid -/
def sGoes (v : Nat → Nat) (L : Nat → List (Nat × Nat)) (a b p dy : Nat) : (Nat → Nat) × Nat :=
  if p = 4 then (sMeets v a b, 0) else
    let v1 := (sPays a b p (v 7) v 0).1
    let v2 := sAfter v1 (ptC v1 a b dy) L a b p dy
    (if 2 ≤ p then sMeets v2 a b else v2, (sPays a b p (v 7) v 0).2)
def sNotes (v : Nat → Nat) (L : Nat → List (Nat × Nat)) (a b p : Nat) : (Nat → Nat) × Nat :=
  let v1 := zu1 (zu1 (zu1 (zu1 (zu1 v (6680 + 4 * v 8) a) (6680 + 4 * v 8 + 1) b) (6680 + 4 * v 8 + 2) p) (6680 + 4 * v 8 + 3) (v 6)) 8 (v 8 + 1)
  let r := sGoes v1 L a b p (v 6)
  (zu1 r.1 9 (r.1 9 + r.2), r.2)
theorem sPays_7 {a b p : Nat} : ∀ (k : Nat) (v : Nat → Nat) (n : Nat), (sPays a b p k v n).1 7 ≤ v 7
  | 0, v, n => Nat.le_refl _
  | k + 1, v, n => by
    unfold sPays
    split
    · have := sPays_7 (a := a) (b := b) (p := p) k (sDrop v k) (n + 1)
      have h2 : sDrop v k 7 = v 7 - 1 := zu1_s _ _ _
      omega
    · exact sPays_7 k v n
theorem sPays_v {a b p B : Nat} : ∀ (k : Nat) (v : Nat → Nat) (n : Nat), (∀ i, v i < B) → ∀ i, (sPays a b p k v n).1 i < B
  | 0, v, n, h => h
  | k + 1, v, n, h => by
    unfold sPays
    split
    · refine sPays_v k _ _ ?_
      intro i
      unfold sDrop zu1 sShift
      split
      · have := h 7; omega
      · split <;> exact h _
    · exact sPays_v k v n h
def isH (v : Nat → Nat) (a : Int32) : Bool := zin a (v 0)
def are2 (v : Nat → Nat) (a b : Int32) : Bool := zin a (v 0) && zin b (v 0) && !decide (a = b)
theorem are2_of {v : Nat → Nat} {a b : Int32} (h : are2 v a b = true) : ∃ i j : Nat, i < v 0 ∧ j < v 0 ∧ ¬ i = j ∧ i < 2147483648 ∧ j < 2147483648 ∧ a = nI i ∧ b = nI j := by
  unfold are2 at h
  rw [Bool.and_eq_true, Bool.and_eq_true] at h
  obtain ⟨i, h1, h2, rfl⟩ := zin_of h.1.1
  obtain ⟨j, h3, h4, rfl⟩ := zin_of h.1.2
  refine ⟨i, j, h1, h3, ?_, h2, h4, rfl, rfl⟩
  intro e
  subst e
  have := h.2
  simp at this
section MG
variable {d : Nat} {z : ZH} {Q : ZQ} {v : Nat → Nat} {L : Nat → List (Nat × Nat)}
theorem zmin_nI {a b : Nat} (ha : a < 2147483648) (hb : b < 2147483648) : zmin (nI a) (nI b) = nI (min a b) := by
  unfold zmin
  by_cases h : b < a
  · rw [if_pos (nI_lt h ha), Nat.min_eq_right (by omega)]
  · rw [if_neg (nI_nlt (by omega) hb), Nat.min_eq_left (by omega)]
theorem m156 (hM : MS z) (hv : ∀ i, v i < 1073741824) (h7 : v 7 < 960) (hc : cOK v L) {a b p dy : Nat} (ha : a < 16) (hb : b < 16) (hp : p < 5) (hy : dy < 1000) (H : ∀ pt, Q (.inl (some (.int (nI (sGoes v L a b p dy).2)))) (sW (sIA z 142 pt) (sGoes v L a b p dy).1)) : ZC zG (d + 4) 156 [.ref 135, .int (nI a), .int (nI b), .int (nI p), .int (nI dy)] (sW z v) Q := by
  have h0 := hM
  unfold MS at h0
  by_cases h4 : p = 4
  · subst h4
    have H1 := H (zia z 142)
    rw [sIA_self] at H1
    unfold sGoes at H1
    rw [if_pos rfl] at H1
    simp (disch := first | omega | exact hM) only [e156, s156_0, s156_1, s156_2, s156_5, s156_6, s156_7, s156_8, s156_11, s156_12, s156_13, s156_14, s156_15, s156_16, s156_17, s156_20, s156_22, s156_23, s156_24, s156_25, s156_26, s156_27, s156_28, s156_29, s156_32, s156_34, s156_37, s156_39, s156_41, s156_42, s156_45, s156_46, s156_49, s156_52, s156_53, s156_55, s156_56, s156_57, s156_58, s156_59, s156_60, s156_62, s156_63, s156_64, s156_65, s156_67, s156_70, s156_73, s156_74, s156_75, s156_76, s156_78, s156_81, s156_83, s156_84, s156_87, s156_90, s156_91, s156_93, s156_94, s156_95, s156_96, s156_97, s156_98, s156_99, s156_102, s156_104, s156_107, s156_108, s156_109, s156_112, s156_113, s156_114, s156_115, s156_118, s156_120, zcs_0, zcs_1, zcs_2, zcs_3, zcs_4, zcs_5, zcs_6, zcs_7, znl_i, znl_r, znl_n, Bool.and_true, Bool.true_and, zk_v, zk_n, zk_x, zir_r, zir_n, zclr_i, zclr_r, zclr_n, zclr_d, zclr_l, true_and, and_true, and_self, if_true, if_false, reduceIte, nI_add, pk_mul, zin_ok, zx_nI, nI_lt2, nI_le2, nI_eq2, nI_l0, nI_g0, nI_q0, nI_p0, nI_n0, nI_m1, Nat.add_zero, Nat.zero_add, Nat.reduceAdd, Nat.reduceMul, true_or, or_true, znar_50, bI_0, bI_1, bI_z, bft, nI_z0, nI_z1, lgc_lt, lgc_gt, lgc_le, lgc_ge, lgc_eq, not_true_eq_false, not_false_eq_true, Bool.not_eq_true, Bool.not_eq_false, reduceCtorEq, MS_sW, CS_sW, sW_r, sW_n, sW_w, cls_sW, fi_sW, fr_sW, la_sW, ra_sW, len_sW, ls_sW, own_sW, n_sW, uc_sW, us_sW, sW_sfi, sW_sla, sW_sLA, sW_sls, sW_spay, sW_sia, sW_sIA, ne_eq, cls_sfi, fr_sfi, ia_sfi, la_sfi, ra_sfi, len_sfi, ls_sfi, own_sfi, n_sfi, uc_sfi, us_sfi, cls_sia, fi_sia, fr_sia, la_sia, ra_sia, len_sia, ls_sia, own_sia, n_sia, uc_sia, us_sia, cls_sIA, fi_sIA, fr_sIA, la_sIA, ra_sIA, len_sIA, ls_sIA, own_sIA, n_sIA, uc_sIA, us_sIA, cls_sla, fi_sla, fr_sla, ia_sla, ra_sla, len_sla, ls_sla, own_sla, n_sla, uc_sla, us_sla, cls_sLA, fi_sLA, fr_sLA, ia_sLA, ra_sLA, len_sLA, ls_sLA, own_sLA, n_sLA, uc_sLA, us_sLA, h0, m157]
    exact H1
  · have hg : sGoes v L a b p dy = (if 2 ≤ p then sMeets (sAfter (sPays a b p (v 7) v 0).1 (ptC (sPays a b p (v 7) v 0).1 a b dy) L a b p dy) a b else sAfter (sPays a b p (v 7) v 0).1 (ptC (sPays a b p (v 7) v 0).1 a b dy) L a b p dy, (sPays a b p (v 7) v 0).2) := if_neg h4
    rw [hg] at H
    dsimp only at H
    have hv1 := sPays_v (a := a) (b := b) (p := p) (v 7) v 0 hv
    have h71 := sPays_7 (a := a) (b := b) (p := p) (v 7) v 0
    have hag := agC_pays (a := a) (b := b) (p := p) (v 7) (n := 0) (agC_refl v)
    generalize hV : (sPays a b p (v 7) v 0).1 = v1 at H hv1 h71 hag
    have hc1 := cOK_c hag hc
    have hvb : ∀ i, v1 i < 2147483648 := fun i => by have := hv1 i; omega
    have hvv : ∀ i, v i < 2147483648 := fun i => by have := hv i; omega
    generalize hK : hasI (nI (v1 (1864 + a))) (nI b) = kn at H
    have hpt : ∀ j, j < 5 → ptOf v1 a b dy kn (zia z 142) j = ptC v1 a b dy j := by
      intro j hj
      unfold ptC ptOf ptA
      rw [hK]
      match j, hj with
      | 0, _ => rfl
      | 1, _ => rfl
      | 2, _ => rfl
      | 3, _ => rfl
      | 4, _ => rfl
    have hsl := sLine_c (agC_refl v1) hpt hc1 p
    have hs2 := (findF_le (sLineOK v1 (ptC v1 a b dy) L p) (v1 1) 0).2
    have m1 := fun Q => m161 (d := d) (z := z) (Q := Q) hM hvb (by omega) hc1 (a := a) (b := b) (p := p) (dy := dy) (kn := kn) ha hb (by omega) (ptOf v1 a b dy kn (zia z 142)) rfl
    rw [hsl] at m1
    have m2 := fun d Q => m158c (d := d) (z := z) (v := v) (Q := Q) hM hvv (by omega) (a := a) (b := b) (p := p) (by omega) (by omega) (by omega)
    rw [hV] at m2
    have H1 := H (ptOf v1 a b dy kn (zia z 142))
    have hr0 : ∀ f, zia (sIA z 142 f) 142 = f := fun f => by rw [ia_sIA, zu1_s]
    by_cases hn : sLine v1 (ptC v1 a b dy) L p = v1 1
    · have e2 : sAfter v1 (ptC v1 a b dy) L a b p dy = v1 := if_pos hn
      rw [e2] at H1
      simp only [hn, if_true] at m1
      by_cases h2 : p < 2
      · have h2' : ¬ 2 ≤ p := by omega
        rw [if_neg h2'] at H1
        simp (disch := first | omega | exact hM | exact hv _ | (simp only [MS_sW, MS_sfi, MS_sia, MS_sIA, MS_sla, MS_sLA, MS_sls]; exact hM)) only [e156, s156_0, s156_1, s156_2, s156_5, s156_6, s156_7, s156_8, s156_11, s156_12, s156_13, s156_14, s156_15, s156_16, s156_17, s156_20, s156_22, s156_23, s156_24, s156_25, s156_26, s156_27, s156_28, s156_29, s156_32, s156_34, s156_37, s156_39, s156_41, s156_42, s156_45, s156_46, s156_49, s156_52, s156_53, s156_55, s156_56, s156_57, s156_58, s156_59, s156_60, s156_62, s156_63, s156_64, s156_65, s156_67, s156_70, s156_73, s156_74, s156_75, s156_76, s156_78, s156_81, s156_83, s156_84, s156_87, s156_90, s156_91, s156_93, s156_94, s156_95, s156_96, s156_97, s156_98, s156_99, s156_102, s156_104, s156_107, s156_108, s156_109, s156_112, s156_113, s156_114, s156_115, s156_118, s156_120, zcs_0, zcs_1, zcs_2, zcs_3, zcs_4, zcs_5, zcs_6, zcs_7, znl_i, znl_r, znl_n, Bool.and_true, Bool.true_and, zk_v, zk_n, zk_x, zir_r, zir_n, zclr_i, zclr_r, zclr_n, zclr_d, zclr_l, true_and, and_true, and_self, if_true, if_false, reduceIte, nI_add, pk_mul, zin_ok, zx_nI, nI_lt2, nI_le2, nI_eq2, nI_l0, nI_g0, nI_q0, nI_p0, nI_n0, nI_m1, Nat.add_zero, Nat.zero_add, Nat.reduceAdd, Nat.reduceMul, true_or, or_true, znar_50, bI_0, bI_1, bI_z, bft, nI_z0, nI_z1, lgc_lt, lgc_gt, lgc_le, lgc_ge, lgc_eq, not_true_eq_false, not_false_eq_true, Bool.not_eq_true, Bool.not_eq_false, reduceCtorEq, MS_sW, CS_sW, sW_r, sW_n, sW_w, cls_sW, fi_sW, fr_sW, la_sW, ra_sW, len_sW, ls_sW, own_sW, n_sW, uc_sW, us_sW, sW_sfi, sW_sla, sW_sLA, sW_sls, sW_spay, sW_sia, sW_sIA, ne_eq, cls_sfi, fr_sfi, ia_sfi, la_sfi, ra_sfi, len_sfi, ls_sfi, own_sfi, n_sfi, uc_sfi, us_sfi, cls_sia, fi_sia, fr_sia, la_sia, ra_sia, len_sia, ls_sia, own_sia, n_sia, uc_sia, us_sia, cls_sIA, fi_sIA, fr_sIA, la_sIA, ra_sIA, len_sIA, ls_sIA, own_sIA, n_sIA, uc_sIA, us_sIA, cls_sla, fi_sla, fr_sla, ia_sla, ra_sla, len_sla, ls_sla, own_sla, n_sla, uc_sla, us_sla, cls_sLA, fi_sLA, fr_sLA, ia_sLA, ra_sLA, len_sLA, ls_sLA, own_sLA, n_sLA, uc_sLA, us_sLA, h0, h4, h2, m2, m148, hK, m1]
        exact H1
      · rw [if_pos (by omega)] at H1
        simp (disch := first | omega | exact hM | exact hv _ | (simp only [MS_sW, MS_sfi, MS_sia, MS_sIA, MS_sla, MS_sLA, MS_sls]; exact hM)) only [e156, s156_0, s156_1, s156_2, s156_5, s156_6, s156_7, s156_8, s156_11, s156_12, s156_13, s156_14, s156_15, s156_16, s156_17, s156_20, s156_22, s156_23, s156_24, s156_25, s156_26, s156_27, s156_28, s156_29, s156_32, s156_34, s156_37, s156_39, s156_41, s156_42, s156_45, s156_46, s156_49, s156_52, s156_53, s156_55, s156_56, s156_57, s156_58, s156_59, s156_60, s156_62, s156_63, s156_64, s156_65, s156_67, s156_70, s156_73, s156_74, s156_75, s156_76, s156_78, s156_81, s156_83, s156_84, s156_87, s156_90, s156_91, s156_93, s156_94, s156_95, s156_96, s156_97, s156_98, s156_99, s156_102, s156_104, s156_107, s156_108, s156_109, s156_112, s156_113, s156_114, s156_115, s156_118, s156_120, zcs_0, zcs_1, zcs_2, zcs_3, zcs_4, zcs_5, zcs_6, zcs_7, znl_i, znl_r, znl_n, Bool.and_true, Bool.true_and, zk_v, zk_n, zk_x, zir_r, zir_n, zclr_i, zclr_r, zclr_n, zclr_d, zclr_l, true_and, and_true, and_self, if_true, if_false, reduceIte, nI_add, pk_mul, zin_ok, zx_nI, nI_lt2, nI_le2, nI_eq2, nI_l0, nI_g0, nI_q0, nI_p0, nI_n0, nI_m1, Nat.add_zero, Nat.zero_add, Nat.reduceAdd, Nat.reduceMul, true_or, or_true, znar_50, bI_0, bI_1, bI_z, bft, nI_z0, nI_z1, lgc_lt, lgc_gt, lgc_le, lgc_ge, lgc_eq, not_true_eq_false, not_false_eq_true, Bool.not_eq_true, Bool.not_eq_false, reduceCtorEq, MS_sW, CS_sW, sW_r, sW_n, sW_w, cls_sW, fi_sW, fr_sW, la_sW, ra_sW, len_sW, ls_sW, own_sW, n_sW, uc_sW, us_sW, sW_sfi, sW_sla, sW_sLA, sW_sls, sW_spay, sW_sia, sW_sIA, ne_eq, cls_sfi, fr_sfi, ia_sfi, la_sfi, ra_sfi, len_sfi, ls_sfi, own_sfi, n_sfi, uc_sfi, us_sfi, cls_sia, fi_sia, fr_sia, la_sia, ra_sia, len_sia, ls_sia, own_sia, n_sia, uc_sia, us_sia, cls_sIA, fi_sIA, fr_sIA, la_sIA, ra_sIA, len_sIA, ls_sIA, own_sIA, n_sIA, uc_sIA, us_sIA, cls_sla, fi_sla, fr_sla, ia_sla, ra_sla, len_sla, ls_sla, own_sla, n_sla, uc_sla, us_sla, cls_sLA, fi_sLA, fr_sLA, ia_sLA, ra_sLA, len_sLA, ls_sLA, own_sLA, n_sLA, uc_sLA, us_sLA, h0, h4, h2, m2, m148, hK, m1, m157]
        exact H1
    · have hlt : sLine v1 (ptC v1 a b dy) L p < v1 1 := by
        have : sLine v1 (ptC v1 a b dy) L p ≤ 0 + v1 1 := hs2
        omega
      have hc24 : v1 1 ≤ 24 := hc1.1
      obtain ⟨g1, g2, g3, g4⟩ := hc1.2.2.2.2.1 _ hlt
      simp only [hn, if_false] at m1
      by_cases ho : sOwe v1 b a (v1 (154 + 5 * sLine v1 (ptC v1 a b dy) L p + 1)) = true
      · have e2 : sAfter v1 (ptC v1 a b dy) L a b p dy = v1 := by
          unfold sAfter
          rw [if_neg hn, if_pos ho]
        rw [e2] at H1
        generalize sLine v1 (ptC v1 a b dy) L p = l at m1 hlt ho g1 g2 g3 g4 hn
        by_cases h2 : p < 2
        · have h2' : ¬ 2 ≤ p := by omega
          rw [if_neg h2'] at H1
          simp (disch := first | omega | exact hM | exact hv _ | (simp only [MS_sW, MS_sfi, MS_sia, MS_sIA, MS_sla, MS_sLA, MS_sls]; exact hM)) only [e156, s156_0, s156_1, s156_2, s156_5, s156_6, s156_7, s156_8, s156_11, s156_12, s156_13, s156_14, s156_15, s156_16, s156_17, s156_20, s156_22, s156_23, s156_24, s156_25, s156_26, s156_27, s156_28, s156_29, s156_32, s156_34, s156_37, s156_39, s156_41, s156_42, s156_45, s156_46, s156_49, s156_52, s156_53, s156_55, s156_56, s156_57, s156_58, s156_59, s156_60, s156_62, s156_63, s156_64, s156_65, s156_67, s156_70, s156_73, s156_74, s156_75, s156_76, s156_78, s156_81, s156_83, s156_84, s156_87, s156_90, s156_91, s156_93, s156_94, s156_95, s156_96, s156_97, s156_98, s156_99, s156_102, s156_104, s156_107, s156_108, s156_109, s156_112, s156_113, s156_114, s156_115, s156_118, s156_120, zcs_0, zcs_1, zcs_2, zcs_3, zcs_4, zcs_5, zcs_6, zcs_7, znl_i, znl_r, znl_n, Bool.and_true, Bool.true_and, zk_v, zk_n, zk_x, zir_r, zir_n, zclr_i, zclr_r, zclr_n, zclr_d, zclr_l, true_and, and_true, and_self, if_true, if_false, reduceIte, nI_add, pk_mul, zin_ok, zx_nI, nI_lt2, nI_le2, nI_eq2, nI_l0, nI_g0, nI_q0, nI_p0, nI_n0, nI_m1, Nat.add_zero, Nat.zero_add, Nat.reduceAdd, Nat.reduceMul, true_or, or_true, znar_50, bI_0, bI_1, bI_z, bft, nI_z0, nI_z1, lgc_lt, lgc_gt, lgc_le, lgc_ge, lgc_eq, not_true_eq_false, not_false_eq_true, Bool.not_eq_true, Bool.not_eq_false, reduceCtorEq, MS_sW, CS_sW, sW_r, sW_n, sW_w, cls_sW, fi_sW, fr_sW, la_sW, ra_sW, len_sW, ls_sW, own_sW, n_sW, uc_sW, us_sW, sW_sfi, sW_sla, sW_sLA, sW_sls, sW_spay, sW_sia, sW_sIA, ne_eq, cls_sfi, fr_sfi, ia_sfi, la_sfi, ra_sfi, len_sfi, ls_sfi, own_sfi, n_sfi, uc_sfi, us_sfi, cls_sia, fi_sia, fr_sia, la_sia, ra_sia, len_sia, ls_sia, own_sia, n_sia, uc_sia, us_sia, cls_sIA, fi_sIA, fr_sIA, la_sIA, ra_sIA, len_sIA, ls_sIA, own_sIA, n_sIA, uc_sIA, us_sIA, cls_sla, fi_sla, fr_sla, ia_sla, ra_sla, len_sla, ls_sla, own_sla, n_sla, uc_sla, us_sla, cls_sLA, fi_sLA, fr_sLA, ia_sLA, ra_sLA, len_sLA, ls_sLA, own_sLA, n_sLA, uc_sLA, us_sLA, h0, h4, h2, m2, m148, hK, m1, m165, ho]
          exact H1
        · rw [if_pos (by omega)] at H1
          simp (disch := first | omega | exact hM | exact hv _ | (simp only [MS_sW, MS_sfi, MS_sia, MS_sIA, MS_sla, MS_sLA, MS_sls]; exact hM)) only [e156, s156_0, s156_1, s156_2, s156_5, s156_6, s156_7, s156_8, s156_11, s156_12, s156_13, s156_14, s156_15, s156_16, s156_17, s156_20, s156_22, s156_23, s156_24, s156_25, s156_26, s156_27, s156_28, s156_29, s156_32, s156_34, s156_37, s156_39, s156_41, s156_42, s156_45, s156_46, s156_49, s156_52, s156_53, s156_55, s156_56, s156_57, s156_58, s156_59, s156_60, s156_62, s156_63, s156_64, s156_65, s156_67, s156_70, s156_73, s156_74, s156_75, s156_76, s156_78, s156_81, s156_83, s156_84, s156_87, s156_90, s156_91, s156_93, s156_94, s156_95, s156_96, s156_97, s156_98, s156_99, s156_102, s156_104, s156_107, s156_108, s156_109, s156_112, s156_113, s156_114, s156_115, s156_118, s156_120, zcs_0, zcs_1, zcs_2, zcs_3, zcs_4, zcs_5, zcs_6, zcs_7, znl_i, znl_r, znl_n, Bool.and_true, Bool.true_and, zk_v, zk_n, zk_x, zir_r, zir_n, zclr_i, zclr_r, zclr_n, zclr_d, zclr_l, true_and, and_true, and_self, if_true, if_false, reduceIte, nI_add, pk_mul, zin_ok, zx_nI, nI_lt2, nI_le2, nI_eq2, nI_l0, nI_g0, nI_q0, nI_p0, nI_n0, nI_m1, Nat.add_zero, Nat.zero_add, Nat.reduceAdd, Nat.reduceMul, true_or, or_true, znar_50, bI_0, bI_1, bI_z, bft, nI_z0, nI_z1, lgc_lt, lgc_gt, lgc_le, lgc_ge, lgc_eq, not_true_eq_false, not_false_eq_true, Bool.not_eq_true, Bool.not_eq_false, reduceCtorEq, MS_sW, CS_sW, sW_r, sW_n, sW_w, cls_sW, fi_sW, fr_sW, la_sW, ra_sW, len_sW, ls_sW, own_sW, n_sW, uc_sW, us_sW, sW_sfi, sW_sla, sW_sLA, sW_sls, sW_spay, sW_sia, sW_sIA, ne_eq, cls_sfi, fr_sfi, ia_sfi, la_sfi, ra_sfi, len_sfi, ls_sfi, own_sfi, n_sfi, uc_sfi, us_sfi, cls_sia, fi_sia, fr_sia, la_sia, ra_sia, len_sia, ls_sia, own_sia, n_sia, uc_sia, us_sia, cls_sIA, fi_sIA, fr_sIA, la_sIA, ra_sIA, len_sIA, ls_sIA, own_sIA, n_sIA, uc_sIA, us_sIA, cls_sla, fi_sla, fr_sla, ia_sla, ra_sla, len_sla, ls_sla, own_sla, n_sla, uc_sla, us_sla, cls_sLA, fi_sLA, fr_sLA, ia_sLA, ra_sLA, len_sLA, ls_sLA, own_sLA, n_sLA, uc_sLA, us_sLA, h0, h4, h2, m2, m148, hK, m1, m157, m165, ho]
          exact H1
      · have hof := eq_false_of_ne_true ho
        have e2 : sAfter v1 (ptC v1 a b dy) L a b p dy = sComes v1 b a (v1 (154 + 5 * sLine v1 (ptC v1 a b dy) L p + 1)) (min 399 (dy + v1 (154 + 5 * sLine v1 (ptC v1 a b dy) L p + 2))) dy := by
          unfold sAfter
          rw [if_neg hn, if_neg ho]
        rw [e2] at H1
        generalize sLine v1 (ptC v1 a b dy) L p = l at H1 m1 hlt hof g1 g2 g3 g4 hn
        by_cases h2 : p < 2
        · have h2' : ¬ 2 ≤ p := by omega
          rw [if_neg h2'] at H1
          simp (disch := first | omega | exact hM | exact hv _ | (simp only [MS_sW, MS_sfi, MS_sia, MS_sIA, MS_sla, MS_sLA, MS_sls]; exact hM)) only [e156, s156_0, s156_1, s156_2, s156_5, s156_6, s156_7, s156_8, s156_11, s156_12, s156_13, s156_14, s156_15, s156_16, s156_17, s156_20, s156_22, s156_23, s156_24, s156_25, s156_26, s156_27, s156_28, s156_29, s156_32, s156_34, s156_37, s156_39, s156_41, s156_42, s156_45, s156_46, s156_49, s156_52, s156_53, s156_55, s156_56, s156_57, s156_58, s156_59, s156_60, s156_62, s156_63, s156_64, s156_65, s156_67, s156_70, s156_73, s156_74, s156_75, s156_76, s156_78, s156_81, s156_83, s156_84, s156_87, s156_90, s156_91, s156_93, s156_94, s156_95, s156_96, s156_97, s156_98, s156_99, s156_102, s156_104, s156_107, s156_108, s156_109, s156_112, s156_113, s156_114, s156_115, s156_118, s156_120, zcs_0, zcs_1, zcs_2, zcs_3, zcs_4, zcs_5, zcs_6, zcs_7, znl_i, znl_r, znl_n, Bool.and_true, Bool.true_and, zk_v, zk_n, zk_x, zir_r, zir_n, zclr_i, zclr_r, zclr_n, zclr_d, zclr_l, true_and, and_true, and_self, if_true, if_false, reduceIte, nI_add, pk_mul, zin_ok, zx_nI, nI_lt2, nI_le2, nI_eq2, nI_l0, nI_g0, nI_q0, nI_p0, nI_n0, nI_m1, Nat.add_zero, Nat.zero_add, Nat.reduceAdd, Nat.reduceMul, true_or, or_true, znar_50, bI_0, bI_1, bI_z, bft, nI_z0, nI_z1, lgc_lt, lgc_gt, lgc_le, lgc_ge, lgc_eq, not_true_eq_false, not_false_eq_true, Bool.not_eq_true, Bool.not_eq_false, reduceCtorEq, MS_sW, CS_sW, sW_r, sW_n, sW_w, cls_sW, fi_sW, fr_sW, la_sW, ra_sW, len_sW, ls_sW, own_sW, n_sW, uc_sW, us_sW, sW_sfi, sW_sla, sW_sLA, sW_sls, sW_spay, sW_sia, sW_sIA, ne_eq, cls_sfi, fr_sfi, ia_sfi, la_sfi, ra_sfi, len_sfi, ls_sfi, own_sfi, n_sfi, uc_sfi, us_sfi, cls_sia, fi_sia, fr_sia, la_sia, ra_sia, len_sia, ls_sia, own_sia, n_sia, uc_sia, us_sia, cls_sIA, fi_sIA, fr_sIA, la_sIA, ra_sIA, len_sIA, ls_sIA, own_sIA, n_sIA, uc_sIA, us_sIA, cls_sla, fi_sla, fr_sla, ia_sla, ra_sla, len_sla, ls_sla, own_sla, n_sla, uc_sla, us_sla, cls_sLA, fi_sLA, fr_sLA, ia_sLA, ra_sLA, len_sLA, ls_sLA, own_sLA, n_sLA, uc_sLA, us_sLA, h0, h4, h2, m2, m148, hK, m1, m165, m166, hof, zmin_nI]
          exact H1
        · rw [if_pos (by omega)] at H1
          simp (disch := first | omega | exact hM | exact hv _ | (simp only [MS_sW, MS_sfi, MS_sia, MS_sIA, MS_sla, MS_sLA, MS_sls]; exact hM)) only [e156, s156_0, s156_1, s156_2, s156_5, s156_6, s156_7, s156_8, s156_11, s156_12, s156_13, s156_14, s156_15, s156_16, s156_17, s156_20, s156_22, s156_23, s156_24, s156_25, s156_26, s156_27, s156_28, s156_29, s156_32, s156_34, s156_37, s156_39, s156_41, s156_42, s156_45, s156_46, s156_49, s156_52, s156_53, s156_55, s156_56, s156_57, s156_58, s156_59, s156_60, s156_62, s156_63, s156_64, s156_65, s156_67, s156_70, s156_73, s156_74, s156_75, s156_76, s156_78, s156_81, s156_83, s156_84, s156_87, s156_90, s156_91, s156_93, s156_94, s156_95, s156_96, s156_97, s156_98, s156_99, s156_102, s156_104, s156_107, s156_108, s156_109, s156_112, s156_113, s156_114, s156_115, s156_118, s156_120, zcs_0, zcs_1, zcs_2, zcs_3, zcs_4, zcs_5, zcs_6, zcs_7, znl_i, znl_r, znl_n, Bool.and_true, Bool.true_and, zk_v, zk_n, zk_x, zir_r, zir_n, zclr_i, zclr_r, zclr_n, zclr_d, zclr_l, true_and, and_true, and_self, if_true, if_false, reduceIte, nI_add, pk_mul, zin_ok, zx_nI, nI_lt2, nI_le2, nI_eq2, nI_l0, nI_g0, nI_q0, nI_p0, nI_n0, nI_m1, Nat.add_zero, Nat.zero_add, Nat.reduceAdd, Nat.reduceMul, true_or, or_true, znar_50, bI_0, bI_1, bI_z, bft, nI_z0, nI_z1, lgc_lt, lgc_gt, lgc_le, lgc_ge, lgc_eq, not_true_eq_false, not_false_eq_true, Bool.not_eq_true, Bool.not_eq_false, reduceCtorEq, MS_sW, CS_sW, sW_r, sW_n, sW_w, cls_sW, fi_sW, fr_sW, la_sW, ra_sW, len_sW, ls_sW, own_sW, n_sW, uc_sW, us_sW, sW_sfi, sW_sla, sW_sLA, sW_sls, sW_spay, sW_sia, sW_sIA, ne_eq, cls_sfi, fr_sfi, ia_sfi, la_sfi, ra_sfi, len_sfi, ls_sfi, own_sfi, n_sfi, uc_sfi, us_sfi, cls_sia, fi_sia, fr_sia, la_sia, ra_sia, len_sia, ls_sia, own_sia, n_sia, uc_sia, us_sia, cls_sIA, fi_sIA, fr_sIA, la_sIA, ra_sIA, len_sIA, ls_sIA, own_sIA, n_sIA, uc_sIA, us_sIA, cls_sla, fi_sla, fr_sla, ia_sla, ra_sla, len_sla, ls_sla, own_sla, n_sla, uc_sla, us_sla, cls_sLA, fi_sLA, fr_sLA, ia_sLA, ra_sLA, len_sLA, ls_sLA, own_sLA, n_sLA, uc_sLA, us_sLA, h0, h4, h2, m2, m148, hK, m1, m157, m165, m166, hof, zmin_nI]
          exact H1
theorem m155 (hM : MS z) (hv : ∀ i, v i < 1000000000) (h7 : v 7 < 960) (h8 : v 8 < 600) (h6 : v 6 < 1000) (hc : cOK v L) {a b p : Nat} (ha : a < 16) (hb : b < 16) (hp : p < 5) (H : ∀ pt, Q (.inl (some (.int (nI (sNotes v L a b p).2)))) (sW (sIA z 142 pt) (sNotes v L a b p).1)) : ZC zG (d + 5) 155 [.ref 135, .int (nI a), .int (nI b), .int (nI p)] (sW z v) Q := by
  have h0 := hM
  unfold MS at h0
  have n1 : ∀ (f : Nat → Nat) (k x : Nat), 6680 ≤ k → zu1 f k x 8 = f 8 := fun f k x hk => zu1_n f k x (by omega)
  have n2 : ∀ (f : Nat → Nat) (k x : Nat), 6680 ≤ k → zu1 f k x 6 = f 6 := fun f k x hk => zu1_n f k x (by omega)
  have n3 : ∀ (f : Nat → Nat) (x : Nat), zu1 f 8 x 6 = f 6 := fun f x => zu1_n f 8 x (by omega)
  simp (disch := first | omega | exact hM | exact hv _ | (simp only [MS_sW, MS_sfi, MS_sia, MS_sIA, MS_sla, MS_sLA, MS_sls]; exact hM)) only [s155_0, s155_3, s155_4, s155_5, s155_8, s155_10, s155_11, s155_12, s155_13, s155_15, s155_16, s155_19, s155_21, s155_22, s155_23, s155_24, s155_27, s155_29, s155_30, s155_31, s155_32, s155_33, s155_34, s155_37, s155_39, s155_40, s155_41, s155_42, s155_43, s155_44, s155_47, s155_49, s155_50, s155_51, s155_52, s155_55, s155_56, s155_57, s155_60, s155_62, s155_63, s155_64, s155_65, s155_66, s155_67, s155_68, s155_69, s155_70, s155_71, s155_72, e155, zcs_0, zcs_1, zcs_2, zcs_3, zcs_4, zcs_5, zcs_6, zcs_7, znl_i, znl_r, znl_n, Bool.and_true, Bool.true_and, zk_v, zk_n, zk_x, zir_r, zir_n, zclr_i, zclr_r, zclr_n, zclr_d, zclr_l, true_and, and_true, and_self, if_true, if_false, reduceIte, nI_add, pk_mul, zin_ok, zx_nI, nI_lt2, nI_le2, nI_eq2, nI_l0, nI_g0, nI_q0, nI_p0, nI_n0, nI_m1, Nat.add_zero, Nat.zero_add, Nat.reduceAdd, Nat.reduceMul, true_or, or_true, znar_50, bI_0, bI_1, bI_z, bft, nI_z0, nI_z1, lgc_lt, lgc_gt, lgc_le, lgc_ge, lgc_eq, not_true_eq_false, not_false_eq_true, Bool.not_eq_true, Bool.not_eq_false, reduceCtorEq, MS_sW, CS_sW, sW_r, sW_n, sW_w, cls_sW, fi_sW, fr_sW, la_sW, ra_sW, len_sW, ls_sW, own_sW, n_sW, uc_sW, us_sW, sW_sfi, sW_sla, sW_sLA, sW_sls, sW_spay, sW_sia, sW_sIA, ne_eq, cls_sfi, fr_sfi, ia_sfi, la_sfi, ra_sfi, len_sfi, ls_sfi, own_sfi, n_sfi, uc_sfi, us_sfi, cls_sia, fi_sia, fr_sia, la_sia, ra_sia, len_sia, ls_sia, own_sia, n_sia, uc_sia, us_sia, cls_sIA, fi_sIA, fr_sIA, la_sIA, ra_sIA, len_sIA, ls_sIA, own_sIA, n_sIA, uc_sIA, us_sIA, cls_sla, fi_sla, fr_sla, ia_sla, ra_sla, len_sla, ls_sla, own_sla, n_sla, uc_sla, us_sla, cls_sLA, fi_sLA, fr_sLA, ia_sLA, ra_sLA, len_sLA, ls_sLA, own_sLA, n_sLA, uc_sLA, us_sLA, h0, m141, n1, n2, n3]
  rw [s155_75]
  refine ⟨by rw [cls_sW]; exact h0.1, zcs_0, ?_⟩
  have ag : agC v (zu1 (zu1 (zu1 (zu1 (zu1 v (6680 + 4 * v 8) a) (6680 + 4 * v 8 + 1) b) (6680 + 4 * v 8 + 2) p) (6680 + 4 * v 8 + 3) (v 6)) 8 (v 8 + 1)) := by
    refine agC_zu (agC_zu (agC_zu (agC_zu (agC_zu (agC_refl v) ?_) ?_) ?_) ?_) ?_ <;> omega
  have hN : sNotes v L a b p = (zu1 (sGoes (zu1 (zu1 (zu1 (zu1 (zu1 v (6680 + 4 * v 8) a) (6680 + 4 * v 8 + 1) b) (6680 + 4 * v 8 + 2) p) (6680 + 4 * v 8 + 3) (v 6)) 8 (v 8 + 1)) L a b p (v 6)).1 9 ((sGoes (zu1 (zu1 (zu1 (zu1 (zu1 v (6680 + 4 * v 8) a) (6680 + 4 * v 8 + 1) b) (6680 + 4 * v 8 + 2) p) (6680 + 4 * v 8 + 3) (v 6)) 8 (v 8 + 1)) L a b p (v 6)).1 9 + (sGoes (zu1 (zu1 (zu1 (zu1 (zu1 v (6680 + 4 * v 8) a) (6680 + 4 * v 8 + 1) b) (6680 + 4 * v 8 + 2) p) (6680 + 4 * v 8 + 3) (v 6)) 8 (v 8 + 1)) L a b p (v 6)).2), (sGoes (zu1 (zu1 (zu1 (zu1 (zu1 v (6680 + 4 * v 8) a) (6680 + 4 * v 8 + 1) b) (6680 + 4 * v 8 + 2) p) (6680 + 4 * v 8 + 3) (v 6)) 8 (v 8 + 1)) L a b p (v 6)).2) := rfl
  rw [hN] at H
  dsimp only at H
  have hw : ∀ i, zu1 (zu1 (zu1 (zu1 (zu1 v (6680 + 4 * v 8) a) (6680 + 4 * v 8 + 1) b) (6680 + 4 * v 8 + 2) p) (6680 + 4 * v 8 + 3) (v 6)) 8 (v 8 + 1) i < 1073741824 := by
    intro i
    unfold zu1
    have := hv i
    have := hv 6
    have := hv 8
    repeat' split
    all_goals omega
  have h7w : zu1 (zu1 (zu1 (zu1 (zu1 v (6680 + 4 * v 8) a) (6680 + 4 * v 8 + 1) b) (6680 + 4 * v 8 + 2) p) (6680 + 4 * v 8 + 3) (v 6)) 8 (v 8 + 1) 7 < 960 := by
    rw [zu1_n _ _ _ (by omega), zu1_n _ _ _ (by omega), zu1_n _ _ _ (by omega), zu1_n _ _ _ (by omega), zu1_n _ _ _ (by omega)]
    exact h7
  generalize zu1 (zu1 (zu1 (zu1 (zu1 v (6680 + 4 * v 8) a) (6680 + 4 * v 8 + 1) b) (6680 + 4 * v 8 + 2) p) (6680 + 4 * v 8 + 3) (v 6)) 8 (v 8 + 1) = v1 at ag H hw h7w ⊢
  refine m156 (L := L) hM hw h7w (cOK_c ag hc) ha hb hp h6 (fun pt => ?_)
  simp (disch := first | omega | exact hM | exact hv _ | (simp only [MS_sW, MS_sfi, MS_sia, MS_sIA, MS_sla, MS_sLA, MS_sls]; exact hM)) only [s155_78, s155_80, s155_81, s155_84, s155_86, s155_87, s155_88, s155_90, s155_91, s155_92, s155_94, zcs_0, zcs_1, zcs_2, zcs_3, zcs_4, zcs_5, zcs_6, zcs_7, znl_i, znl_r, znl_n, Bool.and_true, Bool.true_and, zk_v, zk_n, zk_x, zir_r, zir_n, zclr_i, zclr_r, zclr_n, zclr_d, zclr_l, true_and, and_true, and_self, if_true, if_false, reduceIte, nI_add, pk_mul, zin_ok, zx_nI, nI_lt2, nI_le2, nI_eq2, nI_l0, nI_g0, nI_q0, nI_p0, nI_n0, nI_m1, Nat.add_zero, Nat.zero_add, Nat.reduceAdd, Nat.reduceMul, true_or, or_true, znar_50, bI_0, bI_1, bI_z, bft, nI_z0, nI_z1, lgc_lt, lgc_gt, lgc_le, lgc_ge, lgc_eq, not_true_eq_false, not_false_eq_true, Bool.not_eq_true, Bool.not_eq_false, reduceCtorEq, MS_sW, CS_sW, sW_r, sW_n, sW_w, cls_sW, fi_sW, fr_sW, la_sW, ra_sW, len_sW, ls_sW, own_sW, n_sW, uc_sW, us_sW, sW_sfi, sW_sla, sW_sLA, sW_sls, sW_spay, sW_sia, sW_sIA, ne_eq, cls_sfi, fr_sfi, ia_sfi, la_sfi, ra_sfi, len_sfi, ls_sfi, own_sfi, n_sfi, uc_sfi, us_sfi, cls_sia, fi_sia, fr_sia, la_sia, ra_sia, len_sia, ls_sia, own_sia, n_sia, uc_sia, us_sia, cls_sIA, fi_sIA, fr_sIA, la_sIA, ra_sIA, len_sIA, ls_sIA, own_sIA, n_sIA, uc_sIA, us_sIA, cls_sla, fi_sla, fr_sla, ia_sla, ra_sla, len_sla, ls_sla, own_sla, n_sla, uc_sla, us_sla, cls_sLA, fi_sLA, fr_sLA, ia_sLA, ra_sLA, len_sLA, ls_sLA, own_sLA, n_sLA, uc_sLA, us_sLA, h0]
  exact H pt
/-- a paying: its answer, the world behind it -/
def rDoes (v : Nat → Nat) (L : Nat → List (Nat × Nat)) (a b p : Int32) : Int32 × (Nat → Nat) :=
  if (are2 v a b && zin p 4) = true then (if ¬ sBars v (zx a) (zx b) p = 0 then (-5, v) else if v 8 = 600 then (-3, v) else (nI (sNotes v L (zx a) (zx b) (zx p)).2, (sNotes v L (zx a) (zx b) (zx p)).1)) else (-2, v)
def rMeet (v : Nat → Nat) (L : Nat → List (Nat × Nat)) (a b : Int32) : Int32 × (Nat → Nat) :=
  if are2 v a b = true then (if v 8 = 600 then (-3, v) else (bI (!hasI (nI (v (1864 + zx a))) b), (sNotes v L (zx a) (zx b) 4).1)) else (-2, v)
theorem m154 (hM : MS z) (hv : ∀ i, v i < 1000000000) (h16 : v 0 ≤ 16) (h7 : v 7 < 960) (h8 : v 8 ≤ 600) (h6 : v 6 < 1000) (hc : cOK v L) {a b p : Int32} (H : ∀ pt, Q (.inl (some (.int (rDoes v L a b p).1))) (sW (sIA z 142 pt) (rDoes v L a b p).2)) : ZC zG (d + 6) 154 [.ref 135, .int a, .int b, .int p] (sW z v) Q := by
  have h0 := hM
  unfold MS at h0
  have hvv : ∀ i, v i < 2147483648 := fun i => by have := hv i; omega
  have hv3 : ∀ i, v i < 1073741824 := fun i => by have := hv i; omega
  have H0 := H (zia z 142)
  rw [sIA_self] at H0
  simp (disch := first | omega | exact hM | exact hvv _) only [s154_0, s154_1, s154_2, s154_3, s154_6, s154_9, s154_10, s154_13, e154, zcs_0, zcs_1, zcs_2, zcs_3, zcs_4, zcs_5, zcs_6, zcs_7, znl_i, znl_r, znl_n, Bool.and_true, Bool.true_and, zk_v, zk_n, zk_x, zir_r, zir_n, zclr_i, zclr_r, zclr_n, zclr_d, zclr_l, true_and, and_true, and_self, if_true, if_false, reduceIte, nI_add, pk_mul, zin_ok, zx_nI, nI_lt2, nI_le2, nI_eq2, nI_l0, nI_g0, nI_q0, nI_p0, nI_n0, nI_m1, Nat.add_zero, Nat.zero_add, Nat.reduceAdd, Nat.reduceMul, true_or, or_true, znar_50, bI_0, bI_1, bI_z, bft, nI_z0, nI_z1, lgc_lt, lgc_gt, lgc_le, lgc_ge, lgc_eq, not_true_eq_false, not_false_eq_true, Bool.not_eq_true, Bool.not_eq_false, reduceCtorEq, MS_sW, CS_sW, sW_r, sW_n, sW_w, cls_sW, fi_sW, fr_sW, la_sW, ra_sW, len_sW, ls_sW, own_sW, n_sW, uc_sW, us_sW, sW_sfi, sW_sla, sW_sLA, sW_sls, sW_spay, sW_sia, sW_sIA, ne_eq, cls_sfi, fr_sfi, ia_sfi, la_sfi, ra_sfi, len_sfi, ls_sfi, own_sfi, n_sfi, uc_sfi, us_sfi, cls_sia, fi_sia, fr_sia, la_sia, ra_sia, len_sia, ls_sia, own_sia, n_sia, uc_sia, us_sia, cls_sIA, fi_sIA, fr_sIA, la_sIA, ra_sIA, len_sIA, ls_sIA, own_sIA, n_sIA, uc_sIA, us_sIA, cls_sla, fi_sla, fr_sla, ia_sla, ra_sla, len_sla, ls_sla, own_sla, n_sla, uc_sla, us_sla, cls_sLA, fi_sLA, fr_sLA, ia_sLA, ra_sLA, len_sLA, ls_sLA, own_sLA, n_sLA, uc_sLA, us_sLA, h0, m143, m145]
  have hA : (zin a (v 0) && zin b (v 0) && !decide (a = b)) = are2 v a b := rfl
  rw [hA]
  by_cases h : are2 v a b = true
  · obtain ⟨i, j, h1, h2, h3, h4, h5, rfl, rfl⟩ := are2_of h
    cases hp : zin p 4 with
    | false =>
      have e : rDoes v L (nI i) (nI j) p = (-2, v) := by unfold rDoes; simp [hp]
      rw [e] at H0
      simp (disch := first | omega | exact hM | exact hvv _) only [s154_16, s154_18, h, zcs_0, zcs_1, zcs_2, zcs_3, zcs_4, zcs_5, zcs_6, zcs_7, znl_i, znl_r, znl_n, Bool.and_true, Bool.true_and, zk_v, zk_n, zk_x, zir_r, zir_n, zclr_i, zclr_r, zclr_n, zclr_d, zclr_l, true_and, and_true, and_self, if_true, if_false, reduceIte, nI_add, pk_mul, zin_ok, zx_nI, nI_lt2, nI_le2, nI_eq2, nI_l0, nI_g0, nI_q0, nI_p0, nI_n0, nI_m1, Nat.add_zero, Nat.zero_add, Nat.reduceAdd, Nat.reduceMul, true_or, or_true, znar_50, bI_0, bI_1, bI_z, bft, nI_z0, nI_z1, lgc_lt, lgc_gt, lgc_le, lgc_ge, lgc_eq, not_true_eq_false, not_false_eq_true, Bool.not_eq_true, Bool.not_eq_false, reduceCtorEq]
      exact H0
    | true =>
      obtain ⟨k, hk, hk2, rfl⟩ := zin_of hp
      have e : rDoes v L (nI i) (nI j) (nI k) = if ¬ sBars v i j (nI k) = 0 then (-5, v) else if v 8 = 600 then (-3, v) else (nI (sNotes v L i j k).2, (sNotes v L i j k).1) := by
        unfold rDoes
        rw [h, hp, zx_nI h4, zx_nI h5, zx_nI hk2]
        rfl
      have m := fun d Q => m146 (d := d) (z := z) (Q := Q) hM hv3 (a := i) (b := j) (p := nI k) (by omega) (by omega)
      by_cases hb : sBars v i j (nI k) = 0
      · rw [if_neg (by simp [hb])] at e
        by_cases h600 : v 8 = 600
        · rw [if_pos h600] at e
          rw [e] at H0
          simp (disch := first | omega | exact hM | exact hvv _) only [s154_19, s154_20, s154_21, s154_22, s154_23, s154_26, s154_29, s154_31, s154_32, s154_33, s154_36, s154_38, s154_39, s154_42, s154_45, s154_47, h, zcs_0, zcs_1, zcs_2, zcs_3, zcs_4, zcs_5, zcs_6, zcs_7, znl_i, znl_r, znl_n, Bool.and_true, Bool.true_and, zk_v, zk_n, zk_x, zir_r, zir_n, zclr_i, zclr_r, zclr_n, zclr_d, zclr_l, true_and, and_true, and_self, if_true, if_false, reduceIte, nI_add, pk_mul, zin_ok, zx_nI, nI_lt2, nI_le2, nI_eq2, nI_l0, nI_g0, nI_q0, nI_p0, nI_n0, nI_m1, Nat.add_zero, Nat.zero_add, Nat.reduceAdd, Nat.reduceMul, true_or, or_true, znar_50, bI_0, bI_1, bI_z, bft, nI_z0, nI_z1, lgc_lt, lgc_gt, lgc_le, lgc_ge, lgc_eq, not_true_eq_false, not_false_eq_true, Bool.not_eq_true, Bool.not_eq_false, reduceCtorEq, MS_sW, CS_sW, sW_r, sW_n, sW_w, cls_sW, fi_sW, fr_sW, la_sW, ra_sW, len_sW, ls_sW, own_sW, n_sW, uc_sW, us_sW, sW_sfi, sW_sla, sW_sLA, sW_sls, sW_spay, sW_sia, sW_sIA, ne_eq, cls_sfi, fr_sfi, ia_sfi, la_sfi, ra_sfi, len_sfi, ls_sfi, own_sfi, n_sfi, uc_sfi, us_sfi, cls_sia, fi_sia, fr_sia, la_sia, ra_sia, len_sia, ls_sia, own_sia, n_sia, uc_sia, us_sia, cls_sIA, fi_sIA, fr_sIA, la_sIA, ra_sIA, len_sIA, ls_sIA, own_sIA, n_sIA, uc_sIA, us_sIA, cls_sla, fi_sla, fr_sla, ia_sla, ra_sla, len_sla, ls_sla, own_sla, n_sla, uc_sla, us_sla, cls_sLA, fi_sLA, fr_sLA, ia_sLA, ra_sLA, len_sLA, ls_sLA, own_sLA, n_sLA, uc_sLA, us_sLA, h0, m, hb, h600]
          exact H0
        · rw [if_neg h600] at e
          rw [e] at H
          simp (disch := first | omega | exact hM | exact hvv _) only [s154_19, s154_20, s154_21, s154_22, s154_23, s154_26, s154_29, s154_31, s154_32, s154_33, s154_36, s154_38, s154_39, s154_42, s154_45, s154_47, s154_48, s154_49, s154_50, s154_51, h, zcs_0, zcs_1, zcs_2, zcs_3, zcs_4, zcs_5, zcs_6, zcs_7, znl_i, znl_r, znl_n, Bool.and_true, Bool.true_and, zk_v, zk_n, zk_x, zir_r, zir_n, zclr_i, zclr_r, zclr_n, zclr_d, zclr_l, true_and, and_true, and_self, if_true, if_false, reduceIte, nI_add, pk_mul, zin_ok, zx_nI, nI_lt2, nI_le2, nI_eq2, nI_l0, nI_g0, nI_q0, nI_p0, nI_n0, nI_m1, Nat.add_zero, Nat.zero_add, Nat.reduceAdd, Nat.reduceMul, true_or, or_true, znar_50, bI_0, bI_1, bI_z, bft, nI_z0, nI_z1, lgc_lt, lgc_gt, lgc_le, lgc_ge, lgc_eq, not_true_eq_false, not_false_eq_true, Bool.not_eq_true, Bool.not_eq_false, reduceCtorEq, MS_sW, CS_sW, sW_r, sW_n, sW_w, cls_sW, fi_sW, fr_sW, la_sW, ra_sW, len_sW, ls_sW, own_sW, n_sW, uc_sW, us_sW, sW_sfi, sW_sla, sW_sLA, sW_sls, sW_spay, sW_sia, sW_sIA, ne_eq, cls_sfi, fr_sfi, ia_sfi, la_sfi, ra_sfi, len_sfi, ls_sfi, own_sfi, n_sfi, uc_sfi, us_sfi, cls_sia, fi_sia, fr_sia, la_sia, ra_sia, len_sia, ls_sia, own_sia, n_sia, uc_sia, us_sia, cls_sIA, fi_sIA, fr_sIA, la_sIA, ra_sIA, len_sIA, ls_sIA, own_sIA, n_sIA, uc_sIA, us_sIA, cls_sla, fi_sla, fr_sla, ia_sla, ra_sla, len_sla, ls_sla, own_sla, n_sla, uc_sla, us_sla, cls_sLA, fi_sLA, fr_sLA, ia_sLA, ra_sLA, len_sLA, ls_sLA, own_sLA, n_sLA, uc_sLA, us_sLA, h0, m, hb, h600]
          rw [s154_52]
          refine ⟨by rw [cls_sW]; exact h0.1, zcs_0, ?_⟩
          refine m155 (L := L) hM hv h7 (by omega) h6 hc (by omega) (by omega) (by omega) (fun pt => ?_)
          simp (disch := first | omega | exact hM | exact hvv _) only [s154_55, zk_v]
          exact H pt
      · rw [if_pos hb] at e
        rw [e] at H0
        simp (disch := first | omega | exact hM | exact hvv _) only [s154_19, s154_20, s154_21, s154_22, s154_23, s154_26, s154_29, s154_31, h, zcs_0, zcs_1, zcs_2, zcs_3, zcs_4, zcs_5, zcs_6, zcs_7, znl_i, znl_r, znl_n, Bool.and_true, Bool.true_and, zk_v, zk_n, zk_x, zir_r, zir_n, zclr_i, zclr_r, zclr_n, zclr_d, zclr_l, true_and, and_true, and_self, if_true, if_false, reduceIte, nI_add, pk_mul, zin_ok, zx_nI, nI_lt2, nI_le2, nI_eq2, nI_l0, nI_g0, nI_q0, nI_p0, nI_n0, nI_m1, Nat.add_zero, Nat.zero_add, Nat.reduceAdd, Nat.reduceMul, true_or, or_true, znar_50, bI_0, bI_1, bI_z, bft, nI_z0, nI_z1, lgc_lt, lgc_gt, lgc_le, lgc_ge, lgc_eq, not_true_eq_false, not_false_eq_true, Bool.not_eq_true, Bool.not_eq_false, reduceCtorEq, MS_sW, CS_sW, sW_r, sW_n, sW_w, cls_sW, fi_sW, fr_sW, la_sW, ra_sW, len_sW, ls_sW, own_sW, n_sW, uc_sW, us_sW, sW_sfi, sW_sla, sW_sLA, sW_sls, sW_spay, sW_sia, sW_sIA, ne_eq, cls_sfi, fr_sfi, ia_sfi, la_sfi, ra_sfi, len_sfi, ls_sfi, own_sfi, n_sfi, uc_sfi, us_sfi, cls_sia, fi_sia, fr_sia, la_sia, ra_sia, len_sia, ls_sia, own_sia, n_sia, uc_sia, us_sia, cls_sIA, fi_sIA, fr_sIA, la_sIA, ra_sIA, len_sIA, ls_sIA, own_sIA, n_sIA, uc_sIA, us_sIA, cls_sla, fi_sla, fr_sla, ia_sla, ra_sla, len_sla, ls_sla, own_sla, n_sla, uc_sla, us_sla, cls_sLA, fi_sLA, fr_sLA, ia_sLA, ra_sLA, len_sLA, ls_sLA, own_sLA, n_sLA, uc_sLA, us_sLA, h0, m, hb]
        exact H0
  · have hf := eq_false_of_ne_true h
    have e : rDoes v L a b p = (-2, v) := by unfold rDoes; simp [hf]
    rw [e] at H0
    simp (disch := first | omega | exact hM | exact hvv _) only [s154_16, s154_18, hf, zcs_0, zcs_1, zcs_2, zcs_3, zcs_4, zcs_5, zcs_6, zcs_7, znl_i, znl_r, znl_n, Bool.and_true, Bool.true_and, zk_v, zk_n, zk_x, zir_r, zir_n, zclr_i, zclr_r, zclr_n, zclr_d, zclr_l, true_and, and_true, and_self, if_true, if_false, reduceIte, nI_add, pk_mul, zin_ok, zx_nI, nI_lt2, nI_le2, nI_eq2, nI_l0, nI_g0, nI_q0, nI_p0, nI_n0, nI_m1, Nat.add_zero, Nat.zero_add, Nat.reduceAdd, Nat.reduceMul, true_or, or_true, znar_50, bI_0, bI_1, bI_z, bft, nI_z0, nI_z1, lgc_lt, lgc_gt, lgc_le, lgc_ge, lgc_eq, not_true_eq_false, not_false_eq_true, Bool.not_eq_true, Bool.not_eq_false, reduceCtorEq]
    exact H0
theorem m167 (hM : MS z) (hv : ∀ i, v i < 1000000000) (h16 : v 0 ≤ 16) (h7 : v 7 < 960) (h8 : v 8 ≤ 600) (h6 : v 6 < 1000) (hc : cOK v L) {a b : Int32} (H : ∀ pt, Q (.inl (some (.int (rMeet v L a b).1))) (sW (sIA z 142 pt) (rMeet v L a b).2)) : ZC zG (d + 6) 167 [.ref 135, .int a, .int b] (sW z v) Q := by
  have h0 := hM
  unfold MS at h0
  have hvv : ∀ i, v i < 2147483648 := fun i => by have := hv i; omega
  have H0 := H (zia z 142)
  rw [sIA_self] at H0
  simp (disch := first | omega | exact hM | exact hvv _) only [s167_0, s167_1, s167_2, s167_3, e167, zcs_0, zcs_1, zcs_2, zcs_3, zcs_4, zcs_5, zcs_6, zcs_7, znl_i, znl_r, znl_n, Bool.and_true, Bool.true_and, zk_v, zk_n, zk_x, zir_r, zir_n, zclr_i, zclr_r, zclr_n, zclr_d, zclr_l, true_and, and_true, and_self, if_true, if_false, reduceIte, nI_add, pk_mul, zin_ok, zx_nI, nI_lt2, nI_le2, nI_eq2, nI_l0, nI_g0, nI_q0, nI_p0, nI_n0, nI_m1, Nat.add_zero, Nat.zero_add, Nat.reduceAdd, Nat.reduceMul, true_or, or_true, znar_50, bI_0, bI_1, bI_z, bft, nI_z0, nI_z1, lgc_lt, lgc_gt, lgc_le, lgc_ge, lgc_eq, not_true_eq_false, not_false_eq_true, Bool.not_eq_true, Bool.not_eq_false, reduceCtorEq, MS_sW, CS_sW, sW_r, sW_n, sW_w, cls_sW, fi_sW, fr_sW, la_sW, ra_sW, len_sW, ls_sW, own_sW, n_sW, uc_sW, us_sW, sW_sfi, sW_sla, sW_sLA, sW_sls, sW_spay, sW_sia, sW_sIA, ne_eq, cls_sfi, fr_sfi, ia_sfi, la_sfi, ra_sfi, len_sfi, ls_sfi, own_sfi, n_sfi, uc_sfi, us_sfi, cls_sia, fi_sia, fr_sia, la_sia, ra_sia, len_sia, ls_sia, own_sia, n_sia, uc_sia, us_sia, cls_sIA, fi_sIA, fr_sIA, la_sIA, ra_sIA, len_sIA, ls_sIA, own_sIA, n_sIA, uc_sIA, us_sIA, cls_sla, fi_sla, fr_sla, ia_sla, ra_sla, len_sla, ls_sla, own_sla, n_sla, uc_sla, us_sla, cls_sLA, fi_sLA, fr_sLA, ia_sLA, ra_sLA, len_sLA, ls_sLA, own_sLA, n_sLA, uc_sLA, us_sLA, h0, m143]
  have hA : (zin a (v 0) && zin b (v 0) && !decide (a = b)) = are2 v a b := rfl
  rw [hA]
  by_cases h : are2 v a b = true
  · obtain ⟨i, j, h1, h2, h3, h4, h5, rfl, rfl⟩ := are2_of h
    have e : rMeet v L (nI i) (nI j) = if v 8 = 600 then (-3, v) else (bI (!hasI (nI (v (1864 + i))) (nI j)), (sNotes v L i j 4).1) := by
      unfold rMeet
      rw [h, zx_nI h4, zx_nI h5]
      rfl
    by_cases h600 : v 8 = 600
    · rw [if_pos h600] at e
      rw [e] at H0
      simp (disch := first | omega | exact hM | exact hvv _) only [s167_6, s167_9, s167_11, s167_12, s167_13, s167_16, s167_18, s167_19, s167_22, s167_25, s167_27, h, zcs_0, zcs_1, zcs_2, zcs_3, zcs_4, zcs_5, zcs_6, zcs_7, znl_i, znl_r, znl_n, Bool.and_true, Bool.true_and, zk_v, zk_n, zk_x, zir_r, zir_n, zclr_i, zclr_r, zclr_n, zclr_d, zclr_l, true_and, and_true, and_self, if_true, if_false, reduceIte, nI_add, pk_mul, zin_ok, zx_nI, nI_lt2, nI_le2, nI_eq2, nI_l0, nI_g0, nI_q0, nI_p0, nI_n0, nI_m1, Nat.add_zero, Nat.zero_add, Nat.reduceAdd, Nat.reduceMul, true_or, or_true, znar_50, bI_0, bI_1, bI_z, bft, nI_z0, nI_z1, lgc_lt, lgc_gt, lgc_le, lgc_ge, lgc_eq, not_true_eq_false, not_false_eq_true, Bool.not_eq_true, Bool.not_eq_false, reduceCtorEq, MS_sW, CS_sW, sW_r, sW_n, sW_w, cls_sW, fi_sW, fr_sW, la_sW, ra_sW, len_sW, ls_sW, own_sW, n_sW, uc_sW, us_sW, sW_sfi, sW_sla, sW_sLA, sW_sls, sW_spay, sW_sia, sW_sIA, ne_eq, cls_sfi, fr_sfi, ia_sfi, la_sfi, ra_sfi, len_sfi, ls_sfi, own_sfi, n_sfi, uc_sfi, us_sfi, cls_sia, fi_sia, fr_sia, la_sia, ra_sia, len_sia, ls_sia, own_sia, n_sia, uc_sia, us_sia, cls_sIA, fi_sIA, fr_sIA, la_sIA, ra_sIA, len_sIA, ls_sIA, own_sIA, n_sIA, uc_sIA, us_sIA, cls_sla, fi_sla, fr_sla, ia_sla, ra_sla, len_sla, ls_sla, own_sla, n_sla, uc_sla, us_sla, cls_sLA, fi_sLA, fr_sLA, ia_sLA, ra_sLA, len_sLA, ls_sLA, own_sLA, n_sLA, uc_sLA, us_sLA, h0, h600]
      exact H0
    · rw [if_neg h600] at e
      rw [e] at H
      have m := fun d Q => m148 (d := d) (z := z) (v := v) (Q := Q) hM (a := i) (b := nI j) (by omega)
      cases hk : hasI (nI (v (1864 + i))) (nI j) <;>
      · rw [hk] at H
        simp (disch := first | omega | exact hM | exact hvv _) only [s167_6, s167_9, s167_11, s167_12, s167_13, s167_16, s167_18, s167_19, s167_22, s167_25, s167_27, s167_28, s167_29, s167_30, s167_31, s167_34, s167_37, s167_38, s167_41, s167_42, s167_43, s167_44, s167_45, s167_46, h, zcs_0, zcs_1, zcs_2, zcs_3, zcs_4, zcs_5, zcs_6, zcs_7, znl_i, znl_r, znl_n, Bool.and_true, Bool.true_and, zk_v, zk_n, zk_x, zir_r, zir_n, zclr_i, zclr_r, zclr_n, zclr_d, zclr_l, true_and, and_true, and_self, if_true, if_false, reduceIte, nI_add, pk_mul, zin_ok, zx_nI, nI_lt2, nI_le2, nI_eq2, nI_l0, nI_g0, nI_q0, nI_p0, nI_n0, nI_m1, Nat.add_zero, Nat.zero_add, Nat.reduceAdd, Nat.reduceMul, true_or, or_true, znar_50, bI_0, bI_1, bI_z, bft, nI_z0, nI_z1, lgc_lt, lgc_gt, lgc_le, lgc_ge, lgc_eq, not_true_eq_false, not_false_eq_true, Bool.not_eq_true, Bool.not_eq_false, reduceCtorEq, MS_sW, CS_sW, sW_r, sW_n, sW_w, cls_sW, fi_sW, fr_sW, la_sW, ra_sW, len_sW, ls_sW, own_sW, n_sW, uc_sW, us_sW, sW_sfi, sW_sla, sW_sLA, sW_sls, sW_spay, sW_sia, sW_sIA, ne_eq, cls_sfi, fr_sfi, ia_sfi, la_sfi, ra_sfi, len_sfi, ls_sfi, own_sfi, n_sfi, uc_sfi, us_sfi, cls_sia, fi_sia, fr_sia, la_sia, ra_sia, len_sia, ls_sia, own_sia, n_sia, uc_sia, us_sia, cls_sIA, fi_sIA, fr_sIA, la_sIA, ra_sIA, len_sIA, ls_sIA, own_sIA, n_sIA, uc_sIA, us_sIA, cls_sla, fi_sla, fr_sla, ia_sla, ra_sla, len_sla, ls_sla, own_sla, n_sla, uc_sla, us_sla, cls_sLA, fi_sLA, fr_sLA, ia_sLA, ra_sLA, len_sLA, ls_sLA, own_sLA, n_sLA, uc_sLA, us_sLA, h0, m, h600, hk]
        rw [s167_47]
        refine ⟨by rw [cls_sW]; exact h0.1, zcs_0, ?_⟩
        refine m155 (L := L) hM hv h7 (by omega) h6 hc (by omega) (by omega) (by omega) (fun pt => ?_)
        simp (disch := first | omega | exact hM | exact hvv _) only [s167_50, s167_51, s167_52, zk_v]
        exact H pt
  · have hf := eq_false_of_ne_true h
    have e : rMeet v L a b = (-2, v) := by unfold rMeet; simp [hf]
    rw [e] at H0
    simp (disch := first | omega | exact hM | exact hvv _) only [s167_6, s167_9, s167_11, hf, zcs_0, zcs_1, zcs_2, zcs_3, zcs_4, zcs_5, zcs_6, zcs_7, znl_i, znl_r, znl_n, Bool.and_true, Bool.true_and, zk_v, zk_n, zk_x, zir_r, zir_n, zclr_i, zclr_r, zclr_n, zclr_d, zclr_l, true_and, and_true, and_self, if_true, if_false, reduceIte, nI_add, pk_mul, zin_ok, zx_nI, nI_lt2, nI_le2, nI_eq2, nI_l0, nI_g0, nI_q0, nI_p0, nI_n0, nI_m1, Nat.add_zero, Nat.zero_add, Nat.reduceAdd, Nat.reduceMul, true_or, or_true, znar_50, bI_0, bI_1, bI_z, bft, nI_z0, nI_z1, lgc_lt, lgc_gt, lgc_le, lgc_ge, lgc_eq, not_true_eq_false, not_false_eq_true, Bool.not_eq_true, Bool.not_eq_false, reduceCtorEq]
    exact H0
end MG
