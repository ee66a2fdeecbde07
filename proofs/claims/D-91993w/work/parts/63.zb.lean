set_option maxRecDepth 100000
/-! the component: tests and rules, their answers -/
def smJ (v : Nat → Nat) : List (Nat × Nat) → Prop
  | [] => False
  | [_] => True
  | x :: y :: xs => (v (814 + 3 * x.1) = 1 ∨ v (814 + 3 * x.1) = 2) ∧ smJ v (y :: xs)
theorem zSm.smJ {B : Nat → Prop} {z : ZH} {v : Nat → Nat} : ∀ {ts : List (Nat × Nat)} {r : Nat}, zSm B z v ts r → smJ v ts
  | [], _, h => h
  | [_], _, _ => trivial
  | x :: y :: xs, _, h => by
    obtain ⟨a1, a2, a3, a4, u, w, ⟨b1, b2⟩, c1, c2⟩ := h
    exact ⟨a3, zSm.smJ b2⟩
theorem prod_lok {v : Nat → Nat} {pt : Nat → Int32} (hS : ptS v pt) {s : Nat} : ∀ {n : Nat} {t : Int64}, s + n < v 3 → prodV v pt s n = some t → lok t = true
  | 0, t, hs, h => by
    cases h
    exact hS s hs
  | n + 1, t, hs, h => by
    unfold prodV at h
    split at h
    · cases h
    · split at h
      · rename_i hl
        cases h
        exact hl
      · cases h
theorem tFold_sum {v : Nat → Nat} {pt : Nat → Int32} (hS : ptS v pt) {j0 : Nat} : ∀ (a : List (Nat × Nat)) (st : Int64 × Int64), smJ v a → hdJ v j0 a → (∀ x, x ∈ a → x.1 + x.2 < v 3) → (j0 = 0 ∧ st.2 = lN 0 ∨ j0 = 4) → tFold v pt a.reverse st = match sumR v pt a with | none => none | some y => some (if j0 = 4 then st.2 else st.1, y)
  | [], st, h, _, _, _ => h.elim
  | [x], st, _, hj, hm, hc => by
    obtain ⟨x', xs', e1, e2⟩ := hj
    have e3 : x' = x := by
      simp at e1
      exact e1.1.symm
    subst e3
    have hx := hm x' List.mem_cons_self
    show (match tStep v pt x' st with | none => none | some st' => some st') = _
    unfold tStep sumR
    cases hp : prodV v pt x'.1 x'.2 with
    | none => rfl
    | some t =>
      have hl := prod_lok hS hx hp
      dsimp only
      rw [e2]
      rcases hc with ⟨rfl, h0⟩ | rfl
      · simp [h0, lN0_add, hl]
      · simp [lN0_add, hl]
  | x :: y :: xs, st, h, hj, hm, hc => by
    obtain ⟨h1, h2⟩ := h
    have hj2 : hdJ v j0 (y :: xs) := by
      obtain ⟨x', xs', e1, e2⟩ := hj
      rw [List.reverse_cons] at e1
      cases e : (y :: xs).reverse with
      | nil => simp at e
      | cons w ws =>
        rw [e] at e1
        simp at e1
        exact ⟨w, ws, e, by rw [e1.1]; exact e2⟩
    have ih := tFold_sum hS (y :: xs) st h2 hj2 (fun q hq => hm q (List.mem_cons_of_mem _ hq)) hc
    rw [List.reverse_cons, tFold_app, ih]
    conv => rhs; unfold sumR
    cases hs : sumR v pt (y :: xs) with
    | none => rfl
    | some p =>
      dsimp only
      unfold tStep
      cases hp : prodV v pt x.1 x.2 with
      | none => rfl
      | some q =>
        dsimp only
        rcases h1 with h1 | h1
        · simp only [h1]
          by_cases hl : lok (p + q) = true
          · simp [hl]
          · simp [hl]
        · simp only [h1]
          by_cases hl : lok (p - q) = true
          · simp [hl]
          · simp [hl]
theorem tVal_sum {v : Nat → Nat} {pt : Nat → Int32} (hS : ptS v pt) {a b : List (Nat × Nat)} (ha : smJ v a) (hb : smJ v b) (ja : hdJ v 0 a) (jb : hdJ v 4 b) (hm : ∀ x, x ∈ a ∨ x ∈ b → x.1 + x.2 < v 3) (g : Nat) : tVal v pt (a.reverse ++ b.reverse) g = match sumR v pt a, sumR v pt b with | some x, some y => tCmp g (x, y) | _, _ => false := by
  have app : ∀ (xs ys : List (Nat × Nat)) (st : Int64 × Int64), tFold v pt (xs ++ ys) st = match tFold v pt xs st with | none => none | some st' => tFold v pt ys st' := by
    intro xs
    induction xs with
    | nil => intro ys st; rfl
    | cons x xs ih =>
      intro ys st
      simp only [List.cons_append, tFold]
      cases tStep v pt x st with
      | none => rfl
      | some st' => exact ih ys st'
  unfold tVal
  rw [app, tFold_sum hS a _ ha ja (fun x hx => hm x (Or.inl hx)) (Or.inl ⟨rfl, rfl⟩)]
  cases sumR v pt a with
  | none => rfl
  | some x =>
    dsimp only
    rw [tFold_sum hS b _ hb jb (fun x hx => hm x (Or.inr hx)) (Or.inr rfl)]
    cases sumR v pt b with
    | none => rfl
    | some y => rfl
section CR
variable {d : Nat} {B : Nat → Prop} {z : ZH} {Q : ZQ} {v : Nat → Nat} {ak : Nat}
theorem smJ_ne {a : List (Nat × Nat)} (h : smJ v a) : a ≠ [] := by
  intro e
  subst e
  exact h
theorem c244 (hk : zcls z ak = 4) (hd : 1000 ≤ d) {ts : List (Nat × Nat)} {t r : Nat} (hS : ptS v (zfi z ak)) (h3 : v 3 ≤ 350) (hm : ∀ x, x ∈ ts → x.1 + x.2 < v 3) (hl : ts.length ≤ 350) (h : zTs B z v ts t r) (hr : ¬ r = ak) {x0 : Int32} (H : ∀ f : Bool, Q (.inl (some (.int (bI (tVal v (zfi z ak) ts (v (274 + 3 * t))))))) (sfi z ak 5 (bI f))) : ZC zG d 244 [.ref r, .ref ak] (sfi z ak 5 x0) Q := by
  obtain ⟨_, a2, a3, a4, p, q, a, b, ⟨b1, b2⟩, ⟨c1, c2⟩, rfl, ja, jb⟩ := h
  have hma : ∀ x, x ∈ a → x.2 ≤ 350 := fun x hx => by
    have := hm x (List.mem_append_left _ (List.mem_reverse.mpr hx))
    omega
  have hmb : ∀ x, x ∈ b → x.2 ≤ 350 := fun x hx => by
    have := hm x (List.mem_append_right _ (List.mem_reverse.mpr hx))
    omega
  have hlen : a.length ≤ 350 ∧ b.length ≤ 350 := by
    simp only [List.length_append, List.length_reverse] at hl
    omega
  obtain ⟨k1, u1, u2, u3⟩ := cOf_sum hk (N := 350) hma b2
  obtain ⟨k2, w1, w2, w3⟩ := cOf_sum hk (N := 350) hmb c2
  obtain ⟨d, rfl⟩ : ∃ d', d = d' + 1 := ⟨d - 1, by omega⟩
  have s1 := fun ls st Q f => s244_10 (d := d) (z := sfi z ak 5 (bI f)) (Q := Q) (ls := ls) (st := st) (w0 := ak) (r := p) (k1 := k1) (by rw [cls_sfi]; exact u1) u2
  have s2 := fun ls st Q f => s244_19 (d := d) (z := sfi z ak 5 (bI f)) (Q := Q) (ls := ls) (st := st) (w0 := ak) (r := q) (k1 := k2) (by rw [cls_sfi]; exact w1) w2
  have u4 := fun Q f => u3 d Q f (by omega)
  have w4 := fun Q f => w3 d Q f (by omega)
  have e0 : sfi (sfi z ak 5 x0) ak 5 (nI 0) = sfi z ak 5 (bI false) := sfi_sfi z ak 5 x0 (nI 0)
  have ht := tVal_sum hS b2.smJ c2.smJ ja jb (fun x hx => by
    rcases hx with hx | hx
    · exact hm x (List.mem_append_left _ (List.mem_reverse.mpr hx))
    · exact hm x (List.mem_append_right _ (List.mem_reverse.mpr hx))) (v (274 + 3 * t))
  rw [ht] at H
  obtain ⟨f1, f2⟩ := cSm_v (v := v) (zfi z ak) a false (smJ_ne b2.smJ)
  have f3 := cSm_v (v := v) (zfi z ak) b (cSm v (zfi z ak) a false).2 (smJ_ne c2.smJ)
  have H1 := H (cSm v (zfi z ak) b (cSm v (zfi z ak) a false).2).2
  generalize hA : cSm v (zfi z ak) a false = A at f1 f2 f3 H1
  generalize hB : cSm v (zfi z ak) b A.2 = C at f3 H1
  have main : ZC zG (d + 1) 244 [.ref r, .ref ak] (sfi z ak 5 x0) Q = Q (.inl (some (.int (bI (!C.2 && tCmp (v (274 + 3 * t)) (A.1, C.1)))))) (sfi z ak 5 (bI C.2)) := by
    simp (disch := first | omega | assumption) only [e244, s244_0, s244_1, s244_2, s244_5, s244_6, s244_9, s244_13, s244_14, s244_15, s244_18, s244_22, s244_24, s244_25, s244_28, s244_31, s244_32, s244_35, s244_38, s244_39, s244_41, s244_42, s244_45, s244_48, s244_49, s244_52, s244_53, s244_56, s244_57, s244_59, s244_60, s244_63, s244_66, s244_67, s244_69, s244_70, s244_73, s244_74, s244_77, s244_78, e0, s1, s2, u4, w4, hA, hB, zcs_0, zcs_1, zcs_2, zcs_3, zcs_4, zcs_5, zcs_6, zcs_7, znl_i, znl_r, znl_n, Bool.and_true, Bool.true_and, zk_v, zk_n, zk_x, zir_r, zir_n, zclr_i, zclr_r, zclr_n, zclr_d, zclr_l, true_and, and_true, and_self, if_true, if_false, reduceIte, nI_add, pk_mul, zin_ok, zx_nI, nI_lt2, nI_le2, nI_eq2, nI_l0, nI_g0, nI_q0, nI_p0, nI_n0, nI_m1, Nat.add_zero, Nat.zero_add, Nat.reduceAdd, Nat.reduceMul, true_or, or_true, znar_50, bI_0, bI_1, bI_z, bft, nI_z0, nI_z1, lgc_lt, lgc_gt, lgc_le, lgc_ge, lgc_eq, not_true_eq_false, not_false_eq_true, Bool.not_eq_true, Bool.not_eq_false, reduceCtorEq, cls_sfi, fr_sfi, fi_sfi, zu2_s, zu2_n, a2, a4, b1, c1, hk]
    unfold tCmp
    cases C.2
    · by_cases g0 : v (274 + 3 * t) = 0
      · by_cases c : C.1 < A.1
        · have c5 : ¬ A.1 ≤ C.1 := Int64.not_le.mpr c
          simp [g0, c, c5, bI, nI_one, nI_0]
        · have c5 : A.1 ≤ C.1 := Int64.not_lt.mp c
          simp [g0, c, c5, bI, nI_one, nI_0]
      · by_cases g1 : v (274 + 3 * t) = 1
        · by_cases c : A.1 < C.1
          · have c5 : ¬ C.1 ≤ A.1 := Int64.not_le.mpr c
            simp [g1, c, c5, bI, nI_one, nI_0]
          · have c5 : C.1 ≤ A.1 := Int64.not_lt.mp c
            simp [g1, c, c5, bI, nI_one, nI_0]
        · by_cases c : A.1 = C.1
          · simp [g0, g1, c, bI, nI_one, nI_0]
          · simp [g0, g1, c, bI, nI_one, nI_0]
    · simp [bI, nI_one, nI_0]
  rw [main]
  have ev : (!C.2 && tCmp (v (274 + 3 * t)) (A.1, C.1)) = (match sumR v (zfi z ak) a, sumR v (zfi z ak) b with | some x, some y => tCmp (v (274 + 3 * t)) (x, y) | _, _ => false) := by
    cases sa : sumR v (zfi z ak) a with
    | none =>
      rw [sa] at f1
      simp at f1
      rw [f1] at f3
      simp at f3
      simp [f3]
    | some x =>
      rw [sa] at f1
      simp at f1
      cases sb : sumR v (zfi z ak) b with
      | none =>
        rw [sb] at f3
        simp at f3
        simp [f3]
      | some y =>
        rw [sb, f1] at f3
        simp at f3
        have e1 := f2 x sa rfl
        have e2 := f3.2 
        simp [f3.1, e1, f3.2]
  rw [ev]
  exact H1
/-- all int fields of an object at once -/
def sFI (z : ZH) (r : Nat) (f : Nat → Int32) : ZH := zmk (zcls z) (zu1 (zfi z) r f) (zfr z) (zia z) (zla z) (zra z) (zlen z) (zls z) (zown z) (zn z) (zuc z) (zus z)
theorem cls_sFI (z : ZH) (r : Nat) (f : Nat → Int32) : zcls (sFI z r f) = zcls z := rfl
theorem fr_sFI (z : ZH) (r : Nat) (f : Nat → Int32) : zfr (sFI z r f) = zfr z := rfl
theorem ia_sFI (z : ZH) (r : Nat) (f : Nat → Int32) : zia (sFI z r f) = zia z := rfl
theorem la_sFI (z : ZH) (r : Nat) (f : Nat → Int32) : zla (sFI z r f) = zla z := rfl
theorem ra_sFI (z : ZH) (r : Nat) (f : Nat → Int32) : zra (sFI z r f) = zra z := rfl
theorem len_sFI (z : ZH) (r : Nat) (f : Nat → Int32) : zlen (sFI z r f) = zlen z := rfl
theorem ls_sFI (z : ZH) (r : Nat) (f : Nat → Int32) : zls (sFI z r f) = zls z := rfl
theorem own_sFI (z : ZH) (r : Nat) (f : Nat → Int32) : zown (sFI z r f) = zown z := rfl
theorem n_sFI (z : ZH) (r : Nat) (f : Nat → Int32) : zn (sFI z r f) = zn z := rfl
theorem uc_sFI (z : ZH) (r : Nat) (f : Nat → Int32) : zuc (sFI z r f) = zuc z := rfl
theorem us_sFI (z : ZH) (r : Nat) (f : Nat → Int32) : zus (sFI z r f) = zus z := rfl
theorem fi_sFI (z : ZH) (r : Nat) (f : Nat → Int32) : zfi (sFI z r f) = zu1 (zfi z) r f := rfl
theorem sFI_sfi (z : ZH) (r : Nat) (f : Nat → Int32) (k : Nat) (x : Int32) : sfi (sFI z r f) r k x = sFI z r (zu1 f k x) := by
  unfold sFI sfi zmk
  simp only [zcls, zfi, zfr, zia, zla, zra, zlen, zls, zown, zn, zuc, zus, Prod.mk.injEq, true_and, and_true]
  funext q j
  unfold zu2 zu1
  by_cases hq : q = r
  · subst hq
    by_cases hj : j = k
    · subst hj; simp
    · simp [hj]
  · simp [hq]
theorem sFI_self (z : ZH) (r : Nat) : sFI z r (zfi z r) = z := by
  unfold sFI zmk
  have : zu1 (zfi z) r (zfi z r) = zfi z := by
    funext q
    unfold zu1
    by_cases hq : q = r
    · subst hq; rw [if_pos rfl]
    · rw [if_neg hq]
  rw [this]
  rfl
theorem sFI_sFI (z : ZH) (r : Nat) (f g : Nat → Int32) : sFI (sFI z r f) r g = sFI z r g := by
  unfold sFI zmk
  simp only [zcls, zfi, zfr, zia, zla, zra, zlen, zls, zown, zn, zuc, zus, Prod.mk.injEq, true_and, and_true]
  funext q
  unfold zu1
  by_cases hq : q = r
  · simp [hq]
  · simp [hq]
theorem zSt_sFI {z0 : ZH} {r : Nat} {f : Nat → Int32} (h : zSt B z0 z) (hr : ¬ B r) : zSt B z0 (sFI z r f) := by
  intro q hq
  obtain ⟨a1, a2, a3, a4, a5, a6⟩ := h q hq
  have hne : ¬ q = r := fun e => hr (e ▸ hq)
  refine ⟨a1, ?_, a3, a4, a5, a6⟩
  rw [fi_sFI, ← a2]
  exact zu1_n _ _ _ hne
variable {L : Nat → List (Nat × Nat)}
/-- a rule's answer -/
theorem c235 (hk : zcls z ak = 4) (hB : ¬ B ak) (hd : 1001 ≤ d) (hS : ptS v (zfi z ak)) (hv : ∀ i, v i < 2147483648) (hc : cOK v L) (hL : ∀ t, t < v 2 → (L t).length ≤ 350) {l r p : Nat} (hl : l < v 1) (hp : p < 2147483648) (h : zRl B z v L l r) {x0 : Int32} (H : ∀ x, Q (.inl (some (.int (bI (sLineOK v (zfi z ak) L p l))))) (sfi z ak 5 x)) : ZC zG d 235 [.ref r, .int (nI p), .ref ak] (sfi z ak 5 x0) Q := by
  obtain ⟨a1, a2, a3, a4, a5, tl, ta, ⟨b1, b2, b3, b4⟩, c⟩ := h
  obtain ⟨c1, c2, c3, c4, c5, c6⟩ := hc
  obtain ⟨c51, c52, c53, c54⟩ := c5 l hl
  have hr : ¬ r = ak := fun e => hB (e ▸ a1)
  obtain ⟨d, rfl⟩ : ∃ d', d = d' + 1 := ⟨d - 1, by omega⟩
  by_cases hp1 : v (154 + 5 * l) = p
  · have hOK : sLineOK v (zfi z ak) L p l = allN (fun j => tHold v (zfi z ak) L (v (154 + 5 * l + 3) + j)) (v (154 + 5 * l + 4)) := by
      unfold sLineOK
      rw [decide_eq_true hp1, Bool.true_and]
    rw [hOK] at H
    have key : ∀ m k x, k + m = v (154 + 5 * l + 4) → ZW zG (d + 1) 235 17 [.ref r, .int (nI p), .ref ak, .int (bI (allN (fun j => tHold v (zfi z ak) L (v (154 + 5 * l + 3) + j)) k)), .int (nI k)] [] (sfi z ak 5 x) Q := by
      intro m
      induction m with
      | zero =>
        intro k x hkm
        have e : k = v (154 + 5 * l + 4) := by omega
        subst e
        have H1 := H x
        rw [s235_17]
        simp (disch := first | omega | assumption | exact hv _) only [s235_0, s235_1, s235_4, s235_5, s235_8, s235_9, s235_12, s235_13, s235_14, s235_15, s235_19, s235_20, s235_23, s235_28, s235_31, s235_32, s235_35, s235_36, s235_39, s235_41, s235_46, s235_49, s235_50, s235_53, s235_54, s235_57, s235_60, s235_61, zcs_0, zcs_1, zcs_2, zcs_3, zcs_4, zcs_5, zcs_6, zcs_7, znl_i, znl_r, znl_n, Bool.and_true, Bool.true_and, zk_v, zk_n, zk_x, zir_r, zir_n, zclr_i, zclr_r, zclr_n, zclr_d, zclr_l, true_and, and_true, and_self, if_true, if_false, reduceIte, nI_add, pk_mul, zin_ok, zx_nI, nI_lt2, nI_le2, nI_eq2, nI_l0, nI_g0, nI_q0, nI_p0, nI_n0, nI_m1, Nat.add_zero, Nat.zero_add, Nat.reduceAdd, Nat.reduceMul, true_or, or_true, znar_50, bI_0, bI_1, bI_z, bft, nI_z0, nI_z1, lgc_lt, lgc_gt, lgc_le, lgc_ge, lgc_eq, not_true_eq_false, not_false_eq_true, Bool.not_eq_true, Bool.not_eq_false, reduceCtorEq, cls_sfi, fr_sfi, ls_sfi, a2, b1, b3, b4, Nat.le_refl]
        exact H1
      | succ m ih =>
        intro k x hkm
        have h1 : ¬ v (154 + 5 * l + 4) ≤ k := by omega
        obtain ⟨d1, d2⟩ := c k (by omega)
        obtain ⟨e1, e2⟩ := c6 (v (154 + 5 * l + 3) + k) (by omega)
        have hcls : zcls z (ta k) = 20 := d2.2.1
        have hta : ¬ ta k = ak := fun e => hB (e ▸ d2.1)
        rw [s235_17]
        cases hA : allN (fun j => tHold v (zfi z ak) L (v (154 + 5 * l + 3) + j)) k with
        | false =>
          have hF := allN_f (show k ≤ v (154 + 5 * l + 4) by omega) hA
          have H1 := H x
          rw [hF] at H1
          simp (disch := first | omega | assumption | exact hv _) only [s235_0, s235_1, s235_4, s235_5, s235_8, s235_9, s235_12, s235_13, s235_14, s235_15, s235_19, s235_20, s235_23, s235_28, s235_31, s235_32, s235_35, s235_36, s235_39, s235_41, s235_46, s235_49, s235_50, s235_53, s235_54, s235_57, s235_60, s235_61, zcs_0, zcs_1, zcs_2, zcs_3, zcs_4, zcs_5, zcs_6, zcs_7, znl_i, znl_r, znl_n, Bool.and_true, Bool.true_and, zk_v, zk_n, zk_x, zir_r, zir_n, zclr_i, zclr_r, zclr_n, zclr_d, zclr_l, true_and, and_true, and_self, if_true, if_false, reduceIte, nI_add, pk_mul, zin_ok, zx_nI, nI_lt2, nI_le2, nI_eq2, nI_l0, nI_g0, nI_q0, nI_p0, nI_n0, nI_m1, Nat.add_zero, Nat.zero_add, Nat.reduceAdd, Nat.reduceMul, true_or, or_true, znar_50, bI_0, bI_1, bI_z, bft, nI_z0, nI_z1, lgc_lt, lgc_gt, lgc_le, lgc_ge, lgc_eq, not_true_eq_false, not_false_eq_true, Bool.not_eq_true, Bool.not_eq_false, reduceCtorEq, cls_sfi, fr_sfi, ls_sfi, a2, b1, b3, b4, h1]
          exact H1
        | true =>
          simp (disch := first | omega | assumption | exact hv _) only [s235_0, s235_1, s235_4, s235_5, s235_8, s235_9, s235_12, s235_13, s235_14, s235_15, s235_19, s235_20, s235_23, s235_28, s235_31, s235_32, s235_35, s235_36, s235_39, s235_41, s235_46, s235_49, s235_53, s235_54, s235_57, s235_60, s235_61, zcs_0, zcs_1, zcs_2, zcs_3, zcs_4, zcs_5, zcs_6, zcs_7, znl_i, znl_r, znl_n, Bool.and_true, Bool.true_and, zk_v, zk_n, zk_x, zir_r, zir_n, zclr_i, zclr_r, zclr_n, zclr_d, zclr_l, true_and, and_true, and_self, if_true, if_false, reduceIte, nI_add, pk_mul, zin_ok, zx_nI, nI_lt2, nI_le2, nI_eq2, nI_l0, nI_g0, nI_q0, nI_p0, nI_n0, nI_m1, Nat.add_zero, Nat.zero_add, Nat.reduceAdd, Nat.reduceMul, true_or, or_true, znar_50, bI_0, bI_1, bI_z, bft, nI_z0, nI_z1, lgc_lt, lgc_gt, lgc_le, lgc_ge, lgc_eq, not_true_eq_false, not_false_eq_true, Bool.not_eq_true, Bool.not_eq_false, reduceCtorEq, cls_sfi, fr_sfi, ls_sfi, a2, b1, b3, b4, h1, d1, hcls]
          rw [s235_50]
          refine ⟨by rw [cls_sfi]; exact hcls, rfl, ?_⟩
          refine c244 (v := v) hk (by omega) hS c3 (fun x hx => ?_) (hL _ (by omega)) d2 hta (fun f => ?_)
          · have := tLay_mem _ _ e1 x hx
            omega
          · simp (disch := first | omega | assumption | exact hv _) only [s235_53, s235_54, s235_57, zcs_0, zcs_1, zcs_2, zcs_3, zcs_4, zcs_5, zcs_6, zcs_7, znl_i, znl_r, znl_n, Bool.and_true, Bool.true_and, zk_v, zk_n, zk_x, zir_r, zir_n, zclr_i, zclr_r, zclr_n, zclr_d, zclr_l, true_and, and_true, and_self, if_true, if_false, reduceIte, nI_add, pk_mul, zin_ok, zx_nI, nI_lt2, nI_le2, nI_eq2, nI_l0, nI_g0, nI_q0, nI_p0, nI_n0, nI_m1, Nat.add_zero, Nat.zero_add, Nat.reduceAdd, Nat.reduceMul, true_or, or_true, znar_50, bI_0, bI_1, bI_z, bft, nI_z0, nI_z1, lgc_lt, lgc_gt, lgc_le, lgc_ge, lgc_eq, not_true_eq_false, not_false_eq_true, Bool.not_eq_true, Bool.not_eq_false, reduceCtorEq]
            have i2 := ih (k + 1) (bI f) (by omega)
            have hst : allN (fun j => tHold v (zfi z ak) L (v (154 + 5 * l + 3) + j)) (k + 1) = tHold v (zfi z ak) L (v (154 + 5 * l + 3) + k) := by
              conv => lhs; unfold allN
              rw [hA, Bool.true_and]
            rw [hst] at i2
            exact i2
    have k0 := key (v (154 + 5 * l + 4)) 0 x0 (by omega)
    simp (disch := first | omega | assumption | exact hv _) only [e235, s235_0, s235_1, s235_4, s235_5, s235_8, s235_9, s235_12, s235_13, s235_14, s235_15, s235_19, s235_20, s235_23, s235_28, s235_31, s235_32, s235_35, s235_36, s235_39, s235_41, s235_46, s235_49, s235_50, s235_53, s235_54, s235_57, s235_60, s235_61, zcs_0, zcs_1, zcs_2, zcs_3, zcs_4, zcs_5, zcs_6, zcs_7, znl_i, znl_r, znl_n, Bool.and_true, Bool.true_and, zk_v, zk_n, zk_x, zir_r, zir_n, zclr_i, zclr_r, zclr_n, zclr_d, zclr_l, true_and, and_true, and_self, if_true, if_false, reduceIte, nI_add, pk_mul, zin_ok, zx_nI, nI_lt2, nI_le2, nI_eq2, nI_l0, nI_g0, nI_q0, nI_p0, nI_n0, nI_m1, Nat.add_zero, Nat.zero_add, Nat.reduceAdd, Nat.reduceMul, true_or, or_true, znar_50, bI_0, bI_1, bI_z, bft, nI_z0, nI_z1, lgc_lt, lgc_gt, lgc_le, lgc_ge, lgc_eq, not_true_eq_false, not_false_eq_true, Bool.not_eq_true, Bool.not_eq_false, reduceCtorEq, cls_sfi, fi_sfi, zu2_n, a2, a3, hp1]
    exact k0
  · have hOK : sLineOK v (zfi z ak) L p l = false := by
      unfold sLineOK
      rw [decide_eq_false hp1, Bool.false_and]
    have H1 := H x0
    rw [hOK] at H1
    simp (disch := first | omega | assumption | exact hv _) only [e235, s235_0, s235_1, s235_4, s235_5, s235_8, s235_9, s235_12, s235_13, s235_14, s235_15, s235_17, s235_19, s235_20, s235_23, s235_28, s235_31, s235_32, s235_35, s235_36, s235_39, s235_41, s235_46, s235_49, s235_50, s235_53, s235_54, s235_57, s235_60, s235_61, zcs_0, zcs_1, zcs_2, zcs_3, zcs_4, zcs_5, zcs_6, zcs_7, znl_i, znl_r, znl_n, Bool.and_true, Bool.true_and, zk_v, zk_n, zk_x, zir_r, zir_n, zclr_i, zclr_r, zclr_n, zclr_d, zclr_l, true_and, and_true, and_self, if_true, if_false, reduceIte, nI_add, pk_mul, zin_ok, zx_nI, nI_lt2, nI_le2, nI_eq2, nI_l0, nI_g0, nI_q0, nI_p0, nI_n0, nI_m1, Nat.add_zero, Nat.zero_add, Nat.reduceAdd, Nat.reduceMul, true_or, or_true, znar_50, bI_0, bI_1, bI_z, bft, nI_z0, nI_z1, lgc_lt, lgc_gt, lgc_le, lgc_ge, lgc_eq, not_true_eq_false, not_false_eq_true, Bool.not_eq_true, Bool.not_eq_false, reduceCtorEq, cls_sfi, fr_sfi, ls_sfi, fi_sfi, zu2_n, a2, a3, hp1, b1, b3, b4]
    by_cases h1 : v (154 + 5 * l + 4) = 0
    · simp (disch := first | omega | assumption | exact hv _) [h1, nI_0]
      exact H1
    · simp (disch := first | omega | assumption | exact hv _) [h1, nI_0]
      exact H1
end CR
