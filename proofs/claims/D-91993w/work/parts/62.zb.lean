set_option maxRecDepth 100000
/-! the component: tests and rules -/
def cPr (v : Nat → Nat) (pt : Nat → Int32) (s : Nat) : Nat → Bool → Int64 × Bool
  | 0, f => (sPart v pt s, f)
  | n + 1, f =>
    let p := cPr v pt s n f
    let x := p.1 * sPart v pt (s + n + 1)
    (if (p.2 || !lok x) = true then lN 0 else x, p.2 || !lok x)
def cSm (v : Nat → Nat) (pt : Nat → Int32) : List (Nat × Nat) → Bool → Int64 × Bool
  | [], f => (lN 0, f)
  | [x], f => cPr v pt x.1 x.2 f
  | x :: y :: xs, f =>
    let p := cSm v pt (y :: xs) f
    let q := cPr v pt x.1 x.2 p.2
    let r := if v (814 + 3 * x.1) = 1 then p.1 + q.1 else p.1 - q.1
    (if (q.2 || !lok r) = true then lN 0 else r, q.2 || !lok r)
theorem lok_n {x : Int64} : (lok x = true) ↔ ¬ lN 1000000000 < x ∧ -1000000000 ≤ x := by
  unfold lok linB
  rw [Bool.and_eq_true, decide_eq_true_iff, decide_eq_true_iff, Int64.not_lt]
  exact And.comm
section CT
variable {d : Nat} {B : Nat → Prop} {z : ZH} {Q : ZQ} {v : Nat → Nat} {ak : Nat}
theorem c80 (hk : zcls z ak = 4) {x : Int64} {f : Bool} : ZC zG d 80 [.ref ak, .long x] (sfi z ak 5 (bI f)) Q = Q (.inl (some (.long (if (f || !lok x) = true then lN 0 else x)))) (sfi z ak 5 (bI (f || !lok x))) := by
  have e : ∀ a b, sfi (sfi z ak 5 a) ak 5 b = sfi z ak 5 b := fun a b => sfi_sfi z ak 5 a b
  simp (disch := omega) only [e80, s80_0, s80_1, s80_2, s80_5, s80_8, s80_9, s80_12, s80_13, s80_16, s80_17, s80_20, s80_21, s80_24, s80_25, s80_28, s80_29, s80_32, s80_33, s80_36, s80_39, s80_40, s80_43, s80_44, zcs_0, zcs_1, zcs_2, zcs_3, zcs_4, zcs_5, zcs_6, zcs_7, znl_i, znl_r, znl_n, Bool.and_true, Bool.true_and, zk_v, zk_n, zk_x, zir_r, zir_n, zclr_i, zclr_r, zclr_n, zclr_d, zclr_l, true_and, and_true, and_self, if_true, if_false, reduceIte, nI_add, pk_mul, zin_ok, zx_nI, nI_lt2, nI_le2, nI_eq2, nI_l0, nI_g0, nI_q0, nI_p0, nI_n0, nI_m1, Nat.add_zero, Nat.zero_add, Nat.reduceAdd, Nat.reduceMul, true_or, or_true, znar_50, bI_0, bI_1, bI_z, bft, nI_z0, nI_z1, lgc_lt, lgc_gt, lgc_le, lgc_ge, lgc_eq, not_true_eq_false, not_false_eq_true, Bool.not_eq_true, Bool.not_eq_false, reduceCtorEq, cls_sfi, fi_sfi, zu2_s, hk, e]
  cases f
  · by_cases h1 : lN 1000000000 < x
    · have hl : lok x = false := by
        rw [← Bool.not_eq_true, lok_n]
        exact fun h => h.1 h1
      simp [h1, hl, bI, nI_one, nI_0]
    · by_cases h2 : -1000000000 ≤ x
      · have hl : lok x = true := lok_n.mpr ⟨h1, h2⟩
        simp [h1, h2, hl, bI, nI_one, nI_0]
      · have hl : lok x = false := by
          rw [← Bool.not_eq_true, lok_n]
          exact fun h => h2 h.2
        simp [h1, h2, hl, bI, nI_one, nI_0]
  · simp [bI, nI_one, nI_0]
/-- a sum's answer, whatever it is -/
def cOf (z : ZH) (ak : Nat) (r N : Nat) (val : Bool → Int64 × Bool) : Prop := ∃ k1, [(17, 238), (18, 240), (19, 242)].lookup (zcls z r) = some k1 ∧ (zent [.ref r, .ref ak]).length ≤ zMl k1 ∧ ∀ (d : Nat) (Q : ZQ) (f : Bool), N ≤ d → ZC zG d k1 [.ref r, .ref ak] (sfi z ak 5 (bI f)) Q = Q (.inl (some (.long (val f).1))) (sfi z ak 5 (bI (val f).2))
theorem cOf_leaf (hk : zcls z ak = 4) {k r : Nat} (hr : ¬ r = ak) (h : zLf B z v k r) : cOf z ak r 0 (fun f => (sPart v (zfi z ak) k, f)) := by
  obtain ⟨_, (⟨h1, h2, h3⟩ | ⟨h1, h2, h3⟩)⟩ := h
  · refine ⟨238, by rw [h1]; rfl, Nat.le_of_ble_eq_true rfl, ?_⟩
    intro d Q f _
    simp (disch := first | omega | assumption) only [e238, s238_0, s238_1, s238_4, s238_5, zcs_0, zcs_1, zcs_2, zcs_3, zcs_4, zcs_5, zcs_6, zcs_7, znl_i, znl_r, znl_n, Bool.and_true, Bool.true_and, zk_v, zk_n, zk_x, zir_r, zir_n, zclr_i, zclr_r, zclr_n, zclr_d, zclr_l, true_and, and_true, and_self, if_true, if_false, reduceIte, nI_add, pk_mul, zin_ok, zx_nI, nI_lt2, nI_le2, nI_eq2, nI_l0, nI_g0, nI_q0, nI_p0, nI_n0, nI_m1, Nat.add_zero, Nat.zero_add, Nat.reduceAdd, Nat.reduceMul, true_or, or_true, znar_50, bI_0, bI_1, bI_z, bft, nI_z0, nI_z1, lgc_lt, lgc_gt, lgc_le, lgc_ge, lgc_eq, not_true_eq_false, not_false_eq_true, Bool.not_eq_true, Bool.not_eq_false, reduceCtorEq, cls_sfi, fi_sfi, zu2_n, h1, h3]
    unfold sPart
    rw [if_pos h2]
  · refine ⟨240, by rw [h1]; rfl, Nat.le_of_ble_eq_true rfl, ?_⟩
    intro d Q f _
    unfold sPart
    rw [if_neg (by omega)]
    generalize v (814 + 3 * k + 1) = w at h2 h3
    have hj : ∀ j, j < 5 → zfi (sfi z ak 5 (bI f)) ak j = zfi z ak j := fun j hj => zu2_k _ _ _ _ (by omega)
    match w, h2 with
    | 0, _ => simp (disch := first | omega | assumption) only [e240, s240_0, s240_1, s240_4, s240_36, s240_37, s240_40, s240_41, s240_42, s240_43, s240_46, s240_47, s240_48, s240_49, s240_52, s240_53, s240_54, s240_55, s240_58, s240_59, s240_60, s240_61, s240_64, s240_65, zcs_0, zcs_1, zcs_2, zcs_3, zcs_4, zcs_5, zcs_6, zcs_7, znl_i, znl_r, znl_n, Bool.and_true, Bool.true_and, zk_v, zk_n, zk_x, zir_r, zir_n, zclr_i, zclr_r, zclr_n, zclr_d, zclr_l, true_and, and_true, and_self, if_true, if_false, reduceIte, hj, cls_sfi, hk, h1, fi_sfi, zu2_n, h3, show ztsw [36, 42, 48, 54] 60 (nI 0) = 36 from rfl]
    | 1, _ => simp (disch := first | omega | assumption) only [e240, s240_0, s240_1, s240_4, s240_36, s240_37, s240_40, s240_41, s240_42, s240_43, s240_46, s240_47, s240_48, s240_49, s240_52, s240_53, s240_54, s240_55, s240_58, s240_59, s240_60, s240_61, s240_64, s240_65, zcs_0, zcs_1, zcs_2, zcs_3, zcs_4, zcs_5, zcs_6, zcs_7, znl_i, znl_r, znl_n, Bool.and_true, Bool.true_and, zk_v, zk_n, zk_x, zir_r, zir_n, zclr_i, zclr_r, zclr_n, zclr_d, zclr_l, true_and, and_true, and_self, if_true, if_false, reduceIte, hj, cls_sfi, hk, h1, fi_sfi, zu2_n, h3, show ztsw [36, 42, 48, 54] 60 (nI 1) = 42 from rfl]
    | 2, _ => simp (disch := first | omega | assumption) only [e240, s240_0, s240_1, s240_4, s240_36, s240_37, s240_40, s240_41, s240_42, s240_43, s240_46, s240_47, s240_48, s240_49, s240_52, s240_53, s240_54, s240_55, s240_58, s240_59, s240_60, s240_61, s240_64, s240_65, zcs_0, zcs_1, zcs_2, zcs_3, zcs_4, zcs_5, zcs_6, zcs_7, znl_i, znl_r, znl_n, Bool.and_true, Bool.true_and, zk_v, zk_n, zk_x, zir_r, zir_n, zclr_i, zclr_r, zclr_n, zclr_d, zclr_l, true_and, and_true, and_self, if_true, if_false, reduceIte, hj, cls_sfi, hk, h1, fi_sfi, zu2_n, h3, show ztsw [36, 42, 48, 54] 60 (nI 2) = 48 from rfl]
    | 3, _ => simp (disch := first | omega | assumption) only [e240, s240_0, s240_1, s240_4, s240_36, s240_37, s240_40, s240_41, s240_42, s240_43, s240_46, s240_47, s240_48, s240_49, s240_52, s240_53, s240_54, s240_55, s240_58, s240_59, s240_60, s240_61, s240_64, s240_65, zcs_0, zcs_1, zcs_2, zcs_3, zcs_4, zcs_5, zcs_6, zcs_7, znl_i, znl_r, znl_n, Bool.and_true, Bool.true_and, zk_v, zk_n, zk_x, zir_r, zir_n, zclr_i, zclr_r, zclr_n, zclr_d, zclr_l, true_and, and_true, and_self, if_true, if_false, reduceIte, hj, cls_sfi, hk, h1, fi_sfi, zu2_n, h3, show ztsw [36, 42, 48, 54] 60 (nI 3) = 54 from rfl]
    | 4, _ => simp (disch := first | omega | assumption) only [e240, s240_0, s240_1, s240_4, s240_36, s240_37, s240_40, s240_41, s240_42, s240_43, s240_46, s240_47, s240_48, s240_49, s240_52, s240_53, s240_54, s240_55, s240_58, s240_59, s240_60, s240_61, s240_64, s240_65, zcs_0, zcs_1, zcs_2, zcs_3, zcs_4, zcs_5, zcs_6, zcs_7, znl_i, znl_r, znl_n, Bool.and_true, Bool.true_and, zk_v, zk_n, zk_x, zir_r, zir_n, zclr_i, zclr_r, zclr_n, zclr_d, zclr_l, true_and, and_true, and_self, if_true, if_false, reduceIte, hj, cls_sfi, hk, h1, fi_sfi, zu2_n, h3, show ztsw [36, 42, 48, 54] 60 (nI 4) = 60 from rfl]
/-- a joined sum -/
theorem cOf_join (hk : zcls z ak = 4) {r a b g N : Nat} (hr : ¬ r = ak) (hg : g < 3) (h1 : zcls z r = 19) (h2 : zfi z r 2 = nI g) (h3 : zfr z r 0 = .ref a) (h4 : zfr z r 1 = .ref b) {va vb : Bool → Int64 × Bool} (ha : cOf z ak a N va) (hb : cOf z ak b N vb) :
    cOf z ak r (N + 1) (fun f => let p := va f; let q := vb p.2; let x := if g = 0 then p.1 + q.1 else if g = 1 then p.1 - q.1 else p.1 * q.1; (if (q.2 || !lok x) = true then lN 0 else x, q.2 || !lok x)) := by
  obtain ⟨k1, a1, a2, a3⟩ := ha
  obtain ⟨k2, b1, b2, b3⟩ := hb
  refine ⟨242, by rw [h1]; rfl, Nat.le_of_ble_eq_true rfl, ?_⟩
  intro d Q f hd
  obtain ⟨d, rfl⟩ : ∃ d', d = d' + 1 := ⟨d - 1, by omega⟩
  have u1 := fun ls st Q f => s242_5 (d := d) (z := sfi z ak 5 (bI f)) (Q := Q) (ls := ls) (st := st) (w0 := ak) (r := a) (k1 := k1) (by rw [cls_sfi]; exact a1) a2
  have u2 := fun ls st Q f => s242_14 (d := d) (z := sfi z ak 5 (bI f)) (Q := Q) (ls := ls) (st := st) (w0 := ak) (r := b) (k1 := k2) (by rw [cls_sfi]; exact b1) b2
  have a4 := fun Q f => a3 d Q f (by omega)
  have b4 := fun Q f => b3 d Q f (by omega)
  match g, hg with
  | 0, _ => simp (disch := first | omega | assumption) only [e242, s242_0, s242_1, s242_4, s242_8, s242_9, s242_10, s242_13, s242_17, s242_19, s242_20, s242_21, s242_24, s242_27, s242_28, s242_30, s242_31, s242_34, s242_35, s242_38, s242_39, s242_42, s242_43, s242_45, s242_46, s242_49, s242_50, s242_52, s242_53, s242_56, u1, u2, a4, b4, zcs_0, zcs_1, zcs_2, zcs_3, zcs_4, zcs_5, zcs_6, zcs_7, znl_i, znl_r, znl_n, Bool.and_true, Bool.true_and, zk_v, zk_n, zk_x, zir_r, zir_n, zclr_i, zclr_r, zclr_n, zclr_d, zclr_l, true_and, and_true, and_self, if_true, if_false, reduceIte, nI_add, pk_mul, zin_ok, zx_nI, nI_lt2, nI_le2, nI_eq2, nI_l0, nI_g0, nI_q0, nI_p0, nI_n0, nI_m1, Nat.add_zero, Nat.zero_add, Nat.reduceAdd, Nat.reduceMul, true_or, or_true, znar_50, bI_0, bI_1, bI_z, bft, nI_z0, nI_z1, lgc_lt, lgc_gt, lgc_le, lgc_ge, lgc_eq, not_true_eq_false, not_false_eq_true, Bool.not_eq_true, Bool.not_eq_false, reduceCtorEq, cls_sfi, fr_sfi, fi_sfi, zu2_n, h1, h2, h3, h4, hk, c80]
  | 1, _ => simp (disch := first | omega | assumption) only [e242, s242_0, s242_1, s242_4, s242_8, s242_9, s242_10, s242_13, s242_17, s242_19, s242_20, s242_21, s242_24, s242_27, s242_28, s242_30, s242_31, s242_34, s242_35, s242_38, s242_39, s242_42, s242_43, s242_45, s242_46, s242_49, s242_50, s242_52, s242_53, s242_56, u1, u2, a4, b4, zcs_0, zcs_1, zcs_2, zcs_3, zcs_4, zcs_5, zcs_6, zcs_7, znl_i, znl_r, znl_n, Bool.and_true, Bool.true_and, zk_v, zk_n, zk_x, zir_r, zir_n, zclr_i, zclr_r, zclr_n, zclr_d, zclr_l, true_and, and_true, and_self, if_true, if_false, reduceIte, nI_add, pk_mul, zin_ok, zx_nI, nI_lt2, nI_le2, nI_eq2, nI_l0, nI_g0, nI_q0, nI_p0, nI_n0, nI_m1, Nat.add_zero, Nat.zero_add, Nat.reduceAdd, Nat.reduceMul, true_or, or_true, znar_50, bI_0, bI_1, bI_z, bft, nI_z0, nI_z1, lgc_lt, lgc_gt, lgc_le, lgc_ge, lgc_eq, not_true_eq_false, not_false_eq_true, Bool.not_eq_true, Bool.not_eq_false, reduceCtorEq, cls_sfi, fr_sfi, fi_sfi, zu2_n, h1, h2, h3, h4, hk, c80]
  | 2, _ => simp (disch := first | omega | assumption) only [e242, s242_0, s242_1, s242_4, s242_8, s242_9, s242_10, s242_13, s242_17, s242_19, s242_20, s242_21, s242_24, s242_27, s242_28, s242_30, s242_31, s242_34, s242_35, s242_38, s242_39, s242_42, s242_43, s242_45, s242_46, s242_49, s242_50, s242_52, s242_53, s242_56, u1, u2, a4, b4, zcs_0, zcs_1, zcs_2, zcs_3, zcs_4, zcs_5, zcs_6, zcs_7, znl_i, znl_r, znl_n, Bool.and_true, Bool.true_and, zk_v, zk_n, zk_x, zir_r, zir_n, zclr_i, zclr_r, zclr_n, zclr_d, zclr_l, true_and, and_true, and_self, if_true, if_false, reduceIte, nI_add, pk_mul, zin_ok, zx_nI, nI_lt2, nI_le2, nI_eq2, nI_l0, nI_g0, nI_q0, nI_p0, nI_n0, nI_m1, Nat.add_zero, Nat.zero_add, Nat.reduceAdd, Nat.reduceMul, true_or, or_true, znar_50, bI_0, bI_1, bI_z, bft, nI_z0, nI_z1, lgc_lt, lgc_gt, lgc_le, lgc_ge, lgc_eq, not_true_eq_false, not_false_eq_true, Bool.not_eq_true, Bool.not_eq_false, reduceCtorEq, cls_sfi, fr_sfi, fi_sfi, zu2_n, h1, h2, h3, h4, hk, c80]; rfl
end CT
section CT2
variable {d : Nat} {B : Nat → Prop} {z : ZH} {Q : ZQ} {v : Nat → Nat} {ak : Nat}
theorem cOf_le {r N N2 : Nat} {val : Bool → Int64 × Bool} (h : N ≤ N2) (a : cOf z ak r N val) : cOf z ak r N2 val := by
  obtain ⟨k1, a1, a2, a3⟩ := a
  exact ⟨k1, a1, a2, fun d Q f hd => a3 d Q f (by omega)⟩
theorem cOf_prod (hk : zcls z ak = 4) {s : Nat} : ∀ {n r : Nat}, zTm B z v s n r → cOf z ak r n (cPr v (zfi z ak) s n)
  | 0, r, h => by
    have hr : ¬ r = ak := by
      intro e
      subst e
      obtain ⟨_, (⟨h1, _⟩ | ⟨h1, _⟩)⟩ := h <;> omega
    exact cOf_leaf hk hr h
  | n + 1, r, h => by
    obtain ⟨_, a2, a3, x, y, ⟨b1, b2⟩, c1, c2⟩ := h
    have hr : ¬ r = ak := by
      intro e
      subst e
      omega
    have hy : ¬ y = ak := by
      intro e
      subst e
      obtain ⟨_, (⟨h1, _⟩ | ⟨h1, _⟩)⟩ := c2 <;> omega
    exact cOf_join hk hr (g := 2) (by omega) a2 a3 b1 c1 (cOf_prod hk b2) (cOf_le (by omega) (cOf_leaf hk hy c2))
theorem cOf_sum (hk : zcls z ak = 4) {N : Nat} : ∀ {ts : List (Nat × Nat)} {r : Nat}, (∀ x, x ∈ ts → x.2 ≤ N) → zSm B z v ts r → cOf z ak r (N + ts.length) (cSm v (zfi z ak) ts)
  | [], r, _, h => h.elim
  | [x], r, hN, h => cOf_le (by have := hN x List.mem_cons_self; simp only [List.length_cons, List.length_nil]; omega) (cOf_prod hk h)
  | x :: y :: xs, r, hN, h => by
    obtain ⟨_, a2, a3, a4, u, w, ⟨b1, b2⟩, c1, c2⟩ := h
    have hr : ¬ r = ak := by
      intro e
      subst e
      omega
    have i1 := cOf_sum hk (fun q hq => hN q (List.mem_cons_of_mem _ hq)) b2
    have i2 := cOf_le (N2 := N + (y :: xs).length) (by have := hN x List.mem_cons_self; omega) (cOf_prod hk c2)
    have j := cOf_join hk hr (g := v (814 + 3 * x.1) - 1) (by omega) a2 a4 b1 c1 i1 i2
    refine cOf_le (N := N + (y :: xs).length + 1) (by simp only [List.length_cons]; omega) ?_
    have e : cSm v (zfi z ak) (x :: y :: xs) = (fun f => let p := cSm v (zfi z ak) (y :: xs) f; let q := cPr v (zfi z ak) x.1 x.2 p.2; let x9 := if v (814 + 3 * x.1) - 1 = 0 then p.1 + q.1 else if v (814 + 3 * x.1) - 1 = 1 then p.1 - q.1 else p.1 * q.1; (if (q.2 || !lok x9) = true then lN 0 else x9, q.2 || !lok x9)) := by
      funext f
      rcases a3 with a3 | a3
      · simp [cSm, a3]
      · simp [cSm, a3]
    rw [e]
    exact j
/-- the flag only goes up; what isn't broken is the value -/
theorem cPr_v (pt : Nat → Int32) (s : Nat) : ∀ n f, (cPr v pt s n f).2 = (f || (prodV v pt s n).isNone) ∧ ∀ t, prodV v pt s n = some t → f = false → (cPr v pt s n f).1 = t
  | 0, f => by simp [cPr, prodV]
  | n + 1, f => by
    obtain ⟨h1, h2⟩ := cPr_v pt s n f
    cases hp : prodV v pt s n with
    | none =>
      rw [hp] at h1
      simp [cPr, prodV, hp, h1]
    | some t =>
      rw [hp] at h1
      cases f
      · have h3 := h2 t hp rfl
        simp at h1
        by_cases hl : lok (t * sPart v pt (s + n + 1)) = true
        · simp [cPr, prodV, hp, h1, h3, hl]
        · simp [cPr, prodV, hp, h1, h3, hl]
      · simp at h1
        simp [cPr, h1]
/-- the sum of reversed terms; none: too great somewhere -/
def sumR (v : Nat → Nat) (pt : Nat → Int32) : List (Nat × Nat) → Option Int64
  | [] => none
  | [x] => prodV v pt x.1 x.2
  | x :: y :: xs => match sumR v pt (y :: xs), prodV v pt x.1 x.2 with
    | some p, some q => if lok (if v (814 + 3 * x.1) = 1 then p + q else p - q) = true then some (if v (814 + 3 * x.1) = 1 then p + q else p - q) else none
    | _, _ => none
theorem cSm_v (pt : Nat → Int32) : ∀ ts f, ts ≠ [] → (cSm v pt ts f).2 = (f || (sumR v pt ts).isNone) ∧ ∀ t, sumR v pt ts = some t → f = false → (cSm v pt ts f).1 = t
  | [], f, h => absurd rfl h
  | [x], f, _ => cPr_v pt x.1 x.2 f
  | x :: y :: xs, f, _ => by
    obtain ⟨h1, h2⟩ := cSm_v pt (y :: xs) f (by simp)
    obtain ⟨g1, g2⟩ := cPr_v (v := v) pt x.1 x.2 (cSm v pt (y :: xs) f).2
    unfold cSm sumR
    dsimp only
    cases hs : sumR v pt (y :: xs) with
    | none =>
      rw [hs] at h1
      simp at h1
      rw [g1, h1]
      simp
    | some p =>
      rw [hs] at h1
      simp at h1
      rw [h1] at g1
      cases hq : prodV v pt x.1 x.2 with
      | none =>
        rw [hq] at g1
        simp at g1
        rw [h1, g1]
        simp
      | some q =>
        rw [hq] at g1
        simp at g1
        cases f
        · have e1 := h2 p hs rfl
          have e2 := g2 q hq h1
          rw [h1] at e2
          rw [h1, e1, e2, g1]
          dsimp only
          by_cases hl : lok (if v (814 + 3 * x.1) = 1 then p + q else p - q) = true
          · simp [hl]
          · simp [hl]
        · rw [h1, g1]
          simp
/-- parts are never too great -/
def ptS (v : Nat → Nat) (pt : Nat → Int32) : Prop := ∀ k, k < v 3 → lok (sPart v pt k) = true
theorem lN0_add (x : Int64) : lN 0 + x = x := Int64.zero_add x
/-- the model's sum from the left is the component's -/
theorem tFold_app (pt : Nat → Int32) (xs : List (Nat × Nat)) (x : Nat × Nat) : ∀ (st : Int64 × Int64), tFold v pt (xs ++ [x]) st = match tFold v pt xs st with | none => none | some st' => tStep v pt x st' := by
  induction xs with
  | nil =>
    intro st
    simp only [List.nil_append, tFold]
    cases tStep v pt x st <;> rfl
  | cons y ys ih =>
    intro st
    simp only [List.cons_append, tFold]
    cases tStep v pt y st with
    | none => rfl
    | some st' => exact ih st'
end CT2
