set_option maxRecDepth 100000
/-! fewest: the model -/
section MFw
variable {d : Nat} {z : ZH} {Q : ZQ} {v : Nat → Nat} {a e : Nat}
/-- what stands in the row behind the sets q > k, and behind the first S sets from k -/
def fwI (g cov F : Nat → Nat) (all T k S : Nat) (A : Nat → Int32) : Prop := ∀ c, c ≤ all → ∃ y, y ≤ 100000 ∧ A c = eM y ∧ ∀ x, x < 100000 → (y ≤ x ↔ F c ≤ x ∨ ∃ s q, (k < q ∨ (q = k ∧ s < S)) ∧ q ≤ all ∧ (1 ≤ s ∧ s < T) ∧ g s < 100000 ∧ q ||| cov s = c ∧ ¬ q = c ∧ F q + 1 ≤ x)
theorem fwI_next {g cov F : Nat → Nat} {all T k : Nat} {A : Nat → Int32} (h : fwI g cov F all T (k + 1) T A) : fwI g cov F all T k 0 A := by
  intro c hc
  obtain ⟨y, y1, y2, y3⟩ := h c hc
  refine ⟨y, y1, y2, fun x hx => (y3 x hx).trans ?_⟩
  constructor
  · rintro (p | ⟨s, q, p1, p2⟩)
    · exact Or.inl p
    · exact Or.inr ⟨s, q, by omega, p2⟩
  · rintro (p | ⟨s, q, p1, p2, p3, p4⟩)
    · exact Or.inl p
    · exact Or.inr ⟨s, q, by omega, p2, p3, p4⟩
theorem fwI_step {g cov F : Nat → Nat} {all T k S : Nat} {A : Nat → Int32} (h : fwI g cov F all T k S A) (hn : ∀ c x, x < 100000 → ¬ ((1 ≤ S ∧ S < T) ∧ g S < 100000 ∧ k ||| cov S = c ∧ ¬ k = c ∧ F k + 1 ≤ x)) : fwI g cov F all T k (S + 1) A := by
  intro c hc
  obtain ⟨y, y1, y2, y3⟩ := h c hc
  refine ⟨y, y1, y2, fun x hx => (y3 x hx).trans ?_⟩
  constructor
  · rintro (p | ⟨s, q, p1, p2⟩)
    · exact Or.inl p
    · exact Or.inr ⟨s, q, by omega, p2⟩
  · rintro (p | ⟨s, q, p1, p2, p3, p4, p5, p6, p7⟩)
    · exact Or.inl p
    · by_cases e : q = k ∧ s = S
      · obtain ⟨e1, e2⟩ := e
        subst e1; subst e2
        exact absurd ⟨p3, p4, p5, p6, p7⟩ (hn c x hx)
      · exact Or.inr ⟨s, q, by omega, p2, p3, p4, p5, p6, p7⟩
/-- the row at k itself is as it was -/
theorem fwI_self {g cov F : Nat → Nat} {all T k S : Nat} {A : Nat → Int32} (h : fwI g cov F all T k S A) (hk : k ≤ all) (hF : F k ≤ 100000) : A k = eM (F k) := by
  obtain ⟨y, y1, y2, y3⟩ := h k hk
  rw [y2, eq_of_iff y1 hF (fun x hx => ?_)]
  rw [y3 x hx]
  constructor
  · rintro (p | ⟨s, q, p1, p2, p3, p4, p5, p6, p7⟩)
    · exact p
    · exfalso
      have : q ≤ q ||| cov s := Nat.left_le_or
      omega
  · exact Or.inl
theorem fwI_put {g cov F : Nat → Nat} {all T k S : Nat} {A : Nat → Int32} (h : fwI g cov F all T k S A) (hS : 1 ≤ S ∧ S < T) (hk : k ≤ all) (hg : g S < 100000) (hne : ¬ k ||| cov S = k) (hto : k ||| cov S ≤ all) (hFk : F k < 100000) : (A (k ||| cov S) = -1 ∨ (∃ y, y < 100000 ∧ A (k ||| cov S) = nI y ∧ F k + 1 < y) → F k + 1 < 100000 → fwI g cov F all T k (S + 1) (zu1 A (k ||| cov S) (nI (F k + 1)))) ∧ ((∃ y, y < 100000 ∧ A (k ||| cov S) = nI y ∧ y ≤ F k + 1) → fwI g cov F all T k (S + 1) A) := by
  have other : ∀ c, ¬ c = k ||| cov S → ∀ x, ¬ ((1 ≤ S ∧ S < T) ∧ g S < 100000 ∧ k ||| cov S = c ∧ ¬ k = c ∧ F k + 1 ≤ x) := fun c hc x q => hc q.2.2.1.symm
  have split : ∀ c x, (∃ s q, (k < q ∨ (q = k ∧ s < S + 1)) ∧ q ≤ all ∧ (1 ≤ s ∧ s < T) ∧ g s < 100000 ∧ q ||| cov s = c ∧ ¬ q = c ∧ F q + 1 ≤ x) ↔ ((∃ s q, (k < q ∨ (q = k ∧ s < S)) ∧ q ≤ all ∧ (1 ≤ s ∧ s < T) ∧ g s < 100000 ∧ q ||| cov s = c ∧ ¬ q = c ∧ F q + 1 ≤ x) ∨ (k ||| cov S = c ∧ F k + 1 ≤ x)) := by
    intro c x
    constructor
    · rintro ⟨s, q, p1, p2, p3, p4, p5, p6, p7⟩
      by_cases e : q = k ∧ s = S
      · obtain ⟨e1, e2⟩ := e
        subst e1; subst e2
        exact Or.inr ⟨p5, p7⟩
      · exact Or.inl ⟨s, q, by omega, p2, p3, p4, p5, p6, p7⟩
    · rintro (⟨s, q, p1, p2⟩ | ⟨p1, p2⟩)
      · exact ⟨s, q, by omega, p2⟩
      · exact ⟨S, k, Or.inr ⟨rfl, by omega⟩, hk, hS, hg, p1, fun e => hne (p1.trans e.symm), p2⟩
  constructor
  · intro hA hlt c hc
    obtain ⟨y, y1, y2, y3⟩ := h c hc
    by_cases e : c = k ||| cov S
    · subst e
      refine ⟨F k + 1, by omega, by rw [zu1_s, eM_lt hlt], fun x hx => ?_⟩
      have hy : F k + 1 ≤ y := by
        rcases hA with hA | ⟨y', a1, a2, a3⟩
        · rw [y2, eM_m1] at hA
          omega
        · rw [y2] at a2
          by_cases q : y < 100000
          · rw [eM_lt q, nI_eq2 (by omega) (by omega)] at a2
            omega
          · omega
      have y4 := y3 x hx
      rw [split]
      constructor
      · intro q; exact Or.inr (Or.inr ⟨rfl, q⟩)
      · rintro (q | q | ⟨_, q⟩)
        · have := y4.mpr (Or.inl q); omega
        · have := y4.mpr (Or.inr q); omega
        · exact q
    · refine ⟨y, y1, by rw [zu1_n _ _ _ e]; exact y2, fun x hx => (y3 x hx).trans ?_⟩
      rw [split]
      constructor
      · rintro (q | q)
        · exact Or.inl q
        · exact Or.inr (Or.inl q)
      · rintro (q | q | ⟨q, _⟩)
        · exact Or.inl q
        · exact Or.inr q
        · exact absurd q.symm e
  · rintro ⟨y', a1, a2, a3⟩ c hc
    obtain ⟨y, y1, y2, y3⟩ := h c hc
    refine ⟨y, y1, y2, fun x hx => (y3 x hx).trans ?_⟩
    rw [split]
    constructor
    · rintro (q | q)
      · exact Or.inl q
      · exact Or.inr (Or.inl q)
    · rintro (q | q | ⟨q, q2⟩)
      · exact Or.inl q
      · exact Or.inr q
      · subst q
        rw [y2] at a2
        by_cases q : y < 100000
        · rw [eM_lt q, nI_eq2 (by omega) (by omega)] at a2
          exact (y3 x hx).mp (by omega)
        · rw [eM_ge q] at a2
          have := nI_m1 (a := y') (by omega)
          rw [← a2] at this
          exact absurd rfl (by rw [this]; exact id)
theorem fwI_done {g cov F : Nat → Nat} {all T : Nat} {A : Nat → Int32} (hg0 : ¬ g 0 < 100000) (hF : ∀ c, F c ≤ 100000) (h : fwI g cov F all T 0 T A) : ∀ c, c ≤ all → A c = eM (fwS g cov F all c T) := by
  intro c hc
  obtain ⟨y, y1, y2, y3⟩ := h c hc
  rw [y2, eq_of_iff y1 (fwS_F (hF c) T) (fun x hx => ?_)]
  rw [y3 x hx, fwS_iff hx]
  constructor
  · rintro (p | ⟨s, q, p1, p2, p3, p4, p5, p6, p7⟩)
    · exact Or.inl p
    · exact Or.inr ⟨s, q, ⟨p3.2, p4⟩, p2, p5, p7⟩
  · rintro (p | ⟨s, q, ⟨p1, p2⟩, p3, p4, p5⟩)
    · exact Or.inl p
    · by_cases e : q = c
      · subst e; exact Or.inl (by omega)
      · by_cases e0 : s = 0
        · subst e0; exact absurd p2 hg0
        · exact Or.inr ⟨s, q, by omega, p3, ⟨by omega, p1⟩, p2, p4, e, p5⟩
end MFw
section MFx
variable {d : Nat} {z : ZH} {Q : ZQ} {v : Nat → Nat} {a e : Nat}
theorem fwI_idle {g cov F : Nat → Nat} {all T k : Nat} {A : Nat → Int32} (hF : ¬ F k < 100000) (h : fwI g cov F all T k 0 A) : ∀ S, fwI g cov F all T k S A
  | 0 => h
  | S + 1 => fwI_step (fwI_idle hF h S) (fun c x hx q => by omega)
/-- the cells while days are gone through -/
def mW (z : ZH) (v : Nat → Nat) (a : Nat) (z3 : ZH) : Prop := mFr z z3 ∧ mL z3 (rdC v a) (thHs v a) (thN v a) ∧ zfi z3 135 26 = nI (tnN v a) ∧ (∀ k, k < tnN v a → zia z3 148 k = nI (tnI v a k))
theorem mW_ia {z3 : ZH} (h : mW z v a z3) {r : Nat} (hr : r = 146 ∨ r = 149 ∨ r = 150) (f : Nat → Int32) : mW z v a (sIA z3 r f) := by
  obtain ⟨h1, h2, h3, h4⟩ := h
  refine ⟨mFr_sIA h1 (by omega) _, mL_fr h2 rfl ?_ ?_, h3, fun k hk => ?_⟩
  · rw [ia_sIA, zu1_n _ _ _ (by omega)]
  · rw [ia_sIA, zu1_n _ _ _ (by omega)]
  · rw [ia_sIA, zu1_n _ _ _ (by omega)]; exact h4 k hk
/-- which sets are seen in time by which set on the day e -/
theorem m190c (hM : MS z) (hT : wT v) (hv : ∀ i, v i < 1073741824) (hD : wD v) (h8 : v 8 ≤ 600) (h6 : v 6 ≤ 399) (he : e < 7) {z3 : ZH} (hJ : mW z v a z3) {f : Nat → Int32} (hf : ovI v (rdC v a) (v 6 + e) (thHs v a) (thN v a) a 0 (2 ^ thN v a - 1) (2 ^ thN v a) f) (hf3 : zia z3 146 = f) {X Y : Value}
    (hend : ∀ z4 x, mW z v a z4 → zia z4 149 = zia z3 149 → (∀ S, 1 ≤ S → S < 2 ^ thN v a → zia z4 150 S = nI (if fwG v a e S < 100000 then fwC v a e S else 0)) → ZW zG (d + 3) 190 93 [.ref 135, .int (nI a), X, .int (nI (v 6 + e)), .int (nI (2 ^ thN v a)), x, Y] [] (sW z4 v) Q) (x : Value) : ZW zG (d + 3) 190 93 [.ref 135, .int (nI a), X, .int (nI (v 6 + e)), .int (nI 1), x, Y] [] (sW z3 v) Q := by
  have hv2 : ∀ i, v i < 2147483648 := fun i => by have := hv i; omega
  have h16 := hT.1
  have h7 := hD.1
  have hO := th_OK h16 hD a
  have hn10 := hO.1
  obtain ⟨hN, hN0⟩ := pow10 hO.1
  have hm := tnN_le v a
  obtain ⟨hNm, hNm0⟩ := pow10 hm
  have key := zl_inv (P := fun S (z4 : ZH) => ZW zG (d + 3) 190 93 [.ref 135, .int (nI a), X, .int (nI (v 6 + e)), .int (nI S), x, Y] [] (sW z4 v) Q) (I := fun S z4 => 1 ≤ S ∧ mW z v a z4 ∧ zia z4 149 = zia z3 149 ∧ zia z4 146 = f ∧ (∀ s, 1 ≤ s → s < S → zia z4 150 s = nI (if fwG v a e s < 100000 then fwC v a e s else 0))) (2 ^ thN v a) (by
    rintro z4 ⟨i0, i1, i2, i3, i4⟩
    exact hend z4 x i1 i2 i4) (by
    rintro S z4 hS ⟨i0, i1, i2, i3, i4⟩ hnext
    have k2 := mFr_MS i1.1 hM
    have k0 := k2
    unfold MS at k0
    have k17 := i1.2.1.1
    have g1 : ¬ 2 ^ thN v a ≤ S := by omega
    have ho := eE_over hf i0 hS (and_full hS)
    rw [← i3] at ho
    have co := fun d Q => m185 (d := d) (Q := Q) (v := v) k2 k17 hn10 (show S < 1024 by omega) ho
    have hgg : minN (eE (thN v a) (rA v (rdC v a) (v 6 + e) (thHs v a)) (rD v (thHs v a)) (fun q => 0 + dD v a (thHs v a q)) S) (thN v a) = fwG v a e S := rfl
    rw [hgg] at co
    have cc := fun d Q => m192 (d := d) (Q := Q) (S := S) (dy := v 6 + e) (ix := tnI v a) (m := tnN v a) k2 hv2 i1.2.1 hn10 (fun k hk => by have := hO.2 k hk; omega) hm i1.2.2.1 i1.2.2.2 (fun k hk => (tnI_at hk).1) (by omega) (by omega) (by omega)
    have hcc : cvB (cvP v (thHs v a) (thN v a) (tnI v a) S (v 6 + e)) (tnN v a) = fwC v a e S := rfl
    rw [hcc] at cc
    have nxt : ∀ y, y = (if fwG v a e S < 100000 then fwC v a e S else 0) → ZW zG (d + 3) 190 93 [.ref 135, .int (nI a), X, .int (nI (v 6 + e)), .int (nI (S + 1)), x, Y] [] (sW (sia z4 150 S (nI y)) v) Q := by
      intro y hy
      have e9 : sia z4 150 S (nI y) = sIA z4 150 (zu1 (zia z4 150) S (nI y)) := by
        have := sIA_sia z4 150 (zia z4 150) S (nI y)
        rw [sIA_self] at this
        exact this
      rw [e9]
      refine hnext _ ⟨by omega, mW_ia i1 (by omega) _, ?_, ?_, fun s h1 h2 => ?_⟩
      · rw [ia_sIA, zu1_n _ _ _ (by omega)]; exact i2
      · rw [ia_sIA, zu1_n _ _ _ (by omega)]; exact i3
      · rw [ia_sIA, zu1_s]
        by_cases es : s = S
        · subst es; rw [zu1_s, hy]
        · rw [zu1_n _ _ _ es]; exact i4 s h1 (by omega)
    generalize fwC v a e S = C at cc nxt
    generalize fwG v a e S = G at co nxt
    refine Eq.mpr s190_93 ?_
    by_cases hg : G < 100000
    · rw [eM_lt hg] at co
      simp (disch := first | omega | exact k2 | exact hv _) only [s190_0, s190_1, s190_2, s190_5, s190_8, s190_10, s190_11, s190_12, s190_13, s190_16, s190_17, s190_18, s190_21, s190_22, s190_23, s190_24, s190_25, s190_26, s190_28, s190_29, s190_32, s190_33, s190_36, s190_37, s190_38, s190_41, s190_42, s190_45, s190_46, s190_47, s190_50, s190_53, s190_54, s190_57, s190_59, s190_62, s190_63, s190_66, s190_68, s190_69, s190_72, s190_75, s190_76, s190_77, s190_78, s190_79, s190_80, s190_83, s190_84, s190_85, s190_86, s190_87, s190_90, s190_91, s190_95, s190_96, s190_97, s190_100, s190_101, s190_104, s190_105, s190_108, s190_110, s190_111, s190_113, s190_116, s190_117, s190_120, s190_121, s190_124, s190_125, s190_127, s190_128, s190_131, s190_132, s190_135, s190_138, s190_139, s190_143, s190_146, s190_147, s190_150, s190_152, s190_153, s190_154, s190_157, s190_160, s190_161, s190_165, s190_166, s190_167, s190_170, s190_171, s190_174, s190_176, s190_177, s190_180, s190_182, s190_183, s190_184, s190_186, s190_188, s190_190, s190_193, s190_194, s190_197, s190_199, s190_200, s190_201, s190_204, s190_205, s190_208, s190_210, s190_211, s190_212, s190_215, s190_217, s190_218, s190_219, s190_220, s190_223, s190_224, s190_227, s190_229, s190_230, s190_233, s190_235, s190_236, s190_237, s190_238, s190_239, s190_242, s190_245, s190_248, s190_251, s190_254, s190_257, s190_258, s190_261, s190_262, s190_263, zcs_0, zcs_1, zcs_2, zcs_3, zcs_4, zcs_5, zcs_6, zcs_7, znl_i, znl_r, znl_n, Bool.and_true, Bool.true_and, zk_v, zk_n, zk_x, zir_r, zir_n, zclr_i, zclr_r, zclr_n, zclr_d, zclr_l, true_and, and_true, and_self, if_true, if_false, reduceIte, nI_add, pk_mul, zin_ok, zx_nI, nI_lt2, nI_le2, nI_eq2, nI_l0, nI_g0, nI_q0, nI_p0, nI_n0, nI_m1, Nat.add_zero, Nat.zero_add, Nat.reduceAdd, Nat.reduceMul, true_or, or_true, znar_50, bI_0, bI_1, bI_z, bft, nI_z0, nI_z1, lgc_lt, lgc_gt, lgc_le, lgc_ge, lgc_eq, not_true_eq_false, not_false_eq_true, Bool.not_eq_true, Bool.not_eq_false, reduceCtorEq, MS_sW, CS_sW, sW_r, sW_n, sW_w, cls_sW, fi_sW, fr_sW, la_sW, ra_sW, len_sW, ls_sW, own_sW, n_sW, uc_sW, us_sW, sW_sfi, sW_sla, sW_sLA, sW_sls, sW_spay, sW_sia, sW_sIA, ne_eq, cls_sfi, fr_sfi, ia_sfi, la_sfi, ra_sfi, len_sfi, ls_sfi, own_sfi, n_sfi, uc_sfi, us_sfi, cls_sia, fi_sia, fr_sia, la_sia, ra_sia, len_sia, ls_sia, own_sia, n_sia, uc_sia, us_sia, cls_sIA, fi_sIA, fr_sIA, la_sIA, ra_sIA, len_sIA, ls_sIA, own_sIA, n_sIA, uc_sIA, us_sIA, cls_sla, fi_sla, fr_sla, ia_sla, ra_sla, len_sla, ls_sla, own_sla, n_sla, uc_sla, us_sla, cls_sLA, fi_sLA, fr_sLA, ia_sLA, ra_sLA, len_sLA, ls_sLA, own_sLA, n_sLA, uc_sLA, us_sLA, k0, k17, nI_sh1, g1, co, cc]
      exact nxt C (if_pos hg).symm
    · rw [eM_ge hg] at co
      simp (disch := first | omega | exact k2 | exact hv _) only [s190_0, s190_1, s190_2, s190_5, s190_8, s190_10, s190_11, s190_12, s190_13, s190_16, s190_17, s190_18, s190_21, s190_22, s190_23, s190_24, s190_25, s190_26, s190_28, s190_29, s190_32, s190_33, s190_36, s190_37, s190_38, s190_41, s190_42, s190_45, s190_46, s190_47, s190_50, s190_53, s190_54, s190_57, s190_59, s190_62, s190_63, s190_66, s190_68, s190_69, s190_72, s190_75, s190_76, s190_77, s190_78, s190_79, s190_80, s190_83, s190_84, s190_85, s190_86, s190_87, s190_90, s190_91, s190_95, s190_96, s190_97, s190_100, s190_101, s190_104, s190_105, s190_108, s190_110, s190_111, s190_113, s190_116, s190_117, s190_120, s190_121, s190_124, s190_125, s190_127, s190_128, s190_131, s190_132, s190_135, s190_138, s190_139, s190_143, s190_146, s190_147, s190_150, s190_152, s190_153, s190_154, s190_157, s190_160, s190_161, s190_165, s190_166, s190_167, s190_170, s190_171, s190_174, s190_176, s190_177, s190_180, s190_182, s190_183, s190_184, s190_186, s190_188, s190_190, s190_193, s190_194, s190_197, s190_199, s190_200, s190_201, s190_204, s190_205, s190_208, s190_210, s190_211, s190_212, s190_215, s190_217, s190_218, s190_219, s190_220, s190_223, s190_224, s190_227, s190_229, s190_230, s190_233, s190_235, s190_236, s190_237, s190_238, s190_239, s190_242, s190_245, s190_248, s190_251, s190_254, s190_257, s190_258, s190_261, s190_262, s190_263, zcs_0, zcs_1, zcs_2, zcs_3, zcs_4, zcs_5, zcs_6, zcs_7, znl_i, znl_r, znl_n, Bool.and_true, Bool.true_and, zk_v, zk_n, zk_x, zir_r, zir_n, zclr_i, zclr_r, zclr_n, zclr_d, zclr_l, true_and, and_true, and_self, if_true, if_false, reduceIte, nI_add, pk_mul, zin_ok, zx_nI, nI_lt2, nI_le2, nI_eq2, nI_l0, nI_g0, nI_q0, nI_p0, nI_n0, nI_m1, Nat.add_zero, Nat.zero_add, Nat.reduceAdd, Nat.reduceMul, true_or, or_true, znar_50, bI_0, bI_1, bI_z, bft, nI_z0, nI_z1, lgc_lt, lgc_gt, lgc_le, lgc_ge, lgc_eq, not_true_eq_false, not_false_eq_true, Bool.not_eq_true, Bool.not_eq_false, reduceCtorEq, MS_sW, CS_sW, sW_r, sW_n, sW_w, cls_sW, fi_sW, fr_sW, la_sW, ra_sW, len_sW, ls_sW, own_sW, n_sW, uc_sW, us_sW, sW_sfi, sW_sla, sW_sLA, sW_sls, sW_spay, sW_sia, sW_sIA, ne_eq, cls_sfi, fr_sfi, ia_sfi, la_sfi, ra_sfi, len_sfi, ls_sfi, own_sfi, n_sfi, uc_sfi, us_sfi, cls_sia, fi_sia, fr_sia, la_sia, ra_sia, len_sia, ls_sia, own_sia, n_sia, uc_sia, us_sia, cls_sIA, fi_sIA, fr_sIA, la_sIA, ra_sIA, len_sIA, ls_sIA, own_sIA, n_sIA, uc_sIA, us_sIA, cls_sla, fi_sla, fr_sla, ia_sla, ra_sla, len_sla, ls_sla, own_sla, n_sla, uc_sla, us_sla, cls_sLA, fi_sLA, fr_sLA, ia_sLA, ra_sLA, len_sLA, ls_sLA, own_sLA, n_sLA, uc_sLA, us_sLA, k0, k17, nI_sh1, g1, co, eq_self]
      exact nxt 0 (if_neg hg).symm)
  exact key 1 z3 hN0 ⟨Nat.le_refl _, hJ, rfl, hf3, fun s h1 h2 => absurd h2 (by omega)⟩
end MFx
