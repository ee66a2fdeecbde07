set_option maxRecDepth 100000
/-! fewest: numbers -/
def fwS (g cov F : Nat → Nat) (all c : Nat) : Nat → Nat
  | 0 => F c
  | S + 1 => if g S < 100000 then min (fwS g cov F all c S) (minN (fun q => if q ||| cov S = c then F q + 1 else 100000) (all + 1)) else fwS g cov F all c S
theorem fwS_F {g cov F : Nat → Nat} {all c : Nat} (h : F c ≤ 100000) : ∀ S, fwS g cov F all c S ≤ 100000
  | 0 => h
  | S + 1 => by
    have := fwS_F (g := g) (cov := cov) (all := all) h S
    unfold fwS
    split <;> omega
theorem fwS_iff {g cov F : Nat → Nat} {all c x : Nat} (hx : x < 100000) : ∀ S, fwS g cov F all c S ≤ x ↔ F c ≤ x ∨ ∃ s q, (s < S ∧ g s < 100000) ∧ q ≤ all ∧ q ||| cov s = c ∧ F q + 1 ≤ x
  | 0 => by
    show F c ≤ x ↔ _
    constructor
    · exact Or.inl
    · rintro (h | ⟨s, q, ⟨h, _⟩, _⟩)
      · exact h
      · omega
  | S + 1 => by
    have ih := fwS_iff (g := g) (cov := cov) (F := F) (all := all) (c := c) hx S
    unfold fwS
    by_cases hg : g S < 100000
    · rw [if_pos hg, show (min (fwS g cov F all c S) (minN (fun q => if q ||| cov S = c then F q + 1 else 100000) (all + 1)) ≤ x) ↔ (fwS g cov F all c S ≤ x ∨ minN (fun q => if q ||| cov S = c then F q + 1 else 100000) (all + 1) ≤ x) by omega, ih, minN_iff _ hx]
      constructor
      · rintro ((h | ⟨s, q, ⟨h1, h2⟩, h3⟩) | ⟨q, h1, h2⟩)
        · exact Or.inl h
        · exact Or.inr ⟨s, q, ⟨by omega, h2⟩, h3⟩
        · by_cases e : q ||| cov S = c
          · rw [if_pos e] at h2
            exact Or.inr ⟨S, q, ⟨by omega, hg⟩, by omega, e, h2⟩
          · rw [if_neg e] at h2
            omega
      · rintro (h | ⟨s, q, ⟨h1, h2⟩, h3, h4, h5⟩)
        · exact Or.inl (Or.inl h)
        · by_cases e : s = S
          · subst e
            exact Or.inr ⟨q, by omega, by rw [if_pos h4]; exact h5⟩
          · exact Or.inl (Or.inr ⟨s, q, ⟨by omega, h2⟩, h3, h4, h5⟩)
    · rw [if_neg hg, ih]
      constructor
      · rintro (h | ⟨s, q, ⟨h1, h2⟩, h3⟩)
        · exact Or.inl h
        · exact Or.inr ⟨s, q, ⟨by omega, h2⟩, h3⟩
      · rintro (h | ⟨s, q, ⟨h1, h2⟩, h3⟩)
        · exact Or.inl h
        · by_cases e : s = S
          · subst e; exact absurd h2 hg
          · exact Or.inr ⟨s, q, ⟨by omega, h2⟩, h3⟩
theorem eq_of_iff {a b : Nat} (ha : a ≤ 100000) (hb : b ≤ 100000) (h : ∀ x, x < 100000 → (a ≤ x ↔ b ≤ x)) : a = b := by
  by_cases h1 : a < 100000
  · have := (h a h1).mp (Nat.le_refl _)
    by_cases h2 : b < 100000
    · have := (h b h2).mpr (Nat.le_refl _)
      omega
    · omega
  · by_cases h2 : b < 100000
    · have := (h b h2).mpr (Nat.le_refl _)
      omega
    · omega
noncomputable def fwG (v : Nat → Nat) (a e S : Nat) : Nat := gG (thN v a) (rA v (rdC v a) (v 6 + e) (thHs v a)) (rD v (thHs v a)) (fun q => 0 + dD v a (thHs v a q)) S
noncomputable def fwC (v : Nat → Nat) (a e S : Nat) : Nat := cvB (cvP v (thHs v a) (thN v a) (tnI v a) S (v 6 + e)) (tnN v a)
noncomputable def fwD (v : Nat → Nat) (a : Nat) : Nat → Nat → Nat
  | 0 => fun c => if c = 0 then 0 else 100000
  | e + 1 => fun c => fwS (fwG v a e) (fwC v a e) (fwD v a e) (2 ^ tnN v a - 1) c (2 ^ thN v a)
theorem fwD_F (v : Nat → Nat) (a : Nat) : ∀ e c, fwD v a e c ≤ 100000
  | 0, c => by
    show (if c = 0 then 0 else 100000) ≤ 100000
    split <;> omega
  | e + 1, c => fwS_F (fwD_F v a e c) _
theorem fwC_lt (v : Nat → Nat) (a e S : Nat) : fwC v a e S < 2 ^ tnN v a := cvB_lt _ _
theorem or_le {a b n : Nat} (ha : a ≤ 2 ^ n - 1) (hb : b < 2 ^ n) : a ||| b ≤ 2 ^ n - 1 := by
  have hp := Nat.two_pow_pos n
  have : a ||| b < 2 ^ n := Nat.or_lt_two_pow (by omega) hb
  omega
noncomputable def rFew (v : Nat → Nat) (a : Int32) : Int32 := if zin a (v 0) = true then eM (fwD v (zx a) (min 7 (400 - v 6)) (2 ^ tnN v (zx a) - 1)) else -2
/-! the component's fewest -/
section CF
variable {d : Nat} {B : Nat → Prop} {z : ZH} {Q : ZQ} {v : Nat → Nat} {L : Nat → List (Nat × Nat)} {t hl kn rl : Nat} {ha ra da ea : Nat → Nat} {K : Nat}
/-- the days so far -/
def cW (z : ZH) (ha : Nat → Nat) (v : Nat → Nat) (a e : Nat) (z3 : ZH) : Prop := cFr z z3 ∧ (∃ y, aL z3 ha a y (thHs v a) (thN v a)) ∧ ∀ c, c ≤ 2 ^ tnN v a - 1 → zia z3 128 c = nI (fwD v a e c)
theorem aL_fr {z2 z3 : ZH} {a y n : Nat} {hs : Nat → Nat} (h : aL z2 ha a y hs n) (h1 : zfi z3 122 = zfi z2 122) (h2 : zfr z3 122 = zfr z2 122) (h3 : zia z3 123 = zia z2 123) : aL z3 ha a y hs n := ⟨by rw [h1]; exact h.1, by rw [h1]; exact h.2.1, by rw [h1]; exact h.2.2.1, by rw [h2]; exact h.2.2.2.1, fun k hk => by rw [h3]; exact h.2.2.2.2 k hk⟩
theorem c36 (h : NW B z v L t hl kn rl ha ra da ea) (nB : ∀ q, B q → ¬ (122 ≤ q ∧ q ≤ 130)) (hT : wT v) (hv : ∀ i, v i < 1073741824) (hWD : wD v) (h8 : v 8 ≤ 600) (h6 : v 6 ≤ 399) {a : Int32} (H : ∀ z2, cFr z z2 → Q (.inl (some (.int (rFew v a)))) z2) : ZC zG (d + 4) 36 [.ref 100, .int a] z Q := by
  have h0 := h.1
  unfold CS at h0
  have hv2 : ∀ i, v i < 2147483648 := fun i => by have := hv i; omega
  have h16 := hT.1
  have c := fun d Q a => c14 (d := d) (Q := Q) h (a := a)
  unfold rFew at H
  cases hz : zin a (v 0) with
  | false =>
    rw [hz, if_neg (by decide)] at H
    simp (disch := omega) only [e36, s36_0, s36_1, s36_2, s36_5, s36_8, s36_10, s36_11, s36_12, s36_13, s36_16, s36_17, s36_18, s36_19, s36_20, s36_21, s36_22, s36_23, s36_24, s36_28, s36_29, s36_32, s36_33, s36_36, s36_38, s36_41, s36_42, s36_45, s36_48, s36_49, s36_52, s36_53, s36_54, s36_55, s36_56, s36_59, s36_62, s36_66, s36_67, s36_70, s36_73, s36_75, s36_76, s36_79, s36_81, s36_84, s36_87, s36_88, s36_91, s36_93, s36_96, s36_97, s36_100, s36_103, s36_104, s36_107, s36_108, s36_109, s36_112, s36_113, s36_114, s36_115, s36_116, s36_119, s36_120, s36_124, s36_125, s36_126, s36_129, s36_132, s36_133, s36_136, s36_137, s36_140, s36_142, s36_145, s36_148, s36_151, s36_154, s36_155, s36_156, s36_157, s36_159, s36_161, s36_164, s36_166, s36_167, s36_171, s36_172, s36_175, s36_176, s36_179, s36_181, s36_183, s36_184, s36_185, s36_188, s36_190, s36_192, s36_193, s36_194, s36_195, s36_198, s36_200, s36_201, s36_202, s36_203, s36_206, s36_207, s36_210, s36_213, s36_216, s36_219, s36_220, s36_223, s36_224, s36_225, s36_228, s36_229, s36_230, s36_231, s36_232, s36_235, s36_238, s36_241, s36_242, s36_245, s36_246, s36_247, s36_250, s36_253, s36_254, s36_257, s36_258, s36_261, s36_262, s36_263, zcs_0, zcs_1, zcs_2, zcs_3, zcs_4, zcs_5, zcs_6, zcs_7, znl_i, znl_r, znl_n, Bool.and_true, Bool.true_and, zk_v, zk_n, zk_x, zir_r, zir_n, zclr_i, zclr_r, zclr_n, zclr_d, zclr_l, true_and, and_true, and_self, if_true, if_false, reduceIte, nI_add, pk_mul, zin_ok, zx_nI, nI_lt2, nI_le2, nI_eq2, nI_l0, nI_g0, nI_q0, nI_p0, nI_n0, nI_m1, Nat.add_zero, Nat.zero_add, Nat.reduceAdd, Nat.reduceMul, true_or, or_true, znar_50, bI_0, bI_1, bI_z, bft, nI_z0, nI_z1, lgc_lt, lgc_gt, lgc_le, lgc_ge, lgc_eq, not_true_eq_false, not_false_eq_true, Bool.not_eq_true, Bool.not_eq_false, reduceCtorEq, h0, c, hz]
    exact H z (cFr_refl z)
  | true =>
    obtain ⟨a, g1, g2, rfl⟩ := zin_of hz
    rw [hz, if_pos rfl, zx_nI g2] at H
    have hm := tnN_le v a
    obtain ⟨hN, hN0⟩ := pow10 hm
    have hO := th_OK h16 hWD a
    obtain ⟨hN2, hN20⟩ := pow10 hO.1
    have hth := hO.1
    simp (disch := omega) only [e36, s36_0, s36_1, s36_2, s36_5, s36_8, s36_10, s36_11, s36_12, s36_13, s36_16, s36_17, s36_18, s36_19, s36_20, s36_21, s36_22, s36_23, s36_24, s36_28, s36_29, s36_32, s36_33, s36_36, s36_38, s36_41, s36_42, s36_45, s36_48, s36_49, s36_52, s36_53, s36_54, s36_55, s36_56, s36_59, s36_62, s36_66, s36_67, s36_70, s36_73, s36_75, s36_76, s36_79, s36_81, s36_84, s36_87, s36_88, s36_91, s36_93, s36_96, s36_97, s36_100, s36_103, s36_104, s36_107, s36_108, s36_109, s36_112, s36_113, s36_114, s36_115, s36_116, s36_119, s36_120, s36_124, s36_125, s36_126, s36_129, s36_132, s36_133, s36_136, s36_137, s36_140, s36_142, s36_145, s36_148, s36_151, s36_154, s36_155, s36_156, s36_157, s36_159, s36_161, s36_164, s36_166, s36_167, s36_171, s36_172, s36_175, s36_176, s36_179, s36_181, s36_183, s36_184, s36_185, s36_188, s36_190, s36_192, s36_193, s36_194, s36_195, s36_198, s36_200, s36_201, s36_202, s36_203, s36_206, s36_207, s36_210, s36_213, s36_216, s36_219, s36_220, s36_223, s36_224, s36_225, s36_228, s36_229, s36_230, s36_231, s36_232, s36_235, s36_238, s36_241, s36_242, s36_245, s36_246, s36_247, s36_250, s36_253, s36_254, s36_257, s36_258, s36_261, s36_262, s36_263, zcs_0, zcs_1, zcs_2, zcs_3, zcs_4, zcs_5, zcs_6, zcs_7, znl_i, znl_r, znl_n, Bool.and_true, Bool.true_and, zk_v, zk_n, zk_x, zir_r, zir_n, zclr_i, zclr_r, zclr_n, zclr_d, zclr_l, true_and, and_true, and_self, if_true, if_false, reduceIte, nI_add, pk_mul, zin_ok, zx_nI, nI_lt2, nI_le2, nI_eq2, nI_l0, nI_g0, nI_q0, nI_p0, nI_n0, nI_m1, Nat.add_zero, Nat.zero_add, Nat.reduceAdd, Nat.reduceMul, true_or, or_true, znar_50, bI_0, bI_1, bI_z, bft, nI_z0, nI_z1, lgc_lt, lgc_gt, lgc_le, lgc_ge, lgc_eq, not_true_eq_false, not_false_eq_true, Bool.not_eq_true, Bool.not_eq_false, reduceCtorEq, h0, c, hz]
    refine c37 h nB hv2 hWD g1 (fun z2 f1 f2 => ?_)
    have k0 := (NW_cFr h nB f1).1
    unfold CS at k0
    simp (disch := omega) only [s36_0, s36_1, s36_2, s36_5, s36_8, s36_10, s36_11, s36_12, s36_13, s36_16, s36_17, s36_18, s36_19, s36_20, s36_21, s36_22, s36_23, s36_24, s36_28, s36_29, s36_32, s36_33, s36_36, s36_38, s36_41, s36_42, s36_45, s36_48, s36_49, s36_52, s36_53, s36_54, s36_55, s36_56, s36_59, s36_62, s36_66, s36_67, s36_70, s36_73, s36_75, s36_76, s36_79, s36_81, s36_84, s36_87, s36_88, s36_91, s36_93, s36_96, s36_97, s36_100, s36_103, s36_104, s36_107, s36_108, s36_109, s36_112, s36_113, s36_114, s36_115, s36_116, s36_119, s36_120, s36_124, s36_125, s36_126, s36_129, s36_132, s36_133, s36_136, s36_137, s36_140, s36_142, s36_145, s36_148, s36_151, s36_154, s36_155, s36_156, s36_157, s36_159, s36_161, s36_164, s36_166, s36_167, s36_171, s36_172, s36_175, s36_176, s36_179, s36_181, s36_183, s36_184, s36_185, s36_188, s36_190, s36_192, s36_193, s36_194, s36_195, s36_198, s36_200, s36_201, s36_202, s36_203, s36_206, s36_207, s36_210, s36_213, s36_216, s36_219, s36_220, s36_223, s36_224, s36_225, s36_228, s36_229, s36_230, s36_231, s36_232, s36_235, s36_238, s36_241, s36_242, s36_245, s36_246, s36_247, s36_250, s36_253, s36_254, s36_257, s36_258, s36_261, s36_262, s36_263, zcs_0, zcs_1, zcs_2, zcs_3, zcs_4, zcs_5, zcs_6, zcs_7, znl_i, znl_r, znl_n, Bool.and_true, Bool.true_and, zk_v, zk_n, zk_x, zir_r, zir_n, zclr_i, zclr_r, zclr_n, zclr_d, zclr_l, true_and, and_true, and_self, if_true, if_false, reduceIte, nI_add, pk_mul, zin_ok, zx_nI, nI_lt2, nI_le2, nI_eq2, nI_l0, nI_g0, nI_q0, nI_p0, nI_n0, nI_m1, Nat.add_zero, Nat.zero_add, Nat.reduceAdd, Nat.reduceMul, true_or, or_true, znar_50, bI_0, bI_1, bI_z, bft, nI_z0, nI_z1, lgc_lt, lgc_gt, lgc_le, lgc_ge, lgc_eq, not_true_eq_false, not_false_eq_true, Bool.not_eq_true, Bool.not_eq_false, reduceCtorEq, k0, nI_sh1, pk_sub]
    have hn89 : ¬ (128 : Nat) = 129 := by decide
    have hn98 : ¬ (129 : Nat) = 128 := by decide
    -- the days
    have days := zl_inv (P := fun e (w : ZH × Value × Value × Value) => ZW zG (d + 4) 36 64 [.ref 100, .int (nI a), .int (nI (tnN v a)), .int (nI (2 ^ tnN v a - 1)), .int (nI (v 6 + e)), w.2.1, w.2.2.1, w.2.2.2] [] w.1 Q) (I := fun e w => cW z ha v a e w.1) (min 7 (400 - v 6)) (by
      rintro ⟨z3, x5, x6, x7⟩ ⟨i1, i2, i3⟩
      have hN3 := NW_cFr h nB i1
      have k0 := hN3.1
      unfold CS at k0
      have k6 := hN3.2.2.2.2.2.2.2.2
      have H1 := H z3 i1
      have r := i3 (2 ^ tnN v a - 1) (Nat.le_refl _)
      have rF := fwD_F v a (min 7 (400 - v 6)) (2 ^ tnN v a - 1)
      generalize fwD v a (min 7 (400 - v 6)) (2 ^ tnN v a - 1) = F at r rF H1
      have fin : ZW zG (d + 4) 36 241 [.ref 100, .int (nI a), .int (nI (tnN v a)), .int (nI (2 ^ tnN v a - 1)), .int (nI (v 6 + min 7 (400 - v 6))), x5, x6, x7] [] z3 Q := by
        by_cases hF : F < 100000
        · rw [eM_lt hF] at H1
          simp (disch := omega) only [s36_0, s36_1, s36_2, s36_5, s36_8, s36_10, s36_11, s36_12, s36_13, s36_16, s36_17, s36_18, s36_19, s36_20, s36_21, s36_22, s36_23, s36_24, s36_28, s36_29, s36_32, s36_33, s36_36, s36_38, s36_41, s36_42, s36_45, s36_48, s36_49, s36_52, s36_53, s36_54, s36_55, s36_56, s36_59, s36_62, s36_66, s36_67, s36_70, s36_73, s36_75, s36_76, s36_79, s36_81, s36_84, s36_87, s36_88, s36_91, s36_93, s36_96, s36_97, s36_100, s36_103, s36_104, s36_107, s36_108, s36_109, s36_112, s36_113, s36_114, s36_115, s36_116, s36_119, s36_120, s36_124, s36_125, s36_126, s36_129, s36_132, s36_133, s36_136, s36_137, s36_140, s36_142, s36_145, s36_148, s36_151, s36_154, s36_155, s36_156, s36_157, s36_159, s36_161, s36_164, s36_166, s36_167, s36_171, s36_172, s36_175, s36_176, s36_179, s36_181, s36_183, s36_184, s36_185, s36_188, s36_190, s36_192, s36_193, s36_194, s36_195, s36_198, s36_200, s36_201, s36_202, s36_203, s36_206, s36_207, s36_210, s36_213, s36_216, s36_219, s36_220, s36_223, s36_224, s36_225, s36_228, s36_229, s36_230, s36_231, s36_232, s36_235, s36_238, s36_241, s36_242, s36_245, s36_246, s36_247, s36_250, s36_253, s36_254, s36_257, s36_258, s36_261, s36_262, s36_263, zcs_0, zcs_1, zcs_2, zcs_3, zcs_4, zcs_5, zcs_6, zcs_7, znl_i, znl_r, znl_n, Bool.and_true, Bool.true_and, zk_v, zk_n, zk_x, zir_r, zir_n, zclr_i, zclr_r, zclr_n, zclr_d, zclr_l, true_and, and_true, and_self, if_true, if_false, reduceIte, nI_add, pk_mul, zin_ok, zx_nI, nI_lt2, nI_le2, nI_eq2, nI_l0, nI_g0, nI_q0, nI_p0, nI_n0, nI_m1, Nat.add_zero, Nat.zero_add, Nat.reduceAdd, Nat.reduceMul, true_or, or_true, znar_50, bI_0, bI_1, bI_z, bft, nI_z0, nI_z1, lgc_lt, lgc_gt, lgc_le, lgc_ge, lgc_eq, not_true_eq_false, not_false_eq_true, Bool.not_eq_true, Bool.not_eq_false, reduceCtorEq, k0, r, hF]
          exact H1
        · rw [eM_ge hF] at H1
          simp (disch := omega) only [s36_0, s36_1, s36_2, s36_5, s36_8, s36_10, s36_11, s36_12, s36_13, s36_16, s36_17, s36_18, s36_19, s36_20, s36_21, s36_22, s36_23, s36_24, s36_28, s36_29, s36_32, s36_33, s36_36, s36_38, s36_41, s36_42, s36_45, s36_48, s36_49, s36_52, s36_53, s36_54, s36_55, s36_56, s36_59, s36_62, s36_66, s36_67, s36_70, s36_73, s36_75, s36_76, s36_79, s36_81, s36_84, s36_87, s36_88, s36_91, s36_93, s36_96, s36_97, s36_100, s36_103, s36_104, s36_107, s36_108, s36_109, s36_112, s36_113, s36_114, s36_115, s36_116, s36_119, s36_120, s36_124, s36_125, s36_126, s36_129, s36_132, s36_133, s36_136, s36_137, s36_140, s36_142, s36_145, s36_148, s36_151, s36_154, s36_155, s36_156, s36_157, s36_159, s36_161, s36_164, s36_166, s36_167, s36_171, s36_172, s36_175, s36_176, s36_179, s36_181, s36_183, s36_184, s36_185, s36_188, s36_190, s36_192, s36_193, s36_194, s36_195, s36_198, s36_200, s36_201, s36_202, s36_203, s36_206, s36_207, s36_210, s36_213, s36_216, s36_219, s36_220, s36_223, s36_224, s36_225, s36_228, s36_229, s36_230, s36_231, s36_232, s36_235, s36_238, s36_241, s36_242, s36_245, s36_246, s36_247, s36_250, s36_253, s36_254, s36_257, s36_258, s36_261, s36_262, s36_263, zcs_0, zcs_1, zcs_2, zcs_3, zcs_4, zcs_5, zcs_6, zcs_7, znl_i, znl_r, znl_n, Bool.and_true, Bool.true_and, zk_v, zk_n, zk_x, zir_r, zir_n, zclr_i, zclr_r, zclr_n, zclr_d, zclr_l, true_and, and_true, and_self, if_true, if_false, reduceIte, nI_add, pk_mul, zin_ok, zx_nI, nI_lt2, nI_le2, nI_eq2, nI_l0, nI_g0, nI_q0, nI_p0, nI_n0, nI_m1, Nat.add_zero, Nat.zero_add, Nat.reduceAdd, Nat.reduceMul, true_or, or_true, znar_50, bI_0, bI_1, bI_z, bft, nI_z0, nI_z1, lgc_lt, lgc_gt, lgc_le, lgc_ge, lgc_eq, not_true_eq_false, not_false_eq_true, Bool.not_eq_true, Bool.not_eq_false, reduceCtorEq, k0, r, hF]
          exact H1
      refine Eq.mpr s36_64 ?_
      by_cases c7 : v 6 + 7 ≤ v 6 + min 7 (400 - v 6)
      · simp (disch := omega) only [s36_0, s36_1, s36_2, s36_5, s36_8, s36_10, s36_11, s36_12, s36_13, s36_16, s36_17, s36_18, s36_19, s36_20, s36_21, s36_22, s36_23, s36_24, s36_28, s36_29, s36_32, s36_33, s36_36, s36_38, s36_41, s36_42, s36_45, s36_48, s36_49, s36_52, s36_53, s36_54, s36_55, s36_56, s36_59, s36_62, s36_66, s36_67, s36_70, s36_73, s36_75, s36_76, s36_79, s36_81, s36_84, s36_87, s36_88, s36_91, s36_93, s36_96, s36_97, s36_100, s36_103, s36_104, s36_107, s36_108, s36_109, s36_112, s36_113, s36_114, s36_115, s36_116, s36_119, s36_120, s36_124, s36_125, s36_126, s36_129, s36_132, s36_133, s36_136, s36_137, s36_140, s36_142, s36_145, s36_148, s36_151, s36_154, s36_155, s36_156, s36_157, s36_159, s36_161, s36_164, s36_166, s36_167, s36_171, s36_172, s36_175, s36_176, s36_179, s36_181, s36_183, s36_184, s36_185, s36_188, s36_190, s36_192, s36_193, s36_194, s36_195, s36_198, s36_200, s36_201, s36_202, s36_203, s36_206, s36_207, s36_210, s36_213, s36_216, s36_219, s36_220, s36_223, s36_224, s36_225, s36_228, s36_229, s36_230, s36_231, s36_232, s36_235, s36_238, s36_242, s36_245, s36_246, s36_247, s36_250, s36_253, s36_254, s36_257, s36_258, s36_261, s36_262, s36_263, zcs_0, zcs_1, zcs_2, zcs_3, zcs_4, zcs_5, zcs_6, zcs_7, znl_i, znl_r, znl_n, Bool.and_true, Bool.true_and, zk_v, zk_n, zk_x, zir_r, zir_n, zclr_i, zclr_r, zclr_n, zclr_d, zclr_l, true_and, and_true, and_self, if_true, if_false, reduceIte, nI_add, pk_mul, zin_ok, zx_nI, nI_lt2, nI_le2, nI_eq2, nI_l0, nI_g0, nI_q0, nI_p0, nI_n0, nI_m1, Nat.add_zero, Nat.zero_add, Nat.reduceAdd, Nat.reduceMul, true_or, or_true, znar_50, bI_0, bI_1, bI_z, bft, nI_z0, nI_z1, lgc_lt, lgc_gt, lgc_le, lgc_ge, lgc_eq, not_true_eq_false, not_false_eq_true, Bool.not_eq_true, Bool.not_eq_false, reduceCtorEq, k0, k6, c7]
        exact fin
      · have c8 : 399 < v 6 + min 7 (400 - v 6) := by omega
        simp (disch := omega) only [s36_0, s36_1, s36_2, s36_5, s36_8, s36_10, s36_11, s36_12, s36_13, s36_16, s36_17, s36_18, s36_19, s36_20, s36_21, s36_22, s36_23, s36_24, s36_28, s36_29, s36_32, s36_33, s36_36, s36_38, s36_41, s36_42, s36_45, s36_48, s36_49, s36_52, s36_53, s36_54, s36_55, s36_56, s36_59, s36_62, s36_66, s36_67, s36_70, s36_73, s36_75, s36_76, s36_79, s36_81, s36_84, s36_87, s36_88, s36_91, s36_93, s36_96, s36_97, s36_100, s36_103, s36_104, s36_107, s36_108, s36_109, s36_112, s36_113, s36_114, s36_115, s36_116, s36_119, s36_120, s36_124, s36_125, s36_126, s36_129, s36_132, s36_133, s36_136, s36_137, s36_140, s36_142, s36_145, s36_148, s36_151, s36_154, s36_155, s36_156, s36_157, s36_159, s36_161, s36_164, s36_166, s36_167, s36_171, s36_172, s36_175, s36_176, s36_179, s36_181, s36_183, s36_184, s36_185, s36_188, s36_190, s36_192, s36_193, s36_194, s36_195, s36_198, s36_200, s36_201, s36_202, s36_203, s36_206, s36_207, s36_210, s36_213, s36_216, s36_219, s36_220, s36_223, s36_224, s36_225, s36_228, s36_229, s36_230, s36_231, s36_232, s36_235, s36_238, s36_242, s36_245, s36_246, s36_247, s36_250, s36_253, s36_254, s36_257, s36_258, s36_261, s36_262, s36_263, zcs_0, zcs_1, zcs_2, zcs_3, zcs_4, zcs_5, zcs_6, zcs_7, znl_i, znl_r, znl_n, Bool.and_true, Bool.true_and, zk_v, zk_n, zk_x, zir_r, zir_n, zclr_i, zclr_r, zclr_n, zclr_d, zclr_l, true_and, and_true, and_self, if_true, if_false, reduceIte, nI_add, pk_mul, zin_ok, zx_nI, nI_lt2, nI_le2, nI_eq2, nI_l0, nI_g0, nI_q0, nI_p0, nI_n0, nI_m1, Nat.add_zero, Nat.zero_add, Nat.reduceAdd, Nat.reduceMul, true_or, or_true, znar_50, bI_0, bI_1, bI_z, bft, nI_z0, nI_z1, lgc_lt, lgc_gt, lgc_le, lgc_ge, lgc_eq, not_true_eq_false, not_false_eq_true, Bool.not_eq_true, Bool.not_eq_false, reduceCtorEq, k0, k6, c7, c8]
        exact fin) (by
      rintro e ⟨z3, x5, x6, x7⟩ he ⟨i1, ⟨y, i2⟩, i3⟩ hnext
      dsimp only at i1 i2 i3
      replace hnext := fun z4 x5 x6 x7 h => hnext (z4, x5, x6, x7) h
      dsimp only at hnext
      have k0 := (NW_cFr h nB i1).1
      unfold CS at k0
      have k6 := (NW_cFr h nB i1).2.2.2.2.2.2.2.2
      have c7 : ¬ v 6 + 7 ≤ v 6 + e := by omega
      have c8 : ¬ 399 < v 6 + e := by omega
      refine Eq.mpr s36_64 ?_
      simp (disch := omega) only [s36_0, s36_1, s36_2, s36_5, s36_8, s36_10, s36_11, s36_12, s36_13, s36_16, s36_17, s36_18, s36_19, s36_20, s36_21, s36_22, s36_23, s36_24, s36_28, s36_29, s36_32, s36_33, s36_36, s36_38, s36_41, s36_42, s36_45, s36_48, s36_49, s36_52, s36_53, s36_54, s36_55, s36_56, s36_59, s36_62, s36_66, s36_67, s36_70, s36_73, s36_75, s36_76, s36_79, s36_81, s36_84, s36_87, s36_88, s36_91, s36_93, s36_96, s36_97, s36_100, s36_103, s36_104, s36_107, s36_108, s36_109, s36_112, s36_113, s36_114, s36_115, s36_116, s36_119, s36_120, s36_124, s36_125, s36_126, s36_129, s36_132, s36_133, s36_136, s36_137, s36_140, s36_142, s36_145, s36_148, s36_151, s36_154, s36_155, s36_156, s36_157, s36_159, s36_161, s36_164, s36_166, s36_167, s36_171, s36_172, s36_175, s36_176, s36_179, s36_181, s36_183, s36_184, s36_185, s36_188, s36_190, s36_192, s36_193, s36_194, s36_195, s36_198, s36_200, s36_201, s36_202, s36_203, s36_206, s36_207, s36_210, s36_213, s36_216, s36_219, s36_220, s36_223, s36_224, s36_225, s36_228, s36_229, s36_230, s36_231, s36_232, s36_235, s36_238, s36_241, s36_242, s36_245, s36_246, s36_247, s36_250, s36_253, s36_254, s36_257, s36_258, s36_261, s36_262, s36_263, zcs_0, zcs_1, zcs_2, zcs_3, zcs_4, zcs_5, zcs_6, zcs_7, znl_i, znl_r, znl_n, Bool.and_true, Bool.true_and, zk_v, zk_n, zk_x, zir_r, zir_n, zclr_i, zclr_r, zclr_n, zclr_d, zclr_l, true_and, and_true, and_self, if_true, if_false, reduceIte, nI_add, pk_mul, zin_ok, zx_nI, nI_lt2, nI_le2, nI_eq2, nI_l0, nI_g0, nI_q0, nI_p0, nI_n0, nI_m1, Nat.add_zero, Nat.zero_add, Nat.reduceAdd, Nat.reduceMul, true_or, or_true, znar_50, bI_0, bI_1, bI_z, bft, nI_z0, nI_z1, lgc_lt, lgc_gt, lgc_le, lgc_ge, lgc_eq, not_true_eq_false, not_false_eq_true, Bool.not_eq_true, Bool.not_eq_false, reduceCtorEq, k0, k6, c7, c8, cls_sfi, fi_sfi, fr_sfi, ia_sfi, la_sfi, ra_sfi, len_sfi, ls_sfi, own_sfi, n_sfi, uc_sfi, us_sfi]
      have i1' : cFr z (sfi z3 122 5 (nI (v 6 + e))) := cFr_sfi i1 _ _
      have i2' := aL_5 i2 (v 6 + e)
      have i3' : ∀ c, c ≤ 2 ^ tnN v a - 1 → zia (sfi z3 122 5 (nI (v 6 + e))) 128 c = nI (fwD v a e c) := i3
      generalize sfi z3 122 5 (nI (v 6 + e)) = z4 at i1' i2' i3'
      refine c98 (NW_cFr h nB i1') nB hT hv hWD i2' hO g1 (by omega) (fun f hf => ?_)
      have i4 : cFr z (sIA z4 124 f) := cFr_t i1' (cFr_sIA (cFr_refl z4) (by omega) f)
      have i5 := aL_124 i2' (show ¬ 124 = 123 by omega) f
      have i6 : ∀ c, c ≤ 2 ^ tnN v a - 1 → zia (sIA z4 124 f) 128 c = nI (fwD v a e c) := fun c hc => by rw [ia_sIA, zu1_n _ _ _ (by omega)]; exact i3' c hc
      have i7 : zia (sIA z4 124 f) 124 = f := by rw [ia_sIA, zu1_s]
      generalize sIA z4 124 f = z5 at i4 i5 i6 i7
      have j0 := (NW_cFr h nB i4).1
      unfold CS at j0
      have hle : 2 ^ tnN v a - 1 + 1 ≤ 1024 := by omega
      simp (disch := omega) only [s36_0, s36_1, s36_2, s36_5, s36_8, s36_10, s36_11, s36_12, s36_13, s36_16, s36_17, s36_18, s36_19, s36_20, s36_21, s36_22, s36_23, s36_24, s36_28, s36_29, s36_32, s36_33, s36_36, s36_38, s36_41, s36_42, s36_45, s36_48, s36_49, s36_52, s36_53, s36_54, s36_55, s36_56, s36_59, s36_62, s36_66, s36_67, s36_70, s36_73, s36_75, s36_76, s36_79, s36_81, s36_84, s36_87, s36_88, s36_91, s36_93, s36_96, s36_97, s36_100, s36_103, s36_104, s36_107, s36_108, s36_109, s36_112, s36_113, s36_114, s36_115, s36_116, s36_119, s36_120, s36_124, s36_125, s36_126, s36_129, s36_132, s36_133, s36_136, s36_137, s36_140, s36_142, s36_145, s36_148, s36_151, s36_154, s36_155, s36_156, s36_157, s36_159, s36_161, s36_164, s36_166, s36_167, s36_171, s36_172, s36_175, s36_176, s36_179, s36_181, s36_183, s36_184, s36_185, s36_188, s36_190, s36_192, s36_193, s36_194, s36_195, s36_198, s36_200, s36_201, s36_202, s36_203, s36_206, s36_207, s36_210, s36_213, s36_216, s36_219, s36_220, s36_223, s36_224, s36_225, s36_228, s36_229, s36_230, s36_231, s36_232, s36_235, s36_238, s36_241, s36_242, s36_245, s36_246, s36_247, s36_250, s36_253, s36_254, s36_257, s36_258, s36_261, s36_262, s36_263, zcs_0, zcs_1, zcs_2, zcs_3, zcs_4, zcs_5, zcs_6, zcs_7, znl_i, znl_r, znl_n, Bool.and_true, Bool.true_and, zk_v, zk_n, zk_x, zir_r, zir_n, zclr_i, zclr_r, zclr_n, zclr_d, zclr_l, true_and, and_true, and_self, if_true, if_false, reduceIte, nI_add, pk_mul, zin_ok, zx_nI, nI_lt2, nI_le2, nI_eq2, nI_l0, nI_g0, nI_q0, nI_p0, nI_n0, nI_m1, Nat.add_zero, Nat.zero_add, Nat.reduceAdd, Nat.reduceMul, true_or, or_true, znar_50, bI_0, bI_1, bI_z, bft, nI_z0, nI_z1, lgc_lt, lgc_gt, lgc_le, lgc_ge, lgc_eq, not_true_eq_false, not_false_eq_true, Bool.not_eq_true, Bool.not_eq_false, reduceCtorEq, j0, hn89, hle, not_false_eq_true]
      -- the sets
      have sets := zl_inv (P := fun S (w : ZH × Value × Value) => ZW zG (d + 4) 36 122 [.ref 100, .int (nI a), .int (nI (tnN v a)), .int (nI (2 ^ tnN v a - 1)), .int (nI (v 6 + e)), .int (nI S), w.2.1, w.2.2] [] w.1 Q) (I := fun S w => 1 ≤ S ∧ cFr z w.1 ∧ aL w.1 ha a (v 6 + e) (thHs v a) (thN v a) ∧ (∀ c, c ≤ 2 ^ tnN v a - 1 → zia w.1 128 c = nI (fwD v a e c)) ∧ zia w.1 124 = f ∧ (∀ c, c ≤ 2 ^ tnN v a - 1 → zia w.1 129 c = nI (fwS (fwG v a e) (fwC v a e) (fwD v a e) (2 ^ tnN v a - 1) c S))) (2 ^ thN v a) (by
        rintro ⟨z6, u6, u7⟩ ⟨_, q1, q2, q3, q4, q5⟩
        dsimp only at q1 q2 q3 q4 q5
        have l0 := (NW_cFr h nB q1).1
        unfold CS at l0
        have l4 := q2.1
        refine Eq.mpr s36_122 ?_
        simp (disch := omega) only [s36_0, s36_1, s36_2, s36_5, s36_8, s36_10, s36_11, s36_12, s36_13, s36_16, s36_17, s36_18, s36_19, s36_20, s36_21, s36_22, s36_23, s36_24, s36_28, s36_29, s36_32, s36_33, s36_36, s36_38, s36_41, s36_42, s36_45, s36_48, s36_49, s36_52, s36_53, s36_54, s36_55, s36_56, s36_59, s36_62, s36_66, s36_67, s36_70, s36_73, s36_75, s36_76, s36_79, s36_81, s36_84, s36_87, s36_88, s36_91, s36_93, s36_96, s36_97, s36_100, s36_103, s36_104, s36_107, s36_108, s36_109, s36_112, s36_113, s36_114, s36_115, s36_116, s36_119, s36_120, s36_124, s36_125, s36_126, s36_129, s36_132, s36_133, s36_136, s36_137, s36_140, s36_142, s36_145, s36_148, s36_151, s36_154, s36_155, s36_156, s36_157, s36_159, s36_161, s36_164, s36_166, s36_167, s36_171, s36_172, s36_175, s36_176, s36_179, s36_181, s36_183, s36_184, s36_185, s36_188, s36_190, s36_192, s36_193, s36_194, s36_195, s36_198, s36_200, s36_201, s36_202, s36_203, s36_206, s36_207, s36_210, s36_213, s36_216, s36_219, s36_220, s36_223, s36_224, s36_225, s36_228, s36_229, s36_230, s36_231, s36_232, s36_235, s36_238, s36_241, s36_242, s36_245, s36_246, s36_247, s36_250, s36_253, s36_254, s36_257, s36_258, s36_261, s36_262, s36_263, zcs_0, zcs_1, zcs_2, zcs_3, zcs_4, zcs_5, zcs_6, zcs_7, znl_i, znl_r, znl_n, Bool.and_true, Bool.true_and, zk_v, zk_n, zk_x, zir_r, zir_n, zclr_i, zclr_r, zclr_n, zclr_d, zclr_l, true_and, and_true, and_self, if_true, if_false, reduceIte, nI_add, pk_mul, zin_ok, zx_nI, nI_lt2, nI_le2, nI_eq2, nI_l0, nI_g0, nI_q0, nI_p0, nI_n0, nI_m1, Nat.add_zero, Nat.zero_add, Nat.reduceAdd, Nat.reduceMul, true_or, or_true, znar_50, bI_0, bI_1, bI_z, bft, nI_z0, nI_z1, lgc_lt, lgc_gt, lgc_le, lgc_ge, lgc_eq, not_true_eq_false, not_false_eq_true, Bool.not_eq_true, Bool.not_eq_false, reduceCtorEq, l0, l4, nI_sh1, Nat.le_refl, hn98, hle, not_false_eq_true, Nat.add_assoc]
        refine hnext _ _ _ _ ⟨cFr_sIA q1 (by omega) _, ⟨_, aL_124 q2 (by omega) _⟩, fun c hc => ?_⟩
        rw [ia_sIA, zu1_s, va_cpy, if_pos (by omega)]
        rw [show 0 + (c - 0) = c by omega]
        exact q5 c hc) (by
        rintro S ⟨z6, u6, u7⟩ hS ⟨q0, q1, q2, q3, q4, q5⟩ hn6
        dsimp only at q1 q2 q3 q4 q5
        replace hn6 := fun z7 u6 u7 h => hn6 (z7, u6, u7) h
        dsimp only at hn6
        have hN6 := NW_cFr h nB q1
        have l0 := hN6.1
        unfold CS at l0
        have l4 := q2.1
        have g3 : ¬ 2 ^ thN v a ≤ S := by omega
        have co := fun d Q => c103 (d := d) (Q := Q) hN6 l4 hth hS (show ¬ S = 0 by omega) (fun l hl => by rw [q4]; exact hf S l hS hl) (fun l _ => eE_F rA_OK)
        have hgg : minN (eE (thN v a) (rA v (rdC v a) (v 6 + e) (thHs v a)) (rD v (thHs v a)) (fun q => 0 + dD v a (thHs v a q)) S) (thN v a) = fwG v a e S := rfl
        rw [hgg] at co
        have hgl : fwG v a e S ≤ 100000 := gG_le
        have cc := fun d Q => c38 (d := d) (Q := Q) (a := a) hN6 hv2 ⟨l4, q2.2.2.2.2⟩ hth (fun k hk => by have := hO.2 k hk; omega) (show S < 1024 by omega) (show v 6 + e < 1000 by omega)
        have hcc : cvB (cvP v (thHs v a) (thN v a) (tnI v a) S (v 6 + e)) (tnN v a) = fwC v a e S := rfl
        rw [hcc] at cc
        have hcl := fwC_lt v a e S
        have hst : ∀ c, fwS (fwG v a e) (fwC v a e) (fwD v a e) (2 ^ tnN v a - 1) c (S + 1) = if fwG v a e S < 100000 then min (fwS (fwG v a e) (fwC v a e) (fwD v a e) (2 ^ tnN v a - 1) c S) (minN (fun q => if q ||| fwC v a e S = c then fwD v a e q + 1 else 100000) (2 ^ tnN v a - 1 + 1)) else fwS (fwG v a e) (fwC v a e) (fwD v a e) (2 ^ tnN v a - 1) c S := fun _ => rfl
        have hWF : ∀ c, fwS (fwG v a e) (fwC v a e) (fwD v a e) (2 ^ tnN v a - 1) c S ≤ 100000 := fun c => fwS_F (fwD_F v a e c) S
        have hDF := fwD_F v a e
        generalize fwC v a e S = C at *
        refine Eq.mpr s36_122 ?_
        by_cases hg : fwG v a e S < 100000
        · have hg' : ¬ fwG v a e S = 100000 := by omega
          simp only [if_pos hg] at hst
          simp (disch := omega) only [s36_0, s36_1, s36_2, s36_5, s36_8, s36_10, s36_11, s36_12, s36_13, s36_16, s36_17, s36_18, s36_19, s36_20, s36_21, s36_22, s36_23, s36_24, s36_28, s36_29, s36_32, s36_33, s36_36, s36_38, s36_41, s36_42, s36_45, s36_48, s36_49, s36_52, s36_53, s36_54, s36_55, s36_56, s36_59, s36_62, s36_66, s36_67, s36_70, s36_73, s36_75, s36_76, s36_79, s36_81, s36_84, s36_87, s36_88, s36_91, s36_93, s36_96, s36_97, s36_100, s36_103, s36_104, s36_107, s36_108, s36_109, s36_112, s36_113, s36_114, s36_115, s36_116, s36_119, s36_120, s36_124, s36_125, s36_126, s36_129, s36_132, s36_133, s36_136, s36_137, s36_140, s36_142, s36_145, s36_148, s36_151, s36_154, s36_155, s36_156, s36_157, s36_159, s36_161, s36_164, s36_166, s36_167, s36_171, s36_172, s36_175, s36_176, s36_179, s36_181, s36_183, s36_184, s36_185, s36_188, s36_190, s36_192, s36_193, s36_194, s36_195, s36_198, s36_200, s36_201, s36_202, s36_203, s36_206, s36_207, s36_210, s36_213, s36_216, s36_219, s36_220, s36_223, s36_224, s36_225, s36_228, s36_229, s36_230, s36_231, s36_232, s36_235, s36_238, s36_241, s36_242, s36_245, s36_246, s36_247, s36_250, s36_253, s36_254, s36_257, s36_258, s36_261, s36_262, s36_263, zcs_0, zcs_1, zcs_2, zcs_3, zcs_4, zcs_5, zcs_6, zcs_7, znl_i, znl_r, znl_n, Bool.and_true, Bool.true_and, zk_v, zk_n, zk_x, zir_r, zir_n, zclr_i, zclr_r, zclr_n, zclr_d, zclr_l, true_and, and_true, and_self, if_true, if_false, reduceIte, nI_add, pk_mul, zin_ok, zx_nI, nI_lt2, nI_le2, nI_eq2, nI_l0, nI_g0, nI_q0, nI_p0, nI_n0, nI_m1, Nat.add_zero, Nat.zero_add, Nat.reduceAdd, Nat.reduceMul, true_or, or_true, znar_50, bI_0, bI_1, bI_z, bft, nI_z0, nI_z1, lgc_lt, lgc_gt, lgc_le, lgc_ge, lgc_eq, not_true_eq_false, not_false_eq_true, Bool.not_eq_true, Bool.not_eq_false, reduceCtorEq, l0, l4, nI_sh1, g3, co, hg', cc]
          have ms := zl_inv (P := fun q (z7 : ZH) => ZW zG (d + 4) 36 169 [.ref 100, .int (nI a), .int (nI (tnN v a)), .int (nI (2 ^ tnN v a - 1)), .int (nI (v 6 + e)), .int (nI S), .int (nI C), .int (nI q)] [] z7 Q) (I := fun q z7 => cFr z z7 ∧ aL z7 ha a (v 6 + e) (thHs v a) (thN v a) ∧ (∀ c, c ≤ 2 ^ tnN v a - 1 → zia z7 128 c = nI (fwD v a e c)) ∧ zia z7 124 = f ∧ (∀ c, c ≤ 2 ^ tnN v a - 1 → zia z7 129 c = nI (min (fwS (fwG v a e) (fwC v a e) (fwD v a e) (2 ^ tnN v a - 1) c S) (minN (fun q => if q ||| C = c then fwD v a e q + 1 else 100000) q)))) (2 ^ tnN v a - 1 + 1) (by
            rintro z7 ⟨p1, p2, p3, p4, p5⟩
            have g4 : 2 ^ tnN v a - 1 < 2 ^ tnN v a - 1 + 1 := Nat.lt_succ_self _
            refine Eq.mpr s36_169 ?_
            simp (disch := omega) only [s36_0, s36_1, s36_2, s36_5, s36_8, s36_10, s36_11, s36_12, s36_13, s36_16, s36_17, s36_18, s36_19, s36_20, s36_21, s36_22, s36_23, s36_24, s36_28, s36_29, s36_32, s36_33, s36_36, s36_38, s36_41, s36_42, s36_45, s36_48, s36_49, s36_52, s36_53, s36_54, s36_55, s36_56, s36_59, s36_62, s36_66, s36_67, s36_70, s36_73, s36_75, s36_76, s36_79, s36_81, s36_84, s36_87, s36_88, s36_91, s36_93, s36_96, s36_97, s36_100, s36_103, s36_104, s36_107, s36_108, s36_109, s36_112, s36_113, s36_114, s36_115, s36_116, s36_119, s36_120, s36_124, s36_125, s36_126, s36_129, s36_132, s36_133, s36_136, s36_137, s36_140, s36_142, s36_145, s36_148, s36_151, s36_154, s36_155, s36_156, s36_157, s36_159, s36_161, s36_164, s36_166, s36_167, s36_171, s36_172, s36_175, s36_176, s36_179, s36_181, s36_183, s36_184, s36_185, s36_188, s36_190, s36_192, s36_193, s36_194, s36_195, s36_198, s36_200, s36_201, s36_202, s36_203, s36_206, s36_207, s36_210, s36_213, s36_216, s36_219, s36_220, s36_223, s36_224, s36_225, s36_228, s36_229, s36_230, s36_231, s36_232, s36_235, s36_238, s36_241, s36_242, s36_245, s36_246, s36_247, s36_250, s36_253, s36_254, s36_257, s36_258, s36_261, s36_262, s36_263, zcs_0, zcs_1, zcs_2, zcs_3, zcs_4, zcs_5, zcs_6, zcs_7, znl_i, znl_r, znl_n, Bool.and_true, Bool.true_and, zk_v, zk_n, zk_x, zir_r, zir_n, zclr_i, zclr_r, zclr_n, zclr_d, zclr_l, true_and, and_true, and_self, if_true, if_false, reduceIte, nI_add, pk_mul, zin_ok, zx_nI, nI_lt2, nI_le2, nI_eq2, nI_l0, nI_g0, nI_q0, nI_p0, nI_n0, nI_m1, Nat.add_zero, Nat.zero_add, Nat.reduceAdd, Nat.reduceMul, true_or, or_true, znar_50, bI_0, bI_1, bI_z, bft, nI_z0, nI_z1, lgc_lt, lgc_gt, lgc_le, lgc_ge, lgc_eq, not_true_eq_false, not_false_eq_true, Bool.not_eq_true, Bool.not_eq_false, reduceCtorEq, g4]
            refine hn6 z7 _ _ ⟨by omega, p1, p2, p3, p4, fun c hc => ?_⟩
            rw [hst c]
            exact p5 c hc) (by
            rintro q z7 hq ⟨p1, p2, p3, p4, p5⟩ hn7
            have m0 := (NW_cFr h nB p1).1
            unfold CS at m0
            have g4 : ¬ 2 ^ tnN v a - 1 < q := by omega
            have hor := or_le (show q ≤ 2 ^ tnN v a - 1 by omega) hcl
            have r1 := p5 (q ||| C) hor
            have r2 := p3 q (by omega)
            have b1 := hDF q
            have b2 := minN_F (fun q' => if q' ||| C = q ||| C then fwD v a e q' + 1 else 100000) q
            refine Eq.mpr s36_169 ?_
            simp (disch := omega) only [s36_0, s36_1, s36_2, s36_5, s36_8, s36_10, s36_11, s36_12, s36_13, s36_16, s36_17, s36_18, s36_19, s36_20, s36_21, s36_22, s36_23, s36_24, s36_28, s36_29, s36_32, s36_33, s36_36, s36_38, s36_41, s36_42, s36_45, s36_48, s36_49, s36_52, s36_53, s36_54, s36_55, s36_56, s36_59, s36_62, s36_66, s36_67, s36_70, s36_73, s36_75, s36_76, s36_79, s36_81, s36_84, s36_87, s36_88, s36_91, s36_93, s36_96, s36_97, s36_100, s36_103, s36_104, s36_107, s36_108, s36_109, s36_112, s36_113, s36_114, s36_115, s36_116, s36_119, s36_120, s36_124, s36_125, s36_126, s36_129, s36_132, s36_133, s36_136, s36_137, s36_140, s36_142, s36_145, s36_148, s36_151, s36_154, s36_155, s36_156, s36_157, s36_159, s36_161, s36_164, s36_166, s36_167, s36_171, s36_172, s36_175, s36_176, s36_179, s36_181, s36_183, s36_184, s36_185, s36_188, s36_190, s36_192, s36_193, s36_194, s36_195, s36_198, s36_200, s36_201, s36_202, s36_203, s36_206, s36_207, s36_210, s36_213, s36_216, s36_219, s36_220, s36_223, s36_224, s36_225, s36_228, s36_229, s36_230, s36_231, s36_232, s36_235, s36_238, s36_241, s36_242, s36_245, s36_246, s36_247, s36_250, s36_253, s36_254, s36_257, s36_258, s36_261, s36_262, s36_263, zcs_0, zcs_1, zcs_2, zcs_3, zcs_4, zcs_5, zcs_6, zcs_7, znl_i, znl_r, znl_n, Bool.and_true, Bool.true_and, zk_v, zk_n, zk_x, zir_r, zir_n, zclr_i, zclr_r, zclr_n, zclr_d, zclr_l, true_and, and_true, and_self, if_true, if_false, reduceIte, nI_add, pk_mul, zin_ok, zx_nI, nI_lt2, nI_le2, nI_eq2, nI_l0, nI_g0, nI_q0, nI_p0, nI_n0, nI_m1, Nat.add_zero, Nat.zero_add, Nat.reduceAdd, Nat.reduceMul, true_or, or_true, znar_50, bI_0, bI_1, bI_z, bft, nI_z0, nI_z1, lgc_lt, lgc_gt, lgc_le, lgc_ge, lgc_eq, not_true_eq_false, not_false_eq_true, Bool.not_eq_true, Bool.not_eq_false, reduceCtorEq, m0, g4, nI_or, r1, r2, zmin_nI]
            refine hn7 _ ⟨cFr_sia p1 (by omega) _ _, aL_fr p2 rfl rfl ?_, fun c hc => ?_, ?_, fun c hc => ?_⟩
            · funext k; rw [ia_sia, zu2_n _ _ _ _ (by omega)]
            · rw [ia_sia, zu2_n _ _ _ _ (by omega)]; exact p3 c hc
            · rw [← p4]; funext k; rw [ia_sia, zu2_n _ _ _ _ (by omega)]
            · have hms : minN (fun q => if q ||| C = c then fwD v a e q + 1 else 100000) (q + 1) = min (minN (fun q => if q ||| C = c then fwD v a e q + 1 else 100000) q) (if q ||| C = c then fwD v a e q + 1 else 100000) := rfl
              have b3 := minN_F (fun q => if q ||| C = c then fwD v a e q + 1 else 100000) q
              rw [hms, ia_sia]
              by_cases ec : c = q ||| C
              · subst ec
                rw [zu2_s, if_pos rfl]
                congr 1
                omega
              · rw [zu2_k _ _ _ _ ec, if_neg (fun q => ec q.symm), p5 c hc]
                congr 1
                omega)
          refine ms 0 z6 (Nat.zero_le _) ⟨q1, q2, q3, q4, fun c hc => ?_⟩
          rw [q5 c hc]
          congr 1
          have : minN (fun q => if q ||| C = c then fwD v a e q + 1 else 100000) 0 = 100000 := rfl
          have := hWF c
          omega
        · have hg' : fwG v a e S = 100000 := by omega
          simp only [if_neg hg] at hst
          simp (disch := omega) only [s36_0, s36_1, s36_2, s36_5, s36_8, s36_10, s36_11, s36_12, s36_13, s36_16, s36_17, s36_18, s36_19, s36_20, s36_21, s36_22, s36_23, s36_24, s36_28, s36_29, s36_32, s36_33, s36_36, s36_38, s36_41, s36_42, s36_45, s36_48, s36_49, s36_52, s36_53, s36_54, s36_55, s36_56, s36_59, s36_62, s36_66, s36_67, s36_70, s36_73, s36_75, s36_76, s36_79, s36_81, s36_84, s36_87, s36_88, s36_91, s36_93, s36_96, s36_97, s36_100, s36_103, s36_104, s36_107, s36_108, s36_109, s36_112, s36_113, s36_114, s36_115, s36_116, s36_119, s36_120, s36_124, s36_125, s36_126, s36_129, s36_132, s36_133, s36_136, s36_137, s36_140, s36_142, s36_145, s36_148, s36_151, s36_154, s36_155, s36_156, s36_157, s36_159, s36_161, s36_164, s36_166, s36_167, s36_171, s36_172, s36_175, s36_176, s36_179, s36_181, s36_183, s36_184, s36_185, s36_188, s36_190, s36_192, s36_193, s36_194, s36_195, s36_198, s36_200, s36_201, s36_202, s36_203, s36_206, s36_207, s36_210, s36_213, s36_216, s36_219, s36_220, s36_223, s36_224, s36_225, s36_228, s36_229, s36_230, s36_231, s36_232, s36_235, s36_238, s36_241, s36_242, s36_245, s36_246, s36_247, s36_250, s36_253, s36_254, s36_257, s36_258, s36_261, s36_262, s36_263, zcs_0, zcs_1, zcs_2, zcs_3, zcs_4, zcs_5, zcs_6, zcs_7, znl_i, znl_r, znl_n, Bool.and_true, Bool.true_and, zk_v, zk_n, zk_x, zir_r, zir_n, zclr_i, zclr_r, zclr_n, zclr_d, zclr_l, true_and, and_true, and_self, if_true, if_false, reduceIte, nI_add, pk_mul, zin_ok, zx_nI, nI_lt2, nI_le2, nI_eq2, nI_l0, nI_g0, nI_q0, nI_p0, nI_n0, nI_m1, Nat.add_zero, Nat.zero_add, Nat.reduceAdd, Nat.reduceMul, true_or, or_true, znar_50, bI_0, bI_1, bI_z, bft, nI_z0, nI_z1, lgc_lt, lgc_gt, lgc_le, lgc_ge, lgc_eq, not_true_eq_false, not_false_eq_true, Bool.not_eq_true, Bool.not_eq_false, reduceCtorEq, l0, l4, nI_sh1, g3, co, hg', eq_self]
          refine hn6 z6 _ _ ⟨by omega, q1, q2, q3, q4, fun c hc => ?_⟩
          rw [hst c]
          exact q5 c hc)
      refine sets 1 (sIA z5 129 (va_cpy (zia z5 128) (zia z5 129) 0 0 (2 ^ tnN v a - 1 + 1)), _, _) hN20 ⟨Nat.le_refl _, cFr_sIA i4 (by omega) _, aL_124 i5 (by omega) _, fun c hc => ?_, ?_, fun c hc => ?_⟩ <;> dsimp only
      · rw [ia_sIA, zu1_n _ _ _ (by omega)]; exact i6 c hc
      · rw [ia_sIA, zu1_n _ _ _ (by omega)]; exact i7
      · have e1 : fwS (fwG v a e) (fwC v a e) (fwD v a e) (2 ^ tnN v a - 1) c 1 = fwD v a e c := by
          have hg0 : fwG v a e 0 = 100000 := gG_0
          show (if fwG v a e 0 < 100000 then _ else _) = _
          rw [hg0, if_neg (by omega)]
          rfl
        rw [e1, ia_sIA, zu1_s, va_cpy, if_pos (by omega), show 0 + (c - 0) = c by omega]
        exact i6 c hc)
    -- at the beginning
    have init := zl_inv (P := fun c (z3 : ZH) => ZW zG (d + 4) 36 26 [.ref 100, .int (nI a), .int (nI (tnN v a)), .int (nI (2 ^ tnN v a - 1)), .int (nI c), zdum, zdum, zdum] [] z3 Q) (I := fun c z3 => cFr z z3 ∧ (∃ y, aL z3 ha a y (thHs v a) (thN v a)) ∧ ∀ k, k < c → zia z3 128 k = nI 100000) (2 ^ tnN v a - 1 + 1) (by
      rintro z3 ⟨i1, ⟨y, i2⟩, i3⟩
      have hN3 := NW_cFr h nB i1
      have k0 := hN3.1
      unfold CS at k0
      have k6 := hN3.2.2.2.2.2.2.2.2
      have g4 : 2 ^ tnN v a - 1 < 2 ^ tnN v a - 1 + 1 := Nat.lt_succ_self _
      refine Eq.mpr s36_26 ?_
      simp (disch := omega) only [s36_0, s36_1, s36_2, s36_5, s36_8, s36_10, s36_11, s36_12, s36_13, s36_16, s36_17, s36_18, s36_19, s36_20, s36_21, s36_22, s36_23, s36_24, s36_28, s36_29, s36_32, s36_33, s36_36, s36_38, s36_41, s36_42, s36_45, s36_48, s36_49, s36_52, s36_53, s36_54, s36_55, s36_56, s36_59, s36_62, s36_66, s36_67, s36_70, s36_73, s36_75, s36_76, s36_79, s36_81, s36_84, s36_87, s36_88, s36_91, s36_93, s36_96, s36_97, s36_100, s36_103, s36_104, s36_107, s36_108, s36_109, s36_112, s36_113, s36_114, s36_115, s36_116, s36_119, s36_120, s36_124, s36_125, s36_126, s36_129, s36_132, s36_133, s36_136, s36_137, s36_140, s36_142, s36_145, s36_148, s36_151, s36_154, s36_155, s36_156, s36_157, s36_159, s36_161, s36_164, s36_166, s36_167, s36_171, s36_172, s36_175, s36_176, s36_179, s36_181, s36_183, s36_184, s36_185, s36_188, s36_190, s36_192, s36_193, s36_194, s36_195, s36_198, s36_200, s36_201, s36_202, s36_203, s36_206, s36_207, s36_210, s36_213, s36_216, s36_219, s36_220, s36_223, s36_224, s36_225, s36_228, s36_229, s36_230, s36_231, s36_232, s36_235, s36_238, s36_241, s36_242, s36_245, s36_246, s36_247, s36_250, s36_253, s36_254, s36_257, s36_258, s36_261, s36_262, s36_263, zcs_0, zcs_1, zcs_2, zcs_3, zcs_4, zcs_5, zcs_6, zcs_7, znl_i, znl_r, znl_n, Bool.and_true, Bool.true_and, zk_v, zk_n, zk_x, zir_r, zir_n, zclr_i, zclr_r, zclr_n, zclr_d, zclr_l, true_and, and_true, and_self, if_true, if_false, reduceIte, nI_add, pk_mul, zin_ok, zx_nI, nI_lt2, nI_le2, nI_eq2, nI_l0, nI_g0, nI_q0, nI_p0, nI_n0, nI_m1, Nat.add_zero, Nat.zero_add, Nat.reduceAdd, Nat.reduceMul, true_or, or_true, znar_50, bI_0, bI_1, bI_z, bft, nI_z0, nI_z1, lgc_lt, lgc_gt, lgc_le, lgc_ge, lgc_eq, not_true_eq_false, not_false_eq_true, Bool.not_eq_true, Bool.not_eq_false, reduceCtorEq, k0, k6, g4, cls_sia, fi_sia, fr_sia, ia_sia, la_sia, ra_sia, len_sia, ls_sia, own_sia, n_sia, uc_sia, us_sia]
      refine days 0 (sia z3 128 0 (nI 0), zdum, zdum, zdum) (Nat.zero_le _) ⟨cFr_sia i1 (by omega) _ _, ⟨y, aL_fr i2 rfl rfl ?_⟩, fun c hc => ?_⟩ <;> dsimp only
      · funext k; rw [ia_sia, zu2_n _ _ _ _ (by omega)]
      · have e0 : fwD v a 0 c = if c = 0 then 0 else 100000 := rfl
        rw [ia_sia, e0]
        by_cases ec : c = 0
        · subst ec
          rw [zu2_s, if_pos rfl]
        · rw [zu2_k _ _ _ _ ec, if_neg ec]
          exact i3 c (by omega)) (by
      rintro c z3 hc ⟨i1, ⟨y, i2⟩, i3⟩ hnext
      have k0 := (NW_cFr h nB i1).1
      unfold CS at k0
      have g4 : ¬ 2 ^ tnN v a - 1 < c := by omega
      refine Eq.mpr s36_26 ?_
      simp (disch := omega) only [s36_0, s36_1, s36_2, s36_5, s36_8, s36_10, s36_11, s36_12, s36_13, s36_16, s36_17, s36_18, s36_19, s36_20, s36_21, s36_22, s36_23, s36_24, s36_28, s36_29, s36_32, s36_33, s36_36, s36_38, s36_41, s36_42, s36_45, s36_48, s36_49, s36_52, s36_53, s36_54, s36_55, s36_56, s36_59, s36_62, s36_66, s36_67, s36_70, s36_73, s36_75, s36_76, s36_79, s36_81, s36_84, s36_87, s36_88, s36_91, s36_93, s36_96, s36_97, s36_100, s36_103, s36_104, s36_107, s36_108, s36_109, s36_112, s36_113, s36_114, s36_115, s36_116, s36_119, s36_120, s36_124, s36_125, s36_126, s36_129, s36_132, s36_133, s36_136, s36_137, s36_140, s36_142, s36_145, s36_148, s36_151, s36_154, s36_155, s36_156, s36_157, s36_159, s36_161, s36_164, s36_166, s36_167, s36_171, s36_172, s36_175, s36_176, s36_179, s36_181, s36_183, s36_184, s36_185, s36_188, s36_190, s36_192, s36_193, s36_194, s36_195, s36_198, s36_200, s36_201, s36_202, s36_203, s36_206, s36_207, s36_210, s36_213, s36_216, s36_219, s36_220, s36_223, s36_224, s36_225, s36_228, s36_229, s36_230, s36_231, s36_232, s36_235, s36_238, s36_241, s36_242, s36_245, s36_246, s36_247, s36_250, s36_253, s36_254, s36_257, s36_258, s36_261, s36_262, s36_263, zcs_0, zcs_1, zcs_2, zcs_3, zcs_4, zcs_5, zcs_6, zcs_7, znl_i, znl_r, znl_n, Bool.and_true, Bool.true_and, zk_v, zk_n, zk_x, zir_r, zir_n, zclr_i, zclr_r, zclr_n, zclr_d, zclr_l, true_and, and_true, and_self, if_true, if_false, reduceIte, nI_add, pk_mul, zin_ok, zx_nI, nI_lt2, nI_le2, nI_eq2, nI_l0, nI_g0, nI_q0, nI_p0, nI_n0, nI_m1, Nat.add_zero, Nat.zero_add, Nat.reduceAdd, Nat.reduceMul, true_or, or_true, znar_50, bI_0, bI_1, bI_z, bft, nI_z0, nI_z1, lgc_lt, lgc_gt, lgc_le, lgc_ge, lgc_eq, not_true_eq_false, not_false_eq_true, Bool.not_eq_true, Bool.not_eq_false, reduceCtorEq, k0, g4]
      refine hnext _ ⟨cFr_sia i1 (by omega) _ _, ⟨y, aL_fr i2 rfl rfl ?_⟩, fun k hk => ?_⟩
      · funext k; rw [ia_sia, zu2_n _ _ _ _ (by omega)]
      · rw [ia_sia]
        by_cases ec : k = c
        · subst ec; exact zu2_s _ _ _ _
        · rw [zu2_k _ _ _ _ ec]; exact i3 k (by omega))
    exact init 0 z2 (Nat.zero_le _) ⟨f1, ⟨_, f2⟩, fun k hk => absurd hk (by omega)⟩
end CF
