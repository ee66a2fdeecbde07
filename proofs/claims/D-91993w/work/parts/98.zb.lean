set_option maxRecDepth 100000
/-! the component: sets of houses in turn -/
/-- while sets are gone through: what has come to the set S, its last l -/
def pW (v : Nat → Nat) (c : Nat → Bool) (dy : Nat) (hs : Nat → Nat) (n p s : Nat) (g : Nat → Nat) (S l : Nat) : Nat := if S.testBit l = true ∧ ¬ S = 2 ^ l ∧ s ≤ S - 2 ^ l then (if S - 2 ^ l = s then minN (ovF v c dy hs n p 0 S l) (g l) else 100000) else eE n (rA v c dy hs) (rD v hs) (fun q => 0 + dD v p (hs q)) S l
def aI (v : Nat → Nat) (c : Nat → Bool) (dy : Nat) (hs : Nat → Nat) (n p s : Nat) (g : Nat → Nat) (f : Nat → Int32) : Prop := ∀ S l, S < 2 ^ n → l < n → f (10 * S + l) = nI (pW v c dy hs n p s g S l)
section GO
variable {v : Nat → Nat} {c : Nat → Bool} {dy n p s k j : Nat} {hs : Nat → Nat} {f : Nat → Int32} {g : Nat → Nat}
theorem pW_F {S l : Nat} : pW v c dy hs n p s g S l ≤ 100000 := by
  unfold pW
  split
  · split
    · exact minN_F _ _
    · exact Nat.le_refl _
  · exact eE_F rA_OK
theorem aI_next (h : aI v c dy hs n p s (fun _ => n) f) : aI v c dy hs n p (s + 1) (fun _ => 0) f := by
  intro S l hS hl
  rw [h S l hS hl]
  congr 1
  unfold pW
  by_cases c1 : S.testBit l = true ∧ ¬ S = 2 ^ l
  · by_cases c2 : S - 2 ^ l = s
    · rw [if_pos ⟨c1.1, c1.2, by omega⟩, if_pos c2, if_neg (by omega), eE_s c1.1 c1.2]
      rfl
    · by_cases c3 : s ≤ S - 2 ^ l
      · rw [if_pos ⟨c1.1, c1.2, c3⟩, if_neg c2, if_pos ⟨c1.1, c1.2, by omega⟩]
        split <;> rfl
      · rw [if_neg (fun e => c3 e.2.2), if_neg (fun e => c3 (by omega))]
  · rw [if_neg (fun e => c1 ⟨e.1, e.2.1⟩), if_neg (fun e => c1 ⟨e.1, e.2.1⟩)]
theorem aI_g {g' : Nat → Nat} (h : aI v c dy hs n p s g f) (hg : ∀ l, l < n → g' l = g l) : aI v c dy hs n p s g' f := by
  intro S l hS hl
  rw [h S l hS hl]
  unfold pW
  rw [hg l hl]
/-- nothing comes from k -/
theorem aI_idle (h : aI v c dy hs n p s (fun _ => k) f) (hE : ¬ eE n (rA v c dy hs) (rD v hs) (fun q => 0 + dD v p (hs q)) s k < 100000) : aI v c dy hs n p s (fun _ => k + 1) f := by
  intro S l hS hl
  rw [h S l hS hl]
  congr 1
  unfold pW
  split
  · split
    · rename_i h2
      have e : ovF v c dy hs n p 0 S l k = 100000 := by
        unfold ovF
        split
        · rw [h2]; exact rA_OK.2.2.1 _ _ (by omega)
        · rfl
      have hst : minN (ovF v c dy hs n p 0 S l) (k + 1) = min (minN (ovF v c dy hs n p 0 S l) k) (ovF v c dy hs n p 0 S l k) := rfl
      rw [hst, e, Nat.min_eq_left (minN_F _ _)]
    · rfl
  · rfl
theorem aI_skip (h : aI v c dy hs n p s (fun l => if l < j then k + 1 else k) f) (hj : s.testBit j = true) : aI v c dy hs n p s (fun l => if l < j + 1 then k + 1 else k) f := by
  intro S l hS hl
  rw [h S l hS hl]
  congr 1
  unfold pW
  by_cases e : l = j
  · subst e
    by_cases c1 : S.testBit l = true
    · have c2 : ¬ S - 2 ^ l = s := by
        intro e2
        rw [← e2, tb_sub c1] at hj
        simp at hj
      rw [if_neg c2, if_neg c2]
    · rw [if_neg (fun q => c1 q.1), if_neg (fun q => c1 q.1)]
  · have : (if l < j then k + 1 else k) = (if l < j + 1 then k + 1 else k) := by
      by_cases h1 : l < j
      · rw [if_pos h1, if_pos (by omega)]
      · rw [if_neg h1, if_neg (by omega)]
    simp only [this]
theorem or_add2 {s j : Nat} (h : s.testBit j = false) : s ||| 2 ^ j = s + 2 ^ j := by
  have hb : (s ||| 2 ^ j).testBit j = true := by rw [Nat.testBit_or, Nat.testBit_two_pow_self, Bool.or_true]
  have e : (s ||| 2 ^ j) - 2 ^ j = s := by
    apply Nat.eq_of_testBit_eq
    intro i
    rw [tb_sub hb, Nat.testBit_or, Nat.testBit_two_pow]
    by_cases c : i = j
    · subst c; rw [h]; simp
    · have c2 : ¬ j = i := fun q => c q.symm
      simp [c, c2]
  have := Nat.ge_two_pow_of_testBit hb
  omega
/-- a step from s by j -/
theorem aI_step (hn : n ≤ 10) (h : aI v c dy hs n p s (fun l => if l < j then k + 1 else k) f) (hs1 : 1 ≤ s) (hs2 : s < 2 ^ n) (hj : j < n) (hb : s.testBit j = false) (hk : s.testBit k = true) {y : Nat} (hy : y = min (pW v c dy hs n p s (fun l => if l < j then k + 1 else k) (s + 2 ^ j) j) (rA v c dy hs j (eE n (rA v c dy hs) (rD v hs) (fun q => 0 + dD v p (hs q)) s k + rD v hs k j))) : aI v c dy hs n p s (fun l => if l < j + 1 then k + 1 else k) (zu1 f (10 * (s + 2 ^ j) + j) (nI y)) := by
  have ho := or_add2 hb
  have hbj : (s + 2 ^ j).testBit j = true := by rw [← ho, Nat.testBit_or, Nat.testBit_two_pow_self, Bool.or_true]
  have hp := Nat.two_pow_pos j
  intro S l hS hl
  by_cases e : l = j
  · subst e
    by_cases e2 : S = s + 2 ^ l
    · subst e2
      rw [zu1_s, hy]
      congr 1
      unfold pW
      have c1 : (s + 2 ^ l).testBit l = true ∧ ¬ s + 2 ^ l = 2 ^ l ∧ s ≤ s + 2 ^ l - 2 ^ l := ⟨hbj, by omega, by omega⟩
      have c2 : s + 2 ^ l - 2 ^ l = s := by omega
      rw [if_pos c1, if_pos c2, if_pos c1, if_pos c2]
      dsimp only
      rw [if_neg (Nat.lt_irrefl _), if_pos (Nat.lt_succ_self _)]
      have hst : minN (ovF v c dy hs n p 0 (s + 2 ^ l) l) (k + 1) = min (minN (ovF v c dy hs n p 0 (s + 2 ^ l) l) k) (ovF v c dy hs n p 0 (s + 2 ^ l) l k) := rfl
      have e3 : ovF v c dy hs n p 0 (s + 2 ^ l) l k = rA v c dy hs l (eE n (rA v c dy hs) (rD v hs) (fun q => 0 + dD v p (hs q)) s k + rD v hs k l) := by
        unfold ovF
        rw [c2, if_pos hk]
      rw [hst, e3]
    · rw [zu1_n _ _ _ (by omega), h S l hS hl]
      congr 1
      unfold pW
      by_cases c2 : S - 2 ^ l = s
      · by_cases c1 : S.testBit l = true
        · have := Nat.ge_two_pow_of_testBit c1
          exact absurd (by omega) e2
        · rw [if_neg (fun q => c1 q.1), if_neg (fun q => c1 q.1)]
      · rw [if_neg c2, if_neg c2]
  · rw [zu1_n _ _ _ (by omega), h S l hS hl]
    congr 1
    unfold pW
    have : (if l < j then k + 1 else k) = (if l < j + 1 then k + 1 else k) := by
      by_cases h1 : l < j
      · rw [if_pos h1, if_pos (by omega)]
      · rw [if_neg h1, if_neg (by omega)]
    simp only [this]
theorem aI_self (h : aI v c dy hs n p s g f) (hs2 : s < 2 ^ n) (hk : k < n) : f (10 * s + k) = nI (eE n (rA v c dy hs) (rD v hs) (fun q => 0 + dD v p (hs q)) s k) := by
  rw [h s k hs2 hk]
  congr 1
  unfold pW
  rw [if_neg]
  rintro ⟨h1, h2, h3⟩
  have := Nat.two_pow_pos k
  have := Nat.ge_two_pow_of_testBit h1
  omega
theorem aI_1 (h1 : ∀ k, k < n → f (10 * 2 ^ k + k) = nI (rA v c dy hs k (0 + dD v p (hs k)))) (h2 : ∀ S l, S < 2 ^ n → l < n → ¬ S = 2 ^ l → f (10 * S + l) = nI 100000) : aI v c dy hs n p 1 (fun _ => 0) f := by
  intro S l hS hl
  by_cases e : S = 2 ^ l
  · subst e
    rw [h1 l hl]
    unfold pW
    rw [if_neg (fun q => q.2.1 rfl), eE_1]
  · rw [h2 S l hS hl e]
    congr 1
    unfold pW
    split
    · split <;> rfl
    · rename_i q
      by_cases c1 : S.testBit l = true
      · have := Nat.ge_two_pow_of_testBit c1
        exact absurd ⟨c1, e, by omega⟩ q
      · rw [eE_n c1]
end GO
section CG
variable {d : Nat} {B : Nat → Prop} {z : ZH} {Q : ZQ} {v : Nat → Nat} {L : Nat → List (Nat × Nat)} {t hl kn rl : Nat} {ha ra da ea : Nat → Nat} {K : Nat}
variable {a dy n : Nat} {hs : Nat → Nat}
theorem aL_124 {z2 : ZH} (h : aL z2 ha a dy hs n) {r : Nat} (hr : ¬ r = 123) (f : Nat → Int32) : aL (sIA z2 r f) ha a dy hs n := ⟨h.1, h.2.1, h.2.2.1, h.2.2.2.1, fun k hk => (congrFun (zu1_n (zia z2) r f (show (123 : Nat) ≠ r from fun e => hr e.symm)) k).trans (h.2.2.2.2 k hk)⟩
/-- the innermost loop -/
theorem c98j (h : NW B z v L t hl kn rl ha ra da ea) (nB : ∀ q, B q → ¬ (122 ≤ q ∧ q ≤ 130)) (hT : wT v) (hv : ∀ i, v i < 1073741824) (hWD : wD v) (hA : aL z ha a dy hs n) (hO : lOK v hs n) (hav : a < v 0) (hdy : dy < 1000) {s k : Nat} (hs1 : 1 ≤ s) (hs2 : s < 2 ^ n) (hk : k < n) (hE : eE n (rA v (rdC v a) dy hs) (rD v hs) (fun q => 0 + dD v a (hs q)) s k < 100000)
    (hend : ∀ f x4 x5, aI v (rdC v a) dy hs n a s (fun _ => k + 1) f → ZW zG (d + 3) 98 113 [.ref 122, .int (nI s), .int (nI (k + 1)), .int (nI (eE n (rA v (rdC v a) dy hs) (rD v hs) (fun q => 0 + dD v a (hs q)) s k)), x4, x5] [] (sIA z 124 f) Q) :
    ∀ j (w : (Nat → Int32) × Value), j ≤ n → aI v (rdC v a) dy hs n a s (fun l => if l < j then k + 1 else k) w.1 → ZW zG (d + 3) 98 145 [.ref 122, .int (nI s), .int (nI k), .int (nI (eE n (rA v (rdC v a) dy hs) (rD v hs) (fun q => 0 + dD v a (hs q)) s k)), .int (nI j), w.2] [] (sIA z 124 w.1) Q := by
  have hn10 := hO.1
  obtain ⟨hN, hN0⟩ := pow10 hO.1
  have hE2 := eE_180 (rA_OK (v := v) (c := rdC v a) (dy := dy) (hs := hs)) hE
  have hbk : s.testBit k = true := by
    cases hb : s.testBit k with
    | true => rfl
    | false => rw [eE_n (by rw [hb]; decide)] at hE; exact absurd hE (Nat.lt_irrefl _)
  generalize hEE : eE n (rA v (rdC v a) dy hs) (rD v hs) (fun q => 0 + dD v a (hs q)) s k = E at *
  refine zl_inv n ?_ ?_
  · rintro ⟨f, x⟩ hw
    have c0 := (NW_cFr h nB (cFr_sIA (cFr_refl z) (show 123 ≤ 124 ∧ 124 ≤ 130 ∧ ¬ 124 = 127 by omega) f)).1
    unfold CS at c0
    have a4 : zfi (sIA z 124 f) 122 4 = nI n := hA.1
    refine Eq.mpr s98_145 ?_
    simp (disch := omega) only [s98_0, s98_1, s98_3, s98_4, s98_5, s98_8, s98_9, s98_12, s98_13, s98_15, s98_16, s98_19, s98_22, s98_23, s98_26, s98_28, s98_29, s98_30, s98_31, s98_32, s98_34, s98_35, s98_38, s98_41, s98_44, s98_47, s98_48, s98_50, s98_51, s98_54, s98_57, s98_58, s98_61, s98_63, s98_64, s98_65, s98_66, s98_67, s98_68, s98_69, s98_70, s98_71, s98_72, s98_75, s98_76, s98_77, s98_80, s98_83, s98_84, s98_87, s98_88, s98_89, s98_92, s98_93, s98_96, s98_99, s98_100, s98_102, s98_103, s98_104, s98_107, s98_108, s98_111, s98_112, s98_114, s98_115, s98_118, s98_121, s98_122, s98_125, s98_127, s98_128, s98_129, s98_130, s98_131, s98_132, s98_133, s98_134, s98_136, s98_139, s98_142, s98_143, s98_147, s98_148, s98_151, s98_154, s98_155, s98_157, s98_160, s98_163, s98_166, s98_168, s98_169, s98_170, s98_172, s98_173, s98_174, s98_175, s98_177, s98_178, s98_180, s98_181, s98_184, s98_186, s98_187, s98_190, s98_192, s98_193, s98_194, s98_195, s98_196, s98_197, s98_200, s98_201, s98_203, s98_206, s98_209, s98_210, s98_213, s98_215, s98_216, s98_219, s98_222, s98_223, s98_226, s98_229, s98_232, s98_235, s98_238, s98_241, zcs_0, zcs_1, zcs_2, zcs_3, zcs_4, zcs_5, zcs_6, zcs_7, znl_i, znl_r, znl_n, Bool.and_true, Bool.true_and, zk_v, zk_n, zk_x, zir_r, zir_n, zclr_i, zclr_r, zclr_n, zclr_d, zclr_l, true_and, and_true, and_self, if_true, if_false, reduceIte, nI_add, pk_mul, zin_ok, zx_nI, nI_lt2, nI_le2, nI_eq2, nI_l0, nI_g0, nI_q0, nI_p0, nI_n0, nI_m1, Nat.add_zero, Nat.zero_add, Nat.reduceAdd, Nat.reduceMul, true_or, or_true, znar_50, bI_0, bI_1, bI_z, bft, nI_z0, nI_z1, lgc_lt, lgc_gt, lgc_le, lgc_ge, lgc_eq, not_true_eq_false, not_false_eq_true, Bool.not_eq_true, Bool.not_eq_false, reduceCtorEq, c0, a4, Nat.le_refl]
    exact hend f _ _ (aI_g hw (fun l hl => (if_pos hl).symm))
  · rintro j ⟨f, x⟩ hj hw hnext
    dsimp only at hw
    have hN2 := NW_cFr h nB (cFr_sIA (cFr_refl z) (show 123 ≤ 124 ∧ 124 ≤ 130 ∧ ¬ 124 = 127 by omega) f)
    have hA2 := aL_124 hA (show ¬ 124 = 123 by omega) f
    have c0 := hN2.1
    unfold CS at c0
    have a4 := hA2.1
    have g1 : ¬ n ≤ j := by omega
    refine Eq.mpr s98_145 ?_
    cases hb : s.testBit j with
    | true =>
      simp (disch := omega) only [s98_0, s98_1, s98_3, s98_4, s98_5, s98_8, s98_9, s98_12, s98_13, s98_15, s98_16, s98_19, s98_22, s98_23, s98_26, s98_28, s98_29, s98_30, s98_31, s98_32, s98_34, s98_35, s98_38, s98_41, s98_44, s98_47, s98_48, s98_50, s98_51, s98_54, s98_57, s98_58, s98_61, s98_63, s98_64, s98_65, s98_66, s98_67, s98_68, s98_69, s98_70, s98_71, s98_72, s98_75, s98_76, s98_77, s98_80, s98_83, s98_84, s98_87, s98_88, s98_89, s98_92, s98_93, s98_96, s98_99, s98_100, s98_102, s98_103, s98_104, s98_107, s98_108, s98_111, s98_112, s98_114, s98_115, s98_118, s98_121, s98_122, s98_125, s98_127, s98_128, s98_129, s98_130, s98_131, s98_132, s98_133, s98_134, s98_136, s98_139, s98_142, s98_143, s98_147, s98_148, s98_151, s98_154, s98_155, s98_157, s98_160, s98_163, s98_166, s98_168, s98_169, s98_170, s98_172, s98_173, s98_174, s98_175, s98_177, s98_178, s98_180, s98_181, s98_184, s98_186, s98_187, s98_190, s98_192, s98_193, s98_194, s98_195, s98_196, s98_197, s98_200, s98_201, s98_203, s98_206, s98_209, s98_210, s98_213, s98_215, s98_216, s98_219, s98_222, s98_223, s98_226, s98_229, s98_232, s98_235, s98_238, s98_241, zcs_0, zcs_1, zcs_2, zcs_3, zcs_4, zcs_5, zcs_6, zcs_7, znl_i, znl_r, znl_n, Bool.and_true, Bool.true_and, zk_v, zk_n, zk_x, zir_r, zir_n, zclr_i, zclr_r, zclr_n, zclr_d, zclr_l, true_and, and_true, and_self, if_true, if_false, reduceIte, nI_add, pk_mul, zin_ok, zx_nI, nI_lt2, nI_le2, nI_eq2, nI_l0, nI_g0, nI_q0, nI_p0, nI_n0, nI_m1, Nat.add_zero, Nat.zero_add, Nat.reduceAdd, Nat.reduceMul, true_or, or_true, znar_50, bI_0, bI_1, bI_z, bft, nI_z0, nI_z1, lgc_lt, lgc_gt, lgc_le, lgc_ge, lgc_eq, not_true_eq_false, not_false_eq_true, Bool.not_eq_true, Bool.not_eq_false, reduceCtorEq, c0, a4, g1, c18, hasI_n, hb]
      exact hnext (f, x) (aI_skip hw hb)
    | false =>
      have hq1 := hO.2 k hk
      have hq2 := hO.2 j hj
      have b1 := hA2.2.2.2.2 k hk
      have b2 := hA2.2.2.2.2 j hj
      have ck := fun d Q => c99 (d := d) (Q := Q) hN2 (show k < 10 by omega) b1 hq1
      have cj := fun d Q => c99 (d := d) (Q := Q) hN2 (show j < 10 by omega) b2 hq2
      have cf := fun d Q => c248 (d := d) (Q := Q) hv hN2.2.2.1 hq1 hq2
      have ca := fun d Q => c100 (d := d) (Q := Q) hN2 hT hWD (a := a) (dy := dy) hA2.2.2.1 hA2.2.1 hdy (u := E) (f := dD v (hs k) (hs j)) (k := hs j) hq2 (by omega) (by have := dD_le hT hq1 hq2; omega)
      have hd2 := dD_le hT hq1 hq2
      obtain ⟨_, fk1, _⟩ := hN2.2.2.1.fld hq1
      obtain ⟨_, fj1, _⟩ := hN2.2.2.1.fld hq2
      have ho := or_add2 hb
      have hlt : s + 2 ^ j < 2 ^ n := by
        rw [← ho]
        exact Nat.or_lt_two_pow hs2 (Nat.pow_lt_pow_right (by omega) hj)
      have hold := hw (s + 2 ^ j) j hlt hj
      have hpF := pW_F (v := v) (c := rdC v a) (dy := dy) (hs := hs) (n := n) (p := a) (s := s) (g := fun l => if l < j then k + 1 else k) (S := s + 2 ^ j) (l := j)
      have haF : aA v (rdC v a (hs j)) dy (hs j) (E + dD v (hs k) (hs j)) ≤ 100000 := rA_OK.2.1 j _
      have hpj := Nat.two_pow_pos j
      have step := aI_step hn10 hw hs1 hs2 hj hb hbk (y := min (pW v (rdC v a) dy hs n a s (fun l => if l < j then k + 1 else k) (s + 2 ^ j) j) (aA v (rdC v a (hs j)) dy (hs j) (E + dD v (hs k) (hs j)))) (by rw [hEE]; rfl)
      generalize pW v (rdC v a) dy hs n a s (fun l => if l < j then k + 1 else k) (s + 2 ^ j) j = P0 at *
      generalize aA v (rdC v a (hs j)) dy (hs j) (E + dD v (hs k) (hs j)) = A0 at *
      have r1 : zia (sIA z 124 f) 124 (10 * (s + 2 ^ j) + j) = nI P0 := by rw [ia_sIA, zu1_s]; exact hold
      simp (disch := omega) only [s98_0, s98_1, s98_3, s98_4, s98_5, s98_8, s98_9, s98_12, s98_13, s98_15, s98_16, s98_19, s98_22, s98_23, s98_26, s98_28, s98_29, s98_30, s98_31, s98_32, s98_34, s98_35, s98_38, s98_41, s98_44, s98_47, s98_48, s98_50, s98_51, s98_54, s98_57, s98_58, s98_61, s98_63, s98_64, s98_65, s98_66, s98_67, s98_68, s98_69, s98_70, s98_71, s98_72, s98_75, s98_76, s98_77, s98_80, s98_83, s98_84, s98_87, s98_88, s98_89, s98_92, s98_93, s98_96, s98_99, s98_100, s98_102, s98_103, s98_104, s98_107, s98_108, s98_111, s98_112, s98_114, s98_115, s98_118, s98_121, s98_122, s98_125, s98_127, s98_128, s98_129, s98_130, s98_131, s98_132, s98_133, s98_134, s98_136, s98_139, s98_142, s98_143, s98_147, s98_148, s98_151, s98_154, s98_155, s98_157, s98_160, s98_163, s98_166, s98_168, s98_169, s98_170, s98_172, s98_173, s98_174, s98_175, s98_177, s98_178, s98_180, s98_181, s98_184, s98_186, s98_187, s98_190, s98_192, s98_193, s98_194, s98_195, s98_196, s98_197, s98_200, s98_201, s98_203, s98_206, s98_209, s98_210, s98_213, s98_215, s98_216, s98_219, s98_222, s98_223, s98_226, s98_229, s98_232, s98_235, s98_238, s98_241, zcs_0, zcs_1, zcs_2, zcs_3, zcs_4, zcs_5, zcs_6, zcs_7, znl_i, znl_r, znl_n, Bool.and_true, Bool.true_and, zk_v, zk_n, zk_x, zir_r, zir_n, zclr_i, zclr_r, zclr_n, zclr_d, zclr_l, true_and, and_true, and_self, if_true, if_false, reduceIte, nI_add, pk_mul, zin_ok, zx_nI, nI_lt2, nI_le2, nI_eq2, nI_l0, nI_g0, nI_q0, nI_p0, nI_n0, nI_m1, Nat.add_zero, Nat.zero_add, Nat.reduceAdd, Nat.reduceMul, true_or, or_true, znar_50, bI_0, bI_1, bI_z, bft, nI_z0, nI_z1, lgc_lt, lgc_gt, lgc_le, lgc_ge, lgc_eq, not_true_eq_false, not_false_eq_true, Bool.not_eq_true, Bool.not_eq_false, reduceCtorEq, c0, a4, g1, c18, hasI_n, hb, nI_sh1, nI_or, ho, r1, ck, cj, cf, b2, ca, fk1, fj1, zmin_nI, sIA_sia]
      exact hnext (_, _) step
theorem c98k (h : NW B z v L t hl kn rl ha ra da ea) (nB : ∀ q, B q → ¬ (122 ≤ q ∧ q ≤ 130)) (hT : wT v) (hv : ∀ i, v i < 1073741824) (hWD : wD v) (hA : aL z ha a dy hs n) (hO : lOK v hs n) (hav : a < v 0) (hdy : dy < 1000) {s : Nat} (hs1 : 1 ≤ s) (hs2 : s < 2 ^ n)
    (hend : ∀ (w : (Nat → Int32) × Value × Value × Value × Value), aI v (rdC v a) dy hs n a (s + 1) (fun _ => 0) w.1 → ZW zG (d + 3) 98 101 [.ref 122, .int (nI (s + 1)), w.2.1, w.2.2.1, w.2.2.2.1, w.2.2.2.2] [] (sIA z 124 w.1) Q) :
    ∀ k (w : (Nat → Int32) × Value × Value × Value), k ≤ n → aI v (rdC v a) dy hs n a s (fun _ => k) w.1 → ZW zG (d + 3) 98 113 [.ref 122, .int (nI s), .int (nI k), w.2.1, w.2.2.1, w.2.2.2] [] (sIA z 124 w.1) Q := by
  have hn10 := hO.1
  obtain ⟨hN, hN0⟩ := pow10 hO.1
  refine zl_inv n ?_ ?_
  · rintro ⟨f, x3, x4, x5⟩ hw
    have c0 := (NW_cFr h nB (cFr_sIA (cFr_refl z) (show 123 ≤ 124 ∧ 124 ≤ 130 ∧ ¬ 124 = 127 by omega) f)).1
    unfold CS at c0
    have a4 : zfi (sIA z 124 f) 122 4 = nI n := hA.1
    refine Eq.mpr s98_113 ?_
    simp (disch := omega) only [s98_0, s98_1, s98_3, s98_4, s98_5, s98_8, s98_9, s98_12, s98_13, s98_15, s98_16, s98_19, s98_22, s98_23, s98_26, s98_28, s98_29, s98_30, s98_31, s98_32, s98_34, s98_35, s98_38, s98_41, s98_44, s98_47, s98_48, s98_50, s98_51, s98_54, s98_57, s98_58, s98_61, s98_63, s98_64, s98_65, s98_66, s98_67, s98_68, s98_69, s98_70, s98_71, s98_72, s98_75, s98_76, s98_77, s98_80, s98_83, s98_84, s98_87, s98_88, s98_89, s98_92, s98_93, s98_96, s98_99, s98_100, s98_102, s98_103, s98_104, s98_107, s98_108, s98_111, s98_112, s98_114, s98_115, s98_118, s98_121, s98_122, s98_125, s98_127, s98_128, s98_129, s98_130, s98_131, s98_132, s98_133, s98_134, s98_136, s98_139, s98_142, s98_143, s98_147, s98_148, s98_151, s98_154, s98_155, s98_157, s98_160, s98_163, s98_166, s98_168, s98_169, s98_170, s98_172, s98_173, s98_174, s98_175, s98_177, s98_178, s98_180, s98_181, s98_184, s98_186, s98_187, s98_190, s98_192, s98_193, s98_194, s98_195, s98_196, s98_197, s98_200, s98_201, s98_203, s98_206, s98_209, s98_210, s98_213, s98_215, s98_216, s98_219, s98_222, s98_223, s98_226, s98_229, s98_232, s98_235, s98_238, s98_241, zcs_0, zcs_1, zcs_2, zcs_3, zcs_4, zcs_5, zcs_6, zcs_7, znl_i, znl_r, znl_n, Bool.and_true, Bool.true_and, zk_v, zk_n, zk_x, zir_r, zir_n, zclr_i, zclr_r, zclr_n, zclr_d, zclr_l, true_and, and_true, and_self, if_true, if_false, reduceIte, nI_add, pk_mul, zin_ok, zx_nI, nI_lt2, nI_le2, nI_eq2, nI_l0, nI_g0, nI_q0, nI_p0, nI_n0, nI_m1, Nat.add_zero, Nat.zero_add, Nat.reduceAdd, Nat.reduceMul, true_or, or_true, znar_50, bI_0, bI_1, bI_z, bft, nI_z0, nI_z1, lgc_lt, lgc_gt, lgc_le, lgc_ge, lgc_eq, not_true_eq_false, not_false_eq_true, Bool.not_eq_true, Bool.not_eq_false, reduceCtorEq, c0, a4, Nat.le_refl]
    exact hend (f, _, _, _, _) (aI_next hw)
  · rintro k ⟨f, x3, x4, x5⟩ hk hw hnext
    dsimp only at hw
    have c0 := (NW_cFr h nB (cFr_sIA (cFr_refl z) (show 123 ≤ 124 ∧ 124 ≤ 130 ∧ ¬ 124 = 127 by omega) f)).1
    unfold CS at c0
    have a4 : zfi (sIA z 124 f) 122 4 = nI n := hA.1
    have g1 : ¬ n ≤ k := by omega
    have hr := aI_self hw hs2 hk
    obtain ⟨E, hEE⟩ : ∃ E, E = eE n (rA v (rdC v a) dy hs) (rD v hs) (fun q => 0 + dD v a (hs q)) s k := ⟨_, rfl⟩
    have r1 : zia (sIA z 124 f) 124 (10 * s + k) = nI E := by rw [ia_sIA, zu1_s, hEE]; exact hr
    have hF : E ≤ 100000 := by rw [hEE]; exact eE_F rA_OK
    refine Eq.mpr s98_113 ?_
    by_cases hE : E < 100000
    · have hne : ¬ E = 100000 := by omega
      simp (disch := omega) only [s98_0, s98_1, s98_3, s98_4, s98_5, s98_8, s98_9, s98_12, s98_13, s98_15, s98_16, s98_19, s98_22, s98_23, s98_26, s98_28, s98_29, s98_30, s98_31, s98_32, s98_34, s98_35, s98_38, s98_41, s98_44, s98_47, s98_48, s98_50, s98_51, s98_54, s98_57, s98_58, s98_61, s98_63, s98_64, s98_65, s98_66, s98_67, s98_68, s98_69, s98_70, s98_71, s98_72, s98_75, s98_76, s98_77, s98_80, s98_83, s98_84, s98_87, s98_88, s98_89, s98_92, s98_93, s98_96, s98_99, s98_100, s98_102, s98_103, s98_104, s98_107, s98_108, s98_111, s98_112, s98_114, s98_115, s98_118, s98_121, s98_122, s98_125, s98_127, s98_128, s98_129, s98_130, s98_131, s98_132, s98_133, s98_134, s98_136, s98_139, s98_142, s98_143, s98_147, s98_148, s98_151, s98_154, s98_155, s98_157, s98_160, s98_163, s98_166, s98_168, s98_169, s98_170, s98_172, s98_173, s98_174, s98_175, s98_177, s98_178, s98_180, s98_181, s98_184, s98_186, s98_187, s98_190, s98_192, s98_193, s98_194, s98_195, s98_196, s98_197, s98_200, s98_201, s98_203, s98_206, s98_209, s98_210, s98_213, s98_215, s98_216, s98_219, s98_222, s98_223, s98_226, s98_229, s98_232, s98_235, s98_238, s98_241, zcs_0, zcs_1, zcs_2, zcs_3, zcs_4, zcs_5, zcs_6, zcs_7, znl_i, znl_r, znl_n, Bool.and_true, Bool.true_and, zk_v, zk_n, zk_x, zir_r, zir_n, zclr_i, zclr_r, zclr_n, zclr_d, zclr_l, true_and, and_true, and_self, if_true, if_false, reduceIte, nI_add, pk_mul, zin_ok, zx_nI, nI_lt2, nI_le2, nI_eq2, nI_l0, nI_g0, nI_q0, nI_p0, nI_n0, nI_m1, Nat.add_zero, Nat.zero_add, Nat.reduceAdd, Nat.reduceMul, true_or, or_true, znar_50, bI_0, bI_1, bI_z, bft, nI_z0, nI_z1, lgc_lt, lgc_gt, lgc_le, lgc_ge, lgc_eq, not_true_eq_false, not_false_eq_true, Bool.not_eq_true, Bool.not_eq_false, reduceCtorEq, c0, a4, g1, r1, hne]
      rw [hEE] at hE ⊢
      exact c98j h nB hT hv hWD hA hO hav hdy hs1 hs2 hk hE (fun f y4 y5 hf => hnext (f, _, y4, y5) hf) 0 (f, _) (Nat.zero_le _) (aI_g hw (fun l _ => if_neg (by omega)))
    · have he : E = 100000 := by omega
      have id := aI_idle hw (by rw [← hEE]; exact hE)
      simp (disch := omega) only [s98_0, s98_1, s98_3, s98_4, s98_5, s98_8, s98_9, s98_12, s98_13, s98_15, s98_16, s98_19, s98_22, s98_23, s98_26, s98_28, s98_29, s98_30, s98_31, s98_32, s98_34, s98_35, s98_38, s98_41, s98_44, s98_47, s98_48, s98_50, s98_51, s98_54, s98_57, s98_58, s98_61, s98_63, s98_64, s98_65, s98_66, s98_67, s98_68, s98_69, s98_70, s98_71, s98_72, s98_75, s98_76, s98_77, s98_80, s98_83, s98_84, s98_87, s98_88, s98_89, s98_92, s98_93, s98_96, s98_99, s98_100, s98_102, s98_103, s98_104, s98_107, s98_108, s98_111, s98_112, s98_114, s98_115, s98_118, s98_121, s98_122, s98_125, s98_127, s98_128, s98_129, s98_130, s98_131, s98_132, s98_133, s98_134, s98_136, s98_139, s98_142, s98_143, s98_147, s98_148, s98_151, s98_154, s98_155, s98_157, s98_160, s98_163, s98_166, s98_168, s98_169, s98_170, s98_172, s98_173, s98_174, s98_175, s98_177, s98_178, s98_180, s98_181, s98_184, s98_186, s98_187, s98_190, s98_192, s98_193, s98_194, s98_195, s98_196, s98_197, s98_200, s98_201, s98_203, s98_206, s98_209, s98_210, s98_213, s98_215, s98_216, s98_219, s98_222, s98_223, s98_226, s98_229, s98_232, s98_235, s98_238, s98_241, zcs_0, zcs_1, zcs_2, zcs_3, zcs_4, zcs_5, zcs_6, zcs_7, znl_i, znl_r, znl_n, Bool.and_true, Bool.true_and, zk_v, zk_n, zk_x, zir_r, zir_n, zclr_i, zclr_r, zclr_n, zclr_d, zclr_l, true_and, and_true, and_self, if_true, if_false, reduceIte, nI_add, pk_mul, zin_ok, zx_nI, nI_lt2, nI_le2, nI_eq2, nI_l0, nI_g0, nI_q0, nI_p0, nI_n0, nI_m1, Nat.add_zero, Nat.zero_add, Nat.reduceAdd, Nat.reduceMul, true_or, or_true, znar_50, bI_0, bI_1, bI_z, bft, nI_z0, nI_z1, lgc_lt, lgc_gt, lgc_le, lgc_ge, lgc_eq, not_true_eq_false, not_false_eq_true, Bool.not_eq_true, Bool.not_eq_false, reduceCtorEq, c0, a4, g1, r1, he, eq_self]
      exact hnext (f, _, _, _) id
theorem c98 (h : NW B z v L t hl kn rl ha ra da ea) (nB : ∀ q, B q → ¬ (122 ≤ q ∧ q ≤ 130)) (hT : wT v) (hv : ∀ i, v i < 1073741824) (hWD : wD v) (hA : aL z ha a dy hs n) (hO : lOK v hs n) (hav : a < v 0) (hdy : dy < 1000)
    (H : ∀ f, (∀ S l, S < 2 ^ n → l < n → f (10 * S + l) = nI (eE n (rA v (rdC v a) dy hs) (rD v hs) (fun q => 0 + dD v a (hs q)) S l)) → Q (.inl none) (sIA z 124 f)) : ZC zG (d + 3) 98 [.ref 122] z Q := by
  have h0 := h.1
  unfold CS at h0
  have hn10 := hO.1
  obtain ⟨hN, hN0⟩ := pow10 hO.1
  have hr : ∀ f, 123 ≤ 124 ∧ 124 ≤ 130 ∧ ¬ 124 = 127 := fun _ => by omega
  have fr : ∀ f : Nat → Int32, cFr z (sIA z 124 f) := fun f => cFr_sIA (cFr_refl z) (by omega) f
  have c0' : ∀ f : Nat → Int32, CS (sIA z 124 f) := fun f => (NW_cFr h nB (fr f)).1
  have a4' : ∀ f : Nat → Int32, zfi (sIA z 124 f) 122 4 = nI n := fun f => hA.1
  -- the third loop
  have k3 := zl_inv (P := fun s (w : (Nat → Int32) × Value × Value × Value × Value) => ZW zG (d + 3) 98 101 [.ref 122, .int (nI s), w.2.1, w.2.2.1, w.2.2.2.1, w.2.2.2.2] [] (sIA z 124 w.1) Q) (I := fun s w => 1 ≤ s ∧ aI v (rdC v a) dy hs n a s (fun _ => 0) w.1) (2 ^ n) (by
    rintro ⟨f, x2, x3, x4, x5⟩ ⟨_, hw⟩
    dsimp only at hw
    have c0 := c0' f
    unfold CS at c0
    have a4 := a4' f
    refine Eq.mpr s98_101 ?_
    simp (disch := omega) only [s98_0, s98_1, s98_3, s98_4, s98_5, s98_8, s98_9, s98_12, s98_13, s98_15, s98_16, s98_19, s98_22, s98_23, s98_26, s98_28, s98_29, s98_30, s98_31, s98_32, s98_34, s98_35, s98_38, s98_41, s98_44, s98_47, s98_48, s98_50, s98_51, s98_54, s98_57, s98_58, s98_61, s98_63, s98_64, s98_65, s98_66, s98_67, s98_68, s98_69, s98_70, s98_71, s98_72, s98_75, s98_76, s98_77, s98_80, s98_83, s98_84, s98_87, s98_88, s98_89, s98_92, s98_93, s98_96, s98_99, s98_100, s98_102, s98_103, s98_104, s98_107, s98_108, s98_111, s98_112, s98_114, s98_115, s98_118, s98_121, s98_122, s98_125, s98_127, s98_128, s98_129, s98_130, s98_131, s98_132, s98_133, s98_134, s98_136, s98_139, s98_142, s98_143, s98_147, s98_148, s98_151, s98_154, s98_155, s98_157, s98_160, s98_163, s98_166, s98_168, s98_169, s98_170, s98_172, s98_173, s98_174, s98_175, s98_177, s98_178, s98_180, s98_181, s98_184, s98_186, s98_187, s98_190, s98_192, s98_193, s98_194, s98_195, s98_196, s98_197, s98_200, s98_201, s98_203, s98_206, s98_209, s98_210, s98_213, s98_215, s98_216, s98_219, s98_222, s98_223, s98_226, s98_229, s98_232, s98_235, s98_238, s98_241, zcs_0, zcs_1, zcs_2, zcs_3, zcs_4, zcs_5, zcs_6, zcs_7, znl_i, znl_r, znl_n, Bool.and_true, Bool.true_and, zk_v, zk_n, zk_x, zir_r, zir_n, zclr_i, zclr_r, zclr_n, zclr_d, zclr_l, true_and, and_true, and_self, if_true, if_false, reduceIte, nI_add, pk_mul, zin_ok, zx_nI, nI_lt2, nI_le2, nI_eq2, nI_l0, nI_g0, nI_q0, nI_p0, nI_n0, nI_m1, Nat.add_zero, Nat.zero_add, Nat.reduceAdd, Nat.reduceMul, true_or, or_true, znar_50, bI_0, bI_1, bI_z, bft, nI_z0, nI_z1, lgc_lt, lgc_gt, lgc_le, lgc_ge, lgc_eq, not_true_eq_false, not_false_eq_true, Bool.not_eq_true, Bool.not_eq_false, reduceCtorEq, c0, a4, nI_sh1, Nat.le_refl]
    refine H f (fun S l hS hl => ?_)
    rw [hw S l hS hl]
    congr 1
    unfold pW
    rw [if_neg (show ¬ (S.testBit l = true ∧ ¬ S = 2 ^ l ∧ 2 ^ n ≤ S - 2 ^ l) from fun q => absurd (Nat.lt_of_le_of_lt (Nat.le_trans q.2.2 (Nat.sub_le _ _)) hS) (Nat.lt_irrefl _))]) (by
    rintro s ⟨f, x2, x3, x4, x5⟩ hs2 ⟨hs1, hw⟩ hnext
    dsimp only at hw
    have c0 := c0' f
    unfold CS at c0
    have a4 := a4' f
    have g1 : ¬ 2 ^ n ≤ s := by omega
    refine Eq.mpr s98_101 ?_
    simp (disch := omega) only [s98_0, s98_1, s98_3, s98_4, s98_5, s98_8, s98_9, s98_12, s98_13, s98_15, s98_16, s98_19, s98_22, s98_23, s98_26, s98_28, s98_29, s98_30, s98_31, s98_32, s98_34, s98_35, s98_38, s98_41, s98_44, s98_47, s98_48, s98_50, s98_51, s98_54, s98_57, s98_58, s98_61, s98_63, s98_64, s98_65, s98_66, s98_67, s98_68, s98_69, s98_70, s98_71, s98_72, s98_75, s98_76, s98_77, s98_80, s98_83, s98_84, s98_87, s98_88, s98_89, s98_92, s98_93, s98_96, s98_99, s98_100, s98_102, s98_103, s98_104, s98_107, s98_108, s98_111, s98_112, s98_114, s98_115, s98_118, s98_121, s98_122, s98_125, s98_127, s98_128, s98_129, s98_130, s98_131, s98_132, s98_133, s98_134, s98_136, s98_139, s98_142, s98_143, s98_147, s98_148, s98_151, s98_154, s98_155, s98_157, s98_160, s98_163, s98_166, s98_168, s98_169, s98_170, s98_172, s98_173, s98_174, s98_175, s98_177, s98_178, s98_180, s98_181, s98_184, s98_186, s98_187, s98_190, s98_192, s98_193, s98_194, s98_195, s98_196, s98_197, s98_200, s98_201, s98_203, s98_206, s98_209, s98_210, s98_213, s98_215, s98_216, s98_219, s98_222, s98_223, s98_226, s98_229, s98_232, s98_235, s98_238, s98_241, zcs_0, zcs_1, zcs_2, zcs_3, zcs_4, zcs_5, zcs_6, zcs_7, znl_i, znl_r, znl_n, Bool.and_true, Bool.true_and, zk_v, zk_n, zk_x, zir_r, zir_n, zclr_i, zclr_r, zclr_n, zclr_d, zclr_l, true_and, and_true, and_self, if_true, if_false, reduceIte, nI_add, pk_mul, zin_ok, zx_nI, nI_lt2, nI_le2, nI_eq2, nI_l0, nI_g0, nI_q0, nI_p0, nI_n0, nI_m1, Nat.add_zero, Nat.zero_add, Nat.reduceAdd, Nat.reduceMul, true_or, or_true, znar_50, bI_0, bI_1, bI_z, bft, nI_z0, nI_z1, lgc_lt, lgc_gt, lgc_le, lgc_ge, lgc_eq, not_true_eq_false, not_false_eq_true, Bool.not_eq_true, Bool.not_eq_false, reduceCtorEq, c0, a4, nI_sh1, g1]
    exact c98k h nB hT hv hWD hA hO hav hdy hs1 hs2 (fun w hw => hnext w ⟨by omega, hw⟩) 0 (f, _, _, _) (Nat.zero_le _) hw)
  -- the second loop
  have k2 := zl_inv (P := fun k (w : (Nat → Int32) × Value × Value × Value × Value) => ZW zG (d + 3) 98 49 [.ref 122, .int (nI k), w.2.1, w.2.2.1, w.2.2.2.1, w.2.2.2.2] [] (sIA z 124 w.1) Q) (I := fun k w => (∀ q, q < k → w.1 (10 * 2 ^ q + q) = nI (rA v (rdC v a) dy hs q (0 + dD v a (hs q)))) ∧ (∀ S l, S < 2 ^ n → l < n → ¬ S = 2 ^ l → w.1 (10 * S + l) = nI 100000)) n (by
    rintro ⟨f, x2, x3, x4, x5⟩ ⟨w1, w2⟩
    have c0 := c0' f
    unfold CS at c0
    have a4 := a4' f
    refine Eq.mpr s98_49 ?_
    simp (disch := omega) only [s98_0, s98_1, s98_3, s98_4, s98_5, s98_8, s98_9, s98_12, s98_13, s98_15, s98_16, s98_19, s98_22, s98_23, s98_26, s98_28, s98_29, s98_30, s98_31, s98_32, s98_34, s98_35, s98_38, s98_41, s98_44, s98_47, s98_48, s98_50, s98_51, s98_54, s98_57, s98_58, s98_61, s98_63, s98_64, s98_65, s98_66, s98_67, s98_68, s98_69, s98_70, s98_71, s98_72, s98_75, s98_76, s98_77, s98_80, s98_83, s98_84, s98_87, s98_88, s98_89, s98_92, s98_93, s98_96, s98_99, s98_100, s98_102, s98_103, s98_104, s98_107, s98_108, s98_111, s98_112, s98_114, s98_115, s98_118, s98_121, s98_122, s98_125, s98_127, s98_128, s98_129, s98_130, s98_131, s98_132, s98_133, s98_134, s98_136, s98_139, s98_142, s98_143, s98_147, s98_148, s98_151, s98_154, s98_155, s98_157, s98_160, s98_163, s98_166, s98_168, s98_169, s98_170, s98_172, s98_173, s98_174, s98_175, s98_177, s98_178, s98_180, s98_181, s98_184, s98_186, s98_187, s98_190, s98_192, s98_193, s98_194, s98_195, s98_196, s98_197, s98_200, s98_201, s98_203, s98_206, s98_209, s98_210, s98_213, s98_215, s98_216, s98_219, s98_222, s98_223, s98_226, s98_229, s98_232, s98_235, s98_238, s98_241, zcs_0, zcs_1, zcs_2, zcs_3, zcs_4, zcs_5, zcs_6, zcs_7, znl_i, znl_r, znl_n, Bool.and_true, Bool.true_and, zk_v, zk_n, zk_x, zir_r, zir_n, zclr_i, zclr_r, zclr_n, zclr_d, zclr_l, true_and, and_true, and_self, if_true, if_false, reduceIte, nI_add, pk_mul, zin_ok, zx_nI, nI_lt2, nI_le2, nI_eq2, nI_l0, nI_g0, nI_q0, nI_p0, nI_n0, nI_m1, Nat.add_zero, Nat.zero_add, Nat.reduceAdd, Nat.reduceMul, true_or, or_true, znar_50, bI_0, bI_1, bI_z, bft, nI_z0, nI_z1, lgc_lt, lgc_gt, lgc_le, lgc_ge, lgc_eq, not_true_eq_false, not_false_eq_true, Bool.not_eq_true, Bool.not_eq_false, reduceCtorEq, c0, a4, Nat.le_refl]
    exact k3 1 (f, _, _, _, _) (by omega) ⟨Nat.le_refl _, aI_1 w1 w2⟩) (by
    rintro k ⟨f, x2, x3, x4, x5⟩ hk ⟨w1, w2⟩ hnext
    dsimp only at w1 w2
    have hN2 := NW_cFr h nB (fr f)
    have hA2 := aL_124 hA (show ¬ 124 = 123 by omega) f
    have c0 := hN2.1
    unfold CS at c0
    have a4 := hA2.1
    have a9 := hA2.2.2.2.1
    have g1 : ¬ n ≤ k := by omega
    have hq1 := hO.2 k hk
    have b1 := hA2.2.2.2.2 k hk
    have ck := fun d Q => c99 (d := d) (Q := Q) hN2 (show k < 10 by omega) b1 hq1
    have cf := fun d Q => c248 (d := d) (Q := Q) hv hN2.2.2.1 hav hq1
    have hd2 := dD_le hT hav hq1
    have ca := fun d Q => c100 (d := d) (Q := Q) hN2 hT hWD (a := a) (dy := dy) hA2.2.2.1 hA2.2.1 hdy (u := 0) (f := dD v a (hs k)) (k := hs k) hq1 (by omega) (by omega)
    obtain ⟨_, fk1, _⟩ := hN2.2.2.1.fld hq1
    obtain ⟨_, fa1, _⟩ := hN2.2.2.1.fld hav
    have hpk : 2 ^ k ≤ 2 ^ n := Nat.pow_le_pow_right (by omega) (by omega)
    have hpk2 : 2 ^ k < 2 ^ n := Nat.pow_lt_pow_right (by omega) hk
    have hpk0 := Nat.two_pow_pos k
    refine Eq.mpr s98_49 ?_
    simp (disch := omega) only [s98_0, s98_1, s98_3, s98_4, s98_5, s98_8, s98_9, s98_12, s98_13, s98_15, s98_16, s98_19, s98_22, s98_23, s98_26, s98_28, s98_29, s98_30, s98_31, s98_32, s98_34, s98_35, s98_38, s98_41, s98_44, s98_47, s98_48, s98_50, s98_51, s98_54, s98_57, s98_58, s98_61, s98_63, s98_64, s98_65, s98_66, s98_67, s98_68, s98_69, s98_70, s98_71, s98_72, s98_75, s98_76, s98_77, s98_80, s98_83, s98_84, s98_87, s98_88, s98_89, s98_92, s98_93, s98_96, s98_99, s98_100, s98_102, s98_103, s98_104, s98_107, s98_108, s98_111, s98_112, s98_114, s98_115, s98_118, s98_121, s98_122, s98_125, s98_127, s98_128, s98_129, s98_130, s98_131, s98_132, s98_133, s98_134, s98_136, s98_139, s98_142, s98_143, s98_147, s98_148, s98_151, s98_154, s98_155, s98_157, s98_160, s98_163, s98_166, s98_168, s98_169, s98_170, s98_172, s98_173, s98_174, s98_175, s98_177, s98_178, s98_180, s98_181, s98_184, s98_186, s98_187, s98_190, s98_192, s98_193, s98_194, s98_195, s98_196, s98_197, s98_200, s98_201, s98_203, s98_206, s98_209, s98_210, s98_213, s98_215, s98_216, s98_219, s98_222, s98_223, s98_226, s98_229, s98_232, s98_235, s98_238, s98_241, zcs_0, zcs_1, zcs_2, zcs_3, zcs_4, zcs_5, zcs_6, zcs_7, znl_i, znl_r, znl_n, Bool.and_true, Bool.true_and, zk_v, zk_n, zk_x, zir_r, zir_n, zclr_i, zclr_r, zclr_n, zclr_d, zclr_l, true_and, and_true, and_self, if_true, if_false, reduceIte, nI_add, pk_mul, zin_ok, zx_nI, nI_lt2, nI_le2, nI_eq2, nI_l0, nI_g0, nI_q0, nI_p0, nI_n0, nI_m1, Nat.add_zero, Nat.zero_add, Nat.reduceAdd, Nat.reduceMul, true_or, or_true, znar_50, bI_0, bI_1, bI_z, bft, nI_z0, nI_z1, lgc_lt, lgc_gt, lgc_le, lgc_ge, lgc_eq, not_true_eq_false, not_false_eq_true, Bool.not_eq_true, Bool.not_eq_false, reduceCtorEq, c0, a4, a9, g1, nI_sh1, ck, cf, b1, ca, fk1, fa1, sIA_sia]
    refine hnext (zu1 f (10 * 2 ^ k + k) (nI (aA v (rdC v a (hs k)) dy (hs k) (dD v a (hs k)))), _, _, _, _) ⟨fun q hq => ?_, fun S l hS hl hne => ?_⟩ <;> dsimp only
    · by_cases e : q = k
      · subst e
        rw [zu1_s, Nat.zero_add]
        rfl
      · have hinj : 2 ^ q < 2 ^ k := Nat.pow_lt_pow_right (by omega) (by omega)
        rw [zu1_n _ _ _ (by omega)]
        exact w1 q (by omega)
    · rw [zu1_n]
      · exact w2 S l hS hl hne
      · intro e
        have : l = k := by omega
        subst this
        exact hne (by omega))
  -- the first
  have k1 := zl_inv (P := fun s (w : (Nat → Int32) × Value × Value × Value × Value) => ZW zG (d + 3) 98 2 [.ref 122, .int (nI s), w.2.1, w.2.2.1, w.2.2.2.1, w.2.2.2.2] [] (sIA z 124 w.1) Q) (I := fun s w => ∀ S l, S < s → l < n → w.1 (10 * S + l) = nI 100000) (2 ^ n) (by
    rintro ⟨f, x2, x3, x4, x5⟩ hw
    have c0 := c0' f
    unfold CS at c0
    have a4 := a4' f
    refine Eq.mpr s98_2 ?_
    simp (disch := omega) only [s98_0, s98_1, s98_3, s98_4, s98_5, s98_8, s98_9, s98_12, s98_13, s98_15, s98_16, s98_19, s98_22, s98_23, s98_26, s98_28, s98_29, s98_30, s98_31, s98_32, s98_34, s98_35, s98_38, s98_41, s98_44, s98_47, s98_48, s98_50, s98_51, s98_54, s98_57, s98_58, s98_61, s98_63, s98_64, s98_65, s98_66, s98_67, s98_68, s98_69, s98_70, s98_71, s98_72, s98_75, s98_76, s98_77, s98_80, s98_83, s98_84, s98_87, s98_88, s98_89, s98_92, s98_93, s98_96, s98_99, s98_100, s98_102, s98_103, s98_104, s98_107, s98_108, s98_111, s98_112, s98_114, s98_115, s98_118, s98_121, s98_122, s98_125, s98_127, s98_128, s98_129, s98_130, s98_131, s98_132, s98_133, s98_134, s98_136, s98_139, s98_142, s98_143, s98_147, s98_148, s98_151, s98_154, s98_155, s98_157, s98_160, s98_163, s98_166, s98_168, s98_169, s98_170, s98_172, s98_173, s98_174, s98_175, s98_177, s98_178, s98_180, s98_181, s98_184, s98_186, s98_187, s98_190, s98_192, s98_193, s98_194, s98_195, s98_196, s98_197, s98_200, s98_201, s98_203, s98_206, s98_209, s98_210, s98_213, s98_215, s98_216, s98_219, s98_222, s98_223, s98_226, s98_229, s98_232, s98_235, s98_238, s98_241, zcs_0, zcs_1, zcs_2, zcs_3, zcs_4, zcs_5, zcs_6, zcs_7, znl_i, znl_r, znl_n, Bool.and_true, Bool.true_and, zk_v, zk_n, zk_x, zir_r, zir_n, zclr_i, zclr_r, zclr_n, zclr_d, zclr_l, true_and, and_true, and_self, if_true, if_false, reduceIte, nI_add, pk_mul, zin_ok, zx_nI, nI_lt2, nI_le2, nI_eq2, nI_l0, nI_g0, nI_q0, nI_p0, nI_n0, nI_m1, Nat.add_zero, Nat.zero_add, Nat.reduceAdd, Nat.reduceMul, true_or, or_true, znar_50, bI_0, bI_1, bI_z, bft, nI_z0, nI_z1, lgc_lt, lgc_gt, lgc_le, lgc_ge, lgc_eq, not_true_eq_false, not_false_eq_true, Bool.not_eq_true, Bool.not_eq_false, reduceCtorEq, c0, a4, nI_sh1, Nat.le_refl]
    exact k2 0 (f, _, _, _, _) (Nat.zero_le _) ⟨fun q hq => absurd hq (by omega), fun S l hS hl _ => hw S l hS hl⟩) (by
    rintro s ⟨f, x2, x3, x4, x5⟩ hs2 hw hnext
    dsimp only at hw
    have inner := zl_inv (P := fun k (w : Nat → Int32) => ZW zG (d + 3) 98 14 [.ref 122, .int (nI s), .int (nI k), x3, x4, x5] [] (sIA z 124 w) Q) (I := fun k w => (∀ S l, S < s → l < n → w (10 * S + l) = nI 100000) ∧ (∀ l, l < k → w (10 * s + l) = nI 100000)) n (by
      rintro w ⟨w1, w2⟩
      have c0 := c0' w
      unfold CS at c0
      have a4 := a4' w
      refine Eq.mpr s98_14 ?_
      simp (disch := omega) only [s98_0, s98_1, s98_3, s98_4, s98_5, s98_8, s98_9, s98_12, s98_13, s98_15, s98_16, s98_19, s98_22, s98_23, s98_26, s98_28, s98_29, s98_30, s98_31, s98_32, s98_34, s98_35, s98_38, s98_41, s98_44, s98_47, s98_48, s98_50, s98_51, s98_54, s98_57, s98_58, s98_61, s98_63, s98_64, s98_65, s98_66, s98_67, s98_68, s98_69, s98_70, s98_71, s98_72, s98_75, s98_76, s98_77, s98_80, s98_83, s98_84, s98_87, s98_88, s98_89, s98_92, s98_93, s98_96, s98_99, s98_100, s98_102, s98_103, s98_104, s98_107, s98_108, s98_111, s98_112, s98_114, s98_115, s98_118, s98_121, s98_122, s98_125, s98_127, s98_128, s98_129, s98_130, s98_131, s98_132, s98_133, s98_134, s98_136, s98_139, s98_142, s98_143, s98_147, s98_148, s98_151, s98_154, s98_155, s98_157, s98_160, s98_163, s98_166, s98_168, s98_169, s98_170, s98_172, s98_173, s98_174, s98_175, s98_177, s98_178, s98_180, s98_181, s98_184, s98_186, s98_187, s98_190, s98_192, s98_193, s98_194, s98_195, s98_196, s98_197, s98_200, s98_201, s98_203, s98_206, s98_209, s98_210, s98_213, s98_215, s98_216, s98_219, s98_222, s98_223, s98_226, s98_229, s98_232, s98_235, s98_238, s98_241, zcs_0, zcs_1, zcs_2, zcs_3, zcs_4, zcs_5, zcs_6, zcs_7, znl_i, znl_r, znl_n, Bool.and_true, Bool.true_and, zk_v, zk_n, zk_x, zir_r, zir_n, zclr_i, zclr_r, zclr_n, zclr_d, zclr_l, true_and, and_true, and_self, if_true, if_false, reduceIte, nI_add, pk_mul, zin_ok, zx_nI, nI_lt2, nI_le2, nI_eq2, nI_l0, nI_g0, nI_q0, nI_p0, nI_n0, nI_m1, Nat.add_zero, Nat.zero_add, Nat.reduceAdd, Nat.reduceMul, true_or, or_true, znar_50, bI_0, bI_1, bI_z, bft, nI_z0, nI_z1, lgc_lt, lgc_gt, lgc_le, lgc_ge, lgc_eq, not_true_eq_false, not_false_eq_true, Bool.not_eq_true, Bool.not_eq_false, reduceCtorEq, c0, a4, Nat.le_refl]
      refine hnext (w, _, _, _, _) (fun S l hS hl => ?_)
      by_cases e : S = s
      · subst e; exact w2 l hl
      · exact w1 S l (by omega) hl) (by
      rintro k w hk ⟨w1, w2⟩ hn2
      have c0 := c0' w
      unfold CS at c0
      have a4 := a4' w
      have g1 : ¬ n ≤ k := by omega
      refine Eq.mpr s98_14 ?_
      simp (disch := omega) only [s98_0, s98_1, s98_3, s98_4, s98_5, s98_8, s98_9, s98_12, s98_13, s98_15, s98_16, s98_19, s98_22, s98_23, s98_26, s98_28, s98_29, s98_30, s98_31, s98_32, s98_34, s98_35, s98_38, s98_41, s98_44, s98_47, s98_48, s98_50, s98_51, s98_54, s98_57, s98_58, s98_61, s98_63, s98_64, s98_65, s98_66, s98_67, s98_68, s98_69, s98_70, s98_71, s98_72, s98_75, s98_76, s98_77, s98_80, s98_83, s98_84, s98_87, s98_88, s98_89, s98_92, s98_93, s98_96, s98_99, s98_100, s98_102, s98_103, s98_104, s98_107, s98_108, s98_111, s98_112, s98_114, s98_115, s98_118, s98_121, s98_122, s98_125, s98_127, s98_128, s98_129, s98_130, s98_131, s98_132, s98_133, s98_134, s98_136, s98_139, s98_142, s98_143, s98_147, s98_148, s98_151, s98_154, s98_155, s98_157, s98_160, s98_163, s98_166, s98_168, s98_169, s98_170, s98_172, s98_173, s98_174, s98_175, s98_177, s98_178, s98_180, s98_181, s98_184, s98_186, s98_187, s98_190, s98_192, s98_193, s98_194, s98_195, s98_196, s98_197, s98_200, s98_201, s98_203, s98_206, s98_209, s98_210, s98_213, s98_215, s98_216, s98_219, s98_222, s98_223, s98_226, s98_229, s98_232, s98_235, s98_238, s98_241, zcs_0, zcs_1, zcs_2, zcs_3, zcs_4, zcs_5, zcs_6, zcs_7, znl_i, znl_r, znl_n, Bool.and_true, Bool.true_and, zk_v, zk_n, zk_x, zir_r, zir_n, zclr_i, zclr_r, zclr_n, zclr_d, zclr_l, true_and, and_true, and_self, if_true, if_false, reduceIte, nI_add, pk_mul, zin_ok, zx_nI, nI_lt2, nI_le2, nI_eq2, nI_l0, nI_g0, nI_q0, nI_p0, nI_n0, nI_m1, Nat.add_zero, Nat.zero_add, Nat.reduceAdd, Nat.reduceMul, true_or, or_true, znar_50, bI_0, bI_1, bI_z, bft, nI_z0, nI_z1, lgc_lt, lgc_gt, lgc_le, lgc_ge, lgc_eq, not_true_eq_false, not_false_eq_true, Bool.not_eq_true, Bool.not_eq_false, reduceCtorEq, c0, a4, g1, sIA_sia]
      refine hn2 (zu1 w (10 * s + k) (nI 100000)) ⟨fun S l hS hl => ?_, fun l hl => ?_⟩
      · rw [zu1_n _ _ _ (by omega)]; exact w1 S l hS hl
      · by_cases e : l = k
        · subst e; exact zu1_s _ _ _
        · rw [zu1_n _ _ _ (by omega)]; exact w2 l (by omega))
    have c0 := c0' f
    unfold CS at c0
    have a4 := a4' f
    have g1 : ¬ 2 ^ n ≤ s := by omega
    refine Eq.mpr s98_2 ?_
    simp (disch := omega) only [s98_0, s98_1, s98_3, s98_4, s98_5, s98_8, s98_9, s98_12, s98_13, s98_15, s98_16, s98_19, s98_22, s98_23, s98_26, s98_28, s98_29, s98_30, s98_31, s98_32, s98_34, s98_35, s98_38, s98_41, s98_44, s98_47, s98_48, s98_50, s98_51, s98_54, s98_57, s98_58, s98_61, s98_63, s98_64, s98_65, s98_66, s98_67, s98_68, s98_69, s98_70, s98_71, s98_72, s98_75, s98_76, s98_77, s98_80, s98_83, s98_84, s98_87, s98_88, s98_89, s98_92, s98_93, s98_96, s98_99, s98_100, s98_102, s98_103, s98_104, s98_107, s98_108, s98_111, s98_112, s98_114, s98_115, s98_118, s98_121, s98_122, s98_125, s98_127, s98_128, s98_129, s98_130, s98_131, s98_132, s98_133, s98_134, s98_136, s98_139, s98_142, s98_143, s98_147, s98_148, s98_151, s98_154, s98_155, s98_157, s98_160, s98_163, s98_166, s98_168, s98_169, s98_170, s98_172, s98_173, s98_174, s98_175, s98_177, s98_178, s98_180, s98_181, s98_184, s98_186, s98_187, s98_190, s98_192, s98_193, s98_194, s98_195, s98_196, s98_197, s98_200, s98_201, s98_203, s98_206, s98_209, s98_210, s98_213, s98_215, s98_216, s98_219, s98_222, s98_223, s98_226, s98_229, s98_232, s98_235, s98_238, s98_241, zcs_0, zcs_1, zcs_2, zcs_3, zcs_4, zcs_5, zcs_6, zcs_7, znl_i, znl_r, znl_n, Bool.and_true, Bool.true_and, zk_v, zk_n, zk_x, zir_r, zir_n, zclr_i, zclr_r, zclr_n, zclr_d, zclr_l, true_and, and_true, and_self, if_true, if_false, reduceIte, nI_add, pk_mul, zin_ok, zx_nI, nI_lt2, nI_le2, nI_eq2, nI_l0, nI_g0, nI_q0, nI_p0, nI_n0, nI_m1, Nat.add_zero, Nat.zero_add, Nat.reduceAdd, Nat.reduceMul, true_or, or_true, znar_50, bI_0, bI_1, bI_z, bft, nI_z0, nI_z1, lgc_lt, lgc_gt, lgc_le, lgc_ge, lgc_eq, not_true_eq_false, not_false_eq_true, Bool.not_eq_true, Bool.not_eq_false, reduceCtorEq, c0, a4, nI_sh1, g1]
    exact inner 0 f (Nat.zero_le _) ⟨hw, fun l hl => absurd hl (by omega)⟩)
  have e := k1 0 (zia z 124, zdum, zdum, zdum, zdum) (Nat.zero_le _) (fun S l h => absurd h (by omega))
  dsimp only at e
  rw [sIA_self] at e
  simp (disch := omega) only [e98, s98_0, s98_1, s98_3, s98_4, s98_5, s98_8, s98_9, s98_12, s98_13, s98_15, s98_16, s98_19, s98_22, s98_23, s98_26, s98_28, s98_29, s98_30, s98_31, s98_32, s98_34, s98_35, s98_38, s98_41, s98_44, s98_47, s98_48, s98_50, s98_51, s98_54, s98_57, s98_58, s98_61, s98_63, s98_64, s98_65, s98_66, s98_67, s98_68, s98_69, s98_70, s98_71, s98_72, s98_75, s98_76, s98_77, s98_80, s98_83, s98_84, s98_87, s98_88, s98_89, s98_92, s98_93, s98_96, s98_99, s98_100, s98_102, s98_103, s98_104, s98_107, s98_108, s98_111, s98_112, s98_114, s98_115, s98_118, s98_121, s98_122, s98_125, s98_127, s98_128, s98_129, s98_130, s98_131, s98_132, s98_133, s98_134, s98_136, s98_139, s98_142, s98_143, s98_147, s98_148, s98_151, s98_154, s98_155, s98_157, s98_160, s98_163, s98_166, s98_168, s98_169, s98_170, s98_172, s98_173, s98_174, s98_175, s98_177, s98_178, s98_180, s98_181, s98_184, s98_186, s98_187, s98_190, s98_192, s98_193, s98_194, s98_195, s98_196, s98_197, s98_200, s98_201, s98_203, s98_206, s98_209, s98_210, s98_213, s98_215, s98_216, s98_219, s98_222, s98_223, s98_226, s98_229, s98_232, s98_235, s98_238, s98_241, zcs_0, zcs_1, zcs_2, zcs_3, zcs_4, zcs_5, zcs_6, zcs_7, znl_i, znl_r, znl_n, Bool.and_true, Bool.true_and, zk_v, zk_n, zk_x, zir_r, zir_n, zclr_i, zclr_r, zclr_n, zclr_d, zclr_l, true_and, and_true, and_self, if_true, if_false, reduceIte, nI_add, pk_mul, zin_ok, zx_nI, nI_lt2, nI_le2, nI_eq2, nI_l0, nI_g0, nI_q0, nI_p0, nI_n0, nI_m1, Nat.add_zero, Nat.zero_add, Nat.reduceAdd, Nat.reduceMul, true_or, or_true, znar_50, bI_0, bI_1, bI_z, bft, nI_z0, nI_z1, lgc_lt, lgc_gt, lgc_le, lgc_ge, lgc_eq, not_true_eq_false, not_false_eq_true, Bool.not_eq_true, Bool.not_eq_false, reduceCtorEq, h0]
  exact e
theorem c103 (h : NW B z v L t hl kn rl ha ra da ea) (h4 : zfi z 122 4 = nI n) (hn : n ≤ 10) {S : Nat} {E : Nat → Nat} (hS : S < 2 ^ n) (h0' : ¬ S = 0) (hE : ∀ l, l < n → zia z 124 (10 * S + l) = nI (E l)) (hF : ∀ l, l < n → E l ≤ 100000) : ZC zG d 103 [.ref 122, .int (nI S)] z Q = Q (.inl (some (.int (nI (minN E n))))) z := by
  have h0 := h.1
  unfold CS at h0
  obtain ⟨hN, hN0⟩ := pow10 hn
  have e : ∀ k, k < n → ZW zG d 103 11 [.ref 122, .int (nI S), .int (nI (minN E k)), .int (nI k)] [] z Q = ZW zG d 103 11 [.ref 122, .int (nI S), .int (nI (minN E (k + 1))), .int (nI (k + 1))] [] z Q := by
    intro k hk
    refine s103_11.trans ?_
    have g1 : ¬ n ≤ k := by omega
    have hst : minN E (k + 1) = min (minN E k) (E k) := rfl
    have f1 := minN_F E k
    have f2 := hF k hk
    have f3 := hE k hk
    rw [hst]
    simp (disch := omega) only [s103_0, s103_1, s103_4, s103_5, s103_6, s103_8, s103_9, s103_10, s103_12, s103_13, s103_16, s103_19, s103_20, s103_21, s103_24, s103_26, s103_27, s103_28, s103_29, s103_30, s103_31, s103_34, s103_35, s103_38, s103_41, s103_42, zcs_0, zcs_1, zcs_2, zcs_3, zcs_4, zcs_5, zcs_6, zcs_7, znl_i, znl_r, znl_n, Bool.and_true, Bool.true_and, zk_v, zk_n, zk_x, zir_r, zir_n, zclr_i, zclr_r, zclr_n, zclr_d, zclr_l, true_and, and_true, and_self, if_true, if_false, reduceIte, nI_add, pk_mul, zin_ok, zx_nI, nI_lt2, nI_le2, nI_eq2, nI_l0, nI_g0, nI_q0, nI_p0, nI_n0, nI_m1, Nat.add_zero, Nat.zero_add, Nat.reduceAdd, Nat.reduceMul, true_or, or_true, znar_50, bI_0, bI_1, bI_z, bft, nI_z0, nI_z1, lgc_lt, lgc_gt, lgc_le, lgc_ge, lgc_eq, not_true_eq_false, not_false_eq_true, Bool.not_eq_true, Bool.not_eq_false, reduceCtorEq, h0, h4, g1, f3, zmin_nI]
  simp (disch := omega) only [e103, s103_0, s103_1, s103_4, s103_5, s103_6, s103_8, s103_9, s103_10, s103_12, s103_13, s103_16, s103_19, s103_20, s103_21, s103_24, s103_26, s103_27, s103_28, s103_29, s103_30, s103_31, s103_34, s103_35, s103_38, s103_41, s103_42, zcs_0, zcs_1, zcs_2, zcs_3, zcs_4, zcs_5, zcs_6, zcs_7, znl_i, znl_r, znl_n, Bool.and_true, Bool.true_and, zk_v, zk_n, zk_x, zir_r, zir_n, zclr_i, zclr_r, zclr_n, zclr_d, zclr_l, true_and, and_true, and_self, if_true, if_false, reduceIte, nI_add, pk_mul, zin_ok, zx_nI, nI_lt2, nI_le2, nI_eq2, nI_l0, nI_g0, nI_q0, nI_p0, nI_n0, nI_m1, Nat.add_zero, Nat.zero_add, Nat.reduceAdd, Nat.reduceMul, true_or, or_true, znar_50, bI_0, bI_1, bI_z, bft, nI_z0, nI_z1, lgc_lt, lgc_gt, lgc_le, lgc_ge, lgc_eq, not_true_eq_false, not_false_eq_true, Bool.not_eq_true, Bool.not_eq_false, reduceCtorEq, h0, h0']
  refine Eq.trans (zl_up (P := fun k => ZW zG d 103 11 [.ref 122, .int (nI S), .int (nI (minN E k)), .int (nI k)] [] z Q) n e) ?_
  refine s103_11.trans ?_
  simp (disch := omega) only [s103_0, s103_1, s103_4, s103_5, s103_6, s103_8, s103_9, s103_10, s103_12, s103_13, s103_16, s103_19, s103_20, s103_21, s103_24, s103_26, s103_27, s103_28, s103_29, s103_30, s103_31, s103_34, s103_35, s103_38, s103_41, s103_42, zcs_0, zcs_1, zcs_2, zcs_3, zcs_4, zcs_5, zcs_6, zcs_7, znl_i, znl_r, znl_n, Bool.and_true, Bool.true_and, zk_v, zk_n, zk_x, zir_r, zir_n, zclr_i, zclr_r, zclr_n, zclr_d, zclr_l, true_and, and_true, and_self, if_true, if_false, reduceIte, nI_add, pk_mul, zin_ok, zx_nI, nI_lt2, nI_le2, nI_eq2, nI_l0, nI_g0, nI_q0, nI_p0, nI_n0, nI_m1, Nat.add_zero, Nat.zero_add, Nat.reduceAdd, Nat.reduceMul, true_or, or_true, znar_50, bI_0, bI_1, bI_z, bft, nI_z0, nI_z1, lgc_lt, lgc_gt, lgc_le, lgc_ge, lgc_eq, not_true_eq_false, not_false_eq_true, Bool.not_eq_true, Bool.not_eq_false, reduceCtorEq, h0, h4, Nat.le_refl]
theorem c104 (h : NW B z v L t hl kn rl ha ra da ea) (hA : aL z ha a dy hs n) (hO : lOK v hs n) {S : Nat} (hS : S < 2 ^ n) : ZC zG (d + 1) 104 [.ref 122, .int (nI S)] z Q = Q (.inl (some (.int (nI (wSet v (nI a) hs S n))))) z := by
  have hL := h.ls
  have hD := h.2.2.2.2.1
  have h0 := h.1
  unfold CS at h0
  obtain ⟨hN, hN0⟩ := pow10 hO.1
  have hn10 := hO.1
  obtain ⟨a4, a5, a10, a9, as⟩ := hA
  have e : ∀ k, k < n → ZW zG (d + 1) 104 4 [.ref 122, .int (nI S), .int (nI (wSet v (nI a) hs S k)), .int (nI k)] [] z Q = ZW zG (d + 1) 104 4 [.ref 122, .int (nI S), .int (nI (wSet v (nI a) hs S (k + 1))), .int (nI (k + 1))] [] z Q := by
    intro k hk
    refine s104_4.trans ?_
    have g1 : ¬ n ≤ k := by omega
    have hst : wSet v (nI a) hs S (k + 1) = wSet v (nI a) hs S k + (if S.testBit k = true then sWorth v (nI a) (nI (hs k)) (v 7) else 0) := rfl
    have f3 := as k hk
    have cw := fun d Q => c76 (d := d) (z := z) (Q := Q) hL hD (a := nI a) (b := nI (hs k))
    cases hb : S.testBit k with
    | true =>
      rw [hb, if_pos rfl] at hst
      rw [hst]
      simp (disch := omega) only [s104_0, s104_1, s104_2, s104_3, s104_5, s104_6, s104_9, s104_12, s104_13, s104_14, s104_15, s104_18, s104_21, s104_22, s104_25, s104_28, s104_31, s104_32, s104_35, s104_36, s104_39, s104_40, s104_41, s104_44, s104_47, s104_48, s104_49, s104_50, s104_53, s104_56, s104_57, zcs_0, zcs_1, zcs_2, zcs_3, zcs_4, zcs_5, zcs_6, zcs_7, znl_i, znl_r, znl_n, Bool.and_true, Bool.true_and, zk_v, zk_n, zk_x, zir_r, zir_n, zclr_i, zclr_r, zclr_n, zclr_d, zclr_l, true_and, and_true, and_self, if_true, if_false, reduceIte, nI_add, pk_mul, zin_ok, zx_nI, nI_lt2, nI_le2, nI_eq2, nI_l0, nI_g0, nI_q0, nI_p0, nI_n0, nI_m1, Nat.add_zero, Nat.zero_add, Nat.reduceAdd, Nat.reduceMul, true_or, or_true, znar_50, bI_0, bI_1, bI_z, bft, nI_z0, nI_z1, lgc_lt, lgc_gt, lgc_le, lgc_ge, lgc_eq, not_true_eq_false, not_false_eq_true, Bool.not_eq_true, Bool.not_eq_false, reduceCtorEq, h0, a4, a10, g1, c18, hasI_n, hb, f3, cw]
    | false =>
      rw [hb, if_neg (by decide), Nat.add_zero] at hst
      rw [hst]
      simp (disch := omega) only [s104_0, s104_1, s104_2, s104_3, s104_5, s104_6, s104_9, s104_12, s104_13, s104_14, s104_15, s104_18, s104_21, s104_22, s104_25, s104_28, s104_31, s104_32, s104_35, s104_36, s104_39, s104_40, s104_41, s104_44, s104_47, s104_48, s104_49, s104_50, s104_53, s104_56, s104_57, zcs_0, zcs_1, zcs_2, zcs_3, zcs_4, zcs_5, zcs_6, zcs_7, znl_i, znl_r, znl_n, Bool.and_true, Bool.true_and, zk_v, zk_n, zk_x, zir_r, zir_n, zclr_i, zclr_r, zclr_n, zclr_d, zclr_l, true_and, and_true, and_self, if_true, if_false, reduceIte, nI_add, pk_mul, zin_ok, zx_nI, nI_lt2, nI_le2, nI_eq2, nI_l0, nI_g0, nI_q0, nI_p0, nI_n0, nI_m1, Nat.add_zero, Nat.zero_add, Nat.reduceAdd, Nat.reduceMul, true_or, or_true, znar_50, bI_0, bI_1, bI_z, bft, nI_z0, nI_z1, lgc_lt, lgc_gt, lgc_le, lgc_ge, lgc_eq, not_true_eq_false, not_false_eq_true, Bool.not_eq_true, Bool.not_eq_false, reduceCtorEq, h0, a4, a10, g1, c18, hasI_n, hb]
  simp (disch := omega) only [e104, s104_0, s104_1, s104_2, s104_3, s104_5, s104_6, s104_9, s104_12, s104_13, s104_14, s104_15, s104_18, s104_21, s104_22, s104_25, s104_28, s104_31, s104_32, s104_35, s104_36, s104_39, s104_40, s104_41, s104_44, s104_47, s104_48, s104_49, s104_50, s104_53, s104_56, s104_57, zcs_0, zcs_1, zcs_2, zcs_3, zcs_4, zcs_5, zcs_6, zcs_7, znl_i, znl_r, znl_n, Bool.and_true, Bool.true_and, zk_v, zk_n, zk_x, zir_r, zir_n, zclr_i, zclr_r, zclr_n, zclr_d, zclr_l, true_and, and_true, and_self, if_true, if_false, reduceIte, nI_add, pk_mul, zin_ok, zx_nI, nI_lt2, nI_le2, nI_eq2, nI_l0, nI_g0, nI_q0, nI_p0, nI_n0, nI_m1, Nat.add_zero, Nat.zero_add, Nat.reduceAdd, Nat.reduceMul, true_or, or_true, znar_50, bI_0, bI_1, bI_z, bft, nI_z0, nI_z1, lgc_lt, lgc_gt, lgc_le, lgc_ge, lgc_eq, not_true_eq_false, not_false_eq_true, Bool.not_eq_true, Bool.not_eq_false, reduceCtorEq, h0]
  refine Eq.trans (zl_up (P := fun k => ZW zG (d + 1) 104 4 [.ref 122, .int (nI S), .int (nI (wSet v (nI a) hs S k)), .int (nI k)] [] z Q) n e) ?_
  refine s104_4.trans ?_
  simp (disch := omega) only [s104_0, s104_1, s104_2, s104_3, s104_5, s104_6, s104_9, s104_12, s104_13, s104_14, s104_15, s104_18, s104_21, s104_22, s104_25, s104_28, s104_31, s104_32, s104_35, s104_36, s104_39, s104_40, s104_41, s104_44, s104_47, s104_48, s104_49, s104_50, s104_53, s104_56, s104_57, zcs_0, zcs_1, zcs_2, zcs_3, zcs_4, zcs_5, zcs_6, zcs_7, znl_i, znl_r, znl_n, Bool.and_true, Bool.true_and, zk_v, zk_n, zk_x, zir_r, zir_n, zclr_i, zclr_r, zclr_n, zclr_d, zclr_l, true_and, and_true, and_self, if_true, if_false, reduceIte, nI_add, pk_mul, zin_ok, zx_nI, nI_lt2, nI_le2, nI_eq2, nI_l0, nI_g0, nI_q0, nI_p0, nI_n0, nI_m1, Nat.add_zero, Nat.zero_add, Nat.reduceAdd, Nat.reduceMul, true_or, or_true, znar_50, bI_0, bI_1, bI_z, bft, nI_z0, nI_z1, lgc_lt, lgc_gt, lgc_le, lgc_ge, lgc_eq, not_true_eq_false, not_false_eq_true, Bool.not_eq_true, Bool.not_eq_false, reduceCtorEq, h0, a4, Nat.le_refl]
theorem c105 (h : NW B z v L t hl kn rl ha ra da ea) (hA : aL z ha a dy hs n) (hn : n ≤ 10) (hi : ∀ i j, i < j → j < n → hs i < hs j) (h16 : ∀ k, k < n → hs k < 16) {S : Nat} (hS : S < 2 ^ n) : ZC zG (d + 1) 105 [.ref 122, .int (nI S)] z Q = Q (.inl (some (.int (nI (bitsN hs S n))))) z := by
  have h0 := h.1
  unfold CS at h0
  obtain ⟨hN, hN0⟩ := pow10 hn
  obtain ⟨a4, a5, a10, a9, as⟩ := hA
  have e : ∀ k, k < n → ZW zG (d + 1) 105 4 [.ref 122, .int (nI S), .int (nI (bitsN hs S k)), .int (nI k)] [] z Q = ZW zG (d + 1) 105 4 [.ref 122, .int (nI S), .int (nI (bitsN hs S (k + 1))), .int (nI (k + 1))] [] z Q := by
    intro k hk
    refine s105_4.trans ?_
    have g1 : ¬ n ≤ k := by omega
    have hst : bitsN hs S (k + 1) = bitsN hs S k + (if S.testBit k = true then 2 ^ hs k else 0) := rfl
    have f3 := as k hk
    have f4 := h16 k hk
    have hlt := bitsN_lt (S := S) k (fun i j a b => hi i j a (by omega)) (hs k) (fun i hik => hi i k hik hk)
    cases hb : S.testBit k with
    | true =>
      rw [hb, if_pos rfl, ← or_add2 (Nat.testBit_lt_two_pow hlt)] at hst
      rw [hst]
      simp (disch := omega) only [s105_0, s105_1, s105_2, s105_3, s105_5, s105_6, s105_9, s105_12, s105_13, s105_14, s105_15, s105_18, s105_21, s105_22, s105_23, s105_26, s105_27, s105_28, s105_29, s105_32, s105_33, s105_34, s105_35, s105_38, s105_41, s105_42, zcs_0, zcs_1, zcs_2, zcs_3, zcs_4, zcs_5, zcs_6, zcs_7, znl_i, znl_r, znl_n, Bool.and_true, Bool.true_and, zk_v, zk_n, zk_x, zir_r, zir_n, zclr_i, zclr_r, zclr_n, zclr_d, zclr_l, true_and, and_true, and_self, if_true, if_false, reduceIte, nI_add, pk_mul, zin_ok, zx_nI, nI_lt2, nI_le2, nI_eq2, nI_l0, nI_g0, nI_q0, nI_p0, nI_n0, nI_m1, Nat.add_zero, Nat.zero_add, Nat.reduceAdd, Nat.reduceMul, true_or, or_true, znar_50, bI_0, bI_1, bI_z, bft, nI_z0, nI_z1, lgc_lt, lgc_gt, lgc_le, lgc_ge, lgc_eq, not_true_eq_false, not_false_eq_true, Bool.not_eq_true, Bool.not_eq_false, reduceCtorEq, h0, a4, g1, c18, hasI_n, hb, f3, nI_sh1, nI_or]
    | false =>
      rw [hb, if_neg (by decide), Nat.add_zero] at hst
      rw [hst]
      simp (disch := omega) only [s105_0, s105_1, s105_2, s105_3, s105_5, s105_6, s105_9, s105_12, s105_13, s105_14, s105_15, s105_18, s105_21, s105_22, s105_23, s105_26, s105_27, s105_28, s105_29, s105_32, s105_33, s105_34, s105_35, s105_38, s105_41, s105_42, zcs_0, zcs_1, zcs_2, zcs_3, zcs_4, zcs_5, zcs_6, zcs_7, znl_i, znl_r, znl_n, Bool.and_true, Bool.true_and, zk_v, zk_n, zk_x, zir_r, zir_n, zclr_i, zclr_r, zclr_n, zclr_d, zclr_l, true_and, and_true, and_self, if_true, if_false, reduceIte, nI_add, pk_mul, zin_ok, zx_nI, nI_lt2, nI_le2, nI_eq2, nI_l0, nI_g0, nI_q0, nI_p0, nI_n0, nI_m1, Nat.add_zero, Nat.zero_add, Nat.reduceAdd, Nat.reduceMul, true_or, or_true, znar_50, bI_0, bI_1, bI_z, bft, nI_z0, nI_z1, lgc_lt, lgc_gt, lgc_le, lgc_ge, lgc_eq, not_true_eq_false, not_false_eq_true, Bool.not_eq_true, Bool.not_eq_false, reduceCtorEq, h0, a4, g1, c18, hasI_n, hb, nI_or, Nat.or_zero]
  simp (disch := omega) only [e105, s105_0, s105_1, s105_2, s105_3, s105_5, s105_6, s105_9, s105_12, s105_13, s105_14, s105_15, s105_18, s105_21, s105_22, s105_23, s105_26, s105_27, s105_28, s105_29, s105_32, s105_33, s105_34, s105_35, s105_38, s105_41, s105_42, zcs_0, zcs_1, zcs_2, zcs_3, zcs_4, zcs_5, zcs_6, zcs_7, znl_i, znl_r, znl_n, Bool.and_true, Bool.true_and, zk_v, zk_n, zk_x, zir_r, zir_n, zclr_i, zclr_r, zclr_n, zclr_d, zclr_l, true_and, and_true, and_self, if_true, if_false, reduceIte, nI_add, pk_mul, zin_ok, zx_nI, nI_lt2, nI_le2, nI_eq2, nI_l0, nI_g0, nI_q0, nI_p0, nI_n0, nI_m1, Nat.add_zero, Nat.zero_add, Nat.reduceAdd, Nat.reduceMul, true_or, or_true, znar_50, bI_0, bI_1, bI_z, bft, nI_z0, nI_z1, lgc_lt, lgc_gt, lgc_le, lgc_ge, lgc_eq, not_true_eq_false, not_false_eq_true, Bool.not_eq_true, Bool.not_eq_false, reduceCtorEq, h0]
  refine Eq.trans (zl_up (P := fun k => ZW zG (d + 1) 105 4 [.ref 122, .int (nI S), .int (nI (bitsN hs S k)), .int (nI k)] [] z Q) n e) ?_
  refine s105_4.trans ?_
  simp (disch := omega) only [s105_0, s105_1, s105_2, s105_3, s105_5, s105_6, s105_9, s105_12, s105_13, s105_14, s105_15, s105_18, s105_21, s105_22, s105_23, s105_26, s105_27, s105_28, s105_29, s105_32, s105_33, s105_34, s105_35, s105_38, s105_41, s105_42, zcs_0, zcs_1, zcs_2, zcs_3, zcs_4, zcs_5, zcs_6, zcs_7, znl_i, znl_r, znl_n, Bool.and_true, Bool.true_and, zk_v, zk_n, zk_x, zir_r, zir_n, zclr_i, zclr_r, zclr_n, zclr_d, zclr_l, true_and, and_true, and_self, if_true, if_false, reduceIte, nI_add, pk_mul, zin_ok, zx_nI, nI_lt2, nI_le2, nI_eq2, nI_l0, nI_g0, nI_q0, nI_p0, nI_n0, nI_m1, Nat.add_zero, Nat.zero_add, Nat.reduceAdd, Nat.reduceMul, true_or, or_true, znar_50, bI_0, bI_1, bI_z, bft, nI_z0, nI_z1, lgc_lt, lgc_gt, lgc_le, lgc_ge, lgc_eq, not_true_eq_false, not_false_eq_true, Bool.not_eq_true, Bool.not_eq_false, reduceCtorEq, h0, a4, Nat.le_refl]
end CG
