set_option maxRecDepth 100000
/-! the model: lines and tests -/
def sPart (v : Nat → Nat) (pt : Nat → Int32) (k : Nat) : Int64 := if v (814 + 3 * k + 1) = 5 then (nI (v (814 + 3 * k + 2))).toInt64 else (pt (v (814 + 3 * k + 1))).toInt64
def lok (x : Int64) : Bool := linB x (-1000000000) (lN 1000000000)
/-- the product of the parts s .. s + n; none: too great -/
def prodV (v : Nat → Nat) (pt : Nat → Int32) (s : Nat) : Nat → Option Int64
  | 0 => some (sPart v pt s)
  | n + 1 => match prodV v pt s n with
    | none => none
    | some t => if lok (t * sPart v pt (s + n + 1)) = true then some (t * sPart v pt (s + n + 1)) else none
/-- a step of the model's sum -/
def tStep (v : Nat → Nat) (pt : Nat → Int32) (x : Nat × Nat) (st : Int64 × Int64) : Option (Int64 × Int64) := match prodV v pt x.1 x.2 with
  | none => none
  | some t =>
    let F := if v (814 + 3 * x.1) = 4 then st.2 else st.1
    let S := if v (814 + 3 * x.1) = 4 then lN 0 else st.2
    let S2 := if v (814 + 3 * x.1) = 2 then S - t else S + t
    if lok S2 = true then some (F, S2) else none
def tFold (v : Nat → Nat) (pt : Nat → Int32) : List (Nat × Nat) → Int64 × Int64 → Option (Int64 × Int64)
  | [], st => some st
  | x :: xs, st => match tStep v pt x st with
    | none => none
    | some st' => tFold v pt xs st'
/-- terms that lie one behind another from k to e -/
def tLay (v : Nat → Nat) (e : Nat) : List (Nat × Nat) → Nat → Prop
  | [], k => k = e
  | (s, n) :: xs, k => s = k ∧ s + n < e ∧ ¬ v (814 + 3 * s) = 3 ∧ (∀ j, j < n → v (814 + 3 * (s + 1 + j)) = 3) ∧ tLay v e xs (s + n + 1)
def tCmp (g : Nat) (st : Int64 × Int64) : Bool := if g = 0 then decide (st.2 < st.1) else if g = 1 then decide (st.1 < st.2) else decide (st.1 = st.2)
def tVal (v : Nat → Nat) (pt : Nat → Int32) (ts : List (Nat × Nat)) (g : Nat) : Bool := match tFold v pt ts (lN 0, lN 0) with
  | none => false
  | some st => tCmp g st
/-- parts are as they may be -/
def pOK (v : Nat → Nat) : Prop := ∀ k, k < v 3 → v (814 + 3 * k + 1) ≤ 5
section MT
variable {d : Nat} {z : ZH} {Q : ZQ} {v : Nat → Nat}
theorem m164 (hM : MS z) (hv : ∀ i, v i < 2147483648) {k : Nat} (hk : k < 350) (h5 : v (814 + 3 * k + 1) ≤ 5) : ZC zG d 164 [.ref 135, .int (nI k)] (sW z v) Q = Q (.inl (some (.long (sPart v (zia z 142) k)))) (sW z v) := by
  have h0 := hM
  unfold MS at h0
  simp (disch := first | omega | exact hM | exact hv _) only [e164, s164_0, s164_1, s164_4, s164_7, s164_8, s164_9, s164_10, s164_11, s164_12, s164_13, s164_14, s164_15, s164_16, s164_17, s164_20, s164_21, s164_24, s164_27, s164_28, s164_29, s164_30, s164_31, s164_32, s164_33, s164_34, s164_35, s164_38, s164_39, s164_42, s164_43, s164_44, s164_45, zcs_0, zcs_1, zcs_2, zcs_3, zcs_4, zcs_5, zcs_6, zcs_7, znl_i, znl_r, znl_n, Bool.and_true, Bool.true_and, zk_v, zk_n, zk_x, zir_r, zir_n, zclr_i, zclr_r, zclr_n, zclr_d, zclr_l, true_and, and_true, and_self, if_true, if_false, reduceIte, nI_add, pk_mul, zin_ok, zx_nI, nI_lt2, nI_le2, nI_eq2, nI_l0, nI_g0, nI_q0, nI_p0, nI_n0, nI_m1, Nat.add_zero, Nat.zero_add, Nat.reduceAdd, Nat.reduceMul, true_or, or_true, znar_50, bI_0, bI_1, bI_z, bft, nI_z0, nI_z1, lgc_lt, lgc_gt, lgc_le, lgc_ge, lgc_eq, not_true_eq_false, not_false_eq_true, Bool.not_eq_true, Bool.not_eq_false, reduceCtorEq, MS_sW, CS_sW, sW_r, sW_n, sW_w, cls_sW, fi_sW, fr_sW, la_sW, ra_sW, len_sW, ls_sW, own_sW, n_sW, uc_sW, us_sW, sW_sfi, sW_sla, sW_sLA, sW_sls, sW_spay, sW_sia, sW_sIA, ne_eq, cls_sfi, fr_sfi, ia_sfi, la_sfi, ra_sfi, len_sfi, ls_sfi, own_sfi, n_sfi, uc_sfi, us_sfi, cls_sia, fi_sia, fr_sia, la_sia, ra_sia, len_sia, ls_sia, own_sia, n_sia, uc_sia, us_sia, cls_sIA, fi_sIA, fr_sIA, la_sIA, ra_sIA, len_sIA, ls_sIA, own_sIA, n_sIA, uc_sIA, us_sIA, cls_sla, fi_sla, fr_sla, ia_sla, ra_sla, len_sla, ls_sla, own_sla, n_sla, uc_sla, us_sla, cls_sLA, fi_sLA, fr_sLA, ia_sLA, ra_sLA, len_sLA, ls_sLA, own_sLA, n_sLA, uc_sLA, us_sLA, h0]
  unfold sPart
  by_cases h : v (814 + 3 * k + 1) = 5
  · simp [h]
  · have h2 : v (814 + 3 * k + 1) < 6 := by omega
    simp (disch := first | omega | exact hM | exact hv _) only [h, not_false_eq_true, if_true, if_false, h2, zcs_0, zcs_1, zcs_2, zcs_3, zcs_4, zcs_5, zcs_6, zcs_7, znl_i, znl_r, znl_n, Bool.and_true, Bool.true_and, zk_v, zk_n, zk_x, zir_r, zir_n, zclr_i, zclr_r, zclr_n, zclr_d, zclr_l, true_and, and_true, and_self, if_true, if_false, reduceIte, nI_add, pk_mul, zin_ok, zx_nI, nI_lt2, nI_le2, nI_eq2, nI_l0, nI_g0, nI_q0, nI_p0, nI_n0, nI_m1, Nat.add_zero, Nat.zero_add, Nat.reduceAdd, Nat.reduceMul, true_or, or_true, znar_50, bI_0, bI_1, bI_z, bft, nI_z0, nI_z1, lgc_lt, lgc_gt, lgc_le, lgc_ge, lgc_eq, not_true_eq_false, not_false_eq_true, Bool.not_eq_true, Bool.not_eq_false, reduceCtorEq]
theorem m163i (hM : MS z) (hv : ∀ i, v i < 2147483648) (hp : pOK v) (h3 : v 3 ≤ 350) {t e s n : Nat} {F S : Int64} {J : Int32} (he : e ≤ v 3) (hs : s + n < e) (hj : ∀ j, j < n → v (814 + 3 * (s + 1 + j)) = 3) (hx : s + n + 1 < e → ¬ v (814 + 3 * (s + n + 1)) = 3) :
    ∀ m j tm, j + m = n → prodV v (zia z 142) s j = some tm → ZW zG (d + 2) 163 67 [.ref 135, .int (nI t), .int (nI (s + 1 + j)), .int (nI e), .long F, zdum, .long S, zdum, .int J, .long tm, zdum] [] (sW z v) Q
      = match prodV v (zia z 142) s n with
        | none => Q (.inl (some (.int (nI 0)))) (sW z v)
        | some tm => ZW zG (d + 2) 163 120 [.ref 135, .int (nI t), .int (nI (s + 1 + n)), .int (nI e), .long F, zdum, .long S, zdum, .int J, .long tm, zdum] [] (sW z v) Q := by
  have h0 := hM
  unfold MS at h0
  intro m
  induction m with
  | zero =>
    intro j tm hjm ht
    have : j = n := by omega
    subst this
    rw [ht]
    dsimp only
    refine s163_67.trans ?_
    by_cases h1 : e ≤ s + 1 + j
    · simp (disch := first | omega | exact hM | exact hv _) only [s163_68, s163_69, zcs_0, zcs_1, zcs_2, zcs_3, zcs_4, zcs_5, zcs_6, zcs_7, znl_i, znl_r, znl_n, Bool.and_true, Bool.true_and, zk_v, zk_n, zk_x, zir_r, zir_n, zclr_i, zclr_r, zclr_n, zclr_d, zclr_l, true_and, and_true, and_self, if_true, if_false, reduceIte, nI_add, pk_mul, zin_ok, zx_nI, nI_lt2, nI_le2, nI_eq2, nI_l0, nI_g0, nI_q0, nI_p0, nI_n0, nI_m1, Nat.add_zero, Nat.zero_add, Nat.reduceAdd, Nat.reduceMul, true_or, or_true, znar_50, bI_0, bI_1, bI_z, bft, nI_z0, nI_z1, lgc_lt, lgc_gt, lgc_le, lgc_ge, lgc_eq, not_true_eq_false, not_false_eq_true, Bool.not_eq_true, Bool.not_eq_false, reduceCtorEq, MS_sW, CS_sW, sW_r, sW_n, sW_w, cls_sW, fi_sW, fr_sW, la_sW, ra_sW, len_sW, ls_sW, own_sW, n_sW, uc_sW, us_sW, sW_sfi, sW_sla, sW_sLA, sW_sls, sW_spay, sW_sia, sW_sIA, ne_eq, cls_sfi, fr_sfi, ia_sfi, la_sfi, ra_sfi, len_sfi, ls_sfi, own_sfi, n_sfi, uc_sfi, us_sfi, cls_sia, fi_sia, fr_sia, la_sia, ra_sia, len_sia, ls_sia, own_sia, n_sia, uc_sia, us_sia, cls_sIA, fi_sIA, fr_sIA, la_sIA, ra_sIA, len_sIA, ls_sIA, own_sIA, n_sIA, uc_sIA, us_sIA, cls_sla, fi_sla, fr_sla, ia_sla, ra_sla, len_sla, ls_sla, own_sla, n_sla, uc_sla, us_sla, cls_sLA, fi_sLA, fr_sLA, ia_sLA, ra_sLA, len_sLA, ls_sLA, own_sLA, n_sLA, uc_sLA, us_sLA, h0, h1]
    · have h2 := hx (by omega)
      rw [show s + j + 1 = s + 1 + j by omega] at h2
      simp (disch := first | omega | exact hM | exact hv _) only [s163_68, s163_69, s163_72, s163_73, s163_76, s163_79, s163_80, s163_81, s163_82, s163_83, s163_84, s163_85, zcs_0, zcs_1, zcs_2, zcs_3, zcs_4, zcs_5, zcs_6, zcs_7, znl_i, znl_r, znl_n, Bool.and_true, Bool.true_and, zk_v, zk_n, zk_x, zir_r, zir_n, zclr_i, zclr_r, zclr_n, zclr_d, zclr_l, true_and, and_true, and_self, if_true, if_false, reduceIte, nI_add, pk_mul, zin_ok, zx_nI, nI_lt2, nI_le2, nI_eq2, nI_l0, nI_g0, nI_q0, nI_p0, nI_n0, nI_m1, Nat.add_zero, Nat.zero_add, Nat.reduceAdd, Nat.reduceMul, true_or, or_true, znar_50, bI_0, bI_1, bI_z, bft, nI_z0, nI_z1, lgc_lt, lgc_gt, lgc_le, lgc_ge, lgc_eq, not_true_eq_false, not_false_eq_true, Bool.not_eq_true, Bool.not_eq_false, reduceCtorEq, MS_sW, CS_sW, sW_r, sW_n, sW_w, cls_sW, fi_sW, fr_sW, la_sW, ra_sW, len_sW, ls_sW, own_sW, n_sW, uc_sW, us_sW, sW_sfi, sW_sla, sW_sLA, sW_sls, sW_spay, sW_sia, sW_sIA, ne_eq, cls_sfi, fr_sfi, ia_sfi, la_sfi, ra_sfi, len_sfi, ls_sfi, own_sfi, n_sfi, uc_sfi, us_sfi, cls_sia, fi_sia, fr_sia, la_sia, ra_sia, len_sia, ls_sia, own_sia, n_sia, uc_sia, us_sia, cls_sIA, fi_sIA, fr_sIA, la_sIA, ra_sIA, len_sIA, ls_sIA, own_sIA, n_sIA, uc_sIA, us_sIA, cls_sla, fi_sla, fr_sla, ia_sla, ra_sla, len_sla, ls_sla, own_sla, n_sla, uc_sla, us_sla, cls_sLA, fi_sLA, fr_sLA, ia_sLA, ra_sLA, len_sLA, ls_sLA, own_sLA, n_sLA, uc_sLA, us_sLA, h0, h1, h2]
  | succ m ih =>
    intro j tm hjm ht
    have h1 : ¬ e ≤ s + 1 + j := by omega
    have h2 := hj j (by omega)
    have h5 := hp (s + 1 + j) (by omega)
    refine s163_67.trans ?_
    simp (disch := first | omega | exact hM | exact hv _) only [s163_68, s163_69, s163_72, s163_73, s163_76, s163_79, s163_80, s163_81, s163_82, s163_83, s163_84, s163_85, s163_88, s163_90, s163_91, s163_92, s163_95, s163_96, s163_98, s163_100, s163_103, s163_106, s163_109, s163_112, s163_113, s163_114, s163_117, zcs_0, zcs_1, zcs_2, zcs_3, zcs_4, zcs_5, zcs_6, zcs_7, znl_i, znl_r, znl_n, Bool.and_true, Bool.true_and, zk_v, zk_n, zk_x, zir_r, zir_n, zclr_i, zclr_r, zclr_n, zclr_d, zclr_l, true_and, and_true, and_self, if_true, if_false, reduceIte, nI_add, pk_mul, zin_ok, zx_nI, nI_lt2, nI_le2, nI_eq2, nI_l0, nI_g0, nI_q0, nI_p0, nI_n0, nI_m1, Nat.add_zero, Nat.zero_add, Nat.reduceAdd, Nat.reduceMul, true_or, or_true, znar_50, bI_0, bI_1, bI_z, bft, nI_z0, nI_z1, lgc_lt, lgc_gt, lgc_le, lgc_ge, lgc_eq, not_true_eq_false, not_false_eq_true, Bool.not_eq_true, Bool.not_eq_false, reduceCtorEq, MS_sW, CS_sW, sW_r, sW_n, sW_w, cls_sW, fi_sW, fr_sW, la_sW, ra_sW, len_sW, ls_sW, own_sW, n_sW, uc_sW, us_sW, sW_sfi, sW_sla, sW_sLA, sW_sls, sW_spay, sW_sia, sW_sIA, ne_eq, cls_sfi, fr_sfi, ia_sfi, la_sfi, ra_sfi, len_sfi, ls_sfi, own_sfi, n_sfi, uc_sfi, us_sfi, cls_sia, fi_sia, fr_sia, la_sia, ra_sia, len_sia, ls_sia, own_sia, n_sia, uc_sia, us_sia, cls_sIA, fi_sIA, fr_sIA, la_sIA, ra_sIA, len_sIA, ls_sIA, own_sIA, n_sIA, uc_sIA, us_sIA, cls_sla, fi_sla, fr_sla, ia_sla, ra_sla, len_sla, ls_sla, own_sla, n_sla, uc_sla, us_sla, cls_sLA, fi_sLA, fr_sLA, ia_sLA, ra_sLA, len_sLA, ls_sLA, own_sLA, n_sLA, uc_sLA, us_sLA, h0, h1, h2, m164, m114]
    have e1 : prodV v (zia z 142) s (j + 1) = if lok (tm * sPart v (zia z 142) (s + j + 1)) = true then some (tm * sPart v (zia z 142) (s + j + 1)) else none := by
      conv => lhs; unfold prodV
      rw [ht]
    rw [show s + j + 1 = s + 1 + j by omega] at e1
    by_cases hl : lok (tm * sPart v (zia z 142) (s + 1 + j)) = true
    · rw [if_pos hl] at e1
      have hl2 := hl
      unfold lok at hl2
      simp only [hl2, not_false_eq_true, not_true_eq_false, Bool.false_eq_true, Bool.true_eq_false, if_true, if_false, reduceCtorEq]
      exact ih (j + 1) _ (by omega) e1
    · rw [if_neg hl] at e1
      have hl2 := eq_false_of_ne_true hl
      unfold lok at hl2
      simp only [hl2, not_false_eq_true, not_true_eq_false, Bool.false_eq_true, Bool.true_eq_false, if_true, if_false, reduceCtorEq]
      have e2 : ∀ q, prodV v (zia z 142) s (j + 1 + q) = none := by
        intro q
        induction q with
        | zero => exact e1
        | succ q ihq =>
          show prodV v (zia z 142) s ((j + 1 + q) + 1) = none
          unfold prodV
          rw [ihq]
      have e3 := e2 m
      rw [show j + 1 + m = n by omega] at e3
      rw [e3]
theorem m163 (hM : MS z) (hv : ∀ i, v i < 2147483648) (hp : pOK v) (h2 : v 2 ≤ 180) (h3 : v 3 ≤ 350) {t : Nat} (ht : t < v 2) {ts : List (Nat × Nat)} (hl : tLay v (v (274 + 3 * t + 1) + v (274 + 3 * t + 2)) ts (v (274 + 3 * t + 1))) (he : v (274 + 3 * t + 1) + v (274 + 3 * t + 2) ≤ v 3) : ZC zG (d + 2) 163 [.ref 135, .int (nI t)] (sW z v) Q = Q (.inl (some (.int (bI (tVal v (zia z 142) ts (v (274 + 3 * t))))))) (sW z v) := by
  have h0 := hM
  unfold MS at h0
  generalize hE : v (274 + 3 * t + 1) + v (274 + 3 * t + 2) = e at hl he
  have key : ∀ (ts : List (Nat × Nat)) (k : Nat) (F S : Int64) (x8 x9 x10 : Value), k ≤ e → tLay v e ts k → ZW zG (d + 2) 163 38 [.ref 135, .int (nI t), .int (nI k), .int (nI e), .long F, zdum, .long S, zdum, x8, x9, x10] [] (sW z v) Q = Q (.inl (some (.int (bI (match tFold v (zia z 142) ts (F, S) with | none => false | some st => tCmp (v (274 + 3 * t)) st))))) (sW z v) := by
    intro ts
    induction ts with
    | nil =>
      intro k F S x8 x9 x10 hk hl
      have hk2 : k = e := hl
      subst hk2
      refine s163_38.trans ?_
      simp (disch := first | omega | exact hM | exact hv _) only [s163_0, s163_1, s163_4, s163_7, s163_8, s163_9, s163_10, s163_11, s163_12, s163_13, s163_14, s163_15, s163_16, s163_17, s163_20, s163_23, s163_24, s163_25, s163_26, s163_27, s163_28, s163_29, s163_30, s163_31, s163_32, s163_33, s163_35, s163_36, s163_39, s163_40, s163_43, s163_44, s163_47, s163_50, s163_51, s163_52, s163_53, s163_54, s163_55, s163_57, s163_58, s163_59, s163_62, s163_64, s163_68, s163_69, s163_72, s163_73, s163_76, s163_79, s163_80, s163_81, s163_82, s163_83, s163_84, s163_85, s163_88, s163_90, s163_91, s163_92, s163_95, s163_96, s163_98, s163_100, s163_103, s163_106, s163_109, s163_112, s163_113, s163_114, s163_117, s163_120, s163_122, s163_123, s163_126, s163_128, s163_130, s163_131, s163_133, s163_135, s163_136, s163_139, s163_141, s163_143, s163_144, s163_147, s163_149, s163_151, s163_152, s163_154, s163_156, s163_159, s163_162, s163_165, s163_168, s163_169, s163_170, s163_173, s163_174, s163_177, s163_180, s163_181, s163_182, s163_183, s163_184, s163_185, s163_187, s163_189, s163_192, s163_194, s163_196, s163_197, s163_200, s163_201, s163_204, s163_205, s163_208, s163_210, s163_211, s163_214, s163_216, s163_218, s163_219, s163_222, s163_223, s163_226, s163_227, s163_230, s163_232, s163_234, s163_235, s163_238, s163_239, s163_242, s163_243, zcs_0, zcs_1, zcs_2, zcs_3, zcs_4, zcs_5, zcs_6, zcs_7, znl_i, znl_r, znl_n, Bool.and_true, Bool.true_and, zk_v, zk_n, zk_x, zir_r, zir_n, zclr_i, zclr_r, zclr_n, zclr_d, zclr_l, true_and, and_true, and_self, if_true, if_false, reduceIte, nI_add, pk_mul, zin_ok, zx_nI, nI_lt2, nI_le2, nI_eq2, nI_l0, nI_g0, nI_q0, nI_p0, nI_n0, nI_m1, Nat.add_zero, Nat.zero_add, Nat.reduceAdd, Nat.reduceMul, true_or, or_true, znar_50, bI_0, bI_1, bI_z, bft, nI_z0, nI_z1, lgc_lt, lgc_gt, lgc_le, lgc_ge, lgc_eq, not_true_eq_false, not_false_eq_true, Bool.not_eq_true, Bool.not_eq_false, reduceCtorEq, MS_sW, CS_sW, sW_r, sW_n, sW_w, cls_sW, fi_sW, fr_sW, la_sW, ra_sW, len_sW, ls_sW, own_sW, n_sW, uc_sW, us_sW, sW_sfi, sW_sla, sW_sLA, sW_sls, sW_spay, sW_sia, sW_sIA, ne_eq, cls_sfi, fr_sfi, ia_sfi, la_sfi, ra_sfi, len_sfi, ls_sfi, own_sfi, n_sfi, uc_sfi, us_sfi, cls_sia, fi_sia, fr_sia, la_sia, ra_sia, len_sia, ls_sia, own_sia, n_sia, uc_sia, us_sia, cls_sIA, fi_sIA, fr_sIA, la_sIA, ra_sIA, len_sIA, ls_sIA, own_sIA, n_sIA, uc_sIA, us_sIA, cls_sla, fi_sla, fr_sla, ia_sla, ra_sla, len_sla, ls_sla, own_sla, n_sla, uc_sla, us_sla, cls_sLA, fi_sLA, fr_sLA, ia_sLA, ra_sLA, len_sLA, ls_sLA, own_sLA, n_sLA, uc_sLA, us_sLA, h0, Nat.le_refl]
      unfold tFold tCmp
      dsimp only
      by_cases g0 : v (274 + 3 * t) = 0
      · by_cases c : S < F
        · have c2 : ¬ F ≤ S := Int64.not_le.mpr c
          simp [g0, c, c2, bI, nI_one, nI_0]
        · have c2 : F ≤ S := Int64.not_lt.mp c
          simp [g0, c, c2, bI, nI_one, nI_0]
      · by_cases g1 : v (274 + 3 * t) = 1
        · by_cases c : F < S
          · have c2 : ¬ S ≤ F := Int64.not_le.mpr c
            simp [g1, c, c2, bI, nI_one, nI_0]
          · have c2 : S ≤ F := Int64.not_lt.mp c
            simp [g1, c, c2, bI, nI_one, nI_0]
        · by_cases c : F = S
          · simp [g0, g1, c, bI, nI_one, nI_0]
          · simp [g0, g1, c, bI, nI_one, nI_0]
    | cons x xs ih =>
      obtain ⟨s, n⟩ := x
      intro k F S x8 x9 x10 hk hl
      obtain ⟨rfl, hn, hj3, hjs, hl2⟩ := hl
      have h1 : ¬ e ≤ s := by omega
      have h5 := hp s (by omega)
      refine s163_38.trans ?_
      simp (disch := first | omega | exact hM | exact hv _) only [s163_39, s163_40, s163_43, s163_44, s163_47, s163_50, s163_51, s163_52, s163_53, s163_54, s163_55, s163_57, s163_58, s163_59, s163_62, s163_64, zcs_0, zcs_1, zcs_2, zcs_3, zcs_4, zcs_5, zcs_6, zcs_7, znl_i, znl_r, znl_n, Bool.and_true, Bool.true_and, zk_v, zk_n, zk_x, zir_r, zir_n, zclr_i, zclr_r, zclr_n, zclr_d, zclr_l, true_and, and_true, and_self, if_true, if_false, reduceIte, nI_add, pk_mul, zin_ok, zx_nI, nI_lt2, nI_le2, nI_eq2, nI_l0, nI_g0, nI_q0, nI_p0, nI_n0, nI_m1, Nat.add_zero, Nat.zero_add, Nat.reduceAdd, Nat.reduceMul, true_or, or_true, znar_50, bI_0, bI_1, bI_z, bft, nI_z0, nI_z1, lgc_lt, lgc_gt, lgc_le, lgc_ge, lgc_eq, not_true_eq_false, not_false_eq_true, Bool.not_eq_true, Bool.not_eq_false, reduceCtorEq, MS_sW, CS_sW, sW_r, sW_n, sW_w, cls_sW, fi_sW, fr_sW, la_sW, ra_sW, len_sW, ls_sW, own_sW, n_sW, uc_sW, us_sW, sW_sfi, sW_sla, sW_sLA, sW_sls, sW_spay, sW_sia, sW_sIA, ne_eq, cls_sfi, fr_sfi, ia_sfi, la_sfi, ra_sfi, len_sfi, ls_sfi, own_sfi, n_sfi, uc_sfi, us_sfi, cls_sia, fi_sia, fr_sia, la_sia, ra_sia, len_sia, ls_sia, own_sia, n_sia, uc_sia, us_sia, cls_sIA, fi_sIA, fr_sIA, la_sIA, ra_sIA, len_sIA, ls_sIA, own_sIA, n_sIA, uc_sIA, us_sIA, cls_sla, fi_sla, fr_sla, ia_sla, ra_sla, len_sla, ls_sla, own_sla, n_sla, uc_sla, us_sla, cls_sLA, fi_sLA, fr_sLA, ia_sLA, ra_sLA, len_sLA, ls_sLA, own_sLA, n_sLA, uc_sLA, us_sLA, h0, h1, m164]
      have hx : s + n + 1 < e → ¬ v (814 + 3 * (s + n + 1)) = 3 := by
        intro hlt
        cases xs with
        | nil => exact absurd hl2 (by unfold tLay; omega)
        | cons y ys =>
          obtain ⟨s2, n2⟩ := y
          obtain ⟨rfl, _, h3', _⟩ := hl2
          exact h3'
      refine Eq.trans (m163i hM hv hp h3 he hn hjs hx n 0 (sPart v (zia z 142) s) (by omega) rfl) ?_
      have hT : tFold v (zia z 142) ((s, n) :: xs) (F, S) = match tStep v (zia z 142) (s, n) (F, S) with | none => none | some st' => tFold v (zia z 142) xs st' := rfl
      rw [hT]
      unfold tStep
      dsimp only
      cases hpv : prodV v (zia z 142) s n with
      | none => rfl
      | some tm =>
        dsimp only
        have ih2 := fun F S => ih (s + n + 1) F S (.int (nI (v (814 + 3 * s)))) (.long tm) zdum (by omega) hl2
        rw [show s + n + 1 = s + 1 + n by omega] at ih2
        by_cases j4 : v (814 + 3 * s) = 4
        · have j2 : ¬ v (814 + 3 * s) = 2 := by omega
          simp (disch := first | omega | exact hM | exact hv _) only [s163_120, s163_122, s163_123, s163_126, s163_128, s163_130, s163_131, s163_133, s163_135, s163_136, s163_139, s163_141, s163_143, s163_144, s163_147, s163_149, s163_151, s163_152, s163_154, s163_156, s163_159, s163_162, s163_165, s163_168, s163_169, s163_170, zcs_0, zcs_1, zcs_2, zcs_3, zcs_4, zcs_5, zcs_6, zcs_7, znl_i, znl_r, znl_n, Bool.and_true, Bool.true_and, zk_v, zk_n, zk_x, zir_r, zir_n, zclr_i, zclr_r, zclr_n, zclr_d, zclr_l, true_and, and_true, and_self, if_true, if_false, reduceIte, nI_add, pk_mul, zin_ok, zx_nI, nI_lt2, nI_le2, nI_eq2, nI_l0, nI_g0, nI_q0, nI_p0, nI_n0, nI_m1, Nat.add_zero, Nat.zero_add, Nat.reduceAdd, Nat.reduceMul, true_or, or_true, znar_50, bI_0, bI_1, bI_z, bft, nI_z0, nI_z1, lgc_lt, lgc_gt, lgc_le, lgc_ge, lgc_eq, not_true_eq_false, not_false_eq_true, Bool.not_eq_true, Bool.not_eq_false, reduceCtorEq, MS_sW, CS_sW, sW_r, sW_n, sW_w, cls_sW, fi_sW, fr_sW, la_sW, ra_sW, len_sW, ls_sW, own_sW, n_sW, uc_sW, us_sW, sW_sfi, sW_sla, sW_sLA, sW_sls, sW_spay, sW_sia, sW_sIA, ne_eq, cls_sfi, fr_sfi, ia_sfi, la_sfi, ra_sfi, len_sfi, ls_sfi, own_sfi, n_sfi, uc_sfi, us_sfi, cls_sia, fi_sia, fr_sia, la_sia, ra_sia, len_sia, ls_sia, own_sia, n_sia, uc_sia, us_sia, cls_sIA, fi_sIA, fr_sIA, la_sIA, ra_sIA, len_sIA, ls_sIA, own_sIA, n_sIA, uc_sIA, us_sIA, cls_sla, fi_sla, fr_sla, ia_sla, ra_sla, len_sla, ls_sla, own_sla, n_sla, uc_sla, us_sla, cls_sLA, fi_sLA, fr_sLA, ia_sLA, ra_sLA, len_sLA, ls_sLA, own_sLA, n_sLA, uc_sLA, us_sLA, h0, m114, j4]
          by_cases hlk : lok (lN 0 + tm) = true
          · have hl3 := hlk
            unfold lok at hl3
            rw [j4] at ih2
            simp [hlk, hl3, ih2]
          · have hl3 := eq_false_of_ne_true hlk
            have hl4 := hl3
            unfold lok at hl3
            simp [hl4, hl3, bI, nI_0]
        · by_cases j2 : v (814 + 3 * s) = 2
          · simp (disch := first | omega | exact hM | exact hv _) only [s163_120, s163_122, s163_123, s163_126, s163_128, s163_130, s163_131, s163_133, s163_135, s163_136, s163_139, s163_141, s163_143, s163_144, s163_147, s163_149, s163_151, s163_152, s163_154, s163_156, s163_159, s163_162, s163_165, s163_168, s163_169, s163_170, zcs_0, zcs_1, zcs_2, zcs_3, zcs_4, zcs_5, zcs_6, zcs_7, znl_i, znl_r, znl_n, Bool.and_true, Bool.true_and, zk_v, zk_n, zk_x, zir_r, zir_n, zclr_i, zclr_r, zclr_n, zclr_d, zclr_l, true_and, and_true, and_self, if_true, if_false, reduceIte, nI_add, pk_mul, zin_ok, zx_nI, nI_lt2, nI_le2, nI_eq2, nI_l0, nI_g0, nI_q0, nI_p0, nI_n0, nI_m1, Nat.add_zero, Nat.zero_add, Nat.reduceAdd, Nat.reduceMul, true_or, or_true, znar_50, bI_0, bI_1, bI_z, bft, nI_z0, nI_z1, lgc_lt, lgc_gt, lgc_le, lgc_ge, lgc_eq, not_true_eq_false, not_false_eq_true, Bool.not_eq_true, Bool.not_eq_false, reduceCtorEq, MS_sW, CS_sW, sW_r, sW_n, sW_w, cls_sW, fi_sW, fr_sW, la_sW, ra_sW, len_sW, ls_sW, own_sW, n_sW, uc_sW, us_sW, sW_sfi, sW_sla, sW_sLA, sW_sls, sW_spay, sW_sia, sW_sIA, ne_eq, cls_sfi, fr_sfi, ia_sfi, la_sfi, ra_sfi, len_sfi, ls_sfi, own_sfi, n_sfi, uc_sfi, us_sfi, cls_sia, fi_sia, fr_sia, la_sia, ra_sia, len_sia, ls_sia, own_sia, n_sia, uc_sia, us_sia, cls_sIA, fi_sIA, fr_sIA, la_sIA, ra_sIA, len_sIA, ls_sIA, own_sIA, n_sIA, uc_sIA, us_sIA, cls_sla, fi_sla, fr_sla, ia_sla, ra_sla, len_sla, ls_sla, own_sla, n_sla, uc_sla, us_sla, cls_sLA, fi_sLA, fr_sLA, ia_sLA, ra_sLA, len_sLA, ls_sLA, own_sLA, n_sLA, uc_sLA, us_sLA, h0, m114, j2]
            by_cases hlk : lok (S - tm) = true
            · have hl3 := hlk
              unfold lok at hl3
              rw [j2] at ih2
              simp [hlk, hl3, ih2]
            · have hl3 := eq_false_of_ne_true hlk
              have hl4 := hl3
              unfold lok at hl3
              simp [hl4, hl3, bI, nI_0]
          · simp (disch := first | omega | exact hM | exact hv _) only [s163_120, s163_122, s163_123, s163_126, s163_128, s163_130, s163_131, s163_133, s163_135, s163_136, s163_139, s163_141, s163_143, s163_144, s163_147, s163_149, s163_151, s163_152, s163_154, s163_156, s163_159, s163_162, s163_165, s163_168, s163_169, s163_170, zcs_0, zcs_1, zcs_2, zcs_3, zcs_4, zcs_5, zcs_6, zcs_7, znl_i, znl_r, znl_n, Bool.and_true, Bool.true_and, zk_v, zk_n, zk_x, zir_r, zir_n, zclr_i, zclr_r, zclr_n, zclr_d, zclr_l, true_and, and_true, and_self, if_true, if_false, reduceIte, nI_add, pk_mul, zin_ok, zx_nI, nI_lt2, nI_le2, nI_eq2, nI_l0, nI_g0, nI_q0, nI_p0, nI_n0, nI_m1, Nat.add_zero, Nat.zero_add, Nat.reduceAdd, Nat.reduceMul, true_or, or_true, znar_50, bI_0, bI_1, bI_z, bft, nI_z0, nI_z1, lgc_lt, lgc_gt, lgc_le, lgc_ge, lgc_eq, not_true_eq_false, not_false_eq_true, Bool.not_eq_true, Bool.not_eq_false, reduceCtorEq, MS_sW, CS_sW, sW_r, sW_n, sW_w, cls_sW, fi_sW, fr_sW, la_sW, ra_sW, len_sW, ls_sW, own_sW, n_sW, uc_sW, us_sW, sW_sfi, sW_sla, sW_sLA, sW_sls, sW_spay, sW_sia, sW_sIA, ne_eq, cls_sfi, fr_sfi, ia_sfi, la_sfi, ra_sfi, len_sfi, ls_sfi, own_sfi, n_sfi, uc_sfi, us_sfi, cls_sia, fi_sia, fr_sia, la_sia, ra_sia, len_sia, ls_sia, own_sia, n_sia, uc_sia, us_sia, cls_sIA, fi_sIA, fr_sIA, la_sIA, ra_sIA, len_sIA, ls_sIA, own_sIA, n_sIA, uc_sIA, us_sIA, cls_sla, fi_sla, fr_sla, ia_sla, ra_sla, len_sla, ls_sla, own_sla, n_sla, uc_sla, us_sla, cls_sLA, fi_sLA, fr_sLA, ia_sLA, ra_sLA, len_sLA, ls_sLA, own_sLA, n_sLA, uc_sLA, us_sLA, h0, m114, j2, j4]
            by_cases hlk : lok (S + tm) = true
            · have hl3 := hlk
              unfold lok at hl3
              simp [j2, j4, hlk, hl3, ih2]
            · have hl3 := eq_false_of_ne_true hlk
              have hl4 := hl3
              unfold lok at hl3
              simp [j2, j4, hl4, hl3, bI, nI_0]
  simp (disch := first | omega | exact hM | exact hv _) only [s163_0, s163_1, s163_4, s163_7, s163_8, s163_9, s163_10, s163_11, s163_12, s163_13, s163_14, s163_15, s163_16, s163_17, s163_20, s163_23, s163_24, s163_25, s163_26, s163_27, s163_28, s163_29, s163_30, s163_31, s163_32, s163_33, s163_35, s163_36, e163, zcs_0, zcs_1, zcs_2, zcs_3, zcs_4, zcs_5, zcs_6, zcs_7, znl_i, znl_r, znl_n, Bool.and_true, Bool.true_and, zk_v, zk_n, zk_x, zir_r, zir_n, zclr_i, zclr_r, zclr_n, zclr_d, zclr_l, true_and, and_true, and_self, if_true, if_false, reduceIte, nI_add, pk_mul, zin_ok, zx_nI, nI_lt2, nI_le2, nI_eq2, nI_l0, nI_g0, nI_q0, nI_p0, nI_n0, nI_m1, Nat.add_zero, Nat.zero_add, Nat.reduceAdd, Nat.reduceMul, true_or, or_true, znar_50, bI_0, bI_1, bI_z, bft, nI_z0, nI_z1, lgc_lt, lgc_gt, lgc_le, lgc_ge, lgc_eq, not_true_eq_false, not_false_eq_true, Bool.not_eq_true, Bool.not_eq_false, reduceCtorEq, MS_sW, CS_sW, sW_r, sW_n, sW_w, cls_sW, fi_sW, fr_sW, la_sW, ra_sW, len_sW, ls_sW, own_sW, n_sW, uc_sW, us_sW, sW_sfi, sW_sla, sW_sLA, sW_sls, sW_spay, sW_sia, sW_sIA, ne_eq, cls_sfi, fr_sfi, ia_sfi, la_sfi, ra_sfi, len_sfi, ls_sfi, own_sfi, n_sfi, uc_sfi, us_sfi, cls_sia, fi_sia, fr_sia, la_sia, ra_sia, len_sia, ls_sia, own_sia, n_sia, uc_sia, us_sia, cls_sIA, fi_sIA, fr_sIA, la_sIA, ra_sIA, len_sIA, ls_sIA, own_sIA, n_sIA, uc_sIA, us_sIA, cls_sla, fi_sla, fr_sla, ia_sla, ra_sla, len_sla, ls_sla, own_sla, n_sla, uc_sla, us_sla, cls_sLA, fi_sLA, fr_sLA, ia_sLA, ra_sLA, len_sLA, ls_sLA, own_sLA, n_sLA, uc_sLA, us_sLA, h0, hE]
  exact key ts _ _ _ _ _ _ (by omega) hl
end MT
