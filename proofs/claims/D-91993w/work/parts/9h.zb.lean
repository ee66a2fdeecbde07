set_option maxRecDepth 100000
/-! states that become like others -/
/-- the first k of a list added to the list r -/
def addT (z : ZH) (r : Nat) (l : List Value) : Nat → ZH
  | 0 => z
  | k + 1 => sladd (addT z r l k) r (l.getD k .null)
theorem take_s {l : List Value} {k : Nat} (h : k < l.length) : l.take (k + 1) = l.take k ++ [l.getD k .null] := by
  rw [List.take_succ_eq_append_getElem h, List.getD_eq_getElem?_getD, List.getElem?_eq_getElem h]
  rfl
theorem addT_ls (z : ZH) (r : Nat) (l : List Value) : ∀ k, k ≤ l.length → zls (addT z r l k) r = zls z r ++ l.take k
  | 0, _ => by rw [List.take_zero, List.append_nil]; rfl
  | k + 1, h => by
    unfold addT
    rw [ls_sladd, zu1_s, addT_ls z r l k (by omega), take_s (by omega), List.append_assoc]
theorem addT_fr (z : ZH) (r : Nat) (l : List Value) : ∀ k, zFr (fun q => q = r) z (addT z r l k)
  | 0 => zFr_refl _ _
  | k + 1 => zFr_sladd (addT_fr z r l k) (Or.inr rfl)
theorem addT_cost (z : ZH) (r : Nat) (l : List Value) (h0 : (zls z r).length = 0) : ∀ k, k ≤ l.length → k ≤ 600 → (zuc z ≤ zuc (addT z r l k) ∧ zuc (addT z r l k) ≤ zuc z + k) ∧ (zus z ≤ zus (addT z r l k) ∧ zus (addT z r l k) + 4 * capL z r ≤ zus z + 4 * capL (addT z r l k) r) ∧ capL z r ≤ capL (addT z r l k) r ∧ (capL (addT z r l k) r ≤ capL z r ∨ capL (addT z r l k) r ≤ 1201)
  | 0, _, _ => ⟨⟨Nat.le_refl _, Nat.le_refl _⟩, ⟨Nat.le_refl _, Nat.le_refl _⟩, Nat.le_refl _, Or.inl (Nat.le_refl _)⟩
  | k + 1, h, h6 => by
    obtain ⟨⟨a1, a2⟩, ⟨a3, a4⟩, a5, a6⟩ := addT_cost z r l h0 k (by omega) (by omega)
    obtain ⟨b1, b2, b3, b4, b5, b6, _⟩ := add_cost (addT z r l k) r (l.getD k .null)
    have hl : (zls (addT z r l k) r).length = k := by
      rw [addT_ls z r l k (by omega), List.length_append, h0, List.length_take]
      omega
    rw [hl] at b6
    unfold addT
    refine ⟨⟨by omega, by omega⟩, ⟨by omega, by omega⟩, by omega, ?_⟩
    omega
theorem addT_sum {z : ZH} {r : Nat} {l : List Value} (h0 : (zls z r).length = 0) {k : Nat} (h : k ≤ l.length) (h6 : k ≤ 600) : (zuc z ≤ zuc (addT z r l k) ∧ zuc (addT z r l k) ≤ zuc z + 600) ∧ (zus z ≤ zus (addT z r l k) ∧ zus (addT z r l k) ≤ zus z + 4804) := by
  obtain ⟨⟨a1, a2⟩, ⟨a3, a4⟩, a5, a6⟩ := addT_cost z r l h0 k h h6
  refine ⟨⟨a1, by omega⟩, a3, ?_⟩
  omega
theorem addT_cls (z : ZH) (r : Nat) (l : List Value) (k : Nat) {q : Nat} (h : q < zn z) (hr : ¬ q = r) : zcls (addT z r l k) q = zcls z q := ((addT_fr z r l k).2 q h hr).1
theorem addT_clr {z : ZH} {r : Nat} {l : List Value} {q : Nat} (h : q < zn z) : ∀ k, zcls (addT z r l k) q = zcls z q
  | 0 => rfl
  | k + 1 => by
    have := (addT_fr z r l k).1
    unfold addT
    rw [cls_sladd _ _ _ (by omega), addT_clr h k]
theorem addT_fi (z : ZH) (r : Nat) (l : List Value) : ∀ k, zfi (addT z r l k) = zfi z
  | 0 => rfl
  | k + 1 => by unfold addT; rw [fi_sladd, addT_fi z r l k]
theorem addT_ia (z : ZH) (r : Nat) (l : List Value) : ∀ k, zia (addT z r l k) = zia z
  | 0 => rfl
  | k + 1 => by unfold addT; rw [ia_sladd, addT_ia z r l k]
/-- a ledger's own cells, a state's -/
def ldW (l q : Nat) : Prop := q = l ∨ q = l + 1 ∨ q = l + 2
def stW (s q : Nat) : Prop := q = s ∨ ldW (s + 7) q ∨ q = s + 12
section BC
variable {d : Nat} {B : Nat → Prop} {z : ZH} {Q : ZQ} {v : Nat → Nat} {L : Nat → List (Nat × Nat)} {t hl kn rl : Nat} {ha ra da ea : Nat → Nat} {K : Nat}
theorem c78 {l m p : Nat} (hl : LdS z l) (hm : LdS z m) (hlm : l + 4 < m ∨ m + 4 < l) (hT : zfr z m 0 = .ref t) (hr : zfr z m 1 = .ref rl) (hD : RDe B z m da v) (hK : RKn z m v) (hp : zfi z m 5 = nI p) (hB : ∀ q, B q → 100 ≤ q ∧ q < zn z) (nB : ∀ q, ldW l q → ¬ B q) (hz : l + 4 < zn z ∧ m + 4 < zn z)
    (H : ∀ z2, LdS z2 l → zfr z2 l 0 = .ref t → zfr z2 l 1 = .ref rl → RDe B z2 l da v → RKn z2 l v → zfi z2 l 5 = nI p → zFr (ldW l) z z2 → (zuc z ≤ zuc z2 ∧ zuc z2 ≤ zuc z + 600) → (zus z ≤ zus z2 ∧ zus z2 ≤ zus z + 4804) → Q (.inl none) z2) : ZC zG d 78 [.ref l, .ref m] z Q := by
  obtain ⟨l1, l2, l3, l4, l5, l6, l7, l8⟩ := hl
  obtain ⟨m1, m2, m3, m4, m5, m6, m7, m8⟩ := hm
  have hlen := hD.1
  have h600 := hD.2.1
  have n1 : ¬ m + 1 = l + 1 := by omega
  -- the heap ahead of the loop
  have hnl : ¬ l = m := by omega
  generalize hz1 : sls (sIA (sfr (sfr z l 0 (.ref t)) l 1 (.ref rl)) (l + 1) (va_cpy (zia z (m + 1)) (zia z (l + 1)) 0 0 16)) (l + 2) [] = z1
  have cl1 : zcls z1 = zcls z := by rw [← hz1]; rfl
  have len1 : zlen z1 = zlen z := by rw [← hz1]; rfl
  have fr1 : ∀ q j, zfr z1 q j = if q = l ∧ j = 1 then .ref rl else if q = l ∧ j = 0 then .ref t else zfr z q j := by
    intro q j
    rw [← hz1]
    rfl
  have ls1 : zls z1 (l + 2) = [] := by rw [← hz1, ls_sls, zu1_s]
  have ls2 : ∀ q, ¬ q = l + 2 → zls z1 q = zls z q := fun q hq => by rw [← hz1, ls_sls, zu1_n _ _ _ hq]; rfl
  have ia1 : ∀ h, h < 16 → zia z1 (l + 1) h = nI (v (1864 + h)) := by
    intro h hh
    rw [← hz1, ia_sls, ia_sIA, zu1_s]
    unfold va_cpy
    rw [if_pos (by omega), show 0 + (h - 0) = h by omega]
    exact hK h hh
  have fi1 : zfi z1 = zfi z := by rw [← hz1]; rfl
  have n0 : zn z1 = zn z := by rw [← hz1]; rfl
  have c1 : zuc z1 = zuc z ∧ zus z1 = zus z := by rw [← hz1]; exact ⟨rfl, rfl⟩
  have F1 : zFr (ldW l) z z1 := by
    rw [← hz1]
    exact zFr_sls (zFr_sIA (zFr_sfr (zFr_sfr (zFr_refl _ _) (Or.inr (Or.inl rfl))) (Or.inr (Or.inl rfl))) (Or.inr (Or.inr (Or.inl rfl)))) (Or.inr (Or.inr (Or.inr rfl)))
  have hst1 : (zls z1 (l + 2)).length = 0 := by rw [ls1]; rfl
  have hsrc : zls z (m + 2) = zls z1 (m + 2) := (ls2 _ (by omega)).symm
  -- all through the loop
  have Fk : ∀ k, zFr (ldW l) z (addT z1 (l + 2) (zls z (m + 2)) k) := fun k => zFr_trans F1 (zFr_mono (fun q _ e => Or.inr (Or.inr e)) (addT_fr z1 (l + 2) (zls z (m + 2)) k))
  have frk : ∀ k q j, q < zn z → ¬ q = l + 2 → zfr (addT z1 (l + 2) (zls z (m + 2)) k) q j = zfr z1 q j := fun k q j hq hne => by rw [((addT_fr z1 (l + 2) (zls z (m + 2)) k).2 q (by omega) hne).2.2.1]
  have clk : ∀ k q, q < zn z → zcls (addT z1 (l + 2) (zls z (m + 2)) k) q = zcls z q := fun k q hq => by rw [addT_clr (by omega), cl1]
  have lsk : ∀ k q, q < zn z → ¬ q = l + 2 → zls (addT z1 (l + 2) (zls z (m + 2)) k) q = zls z q := fun k q hq hne => by rw [((addT_fr z1 (l + 2) (zls z (m + 2)) k).2 q (by omega) hne).2.2.2.2.2.2.2, ls2 q hne]
  have key := zl_up (P := fun k => ZW zG d 78 42 [.ref l, .ref m, .int (nI k)] [] (addT z1 (l + 2) (zls z (m + 2)) k) Q) (v 7) (by
    intro k hk
    obtain ⟨f1, f2, f3, _⟩ := RDe_f hD hk
    have fB := (hD.2.2 k hk).2.1
    have hb := hB _ fB
    refine s78_42.trans ?_
    have g1 : ¬ v 7 ≤ k := by omega
    have a1 := clk k l (by omega)
    have a2 := clk k m (by omega)
    have a3 := clk k (l + 2) (by omega)
    have a4 := clk k (m + 2) (by omega)
    have a5 := clk k (da k) hb.2
    have b1 := frk k l 3 (by omega) (by omega)
    have b2 := frk k m 3 (by omega) (by omega)
    rw [fr1, if_neg (by omega), if_neg (by omega), l5] at b1
    rw [fr1, if_neg (by omega), if_neg (by omega), m5] at b2
    have d1 := lsk k (m + 2) (by omega) (by omega)
    have hk2 : (zls (addT z1 (l + 2) (zls z (m + 2)) k) (l + 2)) = (zls z (m + 2)).take k := by rw [addT_ls _ _ _ k (by omega), ls1, List.nil_append]
    have hk3 : (zls (addT z1 (l + 2) (zls z (m + 2)) k) (l + 2)).length < 100000 := by rw [hk2, List.length_take]; omega
    have hz5 : zlel (addT z1 (l + 2) (zls z (m + 2)) k) (.ref (da k)) = true := by
      simp [zlel, a5, f2, hb.1]
    have hall : (zls (addT z1 (l + 2) (zls z (m + 2)) k) (l + 2)).all (zlel (addT z1 (l + 2) (zls z (m + 2)) k)) = true := by
      refine all_getD (fun i hi => ?_)
      rw [hk2] at hi ⊢
      rw [List.length_take] at hi
      have hi2 : i < v 7 := by omega
      obtain ⟨u1, u2, _⟩ := RDe_f hD hi2
      have ub := hB _ (hD.2.2 i hi2).2.1
      have e : ((zls z (m + 2)).take k).getD i .null = .ref (da i) := by
        rw [List.getD_eq_getElem?_getD, List.getElem?_take_of_lt (by omega), ← List.getD_eq_getElem?_getD, u1]
      rw [e]
      have a6 := clk k (da i) ub.2
      simp [zlel, a6, u2, ub.1]
    have hs : sladd (addT z1 (l + 2) (zls z (m + 2)) k) (l + 2) (.ref (da k)) = addT z1 (l + 2) (zls z (m + 2)) (k + 1) := by
      show _ = sladd _ _ _
      rw [f1]
    rw [← hs]
    generalize addT z1 (l + 2) (zls z (m + 2)) k = z3 at *
    simp (disch := omega) only [s78_0, s78_1, s78_2, s78_5, s78_8, s78_9, s78_10, s78_13, s78_16, s78_17, s78_20, s78_21, s78_22, s78_25, s78_26, s78_28, s78_31, s78_32, s78_35, s78_40, s78_41, s78_43, s78_44, s78_47, s78_52, s78_55, s78_56, s78_59, s78_60, s78_63, s78_64, s78_69, s78_72, s78_77, s78_78, s78_81, s78_84, s78_85, s78_86, s78_89, s78_92, zcs_0, zcs_1, zcs_2, zcs_3, zcs_4, zcs_5, zcs_6, zcs_7, znl_i, znl_r, znl_n, Bool.and_true, Bool.true_and, zk_v, zk_n, zk_x, zir_r, zir_n, zclr_i, zclr_r, zclr_n, zclr_d, zclr_l, true_and, and_true, and_self, if_true, if_false, reduceIte, nI_add, pk_mul, zin_ok, zx_nI, nI_lt2, nI_le2, nI_eq2, nI_l0, nI_g0, nI_q0, nI_p0, nI_n0, nI_m1, Nat.add_zero, Nat.zero_add, Nat.reduceAdd, Nat.reduceMul, true_or, or_true, znar_50, bI_0, bI_1, bI_z, bft, nI_z0, nI_z1, lgc_lt, lgc_gt, lgc_le, lgc_ge, lgc_eq, not_true_eq_false, not_false_eq_true, Bool.not_eq_true, Bool.not_eq_false, reduceCtorEq, a1, a2, a3, a4, a5, b1, b2, d1, l1, m1, l6, m6, hlen, g1, f1, f2, hz5, hall, hk3])
  have k0 : addT z1 (l + 2) (zls z (m + 2)) 0 = z1 := rfl
  rw [k0] at key
  have cw := addT_sum hst1 (l := zls z (m + 2)) (k := v 7) (by omega) h600
  have hfin : ∀ z3, z3 = sfi (addT z1 (l + 2) (zls z (m + 2)) (v 7)) l 5 (nI p) → Q (.inl none) z3 := by
    intro z3 h3
    have F3 : zFr (ldW l) z z3 := by rw [h3]; exact zFr_sfi (Fk (v 7)) (Or.inr (Or.inl rfl))
    have cl3 : ∀ q, q < zn z → zcls z3 q = zcls z q := fun q hq => by rw [h3, cls_sfi]; exact clk _ q hq
    have fr3 : ∀ q j, q < zn z → ¬ q = l + 2 → zfr z3 q j = zfr z1 q j := fun q j hq hne => by rw [h3, fr_sfi]; exact frk _ q j hq hne
    have ls3 : zls z3 (l + 2) = zls z (m + 2) := by
      rw [h3, ls_sfi, addT_ls _ _ _ _ (by omega), ls1, List.nil_append, ← hlen, List.take_length]
    have len3 : zlen z3 (l + 1) = zlen z (l + 1) := by
      rw [h3, len_sfi, ((addT_fr z1 (l + 2) (zls z (m + 2)) (v 7)).2 (l + 1) (by omega) (by omega)).2.2.2.2.2.2.1, len1]
    have hst : zSt B z z3 := F3.st (fun q hq => ⟨(hB q hq).2, fun hw => nB q hw hq⟩)
    refine H z3 ?_ ?_ ?_ ?_ ?_ ?_ F3 ?_ ?_
    · unfold LdS
      rw [cl3 _ (by omega), cl3 _ (by omega), cl3 _ (by omega), cl3 _ (by omega), fr3 _ _ (by omega) (by omega), fr3 _ _ (by omega) (by omega), fr3 _ _ (by omega) (by omega), len3, fr1, fr1, fr1, if_neg (by omega), if_neg (by omega), if_neg (by omega), if_neg (by omega), if_neg (by omega), if_neg (by omega)]
      exact ⟨l1, l2, l3, l4, l5, l6, l7, l8⟩
    · rw [fr3 _ _ (by omega) (by omega), fr1, if_neg (by omega), if_pos ⟨rfl, rfl⟩]
    · rw [fr3 _ _ (by omega) (by omega), fr1, if_pos ⟨rfl, rfl⟩]
    · refine ⟨by rw [ls3]; exact hlen, h600, fun i hi => ?_⟩
      obtain ⟨b1, b2, b3, b4⟩ := hD.2.2 i hi
      obtain ⟨p1, p2, p3, p4, p5, p6⟩ := hst _ b2
      exact ⟨by rw [ls3]; exact b1, b2, by rw [p1]; exact b3, fun j hj => by rw [p2]; exact b4 j hj⟩
    · intro h hh
      rw [h3, ia_sfi, addT_ia]
      exact ia1 h hh
    · rw [h3, fi_sfi, zu2_s]
    · rw [h3, uc_sfi, ← c1.1]; exact cw.1
    · rw [h3, us_sfi, ← c1.2]; exact cw.2
  have hend : ZW zG d 78 42 [.ref l, .ref m, .int (nI (v 7))] [] (addT z1 (l + 2) (zls z (m + 2)) (v 7)) Q := by
    refine Eq.mpr s78_42 ?_
    have a1 := clk (v 7) l (by omega)
    have a2 := clk (v 7) m (by omega)
    have a4 := clk (v 7) (m + 2) (by omega)
    have b2 := frk (v 7) m 3 (by omega) (by omega)
    rw [fr1, if_neg (by omega), if_neg (by omega), m5] at b2
    have d1 := lsk (v 7) (m + 2) (by omega) (by omega)
    have e5 : zfi (addT z1 (l + 2) (zls z (m + 2)) (v 7)) m 5 = nI p := by rw [addT_fi, fi1, hp]
    have hf := hfin _ rfl
    generalize addT z1 (l + 2) (zls z (m + 2)) (v 7) = z3 at *
    simp (disch := omega) only [s78_0, s78_1, s78_2, s78_5, s78_8, s78_9, s78_10, s78_13, s78_16, s78_17, s78_20, s78_21, s78_22, s78_25, s78_26, s78_28, s78_31, s78_32, s78_35, s78_40, s78_41, s78_43, s78_44, s78_47, s78_52, s78_55, s78_56, s78_59, s78_60, s78_63, s78_64, s78_69, s78_72, s78_77, s78_78, s78_81, s78_84, s78_85, s78_86, s78_89, s78_92, zcs_0, zcs_1, zcs_2, zcs_3, zcs_4, zcs_5, zcs_6, zcs_7, znl_i, znl_r, znl_n, Bool.and_true, Bool.true_and, zk_v, zk_n, zk_x, zir_r, zir_n, zclr_i, zclr_r, zclr_n, zclr_d, zclr_l, true_and, and_true, and_self, if_true, if_false, reduceIte, nI_add, pk_mul, zin_ok, zx_nI, nI_lt2, nI_le2, nI_eq2, nI_l0, nI_g0, nI_q0, nI_p0, nI_n0, nI_m1, Nat.add_zero, Nat.zero_add, Nat.reduceAdd, Nat.reduceMul, true_or, or_true, znar_50, bI_0, bI_1, bI_z, bft, nI_z0, nI_z1, lgc_lt, lgc_gt, lgc_le, lgc_ge, lgc_eq, not_true_eq_false, not_false_eq_true, Bool.not_eq_true, Bool.not_eq_false, reduceCtorEq, a1, a2, a4, b2, d1, l1, m1, m6, hlen, Nat.le_refl, e5]
    exact hf
  have hnn : (l + 1 = m + 1) = False := by simp; omega
  have hnn2 : (m + 1 = l + 1) = False := by simp; omega
  have t5 : zfr (sfr z l 0 (.ref t)) m 1 = .ref rl := by rw [fr_sfr, zu2_n _ _ _ _ (by omega)]; exact hr
  have t2 : zfr (sfr (sfr z l 0 (.ref t)) l 1 (.ref rl)) m 2 = .ref (m + 1) := by rw [fr_sfr, zu2_n _ _ _ _ (by omega), fr_sfr, zu2_n _ _ _ _ (by omega)]; exact m2
  have t3 : zfr (sfr (sfr z l 0 (.ref t)) l 1 (.ref rl)) l 2 = .ref (l + 1) := by rw [fr_sfr, zu2_k _ _ _ _ (by omega), fr_sfr, zu2_k _ _ _ _ (by omega)]; exact l2
  have t4 : zfr (sfr (sfr z l 0 (.ref t)) l 1 (.ref rl)) l 3 = .ref (l + 2) := by rw [fr_sfr, zu2_k _ _ _ _ (by omega), fr_sfr, zu2_k _ _ _ _ (by omega)]; exact l5
  simp (disch := omega) only [e78, s78_0, s78_1, s78_2, s78_5, s78_8, s78_9, s78_10, s78_13, s78_16, s78_17, s78_20, s78_21, s78_22, s78_25, s78_26, s78_28, s78_31, s78_32, s78_35, s78_40, s78_41, s78_43, s78_44, s78_47, s78_52, s78_55, s78_56, s78_59, s78_60, s78_63, s78_64, s78_69, s78_72, s78_77, s78_78, s78_81, s78_84, s78_85, s78_86, s78_89, s78_92, zcs_0, zcs_1, zcs_2, zcs_3, zcs_4, zcs_5, zcs_6, zcs_7, znl_i, znl_r, znl_n, Bool.and_true, Bool.true_and, zk_v, zk_n, zk_x, zir_r, zir_n, zclr_i, zclr_r, zclr_n, zclr_d, zclr_l, true_and, and_true, and_self, if_true, if_false, reduceIte, nI_add, pk_mul, zin_ok, zx_nI, nI_lt2, nI_le2, nI_eq2, nI_l0, nI_g0, nI_q0, nI_p0, nI_n0, nI_m1, Nat.add_zero, Nat.zero_add, Nat.reduceAdd, Nat.reduceMul, true_or, or_true, znar_50, bI_0, bI_1, bI_z, bft, nI_z0, nI_z1, lgc_lt, lgc_gt, lgc_le, lgc_ge, lgc_eq, not_true_eq_false, not_false_eq_true, Bool.not_eq_true, Bool.not_eq_false, reduceCtorEq, hT, l1, m1, cls_sfr, cls_sIA, fr_sIA, t5, t2, t3, t4, l3, m3, l4, m4, l6, len_sfr, ia_sfr, hnn2, not_false_eq_true, Nat.le_refl, hz1]
  refine Eq.mpr key ?_
  exact hend
end BC
