set_option maxRecDepth 100000
/-! the component's reader: steps, words, numbers -/
/-- its value -/
def yVc (S : YS) : Nat := if yTk S = 2 then min 1000 (yVl S) else 0
/-- the reader R's cells: at, from, token, place, value -/
def cQ (z : ZH) (R a f t p v : Nat) : ZH := sFI z R (fun j => if j = 7 then nI a else if j = 8 then nI f else if j = 9 then nI t else if j = 10 then nI p else if j = 11 then nI v else zfi z R j)
def cP (z : ZH) (R : Nat) (S : YS) : ZH := cQ z R (yAt S) (yFr S) (yTk S) (yFr S) (yVc S)
/-- the reader R and its text -/
def RDr (z : ZH) (R : Nat) (b : Nat → Nat) (sz : Nat) : Prop := (zcls z R = 13 ∧ zfr z R 4 = .ref 127 ∧ zfi z R 5 = nI sz ∧ zcls z 127 = 52 ∧ zlen z 127 = 1400) ∧ sz ≤ 1400 ∧ (∀ k, k < 1400 → zia z 127 k = sb (b k) ∧ b k < 256)
section CQ
variable {z : ZH} {R a f t p v x : Nat} {S : YS}
theorem cls_cQ : zcls (cQ z R a f t p v) = zcls z := rfl
theorem fr_cQ : zfr (cQ z R a f t p v) = zfr z := rfl
theorem len_cQ : zlen (cQ z R a f t p v) = zlen z := rfl
theorem ia_cQ : zia (cQ z R a f t p v) = zia z := rfl
theorem ra_cQ : zra (cQ z R a f t p v) = zra z := rfl
theorem n_cQ : zn (cQ z R a f t p v) = zn z := rfl
theorem cls_cP : zcls (cP z R S) = zcls z := rfl
theorem fr_cP : zfr (cP z R S) = zfr z := rfl
theorem len_cP : zlen (cP z R S) = zlen z := rfl
theorem ia_cP : zia (cP z R S) = zia z := rfl
theorem ra_cP : zra (cP z R S) = zra z := rfl
theorem ls_cP : zls (cP z R S) = zls z := rfl
theorem n_cP : zn (cP z R S) = zn z := rfl
theorem uc_cP : zuc (cP z R S) = zuc z := rfl
theorem us_cP : zus (cP z R S) = zus z := rfl
theorem fi_cQ {j : Nat} : zfi (cQ z R a f t p v) R j = if j = 7 then nI a else if j = 8 then nI f else if j = 9 then nI t else if j = 10 then nI p else if j = 11 then nI v else zfi z R j := by
  unfold cQ; rw [fi_sFI, zu1_s]
theorem cQ_5 : zfi (cQ z R a f t p v) R 5 = zfi z R 5 := by rw [fi_cQ]; rfl
theorem cQ_7 : zfi (cQ z R a f t p v) R 7 = nI a := by rw [fi_cQ]; rfl
theorem cQ_8 : zfi (cQ z R a f t p v) R 8 = nI f := by rw [fi_cQ]; rfl
theorem cQ_9 : zfi (cQ z R a f t p v) R 9 = nI t := by rw [fi_cQ]; rfl
theorem cQ_10 : zfi (cQ z R a f t p v) R 10 = nI p := by rw [fi_cQ]; rfl
theorem cQ_11 : zfi (cQ z R a f t p v) R 11 = nI v := by rw [fi_cQ]; rfl
theorem cP_5 : zfi (cP z R S) R 5 = zfi z R 5 := cQ_5
theorem cP_7 : zfi (cP z R S) R 7 = nI (yAt S) := cQ_7
theorem cP_8 : zfi (cP z R S) R 8 = nI (yFr S) := cQ_8
theorem cP_9 : zfi (cP z R S) R 9 = nI (yTk S) := cQ_9
theorem cP_10 : zfi (cP z R S) R 10 = nI (yFr S) := cQ_10
theorem cP_11 : zfi (cP z R S) R 11 = nI (yVc S) := cQ_11
theorem fi_cPn {q : Nat} (h : ¬ q = R) : zfi (cP z R S) q = zfi z q := by
  unfold cP cQ; rw [fi_sFI, zu1_n _ _ _ h]
theorem cQ_s (j : Nat) (y : Int32) : sfi (cQ z R a f t p v) R j y = sFI z R (zu1 (fun j => if j = 7 then nI a else if j = 8 then nI f else if j = 9 then nI t else if j = 10 then nI p else if j = 11 then nI v else zfi z R j) j y) := sFI_sfi _ _ _ _ _
theorem cQ_s7 : sfi (cQ z R a f t p v) R 7 (nI x) = cQ z R x f t p v := by
  rw [cQ_s]; unfold cQ; congr 1; funext j; unfold zu1; by_cases h : j = 7 <;> simp [h]
theorem cQ_s8 : sfi (cQ z R a f t p v) R 8 (nI x) = cQ z R a x t p v := by
  rw [cQ_s]; unfold cQ; congr 1; funext j; unfold zu1; by_cases h : j = 8 <;> simp [h]
theorem cQ_s9 : sfi (cQ z R a f t p v) R 9 (nI x) = cQ z R a f x p v := by
  rw [cQ_s]; unfold cQ; congr 1; funext j; unfold zu1; by_cases h : j = 9 <;> simp [h]
theorem cQ_s10 : sfi (cQ z R a f t p v) R 10 (nI x) = cQ z R a f t x v := by
  rw [cQ_s]; unfold cQ; congr 1; funext j; unfold zu1; by_cases h : j = 10 <;> simp [h]
theorem cQ_s11 : sfi (cQ z R a f t p v) R 11 (nI x) = cQ z R a f t p x := by
  rw [cQ_s]; unfold cQ; congr 1; funext j; unfold zu1; by_cases h : j = 11 <;> simp [h]
end CQ
/-- a Wrong -/
def mkW (z : ZH) (k p : Int32) : ZH := sfi (sfi (snew z 14 8) (zn z) 6 k) (zn z) 7 p
theorem numV_cap {b : Nat → Nat} {sz : Nat} : ∀ n a x y, x = min 1000 y → y < 10000 → numV b sz 1000 n a x = min 1000 (numV b sz 9999 n a y)
  | 0, a, x, y, h, _ => h
  | n + 1, a, x, y, h, hy => by
    unfold numV
    split
    · rename_i hc
      have h6 : 48 ≤ b a := by
        have := hc.2
        unfold isDi at this
        simp only [Bool.and_eq_true, decide_eq_true_iff] at this
        exact this.1
      exact numV_cap n (a + 1) _ _ (by omega) (by omega)
    · exact h
section CR
variable {d : Nat} {z : ZH} {Q : ZQ} {b : Nat → Nat} {sz R : Nat} {S : YS}
theorem isAt_b {x lo hi : Nat} (hx : x < 256) (hl : lo < 128) (hh : hi < 128) : (decide (nI lo ≤ sb x) && decide (sb x ≤ nI hi)) = (decide (lo ≤ x) && decide (x ≤ hi)) := by
  rw [Bool.eq_iff_iff]
  simp only [Bool.and_eq_true, decide_eq_true_iff, sb_lo hx hl, sb_hi hx hh]
  omega
theorem c217 (hR : RDr z R b sz) {a f t p v lo hi : Nat} (ha : a ≤ sz) (hl : lo < 128) (hh : hi < 128) : ZC zG d 217 [.ref R, .int (nI lo), .int (nI hi)] (cQ z R a f t p v) Q = Q (.inl (some (.int (bI (decide (a < sz) && (decide (lo ≤ b a) && decide (b a ≤ hi))))))) (cQ z R a f t p v) := by
  obtain ⟨⟨r0, r1, r2, r3, r4⟩, t2, t3⟩ := hR
  by_cases h : a < sz
  · have h1 : ¬ sz ≤ a := by omega
    obtain ⟨u1, u2⟩ := t3 a (by omega)
    rw [← isAt_b u2 hl hh, decide_eq_true h]
    by_cases c1 : nI lo ≤ sb (b a)
    · have c2 : ¬ sb (b a) < nI lo := Int32.not_lt.mpr c1
      by_cases c3 : sb (b a) ≤ nI hi
      · have c4 : ¬ nI hi < sb (b a) := Int32.not_lt.mpr c3
        simp (disch := omega) only [e217, s217_0, s217_1, s217_4, s217_5, s217_8, s217_11, s217_12, s217_15, s217_16, s217_19, s217_20, s217_21, s217_24, s217_25, s217_28, s217_29, s217_32, s217_33, s217_34, s217_37, s217_38, s217_41, s217_42, zcs_0, zcs_1, zcs_2, zcs_3, zcs_4, zcs_5, zcs_6, zcs_7, znl_i, znl_r, znl_n, Bool.and_true, Bool.true_and, zk_v, zk_n, zk_x, zir_r, zir_n, zclr_i, zclr_r, zclr_n, zclr_d, zclr_l, true_and, and_true, and_self, if_true, if_false, reduceIte, nI_add, pk_mul, zin_ok, zx_nI, nI_lt2, nI_le2, nI_eq2, nI_l0, nI_g0, nI_q0, nI_p0, nI_n0, nI_m1, Nat.add_zero, Nat.zero_add, Nat.reduceAdd, Nat.reduceMul, true_or, or_true, znar_50, bI_0, bI_1, bI_z, bft, nI_z0, nI_z1, lgc_lt, lgc_gt, lgc_le, lgc_ge, lgc_eq, not_true_eq_false, not_false_eq_true, Bool.not_eq_true, Bool.not_eq_false, reduceCtorEq, eq_self, nI_e0, nI_e1, i10, i01, decide_false, decide_true, Bool.false_eq_true, cls_cQ, fr_cQ, len_cQ, ia_cQ, ra_cQ, r0, r1, r2, r3, r4, cQ_5, cQ_7, h1, u1, c1, c2, c3, c4, decide_true, bI_t, nI_one, Bool.and_self]
      · have c4 : nI hi < sb (b a) := Int32.not_le.mp c3
        simp (disch := omega) only [e217, s217_0, s217_1, s217_4, s217_5, s217_8, s217_11, s217_12, s217_15, s217_16, s217_19, s217_20, s217_21, s217_24, s217_25, s217_28, s217_29, s217_32, s217_33, s217_34, s217_37, s217_38, s217_41, s217_42, zcs_0, zcs_1, zcs_2, zcs_3, zcs_4, zcs_5, zcs_6, zcs_7, znl_i, znl_r, znl_n, Bool.and_true, Bool.true_and, zk_v, zk_n, zk_x, zir_r, zir_n, zclr_i, zclr_r, zclr_n, zclr_d, zclr_l, true_and, and_true, and_self, if_true, if_false, reduceIte, nI_add, pk_mul, zin_ok, zx_nI, nI_lt2, nI_le2, nI_eq2, nI_l0, nI_g0, nI_q0, nI_p0, nI_n0, nI_m1, Nat.add_zero, Nat.zero_add, Nat.reduceAdd, Nat.reduceMul, true_or, or_true, znar_50, bI_0, bI_1, bI_z, bft, nI_z0, nI_z1, lgc_lt, lgc_gt, lgc_le, lgc_ge, lgc_eq, not_true_eq_false, not_false_eq_true, Bool.not_eq_true, Bool.not_eq_false, reduceCtorEq, eq_self, nI_e0, nI_e1, i10, i01, decide_false, decide_true, Bool.false_eq_true, cls_cQ, fr_cQ, len_cQ, ia_cQ, ra_cQ, r0, r1, r2, r3, r4, cQ_5, cQ_7, h1, u1, c1, c2, c3, c4, decide_true, decide_false, bI_f, nI_0, Bool.and_false]
    · have c2 : sb (b a) < nI lo := Int32.not_le.mp c1
      simp (disch := omega) only [e217, s217_0, s217_1, s217_4, s217_5, s217_8, s217_11, s217_12, s217_15, s217_16, s217_19, s217_20, s217_21, s217_24, s217_25, s217_28, s217_29, s217_32, s217_33, s217_34, s217_37, s217_38, s217_41, s217_42, zcs_0, zcs_1, zcs_2, zcs_3, zcs_4, zcs_5, zcs_6, zcs_7, znl_i, znl_r, znl_n, Bool.and_true, Bool.true_and, zk_v, zk_n, zk_x, zir_r, zir_n, zclr_i, zclr_r, zclr_n, zclr_d, zclr_l, true_and, and_true, and_self, if_true, if_false, reduceIte, nI_add, pk_mul, zin_ok, zx_nI, nI_lt2, nI_le2, nI_eq2, nI_l0, nI_g0, nI_q0, nI_p0, nI_n0, nI_m1, Nat.add_zero, Nat.zero_add, Nat.reduceAdd, Nat.reduceMul, true_or, or_true, znar_50, bI_0, bI_1, bI_z, bft, nI_z0, nI_z1, lgc_lt, lgc_gt, lgc_le, lgc_ge, lgc_eq, not_true_eq_false, not_false_eq_true, Bool.not_eq_true, Bool.not_eq_false, reduceCtorEq, eq_self, nI_e0, nI_e1, i10, i01, decide_false, decide_true, Bool.false_eq_true, cls_cQ, fr_cQ, len_cQ, ia_cQ, ra_cQ, r0, r1, r2, r3, r4, cQ_5, cQ_7, h1, u1, c1, c2, decide_true, decide_false, bI_f, nI_0, Bool.and_false, Bool.false_and]
  · have h1 : sz ≤ a := by omega
    rw [decide_eq_false h]
    simp (disch := omega) only [e217, s217_0, s217_1, s217_4, s217_5, s217_8, s217_11, s217_12, s217_15, s217_16, s217_19, s217_20, s217_21, s217_24, s217_25, s217_28, s217_29, s217_32, s217_33, s217_34, s217_37, s217_38, s217_41, s217_42, zcs_0, zcs_1, zcs_2, zcs_3, zcs_4, zcs_5, zcs_6, zcs_7, znl_i, znl_r, znl_n, Bool.and_true, Bool.true_and, zk_v, zk_n, zk_x, zir_r, zir_n, zclr_i, zclr_r, zclr_n, zclr_d, zclr_l, true_and, and_true, and_self, if_true, if_false, reduceIte, nI_add, pk_mul, zin_ok, zx_nI, nI_lt2, nI_le2, nI_eq2, nI_l0, nI_g0, nI_q0, nI_p0, nI_n0, nI_m1, Nat.add_zero, Nat.zero_add, Nat.reduceAdd, Nat.reduceMul, true_or, or_true, znar_50, bI_0, bI_1, bI_z, bft, nI_z0, nI_z1, lgc_lt, lgc_gt, lgc_le, lgc_ge, lgc_eq, not_true_eq_false, not_false_eq_true, Bool.not_eq_true, Bool.not_eq_false, reduceCtorEq, eq_self, nI_e0, nI_e1, i10, i01, decide_false, decide_true, Bool.false_eq_true, cls_cQ, fr_cQ, len_cQ, ia_cQ, ra_cQ, r0, r1, r2, r3, r4, cQ_5, cQ_7, h1, bI_f, nI_0, Bool.false_and]
theorem c216 (hR : RDr z R b sz) (o2 : yAt S ≤ sz) (hk : yFk S = 0) : ZC zG (d + 1) 216 [.ref R] (cP z R S) Q = Q (.inl none) (cP z R (yAdv b sz S)) := by
  have hR2 := hR
  obtain ⟨⟨r0, r1, r2, r3, r4⟩, t2, t3⟩ := hR2
  have isAt := fun (d : Nat) (Q : ZQ) (a f t p v lo hi : Nat) (ha : a ≤ sz) (hl : lo < 128) (hh : hi < 128) => c217 (d := d) (Q := Q) (f := f) (t := t) (p := p) (v := v) hR ha hl hh
  have k1 : ∀ (f t p v n a : Nat), sz ≤ a + n → a ≤ sz → ZW zG (d + 1) 216 0 [.ref R] [] (cQ z R a f t p v) Q = ZW zG (d + 1) 216 52 [.ref R] [] (cQ z R (skp b sz isSp n a) f t p v) Q := by
    intro f t p v n
    induction n with
    | zero =>
      intro a h1 h2
      have h3 : sz ≤ a := by omega
      refine s216_0.trans ?_
      unfold skp
      simp (disch := omega) only [s216_1, s216_4, s216_5, s216_8, s216_11, s216_12, s216_15, s216_16, s216_19, s216_20, s216_22, s216_25, s216_26, s216_29, s216_30, s216_33, s216_34, s216_36, s216_39, s216_40, s216_41, s216_44, s216_45, s216_46, s216_49, zcs_0, zcs_1, zcs_2, zcs_3, zcs_4, zcs_5, zcs_6, zcs_7, znl_i, znl_r, znl_n, Bool.and_true, Bool.true_and, zk_v, zk_n, zk_x, zir_r, zir_n, zclr_i, zclr_r, zclr_n, zclr_d, zclr_l, true_and, and_true, and_self, if_true, if_false, reduceIte, nI_add, pk_mul, zin_ok, zx_nI, nI_lt2, nI_le2, nI_eq2, nI_l0, nI_g0, nI_q0, nI_p0, nI_n0, nI_m1, Nat.add_zero, Nat.zero_add, Nat.reduceAdd, Nat.reduceMul, true_or, or_true, znar_50, bI_0, bI_1, bI_z, bft, nI_z0, nI_z1, lgc_lt, lgc_gt, lgc_le, lgc_ge, lgc_eq, not_true_eq_false, not_false_eq_true, Bool.not_eq_true, Bool.not_eq_false, reduceCtorEq, eq_self, nI_e0, nI_e1, i10, i01, decide_false, decide_true, Bool.false_eq_true, cls_cQ, fr_cQ, len_cQ, ia_cQ, ra_cQ, r0, r1, r2, r3, r4, cQ_5, cQ_7, h3]
    | succ n ih =>
      intro a h1 h2
      by_cases h3 : a < sz
      · obtain ⟨u1, u2⟩ := t3 a (by omega)
        have h31 : ¬ sz ≤ a := by omega
        have e32 := sb_eq (n := b a) (c := 32) u2 (by omega)
        have e10 := sb_eq (n := b a) (c := 10) u2 (by omega)
        by_cases c1 : b a = 32
        · have h4 : isSp (b a) = true := by unfold isSp; simp [c1]
          have e : skp b sz isSp (n + 1) a = skp b sz isSp n (a + 1) := if_pos ⟨h3, h4⟩
          have e33 : (sb (b a) = nI 32) = True := by rw [e32]; exact eq_true c1
          rw [e, ← ih (a + 1) (by omega) (by omega)]
          refine s216_0.trans ?_
          simp (disch := omega) only [s216_1, s216_4, s216_5, s216_8, s216_11, s216_12, s216_15, s216_16, s216_19, s216_20, s216_22, s216_25, s216_26, s216_29, s216_30, s216_33, s216_34, s216_36, s216_39, s216_40, s216_41, s216_44, s216_45, s216_46, s216_49, zcs_0, zcs_1, zcs_2, zcs_3, zcs_4, zcs_5, zcs_6, zcs_7, znl_i, znl_r, znl_n, Bool.and_true, Bool.true_and, zk_v, zk_n, zk_x, zir_r, zir_n, zclr_i, zclr_r, zclr_n, zclr_d, zclr_l, true_and, and_true, and_self, if_true, if_false, reduceIte, nI_add, pk_mul, zin_ok, zx_nI, nI_lt2, nI_le2, nI_eq2, nI_l0, nI_g0, nI_q0, nI_p0, nI_n0, nI_m1, Nat.add_zero, Nat.zero_add, Nat.reduceAdd, Nat.reduceMul, true_or, or_true, znar_50, bI_0, bI_1, bI_z, bft, nI_z0, nI_z1, lgc_lt, lgc_gt, lgc_le, lgc_ge, lgc_eq, not_true_eq_false, not_false_eq_true, Bool.not_eq_true, Bool.not_eq_false, reduceCtorEq, eq_self, nI_e0, nI_e1, i10, i01, decide_false, decide_true, Bool.false_eq_true, cls_cQ, fr_cQ, len_cQ, ia_cQ, ra_cQ, r0, r1, r2, r3, r4, cQ_5, cQ_7, cQ_s7, h31, u1, e33]
        · have e33 : (sb (b a) = nI 32) = False := by rw [e32]; exact eq_false c1
          by_cases c2 : b a = 10
          · have h4 : isSp (b a) = true := by unfold isSp; simp [c2]
            have e : skp b sz isSp (n + 1) a = skp b sz isSp n (a + 1) := if_pos ⟨h3, h4⟩
            have e11 : (sb (b a) = nI 10) = True := by rw [e10]; exact eq_true c2
            rw [e, ← ih (a + 1) (by omega) (by omega)]
            refine s216_0.trans ?_
            simp (disch := omega) only [s216_1, s216_4, s216_5, s216_8, s216_11, s216_12, s216_15, s216_16, s216_19, s216_20, s216_22, s216_25, s216_26, s216_29, s216_30, s216_33, s216_34, s216_36, s216_39, s216_40, s216_41, s216_44, s216_45, s216_46, s216_49, zcs_0, zcs_1, zcs_2, zcs_3, zcs_4, zcs_5, zcs_6, zcs_7, znl_i, znl_r, znl_n, Bool.and_true, Bool.true_and, zk_v, zk_n, zk_x, zir_r, zir_n, zclr_i, zclr_r, zclr_n, zclr_d, zclr_l, true_and, and_true, and_self, if_true, if_false, reduceIte, nI_add, pk_mul, zin_ok, zx_nI, nI_lt2, nI_le2, nI_eq2, nI_l0, nI_g0, nI_q0, nI_p0, nI_n0, nI_m1, Nat.add_zero, Nat.zero_add, Nat.reduceAdd, Nat.reduceMul, true_or, or_true, znar_50, bI_0, bI_1, bI_z, bft, nI_z0, nI_z1, lgc_lt, lgc_gt, lgc_le, lgc_ge, lgc_eq, not_true_eq_false, not_false_eq_true, Bool.not_eq_true, Bool.not_eq_false, reduceCtorEq, eq_self, nI_e0, nI_e1, i10, i01, decide_false, decide_true, Bool.false_eq_true, cls_cQ, fr_cQ, len_cQ, ia_cQ, ra_cQ, r0, r1, r2, r3, r4, cQ_5, cQ_7, cQ_s7, h31, u1, e33, e11]
          · have h4 : ¬ (a < sz ∧ isSp (b a) = true) := by unfold isSp; simp [c1, c2]
            have e : skp b sz isSp (n + 1) a = a := if_neg h4
            have e11 : (sb (b a) = nI 10) = False := by rw [e10]; exact eq_false c2
            rw [e]
            refine s216_0.trans ?_
            simp (disch := omega) only [s216_1, s216_4, s216_5, s216_8, s216_11, s216_12, s216_15, s216_16, s216_19, s216_20, s216_22, s216_25, s216_26, s216_29, s216_30, s216_33, s216_34, s216_36, s216_39, s216_40, s216_41, s216_44, s216_45, s216_46, s216_49, zcs_0, zcs_1, zcs_2, zcs_3, zcs_4, zcs_5, zcs_6, zcs_7, znl_i, znl_r, znl_n, Bool.and_true, Bool.true_and, zk_v, zk_n, zk_x, zir_r, zir_n, zclr_i, zclr_r, zclr_n, zclr_d, zclr_l, true_and, and_true, and_self, if_true, if_false, reduceIte, nI_add, pk_mul, zin_ok, zx_nI, nI_lt2, nI_le2, nI_eq2, nI_l0, nI_g0, nI_q0, nI_p0, nI_n0, nI_m1, Nat.add_zero, Nat.zero_add, Nat.reduceAdd, Nat.reduceMul, true_or, or_true, znar_50, bI_0, bI_1, bI_z, bft, nI_z0, nI_z1, lgc_lt, lgc_gt, lgc_le, lgc_ge, lgc_eq, not_true_eq_false, not_false_eq_true, Bool.not_eq_true, Bool.not_eq_false, reduceCtorEq, eq_self, nI_e0, nI_e1, i10, i01, decide_false, decide_true, Bool.false_eq_true, cls_cQ, fr_cQ, len_cQ, ia_cQ, ra_cQ, r0, r1, r2, r3, r4, cQ_5, cQ_7, cQ_s7, h31, u1, e33, e11]
      · have h31 : sz ≤ a := by omega
        have e : skp b sz isSp (n + 1) a = a := if_neg (fun q => h3 q.1)
        rw [e]
        refine s216_0.trans ?_
        simp (disch := omega) only [s216_1, s216_4, s216_5, s216_8, s216_11, s216_12, s216_15, s216_16, s216_19, s216_20, s216_22, s216_25, s216_26, s216_29, s216_30, s216_33, s216_34, s216_36, s216_39, s216_40, s216_41, s216_44, s216_45, s216_46, s216_49, zcs_0, zcs_1, zcs_2, zcs_3, zcs_4, zcs_5, zcs_6, zcs_7, znl_i, znl_r, znl_n, Bool.and_true, Bool.true_and, zk_v, zk_n, zk_x, zir_r, zir_n, zclr_i, zclr_r, zclr_n, zclr_d, zclr_l, true_and, and_true, and_self, if_true, if_false, reduceIte, nI_add, pk_mul, zin_ok, zx_nI, nI_lt2, nI_le2, nI_eq2, nI_l0, nI_g0, nI_q0, nI_p0, nI_n0, nI_m1, Nat.add_zero, Nat.zero_add, Nat.reduceAdd, Nat.reduceMul, true_or, or_true, znar_50, bI_0, bI_1, bI_z, bft, nI_z0, nI_z1, lgc_lt, lgc_gt, lgc_le, lgc_ge, lgc_eq, not_true_eq_false, not_false_eq_true, Bool.not_eq_true, Bool.not_eq_false, reduceCtorEq, eq_self, nI_e0, nI_e1, i10, i01, decide_false, decide_true, Bool.false_eq_true, cls_cQ, fr_cQ, len_cQ, ia_cQ, ra_cQ, r0, r1, r2, r3, r4, cQ_5, cQ_7, h31]
  have k2 : ∀ (f t p v n a : Nat), sz ≤ a + n → a ≤ sz → ZW zG (d + 1) 216 108 [.ref R] [] (cQ z R a f t p v) Q = ZW zG (d + 1) 216 235 [.ref R] [] (cQ z R (skp b sz isLe n a) f t p v) Q := by
    intro f t p v n
    induction n with
    | zero =>
      intro a h1 h2
      have h3 : decide (a < sz) = false := decide_eq_false (by omega)
      refine s216_108.trans ?_
      unfold skp
      simp (disch := omega) only [s216_109, s216_111, s216_113, s216_116, s216_119, s216_120, s216_121, s216_124, s216_125, s216_126, s216_129, zcs_0, zcs_1, zcs_2, zcs_3, zcs_4, zcs_5, zcs_6, zcs_7, znl_i, znl_r, znl_n, Bool.and_true, Bool.true_and, zk_v, zk_n, zk_x, zir_r, zir_n, zclr_i, zclr_r, zclr_n, zclr_d, zclr_l, true_and, and_true, and_self, if_true, if_false, reduceIte, nI_add, pk_mul, zin_ok, zx_nI, nI_lt2, nI_le2, nI_eq2, nI_l0, nI_g0, nI_q0, nI_p0, nI_n0, nI_m1, Nat.add_zero, Nat.zero_add, Nat.reduceAdd, Nat.reduceMul, true_or, or_true, znar_50, bI_0, bI_1, bI_z, bft, nI_z0, nI_z1, lgc_lt, lgc_gt, lgc_le, lgc_ge, lgc_eq, not_true_eq_false, not_false_eq_true, Bool.not_eq_true, Bool.not_eq_false, reduceCtorEq, eq_self, nI_e0, nI_e1, i10, i01, decide_false, decide_true, Bool.false_eq_true, cls_cQ, fr_cQ, len_cQ, ia_cQ, ra_cQ, r0, r1, r2, r3, r4, isAt, h3, Bool.false_and]
    | succ n ih =>
      intro a h1 h2
      by_cases h3 : a < sz
      · by_cases h4 : isLe (b a) = true
        · have e : skp b sz isLe (n + 1) a = skp b sz isLe n (a + 1) := if_pos ⟨h3, h4⟩
          have g : (decide (a < sz) && (decide (97 ≤ b a) && decide (b a ≤ 122))) = true := by rw [decide_eq_true h3]; exact h4
          rw [e, ← ih (a + 1) (by omega) (by omega)]
          refine s216_108.trans ?_
          simp (disch := omega) only [s216_109, s216_111, s216_113, s216_116, s216_119, s216_120, s216_121, s216_124, s216_125, s216_126, s216_129, zcs_0, zcs_1, zcs_2, zcs_3, zcs_4, zcs_5, zcs_6, zcs_7, znl_i, znl_r, znl_n, Bool.and_true, Bool.true_and, zk_v, zk_n, zk_x, zir_r, zir_n, zclr_i, zclr_r, zclr_n, zclr_d, zclr_l, true_and, and_true, and_self, if_true, if_false, reduceIte, nI_add, pk_mul, zin_ok, zx_nI, nI_lt2, nI_le2, nI_eq2, nI_l0, nI_g0, nI_q0, nI_p0, nI_n0, nI_m1, Nat.add_zero, Nat.zero_add, Nat.reduceAdd, Nat.reduceMul, true_or, or_true, znar_50, bI_0, bI_1, bI_z, bft, nI_z0, nI_z1, lgc_lt, lgc_gt, lgc_le, lgc_ge, lgc_eq, not_true_eq_false, not_false_eq_true, Bool.not_eq_true, Bool.not_eq_false, reduceCtorEq, eq_self, nI_e0, nI_e1, i10, i01, decide_false, decide_true, Bool.false_eq_true, cls_cQ, fr_cQ, len_cQ, ia_cQ, ra_cQ, r0, r1, r2, r3, r4, cQ_7, cQ_s7, isAt, g]
        · have e : skp b sz isLe (n + 1) a = a := if_neg (fun q => h4 q.2)
          have g : (decide (a < sz) && (decide (97 ≤ b a) && decide (b a ≤ 122))) = false := by
            rw [decide_eq_true h3]
            rw [Bool.not_eq_true] at h4
            exact h4
          rw [e]
          refine s216_108.trans ?_
          simp (disch := omega) only [s216_109, s216_111, s216_113, s216_116, s216_119, s216_120, s216_121, s216_124, s216_125, s216_126, s216_129, zcs_0, zcs_1, zcs_2, zcs_3, zcs_4, zcs_5, zcs_6, zcs_7, znl_i, znl_r, znl_n, Bool.and_true, Bool.true_and, zk_v, zk_n, zk_x, zir_r, zir_n, zclr_i, zclr_r, zclr_n, zclr_d, zclr_l, true_and, and_true, and_self, if_true, if_false, reduceIte, nI_add, pk_mul, zin_ok, zx_nI, nI_lt2, nI_le2, nI_eq2, nI_l0, nI_g0, nI_q0, nI_p0, nI_n0, nI_m1, Nat.add_zero, Nat.zero_add, Nat.reduceAdd, Nat.reduceMul, true_or, or_true, znar_50, bI_0, bI_1, bI_z, bft, nI_z0, nI_z1, lgc_lt, lgc_gt, lgc_le, lgc_ge, lgc_eq, not_true_eq_false, not_false_eq_true, Bool.not_eq_true, Bool.not_eq_false, reduceCtorEq, eq_self, nI_e0, nI_e1, i10, i01, decide_false, decide_true, Bool.false_eq_true, cls_cQ, fr_cQ, len_cQ, ia_cQ, ra_cQ, r0, r1, r2, r3, r4, isAt, g]
      · have e : skp b sz isLe (n + 1) a = a := if_neg (fun q => h3 q.1)
        have g : decide (a < sz) = false := decide_eq_false h3
        rw [e]
        refine s216_108.trans ?_
        simp (disch := omega) only [s216_109, s216_111, s216_113, s216_116, s216_119, s216_120, s216_121, s216_124, s216_125, s216_126, s216_129, zcs_0, zcs_1, zcs_2, zcs_3, zcs_4, zcs_5, zcs_6, zcs_7, znl_i, znl_r, znl_n, Bool.and_true, Bool.true_and, zk_v, zk_n, zk_x, zir_r, zir_n, zclr_i, zclr_r, zclr_n, zclr_d, zclr_l, true_and, and_true, and_self, if_true, if_false, reduceIte, nI_add, pk_mul, zin_ok, zx_nI, nI_lt2, nI_le2, nI_eq2, nI_l0, nI_g0, nI_q0, nI_p0, nI_n0, nI_m1, Nat.add_zero, Nat.zero_add, Nat.reduceAdd, Nat.reduceMul, true_or, or_true, znar_50, bI_0, bI_1, bI_z, bft, nI_z0, nI_z1, lgc_lt, lgc_gt, lgc_le, lgc_ge, lgc_eq, not_true_eq_false, not_false_eq_true, Bool.not_eq_true, Bool.not_eq_false, reduceCtorEq, eq_self, nI_e0, nI_e1, i10, i01, decide_false, decide_true, Bool.false_eq_true, cls_cQ, fr_cQ, len_cQ, ia_cQ, ra_cQ, r0, r1, r2, r3, r4, isAt, g, Bool.false_and]
  have k3 : ∀ (f t p n a v : Nat), sz ≤ a + n → a ≤ sz → v < 10000 → ZW zG (d + 1) 216 148 [.ref R] [] (cQ z R a f t p v) Q = ZW zG (d + 1) 216 235 [.ref R] [] (cQ z R (skp b sz isDi n a) f t p (numV b sz 1000 n a v)) Q := by
    intro f t p n
    induction n with
    | zero =>
      intro a v h1 h2 hv
      have h3 : decide (a < sz) = false := decide_eq_false (by omega)
      refine s216_148.trans ?_
      unfold skp numV
      simp (disch := omega) only [s216_149, s216_151, s216_153, s216_156, s216_159, s216_160, s216_163, s216_165, s216_166, s216_169, s216_170, s216_171, s216_174, s216_175, s216_178, s216_179, s216_180, s216_182, s216_183, s216_186, s216_189, s216_190, s216_191, s216_194, s216_195, s216_196, s216_199, zcs_0, zcs_1, zcs_2, zcs_3, zcs_4, zcs_5, zcs_6, zcs_7, znl_i, znl_r, znl_n, Bool.and_true, Bool.true_and, zk_v, zk_n, zk_x, zir_r, zir_n, zclr_i, zclr_r, zclr_n, zclr_d, zclr_l, true_and, and_true, and_self, if_true, if_false, reduceIte, nI_add, pk_mul, zin_ok, zx_nI, nI_lt2, nI_le2, nI_eq2, nI_l0, nI_g0, nI_q0, nI_p0, nI_n0, nI_m1, Nat.add_zero, Nat.zero_add, Nat.reduceAdd, Nat.reduceMul, true_or, or_true, znar_50, bI_0, bI_1, bI_z, bft, nI_z0, nI_z1, lgc_lt, lgc_gt, lgc_le, lgc_ge, lgc_eq, not_true_eq_false, not_false_eq_true, Bool.not_eq_true, Bool.not_eq_false, reduceCtorEq, eq_self, nI_e0, nI_e1, i10, i01, decide_false, decide_true, Bool.false_eq_true, cls_cQ, fr_cQ, len_cQ, ia_cQ, ra_cQ, r0, r1, r2, r3, r4, isAt, h3, Bool.false_and]
    | succ n ih =>
      intro a v h1 h2 hv
      by_cases h3 : a < sz
      · obtain ⟨u1, u2⟩ := t3 a (by omega)
        by_cases h4 : isDi (b a) = true
        · have e : skp b sz isDi (n + 1) a = skp b sz isDi n (a + 1) := if_pos ⟨h3, h4⟩
          have e2 : numV b sz 1000 (n + 1) a v = numV b sz 1000 n (a + 1) (min 1000 (10 * v + b a - 48)) := if_pos ⟨h3, h4⟩
          have g : (decide (a < sz) && (decide (48 ≤ b a) && decide (b a ≤ 57))) = true := by rw [decide_eq_true h3]; exact h4
          have h6 : 48 ≤ b a ∧ b a ≤ 57 := by
            unfold isDi at h4
            simp only [Bool.and_eq_true, decide_eq_true_iff] at h4
            exact h4
          have u3 : sb (b a) = nI (b a) := sb_pos (by omega)
          rw [e, e2, ← ih (a + 1) _ (by omega) (by omega) (by omega)]
          refine s216_148.trans ?_
          simp (disch := omega) only [s216_149, s216_151, s216_153, s216_156, s216_159, s216_160, s216_163, s216_165, s216_166, s216_169, s216_170, s216_171, s216_174, s216_175, s216_178, s216_179, s216_180, s216_182, s216_183, s216_186, s216_189, s216_190, s216_191, s216_194, s216_195, s216_196, s216_199, zcs_0, zcs_1, zcs_2, zcs_3, zcs_4, zcs_5, zcs_6, zcs_7, znl_i, znl_r, znl_n, Bool.and_true, Bool.true_and, zk_v, zk_n, zk_x, zir_r, zir_n, zclr_i, zclr_r, zclr_n, zclr_d, zclr_l, true_and, and_true, and_self, if_true, if_false, reduceIte, nI_add, pk_mul, zin_ok, zx_nI, nI_lt2, nI_le2, nI_eq2, nI_l0, nI_g0, nI_q0, nI_p0, nI_n0, nI_m1, Nat.add_zero, Nat.zero_add, Nat.reduceAdd, Nat.reduceMul, true_or, or_true, znar_50, bI_0, bI_1, bI_z, bft, nI_z0, nI_z1, lgc_lt, lgc_gt, lgc_le, lgc_ge, lgc_eq, not_true_eq_false, not_false_eq_true, Bool.not_eq_true, Bool.not_eq_false, reduceCtorEq, eq_self, nI_e0, nI_e1, i10, i01, decide_false, decide_true, Bool.false_eq_true, cls_cQ, fr_cQ, len_cQ, ia_cQ, ra_cQ, r0, r1, r2, r3, r4, cQ_7, cQ_11, cQ_s7, cQ_s11, isAt, g, u1, u3, nI_sbn, zmin_nI]
        · have e : skp b sz isDi (n + 1) a = a := if_neg (fun q => h4 q.2)
          have e2 : numV b sz 1000 (n + 1) a v = v := if_neg (fun q => h4 q.2)
          have g : (decide (a < sz) && (decide (48 ≤ b a) && decide (b a ≤ 57))) = false := by
            rw [decide_eq_true h3]
            rw [Bool.not_eq_true] at h4
            exact h4
          rw [e, e2]
          refine s216_148.trans ?_
          simp (disch := omega) only [s216_149, s216_151, s216_153, s216_156, s216_159, s216_160, s216_163, s216_165, s216_166, s216_169, s216_170, s216_171, s216_174, s216_175, s216_178, s216_179, s216_180, s216_182, s216_183, s216_186, s216_189, s216_190, s216_191, s216_194, s216_195, s216_196, s216_199, zcs_0, zcs_1, zcs_2, zcs_3, zcs_4, zcs_5, zcs_6, zcs_7, znl_i, znl_r, znl_n, Bool.and_true, Bool.true_and, zk_v, zk_n, zk_x, zir_r, zir_n, zclr_i, zclr_r, zclr_n, zclr_d, zclr_l, true_and, and_true, and_self, if_true, if_false, reduceIte, nI_add, pk_mul, zin_ok, zx_nI, nI_lt2, nI_le2, nI_eq2, nI_l0, nI_g0, nI_q0, nI_p0, nI_n0, nI_m1, Nat.add_zero, Nat.zero_add, Nat.reduceAdd, Nat.reduceMul, true_or, or_true, znar_50, bI_0, bI_1, bI_z, bft, nI_z0, nI_z1, lgc_lt, lgc_gt, lgc_le, lgc_ge, lgc_eq, not_true_eq_false, not_false_eq_true, Bool.not_eq_true, Bool.not_eq_false, reduceCtorEq, eq_self, nI_e0, nI_e1, i10, i01, decide_false, decide_true, Bool.false_eq_true, cls_cQ, fr_cQ, len_cQ, ia_cQ, ra_cQ, r0, r1, r2, r3, r4, isAt, g]
      · have e : skp b sz isDi (n + 1) a = a := if_neg (fun q => h3 q.1)
        have e2 : numV b sz 1000 (n + 1) a v = v := if_neg (fun q => h3 q.1)
        have g : decide (a < sz) = false := decide_eq_false h3
        rw [e, e2]
        refine s216_148.trans ?_
        simp (disch := omega) only [s216_149, s216_151, s216_153, s216_156, s216_159, s216_160, s216_163, s216_165, s216_166, s216_169, s216_170, s216_171, s216_174, s216_175, s216_178, s216_179, s216_180, s216_182, s216_183, s216_186, s216_189, s216_190, s216_191, s216_194, s216_195, s216_196, s216_199, zcs_0, zcs_1, zcs_2, zcs_3, zcs_4, zcs_5, zcs_6, zcs_7, znl_i, znl_r, znl_n, Bool.and_true, Bool.true_and, zk_v, zk_n, zk_x, zir_r, zir_n, zclr_i, zclr_r, zclr_n, zclr_d, zclr_l, true_and, and_true, and_self, if_true, if_false, reduceIte, nI_add, pk_mul, zin_ok, zx_nI, nI_lt2, nI_le2, nI_eq2, nI_l0, nI_g0, nI_q0, nI_p0, nI_n0, nI_m1, Nat.add_zero, Nat.zero_add, Nat.reduceAdd, Nat.reduceMul, true_or, or_true, znar_50, bI_0, bI_1, bI_z, bft, nI_z0, nI_z1, lgc_lt, lgc_gt, lgc_le, lgc_ge, lgc_eq, not_true_eq_false, not_false_eq_true, Bool.not_eq_true, Bool.not_eq_false, reduceCtorEq, eq_self, nI_e0, nI_e1, i10, i01, decide_false, decide_true, Bool.false_eq_true, cls_cQ, fr_cQ, len_cQ, ia_cQ, ra_cQ, r0, r1, r2, r3, r4, isAt, g, Bool.false_and]
  refine e216.trans ?_
  unfold cP
  refine (k1 _ _ _ _ sz (yAt S) (by omega) o2).trans ?_
  have ha : skp b sz isSp sz (yAt S) ≤ sz := (skp_le b sz isSp sz (yAt S)).2 o2
  unfold yAdv yTok
  generalize skp b sz isSp sz (yAt S) = a at ha
  by_cases h3 : a < sz
  · obtain ⟨u1, u2⟩ := t3 a (by omega)
    have hne : ¬ a = sz := by omega
    rw [if_pos h3]
    by_cases h4 : isLe (b a) = true
    · have k2' := fun f t p v => k2 f t p v sz a (by omega) ha
      have g : (decide (a < sz) && (decide (97 ≤ b a) && decide (b a ≤ 122))) = true := by rw [decide_eq_true h3]; exact h4
      rw [if_pos h4]
      simp (disch := omega) only [s216_52, s216_53, s216_54, s216_57, s216_60, s216_61, s216_62, s216_65, s216_68, s216_69, s216_70, s216_73, s216_74, s216_77, s216_78, s216_81, s216_84, s216_85, s216_86, s216_89, s216_92, s216_93, s216_95, s216_97, s216_100, s216_103, s216_104, s216_105, s216_235, zcs_0, zcs_1, zcs_2, zcs_3, zcs_4, zcs_5, zcs_6, zcs_7, znl_i, znl_r, znl_n, Bool.and_true, Bool.true_and, zk_v, zk_n, zk_x, zir_r, zir_n, zclr_i, zclr_r, zclr_n, zclr_d, zclr_l, true_and, and_true, and_self, if_true, if_false, reduceIte, nI_add, pk_mul, zin_ok, zx_nI, nI_lt2, nI_le2, nI_eq2, nI_l0, nI_g0, nI_q0, nI_p0, nI_n0, nI_m1, Nat.add_zero, Nat.zero_add, Nat.reduceAdd, Nat.reduceMul, true_or, or_true, znar_50, bI_0, bI_1, bI_z, bft, nI_z0, nI_z1, lgc_lt, lgc_gt, lgc_le, lgc_ge, lgc_eq, not_true_eq_false, not_false_eq_true, Bool.not_eq_true, Bool.not_eq_false, reduceCtorEq, eq_self, nI_e0, nI_e1, i10, i01, decide_false, decide_true, Bool.false_eq_true, cls_cQ, fr_cQ, len_cQ, ia_cQ, ra_cQ, r0, r1, r2, r3, r4, cQ_5, cQ_7, cQ_s8, cQ_s9, cQ_s10, cQ_s11, isAt, g, hne, k2', yAt_mk, yFr_mk, yTk_mk, yVl_mk, yFk_mk, yFp_mk, yVc, Nat.reduceEqDiff]
    · rw [Bool.not_eq_true] at h4
      have g : (decide (a < sz) && (decide (97 ≤ b a) && decide (b a ≤ 122))) = false := by rw [decide_eq_true h3]; exact h4
      rw [h4, if_neg (by simp)]
      by_cases h6 : isDi (b a) = true
      · have k3' := fun f t p => k3 f t p sz a 0 (by omega) ha (by omega)
        have cap := numV_cap (b := b) (sz := sz) sz a 0 0 (by omega) (by omega)
        have g2 : (decide (a < sz) && (decide (48 ≤ b a) && decide (b a ≤ 57))) = true := by rw [decide_eq_true h3]; exact h6
        rw [if_pos h6]
        simp (disch := omega) only [s216_52, s216_53, s216_54, s216_57, s216_60, s216_61, s216_62, s216_65, s216_68, s216_69, s216_70, s216_73, s216_74, s216_77, s216_78, s216_81, s216_84, s216_85, s216_86, s216_89, s216_92, s216_93, s216_95, s216_97, s216_100, s216_132, s216_133, s216_135, s216_137, s216_140, s216_143, s216_144, s216_145, s216_235, zcs_0, zcs_1, zcs_2, zcs_3, zcs_4, zcs_5, zcs_6, zcs_7, znl_i, znl_r, znl_n, Bool.and_true, Bool.true_and, zk_v, zk_n, zk_x, zir_r, zir_n, zclr_i, zclr_r, zclr_n, zclr_d, zclr_l, true_and, and_true, and_self, if_true, if_false, reduceIte, nI_add, pk_mul, zin_ok, zx_nI, nI_lt2, nI_le2, nI_eq2, nI_l0, nI_g0, nI_q0, nI_p0, nI_n0, nI_m1, Nat.add_zero, Nat.zero_add, Nat.reduceAdd, Nat.reduceMul, true_or, or_true, znar_50, bI_0, bI_1, bI_z, bft, nI_z0, nI_z1, lgc_lt, lgc_gt, lgc_le, lgc_ge, lgc_eq, not_true_eq_false, not_false_eq_true, Bool.not_eq_true, Bool.not_eq_false, reduceCtorEq, eq_self, nI_e0, nI_e1, i10, i01, decide_false, decide_true, Bool.false_eq_true, cls_cQ, fr_cQ, len_cQ, ia_cQ, ra_cQ, r0, r1, r2, r3, r4, cQ_5, cQ_7, cQ_s8, cQ_s9, cQ_s10, cQ_s11, isAt, g, g2, hne, k3', cap, yAt_mk, yFr_mk, yTk_mk, yVl_mk, yFk_mk, yFp_mk, yVc]
      · rw [Bool.not_eq_true] at h6
        have g2 : (decide (a < sz) && (decide (48 ≤ b a) && decide (b a ≤ 57))) = false := by rw [decide_eq_true h3]; exact h6
        rw [h6, if_neg (by simp)]
        by_cases h8 : b a = 59
        · have e : (sb (b a) = nI 59) = True := by rw [sb_eq u2 (by omega)]; exact eq_true h8
          rw [if_pos h8]
          simp (disch := omega) only [s216_52, s216_53, s216_54, s216_57, s216_60, s216_61, s216_62, s216_65, s216_68, s216_69, s216_70, s216_73, s216_74, s216_77, s216_78, s216_81, s216_84, s216_85, s216_86, s216_89, s216_92, s216_93, s216_95, s216_97, s216_100, s216_132, s216_133, s216_135, s216_137, s216_140, s216_202, s216_203, s216_204, s216_207, s216_208, s216_211, s216_212, s216_214, s216_217, s216_218, s216_221, s216_222, s216_225, s216_226, s216_227, s216_230, s216_231, s216_232, s216_235, zcs_0, zcs_1, zcs_2, zcs_3, zcs_4, zcs_5, zcs_6, zcs_7, znl_i, znl_r, znl_n, Bool.and_true, Bool.true_and, zk_v, zk_n, zk_x, zir_r, zir_n, zclr_i, zclr_r, zclr_n, zclr_d, zclr_l, true_and, and_true, and_self, if_true, if_false, reduceIte, nI_add, pk_mul, zin_ok, zx_nI, nI_lt2, nI_le2, nI_eq2, nI_l0, nI_g0, nI_q0, nI_p0, nI_n0, nI_m1, Nat.add_zero, Nat.zero_add, Nat.reduceAdd, Nat.reduceMul, true_or, or_true, znar_50, bI_0, bI_1, bI_z, bft, nI_z0, nI_z1, lgc_lt, lgc_gt, lgc_le, lgc_ge, lgc_eq, not_true_eq_false, not_false_eq_true, Bool.not_eq_true, Bool.not_eq_false, reduceCtorEq, eq_self, nI_e0, nI_e1, i10, i01, decide_false, decide_true, Bool.false_eq_true, cls_cQ, fr_cQ, len_cQ, ia_cQ, ra_cQ, r0, r1, r2, r3, r4, cQ_5, cQ_7, cQ_s7, cQ_s8, cQ_s9, cQ_s10, cQ_s11, isAt, g, g2, hne, u1, e, yAt_mk, yFr_mk, yTk_mk, yVl_mk, yFk_mk, yFp_mk, yVc, Nat.reduceEqDiff]
        · have e : (sb (b a) = nI 59) = False := by rw [sb_eq u2 (by omega)]; exact eq_false h8
          rw [if_neg h8]
          simp (disch := omega) only [s216_52, s216_53, s216_54, s216_57, s216_60, s216_61, s216_62, s216_65, s216_68, s216_69, s216_70, s216_73, s216_74, s216_77, s216_78, s216_81, s216_84, s216_85, s216_86, s216_89, s216_92, s216_93, s216_95, s216_97, s216_100, s216_132, s216_133, s216_135, s216_137, s216_140, s216_202, s216_203, s216_204, s216_207, s216_208, s216_211, s216_212, s216_214, s216_217, s216_218, s216_221, s216_222, s216_225, s216_226, s216_227, s216_230, s216_231, s216_232, s216_235, zcs_0, zcs_1, zcs_2, zcs_3, zcs_4, zcs_5, zcs_6, zcs_7, znl_i, znl_r, znl_n, Bool.and_true, Bool.true_and, zk_v, zk_n, zk_x, zir_r, zir_n, zclr_i, zclr_r, zclr_n, zclr_d, zclr_l, true_and, and_true, and_self, if_true, if_false, reduceIte, nI_add, pk_mul, zin_ok, zx_nI, nI_lt2, nI_le2, nI_eq2, nI_l0, nI_g0, nI_q0, nI_p0, nI_n0, nI_m1, Nat.add_zero, Nat.zero_add, Nat.reduceAdd, Nat.reduceMul, true_or, or_true, znar_50, bI_0, bI_1, bI_z, bft, nI_z0, nI_z1, lgc_lt, lgc_gt, lgc_le, lgc_ge, lgc_eq, not_true_eq_false, not_false_eq_true, Bool.not_eq_true, Bool.not_eq_false, reduceCtorEq, eq_self, nI_e0, nI_e1, i10, i01, decide_false, decide_true, Bool.false_eq_true, cls_cQ, fr_cQ, len_cQ, ia_cQ, ra_cQ, r0, r1, r2, r3, r4, cQ_5, cQ_7, cQ_s7, cQ_s8, cQ_s9, cQ_s10, cQ_s11, isAt, g, g2, hne, u1, e, yAt_mk, yFr_mk, yTk_mk, yVl_mk, yFk_mk, yFp_mk, yVc, Nat.reduceEqDiff]
  · have hne : a = sz := by omega
    rw [if_neg h3]
    simp (disch := omega) only [s216_52, s216_53, s216_54, s216_57, s216_60, s216_61, s216_62, s216_65, s216_68, s216_69, s216_70, s216_73, s216_74, s216_77, s216_78, s216_81, s216_84, s216_85, s216_86, s216_89, s216_235, zcs_0, zcs_1, zcs_2, zcs_3, zcs_4, zcs_5, zcs_6, zcs_7, znl_i, znl_r, znl_n, Bool.and_true, Bool.true_and, zk_v, zk_n, zk_x, zir_r, zir_n, zclr_i, zclr_r, zclr_n, zclr_d, zclr_l, true_and, and_true, and_self, if_true, if_false, reduceIte, nI_add, pk_mul, zin_ok, zx_nI, nI_lt2, nI_le2, nI_eq2, nI_l0, nI_g0, nI_q0, nI_p0, nI_n0, nI_m1, Nat.add_zero, Nat.zero_add, Nat.reduceAdd, Nat.reduceMul, true_or, or_true, znar_50, bI_0, bI_1, bI_z, bft, nI_z0, nI_z1, lgc_lt, lgc_gt, lgc_le, lgc_ge, lgc_eq, not_true_eq_false, not_false_eq_true, Bool.not_eq_true, Bool.not_eq_false, reduceCtorEq, eq_self, nI_e0, nI_e1, i10, i01, decide_false, decide_true, Bool.false_eq_true, cls_cQ, fr_cQ, len_cQ, ia_cQ, ra_cQ, r0, r1, r2, r3, r4, cQ_5, cQ_7, cQ_s8, cQ_s9, cQ_s10, cQ_s11, isAt, hne, yAt_mk, yFr_mk, yTk_mk, yVl_mk, yFk_mk, yFp_mk, yVc, Nat.reduceEqDiff]
theorem c220 (hR : RDr z R b sz) (hS : yOK sz S) (hk : yFk S = 0) {r : Nat} (hr : r < 35) : ZC zG d 220 [.ref R, .ref r] (cP z R S) Q = Q (.inl (some (.int (bI (yIs b S r))))) (cP z R S) := by
  obtain ⟨⟨r0, r1, r2, r3, r4⟩, t2, t3⟩ := hR
  obtain ⟨⟨o1, o2⟩, o3, o4, o5, o6⟩ := hS
  obtain ⟨l1, l2⟩ := ztx_b r hr
  have lc := ztx_c r hr
  generalize hn : (ztx r).length = n at l1 l2
  have key : yAt S - yFr S = n → ∀ m k, k + m = n → ZW zG d 220 32 [.ref R, .ref r, .int (nI 1), .int (nI k)] [] (cP z R S) Q = Q (.inl (some (.int (bI (wmF b r (yFr S) k m))))) (cP z R S) := by
    intro hl m
    induction m with
    | zero =>
      intro k hk
      have h1 : n ≤ k := by omega
      refine s220_32.trans ?_
      unfold wmF
      simp (disch := omega) only [s220_0, s220_1, s220_4, s220_5, s220_8, s220_9, s220_12, s220_13, s220_16, s220_17, s220_18, s220_21, s220_24, s220_25, s220_28, s220_29, s220_30, s220_31, s220_33, s220_34, s220_37, s220_40, s220_41, s220_44, s220_45, s220_48, s220_49, s220_52, s220_53, s220_54, s220_55, s220_56, s220_57, s220_60, s220_63, s220_64, s220_67, s220_68, s220_69, s220_72, s220_75, s220_76, zcs_0, zcs_1, zcs_2, zcs_3, zcs_4, zcs_5, zcs_6, zcs_7, znl_i, znl_r, znl_n, Bool.and_true, Bool.true_and, zk_v, zk_n, zk_x, zir_r, zir_n, zclr_i, zclr_r, zclr_n, zclr_d, zclr_l, true_and, and_true, and_self, if_true, if_false, reduceIte, nI_add, pk_mul, zin_ok, zx_nI, nI_lt2, nI_le2, nI_eq2, nI_l0, nI_g0, nI_q0, nI_p0, nI_n0, nI_m1, Nat.add_zero, Nat.zero_add, Nat.reduceAdd, Nat.reduceMul, true_or, or_true, znar_50, bI_0, bI_1, bI_z, bft, nI_z0, nI_z1, lgc_lt, lgc_gt, lgc_le, lgc_ge, lgc_eq, not_true_eq_false, not_false_eq_true, Bool.not_eq_true, Bool.not_eq_false, reduceCtorEq, eq_self, nI_e0, nI_e1, i10, i01, decide_false, decide_true, Bool.false_eq_true, cls_cP, fr_cP, len_cP, ia_cP, ra_cP, r0, r1, r2, r3, r4, hr, hn, h1, bI_t, nI_one]
    | succ m ih =>
      intro k hk
      have h1 : ¬ n ≤ k := by omega
      have hk2 : k < (ztx r).length := by omega
      obtain ⟨u1, u2⟩ := t3 (yFr S + k) (by omega)
      have c1 := lc k (by omega)
      refine s220_32.trans ?_
      unfold wmF
      have z0 : ∀ k', ZW zG d 220 32 [.ref R, .ref r, .int (nI 0), .int k'] [] (cP z R S) Q = Q (.inl (some (.int (bI false)))) (cP z R S) := by
        intro k'
        by_cases hh : nI n ≤ k'
        · simp (disch := omega) only [s220_32, s220_33, s220_34, s220_37, s220_40, s220_41, s220_75, s220_76, zcs_0, zcs_1, zcs_2, zcs_3, zcs_4, zcs_5, zcs_6, zcs_7, znl_i, znl_r, znl_n, Bool.and_true, Bool.true_and, zk_v, zk_n, zk_x, zir_r, zir_n, zclr_i, zclr_r, zclr_n, zclr_d, zclr_l, true_and, and_true, and_self, if_true, if_false, reduceIte, nI_add, pk_mul, zin_ok, zx_nI, nI_lt2, nI_le2, nI_eq2, nI_l0, nI_g0, nI_q0, nI_p0, nI_n0, nI_m1, Nat.add_zero, Nat.zero_add, Nat.reduceAdd, Nat.reduceMul, true_or, or_true, znar_50, bI_0, bI_1, bI_z, bft, nI_z0, nI_z1, lgc_lt, lgc_gt, lgc_le, lgc_ge, lgc_eq, not_true_eq_false, not_false_eq_true, Bool.not_eq_true, Bool.not_eq_false, reduceCtorEq, eq_self, nI_e0, nI_e1, i10, i01, decide_false, decide_true, Bool.false_eq_true, cls_cP, fr_cP, len_cP, ia_cP, ra_cP, r0, r1, r2, r3, r4, hr, hn, hh, bI_f, nI_0]
        · simp (disch := omega) only [s220_32, s220_33, s220_34, s220_37, s220_40, s220_41, s220_75, s220_76, zcs_0, zcs_1, zcs_2, zcs_3, zcs_4, zcs_5, zcs_6, zcs_7, znl_i, znl_r, znl_n, Bool.and_true, Bool.true_and, zk_v, zk_n, zk_x, zir_r, zir_n, zclr_i, zclr_r, zclr_n, zclr_d, zclr_l, true_and, and_true, and_self, if_true, if_false, reduceIte, nI_add, pk_mul, zin_ok, zx_nI, nI_lt2, nI_le2, nI_eq2, nI_l0, nI_g0, nI_q0, nI_p0, nI_n0, nI_m1, Nat.add_zero, Nat.zero_add, Nat.reduceAdd, Nat.reduceMul, true_or, or_true, znar_50, bI_0, bI_1, bI_z, bft, nI_z0, nI_z1, lgc_lt, lgc_gt, lgc_le, lgc_ge, lgc_eq, not_true_eq_false, not_false_eq_true, Bool.not_eq_true, Bool.not_eq_false, reduceCtorEq, eq_self, nI_e0, nI_e1, i10, i01, decide_false, decide_true, Bool.false_eq_true, cls_cP, fr_cP, len_cP, ia_cP, ra_cP, r0, r1, r2, r3, r4, hr, hn, hh, bI_f, nI_0]
      have ih1 := ih (k + 1) (by omega)
      have se := sb_eq (n := b (yFr S + k)) (c := (ztx r).getD k 0) u2 c1
      by_cases hc : b (yFr S + k) = (ztx r).getD k 0
      · rw [eq_true hc] at se
        simp (disch := omega) only [s220_0, s220_1, s220_4, s220_5, s220_8, s220_9, s220_12, s220_13, s220_16, s220_17, s220_18, s220_21, s220_24, s220_25, s220_28, s220_29, s220_30, s220_31, s220_33, s220_34, s220_37, s220_40, s220_41, s220_44, s220_45, s220_48, s220_49, s220_52, s220_53, s220_54, s220_55, s220_56, s220_57, s220_60, s220_63, s220_64, s220_67, s220_68, s220_69, s220_72, s220_75, s220_76, zcs_0, zcs_1, zcs_2, zcs_3, zcs_4, zcs_5, zcs_6, zcs_7, znl_i, znl_r, znl_n, Bool.and_true, Bool.true_and, zk_v, zk_n, zk_x, zir_r, zir_n, zclr_i, zclr_r, zclr_n, zclr_d, zclr_l, true_and, and_true, and_self, if_true, if_false, reduceIte, nI_add, pk_mul, zin_ok, zx_nI, nI_lt2, nI_le2, nI_eq2, nI_l0, nI_g0, nI_q0, nI_p0, nI_n0, nI_m1, Nat.add_zero, Nat.zero_add, Nat.reduceAdd, Nat.reduceMul, true_or, or_true, znar_50, bI_0, bI_1, bI_z, bft, nI_z0, nI_z1, lgc_lt, lgc_gt, lgc_le, lgc_ge, lgc_eq, not_true_eq_false, not_false_eq_true, Bool.not_eq_true, Bool.not_eq_false, reduceCtorEq, eq_self, nI_e0, nI_e1, i10, i01, decide_false, decide_true, Bool.false_eq_true, cls_cP, fr_cP, len_cP, ia_cP, ra_cP, r0, r1, r2, r3, r4, cP_8, hr, hn, h1, u1, se, eq_true hc, decide_true, ih1, Bool.true_and]
      · rw [eq_false hc] at se
        simp (disch := omega) only [s220_0, s220_1, s220_4, s220_5, s220_8, s220_9, s220_12, s220_13, s220_16, s220_17, s220_18, s220_21, s220_24, s220_25, s220_28, s220_29, s220_30, s220_31, s220_33, s220_34, s220_37, s220_40, s220_41, s220_44, s220_45, s220_48, s220_49, s220_52, s220_53, s220_54, s220_55, s220_56, s220_57, s220_60, s220_63, s220_64, s220_67, s220_68, s220_69, s220_72, s220_75, s220_76, zcs_0, zcs_1, zcs_2, zcs_3, zcs_4, zcs_5, zcs_6, zcs_7, znl_i, znl_r, znl_n, Bool.and_true, Bool.true_and, zk_v, zk_n, zk_x, zir_r, zir_n, zclr_i, zclr_r, zclr_n, zclr_d, zclr_l, true_and, and_true, and_self, if_true, if_false, reduceIte, nI_add, pk_mul, zin_ok, zx_nI, nI_lt2, nI_le2, nI_eq2, nI_l0, nI_g0, nI_q0, nI_p0, nI_n0, nI_m1, Nat.add_zero, Nat.zero_add, Nat.reduceAdd, Nat.reduceMul, true_or, or_true, znar_50, bI_0, bI_1, bI_z, bft, nI_z0, nI_z1, lgc_lt, lgc_gt, lgc_le, lgc_ge, lgc_eq, not_true_eq_false, not_false_eq_true, Bool.not_eq_true, Bool.not_eq_false, reduceCtorEq, eq_self, nI_e0, nI_e1, i10, i01, decide_false, decide_true, Bool.false_eq_true, cls_cP, fr_cP, len_cP, ia_cP, ra_cP, r0, r1, r2, r3, r4, cP_8, hr, hn, h1, u1, se, eq_false hc, decide_false, z0, Bool.false_and]
  have z0 : ZW zG d 220 32 [.ref R, .ref r, .int (nI 0), .int (nI 0)] [] (cP z R S) Q = Q (.inl (some (.int (bI false)))) (cP z R S) := by
    have h1 : ¬ n = 0 := by omega
    simp (disch := omega) only [s220_32, s220_33, s220_34, s220_37, s220_40, s220_41, s220_75, s220_76, zcs_0, zcs_1, zcs_2, zcs_3, zcs_4, zcs_5, zcs_6, zcs_7, znl_i, znl_r, znl_n, Bool.and_true, Bool.true_and, zk_v, zk_n, zk_x, zir_r, zir_n, zclr_i, zclr_r, zclr_n, zclr_d, zclr_l, true_and, and_true, and_self, if_true, if_false, reduceIte, nI_add, pk_mul, zin_ok, zx_nI, nI_lt2, nI_le2, nI_eq2, nI_l0, nI_g0, nI_q0, nI_p0, nI_n0, nI_m1, Nat.add_zero, Nat.zero_add, Nat.reduceAdd, Nat.reduceMul, true_or, or_true, znar_50, bI_0, bI_1, bI_z, bft, nI_z0, nI_z1, lgc_lt, lgc_gt, lgc_le, lgc_ge, lgc_eq, not_true_eq_false, not_false_eq_true, Bool.not_eq_true, Bool.not_eq_false, reduceCtorEq, eq_self, nI_e0, nI_e1, i10, i01, decide_false, decide_true, Bool.false_eq_true, cls_cP, fr_cP, len_cP, ia_cP, ra_cP, r0, r1, r2, r3, r4, hr, hn, h1, bI_f, nI_0]
  unfold yIs
  rw [hn, decide_eq_true hk]
  by_cases g2 : yTk S = 1
  · by_cases g3 : yAt S - yFr S = n
    · have k0 := key g3 n 0 (by omega)
      simp (disch := omega) only [e220, s220_0, s220_1, s220_4, s220_5, s220_8, s220_9, s220_12, s220_13, s220_16, s220_17, s220_18, s220_21, s220_24, s220_25, s220_28, s220_29, s220_30, s220_31, s220_33, s220_34, s220_37, s220_40, s220_41, s220_44, s220_45, s220_48, s220_49, s220_52, s220_53, s220_54, s220_55, s220_56, s220_57, s220_60, s220_63, s220_64, s220_67, s220_68, s220_69, s220_72, s220_75, s220_76, zcs_0, zcs_1, zcs_2, zcs_3, zcs_4, zcs_5, zcs_6, zcs_7, znl_i, znl_r, znl_n, Bool.and_true, Bool.true_and, zk_v, zk_n, zk_x, zir_r, zir_n, zclr_i, zclr_r, zclr_n, zclr_d, zclr_l, true_and, and_true, and_self, if_true, if_false, reduceIte, nI_add, pk_mul, zin_ok, zx_nI, nI_lt2, nI_le2, nI_eq2, nI_l0, nI_g0, nI_q0, nI_p0, nI_n0, nI_m1, Nat.add_zero, Nat.zero_add, Nat.reduceAdd, Nat.reduceMul, true_or, or_true, znar_50, bI_0, bI_1, bI_z, bft, nI_z0, nI_z1, lgc_lt, lgc_gt, lgc_le, lgc_ge, lgc_eq, not_true_eq_false, not_false_eq_true, Bool.not_eq_true, Bool.not_eq_false, reduceCtorEq, eq_self, nI_e0, nI_e1, i10, i01, decide_false, decide_true, Bool.false_eq_true, cls_cP, fr_cP, len_cP, ia_cP, ra_cP, r0, r1, r2, r3, r4, cP_7, cP_8, cP_9, hr, hn, g2, nI_sbn, g3, decide_true, k0]
    · simp (disch := omega) only [e220, s220_0, s220_1, s220_4, s220_5, s220_8, s220_9, s220_12, s220_13, s220_16, s220_17, s220_18, s220_21, s220_24, s220_25, s220_28, s220_29, s220_30, s220_31, s220_33, s220_34, s220_37, s220_40, s220_41, s220_44, s220_45, s220_48, s220_49, s220_52, s220_53, s220_54, s220_55, s220_56, s220_57, s220_60, s220_63, s220_64, s220_67, s220_68, s220_69, s220_72, s220_75, s220_76, zcs_0, zcs_1, zcs_2, zcs_3, zcs_4, zcs_5, zcs_6, zcs_7, znl_i, znl_r, znl_n, Bool.and_true, Bool.true_and, zk_v, zk_n, zk_x, zir_r, zir_n, zclr_i, zclr_r, zclr_n, zclr_d, zclr_l, true_and, and_true, and_self, if_true, if_false, reduceIte, nI_add, pk_mul, zin_ok, zx_nI, nI_lt2, nI_le2, nI_eq2, nI_l0, nI_g0, nI_q0, nI_p0, nI_n0, nI_m1, Nat.add_zero, Nat.zero_add, Nat.reduceAdd, Nat.reduceMul, true_or, or_true, znar_50, bI_0, bI_1, bI_z, bft, nI_z0, nI_z1, lgc_lt, lgc_gt, lgc_le, lgc_ge, lgc_eq, not_true_eq_false, not_false_eq_true, Bool.not_eq_true, Bool.not_eq_false, reduceCtorEq, eq_self, nI_e0, nI_e1, i10, i01, decide_false, decide_true, Bool.false_eq_true, cls_cP, fr_cP, len_cP, ia_cP, ra_cP, r0, r1, r2, r3, r4, cP_7, cP_8, cP_9, hr, hn, g2, nI_sbn, g3, decide_true, decide_false, z0, Bool.false_and, Bool.and_false]
  · simp (disch := omega) only [e220, s220_0, s220_1, s220_4, s220_5, s220_8, s220_9, s220_12, s220_13, s220_16, s220_17, s220_18, s220_21, s220_24, s220_25, s220_28, s220_29, s220_30, s220_31, s220_33, s220_34, s220_37, s220_40, s220_41, s220_44, s220_45, s220_48, s220_49, s220_52, s220_53, s220_54, s220_55, s220_56, s220_57, s220_60, s220_63, s220_64, s220_67, s220_68, s220_69, s220_72, s220_75, s220_76, zcs_0, zcs_1, zcs_2, zcs_3, zcs_4, zcs_5, zcs_6, zcs_7, znl_i, znl_r, znl_n, Bool.and_true, Bool.true_and, zk_v, zk_n, zk_x, zir_r, zir_n, zclr_i, zclr_r, zclr_n, zclr_d, zclr_l, true_and, and_true, and_self, if_true, if_false, reduceIte, nI_add, pk_mul, zin_ok, zx_nI, nI_lt2, nI_le2, nI_eq2, nI_l0, nI_g0, nI_q0, nI_p0, nI_n0, nI_m1, Nat.add_zero, Nat.zero_add, Nat.reduceAdd, Nat.reduceMul, true_or, or_true, znar_50, bI_0, bI_1, bI_z, bft, nI_z0, nI_z1, lgc_lt, lgc_gt, lgc_le, lgc_ge, lgc_eq, not_true_eq_false, not_false_eq_true, Bool.not_eq_true, Bool.not_eq_false, reduceCtorEq, eq_self, nI_e0, nI_e1, i10, i01, decide_false, decide_true, Bool.false_eq_true, cls_cP, fr_cP, len_cP, ia_cP, ra_cP, r0, r1, r2, r3, r4, cP_7, cP_8, cP_9, hr, hn, g2, decide_true, decide_false, z0, Bool.false_and, Bool.and_false]
theorem c224 (hR : RDr z R b sz) (hS : yOK sz S) (hk : yFk S = 0) {r : Nat} (hr : r < 35) : ZC zG (d + 2) 224 [.ref R, .ref r] (cP z R S) Q = Q (.inl (some (.int (bI (yIs b S r))))) (cP z R (yTake b sz r S)) := by
  have r0 := hR.1.1
  have c1 := fun d Q => c220 (d := d) (Q := Q) hR hS hk hr
  have c2 := fun d Q => c216 (d := d) (Q := Q) hR hS.1.2 hk
  unfold yTake
  cases h : yIs b S r
  · simp (disch := omega) only [e224, s224_0, s224_1, s224_2, s224_5, s224_6, s224_7, s224_10, s224_11, s224_14, s224_15, zcs_0, zcs_1, zcs_2, zcs_3, zcs_4, zcs_5, zcs_6, zcs_7, znl_i, znl_r, znl_n, Bool.and_true, Bool.true_and, zk_v, zk_n, zk_x, zir_r, zir_n, zclr_i, zclr_r, zclr_n, zclr_d, zclr_l, true_and, and_true, and_self, if_true, if_false, reduceIte, nI_add, pk_mul, zin_ok, zx_nI, nI_lt2, nI_le2, nI_eq2, nI_l0, nI_g0, nI_q0, nI_p0, nI_n0, nI_m1, Nat.add_zero, Nat.zero_add, Nat.reduceAdd, Nat.reduceMul, true_or, or_true, znar_50, bI_0, bI_1, bI_z, bft, nI_z0, nI_z1, lgc_lt, lgc_gt, lgc_le, lgc_ge, lgc_eq, not_true_eq_false, not_false_eq_true, Bool.not_eq_true, Bool.not_eq_false, reduceCtorEq, eq_self, nI_e0, nI_e1, i10, i01, decide_false, decide_true, Bool.false_eq_true, cls_cP, r0, c1, c2, h, bI_f, nI_0, Bool.false_eq_true]
  · simp (disch := omega) only [e224, s224_0, s224_1, s224_2, s224_5, s224_6, s224_7, s224_10, s224_11, s224_14, s224_15, zcs_0, zcs_1, zcs_2, zcs_3, zcs_4, zcs_5, zcs_6, zcs_7, znl_i, znl_r, znl_n, Bool.and_true, Bool.true_and, zk_v, zk_n, zk_x, zir_r, zir_n, zclr_i, zclr_r, zclr_n, zclr_d, zclr_l, true_and, and_true, and_self, if_true, if_false, reduceIte, nI_add, pk_mul, zin_ok, zx_nI, nI_lt2, nI_le2, nI_eq2, nI_l0, nI_g0, nI_q0, nI_p0, nI_n0, nI_m1, Nat.add_zero, Nat.zero_add, Nat.reduceAdd, Nat.reduceMul, true_or, or_true, znar_50, bI_0, bI_1, bI_z, bft, nI_z0, nI_z1, lgc_lt, lgc_gt, lgc_le, lgc_ge, lgc_eq, not_true_eq_false, not_false_eq_true, Bool.not_eq_true, Bool.not_eq_false, reduceCtorEq, eq_self, nI_e0, nI_e1, i10, i01, decide_false, decide_true, Bool.false_eq_true, cls_cP, r0, c1, c2, h, bI_t, nI_one]
/-- words in an array -/
def WAr (z : ZH) (a : Nat) (l : List Nat) : Prop := zcls z a = 63 ∧ zlen z a = l.length ∧ l.length < 20 ∧ ∀ i, i < l.length → zra z a i = .ref (l.getD i 0) ∧ l.getD i 0 < 35
theorem yWh_dr {l : List Nat} {k : Nat} (h : k < l.length) : yWh b S (l.drop k) = if yIs b S (l.getD k 0) = true then 0 else yWh b S (l.drop (k + 1)) + 1 := by
  rw [List.drop_eq_getElem_cons h]
  have e : l.getD k 0 = l[k] := by rw [List.getD_eq_getElem?_getD, List.getElem?_eq_getElem h]; rfl
  rw [e]
  rfl
theorem c219 (hR : RDr z R b sz) (hS : yOK sz S) (hk : yFk S = 0) {a : Nat} {l : List Nat} (hA : WAr z a l) : ZC zG (d + 1) 219 [.ref R, .ref a] (cP z R S) Q = Q (.inl (some (.int (nI (yWh b S l))))) (cP z R S) := by
  have r0 := hR.1.1
  obtain ⟨a1, a2, a3, a4⟩ := hA
  have key : ∀ m k, k + m = l.length → ZW zG (d + 1) 219 2 [.ref R, .ref a, .int (nI k)] [] (cP z R S) Q = Q (.inl (some (.int (nI (k + yWh b S (l.drop k)))))) (cP z R S) := by
    intro m
    induction m with
    | zero =>
      intro k hk
      have h1 : l.length ≤ k := by omega
      refine s219_2.trans ?_
      have e : yWh b S (l.drop k) = 0 := by rw [List.drop_eq_nil_of_le h1]; rfl
      rw [e]
      simp (disch := omega) only [s219_3, s219_4, s219_5, s219_8, s219_9, s219_10, s219_11, s219_12, s219_15, s219_18, s219_21, s219_24, s219_25, zcs_0, zcs_1, zcs_2, zcs_3, zcs_4, zcs_5, zcs_6, zcs_7, znl_i, znl_r, znl_n, Bool.and_true, Bool.true_and, zk_v, zk_n, zk_x, zir_r, zir_n, zclr_i, zclr_r, zclr_n, zclr_d, zclr_l, true_and, and_true, and_self, if_true, if_false, reduceIte, nI_add, pk_mul, zin_ok, zx_nI, nI_lt2, nI_le2, nI_eq2, nI_l0, nI_g0, nI_q0, nI_p0, nI_n0, nI_m1, Nat.add_zero, Nat.zero_add, Nat.reduceAdd, Nat.reduceMul, true_or, or_true, znar_50, bI_0, bI_1, bI_z, bft, nI_z0, nI_z1, lgc_lt, lgc_gt, lgc_le, lgc_ge, lgc_eq, not_true_eq_false, not_false_eq_true, Bool.not_eq_true, Bool.not_eq_false, reduceCtorEq, eq_self, nI_e0, nI_e1, i10, i01, decide_false, decide_true, Bool.false_eq_true, cls_cP, len_cP, r0, a1, a2, h1]
    | succ m ih =>
      intro k hk2
      have h1 : ¬ l.length ≤ k := by omega
      obtain ⟨b1, b2⟩ := a4 k (by omega)
      have c1 := fun d Q => c220 (d := d) (Q := Q) hR hS hk b2
      have ih1 := ih (k + 1) (by omega)
      rw [yWh_dr (by omega)]
      refine s219_2.trans ?_
      by_cases g : yIs b S (l.getD k 0) = true
      · rw [if_pos g]
        simp (disch := omega) only [s219_3, s219_4, s219_5, s219_8, s219_9, s219_10, s219_11, s219_12, s219_15, s219_18, s219_21, s219_24, s219_25, zcs_0, zcs_1, zcs_2, zcs_3, zcs_4, zcs_5, zcs_6, zcs_7, znl_i, znl_r, znl_n, Bool.and_true, Bool.true_and, zk_v, zk_n, zk_x, zir_r, zir_n, zclr_i, zclr_r, zclr_n, zclr_d, zclr_l, true_and, and_true, and_self, if_true, if_false, reduceIte, nI_add, pk_mul, zin_ok, zx_nI, nI_lt2, nI_le2, nI_eq2, nI_l0, nI_g0, nI_q0, nI_p0, nI_n0, nI_m1, Nat.add_zero, Nat.zero_add, Nat.reduceAdd, Nat.reduceMul, true_or, or_true, znar_50, bI_0, bI_1, bI_z, bft, nI_z0, nI_z1, lgc_lt, lgc_gt, lgc_le, lgc_ge, lgc_eq, not_true_eq_false, not_false_eq_true, Bool.not_eq_true, Bool.not_eq_false, reduceCtorEq, eq_self, nI_e0, nI_e1, i10, i01, decide_false, decide_true, Bool.false_eq_true, cls_cP, len_cP, ra_cP, r0, a1, a2, h1, b1, c1, g]
      · rw [if_neg g]
        rw [Bool.not_eq_true] at g
        simp (disch := omega) only [s219_3, s219_4, s219_5, s219_8, s219_9, s219_10, s219_11, s219_12, s219_15, s219_18, s219_21, zcs_0, zcs_1, zcs_2, zcs_3, zcs_4, zcs_5, zcs_6, zcs_7, znl_i, znl_r, znl_n, Bool.and_true, Bool.true_and, zk_v, zk_n, zk_x, zir_r, zir_n, zclr_i, zclr_r, zclr_n, zclr_d, zclr_l, true_and, and_true, and_self, if_true, if_false, reduceIte, nI_add, pk_mul, zin_ok, zx_nI, nI_lt2, nI_le2, nI_eq2, nI_l0, nI_g0, nI_q0, nI_p0, nI_n0, nI_m1, Nat.add_zero, Nat.zero_add, Nat.reduceAdd, Nat.reduceMul, true_or, or_true, znar_50, bI_0, bI_1, bI_z, bft, nI_z0, nI_z1, lgc_lt, lgc_gt, lgc_le, lgc_ge, lgc_eq, not_true_eq_false, not_false_eq_true, Bool.not_eq_true, Bool.not_eq_false, reduceCtorEq, eq_self, nI_e0, nI_e1, i10, i01, decide_false, decide_true, Bool.false_eq_true, cls_cP, len_cP, ra_cP, r0, a1, a2, h1, b1, c1, g, ih1]
        rw [show k + 1 + yWh b S (l.drop (k + 1)) = k + (yWh b S (l.drop (k + 1)) + 1) from by omega]
  have k0 := key l.length 0 (by omega)
  rw [Nat.zero_add, List.drop_zero] at k0
  simp (disch := omega) only [e219, s219_0, s219_1, zcs_0, zcs_1, zcs_2, zcs_3, zcs_4, zcs_5, zcs_6, zcs_7, znl_i, znl_r, znl_n, Bool.and_true, Bool.true_and, zk_v, zk_n, zk_x, zir_r, zir_n, zclr_i, zclr_r, zclr_n, zclr_d, zclr_l, true_and, and_true, and_self, if_true, if_false, reduceIte, nI_add, pk_mul, zin_ok, zx_nI, nI_lt2, nI_le2, nI_eq2, nI_l0, nI_g0, nI_q0, nI_p0, nI_n0, nI_m1, Nat.add_zero, Nat.zero_add, Nat.reduceAdd, Nat.reduceMul, true_or, or_true, znar_50, bI_0, bI_1, bI_z, bft, nI_z0, nI_z1, lgc_lt, lgc_gt, lgc_le, lgc_ge, lgc_eq, not_true_eq_false, not_false_eq_true, Bool.not_eq_true, Bool.not_eq_false, reduceCtorEq, eq_self, nI_e0, nI_e1, i10, i01, decide_false, decide_true, Bool.false_eq_true, k0]
/-- what fails -/
theorem c233 {q : Nat} {k p : Int32} (hq : zcls z q = 14) (h0 : znul (zfr z q 0) = true ∧ znul (zfr z q 1) = true ∧ znul (zfr z q 2) = true ∧ znul (zfr z q 3) = true) : ZC zG d 233 [.ref q, .int k, .int p] z Q = Q (.inl none) (sfi (sfi z q 6 k) q 7 p) := by
  simp (disch := omega) only [e233, s233_0, s233_1, s233_2, s233_3, s233_4, s233_5, s233_8, s233_9, s233_10, s233_13, s233_14, s233_15, s233_18, zcs_0, zcs_1, zcs_2, zcs_3, zcs_4, zcs_5, zcs_6, zcs_7, znl_i, znl_r, znl_n, Bool.and_true, Bool.true_and, zk_v, zk_n, zk_x, zir_r, zir_n, zclr_i, zclr_r, zclr_n, zclr_d, zclr_l, true_and, and_true, and_self, if_true, if_false, reduceIte, nI_add, pk_mul, zin_ok, zx_nI, nI_lt2, nI_le2, nI_eq2, nI_l0, nI_g0, nI_q0, nI_p0, nI_n0, nI_m1, Nat.add_zero, Nat.zero_add, Nat.reduceAdd, Nat.reduceMul, true_or, or_true, znar_50, bI_0, bI_1, bI_z, bft, nI_z0, nI_z1, lgc_lt, lgc_gt, lgc_le, lgc_ge, lgc_eq, not_true_eq_false, not_false_eq_true, Bool.not_eq_true, Bool.not_eq_false, reduceCtorEq, eq_self, nI_e0, nI_e1, i10, i01, decide_false, decide_true, Bool.false_eq_true, cls_sfi, hq, h0, nI_0]
theorem c221 (hR : RDr z R b sz) (hn : R < zn z) {x : Nat} : ZC zG (d + 1) 221 [.ref R, .int (nI x)] (cP z R S) Q = Q (.inr (.ref (zn z))) (mkW (cP z R S) (nI x) (nI (yFr S))) := by
  have r0 := hR.1.1
  have hne : ¬ R = zn z := by omega
  have e1 : zfi (snew (cP z R S) 14 8) R 10 = nI (yFr S) := by
    rw [fi_snew, n_cP, zu1_n _ _ _ hne]
    exact cP_10
  have e2 : zcls (snew (cP z R S) 14 8) R = 13 := by
    rw [cls_snew, n_cP, zu1_n _ _ _ hne, cls_cP]
    exact r0
  have e3 : zcls (snew (cP z R S) 14 8) (zn z) = 14 := by
    rw [cls_snew, n_cP, zu1_s]
  have e4 : ∀ j, zfr (snew (cP z R S) 14 8) (zn z) j = .null := fun j => by
    rw [fr_snew, n_cP, zu1_s]
  have c := fun d Q (k p : Int32) => c233 (d := d) (Q := Q) (k := k) (p := p) e3 ⟨by rw [e4]; rfl, by rw [e4]; rfl, by rw [e4]; rfl, by rw [e4]; rfl⟩
  unfold mkW
  rw [n_cP]
  simp (disch := omega) only [e221, s221_0, s221_3, s221_4, s221_5, s221_6, s221_9, s221_12, zcs_0, zcs_1, zcs_2, zcs_3, zcs_4, zcs_5, zcs_6, zcs_7, znl_i, znl_r, znl_n, Bool.and_true, Bool.true_and, zk_v, zk_n, zk_x, zir_r, zir_n, zclr_i, zclr_r, zclr_n, zclr_d, zclr_l, true_and, and_true, and_self, if_true, if_false, reduceIte, nI_add, pk_mul, zin_ok, zx_nI, nI_lt2, nI_le2, nI_eq2, nI_l0, nI_g0, nI_q0, nI_p0, nI_n0, nI_m1, Nat.add_zero, Nat.zero_add, Nat.reduceAdd, Nat.reduceMul, true_or, or_true, znar_50, bI_0, bI_1, bI_z, bft, nI_z0, nI_z1, lgc_lt, lgc_gt, lgc_le, lgc_ge, lgc_eq, not_true_eq_false, not_false_eq_true, Bool.not_eq_true, Bool.not_eq_false, reduceCtorEq, eq_self, nI_e0, nI_e1, i10, i01, decide_false, decide_true, Bool.false_eq_true, n_cP, e1, e2, c, cls_sfi, e3]
theorem c223 (hR : RDr z R b sz) (hS : yOK sz S) (hk : yFk S = 0) (hn : R < zn z) {r : Nat} (hr : r < 35) (H : yFk (yNeed b sz r S) = 0 → Q (.inl none) (cP z R (yNeed b sz r S))) (HX : ¬ yFk (yNeed b sz r S) = 0 → ∀ S', Q (.inr (.ref (zn z))) (mkW (cP z R S') (nI (yFk (yNeed b sz r S))) (yFp (yNeed b sz r S)))) : ZC zG (d + 3) 223 [.ref R, .ref r] (cP z R S) Q := by
  have r0 := hR.1.1
  have c1 := fun d Q => c224 (d := d) (Q := Q) hR hS hk hr
  have c2 := fun d Q x => c221 (d := d) (Q := Q) (S := S) (x := x) hR hn
  unfold yTake at c1
  unfold yNeed at H HX
  by_cases h : yIs b S r = true
  · rw [if_pos h] at H
    have H := H (by rw [(yAdv_fk b sz S).1]; exact hk)
    rw [h] at c1
    simp only [if_true] at c1
    simp (disch := omega) only [e223, s223_0, s223_1, s223_2, s223_5, s223_8, s223_9, s223_10, s223_13, zcs_0, zcs_1, zcs_2, zcs_3, zcs_4, zcs_5, zcs_6, zcs_7, znl_i, znl_r, znl_n, Bool.and_true, Bool.true_and, zk_v, zk_n, zk_x, zir_r, zir_n, zclr_i, zclr_r, zclr_n, zclr_d, zclr_l, true_and, and_true, and_self, if_true, if_false, reduceIte, nI_add, pk_mul, zin_ok, zx_nI, nI_lt2, nI_le2, nI_eq2, nI_l0, nI_g0, nI_q0, nI_p0, nI_n0, nI_m1, Nat.add_zero, Nat.zero_add, Nat.reduceAdd, Nat.reduceMul, true_or, or_true, znar_50, bI_0, bI_1, bI_z, bft, nI_z0, nI_z1, lgc_lt, lgc_gt, lgc_le, lgc_ge, lgc_eq, not_true_eq_false, not_false_eq_true, Bool.not_eq_true, Bool.not_eq_false, reduceCtorEq, eq_self, nI_e0, nI_e1, i10, i01, decide_false, decide_true, Bool.false_eq_true, cls_cP, r0, c1, bI_t]
    exact H
  · rw [if_neg h] at HX
    have e1 : yErr 1 S = (yAt S, yFr S, yTk S, yVl S, 1, nI (yFr S)) := if_pos hk
    have HX := HX (yErr_fk (by omega)) S
    rw [e1] at HX
    rw [Bool.not_eq_true] at h
    rw [h] at c1
    simp only [Bool.false_eq_true, if_false] at c1
    simp (disch := omega) only [e223, s223_0, s223_1, s223_2, s223_5, s223_8, s223_9, s223_10, s223_13, zcs_0, zcs_1, zcs_2, zcs_3, zcs_4, zcs_5, zcs_6, zcs_7, znl_i, znl_r, znl_n, Bool.and_true, Bool.true_and, zk_v, zk_n, zk_x, zir_r, zir_n, zclr_i, zclr_r, zclr_n, zclr_d, zclr_l, true_and, and_true, and_self, if_true, if_false, reduceIte, nI_add, pk_mul, zin_ok, zx_nI, nI_lt2, nI_le2, nI_eq2, nI_l0, nI_g0, nI_q0, nI_p0, nI_n0, nI_m1, Nat.add_zero, Nat.zero_add, Nat.reduceAdd, Nat.reduceMul, true_or, or_true, znar_50, bI_0, bI_1, bI_z, bft, nI_z0, nI_z1, lgc_lt, lgc_gt, lgc_le, lgc_ge, lgc_eq, not_true_eq_false, not_false_eq_true, Bool.not_eq_true, Bool.not_eq_false, reduceCtorEq, eq_self, nI_e0, nI_e1, i10, i01, decide_false, decide_true, Bool.false_eq_true, cls_cP, r0, c1, c2, bI_f]
    exact HX
/-- a number; x: the bound as an int -/
theorem c227x (hR : RDr z R b sz) (hS : yOK sz S) (hk : yFk S = 0) (hn : R < zn z) {lo n : Nat} {x : Int32} (hx : ∀ c, c < 10000 → linB (nI c).toInt64 (nI lo).toInt64 x.toInt64 = decide (lo ≤ c ∧ c < n)) (hn1 : n ≤ 1000) (H : yFk (yNum b sz lo n S).1 = 0 → Q (.inl (some (.int (nI (yNum b sz lo n S).2)))) (cP z R (yNum b sz lo n S).1)) (HX : ¬ yFk (yNum b sz lo n S).1 = 0 → ∀ S', Q (.inr (.ref (zn z))) (mkW (cP z R S') (nI (yFk (yNum b sz lo n S).1)) (yFp (yNum b sz lo n S).1))) : ZC zG (d + 2) 227 [.ref R, .int (nI lo), .int x] (cP z R S) Q := by
  have r0 := hR.1.1
  obtain ⟨o1, o3, o4, o5, o6⟩ := hS
  have hS : yOK sz S := ⟨o1, o3, o4, o5, o6⟩
  have adv := fun d Q => c216 (d := d) (Q := Q) hR hS.1.2 hk
  have err := fun d Q x => c221 (d := d) (Q := Q) (S := S) (x := x) hR hn
  unfold yNum at H HX
  rw [if_pos hk] at H HX
  by_cases g2 : yTk S = 2
  · rw [if_pos g2] at H HX
    have hv : yVc S = min 1000 (yVl S) := if_pos g2
    have hx2 := hx (yVc S) (by omega)
    by_cases g3 : lo ≤ yVl S ∧ yVl S < n
    · rw [if_pos g3] at H
      have e : yVc S = yVl S := by omega
      rw [e] at hx2
      rw [decide_eq_true g3] at hx2
      have H := H (by dsimp only; rw [(yAdv_fk b sz S).1]; exact hk)
      simp (disch := omega) only [e227, s227_0, s227_1, s227_4, s227_5, s227_8, s227_9, s227_10, s227_13, s227_14, s227_17, s227_18, s227_19, s227_20, s227_21, s227_22, s227_25, s227_28, s227_29, s227_30, s227_33, s227_34, s227_37, s227_38, s227_39, s227_42, s227_43, zcs_0, zcs_1, zcs_2, zcs_3, zcs_4, zcs_5, zcs_6, zcs_7, znl_i, znl_r, znl_n, Bool.and_true, Bool.true_and, zk_v, zk_n, zk_x, zir_r, zir_n, zclr_i, zclr_r, zclr_n, zclr_d, zclr_l, true_and, and_true, and_self, if_true, if_false, reduceIte, nI_add, pk_mul, zin_ok, zx_nI, nI_lt2, nI_le2, nI_eq2, nI_l0, nI_g0, nI_q0, nI_p0, nI_n0, nI_m1, Nat.add_zero, Nat.zero_add, Nat.reduceAdd, Nat.reduceMul, true_or, or_true, znar_50, bI_0, bI_1, bI_z, bft, nI_z0, nI_z1, lgc_lt, lgc_gt, lgc_le, lgc_ge, lgc_eq, not_true_eq_false, not_false_eq_true, Bool.not_eq_true, Bool.not_eq_false, reduceCtorEq, eq_self, nI_e0, nI_e1, i10, i01, decide_false, decide_true, Bool.false_eq_true, cls_cP, cP_9, cP_11, e, r0, adv, g2, c2, hx2]
      exact H
    · rw [if_neg g3] at HX
      have g4 : ¬ (lo ≤ yVc S ∧ yVc S < n) := by omega
      rw [decide_eq_false g4] at hx2
      have e1 : yErr 2 S = (yAt S, yFr S, yTk S, yVl S, 2, nI (yFr S)) := if_pos hk
      have HX := HX (yErr_fk (by omega)) S
      rw [e1] at HX
      simp (disch := omega) only [e227, s227_0, s227_1, s227_4, s227_5, s227_8, s227_9, s227_10, s227_13, s227_14, s227_17, s227_18, s227_19, s227_20, s227_21, s227_22, s227_25, s227_28, s227_29, s227_30, s227_33, s227_34, s227_37, s227_38, s227_39, s227_42, s227_43, zcs_0, zcs_1, zcs_2, zcs_3, zcs_4, zcs_5, zcs_6, zcs_7, znl_i, znl_r, znl_n, Bool.and_true, Bool.true_and, zk_v, zk_n, zk_x, zir_r, zir_n, zclr_i, zclr_r, zclr_n, zclr_d, zclr_l, true_and, and_true, and_self, if_true, if_false, reduceIte, nI_add, pk_mul, zin_ok, zx_nI, nI_lt2, nI_le2, nI_eq2, nI_l0, nI_g0, nI_q0, nI_p0, nI_n0, nI_m1, Nat.add_zero, Nat.zero_add, Nat.reduceAdd, Nat.reduceMul, true_or, or_true, znar_50, bI_0, bI_1, bI_z, bft, nI_z0, nI_z1, lgc_lt, lgc_gt, lgc_le, lgc_ge, lgc_eq, not_true_eq_false, not_false_eq_true, Bool.not_eq_true, Bool.not_eq_false, reduceCtorEq, eq_self, nI_e0, nI_e1, i10, i01, decide_false, decide_true, Bool.false_eq_true, cls_cP, cP_9, cP_11, r0, err, g2, c2, hx2]
      exact HX
  · rw [if_neg g2] at HX
    have e1 : yErr 1 S = (yAt S, yFr S, yTk S, yVl S, 1, nI (yFr S)) := if_pos hk
    have HX := HX (yErr_fk (by omega)) S
    rw [e1] at HX
    simp (disch := omega) only [e227, s227_0, s227_1, s227_4, s227_5, s227_8, s227_9, s227_10, s227_13, s227_14, s227_17, s227_18, s227_19, s227_20, s227_21, s227_22, s227_25, s227_28, s227_29, s227_30, s227_33, s227_34, s227_37, s227_38, s227_39, s227_42, s227_43, zcs_0, zcs_1, zcs_2, zcs_3, zcs_4, zcs_5, zcs_6, zcs_7, znl_i, znl_r, znl_n, Bool.and_true, Bool.true_and, zk_v, zk_n, zk_x, zir_r, zir_n, zclr_i, zclr_r, zclr_n, zclr_d, zclr_l, true_and, and_true, and_self, if_true, if_false, reduceIte, nI_add, pk_mul, zin_ok, zx_nI, nI_lt2, nI_le2, nI_eq2, nI_l0, nI_g0, nI_q0, nI_p0, nI_n0, nI_m1, Nat.add_zero, Nat.zero_add, Nat.reduceAdd, Nat.reduceMul, true_or, or_true, znar_50, bI_0, bI_1, bI_z, bft, nI_z0, nI_z1, lgc_lt, lgc_gt, lgc_le, lgc_ge, lgc_eq, not_true_eq_false, not_false_eq_true, Bool.not_eq_true, Bool.not_eq_false, reduceCtorEq, eq_self, nI_e0, nI_e1, i10, i01, decide_false, decide_true, Bool.false_eq_true, cls_cP, cP_9, r0, err, g2]
    exact HX
theorem c227 (hR : RDr z R b sz) (hS : yOK sz S) (hk : yFk S = 0) (hn : R < zn z) {lo n : Nat} (hl : lo < 10000) (hn1 : n < 1000) (H : yFk (yNum b sz lo (n + 1) S).1 = 0 → Q (.inl (some (.int (nI (yNum b sz lo (n + 1) S).2)))) (cP z R (yNum b sz lo (n + 1) S).1)) (HX : ¬ yFk (yNum b sz lo (n + 1) S).1 = 0 → ∀ S', Q (.inr (.ref (zn z))) (mkW (cP z R S') (nI (yFk (yNum b sz lo (n + 1) S).1)) (yFp (yNum b sz lo (n + 1) S).1))) : ZC zG (d + 2) 227 [.ref R, .int (nI lo), .int (nI n)] (cP z R S) Q := c227x hR hS hk hn (fun c hc => lin_w hc hl (by omega)) (by omega) H HX
theorem c227n (hR : RDr z R b sz) (hS : yOK sz S) (hk : yFk S = 0) (hn : R < zn z) {lo n : Nat} (hl : lo < 10000) (hn1 : n < 1000) (H : yFk (yNum b sz lo n S).1 = 0 → Q (.inl (some (.int (nI (yNum b sz lo n S).2)))) (cP z R (yNum b sz lo n S).1)) (HX : ¬ yFk (yNum b sz lo n S).1 = 0 → ∀ S', Q (.inr (.ref (zn z))) (mkW (cP z R S') (nI (yFk (yNum b sz lo n S).1)) (yFp (yNum b sz lo n S).1))) : ZC zG (d + 2) 227 [.ref R, .int (nI lo), .int (nI n - nI 1)] (cP z R S) Q := c227x hR hS hk hn (fun c hc => lin_v hc hl (by omega)) (by omega) H HX
theorem c226 (hR : RDr z R b sz) (hS : yOK sz S) (hk : yFk S = 0) (hn : R < zn z) {r lo n : Nat} (hr : r < 35) (hl : lo < 10000) (hn1 : n < 1000) (H : yFk (yNum b sz lo (n + 1) (yNeed b sz r S)).1 = 0 → Q (.inl (some (.int (nI (yNum b sz lo (n + 1) (yNeed b sz r S)).2)))) (cP z R (yNum b sz lo (n + 1) (yNeed b sz r S)).1)) (HX : ¬ yFk (yNum b sz lo (n + 1) (yNeed b sz r S)).1 = 0 → ∀ S', Q (.inr (.ref (zn z))) (mkW (cP z R S') (nI (yFk (yNum b sz lo (n + 1) (yNeed b sz r S)).1)) (yFp (yNum b sz lo (n + 1) (yNeed b sz r S)).1))) : ZC zG (d + 4) 226 [.ref R, .ref r, .int (nI lo), .int (nI n)] (cP z R S) Q := by
  have r0 := hR.1.1
  simp (disch := omega) only [e226, s226_0, s226_1, s226_2, zcs_0, zcs_1, zcs_2, zcs_3, zcs_4, zcs_5, zcs_6, zcs_7, znl_i, znl_r, znl_n, Bool.and_true, Bool.true_and, zk_v, zk_n, zk_x, zir_r, zir_n, zclr_i, zclr_r, zclr_n, zclr_d, zclr_l, true_and, and_true, and_self, if_true, if_false, reduceIte, nI_add, pk_mul, zin_ok, zx_nI, nI_lt2, nI_le2, nI_eq2, nI_l0, nI_g0, nI_q0, nI_p0, nI_n0, nI_m1, Nat.add_zero, Nat.zero_add, Nat.reduceAdd, Nat.reduceMul, true_or, or_true, znar_50, bI_0, bI_1, bI_z, bft, nI_z0, nI_z1, lgc_lt, lgc_gt, lgc_le, lgc_ge, lgc_eq, not_true_eq_false, not_false_eq_true, Bool.not_eq_true, Bool.not_eq_false, reduceCtorEq, eq_self, nI_e0, nI_e1, i10, i01, decide_false, decide_true, Bool.false_eq_true, cls_cP, r0]
  refine c223 (d := d) hR hS hk hn hr (fun g => ?_) (fun g S' => ?_)
  · simp (disch := omega) only [s226_5, s226_6, s226_7, s226_8, zcs_0, zcs_1, zcs_2, zcs_3, zcs_4, zcs_5, zcs_6, zcs_7, znl_i, znl_r, znl_n, Bool.and_true, Bool.true_and, zk_v, zk_n, zk_x, zir_r, zir_n, zclr_i, zclr_r, zclr_n, zclr_d, zclr_l, true_and, and_true, and_self, if_true, if_false, reduceIte, nI_add, pk_mul, zin_ok, zx_nI, nI_lt2, nI_le2, nI_eq2, nI_l0, nI_g0, nI_q0, nI_p0, nI_n0, nI_m1, Nat.add_zero, Nat.zero_add, Nat.reduceAdd, Nat.reduceMul, true_or, or_true, znar_50, bI_0, bI_1, bI_z, bft, nI_z0, nI_z1, lgc_lt, lgc_gt, lgc_le, lgc_ge, lgc_eq, not_true_eq_false, not_false_eq_true, Bool.not_eq_true, Bool.not_eq_false, reduceCtorEq, eq_self, nI_e0, nI_e1, i10, i01, decide_false, decide_true, Bool.false_eq_true, cls_cP, r0]
    refine c227 (d := d + 1) hR (yNeed_ok hS) g hn hl hn1 (fun g2 => ?_) (fun g2 S' => ?_)
    · simp (disch := omega) only [s226_11, zcs_0, zcs_1, zcs_2, zcs_3, zcs_4, zcs_5, zcs_6, zcs_7, znl_i, znl_r, znl_n, Bool.and_true, Bool.true_and, zk_v, zk_n, zk_x, zir_r, zir_n, zclr_i, zclr_r, zclr_n, zclr_d, zclr_l, true_and, and_true, and_self, if_true, if_false, reduceIte]
      exact H g2
    · simp only [zcs_0, zcs_1, zcs_2, zcs_3, zcs_4, zcs_5, zcs_6, zcs_7, znl_i, znl_r, znl_n, Bool.and_true, Bool.true_and, zk_v, zk_n, zk_x, zir_r, zir_n, zclr_i, zclr_r, zclr_n, zclr_d, zclr_l, true_and, and_true, and_self, if_true, if_false, reduceIte]
      exact HX g2 S'
  · rw [yNum_bad g] at HX
    simp only [zcs_0, zcs_1, zcs_2, zcs_3, zcs_4, zcs_5, zcs_6, zcs_7, znl_i, znl_r, znl_n, Bool.and_true, Bool.true_and, zk_v, zk_n, zk_x, zir_r, zir_n, zclr_i, zclr_r, zclr_n, zclr_d, zclr_l, true_and, and_true, and_self, if_true, if_false, reduceIte]
    exact HX g S'
theorem c225 (hR : RDr z R b sz) (hS : yOK sz S) (hk : yFk S = 0) (hn : R < zn z) {a : Nat} {l : List Nat} (hA : WAr z a l) (H : yFk (yTkn b sz l.length (yWh b S l) S) = 0 → Q (.inl (some (.int (nI (yWh b S l))))) (cP z R (yTkn b sz l.length (yWh b S l) S))) (HX : ¬ yFk (yTkn b sz l.length (yWh b S l) S) = 0 → ∀ S', Q (.inr (.ref (zn z))) (mkW (cP z R S') (nI (yFk (yTkn b sz l.length (yWh b S l) S))) (yFp (yTkn b sz l.length (yWh b S l) S)))) : ZC zG (d + 2) 225 [.ref R, .ref a] (cP z R S) Q := by
  have r0 := hR.1.1
  have c1 := fun d Q => c219 (d := d) (Q := Q) hR hS hk hA
  have adv := fun d Q => c216 (d := d) (Q := Q) hR hS.1.2 hk
  have err := fun d Q x => c221 (d := d) (Q := Q) (S := S) (x := x) hR hn
  obtain ⟨a1, a2, a3, a4⟩ := hA
  have hle := yWh_le (b := b) (S := S) l
  unfold yTkn at H HX
  by_cases h : yWh b S l < l.length
  · rw [if_pos h, if_pos hk] at H
    have H := H (by rw [(yAdv_fk b sz S).1]; exact hk)
    have hne : ¬ yWh b S l = l.length := by omega
    simp (disch := omega) only [e225, s225_0, s225_1, s225_2, s225_5, s225_6, s225_7, s225_8, s225_9, s225_12, s225_13, s225_14, s225_17, s225_18, s225_21, s225_22, zcs_0, zcs_1, zcs_2, zcs_3, zcs_4, zcs_5, zcs_6, zcs_7, znl_i, znl_r, znl_n, Bool.and_true, Bool.true_and, zk_v, zk_n, zk_x, zir_r, zir_n, zclr_i, zclr_r, zclr_n, zclr_d, zclr_l, true_and, and_true, and_self, if_true, if_false, reduceIte, nI_add, pk_mul, zin_ok, zx_nI, nI_lt2, nI_le2, nI_eq2, nI_l0, nI_g0, nI_q0, nI_p0, nI_n0, nI_m1, Nat.add_zero, Nat.zero_add, Nat.reduceAdd, Nat.reduceMul, true_or, or_true, znar_50, bI_0, bI_1, bI_z, bft, nI_z0, nI_z1, lgc_lt, lgc_gt, lgc_le, lgc_ge, lgc_eq, not_true_eq_false, not_false_eq_true, Bool.not_eq_true, Bool.not_eq_false, reduceCtorEq, eq_self, nI_e0, nI_e1, i10, i01, decide_false, decide_true, Bool.false_eq_true, cls_cP, len_cP, r0, a1, a2, c1, adv, hne]
    exact H
  · rw [if_neg h] at HX
    have hne : yWh b S l = l.length := by omega
    have e1 : yErr 1 S = (yAt S, yFr S, yTk S, yVl S, 1, nI (yFr S)) := if_pos hk
    have HX := HX (yErr_fk (by omega)) S
    rw [e1] at HX
    simp (disch := omega) only [e225, s225_0, s225_1, s225_2, s225_5, s225_6, s225_7, s225_8, s225_9, s225_12, s225_13, s225_14, s225_17, s225_18, s225_21, s225_22, zcs_0, zcs_1, zcs_2, zcs_3, zcs_4, zcs_5, zcs_6, zcs_7, znl_i, znl_r, znl_n, Bool.and_true, Bool.true_and, zk_v, zk_n, zk_x, zir_r, zir_n, zclr_i, zclr_r, zclr_n, zclr_d, zclr_l, true_and, and_true, and_self, if_true, if_false, reduceIte, nI_add, pk_mul, zin_ok, zx_nI, nI_lt2, nI_le2, nI_eq2, nI_l0, nI_g0, nI_q0, nI_p0, nI_n0, nI_m1, Nat.add_zero, Nat.zero_add, Nat.reduceAdd, Nat.reduceMul, true_or, or_true, znar_50, bI_0, bI_1, bI_z, bft, nI_z0, nI_z1, lgc_lt, lgc_gt, lgc_le, lgc_ge, lgc_eq, not_true_eq_false, not_false_eq_true, Bool.not_eq_true, Bool.not_eq_false, reduceCtorEq, eq_self, nI_e0, nI_e1, i10, i01, decide_false, decide_true, Bool.false_eq_true, cls_cP, len_cP, r0, a1, a2, c1, err, hne]
    exact HX
end CR
