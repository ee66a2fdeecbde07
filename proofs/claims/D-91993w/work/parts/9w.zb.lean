set_option maxRecDepth 100000
/-! the component's reader: sums -/
section CW
variable {d : Nat} {z : ZH} {Q : ZQ} {b : Nat → Nat} {sz R : Nat} {S : YS} {G : Nat → Nat}
theorem ySM_ok : ∀ (n : Nat) (S : YS) (G : Nat → Nat), yOK sz S → yOK sz (ySM b sz n S G).1
  | 0, S, G, h => h
  | n + 1, S, G, h => by
    unfold ySM
    split
    · exact ySM_ok n _ _ (yTm_ok (yAdv_ok h))
    · exact h
/-- a sum -/
theorem c228 (hR : RD z R b sz) (hS : yOK sz S) (hk : yFk S = 0) (hn : R + 5 ≤ zn z) (h162 : 162 ≤ R) {j : Nat} (hj : ¬ j = 3)
    (H : yFk (ySum b sz j S G).1 = 0 → ∀ z' r a, FN z z' → zSm (fun q => zn z ≤ q ∧ q < zn z') z' (ySum b sz j S G).2 a r → rLay (ySum b sz j S G).2 (G 3) a ((ySum b sz j S G).2 3) → hdJ (ySum b sz j S G).2 j a → agP G (ySum b sz j S G).2 (G 3) → zuc z ≤ zuc z' → zuc z' + yFr S ≤ zuc z + yFr (ySum b sz j S G).1 → zus z ≤ zus z' → zus z' + yFr S ≤ zus z + yFr (ySum b sz j S G).1 → Q (.inl (some (.ref r))) (cP z' R (ySum b sz j S G).1))
    (HX : ¬ yFk (ySum b sz j S G).1 = 0 → ∀ z' S', FN z z' → zuc z ≤ zuc z' → zuc z' + yFr S ≤ zuc z + sz + 3 → zus z ≤ zus z' → zus z' + yFr S ≤ zus z + sz + 7 → Q (.inr (.ref (zn z'))) (mkW (cP z' R S') (nI (yFk (ySum b sz j S G).1)) (yFp (ySum b sz j S G).1))) : ZC zG (d + 5) 228 [.ref R] (cP z R S) Q := by
  have r0 := hR.1.1.1
  rw [ySum_nest hS] at H HX
  have hfrS := hS.1
  have lp : ∀ (n : Nat) (z1 : ZH) (S1 : YS) (G1 : Nat → Nat) (r : Nat) (a : List (Nat × Nat)) (x2 : Value), FN z z1 → zSm (fun q => zn z ≤ q ∧ q < zn z1) z1 G1 a r → rLay G1 (G 3) a (G1 3) → hdJ G1 j a → agP G G1 (G 3) → yOK sz S1 → yFk S1 = 0 → sz < yFr S1 + n → yFr S ≤ yFr S1 → zuc z ≤ zuc z1 → zuc z1 + yFr S ≤ zuc z + yFr S1 → zus z ≤ zus z1 → zus z1 + yFr S ≤ zus z + yFr S1 → ySM b sz n S1 G1 = ySm b sz j S G → ZW zG (d + 5) 228 5 [.ref R, .ref r, x2] [] (cP z1 R S1) Q := by
    intro n
    induction n with
    | zero =>
      intro z1 S1 G1 r a x2 f1 f2 f3 f4 f6 o1 o2 o3
      have := o1.1
      omega
    | succ n ih =>
      intro z1 S1 G1 r a x2 f1 f2 f3 f4 f6 o1 o2 o3 o4 u1 u2 u3 u4 e
      have n1 := f1.1
      have hR1 := hR.fn f1 hn h162
      have q0 : zcls z1 R = 13 := hR1.1.1.1
      have is := fun d Q r (hr : r < 35) => c220 (d := d) (Q := Q) (r := r) hR1.1 o1 o2 hr
      have adv := fun d Q => c216 (d := d) (Q := Q) hR1.1 o1.1.2 o2
      unfold ySM at e
      obtain ⟨w1, w2, w3, _, _⟩ := yWh_two (b := b) (S := S1) (r1 := 23) (r2 := 18) (r3 := 31)
      refine Eq.mpr s228_5 ?_
      -- one more term, joined by j2
      have one : ∀ j2 : Nat, (j2 = 1 ∨ j2 = 2) → yFr S1 + 4 ≤ yFr (yAdv b sz S1) → ySM b sz n (yTm b sz j2 (yAdv b sz S1) G1).1 (yTm b sz j2 (yAdv b sz S1) G1).2 = ySm b sz j S G → ZW zG (d + 5) 228 38 [.ref R, .ref r, .int (nI (j2 - 1))] [] (cP z1 R S1) Q := by
        intro j2 hj2 hlen e
        have okA := yAdv_ok (b := b) o1
        have gA : yFk (yAdv b sz S1) = 0 := by rw [(yAdv_fk b sz S1).1]; exact o2
        have cs := fun S' => cP_snew (z := z1) (R := R) (S := S') (c := 19) (N := 3) (by omega)
        have F2 : FN z1 (snew z1 19 3) := (FN.refl z1).snew _ _
        have hR2 := hR1.fn F2 (by omega) h162
        have q1 : zcls (snew z1 19 3) R = 13 := hR2.1.1.1
        simp (disch := omega) only [s228_38, s228_39, s228_42, s228_45, s228_46, s228_47, s228_48, s228_49, zcs_0, zcs_1, zcs_2, zcs_3, zcs_4, zcs_5, zcs_6, zcs_7, znl_i, znl_r, znl_n, Bool.and_true, Bool.true_and, zk_v, zk_n, zk_x, zir_r, zir_n, zclr_i, zclr_r, zclr_n, zclr_d, zclr_l, true_and, and_true, and_self, if_true, if_false, reduceIte, nI_add, pk_mul, zin_ok, zx_nI, nI_lt2, nI_le2, nI_eq2, nI_l0, nI_g0, nI_q0, nI_p0, nI_n0, nI_m1, Nat.add_zero, Nat.zero_add, Nat.reduceAdd, Nat.reduceMul, true_or, or_true, znar_50, bI_0, bI_1, bI_z, bft, nI_z0, nI_z1, lgc_lt, lgc_gt, lgc_le, lgc_ge, lgc_eq, not_true_eq_false, not_false_eq_true, Bool.not_eq_true, Bool.not_eq_false, reduceCtorEq, eq_self, nI_e0, nI_e1, i10, i01, decide_false, decide_true, Bool.false_eq_true, cls_cP, fr_cP, len_cP, ls_cP, n_cP, q0, q1, adv, cs]
        refine c229 (d := d) (G := G1) (j := j2) hR2 okA gA (by rw [n_snew]; omega) h162 (fun g2 z3 r3 m F3 tm t3 tj tt tag uu1 uu2 vv1 vv2 => ?_) (fun g2 z3 S3 F3 uu1 uu2 vv1 vv2 => ?_)
        · rw [n_snew] at tm
          rw [uc_snew] at uu1 uu2
          rw [us_snew] at vv1 vv2
          have nz3 : zn z1 + 1 ≤ zn z3 := by have := F3.1; rw [n_snew] at this; exact this
          have l3 := F3.2 (zn z1) (by rw [n_snew]; omega) (fun q => q)
          have g3 : zcls z3 (zn z1) = 19 := by rw [l3.1, cls_snew, zu1_s]
          have hne : ¬ zn z1 = R := by omega
          have cc := fun (d : Nat) (Q : ZQ) (S' : YS) (a c : Nat) (x : Int32) => c241 (d := d) (Q := Q) (z := cP z3 R S') (q := zn z1) (a := a) (c := c) (x := x) g3
          have e4 : ∀ S' a c x, sfr (sfi (sfr (cP z3 R S') (zn z1) 0 a) (zn z1) 2 x) (zn z1) 1 c = cP (sfr (sfi (sfr z3 (zn z1) 0 a) (zn z1) 2 x) (zn z1) 1 c) R S' := fun S' a c x => by
            rw [cP_sfr, cP_sfi hne, cP_sfr]
          simp (disch := omega) only [s228_52, s228_55, s228_56, zcs_0, zcs_1, zcs_2, zcs_3, zcs_4, zcs_5, zcs_6, zcs_7, znl_i, znl_r, znl_n, Bool.and_true, Bool.true_and, zk_v, zk_n, zk_x, zir_r, zir_n, zclr_i, zclr_r, zclr_n, zclr_d, zclr_l, true_and, and_true, and_self, if_true, if_false, reduceIte, nI_add, pk_mul, zin_ok, zx_nI, nI_lt2, nI_le2, nI_eq2, nI_l0, nI_g0, nI_q0, nI_p0, nI_n0, nI_m1, Nat.add_zero, Nat.zero_add, Nat.reduceAdd, Nat.reduceMul, true_or, or_true, znar_50, bI_0, bI_1, bI_z, bft, nI_z0, nI_z1, lgc_lt, lgc_gt, lgc_le, lgc_ge, lgc_eq, not_true_eq_false, not_false_eq_true, Bool.not_eq_true, Bool.not_eq_false, reduceCtorEq, eq_self, nI_e0, nI_e1, i10, i01, decide_false, decide_true, Bool.false_eq_true, cc, e4]
          have F13 : FN z1 z3 := F2.trans F3
          have F14 : FN z1 (sfr (sfi (sfr z3 (zn z1) 0 (.ref r)) (zn z1) 2 (nI (j2 - 1))) (zn z1) 1 (.ref r3)) := ((F13.sfr (Nat.le_refl _)).sfi (Nat.le_refl _)).sfr (Nat.le_refl _)
          have F34 : zFr (fun q => q = zn z1) z3 (sfr (sfi (sfr z3 (zn z1) 0 (.ref r)) (zn z1) 2 (nI (j2 - 1))) (zn z1) 1 (.ref r3)) := zFr_sfr (zFr_sfi (zFr_sfr (zFr_refl _ _) (Or.inr rfl)) (Or.inr rfl)) (Or.inr rfl)
          generalize hz4 : sfr (sfi (sfr z3 (zn z1) 0 (.ref r)) (zn z1) 2 (nI (j2 - 1))) (zn z1) 1 (.ref r3) = z4 at F14 F34
          have n4 : zn z4 = zn z3 := by rw [← hz4]; rfl
          have c4 : zuc z4 = zuc z3 ∧ zus z4 = zus z3 := by rw [← hz4]; exact ⟨rfl, rfl⟩
          have okT := yTm_ok (b := b) (j := j2) (G := G1) okA
          have mo := yTm_mo (b := b) (j := j2) (G := G1) okA
          obtain ⟨hle, hin⟩ := rLay_le a _ f3
          have lay := rLay_ap tag a _ (Nat.le_refl _) f3
          -- the list isn't empty
          obtain ⟨y, ys, rfl⟩ : ∃ y ys, a = y :: ys := by
            cases a with
            | nil => exact f2.elim
            | cons y ys => exact ⟨y, ys, rfl⟩
          refine ih z4 _ _ (zn z1) ((G1 3, m) :: y :: ys) _ (f1.trans F14) ⟨⟨n1, by omega⟩, ?_, ?_, ?_, r, r3, ⟨?_, ?_⟩, ?_, ?_⟩ ⟨t3, ?_, ?_, lay⟩ ?_ (agP_trans f6 tag hle) okT g2 (by omega) (by omega) (by omega) (by omega) (by omega) (by omega) e
          · rw [← hz4]; exact g3
          · rw [tj]; exact hj2
          · rw [← hz4, fi_sfr, fi_sfi, zu2_s, tj]
          · rw [← hz4, fr_sfr, zu2_k _ _ _ _ (by omega), fr_sfi, fr_sfr, zu2_s]
          · have h5 := zSm.st (F14.st (fun q hq => hq.2)) f2
            have h6 := zSm.ap tag hin h5
            exact zSm.mono (fun q hq => ⟨hq.1, by omega⟩) h6
          · rw [← hz4, fr_sfr, zu2_s]
          · have h5 := zTm.st (F34.st (fun q hq => ⟨hq.2, fun e => by omega⟩)) tm
            exact zTm.mono (fun q hq => ⟨by omega, by omega⟩) h5
          · rw [tj]; omega
          · intro i hi
            exact tt i hi
          · obtain ⟨x, xs, h1, h2⟩ := f4
            have hx := hin x (List.mem_reverse.mp (by rw [h1]; exact List.mem_cons_self))
            refine ⟨x, xs ++ [(G1 3, m)], by rw [List.reverse_cons, h1]; rfl, ?_⟩
            rw [tag _ (by omega) (by omega)]
            exact h2
        · simp only [zcs_0, zcs_1, zcs_2, zcs_3, zcs_4, zcs_5, zcs_6, zcs_7, znl_i, znl_r, znl_n, Bool.and_true, Bool.true_and, zk_v, zk_n, zk_x, zir_r, zir_n, zclr_i, zclr_r, zclr_n, zclr_d, zclr_l, true_and, and_true, and_self, if_true, if_false, reduceIte]
          rw [uc_snew] at uu1 uu2
          rw [us_snew] at vv1 vv2
          have e2 : (ySm b sz j S G).1 = (yTm b sz j2 (yAdv b sz S1) G1).1 := by
            rw [← e, ySM_bad g2 n]
          have HX := HX (by rw [e2]; exact g2) z3 S3 (f1.trans (F2.trans F3)) (by omega) (by omega) (by omega) (by omega)
          rw [e2] at HX
          exact HX
      by_cases e23 : yIs b S1 23 = true
      · obtain ⟨_, v2⟩ := w1 e23
        rw [v2, if_pos (by omega)] at e
        have hlen := yIs_fr o1 e23
        have h4 : (ztx 23).length = 4 := by decide
        have k := one 1 (Or.inl rfl) (by omega) e
        rw [show 1 - 1 = 0 from rfl] at k
        simp (disch := omega) only [s228_6, s228_8, s228_11, s228_23, s228_24, s228_26, s228_29, s228_32, s228_33, s228_36, s228_37, zcs_0, zcs_1, zcs_2, zcs_3, zcs_4, zcs_5, zcs_6, zcs_7, znl_i, znl_r, znl_n, Bool.and_true, Bool.true_and, zk_v, zk_n, zk_x, zir_r, zir_n, zclr_i, zclr_r, zclr_n, zclr_d, zclr_l, true_and, and_true, and_self, if_true, if_false, reduceIte, nI_add, pk_mul, zin_ok, zx_nI, nI_lt2, nI_le2, nI_eq2, nI_l0, nI_g0, nI_q0, nI_p0, nI_n0, nI_m1, Nat.add_zero, Nat.zero_add, Nat.reduceAdd, Nat.reduceMul, true_or, or_true, znar_50, bI_0, bI_1, bI_z, bft, nI_z0, nI_z1, lgc_lt, lgc_gt, lgc_le, lgc_ge, lgc_eq, not_true_eq_false, not_false_eq_true, Bool.not_eq_true, Bool.not_eq_false, reduceCtorEq, eq_self, nI_e0, nI_e1, i10, i01, decide_false, decide_true, Bool.false_eq_true, cls_cP, fr_cP, len_cP, ls_cP, n_cP, q0, is, e23, bI_t]
        exact k
      · rw [Bool.not_eq_true] at e23
        by_cases e18 : yIs b S1 18 = true
        · obtain ⟨_, v2⟩ := w2 e23 e18
          rw [v2, if_pos (by omega)] at e
          have hlen := yIs_fr o1 e18
          have h4 : (ztx 18).length = 5 := by decide
          have k := one 2 (Or.inr rfl) (by omega) e
          rw [show 2 - 1 = 1 from rfl] at k
          simp (disch := omega) only [s228_6, s228_8, s228_11, s228_14, s228_15, s228_17, s228_20, s228_23, s228_24, s228_26, s228_29, s228_32, s228_33, s228_36, s228_37, zcs_0, zcs_1, zcs_2, zcs_3, zcs_4, zcs_5, zcs_6, zcs_7, znl_i, znl_r, znl_n, Bool.and_true, Bool.true_and, zk_v, zk_n, zk_x, zir_r, zir_n, zclr_i, zclr_r, zclr_n, zclr_d, zclr_l, true_and, and_true, and_self, if_true, if_false, reduceIte, nI_add, pk_mul, zin_ok, zx_nI, nI_lt2, nI_le2, nI_eq2, nI_l0, nI_g0, nI_q0, nI_p0, nI_n0, nI_m1, Nat.add_zero, Nat.zero_add, Nat.reduceAdd, Nat.reduceMul, true_or, or_true, znar_50, bI_0, bI_1, bI_z, bft, nI_z0, nI_z1, lgc_lt, lgc_gt, lgc_le, lgc_ge, lgc_eq, not_true_eq_false, not_false_eq_true, Bool.not_eq_true, Bool.not_eq_false, reduceCtorEq, eq_self, nI_e0, nI_e1, i10, i01, decide_false, decide_true, Bool.false_eq_true, cls_cP, fr_cP, len_cP, ls_cP, n_cP, q0, is, e23, e18, bI_t, bI_f]
          exact k
        · rw [Bool.not_eq_true] at e18
          have v2 := w3 e23 e18
          rw [v2, if_neg (by omega)] at e
          rw [← e] at H
          simp (disch := omega) only [s228_6, s228_8, s228_11, s228_14, s228_15, s228_17, s228_20, s228_59, s228_60, s228_60r, zcs_0, zcs_1, zcs_2, zcs_3, zcs_4, zcs_5, zcs_6, zcs_7, znl_i, znl_r, znl_n, Bool.and_true, Bool.true_and, zk_v, zk_n, zk_x, zir_r, zir_n, zclr_i, zclr_r, zclr_n, zclr_d, zclr_l, true_and, and_true, and_self, if_true, if_false, reduceIte, nI_add, pk_mul, zin_ok, zx_nI, nI_lt2, nI_le2, nI_eq2, nI_l0, nI_g0, nI_q0, nI_p0, nI_n0, nI_m1, Nat.add_zero, Nat.zero_add, Nat.reduceAdd, Nat.reduceMul, true_or, or_true, znar_50, bI_0, bI_1, bI_z, bft, nI_z0, nI_z1, lgc_lt, lgc_gt, lgc_le, lgc_ge, lgc_eq, not_true_eq_false, not_false_eq_true, Bool.not_eq_true, Bool.not_eq_false, reduceCtorEq, eq_self, nI_e0, nI_e1, i10, i01, decide_false, decide_true, Bool.false_eq_true, cls_cP, fr_cP, len_cP, ls_cP, n_cP, q0, is, e23, e18, bI_f]
          exact H o2 z1 r a f1 f2 f3 f4 f6 u1 u2 u3 u4
  simp (disch := omega) only [e228, s228_0, s228_1, zcs_0, zcs_1, zcs_2, zcs_3, zcs_4, zcs_5, zcs_6, zcs_7, znl_i, znl_r, znl_n, Bool.and_true, Bool.true_and, zk_v, zk_n, zk_x, zir_r, zir_n, zclr_i, zclr_r, zclr_n, zclr_d, zclr_l, true_and, and_true, and_self, if_true, if_false, reduceIte, nI_add, pk_mul, zin_ok, zx_nI, nI_lt2, nI_le2, nI_eq2, nI_l0, nI_g0, nI_q0, nI_p0, nI_n0, nI_m1, Nat.add_zero, Nat.zero_add, Nat.reduceAdd, Nat.reduceMul, true_or, or_true, znar_50, bI_0, bI_1, bI_z, bft, nI_z0, nI_z1, lgc_lt, lgc_gt, lgc_le, lgc_ge, lgc_eq, not_true_eq_false, not_false_eq_true, Bool.not_eq_true, Bool.not_eq_false, reduceCtorEq, eq_self, nI_e0, nI_e1, i10, i01, decide_false, decide_true, Bool.false_eq_true, cls_cP, fr_cP, len_cP, ls_cP, n_cP, r0]
  refine c229 (d := d) (G := G) (j := j) hR hS hk hn h162 (fun g2 z3 r3 m F3 tm t3 tj tt tag uu1 uu2 vv1 vv2 => ?_) (fun g2 z3 S3 F3 uu1 uu2 vv1 vv2 => ?_)
  · simp (disch := omega) only [s228_4, zcs_0, zcs_1, zcs_2, zcs_3, zcs_4, zcs_5, zcs_6, zcs_7, znl_i, znl_r, znl_n, Bool.and_true, Bool.true_and, zk_v, zk_n, zk_x, zir_r, zir_n, zclr_i, zclr_r, zclr_n, zclr_d, zclr_l, true_and, and_true, and_self, if_true, if_false, reduceIte, nI_add, pk_mul, zin_ok, zx_nI, nI_lt2, nI_le2, nI_eq2, nI_l0, nI_g0, nI_q0, nI_p0, nI_n0, nI_m1, Nat.add_zero, Nat.zero_add, Nat.reduceAdd, Nat.reduceMul, true_or, or_true, znar_50, bI_0, bI_1, bI_z, bft, nI_z0, nI_z1, lgc_lt, lgc_gt, lgc_le, lgc_ge, lgc_eq, not_true_eq_false, not_false_eq_true, Bool.not_eq_true, Bool.not_eq_false, reduceCtorEq, eq_self, nI_e0, nI_e1, i10, i01, decide_false, decide_true, Bool.false_eq_true]
    have okT := yTm_ok (b := b) (j := j) (G := G) hS
    have mo := yTm_mo (b := b) (j := j) (G := G) hS
    exact lp (sz + 1) z3 _ _ r3 [(G 3, m)] _ F3 tm ⟨t3, by rw [tj]; exact hj, tt, rfl⟩ ⟨(G 3, m), [], rfl, tj⟩ tag okT g2 (by omega) (by omega) uu1 uu2 vv1 vv2 rfl
  · simp only [zcs_0, zcs_1, zcs_2, zcs_3, zcs_4, zcs_5, zcs_6, zcs_7, znl_i, znl_r, znl_n, Bool.and_true, Bool.true_and, zk_v, zk_n, zk_x, zir_r, zir_n, zclr_i, zclr_r, zclr_n, zclr_d, zclr_l, true_and, and_true, and_self, if_true, if_false, reduceIte]
    have e2 : (ySm b sz j S G).1 = (yTm b sz j S G).1 := by
      unfold ySm
      rw [ySM_bad g2]
    have HX := HX (by rw [e2]; exact g2) z3 S3 F3 (by omega) (by omega) (by omega) (by omega)
    rw [e2] at HX
    exact HX
end CW
