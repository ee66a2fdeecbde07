set_option maxRecDepth 100000
/-! the component: does, meet -/
section CO
variable {d : Nat} {B : Nat → Prop} {z : ZH} {Q : ZQ} {v : Nat → Nat} {L : Nat → List (Nat × Nat)} {t hl kn rl : Nat} {ha ra da ea : Nat → Nat} {K : Nat}
theorem cls_snL {c N q : Nat} (h : q < zn z) : zcls (snew z c N) q = zcls z q := by
  rw [cls_snew]
  exact zu1_n _ _ _ (by omega)
theorem fr_snL {c N q : Nat} (h : q < zn z) : zfr (snew z c N) q = zfr z q := by
  rw [fr_snew]
  exact zu1_n _ _ _ (by omega)
theorem fi_snL {c N q : Nat} (h : q < zn z) : zfi (snew z c N) q = zfi z q := by
  rw [fi_snew]
  exact zu1_n _ _ _ (by omega)
theorem cls_snN {c N : Nat} : zcls (snew z c N) (zn z) = c := by
  rw [cls_snew]
  exact zu1_s _ _ _
/-- what a new deed's add asks -/
theorem deed_ok (h : NW B z v L t hl kn rl ha ra da ea) (hB : ∀ q, B q → 100 ≤ q ∧ q < zn z) (hz : 162 ≤ zn z) : zlel (snew z 22 4) (.ref (zn z)) = true ∧ (zls z 114).all (zlel (snew z 22 4)) = true ∧ (zls z 114).length = v 8 := by
  obtain ⟨h0, ⟨h1, h2, h3, h4⟩, hH, hR, hD, hK, h9, hE, h6⟩ := h
  have hlen : (zls z 114).length = v 8 := hE.1
  refine ⟨?_, all_getD (fun i hi => ?_), hlen⟩
  · have : 100 ≤ zn z := by omega
    simp [zlel, cls_snN, this]
  · obtain ⟨w1, w2, w3, w4⟩ := hE.2.2 i (by omega)
    have hq := hB _ w2
    have w1' : (zls z 114).getD i .null = .ref (ea i) := w1
    rw [w1']
    simp [zlel, cls_snL hq.2, w3, hq.1]
/-- now, behind its ledger's deed -/
theorem NW_led {B1 B2 : Nat → Prop} {z1 z2 : ZH} {v1 w : Nat → Nat} {da1 ea1 da2 : Nat → Nat} {x : Nat} (h : NW B1 z1 v1 L t hl kn rl ha ra da1 ea1) (hB : ∀ q, B1 q → 100 ≤ q ∧ q < zn z1) (nB : ∀ q, NwW q → ¬ B1 q) (hz : 162 ≤ zn z1) (hP : LdP B1 z1 z2 109 B2 da2 w) (hag : agC v1 w) (h6' : w 6 = v1 6) (h8' : w 8 = v1 8) (hd : ∀ q, 6680 ≤ q → w q = v1 q) (h5 : zfi z2 109 5 = nI x) : NW B2 z2 (zu1 w 9 x) L t hl kn rl ha ra da2 ea1 ∧ zFr NwW z1 z2 := by
  have hall0 := h.1
  unfold CS at hall0
  obtain ⟨h0, ⟨h1, h2, h3, h4⟩, hH, hR, hD, hK, h9, hE, h6⟩ := h
  obtain ⟨p1, p2, p3, p4, p5, p6, p7, p8, p9, p10, p11, p12⟩ := hP
  have fr : zFr NwW z1 z2 := zFr_mono (fun q _ hq => by
    unfold LdW at hq
    unfold NwW
    omega) p1
  have st : zSt B1 z1 z2 := fr.st (fun q hq => ⟨(hB q hq).2, fun hw => nB q hw hq⟩)
  have n114 : ¬ LdW 109 114 := by unfold LdW; omega
  have w114 := p1.2 114 (by omega) n114
  have w102 := p1.2 102 (by omega) (by unfold LdW; omega)
  have C2 : CS z2 := CS_fr fr hz p2 (by rw [w114.1]; simp only [hall0]) h0
  have Bt := hH.1.1
  have wt := st t Bt
  have ag2 : agC v1 (zu1 w 9 x) := agC_zu hag (by omega)
  refine ⟨⟨C2, ⟨?_, ?_, ?_, ?_⟩, ((hH.st st).ag ag2).mono p4, ((hR.st st).ag ag2).mono p4, ?_, ?_, ?_, ?_, ?_⟩, fr⟩
  · rw [w102.2.2.1]; exact h1
  · rw [p3]; exact h2
  · rw [wt.2.2.1]; exact h3
  · rw [p3]; exact h4
  · obtain ⟨q1, q2, q3⟩ := p6
    refine ⟨by rw [zu1_n _ _ _ (by omega)]; exact q1, by rw [zu1_n _ _ _ (by omega)]; exact q2, fun i hi => ?_⟩
    rw [zu1_n _ _ _ (by omega)] at hi
    obtain ⟨a1, a2, a3, a4⟩ := q3 i hi
    refine ⟨a1, a2, a3, fun j hj => ?_⟩
    rw [zu1_n _ _ _ (by omega)]
    exact a4 j hj
  · intro y hy
    rw [zu1_n _ _ _ (by omega)]
    exact p7 y hy
  · rw [h5, zu1_s]
  · obtain ⟨q1, q2, q3⟩ := hE
    have hls : zls z2 (102 + 12) = zls z1 (102 + 12) := w114.2.2.2.2.2.2.2
    refine ⟨by rw [hls, zu1_n _ _ _ (by omega), h8']; exact q1, by rw [zu1_n _ _ _ (by omega), h8']; exact q2, fun i hi => ?_⟩
    rw [zu1_n _ _ _ (by omega), h8'] at hi
    obtain ⟨a1, a2, a3, a4⟩ := q3 i hi
    obtain ⟨s1, s2, s3⟩ := st _ a2
    refine ⟨by rw [hls]; exact a1, p4 _ a2, by rw [s1]; exact a3, fun j hj => ?_⟩
    rw [s2, zu1_n _ _ _ (by omega), hd _ (by omega)]
    exact a4 j hj
  · rw [w102.2.1, zu1_n _ _ _ (by omega), h6']; exact h6
theorem c20 (h : NW B z v L t hl kn rl ha ra da ea) (hB : ∀ q, B q → 100 ≤ q ∧ q < zn z) (nB : ∀ q, NwW q → ¬ B q) (hz : 162 ≤ zn z) (hw : WF v L K) (hKb : K < 400000000) (hLl : ∀ t, t < v 2 → (L t).length ≤ 350) (hd : 1100 ≤ d) {a b p : Int32} (H : ∀ z2, NwP B z z2 (rDoes v L a b p).2 L t hl kn rl ha ra 4 2411 → Q (.inl (some (.int (rDoes v L a b p).1))) z2) : ZC zG d 20 [.ref 100, .int a, .int b, .int p] z Q := by
  obtain ⟨d, rfl⟩ : ∃ d', d = d' + 6 := ⟨d - 6, by omega⟩
  have hw0 := hw
  obtain ⟨hWB, hWT, hWK, hWD, hWE, hWC, hW9⟩ := hw
  have hv : ∀ i, v i < 1073741824 := fun i => by have := hWB i; omega
  have c := fun d Q => c13 (d := d) (Q := Q) h (a := a) (b := b)
  have c15' := fun d Q a b p ha hb hp => c15 (d := d) (Q := Q) h hWK hv (a := a) (b := b) (p := p) ha hb hp
  have same : NwP B z z v L t hl kn rl ha ra 4 2411 := ⟨B, da, ea, h, zFr_refl _ _, fun q h => h, fun q hq => ⟨(hB q hq).1, (hB q hq).2, Or.inl hq⟩, by omega, by omega⟩
  obtain ⟨dk1, dk2, dk3⟩ := deed_ok h hB hz
  have hNW := h
  obtain ⟨h0, ⟨h1, h2, h3, h4⟩, hH, hR, hD, hK, h9, hE, h6⟩ := h
  unfold CS at h0
  have h16 : v 0 ≤ 16 := hH.2.2.2.1.2
  cases hh : are2 v a b with
  | false =>
    have e : rDoes v L a b p = (-2, v) := by unfold rDoes; simp [hh]
    rw [e] at H
    simp (disch := omega) only [e20, s20_0, s20_1, s20_2, s20_3, s20_6, s20_9, s20_10, s20_11, s20_12, s20_15, s20_18, s20_21, s20_23, s20_24, s20_25, s20_26, s20_27, s20_28, s20_31, s20_34, s20_36, s20_37, s20_38, s20_41, s20_44, s20_49, s20_52, s20_55, s20_57, s20_58, s20_59, s20_62, s20_65, s20_68, s20_69, s20_70, s20_71, s20_72, s20_73, s20_76, s20_79, s20_82, s20_87, s20_88, s20_89, s20_92, s20_95, s20_96, s20_97, s20_98, s20_101, s20_102, s20_103, s20_104, s20_107, s20_110, s20_113, zcs_0, zcs_1, zcs_2, zcs_3, zcs_4, zcs_5, zcs_6, zcs_7, znl_i, znl_r, znl_n, Bool.and_true, Bool.true_and, zk_v, zk_n, zk_x, zir_r, zir_n, zclr_i, zclr_r, zclr_n, zclr_d, zclr_l, true_and, and_true, and_self, if_true, if_false, reduceIte, nI_add, pk_mul, zin_ok, zx_nI, nI_lt2, nI_le2, nI_eq2, nI_l0, nI_g0, nI_q0, nI_p0, nI_n0, nI_m1, Nat.add_zero, Nat.zero_add, Nat.reduceAdd, Nat.reduceMul, true_or, or_true, znar_50, bI_0, bI_1, bI_z, bft, nI_z0, nI_z1, lgc_lt, lgc_gt, lgc_le, lgc_ge, lgc_eq, not_true_eq_false, not_false_eq_true, Bool.not_eq_true, Bool.not_eq_false, reduceCtorEq, h0, c, hh]
    exact H z same
  | true =>
    cases hzp : zin p 4 with
    | false =>
      have e : rDoes v L a b p = (-2, v) := by unfold rDoes; simp [hzp]
      rw [e] at H
      simp (disch := omega) only [e20, s20_0, s20_1, s20_2, s20_3, s20_6, s20_9, s20_10, s20_11, s20_12, s20_15, s20_18, s20_21, s20_23, s20_24, s20_25, s20_26, s20_27, s20_28, s20_31, s20_34, s20_36, s20_37, s20_38, s20_41, s20_44, s20_49, s20_52, s20_55, s20_57, s20_58, s20_59, s20_62, s20_65, s20_68, s20_69, s20_70, s20_71, s20_72, s20_73, s20_76, s20_79, s20_82, s20_87, s20_88, s20_89, s20_92, s20_95, s20_96, s20_97, s20_98, s20_101, s20_102, s20_103, s20_104, s20_107, s20_110, s20_113, zcs_0, zcs_1, zcs_2, zcs_3, zcs_4, zcs_5, zcs_6, zcs_7, znl_i, znl_r, znl_n, Bool.and_true, Bool.true_and, zk_v, zk_n, zk_x, zir_r, zir_n, zclr_i, zclr_r, zclr_n, zclr_d, zclr_l, true_and, and_true, and_self, if_true, if_false, reduceIte, nI_add, pk_mul, zin_ok, zx_nI, nI_lt2, nI_le2, nI_eq2, nI_l0, nI_g0, nI_q0, nI_p0, nI_n0, nI_m1, Nat.add_zero, Nat.zero_add, Nat.reduceAdd, Nat.reduceMul, true_or, or_true, znar_50, bI_0, bI_1, bI_z, bft, nI_z0, nI_z1, lgc_lt, lgc_gt, lgc_le, lgc_ge, lgc_eq, not_true_eq_false, not_false_eq_true, Bool.not_eq_true, Bool.not_eq_false, reduceCtorEq, h0, c, c2, lin_c, hh, hzp]
      exact H z same
    | true =>
      obtain ⟨i, j, g1, g2, g3, g4, g5, rfl, rfl⟩ := are2_of hh
      obtain ⟨k, hk, hk2, rfl⟩ := zin_of hzp
      have e : rDoes v L (nI i) (nI j) (nI k) = if ¬ sBars v i j (nI k) = 0 then (-5, v) else if v 8 = 600 then (-3, v) else (nI (sNotes v L i j k).2, (sNotes v L i j k).1) := by
        unfold rDoes
        rw [hh, hzp, zx_nI g4, zx_nI g5, zx_nI hk2]
        rfl
      by_cases hb : sBars v i j (nI k) = 0
      · rw [if_neg (by simp [hb])] at e
        have h8 := hWE.1
        by_cases h600 : v 8 = 600
        · rw [if_pos h600] at e
          rw [e] at H
          simp (disch := omega) only [e20, s20_0, s20_1, s20_2, s20_3, s20_6, s20_9, s20_10, s20_11, s20_12, s20_15, s20_18, s20_21, s20_23, s20_24, s20_25, s20_26, s20_27, s20_28, s20_31, s20_34, s20_36, s20_37, s20_38, s20_41, s20_44, s20_49, s20_52, s20_55, s20_57, s20_58, s20_59, s20_62, s20_65, s20_68, s20_69, s20_70, s20_71, s20_72, s20_73, s20_76, s20_79, s20_82, s20_87, s20_88, s20_89, s20_92, s20_95, s20_96, s20_97, s20_98, s20_101, s20_102, s20_103, s20_104, s20_107, s20_110, s20_113, zcs_0, zcs_1, zcs_2, zcs_3, zcs_4, zcs_5, zcs_6, zcs_7, znl_i, znl_r, znl_n, Bool.and_true, Bool.true_and, zk_v, zk_n, zk_x, zir_r, zir_n, zclr_i, zclr_r, zclr_n, zclr_d, zclr_l, true_and, and_true, and_self, if_true, if_false, reduceIte, nI_add, pk_mul, zin_ok, zx_nI, nI_lt2, nI_le2, nI_eq2, nI_l0, nI_g0, nI_q0, nI_p0, nI_n0, nI_m1, Nat.add_zero, Nat.zero_add, Nat.reduceAdd, Nat.reduceMul, true_or, or_true, znar_50, bI_0, bI_1, bI_z, bft, nI_z0, nI_z1, lgc_lt, lgc_gt, lgc_le, lgc_ge, lgc_eq, not_true_eq_false, not_false_eq_true, Bool.not_eq_true, Bool.not_eq_false, reduceCtorEq, h0, c, c2, lin_c, hh, hzp, c15', hb, dk3, h600]
          exact H z same
        · rw [if_neg h600] at e
          rw [e] at H
          have hdd := NW_deed hNW hB nB hz (by omega) (a := i) (b := j) (p := k)
          obtain ⟨N1, F1, U1, S1, Z1⟩ := hdd
          have hB1 : ∀ q, (B q ∨ q = zn z) → 100 ≤ q ∧ q < zn (sDd z i j k (v 6)) := fun q hq => by
            rcases hq with hq | hq
            · have := hB q hq; omega
            · omega
          have nB1 : ∀ q, NwW q → ¬ (B q ∨ q = zn z) := fun q hq hh => by
            rcases hh with hh | hh
            · exact nB q hq hh
            · unfold NwW at hq; omega
          have c249' := fun d Q a b c e => c249 (d := d) (z := snew z 22 4) (Q := Q) (r := zn z) cls_snN (a := a) (b := b) (c := c) (e := e)
          have hlt : v 8 < 100000 := by omega
          have hfold : sladd (sfi (sfi (sfi (sfi (snew z 22 4) (zn z) 0 (nI i)) (zn z) 1 (nI j)) (zn z) 2 (nI k)) (zn z) 3 (nI (v 6))) 114 (.ref (zn z)) = sDd z i j k (v 6) := rfl
          simp (disch := omega) only [s20_0, s20_1, s20_2, s20_3, s20_6, s20_9, s20_10, s20_11, s20_12, s20_15, s20_18, s20_21, s20_23, s20_24, s20_25, s20_26, s20_27, s20_28, s20_31, s20_34, s20_36, s20_37, s20_38, s20_41, s20_44, s20_49, s20_52, s20_55, s20_57, s20_58, s20_59, s20_62, s20_65, s20_68, s20_69, s20_70, s20_71, s20_72, s20_73, s20_76, s20_79, s20_82, s20_87, e20, zcs_0, zcs_1, zcs_2, zcs_3, zcs_4, zcs_5, zcs_6, zcs_7, znl_i, znl_r, znl_n, Bool.and_true, Bool.true_and, zk_v, zk_n, zk_x, zir_r, zir_n, zclr_i, zclr_r, zclr_n, zclr_d, zclr_l, true_and, and_true, and_self, if_true, if_false, reduceIte, nI_add, pk_mul, zin_ok, zx_nI, nI_lt2, nI_le2, nI_eq2, nI_l0, nI_g0, nI_q0, nI_p0, nI_n0, nI_m1, Nat.add_zero, Nat.zero_add, Nat.reduceAdd, Nat.reduceMul, true_or, or_true, znar_50, bI_0, bI_1, bI_z, bft, nI_z0, nI_z1, lgc_lt, lgc_gt, lgc_le, lgc_ge, lgc_eq, not_true_eq_false, not_false_eq_true, Bool.not_eq_true, Bool.not_eq_false, reduceCtorEq, h0, c, c2, lin_c, hh, hzp, c15', hb, dk1, dk2, dk3, h600, h6, cls_snL, fr_snL, fi_snL, c249', cls_sfi, ls_sfi, ls_snew, zlel_sfi, hlt, hfold]
          generalize sDd z i j k (v 6) = z1 at N1 F1 U1 S1 Z1 hB1 ⊢
          have hL1 := N1.ls
          have C1 := N1.1
          have hv1 : ∀ q, q < 9 → ¬ q = 8 → sDeed v i j k q = v q := fun q hq hq8 => sDeed_n (by omega) hq8
          have e0 := hv1 0 (by omega) (by omega)
          have e6 := hv1 6 (by omega) (by omega)
          have e7 := hv1 7 (by omega) (by omega)
          have e2 := hv1 2 (by omega) (by omega)
          have wb1 : wB (sDeed v i j k) := by
            intro q
            unfold sDeed zu1
            have := hWB q
            have := hWB 6
            repeat' split
            all_goals omega
          obtain ⟨_, ⟨i1, i2, i3, i4⟩, iH, iR, iD, iK, i9, iE, i6⟩ := N1
          unfold CS at C1
          have hz1 : 162 < zn z1 := by omega
          have pr : ∃ pq, zra z1 117 k = .ref pq ∧ zcls z1 pq = 6 + k ∧ pq < zn z1 := by
            match k, hk with
            | 0, _ => exact ⟨118, by simp only [C1], by simp only [C1], Nat.lt_trans (by decide) hz1⟩
            | 1, _ => exact ⟨119, by simp only [C1], by simp only [C1], Nat.lt_trans (by decide) hz1⟩
            | 2, _ => exact ⟨120, by simp only [C1], by simp only [C1], Nat.lt_trans (by decide) hz1⟩
            | 3, _ => exact ⟨121, by simp only [C1], by simp only [C1], Nat.lt_trans (by decide) hz1⟩
          obtain ⟨pq, pr1, pr2, pr3⟩ := pr
          rw [e6] at i6
          simp (disch := omega) only [s20_88, s20_89, s20_92, s20_95, s20_96, s20_97, s20_98, s20_101, s20_102, s20_103, s20_104, s20_107, zcs_0, zcs_1, zcs_2, zcs_3, zcs_4, zcs_5, zcs_6, zcs_7, znl_i, znl_r, znl_n, Bool.and_true, Bool.true_and, zk_v, zk_n, zk_x, zir_r, zir_n, zclr_i, zclr_r, zclr_n, zclr_d, zclr_l, true_and, and_true, and_self, if_true, if_false, reduceIte, nI_add, pk_mul, zin_ok, zx_nI, nI_lt2, nI_le2, nI_eq2, nI_l0, nI_g0, nI_q0, nI_p0, nI_n0, nI_m1, Nat.add_zero, Nat.zero_add, Nat.reduceAdd, Nat.reduceMul, true_or, or_true, znar_50, bI_0, bI_1, bI_z, bft, nI_z0, nI_z1, lgc_lt, lgc_gt, lgc_le, lgc_ge, lgc_eq, not_true_eq_false, not_false_eq_true, Bool.not_eq_true, Bool.not_eq_false, reduceCtorEq, C1, pr1, i6]
          rw [s20_110]
          refine ⟨by simp only [C1], rfl, ?_⟩
          have hd78 := hWD.1
          have gw := sGoes_wf (v := sDeed v i j k) (L := L) (a := i) (b := j) (p := k) (dy := v 6) wb1 (by omega) (by
            intro x hx
            rw [e0, sDeed_n (q := 1864 + x) (by omega) (by omega)]
            exact hWK x hx) (by
            intro x hx
            rw [e7] at hx
            rw [e0, sDeed_n (q := 1880 + 5 * x) (by omega) (by omega), sDeed_n (q := 1880 + 5 * x + 1) (by omega) (by omega), sDeed_n (q := 1880 + 5 * x + 2) (by omega) (by omega), sDeed_n (q := 1880 + 5 * x + 3) (by omega) (by omega), sDeed_n (q := 1880 + 5 * x + 4) (by omega) (by omega)]
            exact hWD.2 x hx) (by omega) (cOK_c agC_deed hWC) (by omega) (by omega) g3 (by omega) hWE.2.1
          obtain ⟨w1, w2, w3, w4, w5, w6, w7⟩ := gw
          have nBl : ∀ q, LdW 109 q → ¬ (B q ∨ q = zn z) := fun q hq => nB1 q (by unfold LdW at hq; unfold NwW; omega)
          refine c69 (d := d + 5) (l := 109) (z := z1) (v := sDeed v i j k) (L := L) hL1 i2 i4 iH iR iD iK nBl hB1 (by omega) (by omega) wb1 (by rw [e2]; exact hLl) (by omega) (a := i) (b := j) (p := k) (dy := v 6) (by omega) (by omega) g3 hk hWE.2.1 (by omega) pr2 pr3 (fun z2 B2 da2 hP h5 => ?_)
          simp (disch := omega) only [s20_113, zk_v]
          have hN : sNotes v L i j k = (zu1 (sGoes (sDeed v i j k) L i j k (v 6)).1 9 ((sGoes (sDeed v i j k) L i j k (v 6)).1 9 + (sGoes (sDeed v i j k) L i j k (v 6)).2), (sGoes (sDeed v i j k) L i j k (v 6)).2) := sNotes_eq v L i j k
          rw [hN] at H
          dsimp only at H
          refine H z2 ?_
          have hx : zfi z2 109 5 = nI ((sGoes (sDeed v i j k) L i j k (v 6)).1 9 + (sGoes (sDeed v i j k) L i j k (v 6)).2) := by
            rw [h5, i9, w7 9 (by omega), nI_add]
          have NL := NW_led (B1 := fun q => B q ∨ q = zn z) (z1 := z1) (z2 := z2) (v1 := sDeed v i j k) (L := L) ⟨by unfold CS; exact C1, ⟨i1, i2, i3, i4⟩, iH, iR, iD, iK, i9, iE, by rw [e6]; exact i6⟩ hB1 nB1 (by omega) hP w6 (w7 6 (by omega)) (w7 8 (by omega)) (fun q hq => w7 q (Or.inr hq)) hx
          obtain ⟨NL1, NL2⟩ := NL
          obtain ⟨p1, p2, p3, p4, p5, p6, p7, p8, p9, p10, p11, p12⟩ := hP
          refine ⟨B2, da2, _, NL1, zFr_trans F1 NL2, fun q hq => p4 q (Or.inl hq), fun q hq => ?_, by omega, by omega⟩
          obtain ⟨y1, y2, y3⟩ := p5 q hq
          refine ⟨y1, y2, ?_⟩
          rcases y3 with (y3 | y3) | y3
          · exact Or.inl y3
          · exact Or.inr (by omega)
          · exact Or.inr (by omega)
      · rw [if_pos hb] at e
        rw [e] at H
        simp (disch := omega) only [e20, s20_0, s20_1, s20_2, s20_3, s20_6, s20_9, s20_10, s20_11, s20_12, s20_15, s20_18, s20_21, s20_23, s20_24, s20_25, s20_26, s20_27, s20_28, s20_31, s20_34, s20_36, s20_37, s20_38, s20_41, s20_44, s20_49, s20_52, s20_55, s20_57, s20_58, s20_59, s20_62, s20_65, s20_68, s20_69, s20_70, s20_71, s20_72, s20_73, s20_76, s20_79, s20_82, s20_87, s20_88, s20_89, s20_92, s20_95, s20_96, s20_97, s20_98, s20_101, s20_102, s20_103, s20_104, s20_107, s20_110, s20_113, zcs_0, zcs_1, zcs_2, zcs_3, zcs_4, zcs_5, zcs_6, zcs_7, znl_i, znl_r, znl_n, Bool.and_true, Bool.true_and, zk_v, zk_n, zk_x, zir_r, zir_n, zclr_i, zclr_r, zclr_n, zclr_d, zclr_l, true_and, and_true, and_self, if_true, if_false, reduceIte, nI_add, pk_mul, zin_ok, zx_nI, nI_lt2, nI_le2, nI_eq2, nI_l0, nI_g0, nI_q0, nI_p0, nI_n0, nI_m1, Nat.add_zero, Nat.zero_add, Nat.reduceAdd, Nat.reduceMul, true_or, or_true, znar_50, bI_0, bI_1, bI_z, bft, nI_z0, nI_z1, lgc_lt, lgc_gt, lgc_le, lgc_ge, lgc_eq, not_true_eq_false, not_false_eq_true, Bool.not_eq_true, Bool.not_eq_false, reduceCtorEq, h0, c, c2, lin_c, hh, hzp, c15', hb]
        exact H z same
theorem c21 (h : NW B z v L t hl kn rl ha ra da ea) (hB : ∀ q, B q → 100 ≤ q ∧ q < zn z) (nB : ∀ q, NwW q → ¬ B q) (hz : 162 ≤ zn z) (hw : WF v L K) {a b : Int32} (H : ∀ z2, NwP B z z2 (rMeet v L a b).2 L t hl kn rl ha ra 4 2411 → Q (.inl (some (.int (rMeet v L a b).1))) z2) : ZC zG (d + 6) 21 [.ref 100, .int a, .int b] z Q := by
  obtain ⟨hWB, hWT, hWK, hWD, hWE, hWC, hW9⟩ := hw
  have c := fun d Q => c13 (d := d) (Q := Q) h (a := a) (b := b)
  have same : NwP B z z v L t hl kn rl ha ra 4 2411 := ⟨B, da, ea, h, zFr_refl _ _, fun q h => h, fun q hq => ⟨(hB q hq).1, (hB q hq).2, Or.inl hq⟩, by omega, by omega⟩
  obtain ⟨dk1, dk2, dk3⟩ := deed_ok h hB hz
  have hNW := h
  have hL := h.ls
  obtain ⟨h0, ⟨h1, h2, h3, h4⟩, hH, hR, hD, hK, h9, hE, h6⟩ := h
  unfold CS at h0
  have h16 : v 0 ≤ 16 := hH.2.2.2.1.2
  cases hh : are2 v a b with
  | false =>
    have e : rMeet v L a b = (-2, v) := by unfold rMeet; simp [hh]
    rw [e] at H
    simp (disch := omega) only [e21, s21_0, s21_1, s21_2, s21_3, s21_6, s21_9, s21_11, s21_12, s21_13, s21_16, s21_19, s21_24, s21_27, s21_30, s21_32, s21_33, s21_34, s21_37, s21_40, s21_41, s21_42, s21_45, s21_48, s21_49, s21_52, s21_53, s21_54, s21_55, s21_58, s21_61, s21_64, s21_65, s21_66, s21_67, s21_68, s21_69, s21_72, s21_75, s21_78, s21_83, s21_84, s21_85, s21_88, s21_91, s21_92, s21_93, s21_96, s21_97, zcs_0, zcs_1, zcs_2, zcs_3, zcs_4, zcs_5, zcs_6, zcs_7, znl_i, znl_r, znl_n, Bool.and_true, Bool.true_and, zk_v, zk_n, zk_x, zir_r, zir_n, zclr_i, zclr_r, zclr_n, zclr_d, zclr_l, true_and, and_true, and_self, if_true, if_false, reduceIte, nI_add, pk_mul, zin_ok, zx_nI, nI_lt2, nI_le2, nI_eq2, nI_l0, nI_g0, nI_q0, nI_p0, nI_n0, nI_m1, Nat.add_zero, Nat.zero_add, Nat.reduceAdd, Nat.reduceMul, true_or, or_true, znar_50, bI_0, bI_1, bI_z, bft, nI_z0, nI_z1, lgc_lt, lgc_gt, lgc_le, lgc_ge, lgc_eq, not_true_eq_false, not_false_eq_true, Bool.not_eq_true, Bool.not_eq_false, reduceCtorEq, h0, c, hh]
    exact H z same
  | true =>
    obtain ⟨i, j, g1, g2, g3, g4, g5, rfl, rfl⟩ := are2_of hh
    have e : rMeet v L (nI i) (nI j) = if v 8 = 600 then (-3, v) else (bI (!hasI (nI (v (1864 + i))) (nI j)), (sNotes v L i j 4).1) := by
      unfold rMeet
      rw [hh, zx_nI g4, zx_nI g5]
      rfl
    have h8 := hWE.1
    by_cases h600 : v 8 = 600
    · rw [if_pos h600] at e
      rw [e] at H
      simp (disch := omega) only [e21, s21_0, s21_1, s21_2, s21_3, s21_6, s21_9, s21_11, s21_12, s21_13, s21_16, s21_19, s21_24, s21_27, s21_30, s21_32, s21_33, s21_34, s21_37, s21_40, s21_41, s21_42, s21_45, s21_48, s21_49, s21_52, s21_53, s21_54, s21_55, s21_58, s21_61, s21_64, s21_65, s21_66, s21_67, s21_68, s21_69, s21_72, s21_75, s21_78, s21_83, s21_84, s21_85, s21_88, s21_91, s21_92, s21_93, s21_96, s21_97, zcs_0, zcs_1, zcs_2, zcs_3, zcs_4, zcs_5, zcs_6, zcs_7, znl_i, znl_r, znl_n, Bool.and_true, Bool.true_and, zk_v, zk_n, zk_x, zir_r, zir_n, zclr_i, zclr_r, zclr_n, zclr_d, zclr_l, true_and, and_true, and_self, if_true, if_false, reduceIte, nI_add, pk_mul, zin_ok, zx_nI, nI_lt2, nI_le2, nI_eq2, nI_l0, nI_g0, nI_q0, nI_p0, nI_n0, nI_m1, Nat.add_zero, Nat.zero_add, Nat.reduceAdd, Nat.reduceMul, true_or, or_true, znar_50, bI_0, bI_1, bI_z, bft, nI_z0, nI_z1, lgc_lt, lgc_gt, lgc_le, lgc_ge, lgc_eq, not_true_eq_false, not_false_eq_true, Bool.not_eq_true, Bool.not_eq_false, reduceCtorEq, h0, c, hh, dk3, h600]
      exact H z same
    · rw [if_neg h600] at e
      rw [e] at H
      have hdd := NW_deed hNW hB nB hz (by omega) (a := i) (b := j) (p := 4)
      obtain ⟨N1, F1, U1, S1, Z1⟩ := hdd
      have hB1 : ∀ q, (B q ∨ q = zn z) → 100 ≤ q ∧ q < zn (sDd z i j 4 (v 6)) := fun q hq => by
        rcases hq with hq | hq
        · have := hB q hq; omega
        · omega
      have nB1 : ∀ q, NwW q → ¬ (B q ∨ q = zn z) := fun q hq hh => by
        rcases hh with hh | hh
        · exact nB q hq hh
        · unfold NwW at hq; omega
      have c249' := fun d Q a b c e => c249 (d := d) (z := snew z 22 4) (Q := Q) (r := zn z) cls_snN (a := a) (b := b) (c := c) (e := e)
      have hlt : v 8 < 100000 := by omega
      have hfold : sladd (sfi (sfi (sfi (sfi (snew z 22 4) (zn z) 0 (nI i)) (zn z) 1 (nI j)) (zn z) 2 (nI 4)) (zn z) 3 (nI (v 6))) 114 (.ref (zn z)) = sDd z i j 4 (v 6) := rfl
      have ck := fun d Q => c68 (d := d) (z := z) (v := v) (Q := Q) hL hK (a := i) (b := nI j) (by omega)
      have rest : ∀ x : Int32, Q (.inl (some (.int x))) (sia (sia (sDd z i j 4 (v 6)) 110 i (nI (sDeed v i j 4 (1864 + i) ||| 2 ^ j))) 110 j (nI (sDeed v i j 4 (1864 + j) ||| 2 ^ i))) → ZW zG (d + 6) 21 84 [.ref 100, .int (nI i), .int (nI j), .int x] [] (sDd z i j 4 (v 6)) Q := by
        intro x hx
        have C1 := N1.1
        unfold CS at C1
        have cm := fun d Q => c73 (d := d) (z := sDd z i j 4 (v 6)) (Q := Q) N1.ls N1.2.2.2.2.2.1 (a := i) (b := j) (by omega) (by omega) g3
        simp only [Nat.reduceAdd] at cm
        simp (disch := omega) only [s21_84, s21_85, s21_88, s21_91, s21_92, s21_93, s21_96, s21_97, zcs_0, zcs_1, zcs_2, zcs_3, zcs_4, zcs_5, zcs_6, zcs_7, znl_i, znl_r, znl_n, Bool.and_true, Bool.true_and, zk_v, zk_n, zk_x, zir_r, zir_n, zclr_i, zclr_r, zclr_n, zclr_d, zclr_l, true_and, and_true, and_self, if_true, if_false, reduceIte, nI_add, pk_mul, zin_ok, zx_nI, nI_lt2, nI_le2, nI_eq2, nI_l0, nI_g0, nI_q0, nI_p0, nI_n0, nI_m1, Nat.add_zero, Nat.zero_add, Nat.reduceAdd, Nat.reduceMul, true_or, or_true, znar_50, bI_0, bI_1, bI_z, bft, nI_z0, nI_z1, lgc_lt, lgc_gt, lgc_le, lgc_ge, lgc_eq, not_true_eq_false, not_false_eq_true, Bool.not_eq_true, Bool.not_eq_false, reduceCtorEq, C1, cm]
        exact hx
      have fin : NwP B z (sia (sia (sDd z i j 4 (v 6)) 110 i (nI (sDeed v i j 4 (1864 + i) ||| 2 ^ j))) 110 j (nI (sDeed v i j 4 (1864 + j) ||| 2 ^ i))) (sNotes v L i j 4).1 L t hl kn rl ha ra 4 2411 := by
        have hN : (sNotes v L i j 4).1 = zu1 (sMeets (sDeed v i j 4) i j) 9 (sMeets (sDeed v i j 4) i j 9 + 0) := rfl
        rw [hN, Nat.add_zero]
        generalize sDd z i j 4 (v 6) = z1 at N1 F1 U1 S1 Z1 hB1
        have st1 : zSt (fun q => B q ∨ q = zn z) z1 (sia (sia z1 110 i (nI (sDeed v i j 4 (1864 + i) ||| 2 ^ j))) 110 j (nI (sDeed v i j 4 (1864 + j) ||| 2 ^ i))) := zSt_sia (zSt_sia (zSt_refl _ _) (nB1 110 (by unfold NwW; omega))) (nB1 110 (by unfold NwW; omega))
        have fr1 : zFr (LdW 109) z1 (sia (sia z1 110 i (nI (sDeed v i j 4 (1864 + i) ||| 2 ^ j))) 110 j (nI (sDeed v i j 4 (1864 + j) ||| 2 ^ i))) := zFr_sia (zFr_sia (zFr_refl _ _) (Or.inr (Or.inr (Or.inl rfl)))) (Or.inr (Or.inr (Or.inl rfl)))
        have D1 := RDe.st st1 (l := 109) rfl N1.2.2.2.2.1
        have hz1 : 162 < zn z1 := by omega
        have hP : LdP (fun q => B q ∨ q = zn z) z1 (sia (sia z1 110 i (nI (sDeed v i j 4 (1864 + i) ||| 2 ^ j))) 110 j (nI (sDeed v i j 4 (1864 + j) ||| 2 ^ i))) 109 (fun q => B q ∨ q = zn z) da (sMeets (sDeed v i j 4) i j) := by
          refine ⟨fr1, N1.ls, rfl, fun q h => h, fun q h => ⟨(hB1 q h).1, (hB1 q h).2, Or.inl h⟩, ?_, RKn_meets N1.2.2.2.2.2.1 (by omega) (by omega) g3, ?_, ?_, ?_, ?_, ?_⟩
          · obtain ⟨q1, q2, q3⟩ := D1
            have e7 : sMeets (sDeed v i j 4) i j 7 = sDeed v i j 4 7 := sMeets_0 (by omega) (by omega) (by omega)
            refine ⟨by rw [e7]; exact q1, by rw [e7]; exact q2, fun x hx => ?_⟩
            rw [e7] at hx
            obtain ⟨w1, w2, w3, w4⟩ := q3 x hx
            refine ⟨w1, w2, w3, fun y hy => ?_⟩
            rw [sMeets_0 (by omega) (by omega) (by omega)]
            exact w4 y hy
          · show zuc z1 ≤ zuc z1 ∧ zuc z1 ≤ zuc z1 + 2
            omega
          · show zus z1 ≤ zus z1 ∧ zus z1 + 4 * capL z1 (109 + 2) ≤ zus z1 + 5 + 4 * capL z1 (109 + 2)
            omega
          · show capL z1 (109 + 2) ≤ max (capL z1 (109 + 2)) 1201
            omega
          · exact Nat.le_refl _
          · show zus z1 ≤ zus z1 + 1206
            omega
        have hx : zfi (sia (sia z1 110 i (nI (sDeed v i j 4 (1864 + i) ||| 2 ^ j))) 110 j (nI (sDeed v i j 4 (1864 + j) ||| 2 ^ i))) 109 5 = nI (sMeets (sDeed v i j 4) i j 9) := by
          rw [sMeets_0 (by omega) (by omega) (by omega)]
          exact N1.2.2.2.2.2.2.1
        obtain ⟨NL1, NL2⟩ := NW_led N1 hB1 nB1 (by omega) hP (agC_meets (agC_refl _)) (sMeets_0 (by omega) (by omega) (by omega)) (sMeets_0 (by omega) (by omega) (by omega)) (fun q hq => sMeets_0 (by omega) (by omega) (by omega)) hx
        refine ⟨_, _, _, NL1, zFr_trans F1 NL2, fun q hq => Or.inl hq, fun q hq => ⟨(hB1 q hq).1, (hB1 q hq).2, ?_⟩, ?_, ?_⟩
        · rcases hq with hq | hq
          · exact Or.inl hq
          · exact Or.inr (by omega)
        · show zuc z ≤ zuc z1 ∧ zuc z1 ≤ zuc z + 4
          omega
        · show zus z ≤ zus z1 ∧ zus z1 ≤ zus z + 2411
          omega
      have H1 := H _ fin
      dsimp only at H1
      cases hk : hasI (nI (v (1864 + i))) (nI j) <;>
      · rw [hk] at H1 ck
        simp (disch := omega) only [s21_0, s21_1, s21_2, s21_3, s21_6, s21_9, s21_11, s21_12, s21_13, s21_16, s21_19, s21_24, s21_27, s21_30, s21_32, s21_33, s21_34, s21_37, s21_40, s21_41, s21_42, s21_45, s21_48, s21_49, s21_52, s21_53, s21_54, s21_55, s21_58, s21_61, s21_64, s21_65, s21_66, s21_67, s21_68, s21_69, s21_72, s21_75, s21_78, s21_83, e21, zcs_0, zcs_1, zcs_2, zcs_3, zcs_4, zcs_5, zcs_6, zcs_7, znl_i, znl_r, znl_n, Bool.and_true, Bool.true_and, zk_v, zk_n, zk_x, zir_r, zir_n, zclr_i, zclr_r, zclr_n, zclr_d, zclr_l, true_and, and_true, and_self, if_true, if_false, reduceIte, nI_add, pk_mul, zin_ok, zx_nI, nI_lt2, nI_le2, nI_eq2, nI_l0, nI_g0, nI_q0, nI_p0, nI_n0, nI_m1, Nat.add_zero, Nat.zero_add, Nat.reduceAdd, Nat.reduceMul, true_or, or_true, znar_50, bI_0, bI_1, bI_z, bft, nI_z0, nI_z1, lgc_lt, lgc_gt, lgc_le, lgc_ge, lgc_eq, not_true_eq_false, not_false_eq_true, Bool.not_eq_true, Bool.not_eq_false, reduceCtorEq, h0, c, hh, dk1, dk2, dk3, h600, h6, ck, cls_snL, fr_snL, fi_snL, c249', cls_sfi, ls_sfi, ls_snew, zlel_sfi, hlt, hfold]
        exact rest _ H1
end CO

