set_option maxRecDepth 100000
/-! pairs of calls: what writes -/
section AK
variable {sc : Nat → Int32} {n j : Nat}
variable {B B2 : Nat → Prop} {lab : Nat → Nat} {v v2 : Nat → Nat} {L L2 : Nat → List (Nat × Nat)} {hs : Nat → Bool} {vI : Nat → Nat → Nat} {LI : Nat → Nat → List (Nat × Nat)} {tp tp2 : Nat} {tb tb2 : Nat → Int32} {fk fp fk2 fp2 : Int32} {hd : Nat → Bool} {sn sw : Nat → Nat} {sv : Nat → Nat → Int64} {z z2 : ZH} {W : Nat → Prop} {K : Nat}
theorem WP_v {K2 : Nat} (h : WP K v L hs vI LI tp tb hd sn sw sv) (hK : K ≤ K2) (hv : wOK v2 L2 K2) : WP K2 v2 L2 hs vI LI tp tb hd sn sw sv := ⟨hv, fun k a b => wOK_le (h.2.1 k a b) hK, h.2.2⟩
theorem wOK_ag {K2 : Nat} (h : wOK v L K) (hw : WF v2 L K2) (ag : agC v v2) : wOK v2 L K2 := ⟨hw, fun t ht => h.2 t (by rw [ag 2 (by omega)] at ht; exact ht)⟩
theorem MR_fe (h : MR v hs vI tp tb fk fp hd sn sw sv z) (hm : MS z2) (hi : ∀ q, q = 136 ∨ q = 137 ∨ q = 138 ∨ q = 158 ∨ q = 159 → zia z2 q = zia z q) (hl : zla z2 160 = zla z 160) (hf : mFe tp2 tb2 fk2 fp2 z2) : MR v hs vI tp2 tb2 fk2 fp2 hd sn sw sv z2 := by
  obtain ⟨h1, h2, h3, h4, h5⟩ := h
  refine ⟨hm, fun i => by rw [hi 136 (by omega)]; exact h2 i, ?_, ?_, hf⟩
  · unfold mIM at h3 ⊢
    rw [hi 138 (by omega), hi 137 (by omega)]
    exact h3
  · unfold mSL at h4 ⊢
    rw [hi 158 (by omega), hi 159 (by omega), hl]
    exact h4
/-- now's world written by the component, the model's part goes on -/
theorem MR_wd (h : MR v hs vI tp tb fk fp hd sn sw sv z) : MR v2 hs vI tp tb fk fp hd sn sw sv (sW z v2) := MR_w h (mFr_refl z)
theorem pr11 {a : Int32} (hj : j < 64) : Pr sc n j 11 140 [.int a] := by
  intro z Q h H
  have hup := Rel_up h
  obtain ⟨v, L, hs, vI, LI, tp, tb, fk, fp, hd, sn, sw, sv, ⟨B, lab, hC⟩, hM, hW, hS, hu, hus⟩ := h
  obtain ⟨t, hl, rl, ha, ra, da, ea, hN, ht, hBt⟩ := CR_nw hC
  have e6 : zfi z 102 3 = nI (v 6) := hN.2.2.2.2.2.2.2.2
  refine Eq.mpr (c11 (d := 1499) hC.2.1 e6 (wOK_30 hW.1)) ?_
  have hw : ∀ i, ¬ i = 6 → (rDays v a).2 i = v i := fun i hi => by
    unfold rDays
    split
    · exact zu1_n _ _ _ hi
    · rfl
  have h6 : (rDays v a).2 6 ≤ 399 := by
    unfold rDays
    split
    · rename_i hc
      rw [Bool.and_eq_true] at hc
      have := of_decide_eq_true hc.2
      dsimp only
      rw [zu1_s]
      exact this
    · exact wOK_6 hW.1
  have hB : wB (rDays v a).2 := fun i => by
    by_cases e : i = 6
    · rw [e]; omega
    · rw [hw i e]; exact hW.1.1.1 i
  generalize hw0 : (rDays v a).2 = w at hw h6 hB ⊢
  have nB : ¬ B 102 := fun hq => by have := CR_B hC _ hq; omega
  have F : zFr (fun q => q = 102) z (sfi z 102 3 (nI (w 6))) := zFr_sfi (zFr_refl _ _) (Or.inr rfl)
  have hC1 := CR_go hC F (fun q w => by unfold okW; omega) hC.2.1 (RS_day hC.2.2.1 nB hw) (fun q hq => hq) (fun q hq => Or.inl hq) (cFe_fr hC.2.2.2.2.2.2 hC.1 F (by omega) (by omega))
  have hM1 := MR_fr hM F hC.1 (fun q w => by omega)
  have hS1 := scr_fr hS F hC.1 (fun q w => by omega)
  have e1 : zuc (sfi z 102 3 (nI (w 6))) = zuc z := rfl
  have e2 : zus (sfi z 102 3 (nI (w 6))) = zus z := rfl
  generalize sfi z 102 3 (nI (w 6)) = z1 at *
  refine H _ z1 (MR_135 hM1) hS1 (fun Q2 H2 => ?_)
  refine Eq.mpr (MR_zc hM1) ?_
  refine Eq.mpr (m140 (d := 1499) hM1.1 (wOK_30 hW.1)) ?_
  rw [hw0]
  have hok : wOK w L (12000 * j) := ⟨WF_ag6 (fun i _ hi => hw i hi) h6 hB hW.1.1, fun t ht => hW.1.2 t (by rw [hw 2 (by omega)] at ht; exact ht)⟩
  exact H2 _ (Rel_m ⟨_, _, hC1⟩ mSt_sW (MR_wd hM1) (WP_v hW (Nat.le_refl _) hok) (by omega) hS1 (by omega) (by omega))
/-! the tape -/
theorem sb_8 : ∀ m, m < 256 → (Int8.ofNat m).toInt32 = sb m := by decide +kernel
theorem byt_sb (x : Int32) (i : Nat) : ∃ b, b < 256 ∧ byt x i = sb b := by
  unfold byt
  generalize (x >>> (nI (24 - 8 * i) &&& 31)).toInt8 = y
  refine ⟨y.toUInt8.toNat, y.toUInt8.toNat_lt, ?_⟩
  rw [← sb_8 _ y.toUInt8.toNat_lt]
  congr 1
  show y = ⟨UInt8.ofNat y.toUInt8.toNat⟩
  rw [UInt8.ofNat_toNat]
theorem nI_any (x : Int32) : nI x.toUInt32.toNat = x := by
  show (⟨UInt32.ofNat x.toUInt32.toNat⟩ : Int32) = x
  rw [UInt32.ofNat_toNat]
theorem pr6 {a b c e f : Int32} (hj : j < 64) : Pr sc n j 6 116 [.int a, .int b, .int c, .int e, .int f] := by
  intro z Q h H
  have hup := Rel_up h
  obtain ⟨v, L, hs, vI, LI, tp, tb, fk, fp, hd, sn, sw, sv, ⟨B, lab, hC⟩, hM, hW, hS, hu, hus⟩ := h
  obtain ⟨t, hl, rl, ha, ra, da, ea, hN, ht, hBt⟩ := CR_nw hC
  have f6 : zfi z 100 6 = nI tp := hC.2.2.2.2.2.2.1
  have g5 : zfi z 135 5 = nI tp := hM.2.2.2.2.1
  have htp := hW.2.2.1.1
  by_cases h20 : tp + 20 ≤ 1400
  rotate_left
  · refine Eq.mpr (c6n (d := 1499) hC.2.1 htp f6 (by omega)) ?_
    refine H _ z (MR_135 hM) hS (fun Q2 H2 => ?_)
    refine Eq.mpr (m116n (d := 1500) hM.1 htp g5 (by omega)) ?_
    exact H2 z hup
  · refine Eq.mpr (c6 (d := 1499) hC.2.1 f6 h20 (zia z 140)) ?_
    have F : zFr (fun q => q = 100 ∨ q = 127) z (sfi (sIA z 127 (tpF (zia z 127) tp (fv5 a b c e f (zia z 140)) 20)) 100 6 (nI (tp + 20))) := zFr_sfi (zFr_sIA (zFr_refl _ _) (Or.inr (Or.inr rfl))) (Or.inr (Or.inl rfl))
    have hf : cFe (tp + 20) (tpF tb tp (fv5 a b c e f (zia z 140)) 20) fk fp (sfi (sIA z 127 (tpF (zia z 127) tp (fv5 a b c e f (zia z 140)) 20)) 100 6 (nI (tp + 20))) := by
      obtain ⟨x1, x2, x3, x4⟩ := hC.2.2.2.2.2.2
      refine ⟨by rw [fi_sfi, zu2_s], fun k hk => ?_, by rw [fi_sfi, zu2_k _ _ _ _ (by omega)]; exact x3, by rw [fi_sfi, zu2_k _ _ _ _ (by omega)]; exact x4⟩
      rw [ia_sfi, ia_sIA, zu1_s]
      unfold tpF
      split
      · rfl
      · exact x2 k hk
    have hC1 := CR_go hC F (fun q w => by unfold okW; omega) hC.2.1 (RS_fr hC.2.2.1 F (by have := hC.1; omega) (fun q _ _ => by omega) (BK_W hC.2.2.2.1 (fun q w => by unfold okW; omega))) (fun q hq => hq) (fun q hq => Or.inl hq) hf
    have hM1 := MR_fr hM F hC.1 (fun q w => by omega)
    have hS1 := scr_fr hS F hC.1 (fun q w => by omega)
    have e1 : zuc (sfi (sIA z 127 (tpF (zia z 127) tp (fv5 a b c e f (zia z 140)) 20)) 100 6 (nI (tp + 20))) = zuc z := rfl
    have e2 : zus (sfi (sIA z 127 (tpF (zia z 127) tp (fv5 a b c e f (zia z 140)) 20)) 100 6 (nI (tp + 20))) = zus z := rfl
    have e3 : zia (sfi (sIA z 127 (tpF (zia z 127) tp (fv5 a b c e f (zia z 140)) 20)) 100 6 (nI (tp + 20))) 140 = zia z 140 := by rw [ia_sfi, ia_sIA, zu1_n _ _ _ (by omega)]
    generalize sfi (sIA z 127 (tpF (zia z 127) tp (fv5 a b c e f (zia z 140)) 20)) 100 6 (nI (tp + 20)) = z1 at *
    refine H _ z1 (MR_135 hM1) hS1 (fun Q2 H2 => ?_)
    refine Eq.mpr (m116 (d := 1500) hM1.1 hM1.2.2.2.2.1 h20) ?_
    rw [e3]
    have hM2 : MR v hs vI (tp + 20) (tpF tb tp (fv5 a b c e f (zia z 140)) 20) fk fp hd sn sw sv (sfi (sIA (sIA z1 140 (fv5 a b c e f (zia z 140))) 139 (tpF (zia z1 139) tp (fv5 a b c e f (zia z 140)) 20)) 135 5 (nI (tp + 20))) := by
      refine MR_fe hM1 hM1.1 (fun q hq => by rw [ia_sfi, ia_sIA, zu1_n _ _ _ (by omega), ia_sIA, zu1_n _ _ _ (by omega)]) rfl ?_
      obtain ⟨x1, x2, x3, x4, x5⟩ := hM1.2.2.2.2
      refine ⟨by rw [fi_sfi, zu2_s], fun k hk => ?_, by rw [fi_sfi, zu2_k _ _ _ _ (by omega)]; exact x3, by rw [fi_sfi, zu2_k _ _ _ _ (by omega)]; exact x4, by rw [fi_sfi, zu2_k _ _ _ _ (by omega)]; exact x5⟩
      rw [ia_sfi, ia_sIA, zu1_s]
      unfold tpF
      split
      · rfl
      · exact x2 k hk
    refine H2 _ (Rel_m ⟨_, _, hC1⟩ (mSt_tr (mSt_sIA (by omega)) (mSt_tr (mSt_sIA (by omega)) (mSt_sfi (by omega)))) hM2 (K := 12000 * j) ?_ (by omega) hS1 (by omega) (by omega))
    refine ⟨hW.1, hW.2.1, ⟨h20, fun k hk => ?_⟩, hW.2.2.2⟩
    unfold tpF
    split
    · exact byt_sb _ _
    · exact hW.2.2.1.2 k hk
theorem pr8 {a : Int32} (hj : j < 64) : Pr sc n j 8 117 [.int a] := by
  intro z Q h H
  have hup := Rel_up h
  obtain ⟨v, L, hs, vI, LI, tp, tb, fk, fp, hd, sn, sw, sv, ⟨B, lab, hC⟩, hM, hW, hS, hu, hus⟩ := h
  obtain ⟨t, hl, rl, ha, ra, da, ea, hN, ht, hBt⟩ := CR_nw hC
  have f6 : zfi z 100 6 = nI tp := hC.2.2.2.2.2.2.1
  have g5 : zfi z 135 5 = nI tp := hM.2.2.2.2.1
  have htp := hW.2.2.1.1
  refine Eq.mpr (c8e (d := 1499) hC.2.1 htp f6) ?_
  by_cases h1 : zin a (tp + 1) = true
  rotate_left
  · rw [if_neg h1]
    refine H _ z (MR_135 hM) hS (fun Q2 H2 => ?_)
    refine Eq.mpr (m117 (d := 1499) hM.1 htp g5) ?_
    rw [if_neg h1]
    exact H2 z hup
  · rw [if_pos h1]
    have h1' := h1
    obtain ⟨k, hk, _, rfl⟩ := zin_of h1
    have F : zFr (fun q => q = 100 ∨ q = 127) z (sfi z 100 6 (nI k)) := zFr_sfi (zFr_refl _ _) (Or.inr (Or.inl rfl))
    have hf : cFe k tb fk fp (sfi z 100 6 (nI k)) := by
      obtain ⟨x1, x2, x3, x4⟩ := hC.2.2.2.2.2.2
      exact ⟨by rw [fi_sfi, zu2_s], x2, by rw [fi_sfi, zu2_k _ _ _ _ (by omega)]; exact x3, by rw [fi_sfi, zu2_k _ _ _ _ (by omega)]; exact x4⟩
    have hC1 := CR_go hC F (fun q w => by unfold okW; omega) hC.2.1 (RS_fr hC.2.2.1 F (by have := hC.1; omega) (fun q _ _ => by omega) (BK_W hC.2.2.2.1 (fun q w => by unfold okW; omega))) (fun q hq => hq) (fun q hq => Or.inl hq) hf
    have hM1 := MR_fr hM F hC.1 (fun q w => by omega)
    have hS1 := scr_fr hS F hC.1 (fun q w => by omega)
    have e1 : zuc (sfi z 100 6 (nI k)) = zuc z := rfl
    have e2 : zus (sfi z 100 6 (nI k)) = zus z := rfl
    generalize sfi z 100 6 (nI k) = z1 at *
    refine H _ z1 (MR_135 hM1) hS1 (fun Q2 H2 => ?_)
    refine Eq.mpr (m117 (d := 1499) hM1.1 htp hM1.2.2.2.2.1) ?_
    rw [if_pos h1']
    have hM2 : MR v hs vI k tb fk fp hd sn sw sv (sfi z1 135 5 (nI k)) := by
      refine MR_fe hM1 hM1.1 (fun q hq => rfl) rfl ?_
      obtain ⟨x1, x2, x3, x4, x5⟩ := hM1.2.2.2.2
      exact ⟨by rw [fi_sfi, zu2_s], x2, by rw [fi_sfi, zu2_k _ _ _ _ (by omega)]; exact x3, by rw [fi_sfi, zu2_k _ _ _ _ (by omega)]; exact x4, by rw [fi_sfi, zu2_k _ _ _ _ (by omega)]; exact x5⟩
    exact H2 _ (Rel_m ⟨_, _, hC1⟩ (mSt_sfi (by omega)) hM2 (K := 12000 * j) ⟨hW.1, hW.2.1, ⟨by omega, hW.2.2.1.2⟩, hW.2.2.2⟩ (by omega) hS1 (by omega) (by omega))
/-! deeds -/
theorem pr20 {a b p : Int32} (hj : j < 64) : Pr sc n j 20 154 [.int a, .int b, .int p] := by
  intro z Q h H
  have hup := Rel_up h
  obtain ⟨v, L, hs, vI, LI, tp, tb, fk, fp, hd, sn, sw, sv, ⟨B, lab, hC⟩, hM, hW, hS, hu, hus⟩ := h
  obtain ⟨t, hl, rl, ha, ra, da, ea, hN, ht, hBt⟩ := CR_nw hC
  refine c20 hN (CR_B2 hC) (CR_nW hC) hC.1 hW.1.1 (by omega) hW.1.2 (by omega) (fun z1 k1 => ?_)
  obtain ⟨w1, w2⟩ := WF_does (a := a) (b := b) (p := p) hW.1.1 (by omega)
  obtain ⟨hC1, F, ku, ks⟩ := CR_nwp hC hN k1
  have hM1 := MR_fr hM F hC.1 (fun q w => by unfold NwW at w; omega)
  have hS1 := scr_fr hS F hC.1 (fun q w => by unfold NwW at w; omega)
  refine H _ z1 (MR_135 hM1) hS1 (fun Q2 H2 => ?_)
  refine Eq.mpr (MR_zc hM1) ?_
  refine m154 (d := 1494) hM1.1 (wOK_29 hW.1) (wOK_16 hW.1) (by have := wOK_7 hW.1; omega) (wOK_8 hW.1) (by have := wOK_6 hW.1; omega) (wOK_c hW.1) (fun pt => ?_)
  have k2 := mFr_sIA (mFr_refl z1) (r := 142) (by omega) pt
  exact H2 _ (Rel_m hC1 (mSt_tr (mSt_mFr k2) mSt_sW) (MR_w hM1 k2) (WP_v hW (by omega) (wOK_ag hW.1 w1 w2)) (by omega) hS1 (by omega) (by omega))
theorem pr21 {a b : Int32} (hj : j < 64) : Pr sc n j 21 167 [.int a, .int b] := by
  intro z Q h H
  have hup := Rel_up h
  obtain ⟨v, L, hs, vI, LI, tp, tb, fk, fp, hd, sn, sw, sv, ⟨B, lab, hC⟩, hM, hW, hS, hu, hus⟩ := h
  obtain ⟨t, hl, rl, ha, ra, da, ea, hN, ht, hBt⟩ := CR_nw hC
  refine c21 (d := 1494) hN (CR_B2 hC) (CR_nW hC) hC.1 hW.1.1 (fun z1 k1 => ?_)
  obtain ⟨w1, w2⟩ := WF_meet (a := a) (b := b) hW.1.1 (by omega)
  obtain ⟨hC1, F, ku, ks⟩ := CR_nwp hC hN k1
  have hM1 := MR_fr hM F hC.1 (fun q w => by unfold NwW at w; omega)
  have hS1 := scr_fr hS F hC.1 (fun q w => by unfold NwW at w; omega)
  refine H _ z1 (MR_135 hM1) hS1 (fun Q2 H2 => ?_)
  refine Eq.mpr (MR_zc hM1) ?_
  refine m167 (d := 1494) hM1.1 (wOK_29 hW.1) (wOK_16 hW.1) (by have := wOK_7 hW.1; omega) (wOK_8 hW.1) (by have := wOK_6 hW.1; omega) (wOK_c hW.1) (fun pt => ?_)
  have k2 := mFr_sIA (mFr_refl z1) (r := 142) (by omega) pt
  exact H2 _ (Rel_m hC1 (mSt_tr (mSt_mFr k2) mSt_sW) (MR_w hM1 k2) (WP_v hW (by omega) (wOK_ag hW.1 w1 w2)) (by omega) hS1 (by omega) (by omega))
theorem c22n {d : Nat} {Q : ZQ} {s : Int32} (h : zin s 4 = false) : ZC zG (d + 2) 22 [.ref 100, .int s] z Q = Q (.inl (some (.int (-2)))) z := by
  simp (disch := omega) only [s22_0, s22_1, s22_4, s22_7, s22_9, e22, zcs_0, zcs_1, zcs_2, zcs_3, zcs_4, zcs_5, zcs_6, zcs_7, znl_i, znl_r, znl_n, Bool.and_true, Bool.true_and, zk_v, zk_n, zk_x, zir_r, zir_n, zclr_i, zclr_r, zclr_n, zclr_d, zclr_l, true_and, and_true, and_self, if_true, if_false, reduceIte, nI_add, pk_mul, zin_ok, zx_nI, nI_lt2, nI_le2, nI_eq2, nI_l0, nI_g0, nI_q0, nI_p0, nI_n0, nI_m1, Nat.add_zero, Nat.zero_add, Nat.reduceAdd, Nat.reduceMul, true_or, or_true, znar_50, bI_0, bI_1, bI_z, bft, nI_z0, nI_z1, lgc_lt, lgc_gt, lgc_le, lgc_ge, lgc_eq, not_true_eq_false, not_false_eq_true, Bool.not_eq_true, Bool.not_eq_false, reduceCtorEq, c1, h]
theorem c22m {d : Nat} {Q : ZQ} (h0 : CS z) {s : Nat} (hs : s < 4) (hm : zfr z (131 + s) 0 = .null) : ZC zG (d + 2) 22 [.ref 100, .int (nI s)] z Q = Q (.inl (some (.int (-6)))) z := by
  obtain ⟨r1, r2⟩ := slR h0 hs
  have z1 : zin (nI s) 4 = true := by rw [zin_nI (by omega)]; exact decide_eq_true hs
  unfold CS at h0
  simp (disch := omega) only [s22_0, s22_1, s22_4, s22_7, s22_9, s22_10, s22_11, s22_14, s22_15, s22_16, s22_17, s22_18, s22_21, s22_21r, s22_24, s22_26, e22, zcs_0, zcs_1, zcs_2, zcs_3, zcs_4, zcs_5, zcs_6, zcs_7, znl_i, znl_r, znl_n, Bool.and_true, Bool.true_and, zk_v, zk_n, zk_x, zir_r, zir_n, zclr_i, zclr_r, zclr_n, zclr_d, zclr_l, true_and, and_true, and_self, if_true, if_false, reduceIte, nI_add, pk_mul, zin_ok, zx_nI, nI_lt2, nI_le2, nI_eq2, nI_l0, nI_g0, nI_q0, nI_p0, nI_n0, nI_m1, Nat.add_zero, Nat.zero_add, Nat.reduceAdd, Nat.reduceMul, true_or, or_true, znar_50, bI_0, bI_1, bI_z, bft, nI_z0, nI_z1, lgc_lt, lgc_gt, lgc_le, lgc_ge, lgc_eq, not_true_eq_false, not_false_eq_true, Bool.not_eq_true, Bool.not_eq_false, reduceCtorEq, c1, z1, h0, r1, r2, hm]
theorem m168n {d : Nat} {Q : ZQ} {s : Int32} (h : zin s 4 = false) : ZC zG (d + 2) 168 [.ref 135, .int s] z Q = Q (.inl (some (.int (-2)))) z := by
  simp (disch := omega) only [s168_0, s168_1, s168_4, s168_7, s168_9, e168, zcs_0, zcs_1, zcs_2, zcs_3, zcs_4, zcs_5, zcs_6, zcs_7, znl_i, znl_r, znl_n, Bool.and_true, Bool.true_and, zk_v, zk_n, zk_x, zir_r, zir_n, zclr_i, zclr_r, zclr_n, zclr_d, zclr_l, true_and, and_true, and_self, if_true, if_false, reduceIte, nI_add, pk_mul, zin_ok, zx_nI, nI_lt2, nI_le2, nI_eq2, nI_l0, nI_g0, nI_q0, nI_p0, nI_n0, nI_m1, Nat.add_zero, Nat.zero_add, Nat.reduceAdd, Nat.reduceMul, true_or, or_true, znar_50, bI_0, bI_1, bI_z, bft, nI_z0, nI_z1, lgc_lt, lgc_gt, lgc_le, lgc_ge, lgc_eq, not_true_eq_false, not_false_eq_true, Bool.not_eq_true, Bool.not_eq_false, reduceCtorEq, m169, h]
theorem m168m {d : Nat} {Q : ZQ} (hM : MS z) {s : Nat} (hs : s < 4) (hm : zia z 158 s = -1) : ZC zG (d + 2) 168 [.ref 135, .int (nI s)] z Q = Q (.inl (some (.int (-6)))) z := by
  have z1 : zin (nI s) 4 = true := by rw [zin_nI (by omega)]; exact decide_eq_true hs
  unfold MS at hM
  simp (disch := omega) only [s168_0, s168_1, s168_4, s168_7, s168_9, s168_10, s168_11, s168_14, s168_15, s168_16, s168_17, s168_20, s168_22, e168, zcs_0, zcs_1, zcs_2, zcs_3, zcs_4, zcs_5, zcs_6, zcs_7, znl_i, znl_r, znl_n, Bool.and_true, Bool.true_and, zk_v, zk_n, zk_x, zir_r, zir_n, zclr_i, zclr_r, zclr_n, zclr_d, zclr_l, true_and, and_true, and_self, if_true, if_false, reduceIte, nI_add, pk_mul, zin_ok, zx_nI, nI_lt2, nI_le2, nI_eq2, nI_l0, nI_g0, nI_q0, nI_p0, nI_n0, nI_m1, Nat.add_zero, Nat.zero_add, Nat.reduceAdd, Nat.reduceMul, true_or, or_true, znar_50, bI_0, bI_1, bI_z, bft, nI_z0, nI_z1, lgc_lt, lgc_gt, lgc_le, lgc_ge, lgc_eq, not_true_eq_false, not_false_eq_true, Bool.not_eq_true, Bool.not_eq_false, reduceCtorEq, m169, z1, hM, hm, eq_self]
theorem pr22 {s : Int32} (hj : j < 64) : Pr sc n j 22 168 [.int s] := by
  intro z Q h H
  have hup := Rel_up h
  obtain ⟨v, L, hs, vI, LI, tp, tb, fk, fp, hd, sn, sw, sv, ⟨B, lab, hC⟩, hM, hW, hS, hu, hus⟩ := h
  obtain ⟨t, hl, rl, ha, ra, da, ea, hN, ht, hBt⟩ := CR_nw hC
  have hSl := hC.2.2.2.2.2.1
  cases h1 : zin s 4 with
  | false =>
    refine Eq.mpr (c22n (d := 1498) h1) ?_
    refine H _ z (MR_135 hM) hS (fun Q2 H2 => ?_)
    refine Eq.mpr (m168n (d := 1498) h1) ?_
    exact H2 z hup
  | true =>
    obtain ⟨s, hs4, _, rfl⟩ := zin_of h1
    cases hh : hd s with
    | false =>
      refine Eq.mpr (c22m (d := 1498) hC.2.1 hs4 (cSL_no hSl hs4 hh)) ?_
      refine H _ z (MR_135 hM) hS (fun Q2 H2 => ?_)
      refine Eq.mpr (m168m (d := 1498) hM.1 hs4 (mSL_no hM.2.2.2.1 hs4 hh)) ?_
      exact H2 z hup
    | true =>
      obtain ⟨q, q1, q2, q3, q4, q5, q6⟩ := cSL_slot (B := B) hC.2.1 hSl hs4 (fun e => (hW.2.2.2 s hs4 e).2.1) hh
      have n60 := (hW.2.2.2 s hs4 hh).1
      have hm := mSL_yes hM.2.2.2.1 hs4 hh
      refine c22 hN (CR_B2 hC) (CR_nW hC) hC.1 hW.1.1 (by omega) hW.1.2 (by omega) hs4 n60 q1 q3 q2 (fun i => zla z 160 (60 * s + i)) (fun i hi => by rw [q6 i hi]; exact (hm.2.2 i (by omega)).symm) (fun z1 k1 => ?_)
      obtain ⟨w1, w2, _⟩ := WF_done (nm := fun i => zla z 160 (60 * s + i)) hW.1.1 (sn s / 3) (by omega) (by omega)
      obtain ⟨hC1, F, ku, ks⟩ := CR_nwp hC hN k1
      have hM1 := MR_fr hM F hC.1 (fun q w => by unfold NwW at w; omega)
      have hS1 := scr_fr hS F hC.1 (fun q w => by unfold NwW at w; omega)
      have e160 : zla z1 160 = zla z 160 := (F.2 160 (by have := hC.1; omega) (by unfold NwW; omega)).2.2.2.2.1
      have n20 : sn s / 3 ≤ 20 := by omega
      refine H _ z1 (MR_135 hM1) hS1 (fun Q2 H2 => ?_)
      refine Eq.mpr (MR_zc hM1) ?_
      refine m168 (d := 1493) hM1.1 hW.1.1 (by omega) hs4 n60 (mSL_yes hM1.2.2.2.1 hs4 hh).1 (fun pt => ?_)
      rw [e160]
      have k2 := mFr_sIA (mFr_refl z1) (r := 142) (by omega) pt
      exact H2 _ (Rel_m hC1 (mSt_tr (mSt_mFr k2) mSt_sW) (MR_w hM1 k2) (WP_v hW (by omega) (wOK_ag hW.1 w1 w2)) (by omega) hS1 (by omega) (by omega))
/-! images -/
theorem stW_in {s q : Nat} (h : stW s q) : s ≤ q ∧ q < s + 14 := by unfold stW ldW at h; omega
theorem cIM_s (h : CR B lab v L hs vI LI tp tb fk fp hd sn sw sv z) {k : Nat} (hk : k < 3) : zra z 116 k = .null ∨ ∃ s : Nat, zra z 116 k = .ref s ∧ 162 ≤ s ∧ s + 14 ≤ zn z ∧ RS B z s (vI k) (LI k) := by
  rcases h.2.2.2.2.1 k hk with ⟨_, a⟩ | ⟨_, s, a, b, c, e, _⟩
  · exact Or.inl a
  · exact Or.inr ⟨s, a, b, c, e⟩
theorem cIM_no (h : CR B lab v L hs vI LI tp tb fk fp hd sn sw sv z) {k : Nat} (hk : k < 3) (hn : zra z 116 k = .null) : hs k = false := by
  rcases h.2.2.2.2.1 k hk with ⟨a, _⟩ | ⟨_, s, a, _⟩
  · exact a
  · rw [hn] at a; cases a
theorem cIM_yes (h : CR B lab v L hs vI LI tp tb fk fp hd sn sw sv z) {k : Nat} (hk : k < 3) (hn : ¬ zra z 116 k = .null) : hs k = true ∧ ∃ s : Nat, zra z 116 k = .ref s ∧ 162 ≤ s ∧ s + 14 ≤ zn z ∧ RS B z s (vI k) (LI k) ∧ ∀ q, s ≤ q → q < s + 14 → lab q = 2 + k := by
  rcases h.2.2.2.2.1 k hk with ⟨_, a⟩ | a
  · exact absurd a hn
  · exact a
theorem mIM_no (h : MR v hs vI tp tb fk fp hd sn sw sv z) {k : Nat} (hk : k < 3) (hh : hs k = false) : zia z 138 k = 0 := by
  rcases h.2.2.1 k hk with ⟨_, a⟩ | ⟨a, _⟩
  · exact a
  · rw [hh] at a; cases a
theorem mIM_yes (h : MR v hs vI tp tb fk fp hd sn sw sv z) {k : Nat} (hk : k < 3) (hh : hs k = true) : zia z 138 k = 1 ∧ ∀ i, i < 9080 → zia z 137 (9080 * k + i) = nI (vI k i) := by
  rcases h.2.2.1 k hk with ⟨a, _⟩ | ⟨_, a⟩
  · rw [hh] at a; cases a
  · exact a
theorem pr58 {a : Int32} (hj : j < 64) : Pr sc n j 58 115 [.int a] := by
  intro z Q h H
  have hup := Rel_up h
  obtain ⟨v, L, hs, vI, LI, tp, tb, fk, fp, hd, sn, sw, sv, ⟨B, lab, hC⟩, hM, hW, hS, hu, hus⟩ := h
  obtain ⟨t, hl, rl, ha, ra, da, ea, hN, ht, hBt⟩ := CR_nw hC
  refine c58 (d := 1497) hN (CR_B hC) hC.1 (fun k hk => cIM_s hC hk) (fun h3 => ?_) (fun k hk e hn => ?_) (fun k z1 hk e hn c1 r1 F ku ks => ?_)
  · refine H _ z (MR_135 hM) hS (fun Q2 H2 => ?_)
    refine Eq.mpr (m115n (d := 1499) h3) ?_
    exact H2 z hup
  · subst e
    refine H _ z (MR_135 hM) hS (fun Q2 H2 => ?_)
    refine Eq.mpr (m115m (d := 1499) hM.1 hk (mIM_no hM hk (cIM_no hC hk hn))) ?_
    exact H2 z hup
  · subst e
    have hh := (cIM_yes hC hk hn).1
    have hok := hW.2.1 k hk hh
    have b9 : ∀ i, i < 9080 → bkV (vI k) v 9080 i = vI k i := fun i hi => if_pos hi
    have hB9 : wB (bkV (vI k) v 9080) := fun i => by
      unfold bkV
      split
      · exact hok.1.1 i
      · exact hW.1.1.1 i
    have okW1 : ∀ q, stW 102 q → okW q := fun q w => by have := stW_in w; unfold stW ldW at w; unfold okW; omega
    have hC1 := CR_go hC F okW1 c1 (RS_ag9 b9 r1) (fun q hq => hq) (fun q hq => Or.inl hq) (cFe_fr hC.2.2.2.2.2.2 hC.1 F (fun w => by have := stW_in w; omega) (fun w => by have := stW_in w; omega))
    have hM1 := MR_fr hM F hC.1 (fun q w => by have := stW_in w; omega)
    have hS1 := scr_fr hS F hC.1 (fun q w => by have := stW_in w; omega)
    refine H _ z1 (MR_135 hM1) hS1 (fun Q2 H2 => ?_)
    refine Eq.mpr (MR_zc hM1) ?_
    refine Eq.mpr (m115 (d := 1499) hM1.1 hk (mIM_yes hM1 hk hh).1 (mIM_yes hM1 hk hh).2) ?_
    have hok2 : wOK (bkV (vI k) v 9080) (LI k) (12000 * j) := ⟨WF_ag9 b9 hB9 hok.1, fun t ht => hok.2 t (by rw [b9 2 (by omega)] at ht; exact ht)⟩
    exact H2 _ (Rel_m ⟨_, _, hC1⟩ mSt_sW (MR_wd hM1) (WP_v hW (Nat.le_refl _) hok2) (by omega) hS1 (by omega) (by omega))
/-- the component's fixed cells when an image is kept -/
theorem CS_kp {s : Nat} (F : zFr (fun q => q = 116 ∨ stW s q) z z2) (hz : 162 ≤ zn z) (hs : 162 ≤ s) (c1 : zcls z2 116 = zcls z 116) (c2 : zlen z2 116 = zlen z 116) (h0 : CS z) : CS z2 := by
  unfold CS at h0 ⊢

  have w100 := F.2 100 (by omega) (fun w => by rcases w with w | w <;> first | omega | (have := stW_in w; omega))
  have w101 := F.2 101 (by omega) (fun w => by rcases w with w | w <;> first | omega | (have := stW_in w; omega))
  have w102 := F.2 102 (by omega) (fun w => by rcases w with w | w <;> first | omega | (have := stW_in w; omega))
  have w103 := F.2 103 (by omega) (fun w => by rcases w with w | w <;> first | omega | (have := stW_in w; omega))
  have w104 := F.2 104 (by omega) (fun w => by rcases w with w | w <;> first | omega | (have := stW_in w; omega))
  have w105 := F.2 105 (by omega) (fun w => by rcases w with w | w <;> first | omega | (have := stW_in w; omega))
  have w106 := F.2 106 (by omega) (fun w => by rcases w with w | w <;> first | omega | (have := stW_in w; omega))
  have w107 := F.2 107 (by omega) (fun w => by rcases w with w | w <;> first | omega | (have := stW_in w; omega))
  have w108 := F.2 108 (by omega) (fun w => by rcases w with w | w <;> first | omega | (have := stW_in w; omega))
  have w109 := F.2 109 (by omega) (fun w => by rcases w with w | w <;> first | omega | (have := stW_in w; omega))
  have w110 := F.2 110 (by omega) (fun w => by rcases w with w | w <;> first | omega | (have := stW_in w; omega))
  have w111 := F.2 111 (by omega) (fun w => by rcases w with w | w <;> first | omega | (have := stW_in w; omega))
  have w112 := F.2 112 (by omega) (fun w => by rcases w with w | w <;> first | omega | (have := stW_in w; omega))
  have w113 := F.2 113 (by omega) (fun w => by rcases w with w | w <;> first | omega | (have := stW_in w; omega))
  have w114 := F.2 114 (by omega) (fun w => by rcases w with w | w <;> first | omega | (have := stW_in w; omega))
  have w115 := F.2 115 (by omega) (fun w => by rcases w with w | w <;> first | omega | (have := stW_in w; omega))
  have w117 := F.2 117 (by omega) (fun w => by rcases w with w | w <;> first | omega | (have := stW_in w; omega))
  have w118 := F.2 118 (by omega) (fun w => by rcases w with w | w <;> first | omega | (have := stW_in w; omega))
  have w119 := F.2 119 (by omega) (fun w => by rcases w with w | w <;> first | omega | (have := stW_in w; omega))
  have w120 := F.2 120 (by omega) (fun w => by rcases w with w | w <;> first | omega | (have := stW_in w; omega))
  have w121 := F.2 121 (by omega) (fun w => by rcases w with w | w <;> first | omega | (have := stW_in w; omega))
  have w122 := F.2 122 (by omega) (fun w => by rcases w with w | w <;> first | omega | (have := stW_in w; omega))
  have w123 := F.2 123 (by omega) (fun w => by rcases w with w | w <;> first | omega | (have := stW_in w; omega))
  have w124 := F.2 124 (by omega) (fun w => by rcases w with w | w <;> first | omega | (have := stW_in w; omega))
  have w125 := F.2 125 (by omega) (fun w => by rcases w with w | w <;> first | omega | (have := stW_in w; omega))
  have w126 := F.2 126 (by omega) (fun w => by rcases w with w | w <;> first | omega | (have := stW_in w; omega))
  have w127 := F.2 127 (by omega) (fun w => by rcases w with w | w <;> first | omega | (have := stW_in w; omega))
  have w128 := F.2 128 (by omega) (fun w => by rcases w with w | w <;> first | omega | (have := stW_in w; omega))
  have w129 := F.2 129 (by omega) (fun w => by rcases w with w | w <;> first | omega | (have := stW_in w; omega))
  have w130 := F.2 130 (by omega) (fun w => by rcases w with w | w <;> first | omega | (have := stW_in w; omega))
  have w131 := F.2 131 (by omega) (fun w => by rcases w with w | w <;> first | omega | (have := stW_in w; omega))
  have w132 := F.2 132 (by omega) (fun w => by rcases w with w | w <;> first | omega | (have := stW_in w; omega))
  have w133 := F.2 133 (by omega) (fun w => by rcases w with w | w <;> first | omega | (have := stW_in w; omega))
  have w134 := F.2 134 (by omega) (fun w => by rcases w with w | w <;> first | omega | (have := stW_in w; omega))
  simp only [w100, w101, w102, w103, w104, w105, w106, w107, w108, w109, w110, w111, w112, w113, w114, w115, w117, w118, w119, w120, w121, w122, w123, w124, w125, w126, w127, w128, w129, w130, w131, w132, w133, w134, c1, c2, h0, and_self]
theorem CS_h (F : zFr (fun q => q = 100) z z2) (hz : 162 ≤ zn z) (c1 : zcls z2 100 = zcls z 100) (c2 : zfr z2 100 = zfr z 100) (h0 : CS z) : CS z2 := by
  unfold CS at h0 ⊢
  have w101 := F.2 101 (by omega) (by omega)
  have w102 := F.2 102 (by omega) (by omega)
  have w103 := F.2 103 (by omega) (by omega)
  have w104 := F.2 104 (by omega) (by omega)
  have w105 := F.2 105 (by omega) (by omega)
  have w106 := F.2 106 (by omega) (by omega)
  have w107 := F.2 107 (by omega) (by omega)
  have w108 := F.2 108 (by omega) (by omega)
  have w109 := F.2 109 (by omega) (by omega)
  have w110 := F.2 110 (by omega) (by omega)
  have w111 := F.2 111 (by omega) (by omega)
  have w112 := F.2 112 (by omega) (by omega)
  have w113 := F.2 113 (by omega) (by omega)
  have w114 := F.2 114 (by omega) (by omega)
  have w115 := F.2 115 (by omega) (by omega)
  have w116 := F.2 116 (by omega) (by omega)
  have w117 := F.2 117 (by omega) (by omega)
  have w118 := F.2 118 (by omega) (by omega)
  have w119 := F.2 119 (by omega) (by omega)
  have w120 := F.2 120 (by omega) (by omega)
  have w121 := F.2 121 (by omega) (by omega)
  have w122 := F.2 122 (by omega) (by omega)
  have w123 := F.2 123 (by omega) (by omega)
  have w124 := F.2 124 (by omega) (by omega)
  have w125 := F.2 125 (by omega) (by omega)
  have w126 := F.2 126 (by omega) (by omega)
  have w127 := F.2 127 (by omega) (by omega)
  have w128 := F.2 128 (by omega) (by omega)
  have w129 := F.2 129 (by omega) (by omega)
  have w130 := F.2 130 (by omega) (by omega)
  have w131 := F.2 131 (by omega) (by omega)
  have w132 := F.2 132 (by omega) (by omega)
  have w133 := F.2 133 (by omega) (by omega)
  have w134 := F.2 134 (by omega) (by omega)
  simp only [w101, w102, w103, w104, w105, w106, w107, w108, w109, w110, w111, w112, w113, w114, w115, w116, w117, w118, w119, w120, w121, w122, w123, w124, w125, w126, w127, w128, w129, w130, w131, w132, w133, w134, c1, c2, h0, and_self]
theorem CR_kp {s k : Nat} (h : CR B lab v L hs vI LI tp tb fk fp hd sn sw sv z) (hk : k < 3) (r : RS B z2 s v L) (hs2 : zra z2 116 k = .ref s) (ho : zra z 116 k = .ref s ∨ (zra z 116 k = .null ∧ s = zn z)) (F : zFr (fun q => q = 116 ∨ stW s q) z z2) (c1 : zcls z2 116 = zcls z 116) (c2 : zlen z2 116 = zlen z 116) (hra : ∀ j, ¬ j = k → zra z2 116 j = zra z 116 j) (hn : s + 14 ≤ zn z2) : 162 ≤ s ∧ CR B (lbN z lab (2 + k)) v L (fun i => if i = k then true else hs i) (fun i => if i = k then v else vI i) (fun i => if i = k then L else LI i) tp tb fk fp hd sn sw sv z2 := by
  obtain ⟨hz, h0, hR, hB, hI, hSl, hF⟩ := h
  have hs162 : 162 ≤ s ∧ ∀ q, s ≤ q → q < s + 14 → q < zn z → lab q = 2 + k := by
    rcases ho with ho | ⟨_, rfl⟩
    · rcases hI k hk with ⟨_, b⟩ | ⟨_, s', b, b1, b2, _, b3⟩
      · rw [ho] at b; cases b
      · rw [ho] at b
        injection b with b
        subst b
        exact ⟨b1, fun q x y _ => b3 q x y⟩
    · exact ⟨hz, fun q x _ y => by omega⟩
  obtain ⟨hs1, hlab⟩ := hs162
  have nW : ∀ q, q < zn z → ¬ q = 116 → ¬ lab q = 2 + k → ¬ (q = 116 ∨ stW s q) := fun q q1 q2 q3 w => by
    rcases w with w | w
    · exact q2 w
    · have := stW_in w
      exact q3 (hlab q this.1 this.2 q1)
  have nW1 : ∀ q, q < 162 → ¬ q = 116 → ¬ (q = 116 ∨ stW s q) := fun q q1 q2 w => by
    rcases w with w | w
    · exact q2 w
    · have := stW_in w
      omega
  have nWB : ∀ q, B q → q < zn z ∧ ¬ (q = 116 ∨ stW s q) := fun q hq => by
    obtain ⟨b1, b2, b3, _⟩ := hB q hq
    exact ⟨b3, nW q b3 (by omega) (by omega)⟩
  refine ⟨hs1, Nat.le_trans hz F.1, CS_kp F hz hs1 c1 c2 h0, RS_fr hR F (by omega) (fun q q1 q2 => nW1 q (by omega) (by omega)) nWB, fun q hq => ?_, fun i hi => ?_, fun i hi => ?_, cFe_fr hF hz F (nW1 100 (by omega) (by omega)) (nW1 127 (by omega) (by omega))⟩
  · obtain ⟨b1, b2, b3, b4⟩ := hB q hq
    have e := F.2 q b3 (nWB q hq).2
    refine ⟨by rw [lbN_o b3]; exact b1, b2, Nat.lt_of_lt_of_le b3 F.1, fun hc => ?_⟩
    rw [e.1] at hc
    rw [e.2.2.1]
    exact ⟨(b4 hc).1, Nat.lt_of_lt_of_le (b4 hc).2 F.1⟩
  · by_cases e : i = k
    · subst e
      refine Or.inr ⟨if_pos rfl, s, hs2, hs1, hn, ?_, fun q q1 q2 => ?_⟩
      · simp only [if_true]
        exact r
      · by_cases hq : q < zn z
        · rw [lbN_o hq]; exact hlab q q1 q2 hq
        · exact lbN_n (by omega)
    · simp only [if_neg e, hra i e]
      rcases hI i hi with a | ⟨a, s', b, b1, b2, b3, b4⟩
      · exact Or.inl a
      · refine Or.inr ⟨a, s', b, b1, Nat.le_trans b2 F.1, RS_fr b3 F b2 (fun q q1 q2 => nW q (by omega) (by omega) (by rw [b4 q q1 q2]; omega)) nWB, fun q q1 q2 => by rw [lbN_o (by omega)]; exact b4 q q1 q2⟩
  · have e := F.2 (131 + i) (by omega) (nW1 _ (by omega) (by omega))
    rcases hSl i hi with ⟨a, b⟩ | ⟨a, q, b, b1, b2, l, b3, b4, b5⟩
    · exact Or.inl ⟨a, by rw [e.2.2.1]; exact b⟩
    · have w := nW q b2 (by omega) (by rw [l]; omega)
      have f := F.2 q b2 w
      exact Or.inr ⟨a, q, by rw [e.2.2.1]; exact b, b1, Nat.lt_of_lt_of_le b2 F.1, by rw [lbN_o b2]; exact l, by rw [f.1]; exact b3, by rw [f.2.2.2.2.2.2.1]; exact b4, fun x hx => by rw [slV_fr F b2 w]; exact b5 x hx⟩
theorem MR_kp {k : Nat} (h : MR v hs vI tp tb fk fp hd sn sw sv z) (hk : k < 3) : MR v (fun i => if i = k then true else hs i) (fun i => if i = k then v else vI i) tp tb fk fp hd sn sw sv (sW (sia (sIA z 137 (kpI (zia z 137) v k 9080)) 138 k 1) v) := by
  obtain ⟨h1, h2, h3, h4, h5⟩ := h
  have e : ∀ q, ¬ q = 136 → ¬ q = 137 → ¬ q = 138 → zia (sW (sia (sIA z 137 (kpI (zia z 137) v k 9080)) 138 k 1) v) q = zia z q := fun q q1 q2 q3 => by
    rw [sW_n _ _ q1, ia_sia]
    funext i
    rw [zu2_n _ _ _ _ q3, ia_sIA, zu1_n _ _ _ q2]
  have e7 : zia (sW (sia (sIA z 137 (kpI (zia z 137) v k 9080)) 138 k 1) v) 137 = kpI (zia z 137) v k 9080 := by
    rw [sW_n _ _ (by omega), ia_sia]
    funext i
    rw [zu2_n _ _ _ _ (by omega), ia_sIA, zu1_s]
  have e8 : ∀ i, zia (sW (sia (sIA z 137 (kpI (zia z 137) v k 9080)) 138 k 1) v) 138 i = if i = k then 1 else zia z 138 i := fun i => by
    rw [sW_n _ _ (by omega), ia_sia]
    by_cases e : i = k
    · rw [e, zu2_s, if_pos rfl]
    · rw [zu2_k _ _ _ _ e, if_neg e, ia_sIA, zu1_n _ _ _ (by omega)]
  refine ⟨h1, sW_r _ _, fun i hi => ?_, ?_, ?_⟩
  · rw [e7, e8]
    by_cases ei : i = k
    · subst ei
      refine Or.inr ⟨if_pos rfl, if_pos rfl, fun x hx => ?_⟩
      simp only [if_true]
      unfold kpI
      rw [if_pos (by omega), Nat.add_sub_cancel_left]
    · simp only [if_neg ei]
      rcases h3 i hi with a | ⟨a, b, c⟩
      · exact Or.inl a
      · refine Or.inr ⟨a, b, fun x hx => ?_⟩
        unfold kpI
        rw [if_neg (by omega)]
        exact c x hx
  · unfold mSL at h4 ⊢
    rw [e 158 (by omega) (by omega) (by omega), e 159 (by omega) (by omega) (by omega)]
    exact h4
  · unfold mFe at h5 ⊢
    rw [e 139 (by omega) (by omega) (by omega)]
    exact h5
theorem pr57 {a : Int32} (hj : j < 64) : Pr sc n j 57 113 [.int a] := by
  intro z Q h H
  have hup := Rel_up h
  obtain ⟨v, L, hs, vI, LI, tp, tb, fk, fp, hd, sn, sw, sv, ⟨B, lab, hC⟩, hM, hW, hS, hu, hus⟩ := h
  obtain ⟨t, hl, rl, ha, ra, da, ea, hN, ht, hBt⟩ := CR_nw hC
  have hIs : IMs B z := fun k hk => by
    rcases hC.2.2.2.2.1 k hk with ⟨_, b⟩ | ⟨_, s, b, b1, b2, b3, b4⟩
    · exact Or.inl b
    · refine Or.inr ⟨s, b, b3.1, b1, b2, fun q w hq => ?_⟩
      have := stW_in w
      have := b4 q this.1 this.2
      have := (hC.2.2.2.1 q hq).1
      omega
  refine c57 (d := 1497) hN (CR_B hC) hC.1 hIs (fun h3 => ?_) (fun k z1 s hk e hs2 r1 ho F c1 c2 hra ku ks hn => ?_)
  · refine H _ z (MR_135 hM) hS (fun Q2 H2 => ?_)
    refine Eq.mpr (m113n (d := 1499) h3) ?_
    exact H2 z hup
  · subst e
    obtain ⟨hs1, hC1⟩ := CR_kp hC hk r1 hs2 ho F c1 c2 hra hn
    have hM1 := MR_fr hM F hC.1 (fun q w => by rcases w with w | w <;> first | omega | (have := stW_in w; omega))
    have hS1 := scr_fr hS F hC.1 (fun q w => by rcases w with w | w <;> first | omega | (have := stW_in w; omega))
    refine H _ z1 (MR_135 hM1) hS1 (fun Q2 H2 => ?_)
    refine Eq.mpr (MR_zc hM1) ?_
    refine Eq.mpr (m113 (d := 1499) hM1.1 hk) ?_
    refine H2 _ (Rel_m ⟨_, _, hC1⟩ (mSt_tr (mSt_sIA (by omega)) (mSt_tr (mSt_sia (by omega)) mSt_sW)) (MR_kp hM1 hk) (K := 12000 * j) ⟨hW.1, fun i hi hh => ?_, hW.2.2⟩ (by omega) hS1 (by omega) (by omega))
    by_cases ei : i = k
    · simp only [if_pos ei]
      exact hW.1
    · simp only [if_neg ei] at hh ⊢
      exact hW.2.1 i hi hh
/-! beside -/
theorem pr55 {a : Int32} (hj : j < 64) : Pr sc n j 55 208 [.int a] := by
  intro z Q h H
  have hup := Rel_up h
  obtain ⟨v, L, hs, vI, LI, tp, tb, fk, fp, hd, sn, sw, sv, ⟨B, lab, hC⟩, hM, hW, hS, hu, hus⟩ := h
  obtain ⟨t, hl, rl, ha, ra, da, ea, hN, ht, hBt⟩ := CR_nw hC
  cases h3 : zin a 3 with
  | false =>
    refine Eq.mpr (c55n (d := 1499) hN h3) ?_
    refine H _ z (MR_135 hM) hS (fun Q2 H2 => ?_)
    refine Eq.mpr (m208n (d := 1499) h3) ?_
    exact H2 z hup
  | true =>
    obtain ⟨k, hk, _, rfl⟩ := zin_of h3
    by_cases hn : zra z 116 k = .null
    · refine Eq.mpr (c55m (d := 1499) hN hk hn) ?_
      refine H _ z (MR_135 hM) hS (fun Q2 H2 => ?_)
      refine Eq.mpr (m208m (d := 1499) hM.1 hk (mIM_no hM hk (cIM_no hC hk hn))) ?_
      exact H2 z hup
    · obtain ⟨hh, s, s1, s2, s3, s4, s5⟩ := cIM_yes hC hk hn
      obtain ⟨sS, tI, hlI, knI, rlI, haI, raI, daI, eaI, ⟨t1, t2, t3, t4⟩, hHI, hRI, _⟩ := s4
      have hok := hW.2.1 k hk hh
      refine c55 (d := 1499) hN (CR_B2 hC) hC.1 ht hW.1.1 hok.1 hk s1 sS.1 (by omega) t1 hHI.1.2 (CR_B hC tI hHI.1.1).2 t3 hRI hok.2 (by omega) (fun z1 F ku ks => ?_)
      have hC1 := CR_fr hC F (fun q w => False.elim w) (F.2 113 (by have := hC.1; omega) id).1 (CS_ag (fun q hq => (F.2 q (by have := hC.1; omega) id).1) (fun q hq => (F.2 q (by have := hC.1; omega) id).2.2.2.2.2.2.1) (fun q hq => (F.2 q (by have := hC.1; omega) id).2.2.2.2.2.1) (fun q _ hq _ _ => by rw [(F.2 q (by have := hC.1; omega) id).2.2.1]) hC.2.1)
      have hM1 := MR_fr hM F hC.1 (fun q w => False.elim w)
      have hS1 := scr_fr hS F hC.1 (fun q w => False.elim w)
      refine H _ z1 (MR_135 hM1) hS1 (fun Q2 H2 => ?_)
      refine Eq.mpr (MR_zc hM1) ?_
      refine m208 (d := 1495) hM1.1 hW.1.1 hok.1 hk (mIM_yes hM1 hk hh).1 (mIM_yes hM1 hk hh).2 (fun pt sv1 => ?_)
      have k2 := mFr_sIA (mFr_sIA (mFr_refl z1) (r := 157) (by omega) sv1) (r := 142) (by omega) pt
      exact H2 _ (Rel_m ⟨_, _, hC1⟩ (mSt_tr (mSt_mFr k2) mSt_sW) (MR_w hM1 k2) hW (by omega) hS1 (by omega) (by omega))
/-! a town -/
theorem pr9 (hj : j < 64) : Pr sc n j 9 119 [] := by
  intro z Q h H
  have hup := Rel_up h
  obtain ⟨v, L, hs, vI, LI, tp, tb, fk, fp, hd, sn, sw, sv, ⟨B, lab, hC⟩, hM, hW, hS, hu, hus⟩ := h
  obtain ⟨t, hl, rl, ha, ra, da, ea, hN, ht, hBt⟩ := CR_nw hC
  obtain ⟨g6, g127, g7, g8⟩ := hC.2.2.2.2.2.2
  have htp := hW.2.2.1.1
  have hb0 : ∀ k, ∃ b, k < 1400 → tb k = sb b ∧ b < 256 := fun k => by
    by_cases hk : k < 1400
    · obtain ⟨b, b1, b2⟩ := hW.2.2.1.2 k hk
      exact ⟨b, fun _ => ⟨b2, b1⟩⟩
    · exact ⟨0, fun h => absurd h hk⟩
  obtain ⟨b, hb⟩ := Classical.axiomOfChoice hb0
  obtain ⟨f5, f139, f12, f13, vl, hvl, f11⟩ := hM.2.2.2.2
  generalize hfr : (zfi z 135 9).toUInt32.toNat = fr
  generalize htk : (zfi z 135 10).toUInt32.toNat = tk
  have f9 : zfi z 135 9 = nI fr := by rw [← hfr, nI_any]
  have f10 : zfi z 135 10 = nI tk := by rw [← htk, nI_any]
  have hg0 : ∃ g : Nat → Nat, ∀ i, zia z 141 i = nI (g i) := ⟨fun i => (zia z 141 i).toUInt32.toNat, fun i => (nI_any _).symm⟩
  obtain ⟨g, hg⟩ := hg0
  have hok0 : yOK tp (yTW b tp (tp + 1) (yAdv b tp (0, fr, tk, vl, 0, -1)) (yG0 g)).1 := yTW_ok _ _ _ (yTok_ok ((skp_le b tp isSp tp 0).2 (Nat.zero_le _)) hvl (by show 0 < 4; omega))
  have hpg : pG (yTW b tp (tp + 1) (yAdv b tp (0, fr, tk, vl, 0, -1)) (yG0 g)).1 := pG_TW _ _ _ (pG_adv (fun _ => rfl))
  have two : ∀ (z1 : ZH) (W : Nat → Prop), zFr W z z1 → (∀ q, W q → ¬ (135 ≤ q ∧ q ≤ 161)) → (∀ i, zia z1 136 i = nI (v i)) ∧ (∀ i, zia z1 141 i = nI (g i)) ∧ zfi z1 135 5 = nI tp ∧ (∀ k, k < 1400 → zia z1 139 k = sb (b k) ∧ b k < 256) ∧ zfi z1 135 9 = nI fr ∧ zfi z1 135 10 = nI tk ∧ zfi z1 135 11 = nI vl := fun z1 W F hw => by
    have hz := hC.1
    have a135 := F.2 135 (by omega) (fun w => hw _ w (by omega))
    have a136 := F.2 136 (by omega) (fun w => hw _ w (by omega))
    have a139 := F.2 139 (by omega) (fun w => hw _ w (by omega))
    have a141 := F.2 141 (by omega) (fun w => hw _ w (by omega))
    refine ⟨fun i => by rw [a136.2.2.2.1]; exact hM.2.1 i, fun i => by rw [a141.2.2.2.1]; exact hg i, by rw [a135.2.1]; exact f5, fun k hk => by rw [a139.2.2.2.1, f139 k hk]; exact hb k hk, by rw [a135.2.1]; exact f9, by rw [a135.2.1]; exact f10, by rw [a135.2.1]; exact f11⟩
  refine c9 (d := 1491) hC.2.1 hC.1 g6 htp (fun k hk => by rw [g127 k hk]; exact hb k hk) (S0 := (0, fr, tk, vl, 0, -1)) rfl rfl hvl (g := g) (v0 := v) (fun hgood z1 ha1 ra1 L1 hN1 hGI hsm F e1 e2 e3 e4 e5 e6 ku ks => ?_) (fun hbad z1 F e1 e2 e3 e4 e5 e6 ku ks => ?_)
  · generalize hX : yTW b tp (tp + 1) (yAdv b tp (0, fr, tk, vl, 0, -1)) (yG0 g) = X at *
    obtain ⟨S', G'⟩ := X
    dsimp only at *
    have hT := hN1.2.2.1
    have hrl := hN1.2.2.2.1.1.1
    have hC1 := CR_go (B2 := fun q => B q ∨ ((zn z + 5 ≤ q ∧ q < zn z1) ∧ (zcls z1 q = 2 → q = zn z + 5))) hC F (fun q w => by unfold tnW at w; unfold okW; omega) hN1.1 (RS.mo (fun q hq hc => Or.inr ⟨hq, fun e => absurd e hc⟩) (fun t' ht' hb' => Or.inr ⟨hb', fun _ => by
      have e := hN1.2.1.1
      rw [ht'] at e
      injection e⟩) (NW_RS hN1)) (fun q hq => Or.inl hq) (fun q hq => by
      rcases hq with hq | ⟨hq, hq2⟩
      · exact Or.inl hq
      · refine Or.inr ⟨by omega, hq.2, fun hc => ?_⟩
        have e := hq2 hc
        subst e
        exact ⟨hT.2.2.1.1, by omega⟩) (tp2 := 0) (tb2 := tb) (fk2 := nI 0) (fp2 := -1) ⟨e4, fun k hk => by rw [(F.2 127 (by have := hC.1; omega) (by unfold tnW; omega)).2.2.2.1]; exact g127 k hk, e5, e6⟩
    have hM1 := MR_fr hM F hC.1 (fun q w => by unfold tnW at w; omega)
    have hS1 := scr_fr hS F hC.1 (fun q w => by unfold tnW at w; omega)
    obtain ⟨x1, x2, x3, x4, x5, x6, x7⟩ := two z1 _ F (fun q w => by unfold tnW at w; omega)
    refine H _ z1 (MR_135 hM1) hS1 (fun Q2 H2 => ?_)
    refine m119 (d := 1491) hM1.1 x1 x2 x3 htp x4 x5 x6 x7 hvl (fun hgood2 => ?_) (fun hbad2 => ?_)
    · rw [hX]
      dsimp only
      have hM2 : MR (yWd v G') hs vI 0 tb (nI 0) (-1) hd sn sw sv (sW (mG (mB z1 tp) S' G') (yWd v G')) := by
        refine MR_wd (MR_fe (v := v) hM1 hM1.1 (fun q hq => by unfold mG mP mB; rw [ia_sIA, zu1_n _ _ _ (by omega)]; rfl) rfl ?_)
        refine ⟨rfl, fun k hk => ?_, ?_, ?_, yVl S', hok0.2.2.2.1, ?_⟩
        · unfold mG mP mB
          rw [ia_sIA, zu1_n _ _ _ (by omega)]
          exact hM1.2.2.2.2.2.1 k hk
        · unfold mG
          rw [fi_mP, if_neg (by omega), if_neg (by omega), if_neg (by omega), if_neg (by omega), if_pos rfl, hgood]
        · unfold mG
          rw [fi_mP, if_neg (by omega), if_neg (by omega), if_neg (by omega), if_neg (by omega), if_neg (by omega), if_pos rfl]
          exact hpg hgood
        · unfold mG
          rw [fi_mP, if_neg (by omega), if_neg (by omega), if_neg (by omega), if_pos rfl]
      have hok2 : wOK (yWd v G') L1 (12000 * j) := ⟨yWd_WF hW.1.1.1 hGI hsm, fun t ht => hGI.2.2 t ht⟩
      exact H2 _ (Rel_m ⟨_, _, hC1⟩ (mSt_tr (z2 := mB z1 tp) (mSt_tr (mSt_sfi (by omega)) (mSt_tr (mSt_sfi (by omega)) (mSt_tr (mSt_sfi (by omega)) (mSt_tr (mSt_sfi (by omega)) (mSt_sfi (by omega)))))) (mSt_tr (z2 := mG (mB z1 tp) S' G') (mSt_tr (mSt_sFI (by omega)) (mSt_sIA (by omega))) mSt_sW)) hM2 ⟨hok2, hW.2.1, ⟨Nat.zero_le _, hW.2.2.1.2⟩, hW.2.2.2⟩ (by omega) hS1 (by omega) (by omega))
    · rw [hX] at hbad2
      exact absurd hgood hbad2
  · generalize hX : yTW b tp (tp + 1) (yAdv b tp (0, fr, tk, vl, 0, -1)) (yG0 g) = X at *
    obtain ⟨S', G'⟩ := X
    dsimp only at *
    have hz := hC.1
    have hC1 := CR_go (tp2 := 0) (tb2 := tb) (fk2 := nI (yFk S')) (fp2 := yFp S') hC F (fun q w => by unfold okW; omega) (CS_h F hz e1 e2 hC.2.1) (RS_fr hC.2.2.1 F (by omega) (fun q _ _ => by omega) (BK_W hC.2.2.2.1 (fun q w => by unfold okW; omega))) (fun q hq => hq) (fun q hq => Or.inl hq) ⟨e4, fun k hk => by rw [(F.2 127 (by omega) (by omega)).2.2.2.1]; exact g127 k hk, e5, e6⟩
    have hM1 := MR_fr hM F hC.1 (fun q w => by omega)
    have hS1 := scr_fr hS F hC.1 (fun q w => by omega)
    obtain ⟨x1, x2, x3, x4, x5, x6, x7⟩ := two z1 _ F (fun q w => by omega)
    refine H _ z1 (MR_135 hM1) hS1 (fun Q2 H2 => ?_)
    refine m119 (d := 1491) hM1.1 x1 x2 x3 htp x4 x5 x6 x7 hvl (fun hgood2 => ?_) (fun hbad2 F2 => ?_)
    · rw [hX] at hgood2
      exact absurd hgood2 hbad
    · rw [hX]
      dsimp only
      have hM2 : MR v hs vI 0 tb (nI (yFk S')) (yFp S') hd sn sw sv (mP (mB z1 tp) S' F2) := by
        refine MR_fe hM1 hM1.1 (fun q hq => by unfold mP mB; rw [ia_sIA, zu1_n _ _ _ (by omega)]; rfl) rfl ?_
        refine ⟨rfl, fun k hk => ?_, ?_, ?_, yVl S', hok0.2.2.2.1, ?_⟩
        · unfold mP mB
          rw [ia_sIA, zu1_n _ _ _ (by omega)]
          exact hM1.2.2.2.2.2.1 k hk
        · rw [fi_mP, if_neg (by omega), if_neg (by omega), if_neg (by omega), if_neg (by omega), if_pos rfl]
        · rw [fi_mP, if_neg (by omega), if_neg (by omega), if_neg (by omega), if_neg (by omega), if_neg (by omega), if_pos rfl]
        · rw [fi_mP, if_neg (by omega), if_neg (by omega), if_neg (by omega), if_pos rfl]
      exact H2 _ (Rel_m ⟨_, _, hC1⟩ (mSt_tr (z2 := mB z1 tp) (mSt_tr (mSt_sfi (by omega)) (mSt_tr (mSt_sfi (by omega)) (mSt_tr (mSt_sfi (by omega)) (mSt_tr (mSt_sfi (by omega)) (mSt_sfi (by omega)))))) (mSt_tr (mSt_sFI (by omega)) (mSt_sIA (by omega)))) hM2 ⟨hW.1, hW.2.1, ⟨Nat.zero_le _, hW.2.2.1.2⟩, hW.2.2.2⟩ (by omega) hS1 (by omega) (by omega))
end AK
