set_option maxRecDepth 100000
/-! the component's reader: all lines -/
section CA
variable {d : Nat} {z : ZH} {Q : ZQ} {b : Nat → Nat} {sz R : Nat} {S : YS} {G : Nat → Nat} {L : Nat → List (Nat × Nat)}
theorem LC_trans {z1 z2 : ZH} {S0 S1 S2 : YS} {G0 G1 G2 : Nat → Nat} (h : LC z z1 S0 S1 G0 G1) (k : LC z1 z2 S1 S2 G1 G2) : LC z z2 S0 S2 G0 G2 := by
  obtain ⟨⟨h1, h2⟩, ⟨h3, h4⟩, h5, h6⟩ := h
  obtain ⟨⟨k1, k2⟩, ⟨k3, k4⟩, k5, k6⟩ := k
  exact ⟨⟨by omega, by omega⟩, ⟨by omega, by omega⟩, by omega, by omega⟩
/-- the next token doesn't rest on what was read -/
theorem cP_adv {S' : YS} (h : yAt S = yAt S') : cP z R (yAdv b sz S) = cP z R (yAdv b sz S') := by
  have e : ∀ a, cP z R (yTok b sz S a) = cP z R (yTok b sz S' a) := by
    intro a
    unfold yTok
    repeat' split
    all_goals simp only [cP, yAt_mk, yFr_mk, yTk_mk, yVc, yVl_mk, Nat.reduceEqDiff, if_false, if_true]
  unfold yAdv
  rw [h]
  exact e _
theorem c215 (hR : RD z R b sz) (hn : R + 11 ≤ zn z) (h162 : 162 ≤ R) (hsz : sz ≤ 1400) {S0 S00 : YS} (h0 : yAt S0 = 0) (hk0 : yFk S0 = 0) (hv : yVl S0 < 10000) (h00 : yAt S00 = 0) (hk00 : yFk S00 = 0) (hC : CT z R G L) (hI : GI G L) (hG : G 0 = 0 ∧ G 1 = 0 ∧ G 2 = 0 ∧ G 3 = 0)
    (H : yFk (yTW b sz (sz + 1) (yAdv b sz S0) G).1 = 0 → ∀ z' L', zFr (TW R) z z' → CT z' R (yTW b sz (sz + 1) (yAdv b sz S0) G).2 L' → GI (yTW b sz (sz + 1) (yAdv b sz S0) G).2 L' → zuc z ≤ zuc z' → zuc z' ≤ zuc z + 12000 → zus z ≤ zus z' → zus z' ≤ zus z + 54000 → Q (.inl (some (.ref (R + 5)))) (cP z' R (yTW b sz (sz + 1) (yAdv b sz S0) G).1))
    (HX : ¬ yFk (yTW b sz (sz + 1) (yAdv b sz S0) G).1 = 0 → ∀ z' S', zFr (TW R) z z' → zuc z ≤ zuc z' → zuc z' ≤ zuc z + 14000 → zus z ≤ zus z' → zus z' ≤ zus z + 62000 → Q (.inr (.ref (zn z'))) (mkW (cP z' R S') (nI (yFk (yTW b sz (sz + 1) (yAdv b sz S0) G).1)) (yFp (yTW b sz (sz + 1) (yAdv b sz S0) G).1))) : ZC zG (d + 8) 215 [.ref R] (cP z R S00) Q := by
  have r0 := hR.1.1.1
  have adv := fun d Q => c216 (d := d) (Q := Q) (S := S00) hR.1 (by omega) hk00
  rw [cP_adv (show yAt S00 = yAt S0 by omega)] at adv
  have ok1 : yOK sz (yAdv b sz S0) := by
    unfold yAdv
    rw [h0]
    exact yTok_ok ((skp_le b sz isSp sz 0).2 (by omega)) hv (by omega)
  generalize hT : yTW b sz (sz + 1) (yAdv b sz S0) G = T at H HX
  have lp : ∀ (n : Nat) (z1 : ZH) (S1 : YS) (G1 : Nat → Nat) (L1 : Nat → List (Nat × Nat)), zFr (TW R) z z1 → CT z1 R G1 L1 → GI G1 L1 → yOK sz S1 → yFk S1 = 0 → yLi S1 G1 → sz < yFr S1 + n → LC z z1 (yAdv b sz S0) S1 G G1 → yTW b sz n S1 G1 = T → ZW zG (d + 8) 215 4 [.ref R] [] (cP z1 R S1) Q := by
    intro n
    induction n with
    | zero =>
      intro z1 S1 G1 L1 f c1 i1 o1 o2 o3 o4
      have := o1.1
      omega
    | succ n ih =>
      intro z1 S1 G1 L1 f c1 i1 o1 o2 o3 o4 k1 e
      have n1 := f.1
      have hR1 := hR.fr f (by omega) (by omega) (fun q w => by unfold TW at w; omega) h162 (fun w => by unfold TW at w; omega)
      have s0 : zcls z1 R = 13 := hR1.1.1.1
      have s6 : zfr z1 R 6 = .ref (R + 5) := hR1.2.2.2.2.2
      have t5 : yTk S1 < 5 := o1.2.2.1
      unfold yTW at e
      obtain ⟨l1, l2⟩ := o3.2 o2
      have hfr := o1.1
      have K1 := k1
      obtain ⟨⟨k11, k12⟩, ⟨k13, k14⟩, k15, k16⟩ := k1
      refine Eq.mpr s215_4 ?_
      by_cases t : yTk S1 = 0
      · rw [if_neg (fun q => q.2 t)] at e
        rw [← e] at H
        dsimp only at H
        simp (disch := omega) only [s215_5, s215_8, s215_18, s215_19, s215_22, s215_22r, zcs_0, zcs_1, zcs_2, zcs_3, zcs_4, zcs_5, zcs_6, zcs_7, znl_i, znl_r, znl_n, Bool.and_true, Bool.true_and, zk_v, zk_n, zk_x, zir_r, zir_n, zclr_i, zclr_r, zclr_n, zclr_d, zclr_l, true_and, and_true, and_self, if_true, if_false, reduceIte, nI_add, pk_mul, zin_ok, zx_nI, nI_lt2, nI_le2, nI_eq2, nI_l0, nI_g0, nI_q0, nI_p0, nI_n0, nI_m1, Nat.add_zero, Nat.zero_add, Nat.reduceAdd, Nat.reduceMul, true_or, or_true, znar_50, bI_0, bI_1, bI_z, bft, nI_z0, nI_z1, lgc_lt, lgc_gt, lgc_le, lgc_ge, lgc_eq, not_true_eq_false, not_false_eq_true, Bool.not_eq_true, Bool.not_eq_false, reduceCtorEq, eq_self, nI_e0, nI_e1, i10, i01, decide_false, decide_true, Bool.false_eq_true, cls_cP, fr_cP, len_cP, ls_cP, n_cP, ia_cP, s0, s6, cP_9, t]
        exact H o2 z1 L1 f c1 i1 k13 (by omega) k15 (by omega)
      · rw [if_pos ⟨o2, t⟩] at e
        simp (disch := omega) only [s215_5, s215_8, s215_11, s215_12, zcs_0, zcs_1, zcs_2, zcs_3, zcs_4, zcs_5, zcs_6, zcs_7, znl_i, znl_r, znl_n, Bool.and_true, Bool.true_and, zk_v, zk_n, zk_x, zir_r, zir_n, zclr_i, zclr_r, zclr_n, zclr_d, zclr_l, true_and, and_true, and_self, if_true, if_false, reduceIte, nI_add, pk_mul, zin_ok, zx_nI, nI_lt2, nI_le2, nI_eq2, nI_l0, nI_g0, nI_q0, nI_p0, nI_n0, nI_m1, Nat.add_zero, Nat.zero_add, Nat.reduceAdd, Nat.reduceMul, true_or, or_true, znar_50, bI_0, bI_1, bI_z, bft, nI_z0, nI_z1, lgc_lt, lgc_gt, lgc_le, lgc_ge, lgc_eq, not_true_eq_false, not_false_eq_true, Bool.not_eq_true, Bool.not_eq_false, reduceCtorEq, eq_self, nI_e0, nI_e1, i10, i01, decide_false, decide_true, Bool.false_eq_true, cls_cP, fr_cP, len_cP, ls_cP, n_cP, ia_cP, s0, s6, cP_9, t]
        refine c218 (d := d) hR1 o1 o2 (by omega) h162 c1 i1 o3 hsz (fun g z' L' f2 c2 i2 k2 => ?_) (fun g z' S' f2 u1 u2 v1 v2 => ?_)
        · simp (disch := omega) only [s215_15, zcs_0, zcs_1, zcs_2, zcs_3, zcs_4, zcs_5, zcs_6, zcs_7, znl_i, znl_r, znl_n, Bool.and_true, Bool.true_and, zk_v, zk_n, zk_x, zir_r, zir_n, zclr_i, zclr_r, zclr_n, zclr_d, zclr_l, true_and, and_true, and_self, if_true, if_false, reduceIte, nI_add, pk_mul, zin_ok, zx_nI, nI_lt2, nI_le2, nI_eq2, nI_l0, nI_g0, nI_q0, nI_p0, nI_n0, nI_m1, Nat.add_zero, Nat.zero_add, Nat.reduceAdd, Nat.reduceMul, true_or, or_true, znar_50, bI_0, bI_1, bI_z, bft, nI_z0, nI_z1, lgc_lt, lgc_gt, lgc_le, lgc_ge, lgc_eq, not_true_eq_false, not_false_eq_true, Bool.not_eq_true, Bool.not_eq_false, reduceCtorEq, eq_self, nI_e0, nI_e1, i10, i01, decide_false, decide_true, Bool.false_eq_true]
          exact ih z' _ _ L' (zFr_trans f f2) c2 i2 (yLn_ok o1) g (yLn_li o1 o2 o3) (by have := (yLn_g o1 g).2.2.2.2; omega) (LC_trans K1 k2) e
        · rw [yTW_bad g] at e
          rw [← e] at HX
          dsimp only at HX
          simp only [zcs_0, zcs_1, zcs_2, zcs_3, zcs_4, zcs_5, zcs_6, zcs_7, znl_i, znl_r, znl_n, Bool.and_true, Bool.true_and, zk_v, zk_n, zk_x, zir_r, zir_n, zclr_i, zclr_r, zclr_n, zclr_d, zclr_l, true_and, and_true, and_self, if_true, if_false, reduceIte]
          exact HX g z' S' (zFr_trans f f2) (by omega) (by omega) (by omega) (by omega)
  simp (disch := omega) only [e215, s215_0, s215_1, zcs_0, zcs_1, zcs_2, zcs_3, zcs_4, zcs_5, zcs_6, zcs_7, znl_i, znl_r, znl_n, Bool.and_true, Bool.true_and, zk_v, zk_n, zk_x, zir_r, zir_n, zclr_i, zclr_r, zclr_n, zclr_d, zclr_l, true_and, and_true, and_self, if_true, if_false, reduceIte, nI_add, pk_mul, zin_ok, zx_nI, nI_lt2, nI_le2, nI_eq2, nI_l0, nI_g0, nI_q0, nI_p0, nI_n0, nI_m1, Nat.add_zero, Nat.zero_add, Nat.reduceAdd, Nat.reduceMul, true_or, or_true, znar_50, bI_0, bI_1, bI_z, bft, nI_z0, nI_z1, lgc_lt, lgc_gt, lgc_le, lgc_ge, lgc_eq, not_true_eq_false, not_false_eq_true, Bool.not_eq_true, Bool.not_eq_false, reduceCtorEq, eq_self, nI_e0, nI_e1, i10, i01, decide_false, decide_true, Bool.false_eq_true, cls_cP, fr_cP, len_cP, ls_cP, n_cP, ia_cP, r0, adv]
  obtain ⟨g0, g1, g2, g3⟩ := hG
  refine lp (sz + 1) z _ G L (zFr_refl _ _) hC hI ok1 (by rw [(yAdv_fk b sz S0).1]; exact hk0) ⟨fun _ => ⟨by omega, by omega⟩, fun _ => ⟨by omega, by omega⟩⟩ (by omega) ⟨⟨Nat.le_refl _, Nat.le_refl _⟩, ⟨Nat.le_refl _, by omega⟩, Nat.le_refl _, by omega⟩ hT
end CA
/-! a new reader -/
section CI
variable {d : Nat} {z : ZH} {Q : ZQ} {b : Nat → Nat} {sz R : Nat}
/-- words written into the array a from the place i on -/
def wrA (z : ZH) (a : Nat) : Nat → List Nat → ZH
  | _, [] => z
  | i, w :: ws => wrA (sra z a i (.ref w)) a (i + 1) ws
theorem wrA_f (a : Nat) : ∀ (l : List Nat) (z : ZH) (i : Nat), zcls (wrA z a i l) = zcls z ∧ zfi (wrA z a i l) = zfi z ∧ zfr (wrA z a i l) = zfr z ∧ zia (wrA z a i l) = zia z ∧ zla (wrA z a i l) = zla z ∧ zlen (wrA z a i l) = zlen z ∧ zls (wrA z a i l) = zls z ∧ zn (wrA z a i l) = zn z ∧ zuc (wrA z a i l) = zuc z ∧ zus (wrA z a i l) = zus z ∧ (∀ q, ¬ q = a → zra (wrA z a i l) q = zra z q) ∧ (∀ j, j < i → zra (wrA z a i l) a j = zra z a j) ∧ (∀ j, j < l.length → zra (wrA z a i l) a (i + j) = .ref (l.getD j 0))
  | [], z, i => ⟨rfl, rfl, rfl, rfl, rfl, rfl, rfl, rfl, rfl, rfl, fun _ _ => rfl, fun _ _ => rfl, fun j hj => absurd hj (Nat.not_lt_zero _)⟩
  | w :: ws, z, i => by
    obtain ⟨h1, h2, h3, h4, h5, h6, h7, h8, h9, h10, h11, h12, h13⟩ := wrA_f a ws (sra z a i (.ref w)) (i + 1)
    refine ⟨h1, h2, h3, h4, h5, h6, h7, h8, h9, h10, fun q hq => ?_, fun j hj => ?_, fun j hj => ?_⟩
    · show zra (wrA (sra z a i (.ref w)) a (i + 1) ws) q = _
      rw [h11 q hq, ra_sra]
      funext k
      exact zu2_n _ _ _ _ hq
    · show zra (wrA (sra z a i (.ref w)) a (i + 1) ws) a j = _
      rw [h12 j (by omega), ra_sra, zu2_k _ _ _ _ (by omega)]
    · show zra (wrA (sra z a i (.ref w)) a (i + 1) ws) a (i + j) = _
      cases j with
      | zero =>
        show zra (wrA (sra z a i (.ref w)) a (i + 1) ws) a i = _
        rw [h12 i (by omega), ra_sra, zu2_s]; rfl
      | succ j =>
        have := h13 j (by rw [List.length_cons] at hj; omega)
        rw [show i + (j + 1) = i + 1 + j by omega, this]
        rfl
/-- a new array with its words, put into the reader's field k -/
def nwA (z : ZH) (R k : Nat) (l : List Nat) : ZH := sfr (wrA (sarr z 63 l.length) (zn z) 0 l) R k (.ref (zn z))
theorem nwA_f {k : Nat} {l : List Nat} (hR : R < zn z) (hl : l.length < 20 ∧ ∀ i, i < l.length → l.getD i 0 < 35) : zFr (fun q => q = R) z (nwA z R k l) ∧ WAr (nwA z R k l) (zn z) l ∧ zn (nwA z R k l) = zn z + 1 ∧ zuc (nwA z R k l) = zuc z + 1 ∧ zus (nwA z R k l) = zus z + l.length ∧ zfi (nwA z R k l) = zfi z ∧ zfr (nwA z R k l) R k = .ref (zn z) ∧ (∀ j, ¬ j = k → zfr (nwA z R k l) R j = zfr z R j) ∧ zcls (nwA z R k l) R = zcls z R := by
  obtain ⟨h1, h2, h3, h4, h5, h6, h7, h8, h9, h10, h11, h12, h13⟩ := wrA_f (zn z) l (sarr z 63 l.length) 0
  have F1 : zFr (fun q => q = R) z (sarr z 63 l.length) := zFr_sarr (zFr_refl _ _)
  have F2 : zFr (fun q => q = R) z (wrA (sarr z 63 l.length) (zn z) 0 l) := by
    refine ⟨by rw [h8]; exact F1.1, fun q hq hw => ?_⟩
    obtain ⟨a1, a2, a3, a4, a5, a6, a7, a8⟩ := F1.2 q hq hw
    rw [h1, h2, h3, h4, h5, h6, h7, h11 q (by omega)]
    exact ⟨a1, a2, a3, a4, a5, a6, a7, a8⟩
  refine ⟨zFr_sfr F2 (Or.inr rfl), ⟨?_, ?_, hl.1, fun i hi => ⟨?_, hl.2 i hi⟩⟩, ?_, ?_, ?_, ?_, ?_, fun j hj => ?_, ?_⟩
  · unfold nwA; rw [cls_sfr, h1, cls_sarr, zu1_s]
  · unfold nwA; rw [len_sfr, h6, len_sarr, zu1_s]
  · unfold nwA
    rw [ra_sfr]
    have := h13 i hi
    rw [Nat.zero_add] at this
    exact this
  · unfold nwA; rw [n_sfr, h8, n_sarr]
  · unfold nwA; rw [uc_sfr, h9, uc_sarr]
  · unfold nwA; rw [us_sfr, h10, us_sarr]
  · unfold nwA; rw [fi_sfr, h2, fi_sarr]
  · unfold nwA; rw [fr_sfr, zu2_s]
  · unfold nwA; rw [fr_sfr, zu2_k _ _ _ _ hj, h3, fr_sarr]
  · unfold nwA; rw [cls_sfr, h1, cls_sarr, zu1_n _ _ _ (by omega)]
theorem za63 {w : Nat} (hw : w < 35) : zael z 63 (.ref w) = true := by
  simp [zael, hw]
theorem c214_0 {x1 x2 : Value} (hq : zcls z R = 13) (hn : R < zn z) : ZW zG d 214 4 [.ref R, x1, x2] [] z Q = ZW zG d 214 49 [.ref R, x1, x2] [] (nwA z R 0 [28, 19, 32, 33, 30, 9, 26]) Q := by
  have w : nwA z R 0 [28, 19, 32, 33, 30, 9, 26] = sfr (sra (sra (sra (sra (sra (sra (sra (sarr z 63 7) (zn z) 0 (.ref 28)) (zn z) 1 (.ref 19)) (zn z) 2 (.ref 32)) (zn z) 3 (.ref 33)) (zn z) 4 (.ref 30)) (zn z) 5 (.ref 9)) (zn z) 6 (.ref 26)) R 0 (.ref (zn z)) := rfl
  rw [w]
  simp (disch := omega) only [s214_4, s214_5, s214_7, s214_10, s214_11, s214_12, s214_14, s214_15, s214_16, s214_17, s214_19, s214_20, s214_21, s214_22, s214_24, s214_25, s214_26, s214_27, s214_29, s214_30, s214_31, s214_32, s214_34, s214_35, s214_36, s214_37, s214_39, s214_40, s214_41, s214_43, s214_45, s214_46, zcs_0, zcs_1, zcs_2, zcs_3, zcs_4, zcs_5, zcs_6, zcs_7, znl_i, znl_r, znl_n, Bool.and_true, Bool.true_and, zk_v, zk_n, zk_x, zir_r, zir_n, zclr_i, zclr_r, zclr_n, zclr_d, zclr_l, true_and, and_true, and_self, if_true, if_false, reduceIte, nI_add, pk_mul, zin_ok, zx_nI, nI_lt2, nI_le2, nI_eq2, nI_l0, nI_g0, nI_q0, nI_p0, nI_n0, nI_m1, Nat.add_zero, Nat.zero_add, Nat.reduceAdd, Nat.reduceMul, true_or, or_true, znar_50, bI_0, bI_1, bI_z, bft, nI_z0, nI_z1, lgc_lt, lgc_gt, lgc_le, lgc_ge, lgc_eq, not_true_eq_false, not_false_eq_true, Bool.not_eq_true, Bool.not_eq_false, reduceCtorEq, eq_self, nI_e0, nI_e1, i10, i01, decide_false, decide_true, Bool.false_eq_true, cls_sra, cls_sarr, len_sra, len_sarr, zu1_s, zu1_n, za63, hq, ne_eq]
theorem c214_1 {x1 x2 : Value} (hq : zcls z R = 13) (hn : R < zn z) : ZW zG d 214 49 [.ref R, x1, x2] [] z Q = ZW zG d 214 77 [.ref R, x1, x2] [] (nwA z R 1 [27, 5, 3, 8]) Q := by
  have w : nwA z R 1 [27, 5, 3, 8] = sfr (sra (sra (sra (sra (sarr z 63 4) (zn z) 0 (.ref 27)) (zn z) 1 (.ref 5)) (zn z) 2 (.ref 3)) (zn z) 3 (.ref 8)) R 1 (.ref (zn z)) := rfl
  rw [w]
  simp (disch := omega) only [s214_49, s214_50, s214_51, s214_54, s214_55, s214_56, s214_58, s214_59, s214_60, s214_61, s214_63, s214_64, s214_65, s214_66, s214_68, s214_69, s214_70, s214_71, s214_73, s214_74, zcs_0, zcs_1, zcs_2, zcs_3, zcs_4, zcs_5, zcs_6, zcs_7, znl_i, znl_r, znl_n, Bool.and_true, Bool.true_and, zk_v, zk_n, zk_x, zir_r, zir_n, zclr_i, zclr_r, zclr_n, zclr_d, zclr_l, true_and, and_true, and_self, if_true, if_false, reduceIte, nI_add, pk_mul, zin_ok, zx_nI, nI_lt2, nI_le2, nI_eq2, nI_l0, nI_g0, nI_q0, nI_p0, nI_n0, nI_m1, Nat.add_zero, Nat.zero_add, Nat.reduceAdd, Nat.reduceMul, true_or, or_true, znar_50, bI_0, bI_1, bI_z, bft, nI_z0, nI_z1, lgc_lt, lgc_gt, lgc_le, lgc_ge, lgc_eq, not_true_eq_false, not_false_eq_true, Bool.not_eq_true, Bool.not_eq_false, reduceCtorEq, eq_self, nI_e0, nI_e1, i10, i01, decide_false, decide_true, Bool.false_eq_true, cls_sra, cls_sarr, len_sra, len_sarr, zu1_s, zu1_n, za63, hq, ne_eq]
theorem c214_2 {x1 x2 : Value} (hq : zcls z R = 13) (hn : R < zn z) : ZW zG d 214 77 [.ref R, x1, x2] [] z Q = ZW zG d 214 100 [.ref R, x1, x2] [] (nwA z R 2 [20, 16, 25]) Q := by
  have w : nwA z R 2 [20, 16, 25] = sfr (sra (sra (sra (sarr z 63 3) (zn z) 0 (.ref 20)) (zn z) 1 (.ref 16)) (zn z) 2 (.ref 25)) R 2 (.ref (zn z)) := rfl
  rw [w]
  simp (disch := omega) only [s214_77, s214_78, s214_79, s214_82, s214_83, s214_84, s214_86, s214_87, s214_88, s214_89, s214_91, s214_92, s214_93, s214_94, s214_96, s214_97, zcs_0, zcs_1, zcs_2, zcs_3, zcs_4, zcs_5, zcs_6, zcs_7, znl_i, znl_r, znl_n, Bool.and_true, Bool.true_and, zk_v, zk_n, zk_x, zir_r, zir_n, zclr_i, zclr_r, zclr_n, zclr_d, zclr_l, true_and, and_true, and_self, if_true, if_false, reduceIte, nI_add, pk_mul, zin_ok, zx_nI, nI_lt2, nI_le2, nI_eq2, nI_l0, nI_g0, nI_q0, nI_p0, nI_n0, nI_m1, Nat.add_zero, Nat.zero_add, Nat.reduceAdd, Nat.reduceMul, true_or, or_true, znar_50, bI_0, bI_1, bI_z, bft, nI_z0, nI_z1, lgc_lt, lgc_gt, lgc_le, lgc_ge, lgc_eq, not_true_eq_false, not_false_eq_true, Bool.not_eq_true, Bool.not_eq_false, reduceCtorEq, eq_self, nI_e0, nI_e1, i10, i01, decide_false, decide_true, Bool.false_eq_true, cls_sra, cls_sarr, len_sra, len_sarr, zu1_s, zu1_n, za63, hq, ne_eq]
theorem c214_3 {x1 x2 : Value} (hq : zcls z R = 13) (hn : R < zn z) : ZW zG d 214 100 [.ref R, x1, x2] [] z Q = ZW zG d 214 133 [.ref R, x1, x2] [] (nwA z R 3 [17, 29, 7, 6, 15]) Q := by
  have w : nwA z R 3 [17, 29, 7, 6, 15] = sfr (sra (sra (sra (sra (sra (sarr z 63 5) (zn z) 0 (.ref 17)) (zn z) 1 (.ref 29)) (zn z) 2 (.ref 7)) (zn z) 3 (.ref 6)) (zn z) 4 (.ref 15)) R 3 (.ref (zn z)) := rfl
  rw [w]
  simp (disch := omega) only [s214_100, s214_101, s214_102, s214_105, s214_106, s214_107, s214_109, s214_110, s214_111, s214_112, s214_114, s214_115, s214_116, s214_117, s214_119, s214_120, s214_121, s214_122, s214_124, s214_125, s214_126, s214_127, s214_129, s214_130, zcs_0, zcs_1, zcs_2, zcs_3, zcs_4, zcs_5, zcs_6, zcs_7, znl_i, znl_r, znl_n, Bool.and_true, Bool.true_and, zk_v, zk_n, zk_x, zir_r, zir_n, zclr_i, zclr_r, zclr_n, zclr_d, zclr_l, true_and, and_true, and_self, if_true, if_false, reduceIte, nI_add, pk_mul, zin_ok, zx_nI, nI_lt2, nI_le2, nI_eq2, nI_l0, nI_g0, nI_q0, nI_p0, nI_n0, nI_m1, Nat.add_zero, Nat.zero_add, Nat.reduceAdd, Nat.reduceMul, true_or, or_true, znar_50, bI_0, bI_1, bI_z, bft, nI_z0, nI_z1, lgc_lt, lgc_gt, lgc_le, lgc_ge, lgc_eq, not_true_eq_false, not_false_eq_true, Bool.not_eq_true, Bool.not_eq_false, reduceCtorEq, eq_self, nI_e0, nI_e1, i10, i01, decide_false, decide_true, Bool.false_eq_true, cls_sra, cls_sarr, len_sra, len_sarr, zu1_s, zu1_n, za63, hq, ne_eq]
end CI
