set_option maxRecDepth 100000
/-! the component: keep, back -/
section KB
variable {d : Nat} {B : Nat → Prop} {z : ZH} {Q : ZQ} {v : Nat → Nat} {L : Nat → List (Nat × Nat)} {t hl kn rl : Nat} {ha ra da ea : Nat → Nat}
theorem NW_RS (h : NW B z v L t hl kn rl ha ra da ea) : RS B z 102 v L := by
  have hL := h.ls
  obtain ⟨h0, ⟨h1, h2, h3, h4⟩, hH, hR, hD, hK, h9, hE, h6⟩ := h
  unfold CS at h0
  exact ⟨⟨by simp only [h0], by simp only [h0, Nat.reduceAdd], by simp only [h0, Nat.reduceAdd], by simp only [h0, Nat.reduceAdd], hL⟩, t, hl, kn, rl, ha, ra, da, ea, ⟨h1, h2, h3, h4⟩, hH, hR, hD, hK, h9, hE, h6⟩
theorem RS_NW (h0 : CS z) (h : RS B z 102 v L) : ∃ t hl kn rl ha ra da ea, NW B z v L t hl kn rl ha ra da ea := by
  obtain ⟨_, t, hl, kn, rl, ha, ra, da, ea, a, b, c, e, f, g, h, i⟩ := h
  exact ⟨t, hl, kn, rl, ha, ra, da, ea, h0, a, b, c, e, f, g, h, i⟩
theorem RS_fr {W : Nat → Prop} {z2 : ZH} {s : Nat} (h : RS B z s v L) (F : zFr W z z2) (hs : s + 14 ≤ zn z) (hW : ∀ q, s ≤ q → q < s + 14 → ¬ W q) (hB : ∀ q, B q → q < zn z ∧ ¬ W q) : RS B z2 s v L := by
  obtain ⟨⟨s1, s2, s3, s4, l1, l2, l3, l4, l5, l6, l7, l8⟩, t, hl, kn, rl, ha, ra, da, ea, ⟨t1, t2, t3, t4⟩, hH, hR, hD, hK, h9, hE, h6⟩ := h
  have st : zSt B z z2 := F.st hB
  have c := fun q (h1 : s ≤ q) (h2 : q < s + 14) => F.2 q (by omega) (hW q h1 h2)
  have c0 := c s (by omega) (by omega)
  have c7 := c (s + 7) (by omega) (by omega)
  have c8 := c (s + 8) (by omega) (by omega)
  have c9 := c (s + 9) (by omega) (by omega)
  have c11 := c (s + 11) (by omega) (by omega)
  have c12 := c (s + 12) (by omega) (by omega)
  have tB := st t hH.1.1
  refine ⟨⟨by rw [c0.1]; exact s1, by rw [c0.2.2.1]; exact s2, by rw [c0.2.2.1]; exact s3, by rw [c12.1]; exact s4, by rw [c7.1]; exact l1, by rw [c7.2.2.1]; exact l2, by rw [show s + 7 + 1 = s + 8 from rfl, c8.1]; exact l3, by rw [show s + 7 + 1 = s + 8 from rfl, c8.2.2.2.2.2.2.1]; exact l4, by rw [c7.2.2.1]; exact l5, by rw [show s + 7 + 2 = s + 9 from rfl, c9.1]; exact l6, by rw [c7.2.2.1]; exact l7, by rw [show s + 7 + 4 = s + 11 from rfl, c11.1]; exact l8⟩, t, hl, kn, rl, ha, ra, da, ea, ⟨by rw [c0.2.2.1]; exact t1, by rw [c7.2.2.1]; exact t2, by rw [tB.2.2.1]; exact t3, by rw [c7.2.2.1]; exact t4⟩, hH.st st, hR.st st, hD.st st c9.2.2.2.2.2.2.2, fun h hh => ?_, by rw [c7.2.1]; exact h9, hE.st st c12.2.2.2.2.2.2.2, by rw [c0.2.1]; exact h6⟩
  rw [show s + 7 + 1 = s + 8 from rfl, c8.2.2.2.1]
  exact hK h hh
/-- the component's fixed cells, when now has become another -/
theorem CS_st {z2 : ZH} (F : zFr (stW 102) z z2) (hz : 162 ≤ zn z) (hS : SS z2 102) (h0 : CS z) : CS z2 := by
  unfold CS at h0 ⊢
  obtain ⟨s1, s2, s3, s4, l1, l2, l3, l4, l5, l6, l7, l8⟩ := hS
  simp only [Nat.reduceAdd] at s2 s3 s4 l1 l2 l3 l4 l5 l6 l7 l8
  have w100 := F.2 100 (by omega) (by unfold stW ldW; omega)
  have w101 := F.2 101 (by omega) (by unfold stW ldW; omega)
  have w113 := F.2 113 (by omega) (by unfold stW ldW; omega)
  have w116 := F.2 116 (by omega) (by unfold stW ldW; omega)
  have w117 := F.2 117 (by omega) (by unfold stW ldW; omega)
  have w118 := F.2 118 (by omega) (by unfold stW ldW; omega)
  have w119 := F.2 119 (by omega) (by unfold stW ldW; omega)
  have w120 := F.2 120 (by omega) (by unfold stW ldW; omega)
  have w121 := F.2 121 (by omega) (by unfold stW ldW; omega)
  have w122 := F.2 122 (by omega) (by unfold stW ldW; omega)
  have w123 := F.2 123 (by omega) (by unfold stW ldW; omega)
  have w124 := F.2 124 (by omega) (by unfold stW ldW; omega)
  have w125 := F.2 125 (by omega) (by unfold stW ldW; omega)
  have w126 := F.2 126 (by omega) (by unfold stW ldW; omega)
  have w127 := F.2 127 (by omega) (by unfold stW ldW; omega)
  have w128 := F.2 128 (by omega) (by unfold stW ldW; omega)
  have w129 := F.2 129 (by omega) (by unfold stW ldW; omega)
  have w130 := F.2 130 (by omega) (by unfold stW ldW; omega)
  have w131 := F.2 131 (by omega) (by unfold stW ldW; omega)
  have w132 := F.2 132 (by omega) (by unfold stW ldW; omega)
  have w133 := F.2 133 (by omega) (by unfold stW ldW; omega)
  have w134 := F.2 134 (by omega) (by unfold stW ldW; omega)
  simp only [w100, w101, w113, w116, w117, w118, w119, w120, w121, w122, w123, w124, w125, w126, w127, w128, w129, w130, w131, w132, w133, w134, s1, s2, s3, s4, l1, l2, l3, l4, l5, l6, l7, l8, h0, and_self]
/-- images -/
def IMs (B : Nat → Prop) (z : ZH) : Prop := ∀ k, k < 3 → zra z 116 k = .null ∨ ∃ s : Nat, zra z 116 k = .ref s ∧ SS z s ∧ 162 ≤ s ∧ s + 14 ≤ zn z ∧ ∀ q, stW s q → ¬ B q
/-- one state becomes now -/
theorem c57k {z1 : ZH} {s k : Nat} (hk : k < 3) (h100 : zcls z1 100 = 0) (h1002 : zfr z1 100 2 = .ref 116) (h1001 : zfr z1 100 1 = .ref 102) (h116 : zcls z1 116 = 61) (h1163 : zlen z1 116 = 3) (hs : zra z1 116 k = .ref s) (sS : SS z1 s) (s162 : 162 ≤ s) (sn : s + 14 ≤ zn z1) (hR : RS B z1 102 v L) (hB : ∀ q, B q → ((103 ≤ q ∧ q ≤ 108) ∨ 162 ≤ q) ∧ q < zn z1) (nB : ∀ q, stW s q → ¬ B q) (H : ∀ z2, RS B z2 s v L → zFr (stW s) z1 z2 → (zuc z1 ≤ zuc z2 ∧ zuc z2 ≤ zuc z1 + 1200) → (zus z1 ≤ zus z2 ∧ zus z2 ≤ zus z1 + 9608) → Q (.inl (some (.int (nI 0)))) z2) : ZW zG (d + 2) 57 37 [.ref 100, .int (nI k)] [] z1 Q := by
  have s1 : zcls z1 s = 1 := sS.1
  simp (disch := omega) only [s57_37, s57_38, s57_41, s57_42, s57_43, s57_44, s57_47, zcs_0, zcs_1, zcs_2, zcs_3, zcs_4, zcs_5, zcs_6, zcs_7, znl_i, znl_r, znl_n, Bool.and_true, Bool.true_and, zk_v, zk_n, zk_x, zir_r, zir_n, zclr_i, zclr_r, zclr_n, zclr_d, zclr_l, true_and, and_true, and_self, if_true, if_false, reduceIte, nI_add, pk_mul, zin_ok, zx_nI, nI_lt2, nI_le2, nI_eq2, nI_l0, nI_g0, nI_q0, nI_p0, nI_n0, nI_m1, Nat.add_zero, Nat.zero_add, Nat.reduceAdd, Nat.reduceMul, true_or, or_true, znar_50, bI_0, bI_1, bI_z, bft, nI_z0, nI_z1, lgc_lt, lgc_gt, lgc_le, lgc_ge, lgc_eq, not_true_eq_false, not_false_eq_true, Bool.not_eq_true, Bool.not_eq_false, reduceCtorEq, eq_self, nI_e0, nI_e1, i10, i01, decide_false, decide_true, Bool.false_eq_true, h100, h1002, h1001, h116, h1163, hs, s1]
  refine c61 (d := d) sS (Or.inr (by omega)) hR (fun q hq => ⟨by have := hB q hq; omega, (hB q hq).2⟩) nB ⟨sn, by omega⟩ (fun z2 r f u w => ?_)
  simp (disch := omega) only [s57_50, s57_51, zcs_0, zcs_1, zcs_2, zcs_3, zcs_4, zcs_5, zcs_6, zcs_7, znl_i, znl_r, znl_n, Bool.and_true, Bool.true_and, zk_v, zk_n, zk_x, zir_r, zir_n, zclr_i, zclr_r, zclr_n, zclr_d, zclr_l, true_and, and_true, and_self, if_true, if_false, reduceIte, nI_add, pk_mul, zin_ok, zx_nI, nI_lt2, nI_le2, nI_eq2, nI_l0, nI_g0, nI_q0, nI_p0, nI_n0, nI_m1, Nat.add_zero, Nat.zero_add, Nat.reduceAdd, Nat.reduceMul, true_or, or_true, znar_50, bI_0, bI_1, bI_z, bft, nI_z0, nI_z1, lgc_lt, lgc_gt, lgc_le, lgc_ge, lgc_eq, not_true_eq_false, not_false_eq_true, Bool.not_eq_true, Bool.not_eq_false, reduceCtorEq, eq_self, nI_e0, nI_e1, i10, i01, decide_false, decide_true, Bool.false_eq_true]
  exact H z2 r f u w
theorem c57 (h : NW B z v L t hl kn rl ha ra da ea) (hB : ∀ q, B q → ((103 ≤ q ∧ q ≤ 108) ∨ 162 ≤ q) ∧ q < zn z) (hz : 162 ≤ zn z) (hI : IMs B z) {a : Int32}
    (H2 : zin a 3 = false → Q (.inl (some (.int (-2)))) z)
    (H : ∀ (k : Nat) (z2 : ZH) (s : Nat), k < 3 → a = nI k → zra z2 116 k = .ref s → RS B z2 s v L → (zra z 116 k = .ref s ∨ (zra z 116 k = .null ∧ s = zn z)) → zFr (fun q => q = 116 ∨ stW s q) z z2 → zcls z2 116 = zcls z 116 → zlen z2 116 = zlen z 116 → (∀ j, ¬ j = k → zra z2 116 j = zra z 116 j) → (zuc z ≤ zuc z2 ∧ zuc z2 ≤ zuc z + 1300) → (zus z ≤ zus z2 ∧ zus z2 ≤ zus z + 9800) → s + 14 ≤ zn z2 → Q (.inl (some (.int (nI 0)))) z2) : ZC zG (d + 3) 57 [.ref 100, .int a] z Q := by
  have hRS := NW_RS h
  have h0 := h.1
  unfold CS at h0
  have k100 : zcls z 100 = 0 := by simp only [h0]
  have k1002 : zfr z 100 2 = .ref 116 := by simp only [h0]
  have k1001 : zfr z 100 1 = .ref 102 := by simp only [h0]
  have k116 : zcls z 116 = 61 := by simp only [h0]
  have k1163 : zlen z 116 = 3 := by simp only [h0]
  clear h0
  by_cases ha3 : zin a 3 = true
  rotate_left
  · rw [Bool.not_eq_true] at ha3
    simp (disch := omega) only [e57, s57_0, s57_1, s57_2, s57_3, s57_6, s57_9, s57_12, s57_14, zcs_0, zcs_1, zcs_2, zcs_3, zcs_4, zcs_5, zcs_6, zcs_7, znl_i, znl_r, znl_n, Bool.and_true, Bool.true_and, zk_v, zk_n, zk_x, zir_r, zir_n, zclr_i, zclr_r, zclr_n, zclr_d, zclr_l, true_and, and_true, and_self, if_true, if_false, reduceIte, nI_add, pk_mul, zin_ok, zx_nI, nI_lt2, nI_le2, nI_eq2, nI_l0, nI_g0, nI_q0, nI_p0, nI_n0, nI_m1, Nat.add_zero, Nat.zero_add, Nat.reduceAdd, Nat.reduceMul, true_or, or_true, znar_50, bI_0, bI_1, bI_z, bft, nI_z0, nI_z1, lgc_lt, lgc_gt, lgc_le, lgc_ge, lgc_eq, not_true_eq_false, not_false_eq_true, Bool.not_eq_true, Bool.not_eq_false, reduceCtorEq, eq_self, nI_e0, nI_e1, i10, i01, decide_false, decide_true, Bool.false_eq_true, c2, lin_c, ha3]
    exact H2 ha3
  obtain ⟨k, hk, hk2, rfl⟩ := zin_of ha3
  rcases hI k hk with hn | ⟨s, hs, sS, s162, sn, nB⟩
  · -- a new one
    have F1 : zFr (fun _ => False) z (snew z 1 4) := zFr_snew (zFr_refl _ _)
    have cs : zcls (snew z 1 4) (zn z) = 1 := by rw [cls_snew, zu1_s]
    have ns : zn (snew z 1 4) = zn z + 1 := by rw [n_snew]
    have us : zuc (snew z 1 4) = zuc z + 1 ∧ zus (snew z 1 4) = zus z + 4 := ⟨by rw [uc_snew], by rw [us_snew]⟩
    have sA : ∀ Q, ZC zG (d + 3) 57 [.ref 100, .int (nI k)] z Q = ZC zG (d + 2) 59 [.ref (zn z)] (snew z 1 4) (zk zG (d + 3) 57 none 36 [.ref 100, .int (nI k)] [.ref (zn z), .int (nI k), .ref 116] Q) := fun Q => by
      simp (disch := omega) only [e57, s57_0, s57_1, s57_2, s57_3, s57_6, s57_9, s57_12, s57_14, s57_15, s57_16, s57_19, s57_20, s57_21, s57_21r, s57_24, s57_25, s57_28, s57_29, s57_32, s57_33, zcs_0, zcs_1, zcs_2, zcs_3, zcs_4, zcs_5, zcs_6, zcs_7, znl_i, znl_r, znl_n, Bool.and_true, Bool.true_and, zk_v, zk_n, zk_x, zir_r, zir_n, zclr_i, zclr_r, zclr_n, zclr_d, zclr_l, true_and, and_true, and_self, if_true, if_false, reduceIte, nI_add, pk_mul, zin_ok, zx_nI, nI_lt2, nI_le2, nI_eq2, nI_l0, nI_g0, nI_q0, nI_p0, nI_n0, nI_m1, Nat.add_zero, Nat.zero_add, Nat.reduceAdd, Nat.reduceMul, true_or, or_true, znar_50, bI_0, bI_1, bI_z, bft, nI_z0, nI_z1, lgc_lt, lgc_gt, lgc_le, lgc_ge, lgc_eq, not_true_eq_false, not_false_eq_true, Bool.not_eq_true, Bool.not_eq_false, reduceCtorEq, eq_self, nI_e0, nI_e1, i10, i01, decide_false, decide_true, Bool.false_eq_true, c2, lin_c, ha3, k100, k1002, k116, k1163, hn]
    rw [sA]
    generalize snew z 1 4 = z1 at *
    refine c59 (d := d) ns cs (fun z2 F2 n2 S2 _ _ _ u2 w2 => ?_)
    have F12 : zFr (fun _ => False) z z2 := zFr_tr F1 F2 (fun q hq w => by omega)
    have c2s : zcls z2 (zn z) = 1 := S2.1
    have x116 := F12.2 116 (by omega) (fun w => w)
    have x100 := F12.2 100 (by omega) (fun w => w)
    have ze : zael z2 61 (.ref (zn z)) = true := by
      have : 100 ≤ zn z := by omega
      simp [zael, c2s, this]
    have y116 : zcls z2 116 = 61 ∧ zlen z2 116 = 3 := ⟨by rw [x116.1]; exact k116, by rw [x116.2.2.2.2.2.2.1]; exact k1163⟩
    simp (disch := omega) only [s57_36, zcs_0, zcs_1, zcs_2, zcs_3, zcs_4, zcs_5, zcs_6, zcs_7, znl_i, znl_r, znl_n, Bool.and_true, Bool.true_and, zk_v, zk_n, zk_x, zir_r, zir_n, zclr_i, zclr_r, zclr_n, zclr_d, zclr_l, true_and, and_true, and_self, if_true, if_false, reduceIte, nI_add, pk_mul, zin_ok, zx_nI, nI_lt2, nI_le2, nI_eq2, nI_l0, nI_g0, nI_q0, nI_p0, nI_n0, nI_m1, Nat.add_zero, Nat.zero_add, Nat.reduceAdd, Nat.reduceMul, true_or, or_true, znar_50, bI_0, bI_1, bI_z, bft, nI_z0, nI_z1, lgc_lt, lgc_gt, lgc_le, lgc_ge, lgc_eq, not_true_eq_false, not_false_eq_true, Bool.not_eq_true, Bool.not_eq_false, reduceCtorEq, eq_self, nI_e0, nI_e1, i10, i01, decide_false, decide_true, Bool.false_eq_true, y116.1, y116.2, ze]
    have F3 : zFr (fun q => q = 116) z2 (sra z2 116 k (.ref (zn z))) := zFr_sra (zFr_refl _ _) (Or.inr rfl)
    have hra : zra (sra z2 116 k (.ref (zn z))) = zu2 (zra z2) 116 k (.ref (zn z)) := by rw [ra_sra]
    have hcl : zcls (sra z2 116 k (.ref (zn z))) = zcls z2 := by rw [cls_sra]
    have hfr : zfr (sra z2 116 k (.ref (zn z))) = zfr z2 := by rw [fr_sra]
    have hln : zlen (sra z2 116 k (.ref (zn z))) = zlen z2 := by rw [len_sra]
    have hnn : zn (sra z2 116 k (.ref (zn z))) = zn z2 := by rw [n_sra]
    have huu : zuc (sra z2 116 k (.ref (zn z))) = zuc z2 ∧ zus (sra z2 116 k (.ref (zn z))) = zus z2 := ⟨by rw [uc_sra], by rw [us_sra]⟩
    generalize sra z2 116 k (.ref (zn z)) = z3 at *
    have S3 : SS z3 (zn z) := by
      obtain ⟨a1, a2, a3, a4, b1, b2, b3, b4, b5, b6, b7, b8⟩ := S2
      exact ⟨by rw [hcl]; exact a1, by rw [hfr]; exact a2, by rw [hfr]; exact a3, by rw [hcl]; exact a4, by rw [hcl]; exact b1, by rw [hfr]; exact b2, by rw [hcl]; exact b3, by rw [hln]; exact b4, by rw [hfr]; exact b5, by rw [hcl]; exact b6, by rw [hfr]; exact b7, by rw [hcl]; exact b8⟩
    have F13 : zFr (fun q => q = 116) z z3 := zFr_tr (zFr_mono (fun _ _ w => w.elim) F12) F3 (fun q _ w => w)
    have R3 : RS B z3 102 v L := RS_fr hRS F13 (by omega) (fun q _ _ => by omega) (fun q hq => ⟨(hB q hq).2, fun w => by have := (hB q hq).1; omega⟩)
    refine c57k (d := d + 1) hk (by rw [hcl, x100.1]; exact k100) (by rw [hfr, x100.2.2.1]; exact k1002) (by rw [hfr, x100.2.2.1]; exact k1001) (by rw [hcl]; exact y116.1) (by rw [hln]; exact y116.2) (by rw [hra, zu2_s]) S3 hz (by omega) R3 (fun q hq => ⟨(hB q hq).1, by have := (hB q hq).2; omega⟩) (fun q w hq => by have := (hB q hq).2; unfold stW ldW at w; omega) (fun z4 r f u w => ?_)
    have w116 : ¬ stW (zn z) 116 := by unfold stW ldW; omega
    have v116 := f.2 116 (by omega) w116
    refine H k z4 (zn z) hk rfl (by rw [v116.2.2.2.2.2.1, hra, zu2_s]) r (Or.inr ⟨hn, rfl⟩) (zFr_tr (zFr_mono (fun q _ w => Or.inl w) F13) f (fun q _ w => Or.inr w)) (by rw [v116.1, hcl, y116.1, k116]) (by rw [v116.2.2.2.2.2.2.1, hln, y116.2, k1163]) (fun j hj => by rw [v116.2.2.2.2.2.1, hra, zu2_k _ _ _ _ hj, x116.2.2.2.2.2.1]) (by omega) (by omega) (by have := f.1; omega)
  · have sA : ∀ Q, ZC zG (d + 3) 57 [.ref 100, .int (nI k)] z Q = ZW zG (d + 3) 57 37 [.ref 100, .int (nI k)] [] z Q := fun Q => by
      simp (disch := omega) only [e57, s57_0, s57_1, s57_2, s57_3, s57_6, s57_9, s57_12, s57_14, s57_15, s57_16, s57_19, s57_20, s57_21, s57_21r, zcs_0, zcs_1, zcs_2, zcs_3, zcs_4, zcs_5, zcs_6, zcs_7, znl_i, znl_r, znl_n, Bool.and_true, Bool.true_and, zk_v, zk_n, zk_x, zir_r, zir_n, zclr_i, zclr_r, zclr_n, zclr_d, zclr_l, true_and, and_true, and_self, if_true, if_false, reduceIte, nI_add, pk_mul, zin_ok, zx_nI, nI_lt2, nI_le2, nI_eq2, nI_l0, nI_g0, nI_q0, nI_p0, nI_n0, nI_m1, Nat.add_zero, Nat.zero_add, Nat.reduceAdd, Nat.reduceMul, true_or, or_true, znar_50, bI_0, bI_1, bI_z, bft, nI_z0, nI_z1, lgc_lt, lgc_gt, lgc_le, lgc_ge, lgc_eq, not_true_eq_false, not_false_eq_true, Bool.not_eq_true, Bool.not_eq_false, reduceCtorEq, eq_self, nI_e0, nI_e1, i10, i01, decide_false, decide_true, Bool.false_eq_true, c2, lin_c, ha3, k100, k1002, k116, k1163, hs]
    rw [sA]
    refine c57k (d := d + 1) hk k100 k1002 k1001 k116 k1163 hs sS s162 sn hRS hB nB (fun z4 r f u w => ?_)
    have w116 : ¬ stW s 116 := by unfold stW ldW; omega
    have v116 := f.2 116 (by omega) w116
    exact H k z4 s hk rfl (by rw [v116.2.2.2.2.2.1]; exact hs) r (Or.inl hs) (zFr_mono (fun q _ w => Or.inr w) f) v116.1 v116.2.2.2.2.2.2.1 (fun j _ => by rw [v116.2.2.2.2.2.1]) (by omega) (by omega) (by have := f.1; omega)
/-- back -/
theorem c58 (h : NW B z v L t hl kn rl ha ra da ea) (hB : ∀ q, B q → ((103 ≤ q ∧ q ≤ 108) ∨ 162 ≤ q) ∧ q < zn z) (hz : 162 ≤ zn z) {a : Int32} {vI : Nat → Nat → Nat} {LI : Nat → Nat → List (Nat × Nat)} (hI : ∀ k, k < 3 → zra z 116 k = .null ∨ ∃ s : Nat, zra z 116 k = .ref s ∧ 162 ≤ s ∧ s + 14 ≤ zn z ∧ RS B z s (vI k) (LI k))
    (H2 : zin a 3 = false → Q (.inl (some (.int (-2)))) z)
    (H6 : ∀ k, k < 3 → a = nI k → zra z 116 k = .null → Q (.inl (some (.int (-6)))) z)
    (H : ∀ k z2, k < 3 → a = nI k → ¬ zra z 116 k = .null → CS z2 → RS B z2 102 (vI k) (LI k) → zFr (stW 102) z z2 → (zuc z ≤ zuc z2 ∧ zuc z2 ≤ zuc z + 1200) → (zus z ≤ zus z2 ∧ zus z2 ≤ zus z + 9608) → Q (.inl (some (.int (nI 0)))) z2) : ZC zG (d + 3) 58 [.ref 100, .int a] z Q := by
  have hRS := NW_RS h
  have hCS := h.1
  have h0 := h.1
  unfold CS at h0
  have k100 : zcls z 100 = 0 := by simp only [h0]
  have k1002 : zfr z 100 2 = .ref 116 := by simp only [h0]
  have k1001 : zfr z 100 1 = .ref 102 := by simp only [h0]
  have k116 : zcls z 116 = 61 := by simp only [h0]
  have k1163 : zlen z 116 = 3 := by simp only [h0]
  have k102 : zcls z 102 = 1 := by simp only [h0]
  clear h0
  by_cases ha3 : zin a 3 = true
  rotate_left
  · rw [Bool.not_eq_true] at ha3
    simp (disch := omega) only [e58, s58_0, s58_1, s58_2, s58_3, s58_6, s58_9, s58_12, s58_14, zcs_0, zcs_1, zcs_2, zcs_3, zcs_4, zcs_5, zcs_6, zcs_7, znl_i, znl_r, znl_n, Bool.and_true, Bool.true_and, zk_v, zk_n, zk_x, zir_r, zir_n, zclr_i, zclr_r, zclr_n, zclr_d, zclr_l, true_and, and_true, and_self, if_true, if_false, reduceIte, nI_add, pk_mul, zin_ok, zx_nI, nI_lt2, nI_le2, nI_eq2, nI_l0, nI_g0, nI_q0, nI_p0, nI_n0, nI_m1, Nat.add_zero, Nat.zero_add, Nat.reduceAdd, Nat.reduceMul, true_or, or_true, znar_50, bI_0, bI_1, bI_z, bft, nI_z0, nI_z1, lgc_lt, lgc_gt, lgc_le, lgc_ge, lgc_eq, not_true_eq_false, not_false_eq_true, Bool.not_eq_true, Bool.not_eq_false, reduceCtorEq, eq_self, nI_e0, nI_e1, i10, i01, decide_false, decide_true, Bool.false_eq_true, c2, lin_c, ha3]
    exact H2 ha3
  obtain ⟨k, hk, hk2, rfl⟩ := zin_of ha3
  rcases hI k hk with hn | ⟨s, hs, s162, sn, hR⟩
  · simp (disch := omega) only [e58, s58_0, s58_1, s58_2, s58_3, s58_6, s58_9, s58_12, s58_14, s58_15, s58_16, s58_19, s58_20, s58_21, s58_21r, s58_24, s58_26, zcs_0, zcs_1, zcs_2, zcs_3, zcs_4, zcs_5, zcs_6, zcs_7, znl_i, znl_r, znl_n, Bool.and_true, Bool.true_and, zk_v, zk_n, zk_x, zir_r, zir_n, zclr_i, zclr_r, zclr_n, zclr_d, zclr_l, true_and, and_true, and_self, if_true, if_false, reduceIte, nI_add, pk_mul, zin_ok, zx_nI, nI_lt2, nI_le2, nI_eq2, nI_l0, nI_g0, nI_q0, nI_p0, nI_n0, nI_m1, Nat.add_zero, Nat.zero_add, Nat.reduceAdd, Nat.reduceMul, true_or, or_true, znar_50, bI_0, bI_1, bI_z, bft, nI_z0, nI_z1, lgc_lt, lgc_gt, lgc_le, lgc_ge, lgc_eq, not_true_eq_false, not_false_eq_true, Bool.not_eq_true, Bool.not_eq_false, reduceCtorEq, eq_self, nI_e0, nI_e1, i10, i01, decide_false, decide_true, Bool.false_eq_true, c2, lin_c, ha3, k100, k1002, k116, k1163, hn]
    exact H6 k hk rfl hn
  · simp (disch := omega) only [e58, s58_0, s58_1, s58_2, s58_3, s58_6, s58_9, s58_12, s58_14, s58_15, s58_16, s58_19, s58_20, s58_21, s58_21r, s58_24, s58_26, s58_27, s58_28, s58_31, s58_32, s58_35, s58_36, s58_37, zcs_0, zcs_1, zcs_2, zcs_3, zcs_4, zcs_5, zcs_6, zcs_7, znl_i, znl_r, znl_n, Bool.and_true, Bool.true_and, zk_v, zk_n, zk_x, zir_r, zir_n, zclr_i, zclr_r, zclr_n, zclr_d, zclr_l, true_and, and_true, and_self, if_true, if_false, reduceIte, nI_add, pk_mul, zin_ok, zx_nI, nI_lt2, nI_le2, nI_eq2, nI_l0, nI_g0, nI_q0, nI_p0, nI_n0, nI_m1, Nat.add_zero, Nat.zero_add, Nat.reduceAdd, Nat.reduceMul, true_or, or_true, znar_50, bI_0, bI_1, bI_z, bft, nI_z0, nI_z1, lgc_lt, lgc_gt, lgc_le, lgc_ge, lgc_eq, not_true_eq_false, not_false_eq_true, Bool.not_eq_true, Bool.not_eq_false, reduceCtorEq, eq_self, nI_e0, nI_e1, i10, i01, decide_false, decide_true, Bool.false_eq_true, c2, lin_c, ha3, k100, k1002, k1001, k116, k1163, hs, k102]
    refine c61 (d := d + 1) hRS.1 (Or.inl (by omega)) hR (fun q hq => ⟨by have := hB q hq; omega, (hB q hq).2⟩) (fun q w hq => by have := (hB q hq).1; unfold stW ldW at w; omega) ⟨by omega, sn⟩ (fun z2 r f u w => ?_)
    simp (disch := omega) only [s58_40, s58_41, zcs_0, zcs_1, zcs_2, zcs_3, zcs_4, zcs_5, zcs_6, zcs_7, znl_i, znl_r, znl_n, Bool.and_true, Bool.true_and, zk_v, zk_n, zk_x, zir_r, zir_n, zclr_i, zclr_r, zclr_n, zclr_d, zclr_l, true_and, and_true, and_self, if_true, if_false, reduceIte, nI_add, pk_mul, zin_ok, zx_nI, nI_lt2, nI_le2, nI_eq2, nI_l0, nI_g0, nI_q0, nI_p0, nI_n0, nI_m1, Nat.add_zero, Nat.zero_add, Nat.reduceAdd, Nat.reduceMul, true_or, or_true, znar_50, bI_0, bI_1, bI_z, bft, nI_z0, nI_z1, lgc_lt, lgc_gt, lgc_le, lgc_ge, lgc_eq, not_true_eq_false, not_false_eq_true, Bool.not_eq_true, Bool.not_eq_false, reduceCtorEq, eq_self, nI_e0, nI_e1, i10, i01, decide_false, decide_true, Bool.false_eq_true]
    exact H k z2 hk rfl (by rw [hs]; simp) (CS_st f hz r.1 hCS) r f u w
end KB
