set_option maxRecDepth 100000
/-! the component: town -/
section C9
variable {d : Nat} {z : ZH} {Q : ZQ} {b : Nat → Nat} {sz R : Nat} {G : Nat → Nat} {L : Nat → List (Nat × Nat)}
theorem zFr_tr {W W2 : Nat → Prop} {z1 z2 : ZH} (h : zFr W z z1) (k : zFr W2 z1 z2) (hw : ∀ q, q < zn z → W2 q → W q) : zFr W z z2 := by
  refine ⟨Nat.le_trans h.1 k.1, fun q hq hn => ?_⟩
  obtain ⟨a1, a2, a3, a4, a5, a6, a7, a8⟩ := h.2 q hq hn
  obtain ⟨b1, b2, b3, b4, b5, b6, b7, b8⟩ := k.2 q (by have := h.1; omega) (fun w => hn (hw q hq w))
  exact ⟨b1.trans a1, b2.trans a2, b3.trans a3, b4.trans a4, b5.trans a5, b6.trans a6, b7.trans a7, b8.trans a8⟩
theorem zFr_cP {S : YS} : zFr (fun q => q = R) z (cP z R S) := ⟨Nat.le_refl _, fun q _ hw => ⟨rfl, fi_cP _ hw, rfl, rfl, rfl, rfl, rfl, rfl⟩⟩
theorem cP_self {S : YS} (h7 : zfi z R 7 = nI (yAt S)) (h8 : zfi z R 8 = nI (yFr S)) (h9 : zfi z R 9 = nI (yTk S)) (h10 : zfi z R 10 = nI (yFr S)) (h11 : zfi z R 11 = nI (yVc S)) : cP z R S = z := by
  refine zH_ext rfl ?_ rfl rfl rfl rfl rfl rfl rfl rfl rfl rfl
  funext q
  by_cases hq : q = R
  · subst hq
    funext j
    rw [fi_cPj]
    by_cases c7 : j = 7
    · rw [if_pos c7, c7, h7]
    rw [if_neg c7]
    by_cases c8 : j = 8
    · rw [if_pos c8, c8, h8]
    rw [if_neg c8]
    by_cases c9 : j = 9
    · rw [if_pos c9, c9, h9]
    rw [if_neg c9]
    by_cases c10 : j = 10
    · rw [if_pos c10, c10, h10]
    rw [if_neg c10]
    by_cases c11 : j = 11
    · rw [if_pos c11, c11, h11]
    rw [if_neg c11]
  · exact fi_cP q hq
theorem mkW_f {k p : Int32} : zFr (fun _ => False) z (mkW z k p) ∧ zcls (mkW z k p) (zn z) = 14 ∧ zfi (mkW z k p) (zn z) 6 = k ∧ zfi (mkW z k p) (zn z) 7 = p ∧ zuc (mkW z k p) = zuc z + 1 ∧ zus (mkW z k p) = zus z + 8 := by
  have hf : zfi (mkW z k p) = zu2 (zu2 (zfi (snew z 14 8)) (zn z) 6 k) (zn z) 7 p := rfl
  have hc : zcls (mkW z k p) = zcls (snew z 14 8) := rfl
  refine ⟨?_, ?_, ?_, ?_, rfl, rfl⟩
  · unfold mkW
    exact zFr_sfi (zFr_sfi (zFr_snew (zFr_refl _ _)) (Or.inl (Nat.le_refl _))) (Or.inl (Nat.le_refl _))
  · rw [hc, cls_snew, zu1_s]
  · rw [hf, zu2_k _ _ _ _ (by omega), zu2_s]
  · rw [hf, zu2_s]
/-- a fault is noted -/
theorem c9x {z1 : ZH} {q : Nat} {k p : Int32} {x1 x2 x3 : Value} (hq : zcls z1 q = 14) (hk : zfi z1 q 6 = k) (hp : zfi z1 q 7 = p) (h100 : zcls z1 100 = 0) (hne : ¬ q = 100) : ZW zG d 9 53 [.ref 100, x1, x2, x3] [.ref q] z1 Q = Q (.inl (some (.int (-4)))) (sfi (sfi (sfi z1 100 7 k) 100 8 p) 100 6 (nI 0)) := by
  have e1 : zfi (sfi z1 100 7 k) q 7 = p := by rw [fi_sfi, zu2_n _ _ _ _ hne]; exact hp
  simp (disch := omega) only [s9_53, s9_54, s9_55, s9_56, s9_59, s9_62, s9_63, s9_64, s9_67, s9_70, s9_72, s9_73, s9_74, s9_75, s9_78, s9_79, zcs_0, zcs_1, zcs_2, zcs_3, zcs_4, zcs_5, zcs_6, zcs_7, znl_i, znl_r, znl_n, Bool.and_true, Bool.true_and, zk_v, zk_n, zk_x, zir_r, zir_n, zclr_i, zclr_r, zclr_n, zclr_d, zclr_l, true_and, and_true, and_self, if_true, if_false, reduceIte, nI_add, pk_mul, zin_ok, zx_nI, nI_lt2, nI_le2, nI_eq2, nI_l0, nI_g0, nI_q0, nI_p0, nI_n0, nI_m1, Nat.add_zero, Nat.zero_add, Nat.reduceAdd, Nat.reduceMul, true_or, or_true, znar_50, bI_0, bI_1, bI_z, bft, nI_z0, nI_z1, lgc_lt, lgc_gt, lgc_le, lgc_ge, lgc_eq, not_true_eq_false, not_false_eq_true, Bool.not_eq_true, Bool.not_eq_false, reduceCtorEq, eq_self, nI_e0, nI_e1, i10, i01, decide_false, decide_true, Bool.false_eq_true, cls_sfi, hq, hk, h100, e1]
/-- from the reader on -/
theorem c9b (h0 : CS z) (hz : 162 ≤ zn z) (hR : zn z ≤ R) (hsz : sz ≤ 1400) {S0 : YS} (hat : yAt S0 = 0) (hfk : yFk S0 = 0) (hvl : yVl S0 < 10000) {g v0 : Nat → Nat} {z1 : ZH} (F1 : zFr (fun q => q = 100) z z1) (e1 : zcls z1 100 = zcls z 100) (e2 : zfr z1 100 = zfr z 100) (e3 : ∀ j, ¬ j = 7 → ¬ j = 8 → zfi z1 100 j = zfi z 100 j) (e7 : zfi z1 100 7 = nI 0) (e8 : zfi z1 100 8 = -1) (n1 : zn z1 = R + 11) (u1 : zuc z ≤ zuc z1 ∧ zuc z1 ≤ zuc z + 12) (w1 : zus z ≤ zus z1 ∧ zus z1 ≤ zus z + 100) (rd : RD z1 R b sz) (ct : CT z1 R (yG0 g) (fun _ => [])) (hf : ∀ j, ¬ j = 5 → zfi z1 R j = nI 0)
    (HG : yFk (yTW b sz (sz + 1) (yAdv b sz S0) (yG0 g)).1 = 0 → ∀ z' ha ra L', NW (fun q => R + 5 ≤ q ∧ q < zn z') z' (yWd v0 (yTW b sz (sz + 1) (yAdv b sz S0) (yG0 g)).2) L' (R + 5) (R + 6) (R + 8) (R + 9) ha ra (fun _ => 0) (fun _ => 0) → GI (yTW b sz (sz + 1) (yAdv b sz S0) (yG0 g)).2 L' → zSml (yTW b sz (sz + 1) (yAdv b sz S0) (yG0 g)).2 → zFr tnW z z' → zcls z' 100 = zcls z 100 → zfr z' 100 = zfr z 100 → (∀ j, ¬ j = 6 → ¬ j = 7 → ¬ j = 8 → zfi z' 100 j = zfi z 100 j) → zfi z' 100 6 = nI 0 → zfi z' 100 7 = nI 0 → zfi z' 100 8 = -1 → (zuc z ≤ zuc z' ∧ zuc z' ≤ zuc z + 15000) → (zus z ≤ zus z' ∧ zus z' ≤ zus z + 65000) → Q (.inl (some (.int (nI ((yTW b sz (sz + 1) (yAdv b sz S0) (yG0 g)).2 0))))) z')
    (HB : ¬ yFk (yTW b sz (sz + 1) (yAdv b sz S0) (yG0 g)).1 = 0 → ∀ z', zFr (fun q => q = 100) z z' → zcls z' 100 = zcls z 100 → zfr z' 100 = zfr z 100 → (∀ j, ¬ j = 6 → ¬ j = 7 → ¬ j = 8 → zfi z' 100 j = zfi z 100 j) → zfi z' 100 6 = nI 0 → zfi z' 100 7 = nI (yFk (yTW b sz (sz + 1) (yAdv b sz S0) (yG0 g)).1) → zfi z' 100 8 = yFp (yTW b sz (sz + 1) (yAdv b sz S0) (yG0 g)).1 → (zuc z ≤ zuc z' ∧ zuc z' ≤ zuc z + 15000) → (zus z ≤ zus z' ∧ zus z' ≤ zus z + 65000) → Q (.inl (some (.int (-4)))) z') : ZW zG (d + 9) 9 29 [.ref 100, zdum, zdum, zdum] [.ref R, .ref 102] z1 Q := by
  have self : cP z1 R (0, 0, 0, 0, 0, -1) = z1 := cP_self (hf 7 (by omega)) (hf 8 (by omega)) (hf 9 (by omega)) (hf 10 (by omega)) (hf 11 (by omega))
  have r0 := rd.1.1.1
  have hn11 : R + 11 ≤ zn z1 := by omega
  have g0 : yG0 g 0 = 0 ∧ yG0 g 1 = 0 ∧ yG0 g 2 = 0 ∧ yG0 g 3 = 0 := ⟨rfl, rfl, rfl, rfl⟩
  have ok1 : yOK sz (yAdv b sz S0) := by
    unfold yAdv
    rw [hat]
    exact yTok_ok ((skp_le b sz isSp sz 0).2 (by omega)) hvl (by omega)
  have hk1 : yFk (yAdv b sz S0) = 0 := by rw [(yAdv_fk b sz S0).1]; exact hfk
  have li0 : yLi (yAdv b sz S0) (yG0 g) := ⟨fun _ => ⟨by rw [g0.2.2.2]; omega, by rw [g0.2.2.1]; omega⟩, fun _ => ⟨by rw [g0.1]; omega, by rw [g0.2.1]; omega⟩⟩
  have ZT := fun hg => ZI_W (b := b) hsz (sz + 1) (yAdv b sz S0) (yG0 g) ok1 hk1 li0 hg (ZI_0 g)
  have c100 : zcls z 100 = 0 := by unfold CS at h0; simp only [h0]
  have k215 := fun (Q : ZQ) H HX => c215 (d := d) (Q := Q) (S00 := (0, 0, 0, 0, 0, -1)) rd hn11 (by omega) hsz hat hfk hvl rfl rfl ct (GI_0 g) g0 H HX
  rw [self] at k215
  generalize yTW b sz (sz + 1) (yAdv b sz S0) (yG0 g) = T at *
  simp (disch := omega) only [s9_29, zcs_0, zcs_1, zcs_2, zcs_3, zcs_4, zcs_5, zcs_6, zcs_7, znl_i, znl_r, znl_n, Bool.and_true, Bool.true_and, zk_v, zk_n, zk_x, zir_r, zir_n, zclr_i, zclr_r, zclr_n, zclr_d, zclr_l, true_and, and_true, and_self, if_true, if_false, reduceIte, nI_add, pk_mul, zin_ok, zx_nI, nI_lt2, nI_le2, nI_eq2, nI_l0, nI_g0, nI_q0, nI_p0, nI_n0, nI_m1, Nat.add_zero, Nat.zero_add, Nat.reduceAdd, Nat.reduceMul, true_or, or_true, znar_50, bI_0, bI_1, bI_z, bft, nI_z0, nI_z1, lgc_lt, lgc_gt, lgc_le, lgc_ge, lgc_eq, not_true_eq_false, not_false_eq_true, Bool.not_eq_true, Bool.not_eq_false, reduceCtorEq, eq_self, nI_e0, nI_e1, i10, i01, decide_false, decide_true, Bool.false_eq_true, r0]
  refine k215 _ (fun hg z2 L2 F2 ct2 gi2 q1 q2 q3 q4 => ?_) (fun hg z2 S2 F2 q1 q2 q3 q4 => ?_)
  · have n2 := F2.1
    have F3 : zFr (fun q => q = R) z2 (cP z2 R T.1) := zFr_cP
    have F13 : zFr (fun q => q = 100) z (cP z2 R T.1) := zFr_tr (zFr_tr F1 F2 (fun q hq w => by unfold TW at w; omega)) F3 (fun q hq w => by omega)
    have ctc := CT_cP (S := T.1) ct2
    have x100 := F2.2 100 (by omega) (fun w => by unfold TW at w; omega)
    have y100 := F3.2 100 (by omega) (by omega)
    have ag : ∀ q, q < 162 → ¬ q = 100 → zcls (cP z2 R T.1) q = zcls z q ∧ zfr (cP z2 R T.1) q = zfr z q ∧ zra (cP z2 R T.1) q = zra z q ∧ zlen (cP z2 R T.1) q = zlen z q := fun q hq hne => by
      obtain ⟨a1, _, a3, _, _, a6, a7, _⟩ := F13.2 q (by omega) hne
      exact ⟨a1, a3, a6, a7⟩
    have ag100 : zcls (cP z2 R T.1) 100 = zcls z 100 ∧ zfr (cP z2 R T.1) 100 = zfr z 100 ∧ zfi (cP z2 R T.1) 100 = zfi z1 100 := by
      refine ⟨by rw [y100.1, x100.1, e1], by rw [y100.2.2.1, x100.2.2.1, e2], by rw [y100.2.1, x100.2.1]⟩
    have ra100 : zra (cP z2 R T.1) 100 = zra z1 100 ∧ zlen (cP z2 R T.1) 100 = zlen z1 100 := by
      refine ⟨by rw [y100.2.2.2.2.2.1, x100.2.2.2.2.2.1], by rw [y100.2.2.2.2.2.2.1, x100.2.2.2.2.2.2.1]⟩
    have hCS : CS (cP z2 R T.1) := by
      have h0' := h0
      unfold CS at h0' ⊢
      simp (disch := omega) only [fun q h1 h2 => (ag q h1 h2).1, fun q h1 h2 => (ag q h1 h2).2.1, fun q h1 h2 => (ag q h1 h2).2.2.1, fun q h1 h2 => (ag q h1 h2).2.2.2, ag100.1, ag100.2.1]
      exact h0'
    have un : zuc (cP z2 R T.1) = zuc z2 ∧ zus (cP z2 R T.1) = zus z2 ∧ zn (cP z2 R T.1) = zn z2 := ⟨rfl, rfl, rfl⟩
    obtain ⟨un1, un2, un3⟩ := un
    generalize cP z2 R T.1 = z3 at *
    have Z := ZT hg
    have z6 := (Z 6 (by omega) (by omega) (by omega)).1 (by omega)
    have z7 := (Z 7 (by omega) (by omega) (by omega)).1 (by omega)
    have z8 := (Z 8 (by omega) (by omega) (by omega)).1 (by omega)
    have z9 := (Z 9 (by omega) (by omega) (by omega)).1 (by omega)
    have hv : ∀ i, i < 1864 → yWd v0 T.2 i = T.2 i := fun i hi => by
      unfold yWd
      rw [if_neg (by omega), if_pos (by omega)]
    simp only [zcs_0, zcs_1, zcs_2, zcs_3, zcs_4, zcs_5, zcs_6, zcs_7, znl_i, znl_r, znl_n, Bool.and_true, Bool.true_and, zk_v, zk_n, zk_x, zir_r, zir_n, zclr_i, zclr_r, zclr_n, zclr_d, zclr_l, true_and, and_true, and_self, if_true, if_false, reduceIte]
    refine c9g (d := d + 7) (v := yWd v0 T.2) hCS (by omega) (by omega) ctc gi2 hv ⟨by rw [hv 6 (by omega)]; exact z6, by rw [hv 7 (by omega)]; exact z7, by rw [hv 8 (by omega)]; exact z8, by rw [hv 9 (by omega)]; exact z9⟩ (fun h hh => by unfold yWd; rw [if_pos (by omega), Nat.add_sub_cancel_left]) (fun z' ha ra nw f4 k1 k2 k3 k4 k5 k6 k7 => ?_)
    have hv0 := hv 0 (by omega)
    rw [hv0]
    refine HG hg z' ha ra L2 nw gi2 Z (zFr_tr (zFr_mono (fun q _ w => Or.inl w) F13) f4 (fun q _ w => w)) (by rw [k1, ag100.1]) (by rw [k2, ag100.2.1]) (fun j j6 j7 j8 => by rw [k3 j j6, ag100.2.2, e3 j j7 j8]) k4 (by rw [k3 7 (by omega), ag100.2.2]; exact e7) (by rw [k3 8 (by omega), ag100.2.2]; exact e8) (by omega) (by omega)
  · have n2 := F2.1
    have F3 : zFr (fun q => q = R) z2 (cP z2 R S2) := zFr_cP
    have F13 : zFr (fun q => q = 100) z (cP z2 R S2) := zFr_tr (zFr_tr F1 F2 (fun q hq w => by unfold TW at w; omega)) F3 (fun q hq w => by omega)
    have x100 := F2.2 100 (by omega) (fun w => by unfold TW at w; omega)
    have y100 := F3.2 100 (by omega) (by omega)
    have ag100 : zcls (cP z2 R S2) 100 = zcls z 100 ∧ zfr (cP z2 R S2) 100 = zfr z 100 ∧ zfi (cP z2 R S2) 100 = zfi z1 100 := by
      refine ⟨by rw [y100.1, x100.1, e1], by rw [y100.2.2.1, x100.2.2.1, e2], by rw [y100.2.1, x100.2.1]⟩
    have un : zuc (cP z2 R S2) = zuc z2 ∧ zus (cP z2 R S2) = zus z2 ∧ zn (cP z2 R S2) = zn z2 := ⟨rfl, rfl, rfl⟩
    obtain ⟨un1, un2, un3⟩ := un
    rw [← un3]
    generalize cP z2 R S2 = z3 at *
    obtain ⟨m1, m2, m3, m4, m5, m6⟩ := mkW_f (z := z3) (k := nI (yFk T.1)) (p := yFp T.1)
    have t100 := m1.2 100 (by omega) (fun w => w)
    generalize mkW z3 (nI (yFk T.1)) (yFp T.1) = z4 at *
    simp only [zcs_0, zcs_1, zcs_2, zcs_3, zcs_4, zcs_5, zcs_6, zcs_7, znl_i, znl_r, znl_n, Bool.and_true, Bool.true_and, zk_v, zk_n, zk_x, zir_r, zir_n, zclr_i, zclr_r, zclr_n, zclr_d, zclr_l, true_and, and_true, and_self, if_true, if_false, reduceIte, zk_h]
    rw [c9x m2 m3 m4 (by rw [t100.1, ag100.1]; exact c100) (by omega)]
    have F4 : zFr (fun q => q = 100) z z4 := zFr_tr F13 m1 (fun q _ w => w.elim)
    have f100 : zfi z4 100 = zfi z1 100 := by rw [t100.2.1, ag100.2.2]
    have r100 : zcls z4 100 = zcls z 100 ∧ zfr z4 100 = zfr z 100 := ⟨by rw [t100.1, ag100.1], by rw [t100.2.2.1, ag100.2.1]⟩
    have hfi : zfi (sfi (sfi (sfi z4 100 7 (nI (yFk T.1))) 100 8 (yFp T.1)) 100 6 (nI 0)) = zu2 (zu2 (zu2 (zfi z4) 100 7 (nI (yFk T.1))) 100 8 (yFp T.1)) 100 6 (nI 0) := by rw [fi_sfi, fi_sfi, fi_sfi]
    have hcl : zcls (sfi (sfi (sfi z4 100 7 (nI (yFk T.1))) 100 8 (yFp T.1)) 100 6 (nI 0)) = zcls z4 := by rw [cls_sfi, cls_sfi, cls_sfi]
    have hfr : zfr (sfi (sfi (sfi z4 100 7 (nI (yFk T.1))) 100 8 (yFp T.1)) 100 6 (nI 0)) = zfr z4 := by rw [fr_sfi, fr_sfi, fr_sfi]
    have huc : zuc (sfi (sfi (sfi z4 100 7 (nI (yFk T.1))) 100 8 (yFp T.1)) 100 6 (nI 0)) = zuc z4 := by rw [uc_sfi, uc_sfi, uc_sfi]
    have hus : zus (sfi (sfi (sfi z4 100 7 (nI (yFk T.1))) 100 8 (yFp T.1)) 100 6 (nI 0)) = zus z4 := by rw [us_sfi, us_sfi, us_sfi]
    have F5 : zFr (fun q => q = 100) z (sfi (sfi (sfi z4 100 7 (nI (yFk T.1))) 100 8 (yFp T.1)) 100 6 (nI 0)) := zFr_sfi (zFr_sfi (zFr_sfi F4 (Or.inr rfl)) (Or.inr rfl)) (Or.inr rfl)
    generalize sfi (sfi (sfi z4 100 7 (nI (yFk T.1))) 100 8 (yFp T.1)) 100 6 (nI 0) = z5 at *
    refine HB hg z5 F5 (by rw [hcl]; exact r100.1) (by rw [hfr]; exact r100.2) (fun j j6 j7 j8 => ?_) ?_ ?_ ?_ (by omega) (by omega)
    · rw [hfi, zu2_k _ _ _ _ j6, zu2_k _ _ _ _ j8, zu2_k _ _ _ _ j7, f100, e3 j j7 j8]
    · rw [hfi, zu2_s]
    · rw [hfi, zu2_k _ _ _ _ (by omega), zu2_k _ _ _ _ (by omega), zu2_s]
    · rw [hfi, zu2_k _ _ _ _ (by omega), zu2_s]
/-- town -/
theorem c9 (h0 : CS z) (hz : 162 ≤ zn z) (h6 : zfi z 100 6 = nI sz) (hsz : sz ≤ 1400) (hb : ∀ k, k < 1400 → zia z 127 k = sb (b k) ∧ b k < 256) {S0 : YS} (hat : yAt S0 = 0) (hfk : yFk S0 = 0) (hvl : yVl S0 < 10000) {g v0 : Nat → Nat}
    (HG : yFk (yTW b sz (sz + 1) (yAdv b sz S0) (yG0 g)).1 = 0 → ∀ z' ha ra L', NW (fun q => zn z + 5 ≤ q ∧ q < zn z') z' (yWd v0 (yTW b sz (sz + 1) (yAdv b sz S0) (yG0 g)).2) L' (zn z + 5) (zn z + 6) (zn z + 8) (zn z + 9) ha ra (fun _ => 0) (fun _ => 0) → GI (yTW b sz (sz + 1) (yAdv b sz S0) (yG0 g)).2 L' → zSml (yTW b sz (sz + 1) (yAdv b sz S0) (yG0 g)).2 → zFr tnW z z' → zcls z' 100 = zcls z 100 → zfr z' 100 = zfr z 100 → (∀ j, ¬ j = 6 → ¬ j = 7 → ¬ j = 8 → zfi z' 100 j = zfi z 100 j) → zfi z' 100 6 = nI 0 → zfi z' 100 7 = nI 0 → zfi z' 100 8 = -1 → (zuc z ≤ zuc z' ∧ zuc z' ≤ zuc z + 15000) → (zus z ≤ zus z' ∧ zus z' ≤ zus z + 65000) → Q (.inl (some (.int (nI ((yTW b sz (sz + 1) (yAdv b sz S0) (yG0 g)).2 0))))) z')
    (HB : ¬ yFk (yTW b sz (sz + 1) (yAdv b sz S0) (yG0 g)).1 = 0 → ∀ z', zFr (fun q => q = 100) z z' → zcls z' 100 = zcls z 100 → zfr z' 100 = zfr z 100 → (∀ j, ¬ j = 6 → ¬ j = 7 → ¬ j = 8 → zfi z' 100 j = zfi z 100 j) → zfi z' 100 6 = nI 0 → zfi z' 100 7 = nI (yFk (yTW b sz (sz + 1) (yAdv b sz S0) (yG0 g)).1) → zfi z' 100 8 = yFp (yTW b sz (sz + 1) (yAdv b sz S0) (yG0 g)).1 → (zuc z ≤ zuc z' ∧ zuc z' ≤ zuc z + 15000) → (zus z ≤ zus z' ∧ zus z' ≤ zus z + 65000) → Q (.inl (some (.int (-4)))) z') : ZC zG (d + 9) 9 [.ref 100] z Q := by
  have h0' := h0
  unfold CS at h0'
  have k100 : zcls z 100 = 0 := by simp only [h0']
  have r1 : zfr z 100 1 = .ref 102 := by simp only [h0']
  have r5 : zfr z 100 5 = .ref 127 := by simp only [h0']
  have t1 : zcls z 127 = 52 := by simp only [h0']
  have t2 : zlen z 127 = 1400 := by simp only [h0']
  clear h0'
  have fA : zfi (sfi (sfi z 100 7 (nI 0)) 100 8 (-1)) = zu2 (zu2 (zfi z) 100 7 (nI 0)) 100 8 (-1) := by rw [fi_sfi, fi_sfi]
  have FA : zFr (fun q => q = 100) z (sfi (sfi z 100 7 (nI 0)) 100 8 (-1)) := zFr_sfi (zFr_sfi (zFr_refl _ _) (Or.inr rfl)) (Or.inr rfl)
  have cA : zcls (sfi (sfi z 100 7 (nI 0)) 100 8 (-1)) = zcls z := by rw [cls_sfi, cls_sfi]
  have rA : zfr (sfi (sfi z 100 7 (nI 0)) 100 8 (-1)) = zfr z := by rw [fr_sfi, fr_sfi]
  have lA : zlen (sfi (sfi z 100 7 (nI 0)) 100 8 (-1)) = zlen z := by rw [len_sfi, len_sfi]
  have iA : zia (sfi (sfi z 100 7 (nI 0)) 100 8 (-1)) = zia z := by rw [ia_sfi, ia_sfi]
  have nA : zn (sfi (sfi z 100 7 (nI 0)) 100 8 (-1)) = zn z := by rw [n_sfi, n_sfi]
  have uA : zuc (sfi (sfi z 100 7 (nI 0)) 100 8 (-1)) = zuc z := by rw [uc_sfi, uc_sfi]
  have wA : zus (sfi (sfi z 100 7 (nI 0)) 100 8 (-1)) = zus z := by rw [us_sfi, us_sfi]
  have step : ∀ Q, ZC zG (d + 9) 9 [.ref 100] z Q = ZW zG (d + 9) 9 14 [.ref 100, zdum, zdum, zdum] [.ref 102] (sfi (sfi z 100 7 (nI 0)) 100 8 (-1)) Q := by
    intro Q
    simp (disch := omega) only [e9, s9_0, s9_1, s9_2, s9_5, s9_6, s9_7, s9_10, s9_11, zcs_0, zcs_1, zcs_2, zcs_3, zcs_4, zcs_5, zcs_6, zcs_7, znl_i, znl_r, znl_n, Bool.and_true, Bool.true_and, zk_v, zk_n, zk_x, zir_r, zir_n, zclr_i, zclr_r, zclr_n, zclr_d, zclr_l, true_and, and_true, and_self, if_true, if_false, reduceIte, nI_add, pk_mul, zin_ok, zx_nI, nI_lt2, nI_le2, nI_eq2, nI_l0, nI_g0, nI_q0, nI_p0, nI_n0, nI_m1, Nat.add_zero, Nat.zero_add, Nat.reduceAdd, Nat.reduceMul, true_or, or_true, znar_50, bI_0, bI_1, bI_z, bft, nI_z0, nI_z1, lgc_lt, lgc_gt, lgc_le, lgc_ge, lgc_eq, not_true_eq_false, not_false_eq_true, Bool.not_eq_true, Bool.not_eq_false, reduceCtorEq, eq_self, nI_e0, nI_e1, i10, i01, decide_false, decide_true, Bool.false_eq_true, cls_sfi, fr_sfi, k100, r1]
  rw [step]
  generalize sfi (sfi z 100 7 (nI 0)) 100 8 (-1) = zA at *
  have a6 : zfi zA 100 6 = nI sz := by rw [fA, zu2_k _ _ _ _ (by omega), zu2_k _ _ _ _ (by omega)]; exact h6
  have FB : zFr (fun q => q = 100) z (snew zA 13 12) := zFr_snew FA
  have cB : ∀ q, ¬ q = zn z → zcls (snew zA 13 12) q = zcls z q := fun q hq => by rw [cls_snew, nA, zu1_n _ _ _ hq, cA]
  have cBR : zcls (snew zA 13 12) (zn z) = 13 := by rw [cls_snew, nA, zu1_s]
  have rB : ∀ q, ¬ q = zn z → zfr (snew zA 13 12) q = zfr z q := fun q hq => by rw [fr_snew, nA, zu1_n _ _ _ hq, rA]
  have fB : ∀ q, ¬ q = zn z → zfi (snew zA 13 12) q = zfi zA q := fun q hq => by rw [fi_snew, nA, zu1_n _ _ _ hq]
  have fBR : ∀ j, zfi (snew zA 13 12) (zn z) j = nI 0 := fun j => by rw [fi_snew, nA, zu1_s]; exact nI_0.symm
  have nB : zn (snew zA 13 12) = zn z + 1 := by rw [n_snew, nA]
  have lB : zlen (snew zA 13 12) = zlen z := by rw [len_snew, lA]
  have iB : zia (snew zA 13 12) = zia z := by rw [ia_snew, iA]
  have uB : zuc (snew zA 13 12) = zuc z + 1 := by rw [uc_snew, uA]
  have wB' : zus (snew zA 13 12) = zus z + 12 := by rw [us_snew, wA]
  have b100 : zcls (snew zA 13 12) 100 = 0 := by rw [cB 100 (by omega)]; exact k100
  have b5 : zfr (snew zA 13 12) 100 5 = .ref 127 := by rw [rB 100 (by omega)]; exact r5
  have b6 : zfi (snew zA 13 12) 100 6 = nI sz := by rw [fB 100 (by omega)]; exact a6
  simp (disch := omega) only [s9_14, s9_17, s9_18, s9_19, s9_22, s9_23, s9_26, zcs_0, zcs_1, zcs_2, zcs_3, zcs_4, zcs_5, zcs_6, zcs_7, znl_i, znl_r, znl_n, Bool.and_true, Bool.true_and, zk_v, zk_n, zk_x, zir_r, zir_n, zclr_i, zclr_r, zclr_n, zclr_d, zclr_l, true_and, and_true, and_self, if_true, if_false, reduceIte, nI_add, pk_mul, zin_ok, zx_nI, nI_lt2, nI_le2, nI_eq2, nI_l0, nI_g0, nI_q0, nI_p0, nI_n0, nI_m1, Nat.add_zero, Nat.zero_add, Nat.reduceAdd, Nat.reduceMul, true_or, or_true, znar_50, bI_0, bI_1, bI_z, bft, nI_z0, nI_z1, lgc_lt, lgc_gt, lgc_le, lgc_ge, lgc_eq, not_true_eq_false, not_false_eq_true, Bool.not_eq_true, Bool.not_eq_false, reduceCtorEq, eq_self, nI_e0, nI_e1, i10, i01, decide_false, decide_true, Bool.false_eq_true, nA, b100, b5, b6]
  generalize snew zA 13 12 = zB at *
  refine c214 (d := d + 7) (b := b) cBR nB hz (by rw [cB 127 (by omega)]; exact t1) (by rw [lB]; exact t2) hsz (fun k hk => by rw [iB]; exact hb k hk) (fun z1 F1 n1 rd twn t3 t4 ls6 ls9 kn fR u1 w1 => ?_)
  simp only [zcs_0, zcs_1, zcs_2, zcs_3, zcs_4, zcs_5, zcs_6, zcs_7, znl_i, znl_r, znl_n, Bool.and_true, Bool.true_and, zk_v, zk_n, zk_x, zir_r, zir_n, zclr_i, zclr_r, zclr_n, zclr_d, zclr_l, true_and, and_true, and_self, if_true, if_false, reduceIte]
  have x100 := F1.2 100 (by omega) (by omega)
  refine c9b (d := d) (R := zn z) (v0 := v0) h0 hz (Nat.le_refl _) hsz hat hfk hvl (zFr_tr FB F1 (fun q hq w => by omega)) (by rw [x100.1, cB 100 (by omega)]) (by rw [x100.2.2.1, rB 100 (by omega)]) (fun j j7 j8 => by rw [x100.2.1, fB 100 (by omega), fA, zu2_k _ _ _ _ j8, zu2_k _ _ _ _ j7]) (by rw [x100.2.1, fB 100 (by omega), fA, zu2_k _ _ _ _ (by omega), zu2_s]) (by rw [x100.2.1, fB 100 (by omega), fA, zu2_s]) n1 (by omega) (by omega) rd ⟨⟨twn, by rw [t3]; rfl, by rw [t4]; rfl⟩, ⟨by rw [ls6]; rfl, fun h hh => absurd hh (Nat.not_lt_zero h)⟩, fun h hh => ?_, by rw [ls9]; rfl, fun l hl => absurd hl (Nat.not_lt_zero l)⟩ (fun j hj => by rw [fR j hj]; exact fBR j) HG HB
  rw [kn h]
  have e : yG0 g (10 + 9 * h + 8) = 0 := by
    unfold yG0
    rw [zu1_n _ _ _ (by omega)]
    exact if_pos (by omega)
  rw [e]
end C9
