set_option maxRecDepth 100000
/-! a state becomes another; keep, back -/
section BD
variable {d : Nat} {B : Nat → Prop} {z : ZH} {Q : ZQ} {v : Nat → Nat} {L : Nat → List (Nat × Nat)} {t hl kn rl : Nat} {ha ra da ea : Nat → Nat} {K : Nat}
theorem RDd_f {s : Nat} (hE : RDd B z s ea v) {k : Nat} (hk : k < v 8) : (zls z (s + 12)).getD k .null = .ref (ea k) ∧ zcls z (ea k) = 22 := ⟨(hE.2.2 k hk).1, (hE.2.2 k hk).2.2.1⟩
theorem c61 {s o : Nat} (hs : SS z s) (hso : s + 14 ≤ o ∨ o + 14 ≤ s) (hR : RS B z o v L) (hB : ∀ q, B q → 100 ≤ q ∧ q < zn z) (nB : ∀ q, stW s q → ¬ B q) (hz : s + 14 ≤ zn z ∧ o + 14 ≤ zn z)
    (H : ∀ z2, RS B z2 s v L → zFr (stW s) z z2 → (zuc z ≤ zuc z2 ∧ zuc z2 ≤ zuc z + 1200) → (zus z ≤ zus z2 ∧ zus z2 ≤ zus z + 9608) → Q (.inl none) z2) : ZC zG (d + 1) 61 [.ref s, .ref o] z Q := by
  obtain ⟨s1, s2, s3, s4, s5⟩ := hs
  obtain ⟨⟨o1, o2, o3, o4, o5⟩, t, hl, kn, rl, ha, ra, da, ea, ⟨t1, t2, t3, t4⟩, hH, hRu, hD, hK, h9, hE, h6⟩ := hR
  have hnso : ¬ s = o := by omega
  have ls8 := hE.1
  have l600 := hE.2.1
  -- the ledger
  have n1 : zn (sfr z s 0 (.ref t)) = zn z := rfl
  have st1 : zSt B z (sfr z s 0 (.ref t)) := zSt_sfr (zSt_refl _ _) (nB s (Or.inl rfl))
  have rf1 : ∀ q j, ¬ q = s → zfr (sfr z s 0 (.ref t)) q j = zfr z q j := fun q j hq => by rw [fr_sfr, zu2_n _ _ _ _ hq]
  have LS1 : LdS (sfr z s 0 (.ref t)) (s + 7) := by
    unfold LdS at s5 ⊢
    rw [cls_sfr, len_sfr, rf1 _ _ (by omega), rf1 _ _ (by omega), rf1 _ _ (by omega)]
    exact s5
  have LO1 : LdS (sfr z s 0 (.ref t)) (o + 7) := by
    unfold LdS at o5 ⊢
    rw [cls_sfr, len_sfr, rf1 _ _ (by omega), rf1 _ _ (by omega), rf1 _ _ (by omega)]
    exact o5
  have F1 : zFr (stW s) z (sfr z s 0 (.ref t)) := zFr_sfr (zFr_refl _ _) (Or.inr (Or.inl rfl))
  have e0 : zfr (sfr z s 0 (.ref t)) o 1 = .ref (o + 7) := by rw [rf1 _ _ (fun e => hnso e.symm)]; exact o2
  have e1 : zfr (sfr z s 0 (.ref t)) s 1 = .ref (s + 7) := by rw [fr_sfr, zu2_k _ _ _ _ (by omega)]; exact s2
  have s51 : zcls z (s + 7) = 3 := s5.1
  simp (disch := omega) only [e61, s61_0, s61_1, s61_2, s61_5, s61_8, s61_9, s61_12, s61_13, s61_16, s61_19, s61_20, s61_23, s61_28, s61_29, s61_31, s61_32, s61_35, s61_40, s61_43, s61_44, s61_47, s61_48, s61_51, s61_52, s61_57, s61_60, s61_65, s61_66, s61_69, s61_72, s61_73, s61_74, s61_77, s61_80, zcs_0, zcs_1, zcs_2, zcs_3, zcs_4, zcs_5, zcs_6, zcs_7, znl_i, znl_r, znl_n, Bool.and_true, Bool.true_and, zk_v, zk_n, zk_x, zir_r, zir_n, zclr_i, zclr_r, zclr_n, zclr_d, zclr_l, true_and, and_true, and_self, if_true, if_false, reduceIte, nI_add, pk_mul, zin_ok, zx_nI, nI_lt2, nI_le2, nI_eq2, nI_l0, nI_g0, nI_q0, nI_p0, nI_n0, nI_m1, Nat.add_zero, Nat.zero_add, Nat.reduceAdd, Nat.reduceMul, true_or, or_true, znar_50, bI_0, bI_1, bI_z, bft, nI_z0, nI_z1, lgc_lt, lgc_gt, lgc_le, lgc_ge, lgc_eq, not_true_eq_false, not_false_eq_true, Bool.not_eq_true, Bool.not_eq_false, reduceCtorEq, t1, s1, o1, cls_sfr, e0, e1, s51]
  refine c78 (d := d) (z := sfr z s 0 (.ref t)) LS1 LO1 (by omega) (by rw [rf1 _ _ (by omega)]; exact t2) (by rw [rf1 _ _ (by omega)]; exact t4) (hD.st st1 rfl) hK h9 hB (fun q hq => nB q (Or.inr (Or.inl hq))) (by rw [n1]; omega) (fun z2 a1 a2 a3 a4 a5 a6 a7 a8 a9 => ?_)
  have F2 : zFr (stW s) z z2 := zFr_trans F1 (zFr_mono (fun q _ e => Or.inr (Or.inl e)) a7)
  have rest : ∀ q, q < zn z → ¬ stW s q → zcls z2 q = zcls z q ∧ zfi z2 q = zfi z q ∧ zfr z2 q = zfr z q ∧ zls z2 q = zls z q := fun q hq hn => by
    obtain ⟨b1, b2, b3, _, _, _, _, b8⟩ := F2.2 q hq hn
    exact ⟨b1, b2, b3, b8⟩
  have own : ∀ q, q < zn z → ¬ ldW (s + 7) q → zcls z2 q = zcls z q ∧ zfi z2 q = zfi z q ∧ zfr z2 q = zfr (sfr z s 0 (.ref t)) q ∧ zls z2 q = zls z q := fun q hq hn => by
    obtain ⟨b1, b2, b3, _, _, _, _, b8⟩ := a7.2 q hq hn
    exact ⟨b1, b2, b3, b8⟩
  have ns : ¬ ldW (s + 7) s := by unfold ldW; omega
  have n12 : ¬ ldW (s + 7) (s + 12) := by unfold ldW; omega
  have no : ¬ stW s o := by unfold stW ldW; omega
  have no12 : ¬ stW s (o + 12) := by unfold stW ldW; omega
  obtain ⟨q1, q2, q3, q4⟩ := own s (by omega) ns
  obtain ⟨p1, p2, p3, p4⟩ := own (s + 12) (by omega) n12
  obtain ⟨r1, r2, r3, r4⟩ := rest o (by omega) no
  obtain ⟨u1, u2, u3, u4⟩ := rest (o + 12) (by omega) no12
  have nz2 : zn z ≤ zn z2 := F2.1
  have g2 : zfr z2 s 2 = .ref (s + 12) := by rw [q3, fr_sfr, zu2_k _ _ _ _ (by omega)]; exact s3
  have g0 : zfr z2 s 0 = .ref t := by rw [q3, fr_sfr, zu2_s]
  have g1 : zfr z2 s 1 = .ref (s + 7) := by rw [q3]; exact e1
  generalize hz3 : sls z2 (s + 12) [] = z3
  have cl3 : zcls z3 = zcls z2 := by rw [← hz3]; rfl
  have fi3 : zfi z3 = zfi z2 := by rw [← hz3]; rfl
  have fr3 : zfr z3 = zfr z2 := by rw [← hz3]; rfl
  have ia3 : zia z3 = zia z2 := by rw [← hz3]; rfl
  have ls3 : zls z3 (s + 12) = [] := by rw [← hz3, ls_sls, zu1_s]
  have ls3' : ∀ q, ¬ q = s + 12 → zls z3 q = zls z2 q := fun q hq => by rw [← hz3, ls_sls, zu1_n _ _ _ hq]
  have n3 : zn z3 = zn z2 := by rw [← hz3]; rfl
  have c3 : zuc z3 = zuc z2 ∧ zus z3 = zus z2 := by rw [← hz3]; exact ⟨rfl, rfl⟩
  have F3 : zFr (stW s) z z3 := by rw [← hz3]; exact zFr_sls F2 (Or.inr (Or.inr (Or.inr rfl)))
  have hst3 : (zls z3 (s + 12)).length = 0 := by rw [ls3]; rfl
  have Fk : ∀ k, zFr (stW s) z (addT z3 (s + 12) (zls z (o + 12)) k) := fun k => zFr_trans F3 (zFr_mono (fun q _ e => Or.inr (Or.inr e)) (addT_fr z3 (s + 12) (zls z (o + 12)) k))
  have frk : ∀ k q, q < zn z → ¬ q = s + 12 → zfr (addT z3 (s + 12) (zls z (o + 12)) k) q = zfr z2 q := fun k q hq hne => by rw [((addT_fr z3 (s + 12) (zls z (o + 12)) k).2 q (by omega) hne).2.2.1, fr3]
  have clk : ∀ k q, q < zn z → zcls (addT z3 (s + 12) (zls z (o + 12)) k) q = zcls z2 q := fun k q hq => by rw [addT_clr (by omega), cl3]
  have lsk : ∀ k q, q < zn z → ¬ q = s + 12 → zls (addT z3 (s + 12) (zls z (o + 12)) k) q = zls z2 q := fun k q hq hne => by rw [((addT_fr z3 (s + 12) (zls z (o + 12)) k).2 q (by omega) hne).2.2.2.2.2.2.2, ls3' q hne]
  have key := zl_up (P := fun k => ZW zG (d + 1) 61 30 [.ref s, .ref o, .int (nI k)] [] (addT z3 (s + 12) (zls z (o + 12)) k) Q) (v 8) (by
    intro k hk
    obtain ⟨f1, f2⟩ := RDd_f hE hk
    have fB := (hE.2.2 k hk).2.1
    have hb := hB _ fB
    have nw : ∀ i, i < v 8 → zcls z2 (ea i) = 22 := fun i hi => by
      obtain ⟨x1, x2⟩ := RDd_f hE hi
      have xB := (hE.2.2 i hi).2.1
      rw [(rest _ (hB _ xB).2 (fun w => nB _ w xB)).1]
      exact x2
    refine s61_30.trans ?_
    have g1' : ¬ v 8 ≤ k := by omega
    have b1 := clk k s (by omega)
    have b2 := clk k o (by omega)
    have b3 := clk k (s + 12) (by omega)
    have b4 := clk k (o + 12) (by omega)
    have b5 := clk k (ea k) hb.2
    rw [q1, s1] at b1
    rw [r1, o1] at b2
    rw [p1, s4] at b3
    rw [u1, o4] at b4
    rw [nw k hk] at b5
    have d1 := congrFun (frk k s (by omega) (by omega)) 2
    have d2 := congrFun (frk k o (by omega) (by omega)) 2
    rw [g2] at d1
    rw [r3, o3] at d2
    have d3 := lsk k (o + 12) (by omega) (by omega)
    rw [u4] at d3
    have hk2 : (zls (addT z3 (s + 12) (zls z (o + 12)) k) (s + 12)) = (zls z (o + 12)).take k := by rw [addT_ls _ _ _ k (by omega), ls3, List.nil_append]
    have hk3 : (zls (addT z3 (s + 12) (zls z (o + 12)) k) (s + 12)).length < 100000 := by rw [hk2, List.length_take]; omega
    have hz5 : zlel (addT z3 (s + 12) (zls z (o + 12)) k) (.ref (ea k)) = true := by
      simp [zlel, b5, hb.1]
    have hall : (zls (addT z3 (s + 12) (zls z (o + 12)) k) (s + 12)).all (zlel (addT z3 (s + 12) (zls z (o + 12)) k)) = true := by
      refine all_getD (fun i hi => ?_)
      rw [hk2] at hi ⊢
      rw [List.length_take] at hi
      have hi2 : i < v 8 := by omega
      obtain ⟨x1, _⟩ := RDd_f hE hi2
      have ub := hB _ (hE.2.2 i hi2).2.1
      have e : ((zls z (o + 12)).take k).getD i .null = .ref (ea i) := by
        rw [List.getD_eq_getElem?_getD, List.getElem?_take_of_lt (by omega), ← List.getD_eq_getElem?_getD, x1]
      rw [e]
      have a6 := clk k (ea i) ub.2
      rw [nw i hi2] at a6
      simp [zlel, a6, ub.1]
    have hs : sladd (addT z3 (s + 12) (zls z (o + 12)) k) (s + 12) (.ref (ea k)) = addT z3 (s + 12) (zls z (o + 12)) (k + 1) := by
      show _ = sladd _ _ _
      rw [f1]
    rw [← hs]
    generalize addT z3 (s + 12) (zls z (o + 12)) k = z4 at *
    simp (disch := omega) only [s61_0, s61_1, s61_2, s61_5, s61_8, s61_9, s61_12, s61_13, s61_16, s61_19, s61_20, s61_23, s61_28, s61_29, s61_31, s61_32, s61_35, s61_40, s61_43, s61_44, s61_47, s61_48, s61_51, s61_52, s61_57, s61_60, s61_65, s61_66, s61_69, s61_72, s61_73, s61_74, s61_77, s61_80, zcs_0, zcs_1, zcs_2, zcs_3, zcs_4, zcs_5, zcs_6, zcs_7, znl_i, znl_r, znl_n, Bool.and_true, Bool.true_and, zk_v, zk_n, zk_x, zir_r, zir_n, zclr_i, zclr_r, zclr_n, zclr_d, zclr_l, true_and, and_true, and_self, if_true, if_false, reduceIte, nI_add, pk_mul, zin_ok, zx_nI, nI_lt2, nI_le2, nI_eq2, nI_l0, nI_g0, nI_q0, nI_p0, nI_n0, nI_m1, Nat.add_zero, Nat.zero_add, Nat.reduceAdd, Nat.reduceMul, true_or, or_true, znar_50, bI_0, bI_1, bI_z, bft, nI_z0, nI_z1, lgc_lt, lgc_gt, lgc_le, lgc_ge, lgc_eq, not_true_eq_false, not_false_eq_true, Bool.not_eq_true, Bool.not_eq_false, reduceCtorEq, b1, b2, b3, b4, b5, d1, d2, d3, ls8, g1', f1, hz5, hall, hk3])
  have k0 : addT z3 (s + 12) (zls z (o + 12)) 0 = z3 := rfl
  rw [k0] at key
  have cw := addT_sum hst3 (l := zls z (o + 12)) (k := v 8) (by omega) l600
  have hfin : ∀ z5, z5 = sfi (addT z3 (s + 12) (zls z (o + 12)) (v 8)) s 3 (nI (v 6)) → Q (.inl none) z5 := by
    intro z5 h5
    have F5 : zFr (stW s) z z5 := by rw [h5]; exact zFr_sfi (Fk (v 8)) (Or.inr (Or.inl rfl))
    have cl5 : ∀ q, q < zn z → zcls z5 q = zcls z2 q := fun q hq => by rw [h5, cls_sfi]; exact clk _ q hq
    have fr5 : ∀ q, q < zn z → ¬ q = s + 12 → zfr z5 q = zfr z2 q := fun q hq hne => by rw [h5, fr_sfi]; exact frk _ q hq hne
    have ls5 : zls z5 (s + 12) = zls z (o + 12) := by
      rw [h5, ls_sfi, addT_ls _ _ _ _ (by omega), ls3, List.nil_append, ← ls8, List.take_length]
    have ls5' : ∀ q, q < zn z → ¬ q = s + 12 → zls z5 q = zls z2 q := fun q hq hne => by rw [h5, ls_sfi]; exact lsk _ q hq hne
    have ia5 : zia z5 = zia z2 := by rw [h5, ia_sfi, addT_ia, ia3]
    have fi5 : ∀ q, ¬ q = s → zfi z5 q = zfi z2 q := fun q hq => by
      rw [h5, fi_sfi]
      funext j
      rw [zu2_n _ _ _ _ hq, addT_fi, fi3]
    have len5 : ∀ q, q < zn z → ¬ q = s + 12 → zlen z5 q = zlen z2 q := fun q hq hne => by
      rw [h5, len_sfi, ((addT_fr z3 (s + 12) (zls z (o + 12)) (v 8)).2 q (by omega) hne).2.2.2.2.2.2.1, ← hz3]
      rfl
    have hst : zSt B z z5 := F5.st (fun q hq => ⟨(hB q hq).2, fun hw => nB q hw hq⟩)
    have st2 : zSt B z z2 := F2.st (fun q hq => ⟨(hB q hq).2, fun hw => nB q hw hq⟩)
    have htB := hH.1.1
    refine H z5 ⟨⟨?_, ?_, ?_, ?_, ?_⟩, t, hl, kn, rl, ha, ra, da, ea, ⟨?_, ?_, ?_, ?_⟩, hH.st hst, hRu.st hst, ?_, ?_, ?_, ?_, ?_⟩ F5 ?_ ?_
    · rw [cl5 _ (by omega), q1]; exact s1
    · rw [fr5 _ (by omega) (by omega)]; exact g1
    · rw [fr5 _ (by omega) (by omega)]; exact g2
    · rw [cl5 _ (by omega), p1]; exact s4
    · unfold LdS at a1 ⊢
      rw [cl5 _ (by omega), cl5 _ (by omega), cl5 _ (by omega), cl5 _ (by omega), fr5 _ (by omega) (by omega), len5 _ (by omega) (by omega)]
      exact a1
    · rw [fr5 _ (by omega) (by omega)]; exact g0
    · rw [fr5 _ (by omega) (by omega)]; exact a2
    · rw [(hst t htB).2.2.1]; exact t3
    · rw [fr5 _ (by omega) (by omega)]; exact a3
    · refine ⟨by rw [ls5' _ (by omega) (by omega)]; exact a4.1, a4.2.1, fun i hi => ?_⟩
      obtain ⟨b1, b2, b3, b4⟩ := a4.2.2 i hi
      have hbb := hB _ b2
      have hns : ¬ da i = s := fun e => nB s (Or.inl rfl) (e ▸ b2)
      exact ⟨by rw [ls5' _ (by omega) (by omega)]; exact b1, b2, by rw [cl5 _ hbb.2]; exact b3, fun j hj => by rw [fi5 _ hns]; exact b4 j hj⟩
    · intro h hh
      rw [ia5]; exact a5 h hh
    · rw [fi5 _ (by omega)]; exact a6
    · refine ⟨by rw [ls5]; exact ls8, l600, fun i hi => ?_⟩
      obtain ⟨b1, b2, b3, b4⟩ := hE.2.2 i hi
      obtain ⟨p1, p2, p3, p4, p5, p6⟩ := hst _ b2
      exact ⟨by rw [ls5]; exact b1, b2, by rw [p1]; exact b3, fun j hj => by rw [p2]; exact b4 j hj⟩
    · rw [h5, fi_sfi, zu2_s]
    · rw [h5, uc_sfi]
      have := cw.1
      have hx := c3.1
      have hy := a8
      have e : zuc (sfr z s 0 (.ref t)) = zuc z := rfl
      omega
    · rw [h5, us_sfi]
      have := cw.2
      have hx := c3.2
      have hy := a9
      have e : zus (sfr z s 0 (.ref t)) = zus z := rfl
      omega
  have hend : ZW zG (d + 1) 61 30 [.ref s, .ref o, .int (nI (v 8))] [] (addT z3 (s + 12) (zls z (o + 12)) (v 8)) Q := by
    refine Eq.mpr s61_30 ?_
    have b1 := clk (v 8) s (by omega)
    have b2 := clk (v 8) o (by omega)
    have b4 := clk (v 8) (o + 12) (by omega)
    rw [q1, s1] at b1
    rw [r1, o1] at b2
    rw [u1, o4] at b4
    have d2 := congrFun (frk (v 8) o (by omega) (by omega)) 2
    rw [r3, o3] at d2
    have d3 := lsk (v 8) (o + 12) (by omega) (by omega)
    rw [u4] at d3
    have e5 : zfi (addT z3 (s + 12) (zls z (o + 12)) (v 8)) o 3 = nI (v 6) := by rw [addT_fi, fi3, r2]; exact h6
    have hf := hfin _ rfl
    generalize addT z3 (s + 12) (zls z (o + 12)) (v 8) = z4 at *
    simp (disch := omega) only [s61_0, s61_1, s61_2, s61_5, s61_8, s61_9, s61_12, s61_13, s61_16, s61_19, s61_20, s61_23, s61_28, s61_29, s61_31, s61_32, s61_35, s61_40, s61_43, s61_44, s61_47, s61_48, s61_51, s61_52, s61_57, s61_60, s61_65, s61_66, s61_69, s61_72, s61_73, s61_74, s61_77, s61_80, zcs_0, zcs_1, zcs_2, zcs_3, zcs_4, zcs_5, zcs_6, zcs_7, znl_i, znl_r, znl_n, Bool.and_true, Bool.true_and, zk_v, zk_n, zk_x, zir_r, zir_n, zclr_i, zclr_r, zclr_n, zclr_d, zclr_l, true_and, and_true, and_self, if_true, if_false, reduceIte, nI_add, pk_mul, zin_ok, zx_nI, nI_lt2, nI_le2, nI_eq2, nI_l0, nI_g0, nI_q0, nI_p0, nI_n0, nI_m1, Nat.add_zero, Nat.zero_add, Nat.reduceAdd, Nat.reduceMul, true_or, or_true, znar_50, bI_0, bI_1, bI_z, bft, nI_z0, nI_z1, lgc_lt, lgc_gt, lgc_le, lgc_ge, lgc_eq, not_true_eq_false, not_false_eq_true, Bool.not_eq_true, Bool.not_eq_false, reduceCtorEq, b1, b2, b4, d2, d3, ls8, Nat.le_refl, e5]
    exact hf
  have q1' : zcls z2 s = 1 := q1.trans s1
  have p1' : zcls z2 (s + 12) = 90 := p1.trans s4
  simp (disch := omega) only [s61_0, s61_1, s61_2, s61_5, s61_8, s61_9, s61_12, s61_13, s61_16, s61_19, s61_20, s61_23, s61_28, s61_29, s61_31, s61_32, s61_35, s61_40, s61_43, s61_44, s61_47, s61_48, s61_51, s61_52, s61_57, s61_60, s61_65, s61_66, s61_69, s61_72, s61_73, s61_74, s61_77, s61_80, zcs_0, zcs_1, zcs_2, zcs_3, zcs_4, zcs_5, zcs_6, zcs_7, znl_i, znl_r, znl_n, Bool.and_true, Bool.true_and, zk_v, zk_n, zk_x, zir_r, zir_n, zclr_i, zclr_r, zclr_n, zclr_d, zclr_l, true_and, and_true, and_self, if_true, if_false, reduceIte, nI_add, pk_mul, zin_ok, zx_nI, nI_lt2, nI_le2, nI_eq2, nI_l0, nI_g0, nI_q0, nI_p0, nI_n0, nI_m1, Nat.add_zero, Nat.zero_add, Nat.reduceAdd, Nat.reduceMul, true_or, or_true, znar_50, bI_0, bI_1, bI_z, bft, nI_z0, nI_z1, lgc_lt, lgc_gt, lgc_le, lgc_ge, lgc_eq, not_true_eq_false, not_false_eq_true, Bool.not_eq_true, Bool.not_eq_false, reduceCtorEq, q1', g2, p1', hz3]
  refine Eq.mpr key ?_
  exact hend
end BD
