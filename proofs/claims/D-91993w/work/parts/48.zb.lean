set_option maxRecDepth 100000
/-! the world behind a deed -/
def sDeed (v : Nat → Nat) (a b p : Nat) : Nat → Nat := zu1 (zu1 (zu1 (zu1 (zu1 v (6680 + 4 * v 8) a) (6680 + 4 * v 8 + 1) b) (6680 + 4 * v 8 + 2) p) (6680 + 4 * v 8 + 3) (v 6)) 8 (v 8 + 1)
theorem sDeed_n {v : Nat → Nat} {a b p q : Nat} (hq : q < 6680 + 4 * v 8 ∨ 6680 + 4 * v 8 + 4 ≤ q) (h8 : ¬ q = 8) : sDeed v a b p q = v q := by
  unfold sDeed
  rw [zu1_n _ _ _ h8, zu1_n _ _ _ (by omega), zu1_n _ _ _ (by omega), zu1_n _ _ _ (by omega), zu1_n _ _ _ (by omega)]
theorem sDeed_8 {v : Nat → Nat} {a b p : Nat} : sDeed v a b p 8 = v 8 + 1 := zu1_s _ _ _
theorem sDeed_f {v : Nat → Nat} {a b p : Nat} : sDeed v a b p (6680 + 4 * v 8) = a ∧ sDeed v a b p (6680 + 4 * v 8 + 1) = b ∧ sDeed v a b p (6680 + 4 * v 8 + 2) = p ∧ sDeed v a b p (6680 + 4 * v 8 + 3) = v 6 := by
  unfold sDeed
  refine ⟨?_, ?_, ?_, ?_⟩
  · rw [zu1_n _ _ _ (by omega), zu1_n _ _ _ (by omega), zu1_n _ _ _ (by omega), zu1_n _ _ _ (by omega), zu1_s]
  · rw [zu1_n _ _ _ (by omega), zu1_n _ _ _ (by omega), zu1_n _ _ _ (by omega), zu1_s]
  · rw [zu1_n _ _ _ (by omega), zu1_n _ _ _ (by omega), zu1_s]
  · rw [zu1_n _ _ _ (by omega), zu1_s]
theorem sNotes_eq (v : Nat → Nat) (L : Nat → List (Nat × Nat)) (a b p : Nat) : sNotes v L a b p = (zu1 (sGoes (sDeed v a b p) L a b p (v 6)).1 9 ((sGoes (sDeed v a b p) L a b p (v 6)).1 9 + (sGoes (sDeed v a b p) L a b p (v 6)).2), (sGoes (sDeed v a b p) L a b p (v 6)).2) := rfl
theorem agC_deed {v : Nat → Nat} {a b p : Nat} : agC v (sDeed v a b p) := by
  unfold sDeed
  refine agC_zu (agC_zu (agC_zu (agC_zu (agC_zu (agC_refl v) ?_) ?_) ?_) ?_) ?_ <;> omega
theorem WF_notes {v : Nat → Nat} {L : Nat → List (Nat × Nat)} {K a b p : Nat} (h : WF v L K) (hK : K < 400000000) (ha : a < v 0) (hb : b < v 0) (hab : ¬ a = b) (hp : p < 5) (h8 : v 8 < 600) : WF (sNotes v L a b p).1 L (K + 600) ∧ agC v (sNotes v L a b p).1 ∧ (sNotes v L a b p).1 8 = v 8 + 1 ∧ (sNotes v L a b p).1 6 = v 6 ∧ (sNotes v L a b p).2 ≤ 600 := by
  obtain ⟨hB, hT, hKn, hD, hE, hc, h9⟩ := h
  have h16 := hT.1
  have e0 : sDeed v a b p 0 = v 0 := sDeed_n (by omega) (by omega)
  have e7 : sDeed v a b p 7 = v 7 := sDeed_n (by omega) (by omega)
  have hd78 := hD.1
  have g := sGoes_wf (v := sDeed v a b p) (L := L) (a := a) (b := b) (p := p) (dy := v 6) (by
      intro i
      unfold sDeed zu1
      have := hB i
      have := hB 6
      repeat' split
      all_goals omega) (by omega) (by
      intro x hx
      rw [e0, sDeed_n (q := 1864 + x) (by omega) (by omega)]
      exact hKn x hx) (by
      intro i hi
      rw [e7] at hi
      rw [e0, sDeed_n (q := 1880 + 5 * i) (by omega) (by omega), sDeed_n (q := 1880 + 5 * i + 1) (by omega) (by omega), sDeed_n (q := 1880 + 5 * i + 2) (by omega) (by omega), sDeed_n (q := 1880 + 5 * i + 3) (by omega) (by omega), sDeed_n (q := 1880 + 5 * i + 4) (by omega) (by omega)]
      exact hD.2 i hi) (by omega) (cOK_c agC_deed hc) (by omega) (by omega) hab hp hE.2.1
  obtain ⟨g1, g2, g3, g4, g5, g6, g7⟩ := g
  rw [sNotes_eq]
  dsimp only
  generalize (sGoes (sDeed v a b p) L a b p (v 6)).1 = w at g1 g2 g3 g4 g6 g7
  generalize (sGoes (sDeed v a b p) L a b p (v 6)).2 = n at g5
  have ag : agC v w := agC_trans agC_deed g6
  have ag2 : agC v (zu1 w 9 (w 9 + n)) := agC_zu ag (by omega)
  have w9 : w 9 = v 9 := by rw [g7 9 (by omega)]; exact sDeed_n (by omega) (by omega)
  have w8 : w 8 = v 8 + 1 := by rw [g7 8 (by omega)]; exact sDeed_8
  have w6 : w 6 = v 6 := by rw [g7 6 (by omega)]; exact sDeed_n (by omega) (by omega)
  have z0 : zu1 w 9 (w 9 + n) 0 = v 0 := ag2 0 (by omega)
  have w0 : w 0 = v 0 := ag 0 (by omega)
  refine ⟨⟨?_, wT_c ag2 hT, ?_, ?_, ?_, cOK_c ag2 hc, by rw [zu1_s]; omega⟩, ag2, by rw [zu1_n _ _ _ (by omega)]; exact w8, by rw [zu1_n _ _ _ (by omega)]; exact w6, by omega⟩
  · intro i
    unfold zu1
    have := g1 i
    split <;> omega
  · intro x hx
    rw [z0, zu1_n _ _ _ (by omega), ← w0]
    exact g2 x hx
  · refine ⟨by rw [zu1_n _ _ _ (by omega), zu1_n _ _ _ (by omega)]; omega, ?_⟩
    intro i hi
    rw [zu1_n _ _ _ (by omega)] at hi
    rw [z0, zu1_n _ _ _ (by omega), zu1_n _ _ _ (by omega), zu1_n _ _ _ (by omega), zu1_n _ _ _ (by omega), zu1_n _ _ _ (by omega), ← e0]
    exact g3 i hi
  · refine ⟨by rw [zu1_n _ _ _ (by omega)]; omega, by rw [zu1_n _ _ _ (by omega)]; have := hE.2.1; omega, ?_⟩
    intro i hi
    rw [zu1_n _ _ _ (by omega), w8] at hi
    rw [z0, zu1_n _ _ _ (by omega), zu1_n _ _ _ (by omega), zu1_n _ _ _ (by omega), zu1_n _ _ _ (by omega), g7 _ (by omega), g7 _ (by omega), g7 _ (by omega), g7 _ (by omega)]
    by_cases e : i = v 8
    · subst e
      obtain ⟨f0, f1, f2, f3⟩ := sDeed_f (v := v) (a := a) (b := b) (p := p)
      rw [f0, f1, f2, f3]
      exact ⟨ha, hb, hp, hE.2.1, hab⟩
    · rw [sDeed_n (by omega) (by omega), sDeed_n (by omega) (by omega), sDeed_n (by omega) (by omega), sDeed_n (by omega) (by omega)]
      exact hE.2.2 i (by omega)
theorem WF_le {v : Nat → Nat} {L : Nat → List (Nat × Nat)} {K K2 : Nat} (h : WF v L K) (hK : K ≤ K2) : WF v L K2 := ⟨h.1, h.2.1, h.2.2.1, h.2.2.2.1, h.2.2.2.2.1, h.2.2.2.2.2.1, Nat.le_trans h.2.2.2.2.2.2 hK⟩
theorem WF_does {v : Nat → Nat} {L : Nat → List (Nat × Nat)} {K : Nat} {a b p : Int32} (h : WF v L K) (hK : K < 400000000) : WF (rDoes v L a b p).2 L (K + 600) ∧ agC v (rDoes v L a b p).2 := by
  unfold rDoes
  split
  · rename_i hc
    rw [Bool.and_eq_true] at hc
    obtain ⟨i, j, h1, h2, h3, h4, h5, rfl, rfl⟩ := are2_of hc.1
    obtain ⟨k, hk, hk2, rfl⟩ := zin_of hc.2
    rw [zx_nI h4, zx_nI h5, zx_nI hk2]
    split
    · exact ⟨WF_le h (by omega), agC_refl v⟩
    · split
      · exact ⟨WF_le h (by omega), agC_refl v⟩
      · have h8 := h.2.2.2.2.1.1
        have := WF_notes h hK h1 h2 h3 (p := k) (by omega) (by omega)
        exact ⟨this.1, this.2.1⟩
  · exact ⟨WF_le h (by omega), agC_refl v⟩
theorem WF_meet {v : Nat → Nat} {L : Nat → List (Nat × Nat)} {K : Nat} {a b : Int32} (h : WF v L K) (hK : K < 400000000) : WF (rMeet v L a b).2 L (K + 600) ∧ agC v (rMeet v L a b).2 := by
  unfold rMeet
  split
  · rename_i hc
    obtain ⟨i, j, h1, h2, h3, h4, h5, rfl, rfl⟩ := are2_of hc
    rw [zx_nI h4, zx_nI h5]
    split
    · exact ⟨WF_le h (by omega), agC_refl v⟩
    · have h8 := h.2.2.2.2.1.1
      have := WF_notes h hK h1 h2 h3 (p := 4) (by omega) (by omega)
      exact ⟨this.1, this.2.1⟩
  · exact ⟨WF_le h (by omega), agC_refl v⟩
/-- triples of a row of numbers, done one behind another: the first k of them; nm: its numbers -/
def sTri (L : Nat → List (Nat × Nat)) (nm : Nat → Int64) (v : Nat → Nat) (k : Nat) : Int32 × (Nat → Nat) :=
  if nm (3 * k + 2) = lN 4 then rMeet v L (nm (3 * k)).toInt32 (nm (3 * k + 1)).toInt32 else rDoes v L (nm (3 * k)).toInt32 (nm (3 * k + 1)).toInt32 (nm (3 * k + 2)).toInt32
def sOkT (nm : Nat → Int64) (k : Nat) : Bool := linB (nm (3 * k)) (lN 0) (lN 16) && linB (nm (3 * k + 1)) (lN 0) (lN 16) && linB (nm (3 * k + 2)) (lN 0) (lN 4)
def sDone (L : Nat → List (Nat × Nat)) (nm : Nat → Int64) (v : Nat → Nat) : Nat → Nat × (Nat → Nat)
  | 0 => (0, v)
  | k + 1 => if sOkT nm k = true then ((sDone L nm v k).1 + (if 0 ≤ (sTri L nm (sDone L nm v k).2 k).1 then 1 else 0), (sTri L nm (sDone L nm v k).2 k).2) else sDone L nm v k
theorem WF_done {v : Nat → Nat} {L : Nat → List (Nat × Nat)} {K : Nat} {nm : Nat → Int64} (h : WF v L K) : ∀ k, k ≤ 1000 → K < 100000000 → WF (sDone L nm v k).2 L (K + 600 * k) ∧ agC v (sDone L nm v k).2 ∧ (sDone L nm v k).1 ≤ k
  | 0, _, _ => ⟨h, agC_refl v, Nat.le_refl _⟩
  | k + 1, hk, hK => by
    obtain ⟨h1, h2, h3⟩ := WF_done h (nm := nm) k (by omega) hK
    unfold sDone
    split
    · dsimp only
      unfold sTri
      split
      · obtain ⟨w1, w2⟩ := WF_meet (a := (nm (3 * k)).toInt32) (b := (nm (3 * k + 1)).toInt32) h1 (by omega)
        exact ⟨WF_le w1 (by omega), agC_trans h2 w2, by split <;> omega⟩
      · obtain ⟨w1, w2⟩ := WF_does (a := (nm (3 * k)).toInt32) (b := (nm (3 * k + 1)).toInt32) (p := (nm (3 * k + 2)).toInt32) h1 (by omega)
        exact ⟨WF_le w1 (by omega), agC_trans h2 w2, by split <;> omega⟩
    · exact ⟨WF_le h1 (by omega), h2, by omega⟩

section MN
variable {d : Nat} {z : ZH} {Q : ZQ} {v : Nat → Nat} {L : Nat → List (Nat × Nat)} {K : Nat}
theorem m168 (hM : MS z) (hw : WF v L K) (hK : K < 100000000) {sl N : Nat} (hs : sl < 4) (hN : N ≤ 60) (hm : zia z 158 sl = nI N) (H : ∀ pt, Q (.inl (some (.int (nI (sDone L (fun i => zla z 160 (60 * sl + i)) v (N / 3)).1)))) (sW (sIA z 142 pt) (sDone L (fun i => zla z 160 (60 * sl + i)) v (N / 3)).2)) : ZC zG (d + 7) 168 [.ref 135, .int (nI sl)] (sW z v) Q := by
  have h0 := hM
  unfold MS at h0
  have hnm : ¬ nI N = -1 := by rw [nI_m1 (by omega)]; exact fun h => h
  have key : ∀ m k (pt : Nat → Int32) (x4 x5 x6 x7 x8 x9 x10 : Value), k + m = N / 3 → ZW zG (d + 7) 168 27 [.ref 135, .int (nI sl), .int (nI (sDone L (fun i => zla z 160 (60 * sl + i)) v k).1), .int (nI (3 * k)), x4, x5, x6, x7, x8, x9, x10] [] (sW (sIA z 142 pt) (sDone L (fun i => zla z 160 (60 * sl + i)) v k).2) Q := by
    intro m
    induction m with
    | zero =>
      intro k pt x4 x5 x6 x7 x8 x9 x10 hk
      have hk2 : k = N / 3 := by omega
      subst hk2
      have h1 : N ≤ 3 * (N / 3) + 2 := by omega
      refine (s168_27.trans ?_).mpr (H pt)
      simp (disch := first | omega | exact hM | exact hv _ | (simp only [MS_sW, MS_sfi, MS_sia, MS_sIA, MS_sla, MS_sLA, MS_sls]; exact hM)) only [s168_0, s168_1, s168_4, s168_7, s168_9, s168_10, s168_11, s168_14, s168_15, s168_16, s168_17, s168_20, s168_22, s168_23, s168_24, s168_25, s168_26, s168_28, s168_29, s168_30, s168_31, s168_34, s168_35, s168_36, s168_39, s168_40, s168_43, s168_45, s168_46, s168_47, s168_48, s168_49, s168_50, s168_52, s168_53, s168_56, s168_58, s168_59, s168_60, s168_61, s168_62, s168_63, s168_64, s168_65, s168_67, s168_68, s168_71, s168_73, s168_74, s168_75, s168_76, s168_77, s168_78, s168_79, s168_80, s168_82, s168_84, s168_85, s168_88, s168_91, s168_94, s168_96, s168_97, s168_100, s168_103, s168_106, s168_108, s168_109, s168_112, s168_115, s168_118, s168_121, s168_123, s168_126, s168_127, s168_130, s168_131, s168_133, s168_134, s168_136, s168_137, s168_140, s168_143, s168_144, s168_146, s168_147, s168_149, s168_150, s168_152, s168_153, s168_156, s168_158, s168_159, s168_161, s168_164, s168_165, s168_168, s168_169, s168_170, s168_171, s168_174, s168_177, s168_178, zcs_0, zcs_1, zcs_2, zcs_3, zcs_4, zcs_5, zcs_6, zcs_7, znl_i, znl_r, znl_n, Bool.and_true, Bool.true_and, zk_v, zk_n, zk_x, zir_r, zir_n, zclr_i, zclr_r, zclr_n, zclr_d, zclr_l, true_and, and_true, and_self, if_true, if_false, reduceIte, nI_add, pk_mul, zin_ok, zx_nI, nI_lt2, nI_le2, nI_eq2, nI_l0, nI_g0, nI_q0, nI_p0, nI_n0, nI_m1, Nat.add_zero, Nat.zero_add, Nat.reduceAdd, Nat.reduceMul, true_or, or_true, znar_50, bI_0, bI_1, bI_z, bft, nI_z0, nI_z1, lgc_lt, lgc_gt, lgc_le, lgc_ge, lgc_eq, not_true_eq_false, not_false_eq_true, Bool.not_eq_true, Bool.not_eq_false, reduceCtorEq, MS_sW, CS_sW, sW_r, sW_n, sW_w, cls_sW, fi_sW, fr_sW, la_sW, ra_sW, len_sW, ls_sW, own_sW, n_sW, uc_sW, us_sW, sW_sfi, sW_sla, sW_sLA, sW_sls, sW_spay, sW_sia, sW_sIA, ne_eq, cls_sfi, fr_sfi, ia_sfi, la_sfi, ra_sfi, len_sfi, ls_sfi, own_sfi, n_sfi, uc_sfi, us_sfi, cls_sia, fi_sia, fr_sia, la_sia, ra_sia, len_sia, ls_sia, own_sia, n_sia, uc_sia, us_sia, cls_sIA, fi_sIA, fr_sIA, la_sIA, ra_sIA, len_sIA, ls_sIA, own_sIA, n_sIA, uc_sIA, us_sIA, cls_sla, fi_sla, fr_sla, ia_sla, ra_sla, len_sla, ls_sla, own_sla, n_sla, uc_sla, us_sla, cls_sLA, fi_sLA, fr_sLA, ia_sLA, ra_sLA, len_sLA, ls_sLA, own_sLA, n_sLA, uc_sLA, us_sLA, ia_sIA, zu1_n, h0, hm, h1]
    | succ m ih =>
      intro k pt x4 x5 x6 x7 x8 x9 x10 hk
      have h1 : ¬ N ≤ 3 * k + 2 := by omega
      obtain ⟨w1, w2, w3⟩ := WF_done hw (nm := fun i => zla z 160 (60 * sl + i)) k (by omega) hK
      rw [s168_27]
      have hstep : sDone L (fun i => zla z 160 (60 * sl + i)) v (k + 1) = if sOkT (fun i => zla z 160 (60 * sl + i)) k = true then ((sDone L (fun i => zla z 160 (60 * sl + i)) v k).1 + (if 0 ≤ (sTri L (fun i => zla z 160 (60 * sl + i)) (sDone L (fun i => zla z 160 (60 * sl + i)) v k).2 k).1 then 1 else 0), (sTri L (fun i => zla z 160 (60 * sl + i)) (sDone L (fun i => zla z 160 (60 * sl + i)) v k).2 k).2) else sDone L (fun i => zla z 160 (60 * sl + i)) v k := rfl
      unfold sOkT sTri at hstep
      dsimp only at hstep
      simp only [show 60 * sl + (3 * k + 1) = 60 * sl + 3 * k + 1 by omega, show 60 * sl + (3 * k + 2) = 60 * sl + 3 * k + 2 by omega] at hstep
      simp (disch := first | omega | exact hM | exact hv _ | (simp only [MS_sW, MS_sfi, MS_sia, MS_sIA, MS_sla, MS_sLA, MS_sls]; exact hM)) only [s168_0, s168_1, s168_4, s168_7, s168_9, s168_10, s168_11, s168_14, s168_15, s168_16, s168_17, s168_20, s168_22, s168_23, s168_24, s168_25, s168_26, s168_28, s168_29, s168_30, s168_31, s168_34, s168_35, s168_36, s168_39, s168_40, s168_43, s168_45, s168_46, s168_47, s168_48, s168_49, s168_50, s168_52, s168_53, s168_56, s168_58, s168_59, s168_60, s168_61, s168_62, s168_63, s168_64, s168_65, s168_67, s168_68, s168_71, s168_73, s168_74, s168_75, s168_76, s168_77, s168_78, s168_79, s168_80, s168_82, s168_84, s168_85, s168_88, s168_91, s168_94, s168_96, s168_97, s168_100, s168_103, s168_106, s168_108, s168_109, s168_112, s168_115, s168_118, s168_121, s168_123, s168_126, s168_127, s168_130, s168_131, s168_133, s168_134, s168_136, s168_140, s168_143, s168_144, s168_146, s168_147, s168_149, s168_150, s168_152, s168_156, s168_158, s168_159, s168_161, s168_164, s168_165, s168_168, s168_169, s168_170, s168_171, s168_174, s168_177, s168_178, zcs_0, zcs_1, zcs_2, zcs_3, zcs_4, zcs_5, zcs_6, zcs_7, znl_i, znl_r, znl_n, Bool.and_true, Bool.true_and, zk_v, zk_n, zk_x, zir_r, zir_n, zclr_i, zclr_r, zclr_n, zclr_d, zclr_l, true_and, and_true, and_self, if_true, if_false, reduceIte, nI_add, pk_mul, zin_ok, zx_nI, nI_lt2, nI_le2, nI_eq2, nI_l0, nI_g0, nI_q0, nI_p0, nI_n0, nI_m1, Nat.add_zero, Nat.zero_add, Nat.reduceAdd, Nat.reduceMul, true_or, or_true, znar_50, bI_0, bI_1, bI_z, bft, nI_z0, nI_z1, lgc_lt, lgc_gt, lgc_le, lgc_ge, lgc_eq, not_true_eq_false, not_false_eq_true, Bool.not_eq_true, Bool.not_eq_false, reduceCtorEq, MS_sW, CS_sW, sW_r, sW_n, sW_w, cls_sW, fi_sW, fr_sW, la_sW, ra_sW, len_sW, ls_sW, own_sW, n_sW, uc_sW, us_sW, sW_sfi, sW_sla, sW_sLA, sW_sls, sW_spay, sW_sia, sW_sIA, ne_eq, cls_sfi, fr_sfi, ia_sfi, la_sfi, ra_sfi, len_sfi, ls_sfi, own_sfi, n_sfi, uc_sfi, us_sfi, cls_sia, fi_sia, fr_sia, la_sia, ra_sia, len_sia, ls_sia, own_sia, n_sia, uc_sia, us_sia, cls_sIA, fi_sIA, fr_sIA, la_sIA, ra_sIA, len_sIA, ls_sIA, own_sIA, n_sIA, uc_sIA, us_sIA, cls_sla, fi_sla, fr_sla, ia_sla, ra_sla, len_sla, ls_sla, own_sla, n_sla, uc_sla, us_sla, cls_sLA, fi_sLA, fr_sLA, ia_sLA, ra_sLA, len_sLA, ls_sLA, own_sLA, n_sLA, uc_sLA, us_sLA, ia_sIA, zu1_n, h0, hm, h1, m114]
      have ih2 := ih (k + 1)
      generalize hW : (sDone L (fun i => zla z 160 (60 * sl + i)) v k).2 = w at hstep w1 w2 ⊢
      generalize hC : (sDone L (fun i => zla z 160 (60 * sl + i)) v k).1 = cnt at hstep w3 ⊢
      generalize zla z 160 (60 * sl + 3 * k) = A at hstep ⊢
      generalize zla z 160 (60 * sl + 3 * k + 1) = B at hstep ⊢
      generalize zla z 160 (60 * sl + 3 * k + 2) = C at hstep ⊢
      have e3 : 3 * k + 3 = 3 * (k + 1) := by omega
      obtain ⟨wb, wt, wk, wd, we, wc, w9⟩ := w1
      have hv1 : ∀ i, w i < 1000000000 := fun i => by have := wb i; omega
      have ht16 := wt.1
      have hd1 := wd.1
      have he1 := we.1
      have he2 := we.2.1
      have idle : sDone L (fun i => zla z 160 (60 * sl + i)) v (k + 1) = sDone L (fun i => zla z 160 (60 * sl + i)) v k → ∀ y4 y5 y6 y7 y8 y9 y10, ZW zG (d + 7) 168 27 [.ref 135, .int (nI sl), .int (nI cnt), .int (nI (3 * k + 3)), y4, y5, y6, y7, y8, y9, y10] [] (sW (sIA z 142 pt) w) Q := by
        intro e y4 y5 y6 y7 y8 y9 y10
        have := ih2 pt y4 y5 y6 y7 y8 y9 y10 (by omega)
        rw [e, hW, hC, ← e3] at this
        exact this
      cases cA : linB A (lN 0) (lN 16) with
      | false =>
        rw [cA] at hstep
        simp only [Bool.false_and, Bool.false_eq_true, if_false] at hstep
        simp only [if_true]
        exact idle hstep _ _ _ _ _ _ _
      | true =>
        cases cB : linB B (lN 0) (lN 16) with
        | false =>
          rw [cA, cB] at hstep
          simp only [Bool.false_and, Bool.and_false, Bool.false_eq_true, if_false] at hstep
          simp only [if_true, if_false, Bool.true_eq_false, reduceCtorEq]
          exact idle hstep _ _ _ _ _ _ _
        | true =>
          cases cC : linB C (lN 0) (lN 4) with
          | false =>
            rw [cA, cB, cC] at hstep
            simp only [Bool.false_and, Bool.and_false, Bool.false_eq_true, if_false] at hstep
            simp only [if_true, if_false, Bool.true_eq_false, Bool.false_eq_true, reduceCtorEq]
            exact idle hstep _ _ _ _ _ _ _
          | true =>
            rw [cA, cB, cC] at hstep
            simp only [Bool.and_self, if_true] at hstep
            simp only [if_true, if_false, Bool.true_eq_false, Bool.false_eq_true, reduceCtorEq, not_true_eq_false, not_false_eq_true]
            by_cases c4 : C = lN 4
            · rw [if_pos c4] at hstep
              simp only [c4, not_true_eq_false, if_false, if_true]
              rw [s168_137]
              refine ⟨by rw [cls_sW, cls_sIA]; exact h0.1, rfl, ?_⟩
              refine m167 (L := L) (z := sIA z 142 pt) hM hv1 ht16 (by omega) he1 (by omega) wc (fun pt2 => ?_)
              rw [sIA_sIA]
              have i3 := ih2 pt2
              rw [hstep] at i3
              dsimp only at i3
              generalize (rMeet w L A.toInt32 B.toInt32).2 = w' at i3 ⊢
              generalize (rMeet w L A.toInt32 B.toInt32).1 = r at i3 ⊢
              by_cases hr : 0 ≤ r
              · have hr2 : ¬ r < 0 := Int32.not_lt.mpr hr
                rw [if_pos hr] at i3
                simp (disch := omega) only [s168_140, s168_143, s168_144, s168_146, s168_147, s168_149, s168_150, s168_152, s168_153, s168_156, s168_158, s168_159, s168_161, s168_164, s168_165, s168_168, s168_169, s168_170, s168_171, s168_174, zcs_0, zcs_1, zcs_2, zcs_3, zcs_4, zcs_5, zcs_6, zcs_7, znl_i, znl_r, znl_n, Bool.and_true, Bool.true_and, zk_v, zk_n, zk_x, zir_r, zir_n, zclr_i, zclr_r, zclr_n, zclr_d, zclr_l, true_and, and_true, and_self, if_true, if_false, reduceIte, nI_add, pk_mul, zin_ok, zx_nI, nI_lt2, nI_le2, nI_eq2, nI_l0, nI_g0, nI_q0, nI_p0, nI_n0, nI_m1, Nat.add_zero, Nat.zero_add, Nat.reduceAdd, Nat.reduceMul, true_or, or_true, znar_50, bI_0, bI_1, bI_z, bft, nI_z0, nI_z1, lgc_lt, lgc_gt, lgc_le, lgc_ge, lgc_eq, not_true_eq_false, not_false_eq_true, Bool.not_eq_true, Bool.not_eq_false, reduceCtorEq, hr2, hr]
                rw [e3]
                exact i3 _ _ _ _ _ _ _ (by omega)
              · have hr2 : r < 0 := Int32.not_le.mp hr
                rw [if_neg hr] at i3
                simp (disch := omega) only [s168_140, s168_143, s168_144, s168_146, s168_147, s168_149, s168_150, s168_152, s168_153, s168_156, s168_158, s168_159, s168_161, s168_164, s168_165, s168_168, s168_169, s168_170, s168_171, s168_174, zcs_0, zcs_1, zcs_2, zcs_3, zcs_4, zcs_5, zcs_6, zcs_7, znl_i, znl_r, znl_n, Bool.and_true, Bool.true_and, zk_v, zk_n, zk_x, zir_r, zir_n, zclr_i, zclr_r, zclr_n, zclr_d, zclr_l, true_and, and_true, and_self, if_true, if_false, reduceIte, nI_add, pk_mul, zin_ok, zx_nI, nI_lt2, nI_le2, nI_eq2, nI_l0, nI_g0, nI_q0, nI_p0, nI_n0, nI_m1, Nat.add_zero, Nat.zero_add, Nat.reduceAdd, Nat.reduceMul, true_or, or_true, znar_50, bI_0, bI_1, bI_z, bft, nI_z0, nI_z1, lgc_lt, lgc_gt, lgc_le, lgc_ge, lgc_eq, not_true_eq_false, not_false_eq_true, Bool.not_eq_true, Bool.not_eq_false, reduceCtorEq, hr2, hr]
                rw [e3]
                exact i3 _ _ _ _ _ _ _ (by omega)
            · rw [if_neg c4] at hstep
              simp only [c4, not_false_eq_true, if_true]
              rw [s168_153]
              refine ⟨by rw [cls_sW, cls_sIA]; exact h0.1, rfl, ?_⟩
              refine m154 (L := L) (z := sIA z 142 pt) hM hv1 ht16 (by omega) he1 (by omega) wc (fun pt2 => ?_)
              rw [sIA_sIA]
              have i3 := ih2 pt2
              rw [hstep] at i3
              dsimp only at i3
              generalize (rDoes w L A.toInt32 B.toInt32 C.toInt32).2 = w' at i3 ⊢
              generalize (rDoes w L A.toInt32 B.toInt32 C.toInt32).1 = r at i3 ⊢
              by_cases hr : 0 ≤ r
              · have hr2 : ¬ r < 0 := Int32.not_lt.mpr hr
                rw [if_pos hr] at i3
                simp (disch := omega) only [s168_156, s168_158, s168_159, s168_161, s168_164, s168_165, s168_168, s168_169, s168_170, s168_171, s168_174, zcs_0, zcs_1, zcs_2, zcs_3, zcs_4, zcs_5, zcs_6, zcs_7, znl_i, znl_r, znl_n, Bool.and_true, Bool.true_and, zk_v, zk_n, zk_x, zir_r, zir_n, zclr_i, zclr_r, zclr_n, zclr_d, zclr_l, true_and, and_true, and_self, if_true, if_false, reduceIte, nI_add, pk_mul, zin_ok, zx_nI, nI_lt2, nI_le2, nI_eq2, nI_l0, nI_g0, nI_q0, nI_p0, nI_n0, nI_m1, Nat.add_zero, Nat.zero_add, Nat.reduceAdd, Nat.reduceMul, true_or, or_true, znar_50, bI_0, bI_1, bI_z, bft, nI_z0, nI_z1, lgc_lt, lgc_gt, lgc_le, lgc_ge, lgc_eq, not_true_eq_false, not_false_eq_true, Bool.not_eq_true, Bool.not_eq_false, reduceCtorEq, hr2, hr]
                rw [e3]
                exact i3 _ _ _ _ _ _ _ (by omega)
              · have hr2 : r < 0 := Int32.not_le.mp hr
                rw [if_neg hr] at i3
                simp (disch := omega) only [s168_156, s168_158, s168_159, s168_161, s168_164, s168_165, s168_168, s168_169, s168_170, s168_171, s168_174, zcs_0, zcs_1, zcs_2, zcs_3, zcs_4, zcs_5, zcs_6, zcs_7, znl_i, znl_r, znl_n, Bool.and_true, Bool.true_and, zk_v, zk_n, zk_x, zir_r, zir_n, zclr_i, zclr_r, zclr_n, zclr_d, zclr_l, true_and, and_true, and_self, if_true, if_false, reduceIte, nI_add, pk_mul, zin_ok, zx_nI, nI_lt2, nI_le2, nI_eq2, nI_l0, nI_g0, nI_q0, nI_p0, nI_n0, nI_m1, Nat.add_zero, Nat.zero_add, Nat.reduceAdd, Nat.reduceMul, true_or, or_true, znar_50, bI_0, bI_1, bI_z, bft, nI_z0, nI_z1, lgc_lt, lgc_gt, lgc_le, lgc_ge, lgc_eq, not_true_eq_false, not_false_eq_true, Bool.not_eq_true, Bool.not_eq_false, reduceCtorEq, hr2, hr]
                rw [e3]
                exact i3 _ _ _ _ _ _ _ (by omega)
  simp (disch := first | omega | exact hM | exact hv _ | (simp only [MS_sW, MS_sfi, MS_sia, MS_sIA, MS_sla, MS_sLA, MS_sls]; exact hM)) only [s168_0, s168_1, s168_4, s168_7, s168_9, s168_10, s168_11, s168_14, s168_15, s168_16, s168_17, s168_20, s168_22, s168_23, s168_24, s168_25, s168_26, e168, zcs_0, zcs_1, zcs_2, zcs_3, zcs_4, zcs_5, zcs_6, zcs_7, znl_i, znl_r, znl_n, Bool.and_true, Bool.true_and, zk_v, zk_n, zk_x, zir_r, zir_n, zclr_i, zclr_r, zclr_n, zclr_d, zclr_l, true_and, and_true, and_self, if_true, if_false, reduceIte, nI_add, pk_mul, zin_ok, zx_nI, nI_lt2, nI_le2, nI_eq2, nI_l0, nI_g0, nI_q0, nI_p0, nI_n0, nI_m1, Nat.add_zero, Nat.zero_add, Nat.reduceAdd, Nat.reduceMul, true_or, or_true, znar_50, bI_0, bI_1, bI_z, bft, nI_z0, nI_z1, lgc_lt, lgc_gt, lgc_le, lgc_ge, lgc_eq, not_true_eq_false, not_false_eq_true, Bool.not_eq_true, Bool.not_eq_false, reduceCtorEq, MS_sW, CS_sW, sW_r, sW_n, sW_w, cls_sW, fi_sW, fr_sW, la_sW, ra_sW, len_sW, ls_sW, own_sW, n_sW, uc_sW, us_sW, sW_sfi, sW_sla, sW_sLA, sW_sls, sW_spay, sW_sia, sW_sIA, ne_eq, cls_sfi, fr_sfi, ia_sfi, la_sfi, ra_sfi, len_sfi, ls_sfi, own_sfi, n_sfi, uc_sfi, us_sfi, cls_sia, fi_sia, fr_sia, la_sia, ra_sia, len_sia, ls_sia, own_sia, n_sia, uc_sia, us_sia, cls_sIA, fi_sIA, fr_sIA, la_sIA, ra_sIA, len_sIA, ls_sIA, own_sIA, n_sIA, uc_sIA, us_sIA, cls_sla, fi_sla, fr_sla, ia_sla, ra_sla, len_sla, ls_sla, own_sla, n_sla, uc_sla, us_sla, cls_sLA, fi_sLA, fr_sLA, ia_sLA, ra_sLA, len_sLA, ls_sLA, own_sLA, n_sLA, uc_sLA, us_sLA, h0, hm, m169, zin_ok, hnm]
  have k0 := key (N / 3) 0 (zia z 142) zdum zdum zdum zdum zdum zdum zdum (by omega)
  rw [sIA_self] at k0
  exact k0
end MN

