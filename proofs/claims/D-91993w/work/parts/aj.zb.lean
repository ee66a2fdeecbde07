set_option maxRecDepth 100000
/-! pairs of calls: questions -/
section AJ
variable {sc : Nat → Int32} {n j : Nat} 
theorem pr12 {a b p : Int32} : Pr sc n j 12 142 [.int a, .int b, .int p] := by
  intro z Q h H
  have hup := Rel_up h
  obtain ⟨v, L, hs, vI, LI, tp, tb, fk, fp, hd, sn, sw, sv, ⟨B, lab, hC⟩, hM, hW, hS, hu, hus⟩ := h
  obtain ⟨t, hl, rl, ha, ra, da, ea, hN, ht, hBt⟩ := CR_nw hC
  refine Eq.mpr (c12 (d := 1495) hN (wOK_K hW.1) (wOK_30 hW.1)) ?_
  refine H _ z (MR_135 hM) hS (fun Q2 H2 => ?_)
  refine Eq.mpr (MR_zc hM) ?_
  refine Eq.mpr (m142 (d := 1497) hM.1 (wOK_30 hW.1) (wOK_16 hW.1)) ?_
  rw [MR_sW hM]
  exact H2 z hup
theorem pr23 {a b : Int32} : Pr sc n j 23 153 [.int a, .int b] := by
  intro z Q h H
  have hup := Rel_up h
  obtain ⟨v, L, hs, vI, LI, tp, tb, fk, fp, hd, sn, sw, sv, ⟨B, lab, hC⟩, hM, hW, hS, hu, hus⟩ := h
  obtain ⟨t, hl, rl, ha, ra, da, ea, hN, ht, hBt⟩ := CR_nw hC
  refine Eq.mpr (c23 (d := 1496) hN ) ?_
  refine H _ z (MR_135 hM) hS (fun Q2 H2 => ?_)
  refine Eq.mpr (MR_zc hM) ?_
  refine Eq.mpr (m153 (d := 1497) hM.1 (wOK_31 hW.1) (wOK_16 hW.1)) ?_
  rw [MR_sW hM]
  exact H2 z hup
theorem pr24 {a : Int32} : Pr sc n j 24 170 [.int a] := by
  intro z Q h H
  have hup := Rel_up h
  obtain ⟨v, L, hs, vI, LI, tp, tb, fk, fp, hd, sn, sw, sv, ⟨B, lab, hC⟩, hM, hW, hS, hu, hus⟩ := h
  obtain ⟨t, hl, rl, ha, ra, da, ea, hN, ht, hBt⟩ := CR_nw hC
  refine Eq.mpr (c24 (d := 1497) hN ) ?_
  refine H _ z (MR_135 hM) hS (fun Q2 H2 => ?_)
  refine Eq.mpr (MR_zc hM) ?_
  refine Eq.mpr (m170 (d := 1498) hM.1 (wOK_31 hW.1) (by have := wOK_7 hW.1; omega)) ?_
  rw [MR_sW hM]
  exact H2 z hup
theorem pr25 {a i w : Int32} : Pr sc n j 25 171 [.int a, .int i, .int w] := by
  intro z Q h H
  have hup := Rel_up h
  obtain ⟨v, L, hs, vI, LI, tp, tb, fk, fp, hd, sn, sw, sv, ⟨B, lab, hC⟩, hM, hW, hS, hu, hus⟩ := h
  obtain ⟨t, hl, rl, ha, ra, da, ea, hN, ht, hBt⟩ := CR_nw hC
  refine Eq.mpr (c25 (d := 1497) hN ) ?_
  refine H _ z (MR_135 hM) hS (fun Q2 H2 => ?_)
  refine Eq.mpr (MR_zc hM) ?_
  refine Eq.mpr (m171 (d := 1498) hM.1 (wOK_31 hW.1) (by have := wOK_7 hW.1; omega)) ?_
  rw [MR_sW hM]
  exact H2 z hup
theorem pr26 {a : Int32} : Pr sc n j 26 173 [.int a] := by
  intro z Q h H
  have hup := Rel_up h
  obtain ⟨v, L, hs, vI, LI, tp, tb, fk, fp, hd, sn, sw, sv, ⟨B, lab, hC⟩, hM, hW, hS, hu, hus⟩ := h
  obtain ⟨t, hl, rl, ha, ra, da, ea, hN, ht, hBt⟩ := CR_nw hC
  refine Eq.mpr (c26 (d := 1497) hN (wOK_31 hW.1)) ?_
  refine H _ z (MR_135 hM) hS (fun Q2 H2 => ?_)
  refine Eq.mpr (MR_zc hM) ?_
  refine Eq.mpr (m173 (d := 1498) hM.1 (wOK_31 hW.1) (by have := wOK_7 hW.1; omega)) ?_
  rw [MR_sW hM]
  exact H2 z hup
theorem pr28 : Pr sc n j 28 175 [] := by
  intro z Q h H
  have hup := Rel_up h
  obtain ⟨v, L, hs, vI, LI, tp, tb, fk, fp, hd, sn, sw, sv, ⟨B, lab, hC⟩, hM, hW, hS, hu, hus⟩ := h
  obtain ⟨t, hl, rl, ha, ra, da, ea, hN, ht, hBt⟩ := CR_nw hC
  refine Eq.mpr (c28 (d := 1497) hN (wOK_31 hW.1)) ?_
  refine H _ z (MR_135 hM) hS (fun Q2 H2 => ?_)
  refine Eq.mpr (MR_zc hM) ?_
  refine Eq.mpr (m175 (d := 1498) hM.1 (wOK_31 hW.1) (by have := wOK_7 hW.1; omega) (wOK_16 hW.1)) ?_
  rw [MR_sW hM]
  exact H2 z hup
theorem pr45 {a : Int32} : Pr sc n j 45 198 [.int a] := by
  intro z Q h H
  have hup := Rel_up h
  obtain ⟨v, L, hs, vI, LI, tp, tb, fk, fp, hd, sn, sw, sv, ⟨B, lab, hC⟩, hM, hW, hS, hu, hus⟩ := h
  obtain ⟨t, hl, rl, ha, ra, da, ea, hN, ht, hBt⟩ := CR_nw hC
  refine Eq.mpr (c45 (d := 1497) hN (wOK_K hW.1)) ?_
  refine H _ z (MR_135 hM) hS (fun Q2 H2 => ?_)
  refine Eq.mpr (MR_zc hM) ?_
  refine Eq.mpr (m198 (d := 1498) hM.1 (wOK_31 hW.1) (wOK_16 hW.1) (wOK_K hW.1)) ?_
  rw [MR_sW hM]
  exact H2 z hup
theorem pr47 {a b : Int32} : Pr sc n j 47 201 [.int a, .int b] := by
  intro z Q h H
  have hup := Rel_up h
  obtain ⟨v, L, hs, vI, LI, tp, tb, fk, fp, hd, sn, sw, sv, ⟨B, lab, hC⟩, hM, hW, hS, hu, hus⟩ := h
  obtain ⟨t, hl, rl, ha, ra, da, ea, hN, ht, hBt⟩ := CR_nw hC
  refine Eq.mpr (c47 (d := 1496) hN (wOK_K hW.1)) ?_
  refine H _ z (MR_135 hM) hS (fun Q2 H2 => ?_)
  refine Eq.mpr (MR_zc hM) ?_
  refine Eq.mpr (m201 (d := 1497) hM.1 (wOK_31 hW.1) (wOK_16 hW.1) (wOK_K hW.1)) ?_
  rw [MR_sW hM]
  exact H2 z hup
theorem pr54 {a w : Int32} : Pr sc n j 54 207 [.int a, .int w] := by
  intro z Q h H
  have hup := Rel_up h
  obtain ⟨v, L, hs, vI, LI, tp, tb, fk, fp, hd, sn, sw, sv, ⟨B, lab, hC⟩, hM, hW, hS, hu, hus⟩ := h
  obtain ⟨t, hl, rl, ha, ra, da, ea, hN, ht, hBt⟩ := CR_nw hC
  refine Eq.mpr (c54 (d := 1497) hN (wOK_31 hW.1)) ?_
  refine H _ z (MR_135 hM) hS (fun Q2 H2 => ?_)
  refine Eq.mpr (MR_zc hM) ?_
  refine Eq.mpr (m207 (d := 1498) hM.1 (wOK_31 hW.1) (wOK_8 hW.1) (wOK_16 hW.1)) ?_
  rw [MR_sW hM]
  exact H2 z hup
theorem pr46 {a : Int32} : Pr sc n j 46 200 [.int a] := by
  intro z Q h H
  have hup := Rel_up h
  obtain ⟨v, L, hs, vI, LI, tp, tb, fk, fp, hd, sn, sw, sv, ⟨B, lab, hC⟩, hM, hW, hS, hu, hus⟩ := h
  obtain ⟨t, hl, rl, ha, ra, da, ea, hN, ht, hBt⟩ := CR_nw hC
  refine Eq.mpr (c46 (d := 1496) hN (wOK_31 hW.1) (wOK_T hW.1) (wOK_K hW.1) (wOK_D hW.1)) ?_
  refine H _ z (MR_135 hM) hS (fun Q2 H2 => ?_)
  refine Eq.mpr (MR_zc hM) ?_
  refine m200 (d := 1497) hM.1 (wOK_31 hW.1) (wOK_T hW.1) (wOK_K hW.1) (wOK_D hW.1) (wOK_8 hW.1) (fun f144 f145 => ?_)
  have k2 := mFr_sIA (mFr_sIA (mFr_refl z) (r := 144) (by omega) f144) (r := 145) (by omega) f145
  exact H2 _ (Rel_m ⟨_, _, hC⟩ (mSt_tr (mSt_mFr k2) mSt_sW) (MR_w hM k2) hW (by omega) hS (by omega) (by omega))
theorem pr48 : Pr sc n j 48 206 [] := by
  intro z Q h H
  have hup := Rel_up h
  obtain ⟨v, L, hs, vI, LI, tp, tb, fk, fp, hd, sn, sw, sv, ⟨B, lab, hC⟩, hM, hW, hS, hu, hus⟩ := h
  obtain ⟨t, hl, rl, ha, ra, da, ea, hN, ht, hBt⟩ := CR_nw hC
  refine Eq.mpr (c48 (d := 1496) hN (wOK_31 hW.1) (wOK_E hW.1)) ?_
  refine H _ z (MR_135 hM) hS (fun Q2 H2 => ?_)
  refine Eq.mpr (MR_zc hM) ?_
  refine m206 (d := 1497) hM.1 (wOK_31 hW.1) (wOK_16 hW.1) (wOK_E hW.1) (fun f156 => ?_)
  have k2 := mFr_sIA (mFr_refl z) (r := 156) (by omega) f156
  exact H2 _ (Rel_m ⟨_, _, hC⟩ (mSt_tr (mSt_mFr k2) mSt_sW) (MR_w hM k2) hW (by omega) hS (by omega) (by omega))
theorem pr53 {a : Int32} : Pr sc n j 53 202 [.int a] := by
  intro z Q h H
  have hup := Rel_up h
  obtain ⟨v, L, hs, vI, LI, tp, tb, fk, fp, hd, sn, sw, sv, ⟨B, lab, hC⟩, hM, hW, hS, hu, hus⟩ := h
  obtain ⟨t, hl, rl, ha, ra, da, ea, hN, ht, hBt⟩ := CR_nw hC
  refine Eq.mpr (c53 (d := 1496) hN (wOK_31 hW.1) (wOK_E hW.1)) ?_
  refine H _ z (MR_135 hM) hS (fun Q2 H2 => ?_)
  refine Eq.mpr (MR_zc hM) ?_
  refine m202 (d := 1497) hM.1 (wOK_31 hW.1) (wOK_16 hW.1) (wOK_E hW.1) (fun f156 => ?_)
  have k2 := mFr_sIA (mFr_refl z) (r := 156) (by omega) f156
  exact H2 _ (Rel_m ⟨_, _, hC⟩ (mSt_tr (mSt_mFr k2) mSt_sW) (MR_w hM k2) hW (by omega) hS (by omega) (by omega))
theorem pr30 {a x : Int32} : Pr sc n j 30 177 [.int a, .int x] := by
  intro z Q h H
  have hup := Rel_up h
  obtain ⟨v, L, hs, vI, LI, tp, tb, fk, fp, hd, sn, sw, sv, ⟨B, lab, hC⟩, hM, hW, hS, hu, hus⟩ := h
  obtain ⟨t, hl, rl, ha, ra, da, ea, hN, ht, hBt⟩ := CR_nw hC
  refine c30 (d := 1495) hN (CR_nB hC) (wOK_T hW.1) (wOK_30 hW.1) (wOK_D hW.1) (wOK_8 hW.1) (fun z1 k1 => ?_)
  have hM1 := MR_c hM hC.1 k1
  have hS1 := scr_fr hS (cFr_fr k1) hC.1 (fun q w => by omega)
  refine H _ z1 (MR_135 hM1) hS1 (fun Q2 H2 => ?_)
  refine Eq.mpr (MR_zc hM1) ?_
  refine m177 (d := 1495) hM1.1 (wOK_T hW.1) (wOK_30 hW.1) (wOK_D hW.1) (wOK_8 hW.1) (fun z2 k2 => ?_)
  exact H2 _ (Rel_m ⟨_, _, CR_c hC k1⟩ (mSt_tr (mSt_mFr k2) mSt_sW) (MR_w hM1 k2) hW (by omega) hS1 (by rw [k1.2.1.2.1]; omega) (by rw [k1.2.1.2.2]; omega))
theorem pr33 {a x : Int32} : Pr sc n j 33 186 [.int a, .int x] := by
  intro z Q h H
  have hup := Rel_up h
  obtain ⟨v, L, hs, vI, LI, tp, tb, fk, fp, hd, sn, sw, sv, ⟨B, lab, hC⟩, hM, hW, hS, hu, hus⟩ := h
  obtain ⟨t, hl, rl, ha, ra, da, ea, hN, ht, hBt⟩ := CR_nw hC
  refine c33 (d := 1495) hN (CR_nB hC) (wOK_T hW.1) (wOK_30 hW.1) (wOK_D hW.1) (wOK_8 hW.1) (fun z1 k1 => ?_)
  have hM1 := MR_c hM hC.1 k1
  have hS1 := scr_fr hS (cFr_fr k1) hC.1 (fun q w => by omega)
  refine H _ z1 (MR_135 hM1) hS1 (fun Q2 H2 => ?_)
  refine Eq.mpr (MR_zc hM1) ?_
  refine m186 (d := 1495) hM1.1 (wOK_T hW.1) (wOK_30 hW.1) (wOK_D hW.1) (wOK_8 hW.1) (fun z2 k2 => ?_)
  exact H2 _ (Rel_m ⟨_, _, CR_c hC k1⟩ (mSt_tr (mSt_mFr k2) mSt_sW) (MR_w hM1 k2) hW (by omega) hS1 (by rw [k1.2.1.2.1]; omega) (by rw [k1.2.1.2.2]; omega))
theorem pr34 {a x i : Int32} : Pr sc n j 34 187 [.int a, .int x, .int i] := by
  intro z Q h H
  have hup := Rel_up h
  obtain ⟨v, L, hs, vI, LI, tp, tb, fk, fp, hd, sn, sw, sv, ⟨B, lab, hC⟩, hM, hW, hS, hu, hus⟩ := h
  obtain ⟨t, hl, rl, ha, ra, da, ea, hN, ht, hBt⟩ := CR_nw hC
  refine c34 (d := 1495) hN (CR_nB hC) (wOK_T hW.1) (wOK_30 hW.1) (wOK_D hW.1) (wOK_8 hW.1) (fun z1 k1 => ?_)
  have hM1 := MR_c hM hC.1 k1
  have hS1 := scr_fr hS (cFr_fr k1) hC.1 (fun q w => by omega)
  refine H _ z1 (MR_135 hM1) hS1 (fun Q2 H2 => ?_)
  refine Eq.mpr (MR_zc hM1) ?_
  refine m187 (d := 1495) hM1.1 (wOK_T hW.1) (wOK_30 hW.1) (wOK_D hW.1) (wOK_8 hW.1) (fun z2 k2 => ?_)
  exact H2 _ (Rel_m ⟨_, _, CR_c hC k1⟩ (mSt_tr (mSt_mFr k2) mSt_sW) (MR_w hM1 k2) hW (by omega) hS1 (by rw [k1.2.1.2.1]; omega) (by rw [k1.2.1.2.2]; omega))
theorem pr36 {a : Int32} : Pr sc n j 36 190 [.int a] := by
  intro z Q h H
  have hup := Rel_up h
  obtain ⟨v, L, hs, vI, LI, tp, tb, fk, fp, hd, sn, sw, sv, ⟨B, lab, hC⟩, hM, hW, hS, hu, hus⟩ := h
  obtain ⟨t, hl, rl, ha, ra, da, ea, hN, ht, hBt⟩ := CR_nw hC
  refine c36 (d := 1496) hN (CR_nB hC) (wOK_T hW.1) (wOK_30 hW.1) (wOK_D hW.1) (wOK_8 hW.1) (wOK_6 hW.1) (fun z1 k1 => ?_)
  have hM1 := MR_c hM hC.1 k1
  have hS1 := scr_fr hS (cFr_fr k1) hC.1 (fun q w => by omega)
  refine H _ z1 (MR_135 hM1) hS1 (fun Q2 H2 => ?_)
  refine Eq.mpr (MR_zc hM1) ?_
  refine m190 (d := 1496) hM1.1 (wOK_T hW.1) (wOK_30 hW.1) (wOK_D hW.1) (wOK_8 hW.1) (wOK_6 hW.1) (fun z2 k2 => ?_)
  exact H2 _ (Rel_m ⟨_, _, CR_c hC k1⟩ (mSt_tr (mSt_mFr k2) mSt_sW) (MR_w hM1 k2) hW (by omega) hS1 (by rw [k1.2.1.2.1]; omega) (by rw [k1.2.1.2.2]; omega))
theorem pr39 {a : Int32} : Pr sc n j 39 193 [.int a] := by
  intro z Q h H
  have hup := Rel_up h
  obtain ⟨v, L, hs, vI, LI, tp, tb, fk, fp, hd, sn, sw, sv, ⟨B, lab, hC⟩, hM, hW, hS, hu, hus⟩ := h
  obtain ⟨t, hl, rl, ha, ra, da, ea, hN, ht, hBt⟩ := CR_nw hC
  refine c39 (d := 1497) hN (CR_nB hC) (wOK_T hW.1) (wOK_30 hW.1) (wOK_D hW.1) (wOK_8 hW.1) (wOK_6 hW.1) (fun z1 k1 => ?_)
  have hM1 := MR_c hM hC.1 k1
  have hS1 := scr_fr hS (cFr_fr k1) hC.1 (fun q w => by omega)
  refine H _ z1 (MR_135 hM1) hS1 (fun Q2 H2 => ?_)
  refine Eq.mpr (MR_zc hM1) ?_
  refine m193 (d := 1497) hM1.1 (wOK_T hW.1) (wOK_30 hW.1) (wOK_D hW.1) (wOK_8 hW.1) (wOK_6 hW.1) (fun z2 k2 => ?_)
  exact H2 _ (Rel_m ⟨_, _, CR_c hC k1⟩ (mSt_tr (mSt_mFr k2) mSt_sW) (MR_w hM1 k2) hW (by omega) hS1 (by rw [k1.2.1.2.1]; omega) (by rw [k1.2.1.2.2]; omega))
theorem pr40 {a b : Int32} : Pr sc n j 40 194 [.int a, .int b] := by
  intro z Q h H
  have hup := Rel_up h
  obtain ⟨v, L, hs, vI, LI, tp, tb, fk, fp, hd, sn, sw, sv, ⟨B, lab, hC⟩, hM, hW, hS, hu, hus⟩ := h
  obtain ⟨t, hl, rl, ha, ra, da, ea, hN, ht, hBt⟩ := CR_nw hC
  refine c40 (d := 1478) hN (CR_nB hC) (wOK_31 hW.1) (wOK_K hW.1) (fun z1 k1 => ?_)
  have hM1 := MR_c hM hC.1 k1
  have hS1 := scr_fr hS (cFr_fr k1) hC.1 (fun q w => by omega)
  refine H _ z1 (MR_135 hM1) hS1 (fun Q2 H2 => ?_)
  refine Eq.mpr (MR_zc hM1) ?_
  refine m194 (d := 1497) hM1.1 (wOK_31 hW.1) (wOK_16 hW.1) (wOK_K hW.1) (fun z2 k2 => ?_)
  exact H2 _ (Rel_m ⟨_, _, CR_c hC k1⟩ (mSt_tr (mSt_mFr k2) mSt_sW) (MR_w hM1 k2) hW (by omega) hS1 (by rw [k1.2.1.2.1]; omega) (by rw [k1.2.1.2.2]; omega))
theorem pr44 {a b x : Int32} : Pr sc n j 44 197 [.int a, .int b, .int x] := by
  intro z Q h H
  have hup := Rel_up h
  obtain ⟨v, L, hs, vI, LI, tp, tb, fk, fp, hd, sn, sw, sv, ⟨B, lab, hC⟩, hM, hW, hS, hu, hus⟩ := h
  obtain ⟨t, hl, rl, ha, ra, da, ea, hN, ht, hBt⟩ := CR_nw hC
  refine c44 (d := 1478) hN (CR_nB hC) (wOK_31 hW.1) (wOK_K hW.1) (fun z1 k1 => ?_)
  have hM1 := MR_c hM hC.1 k1
  have hS1 := scr_fr hS (cFr_fr k1) hC.1 (fun q w => by omega)
  refine H _ z1 (MR_135 hM1) hS1 (fun Q2 H2 => ?_)
  refine Eq.mpr (MR_zc hM1) ?_
  refine m197 (d := 1497) hM1.1 (wOK_31 hW.1) (wOK_16 hW.1) (wOK_K hW.1) (fun z2 k2 => ?_)
  exact H2 _ (Rel_m ⟨_, _, CR_c hC k1⟩ (mSt_tr (mSt_mFr k2) mSt_sW) (MR_w hM1 k2) hW (by omega) hS1 (by rw [k1.2.1.2.1]; omega) (by rw [k1.2.1.2.2]; omega))
theorem pr10 {w : Int32} : Pr sc n j 10 118 [.int w] := by
  intro z Q h H
  have hup := Rel_up h
  obtain ⟨v, L, hs, vI, LI, tp, tb, fk, fp, hd, sn, sw, sv, ⟨B, lab, hC⟩, hM, hW, hS, hu, hus⟩ := h
  obtain ⟨t, hl, rl, ha, ra, da, ea, hN, ht, hBt⟩ := CR_nw hC
  refine Eq.mpr (c10 (d := 1500) hC.2.1) ?_
  refine H _ z (MR_135 hM) hS (fun Q2 H2 => ?_)
  refine Eq.mpr (m118 (d := 1500) hM.1) ?_
  have e1 := hC.2.2.2.2.2.2.2.2.1
  have e2 := hC.2.2.2.2.2.2.2.2.2
  rw [e1, e2] at H2
  rw [hM.2.2.2.2.2.2.1, hM.2.2.2.2.2.2.2.1]
  exact H2 z hup
theorem pr56 {a : Int32} : Pr sc n j 56 209 [.int a] := by
  intro z Q h H
  have hup := Rel_up h
  obtain ⟨v, L, hs, vI, LI, tp, tb, fk, fp, hd, sn, sw, sv, ⟨B, lab, hC⟩, hM, hW, hS, hu, hus⟩ := h
  obtain ⟨t, hl, rl, ha, ra, da, ea, hN, ht, hBt⟩ := CR_nw hC
  have hsl : ∀ s, s < 4 → (zfr z (131 + s) 0 = .null ∧ zia z 158 s = -1) ∨ (∃ q, zfr z (131 + s) 0 = .ref q ∧ ¬ zia z 158 s = -1) := fun s h4 => by
    rcases hC.2.2.2.2.2.1 s h4 with ⟨a1, a2⟩ | ⟨a1, q, a2, _⟩
    · rcases hM.2.2.2.1 s h4 with ⟨b1, b2⟩ | ⟨b1, b2⟩
      · exact Or.inl ⟨a2, b2⟩
      · rw [a1] at b1; cases b1
    · rcases hM.2.2.2.1 s h4 with ⟨b1, b2⟩ | ⟨b1, b2, _⟩
      · rw [a1] at b1; cases b1
      · refine Or.inr ⟨q, a2, ?_⟩
        have := (hW.2.2.2 s h4 b1).1
        rw [b2, nI_m1 (by omega)]
        exact fun w => w
  refine Eq.mpr (c56 (d := 1498) hN (wOK_31 hW.1) hsl) ?_
  refine H _ z (MR_135 hM) hS (fun Q2 H2 => ?_)
  refine Eq.mpr (MR_zc hM) ?_
  refine Eq.mpr (m209 (d := 1498) hM.1 (wOK_31 hW.1) (by have := wOK_7 hW.1; omega)) ?_
  rw [MR_sW hM, hM.2.2.2.2.1]
  rw [hC.2.2.2.2.2.2.1] at H2
  exact H2 z hup
theorem pr29 {a b p : Int32} : Pr sc n j 29 176 [.int a, .int b, .int p] := by
  intro z Q h H
  have hup := Rel_up h
  obtain ⟨v, L, hs, vI, LI, tp, tb, fk, fp, hd, sn, sw, sv, ⟨B, lab, hC⟩, hM, hW, hS, hu, hus⟩ := h
  obtain ⟨t, hl, rl, ha, ra, da, ea, hN, ht, hBt⟩ := CR_nw hC
  refine c29 hN (fun w => by have := CR_B hC _ w; omega) hW.1.1.1 hW.1.2 (by have := wOK_6 hW.1; omega) (by omega) (fun f => ?_)
  have F : zFr (fun q => q = 113) z (sFI z 113 f) := zFr_sFI (zFr_refl _ _) (Or.inr rfl)
  have hC1 := CR_fr hC F (fun q w => by unfold okW; omega) rfl hC.2.1
  have hM1 := MR_fr hM F hC.1 (fun q w => by omega)
  have hS1 := scr_fr hS F hC.1 (fun q w => by omega)
  refine H _ _ (MR_135 hM1) hS1 (fun Q2 H2 => ?_)
  refine Eq.mpr (MR_zc hM1) ?_
  refine m176 (d := 1496) hM1.1 (wOK_31 hW.1) (by have := wOK_7 hW.1; omega) (wOK_16 hW.1) (wOK_c hW.1) (fun pt => ?_)
  have k2 := mFr_sIA (mFr_refl (sFI z 113 f)) (r := 142) (by omega) pt
  have e1 : zuc (sFI z 113 f) = zuc z := rfl
  have e2 : zus (sFI z 113 f) = zus z := rfl
  exact H2 _ (Rel_m ⟨_, _, hC1⟩ (mSt_tr (mSt_mFr k2) mSt_sW) (MR_w hM1 k2) hW (by omega) hS1 (by omega) (by omega))
theorem zwk_s {w : Nat} (h : w < 4) : zwk (nI w) = 50 ∨ zwk (nI w) = 51 ∨ zwk (nI w) = 52 ∨ zwk (nI w) = 53 := by
  unfold zwk
  split
  · omega
  · split
    · omega
    · split <;> omega
theorem cSL_slot {lab : Nat → Nat} {hd : Nat → Bool} {sn sw : Nat → Nat} {sv : Nat → Nat → Int64} {z : ZH} {B : Nat → Prop} (h0 : CS z) (h : cSL lab hd sn sw sv z) {s : Nat} (hs : s < 4) (hw : hd s = true → sw s < 4) (hh : hd s = true) : ∃ q : Nat, slot z (131 + s) q (sn s) ∧ 162 ≤ q ∧ q < zn z ∧ zcls z q = zwk (nI (sw s)) ∧ lab q = 5 + s ∧ ∀ i, i < sn s → slV z q i = sv s i := by
  rcases h s hs with ⟨a, _⟩ | ⟨_, q, b, c1, c2, l, c3, c4, c5⟩
  · rw [hh] at a; cases a
  · have hc : zcls z (131 + s) = 11 := by
      unfold CS at h0
      rcases (by omega : s = 0 ∨ s = 1 ∨ s = 2 ∨ s = 3) with rfl | rfl | rfl | rfl <;> simp only [Nat.reduceAdd, h0]
    refine ⟨q, ⟨hc, b, ?_, c4⟩, c1, c2, c3, l, c5⟩
    rw [c3]
    have := zwk_s (hw hh)
    omega
theorem cSL_no {lab : Nat → Nat} {hd : Nat → Bool} {sn sw : Nat → Nat} {sv : Nat → Nat → Int64} {z : ZH} (h : cSL lab hd sn sw sv z) {s : Nat} (hs : s < 4) (hh : hd s = false) : zfr z (131 + s) 0 = .null := by
  rcases h s hs with ⟨_, a⟩ | ⟨a, _⟩
  · exact a
  · rw [hh] at a; cases a
theorem mSL_no {hd : Nat → Bool} {sn sw : Nat → Nat} {sv : Nat → Nat → Int64} {z : ZH} (h : mSL hd sn sw sv z) {s : Nat} (hs : s < 4) (hh : hd s = false) : zia z 158 s = -1 := by
  rcases h s hs with ⟨_, a⟩ | ⟨a, _⟩
  · exact a
  · rw [hh] at a; cases a
theorem mSL_yes {hd : Nat → Bool} {sn sw : Nat → Nat} {sv : Nat → Nat → Int64} {z : ZH} (h : mSL hd sn sw sv z) {s : Nat} (hs : s < 4) (hh : hd s = true) : zia z 158 s = nI (sn s) ∧ zia z 159 s = nI (sw s) ∧ ∀ i, i < 60 → zla z 160 (60 * s + i) = sv s i := by
  rcases h s hs with ⟨a, _⟩ | ⟨_, a⟩
  · rw [hh] at a; cases a
  · exact a
theorem pr35 {s a x : Int32} : Pr sc n j 35 189 [.int s, .int a, .int x] := by
  intro z Q h H
  have hup := Rel_up h
  obtain ⟨v, L, hs, vI, LI, tp, tb, fk, fp, hd, sn, sw, sv, ⟨B, lab, hC⟩, hM, hW, hS, hu, hus⟩ := h
  obtain ⟨t, hl, rl, ha, ra, da, ea, hN, ht, hBt⟩ := CR_nw hC
  have hSl := hC.2.2.2.2.2.1
  cases h1 : (zin s 4 && (zin a (v 0) && dyOK v x)) with
  | false =>
    refine Eq.mpr (c35n (d := 1497) hN h1) ?_
    refine H _ z (MR_135 hM) hS (fun Q2 H2 => ?_)
    refine Eq.mpr (MR_zc hM) ?_
    refine Eq.mpr (m189n (d := 1497) hM.1 (wOK_31 hW.1) h1) ?_
    rw [MR_sW hM]
    exact H2 z hup
  | true =>
    rw [Bool.and_eq_true] at h1
    obtain ⟨h1, h2⟩ := h1
    have h3 := h2
    rw [Bool.and_eq_true] at h3
    obtain ⟨s, hs4, _, rfl⟩ := zin_of h1
    cases hh : hd s with
    | false =>
      refine Eq.mpr (c35m (d := 1497) hN hs4 h2 (cSL_no hSl hs4 hh)) ?_
      refine H _ z (MR_135 hM) hS (fun Q2 H2 => ?_)
      refine Eq.mpr (MR_zc hM) ?_
      refine Eq.mpr (m189m (d := 1497) hM.1 (wOK_31 hW.1) hs4 h2 (mSL_no hM.2.2.2.1 hs4 hh)) ?_
      rw [MR_sW hM]
      exact H2 z hup
    | true =>
      obtain ⟨a, a1, _, rfl⟩ := zin_of h3.1
      obtain ⟨y, _, y2, rfl⟩ := dyOK_of (wOK_31 hW.1 6) h3.2
      obtain ⟨q, q1, q2, q3, q4, q5, q6⟩ := cSL_slot (B := B) hC.2.1 hSl hs4 (fun e => (hW.2.2.2 s hs4 e).2.1) hh
      have n60 := (hW.2.2.2 s hs4 hh).1
      have hm := mSL_yes hM.2.2.2.1 hs4 hh
      refine c35 (d := 1496) hN (CR_nB hC) (wOK_T hW.1) (wOK_30 hW.1) (wOK_D hW.1) (wOK_8 hW.1) hs4 n60 a1 h3.2 y2 q1 (by omega) (nm := fun i => zla z 160 (60 * s + i)) (fun i hi => by rw [q6 i hi]; exact (hm.2.2 i (by omega)).symm) (fun z1 k1 => ?_)
      have hM1 := MR_c hM hC.1 k1
      have hS1 := scr_fr hS (cFr_fr k1) hC.1 (fun q w => by omega)
      refine H _ z1 (MR_135 hM1) hS1 (fun Q2 H2 => ?_)
      refine Eq.mpr (MR_zc hM1) ?_
      refine m189 (d := 1497) hM1.1 (wOK_T hW.1) (wOK_30 hW.1) (wOK_D hW.1) (wOK_8 hW.1) hs4 n60 a1 h3.2 y2 (mSL_yes hM1.2.2.2.1 hs4 hh).1 (fun z2 k2 => ?_)
      rw [k1.1.2.1]
      exact H2 _ (Rel_m ⟨_, _, CR_c hC k1⟩ (mSt_tr (mSt_mFr k2) mSt_sW) (MR_w hM1 k2) hW (by omega) hS1 (by rw [k1.2.1.2.1]; omega) (by rw [k1.2.1.2.2]; omega))
end AJ
