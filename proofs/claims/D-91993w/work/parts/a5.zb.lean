set_option maxRecDepth 100000
/-! the component: a town is read -/
section CT9
variable {d : Nat} {z : ZH} {Q : ZQ} {b : Nat → Nat} {sz R : Nat} {G : Nat → Nat} {L : Nat → List (Nat × Nat)}
theorem CS_ag {z2 : ZH} (hc : ∀ q, q < 162 → zcls z2 q = zcls z q) (hl : ∀ q, q < 162 → zlen z2 q = zlen z q) (hr : ∀ q, q < 162 → zra z2 q = zra z q) (hf : ∀ q j, q < 162 → ¬ (q = 102 ∧ j = 0) → ¬ (q = 109 ∧ j < 2) → zfr z2 q j = zfr z q j) (h0 : CS z) : CS z2 := by
  unfold CS at h0 ⊢
  simp (disch := omega) only [hc, hl, hr, hf]
  exact h0
theorem stB_f {s t r : Nat} : zFr (fun q => q = s ∨ q = s + 7 ∨ q = s + 8 ∨ q = s + 9 ∨ q = s + 12) z (stB s t r z) ∧ zcls (stB s t r z) = zcls z ∧ zlen (stB s t r z) = zlen z ∧ zra (stB s t r z) = zra z ∧ zn (stB s t r z) = zn z ∧ zuc (stB s t r z) = zuc z ∧ zus (stB s t r z) = zus z ∧ (∀ q j, ¬ (q = s ∧ j = 0) → ¬ (q = s + 7 ∧ j < 2) → zfr (stB s t r z) q j = zfr z q j) ∧ zfr (stB s t r z) s 0 = .ref t ∧ zfr (stB s t r z) (s + 7) 0 = .ref t ∧ zfr (stB s t r z) (s + 7) 1 = .ref r ∧ zls (stB s t r z) (s + 9) = [] ∧ zls (stB s t r z) (s + 12) = [] ∧ (∀ h, h < 16 → zia (stB s t r z) (s + 8) h = zia z (t + 3) h) ∧ zfi (stB s t r z) (s + 7) 5 = nI 0 ∧ zfi (stB s t r z) s 3 = nI 0 := by
  have hfr : zfr (stB s t r z) = zu2 (zu2 (zu2 (zfr z) s 0 (.ref t)) (s + 7) 0 (.ref t)) (s + 7) 1 (.ref r) := rfl
  have hls : zls (stB s t r z) = zu1 (zu1 (zls z) (s + 7 + 2) []) (s + 12) [] := rfl
  have hfi : zfi (stB s t r z) = zu2 (zu2 (zfi z) (s + 7) 5 (nI 0)) s 3 (nI 0) := rfl
  have hia : zia (stB s t r z) = zu1 (zia z) (s + 7 + 1) (va_cpy (zia z (t + 3)) (zia z (s + 7 + 1)) 0 0 16) := rfl
  refine ⟨?_, rfl, rfl, rfl, rfl, rfl, rfl, fun q j h1 h2 => ?_, ?_, ?_, ?_, ?_, ?_, fun h hh => ?_, ?_, ?_⟩
  · unfold stB bgL
    exact zFr_sfi (zFr_sls (zFr_sfi (zFr_sls (zFr_sIA (zFr_sfr (zFr_sfr (zFr_sfr (zFr_refl _ _) (Or.inr (Or.inl rfl))) (Or.inr (Or.inr (Or.inl rfl)))) (Or.inr (Or.inr (Or.inl rfl)))) (Or.inr (Or.inr (Or.inr (Or.inl rfl))))) (Or.inr (Or.inr (Or.inr (Or.inr (Or.inl rfl)))))) (Or.inr (Or.inr (Or.inl rfl)))) (Or.inr (Or.inr (Or.inr (Or.inr (Or.inr rfl)))))) (Or.inr (Or.inl rfl))
  · rw [hfr]
    unfold zu2
    rw [if_neg (by omega), if_neg (by omega), if_neg (by omega)]
  · rw [hfr, zu2_n _ _ _ _ (by omega), zu2_n _ _ _ _ (by omega), zu2_s]
  · rw [hfr, zu2_k _ _ _ _ (by omega), zu2_s]
  · rw [hfr, zu2_s]
  · rw [hls, zu1_n _ _ _ (by omega)]; exact zu1_s _ _ _
  · rw [hls, zu1_s]
  · rw [hia]
    show zu1 (zia z) (s + 7 + 1) (va_cpy (zia z (t + 3)) (zia z (s + 7 + 1)) 0 0 16) (s + 7 + 1) h = _
    rw [zu1_s]
    unfold va_cpy
    rw [if_pos (by omega), show 0 + (h - 0) = h by omega]
  · rw [hfi, zu2_n _ _ _ _ (by omega), zu2_s]
  · rw [hfi, zu2_s]
/-- the town in the making as a town -/
theorem CT_RHo {z' : ZH} {v : Nat → Nat} (hC : CT z R G L) (hn : R + 11 ≤ zn z) (st : zSt (fun q => R + 5 ≤ q ∧ q < zn z) z z') (hv : ∀ i, i < 1864 → v i = G i) (h16 : G 0 ≤ 16) : ∃ ha, RHo (fun q => R + 5 ≤ q ∧ q < zn z) z' (R + 5) (R + 6) (R + 8) ha v := by
  obtain ⟨⟨⟨a1, a2, a3, a4, a5, a6, a7, a8⟩, a9, a10⟩, ⟨b1, b2⟩, c, e1, e2⟩ := hC
  obtain ⟨p1, p2, p3, p4, p5, p6⟩ := st (R + 5) ⟨by omega, by omega⟩
  obtain ⟨q1, q2, q3, q4, q5, q6⟩ := st (R + 6) ⟨by omega, by omega⟩
  obtain ⟨r1, r2, r3, r4, r5, r6⟩ := st (R + 8) ⟨by omega, by omega⟩
  have v0 := hv 0 (by omega)
  refine ⟨fun h => if hh : h < G 0 then Classical.choose (b2 h hh) else 0, ⟨⟨by omega, by omega⟩, by rw [p1]; exact a1⟩, ⟨by rw [p3]; exact a2, ⟨by omega, by omega⟩, by rw [q1]; exact a3⟩, ⟨by rw [p3]; exact a4, ⟨by omega, by omega⟩, by rw [r1]; exact a5, by rw [r5]; exact a6⟩, ⟨by rw [q6, v0]; exact b1, by omega⟩, fun h hh => ?_, fun h hh => ?_, ?_, ?_⟩
  · rw [v0] at hh
    dsimp only
    rw [dif_pos hh, q6]
    obtain ⟨w1, w2, w3, w4⟩ := Classical.choose_spec (b2 h hh)
    have w5 : R + 5 ≤ Classical.choose (b2 h hh) ∧ Classical.choose (b2 h hh) < zn z := ⟨by have := w2.1; omega, w2.2⟩
    obtain ⟨x1, x2, _⟩ := st _ w5
    exact ⟨w1, w5, by rw [x1]; exact w3, fun j hj => by rw [x2, hv _ (by omega)]; exact w4 j hj⟩
  · rw [r4, hv _ (by omega)]; exact c h hh
  · rw [p2, hv _ (by omega)]; exact a9
  · rw [p2, hv _ (by omega)]; exact a10
theorem CT_RRu {z' : ZH} {v : Nat → Nat} (hC : CT z R G L) (hn : R + 11 ≤ zn z) (st : zSt (fun q => R + 5 ≤ q ∧ q < zn z) z z') (hv : ∀ i, i < 1864 → v i = G i) (hI : GI G L) : ∃ ra, RRu (fun q => R + 5 ≤ q ∧ q < zn z) z' (R + 9) ra v L := by
  obtain ⟨⟨⟨a1, a2, a3, a4, a5, a6, a7, a8⟩, a9, a10⟩, ⟨b1, b2⟩, c, e1, e2⟩ := hC
  obtain ⟨q1, q2, q3, q4, q5, q6⟩ := st (R + 9) ⟨by omega, by omega⟩
  have ag : agC G v := fun i hi => hv i (by omega)
  have v1 := hv 1 (by omega)
  refine ⟨fun l => if hl : l < G 1 then Classical.choose (e2 l hl) else 0, RRu.ag ag ⟨⟨⟨by omega, by omega⟩, by rw [q1]; exact a8⟩, by rw [q6]; exact e1, hI.2.1, fun l hl => ?_⟩⟩
  dsimp only
  rw [dif_pos hl, q6]
  obtain ⟨w1, w2⟩ := Classical.choose_spec (e2 l hl)
  exact ⟨w1, (w2.mono (B2 := fun q => R + 5 ≤ q ∧ q < zn z) (fun q hq => ⟨by have := hq.1; omega, hq.2⟩)).st st⟩
theorem CT_cP {S : YS} (hC : CT z R G L) : CT (cP z R S) R G L := by
  obtain ⟨⟨⟨a1, a2, a3, a4, a5, a6, a7, a8⟩, a9, a10⟩, ⟨b1, b2⟩, c, e1, e2⟩ := hC
  have st : zSt (Bn R z) z (cP z R S) := by
    intro q hq
    have := hq.1
    exact ⟨rfl, fi_cP _ (by omega), rfl, rfl, rfl, rfl⟩
  refine ⟨⟨⟨a1, a2, a3, a4, a5, a6, a7, a8⟩, by rw [fi_cP _ (by omega)]; exact a9, by rw [fi_cP _ (by omega)]; exact a10⟩, ⟨b1, fun h hh => ?_⟩, c, e1, fun l hl => ?_⟩
  · obtain ⟨q, w1, w2, w3, w4⟩ := b2 h hh
    have := w2.1
    exact ⟨q, w1, w2, w3, fun j hj => by rw [fi_cP _ (by omega)]; exact w4 j hj⟩
  · obtain ⟨q, w1, w2⟩ := e2 l hl
    exact ⟨q, w1, w2.st st⟩
/-- what else a town changes -/
def tnW (q : Nat) : Prop := q = 100 ∨ q = 102 ∨ q = 109 ∨ q = 110 ∨ q = 111 ∨ q = 114
/-- now, with the new town -/
theorem c9g {z3 : ZH} {v : Nat → Nat} (h0 : CS z3) (h162 : 162 ≤ R) (hn : R + 11 ≤ zn z3) (hC : CT z3 R G L) (hI : GI G L) (hv : ∀ i, i < 1864 → v i = G i) (hv2 : v 6 = 0 ∧ v 7 = 0 ∧ v 8 = 0 ∧ v 9 = 0) (hv3 : ∀ h, h < 16 → v (1864 + h) = G (10 + 9 * h + 8)) {x1 x2 : Value}
    (H : ∀ z' ha ra, NW (fun q => R + 5 ≤ q ∧ q < zn z') z' v L (R + 5) (R + 6) (R + 8) (R + 9) ha ra (fun _ => 0) (fun _ => 0) → zFr tnW z3 z' → zcls z' 100 = zcls z3 100 → zfr z' 100 = zfr z3 100 → (∀ j, ¬ j = 6 → zfi z' 100 j = zfi z3 100 j) → zfi z' 100 6 = nI 0 → zn z' = zn z3 → zuc z' = zuc z3 → zus z' = zus z3 → Q (.inl (some (.int (nI (v 0))))) z') : ZW zG (d + 2) 9 32 [.ref 100, x1, x2, zdum] [.ref (R + 5), .ref 102] z3 Q := by
  have hC' := hC
  obtain ⟨⟨⟨a1, a2, a3, a4, a5, a6, a7, a8⟩, a9, a10⟩, ⟨b1, b2⟩, c, e1, e2⟩ := hC'
  have h0' := h0
  unfold CS at h0'
  have k60 := fun d Q => c60g (d := d) (Q := Q) (z := z3) (s := 102) (t := R + 5) (r := R + 9) (by simp only [h0']) (by simp only [h0', Nat.reduceAdd]) (by simp only [h0', Nat.reduceAdd]) (by simp only [h0', Nat.reduceAdd]) (by simp only [h0', Nat.reduceAdd]) (by simp only [h0', Nat.reduceAdd]) (by simp only [h0', Nat.reduceAdd]) (by simp only [h0', Nat.reduceAdd]) (by simp only [h0', Nat.reduceAdd]) (by simp only [h0', Nat.reduceAdd]) a1 a4 a5 a6 a7 (by omega)
  obtain ⟨F, g1, g2, g3, g4, g5, g6, g7, g8, g9, g10, g11, g12, g13, g14, g15⟩ := stB_f (z := z3) (s := 102) (t := R + 5) (r := R + 9)
  generalize stB 102 (R + 5) (R + 9) z3 = z4 at *
  simp only [Nat.reduceAdd] at F g7 g9 g10 g11 g12 g13 g14
  have f5 : zfr z4 (R + 5) 0 = .ref (R + 6) := by rw [g7 _ _ (by omega) (by omega)]; exact a2
  have s1 : zfr z4 100 1 = .ref 102 := by rw [g7 _ _ (by omega) (by omega)]; simp only [h0']
  have l6 : zls z4 (R + 6) = zls z3 (R + 6) := (F.2 (R + 6) (by omega) (by omega)).2.2.2.2.2.2.2
  have mn := fun d Q => c63b (d := d) (Q := Q) (z := z4) (t := R + 5) (hl := R + 6) (by rw [g1]; exact a1) f5 (by rw [g1]; exact a3)
  rw [l6, b1] at mn
  have k100 : zcls z3 100 = 0 := by simp only [h0']
  have k102 : zcls z3 102 = 1 := by simp only [h0']
  simp (disch := omega) only [s9_32, s9_35, s9_36, s9_39, s9_42, s9_45, s9_46, s9_47, s9_48, s9_51, s9_52, zcs_0, zcs_1, zcs_2, zcs_3, zcs_4, zcs_5, zcs_6, zcs_7, znl_i, znl_r, znl_n, Bool.and_true, Bool.true_and, zk_v, zk_n, zk_x, zir_r, zir_n, zclr_i, zclr_r, zclr_n, zclr_d, zclr_l, true_and, and_true, and_self, if_true, if_false, reduceIte, nI_add, pk_mul, zin_ok, zx_nI, nI_lt2, nI_le2, nI_eq2, nI_l0, nI_g0, nI_q0, nI_p0, nI_n0, nI_m1, Nat.add_zero, Nat.zero_add, Nat.reduceAdd, Nat.reduceMul, true_or, or_true, znar_50, bI_0, bI_1, bI_z, bft, nI_z0, nI_z1, lgc_lt, lgc_gt, lgc_le, lgc_ge, lgc_eq, not_true_eq_false, not_false_eq_true, Bool.not_eq_true, Bool.not_eq_false, reduceCtorEq, eq_self, nI_e0, nI_e1, i10, i01, decide_false, decide_true, Bool.false_eq_true, k60, mn, s1, g1, g8, a1, k100, k102]
  have hfi : ∀ q, ¬ q = 100 → zfi (sfi z4 100 6 (nI 0)) q = zfi z4 q := fun q hq => by
    rw [fi_sfi]
    funext j
    exact zu2_n _ _ _ _ hq
  have FF : zFr tnW z3 (sfi z4 100 6 (nI 0)) := zFr_sfi (zFr_mono (fun q _ w => by unfold tnW; omega) F) (Or.inr (Or.inl rfl))
  have st : zSt (fun q => R + 5 ≤ q ∧ q < zn z3) z3 (sfi z4 100 6 (nI 0)) := FF.st (fun q hq => ⟨hq.2, fun w => by unfold tnW at w; omega⟩)
  have hcl : zcls (sfi z4 100 6 (nI 0)) = zcls z3 := by rw [cls_sfi, g1]
  have hln : zlen (sfi z4 100 6 (nI 0)) = zlen z3 := by rw [len_sfi, g2]
  have hra : zra (sfi z4 100 6 (nI 0)) = zra z3 := by rw [ra_sfi, g3]
  have hfr : zfr (sfi z4 100 6 (nI 0)) = zfr z4 := by rw [fr_sfi]
  have hls : zls (sfi z4 100 6 (nI 0)) = zls z4 := by rw [ls_sfi]
  have hia : zia (sfi z4 100 6 (nI 0)) = zia z4 := by rw [ia_sfi]
  have hnn : zn (sfi z4 100 6 (nI 0)) = zn z3 := by rw [n_sfi, g4]
  have huc : zuc (sfi z4 100 6 (nI 0)) = zuc z3 ∧ zus (sfi z4 100 6 (nI 0)) = zus z3 := by rw [uc_sfi, us_sfi, g5, g6]; exact ⟨rfl, rfl⟩
  have h6 : zfi (sfi z4 100 6 (nI 0)) 100 6 = nI 0 := by rw [fi_sfi, zu2_s]
  have h6n : ∀ j, ¬ j = 6 → zfi (sfi z4 100 6 (nI 0)) 100 j = zfi z4 100 j := fun j hj => by rw [fi_sfi, zu2_k _ _ _ _ hj]
  have f100 : zfi z4 100 = zfi z3 100 := (F.2 100 (by omega) (by omega)).2.1
  generalize sfi z4 100 6 (nI 0) = z5 at *
  obtain ⟨ha, hH⟩ := CT_RHo hC hn st hv hI.1.1
  obtain ⟨ra, hRu⟩ := CT_RRu hC hn st hv hI
  have hv0 := hv 0 (by omega)
  rw [← hv0]
  have mB : ∀ q, (R + 5 ≤ q ∧ q < zn z3) → (R + 5 ≤ q ∧ q < zn z5) := fun q hq => ⟨hq.1, by omega⟩
  obtain ⟨v6, v7, v8, v9⟩ := hv2
  refine H z5 ha ra ⟨?_, ⟨?_, ?_, ?_, ?_⟩, hH.mono mB, hRu.mono mB, ⟨?_, by omega, fun i hi => by omega⟩, ?_, ?_, ⟨?_, by omega, fun i hi => by omega⟩, ?_⟩ FF (by rw [hcl]) (by rw [hfr]; funext j; exact g7 100 j (by omega) (by omega)) (fun j hj => by rw [h6n j hj, f100]) h6 hnn huc.1 huc.2
  · exact CS_ag (fun q _ => by rw [hcl]) (fun q _ => by rw [hln]) (fun q _ => by rw [hra]) (fun q j _ x1 x2 => by rw [hfr]; exact g7 q j x1 (by omega)) h0
  · rw [hfr]; exact g8
  · rw [hfr]; exact g9
  · rw [hfr, g7 _ _ (by omega) (by omega)]; exact a7
  · rw [hfr]; exact g10
  · rw [hls, g11, v7]; rfl
  · intro h hh
    rw [hia, g13 h hh, hv3 h hh]
    exact c h hh
  · rw [hfi _ (by omega), g14, v9]
  · rw [hls, g12, v8]; rfl
  · rw [hfi _ (by omega), g15, v6]
end CT9
