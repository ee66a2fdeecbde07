set_option maxRecDepth 100000
/-! beside: the component -/
section BC
variable {d : Nat} {B : Nat → Prop} {z : ZH} {Q : ZQ} {v u : Nat → Nat} {L LI : Nat → List (Nat × Nat)} {t hl rl : Nat} {ha ra da ea : Nat → Nat} {K KI : Nat}
theorem mkL_cap {s : Nat} (hs : zn z = s + 1) : capL (mkL s z) (s + 2) = 8 := by
  have e1 : zfr (mkL s z) (s + 2) 0 = .ref (s + 3) := by
    unfold mkL
    simp (disch := omega) only [fr_sfr, fr_slin, fr_snew, fr_sarr, n_sfr, n_slin, n_snew, n_sarr, hs, zu1_s, zu1_n, zu2_s, zu2_n, zu2_k, ne_eq, Nat.add_assoc, Nat.reduceAdd]
  have e2 : zlen (mkL s z) (s + 3) = 8 := by
    unfold mkL
    simp (disch := omega) only [len_sfr, len_slin, len_snew, len_sarr, n_sfr, n_slin, n_snew, n_sarr, hs, zu1_s, zu1_n, ne_eq, Nat.add_assoc, Nat.reduceAdd]
  unfold capL zdat
  rw [e1]
  exact e2
/-- a new ledger that has begun with the town t and the rules r -/
theorem c55l {r : Nat} (hz : 162 ≤ zn z) (ht : t + 4 < zn z) (t1 : zcls z t = 2) (t2 : zfr z t 1 = .ref (t + 3)) (t3 : zcls z (t + 3) = 50) (t4 : zlen z (t + 3) = 16) : ∃ z1, (∀ Q, ZC zG (d + 1) 66 [.ref (zn z)] (snew z 3 6) Q = Q (.inl none) z1) ∧ ∃ z2, (∀ d' Q, ZC zG d' 67 [.ref (zn z), .ref t, .ref r] z1 Q = Q (.inl none) z2) ∧ FN z z1 ∧ zcls z1 (zn z) = 3 ∧ FN z z2 ∧ zn z2 = zn z + 5 ∧ LdS z2 (zn z) ∧ zfr z2 (zn z) 0 = .ref t ∧ zfr z2 (zn z) 1 = .ref r ∧ zls z2 (zn z + 2) = [] ∧ (∀ h, h < 16 → zia z2 (zn z + 1) h = zia z (t + 3) h) ∧ zfi z2 (zn z) 5 = nI 0 ∧ capL z2 (zn z + 2) = 8 ∧ zuc z2 = zuc z + 5 ∧ zus z2 = zus z + 39 := by
  have n1 : zn (snew z 3 6) = zn z + 1 := by rw [n_snew]
  have c1 : zcls (snew z 3 6) (zn z) = 3 := by rw [cls_snew, zu1_s]
  obtain ⟨F, n2, a1, a2, a3, a4, a5, a6, a7, a8, uu, w⟩ := mkL_f (z := snew z 3 6) (s := zn z) n1
  rw [uc_snew] at uu
  rw [us_snew] at w
  have FS : FN z (snew z 3 6) := (FN.refl z).snew _ _
  have F1 : FN z (mkL (zn z) (snew z 3 6)) := zFr_tr FS F (fun q hq e => by omega)
  have k1 := fun Q => c66 (d := d) (z := snew z 3 6) (Q := Q) (s := zn z) c1 (by omega)
  rw [c1] at a1
  have cap1 := mkL_cap (z := snew z 3 6) (s := zn z) n1
  generalize mkL (zn z) (snew z 3 6) = z1 at *
  have x := F1.2 t (by omega) (fun e => e)
  have x3 := F1.2 (t + 3) (by omega) (fun e => e)
  have k2 := fun d' Q => c67 (d := d') (z := z1) (Q := Q) (l := zn z) (t := t) (r := r) a1 a2 a3 a4 a5 a6 (by rw [x.1]; exact t1) (by rw [x.2.2.1]; exact t2) (by rw [x3.1]; exact t3) (by rw [x3.2.2.2.2.2.2.1]; exact t4) (by omega)
  have hfr : zfr (bgL (zn z) t r z1) = zu2 (zu2 (zfr z1) (zn z) 0 (.ref t)) (zn z) 1 (.ref r) := rfl
  have hls : zls (bgL (zn z) t r z1) = zu1 (zls z1) (zn z + 2) [] := rfl
  have hfi : zfi (bgL (zn z) t r z1) = zu2 (zfi z1) (zn z) 5 (nI 0) := rfl
  have hia : zia (bgL (zn z) t r z1) = zu1 (zia z1) (zn z + 1) (va_cpy (zia z1 (t + 3)) (zia z1 (zn z + 1)) 0 0 16) := rfl
  have hcl : zcls (bgL (zn z) t r z1) = zcls z1 := rfl
  have hln : zlen (bgL (zn z) t r z1) = zlen z1 := rfl
  have hnn : zn (bgL (zn z) t r z1) = zn z1 := rfl
  have huc : zuc (bgL (zn z) t r z1) = zuc z1 ∧ zus (bgL (zn z) t r z1) = zus z1 := ⟨rfl, rfl⟩
  have hcap : capL (bgL (zn z) t r z1) (zn z + 2) = 8 := by
    unfold capL zdat at cap1 ⊢
    rw [hfr, hln, zu2_n _ _ _ _ (by omega), zu2_n _ _ _ _ (by omega)]
    exact cap1
  have F2 : zFr (fun q => zn z ≤ q) z1 (bgL (zn z) t r z1) := by
    unfold bgL
    exact zFr_sfi (zFr_sls (zFr_sIA (zFr_sfr (zFr_sfr (zFr_refl _ _) (Or.inr (Nat.le_refl _))) (Or.inr (Nat.le_refl _))) (Or.inr (by omega))) (Or.inr (by omega))) (Or.inr (Nat.le_refl _))
  generalize bgL (zn z) t r z1 = z2 at *
  refine ⟨z1, k1, z2, k2, F1, a1, zFr_tr F1 F2 (fun q hq e => by omega), by omega, ⟨by rw [hcl]; exact a1, ?_, by rw [hcl]; exact a3, by rw [hln]; exact a4, ?_, by rw [hcl]; exact a6, ?_, by rw [hcl]; exact a8⟩, ?_, ?_, ?_, fun h hh => ?_, ?_, hcap, by omega, by omega⟩
  · rw [hfr, zu2_k _ _ _ _ (by omega), zu2_k _ _ _ _ (by omega)]; exact a2
  · rw [hfr, zu2_k _ _ _ _ (by omega), zu2_k _ _ _ _ (by omega)]; exact a5
  · rw [hfr, zu2_k _ _ _ _ (by omega), zu2_k _ _ _ _ (by omega)]; exact a7
  · rw [hfr, zu2_k _ _ _ _ (by omega), zu2_s]
  · rw [hfr, zu2_s]
  · rw [hls, zu1_s]
  · rw [hia, zu1_s]
    unfold va_cpy
    rw [if_pos (by omega), show 0 + (h - 0) = h by omega, x3.2.2.2.1]
  · rw [hfi, zu2_s]
/-- houses rest on their own numbers alone -/
theorem RHo_low {v2 : Nat → Nat} {kn : Nat} (h : ∀ i, i = 0 ∨ i = 4 ∨ i = 5 ∨ (10 ≤ i ∧ i < 154) → v2 i = v i) (k : RHo B z t hl kn ha v) : RHo B z t hl kn ha v2 := by
  obtain ⟨a, b, c, ⟨d1, d2⟩, e, f, g1, g2⟩ := k
  have e0 := h 0 (by omega)
  refine ⟨a, b, c, ⟨by rw [e0]; exact d1, by omega⟩, ?_, ?_, by rw [h 4 (by omega)]; exact g1, by rw [h 5 (by omega)]; exact g2⟩
  · intro x hx
    obtain ⟨x1, x2, x3, x4⟩ := e x (by omega)
    exact ⟨x1, x2, x3, fun j hj => by rw [h _ (by omega)]; exact x4 j hj⟩
  · intro x hx
    rw [h _ (by omega)]
    exact f x hx
/-- rules rest on the code's numbers alone -/
theorem RRu_mid {v2 : Nat → Nat} (h : ∀ i, (1 ≤ i ∧ i ≤ 3) ∨ (154 ≤ i ∧ i < 1864) → v2 i = v i) (k : RRu B z rl ra v L) : RRu B z rl ra v2 L := by
  obtain ⟨a, b, c, e⟩ := k
  have e1 := h 1 (by omega)
  have hc := c
  obtain ⟨c1, c2, c3, c4, c5, c6⟩ := hc
  refine ⟨a, by rw [e1]; exact b, cOK_mid h c, fun l hl => ?_⟩
  rw [e1] at hl
  obtain ⟨x1, x2⟩ := e l hl
  refine ⟨x1, x2.ap (N := v 3) (T := v 2) (fun i h1 h2 => h i (by omega)) (fun j hj => h _ (by omega)) (fun t ht => ⟨h _ (by omega), rfl, fun x hx => ?_⟩) (c5 l hl).2.2.2⟩
  obtain ⟨y1, y2⟩ := c6 t ht
  have := tLay_mem _ _ y1 x hx
  omega
end BC
