set_option maxRecDepth 100000
/-! the component: what is done now -/
def NwW (q : Nat) : Prop := q = 109 ∨ q = 110 ∨ q = 111 ∨ q = 113 ∨ q = 114
/-- the component's fixed cells stay -/
theorem CS_fr {z z2 : ZH} (h : zFr NwW z z2) (hz : 162 ≤ zn z) (hL : LdS z2 109) (h114 : zcls z2 114 = 90) (h0 : CS z) : CS z2 := by
  unfold CS at h0 ⊢
  unfold LdS at hL
  simp only [Nat.reduceAdd] at hL
  have w100 := h.2 100 (by omega) (by unfold NwW; omega)
  have w101 := h.2 101 (by omega) (by unfold NwW; omega)
  have w102 := h.2 102 (by omega) (by unfold NwW; omega)
  have w116 := h.2 116 (by omega) (by unfold NwW; omega)
  have w117 := h.2 117 (by omega) (by unfold NwW; omega)
  have w118 := h.2 118 (by omega) (by unfold NwW; omega)
  have w119 := h.2 119 (by omega) (by unfold NwW; omega)
  have w120 := h.2 120 (by omega) (by unfold NwW; omega)
  have w121 := h.2 121 (by omega) (by unfold NwW; omega)
  have w122 := h.2 122 (by omega) (by unfold NwW; omega)
  have w123 := h.2 123 (by omega) (by unfold NwW; omega)
  have w124 := h.2 124 (by omega) (by unfold NwW; omega)
  have w125 := h.2 125 (by omega) (by unfold NwW; omega)
  have w126 := h.2 126 (by omega) (by unfold NwW; omega)
  have w127 := h.2 127 (by omega) (by unfold NwW; omega)
  have w128 := h.2 128 (by omega) (by unfold NwW; omega)
  have w129 := h.2 129 (by omega) (by unfold NwW; omega)
  have w130 := h.2 130 (by omega) (by unfold NwW; omega)
  have w131 := h.2 131 (by omega) (by unfold NwW; omega)
  have w132 := h.2 132 (by omega) (by unfold NwW; omega)
  have w133 := h.2 133 (by omega) (by unfold NwW; omega)
  have w134 := h.2 134 (by omega) (by unfold NwW; omega)
  simp only [w100, w101, w102, w116, w117, w118, w119, w120, w121, w122, w123, w124, w125, w126, w127, w128, w129, w130, w131, w132, w133, w134, hL, h114, h0, and_self]
/-- now, behind something done -/
def NwP (B : Nat → Prop) (z z2 : ZH) (v2 : Nat → Nat) (L : Nat → List (Nat × Nat)) (t hl kn rl : Nat) (ha ra : Nat → Nat) (cu su : Nat) : Prop :=
  ∃ B2 da2 ea2, NW B2 z2 v2 L t hl kn rl ha ra da2 ea2 ∧ zFr NwW z z2 ∧ (∀ q, B q → B2 q) ∧ (∀ q, B2 q → 100 ≤ q ∧ q < zn z2 ∧ (B q ∨ zn z ≤ q)) ∧ (zuc z ≤ zuc z2 ∧ zuc z2 ≤ zuc z + cu) ∧ (zus z ≤ zus z2 ∧ zus z2 ≤ zus z + su)
section CM
variable {d : Nat} {B : Nat → Prop} {z : ZH} {Q : ZQ} {v : Nat → Nat} {L : Nat → List (Nat × Nat)} {t hl kn rl : Nat} {ha ra da ea : Nat → Nat} {K : Nat}
theorem c249 {r : Nat} (h : zcls z r = 22) {a b c e : Int32} : ZC zG d 249 [.ref r, .int a, .int b, .int c, .int e] z Q = Q (.inl none) (sfi (sfi (sfi (sfi z r 0 a) r 1 b) r 2 c) r 3 e) := by
  simp only [e249, s249_0, s249_1, s249_4, s249_5, s249_6, s249_9, s249_10, s249_11, s249_14, s249_15, s249_16, s249_19, s249_20, s249_22, s249_25, zcs_0, zcs_1, zcs_2, zcs_3, zcs_4, zcs_5, zcs_6, zcs_7, znl_i, znl_r, znl_n, Bool.and_true, Bool.true_and, zk_v, zk_n, zk_x, zir_r, zir_n, zclr_i, zclr_r, zclr_n, zclr_d, zclr_l, true_and, and_true, and_self, if_true, if_false, reduceIte, cls_sfi, h]
/-- the heap behind a deed noted -/
def sDd (z : ZH) (a b p y : Nat) : ZH := sladd (sfi (sfi (sfi (sfi (snew z 22 4) (zn z) 0 (nI a)) (zn z) 1 (nI b)) (zn z) 2 (nI p)) (zn z) 3 (nI y)) 114 (.ref (zn z))
theorem NW_deed (h : NW B z v L t hl kn rl ha ra da ea) (hB : ∀ q, B q → 100 ≤ q ∧ q < zn z) (nB : ∀ q, NwW q → ¬ B q) (hz : 162 ≤ zn z) (h8 : v 8 < 600) {a b p : Nat} : NW (fun q => B q ∨ q = zn z) (sDd z a b p (v 6)) (sDeed v a b p) L t hl kn rl ha ra da (fun i => if i = v 8 then zn z else ea i) ∧ zFr NwW z (sDd z a b p (v 6)) ∧ (zuc z ≤ zuc (sDd z a b p (v 6)) ∧ zuc (sDd z a b p (v 6)) ≤ zuc z + 2) ∧ (zus z ≤ zus (sDd z a b p (v 6)) ∧ zus (sDd z a b p (v 6)) ≤ zus z + 1205) ∧ zn z < zn (sDd z a b p (v 6)) := by
  have hL := h.ls
  have hall0 := h.1
  unfold CS at hall0
  obtain ⟨h0, ⟨h1, h2, h3, h4⟩, hH, hR, hD, hK, h9, hE, h6⟩ := h
  generalize hz3 : sfi (sfi (sfi (sfi (snew z 22 4) (zn z) 0 (nI a)) (zn z) 1 (nI b)) (zn z) 2 (nI p)) (zn z) 3 (nI (v 6)) = z3
  have hsD : sDd z a b p (v 6) = sladd z3 114 (.ref (zn z)) := by rw [← hz3]; rfl
  have fr3 : zFr NwW z z3 := by
    rw [← hz3]
    have hn0 : zn z ≤ zn z := Nat.le_refl _
    exact zFr_sfi (zFr_sfi (zFr_sfi (zFr_sfi (zFr_snew (zFr_refl _ _)) (Or.inl hn0)) (Or.inl hn0)) (Or.inl hn0)) (Or.inl hn0)
  have n3 : zn z3 = zn z + 1 := by rw [← hz3]; rfl
  have cl3 : ∀ q, q < zn z → zcls z3 q = zcls z q := fun q hq => by
    rw [← hz3]
    show zu1 (zcls z) (zn z) 22 q = _
    exact zu1_n _ _ _ (by omega)
  have clN : zcls z3 (zn z) = 22 := by
    rw [← hz3]
    show zu1 (zcls z) (zn z) 22 (zn z) = _
    exact zu1_s _ _ _
  have rf3 : ∀ q, q < zn z → zfr z3 q = zfr z q := fun q hq => by
    rw [← hz3]
    show zu1 (zfr z) (zn z) _ q = _
    exact zu1_n _ _ _ (by omega)
  have fi3 : ∀ q, q < zn z → zfi z3 q = zfi z q := fun q hq => by
    rw [← hz3]
    funext j
    rw [fi_sfi, zu2_n _ _ _ _ (by omega), fi_sfi, zu2_n _ _ _ _ (by omega), fi_sfi, zu2_n _ _ _ _ (by omega), fi_sfi, zu2_n _ _ _ _ (by omega), fi_snew, zu1_n _ _ _ (by omega)]
  have fiN : zfi z3 (zn z) 0 = nI a ∧ zfi z3 (zn z) 1 = nI b ∧ zfi z3 (zn z) 2 = nI p ∧ zfi z3 (zn z) 3 = nI (v 6) := by
    rw [← hz3, fi_sfi, fi_sfi, fi_sfi, fi_sfi]
    refine ⟨?_, ?_, ?_, ?_⟩
    · rw [zu2_k _ _ _ _ (by omega), zu2_k _ _ _ _ (by omega), zu2_k _ _ _ _ (by omega), zu2_s]
    · rw [zu2_k _ _ _ _ (by omega), zu2_k _ _ _ _ (by omega), zu2_s]
    · rw [zu2_k _ _ _ _ (by omega), zu2_s]
    · rw [zu2_s]
  have cu3 : zuc z3 = zuc z + 1 ∧ zus z3 = zus z + 4 := by rw [← hz3]; exact ⟨rfl, rfl⟩
  have ls3 : zls z3 = zls z := by rw [← hz3]; rfl
  have ia3 : zia z3 = zia z := by rw [← hz3]; rfl
  have ln3 : zlen z3 = zlen z := by rw [← hz3]; rfl
  obtain ⟨k1, k2, k3, k4, k5, k6, k7⟩ := add_cost z3 114 (.ref (zn z))
  have nle := n_sladd z3 114 (.ref (zn z))
  rw [hsD]
  have fr4 : zFr NwW z (sladd z3 114 (.ref (zn z))) := zFr_sladd fr3 (Or.inr (by unfold NwW; omega))
  have len114 : (zls z3 114).length = v 8 := by rw [ls3]; exact hE.1
  have st4 : zSt B z (sladd z3 114 (.ref (zn z))) := fr4.st (fun q hq => ⟨(hB q hq).2, fun hw => nB q hw hq⟩)
  have L4 : LdS (sladd z3 114 (.ref (zn z))) 109 := by
    unfold LdS
    simp only [Nat.reduceAdd]
    rw [cls_sladd _ _ _ (by omega), cls_sladd _ _ _ (by omega), cls_sladd _ _ _ (by omega), cls_sladd _ _ _ (by omega), len_sladd _ _ _ (by omega), fr_sladd _ _ _ (by omega), cl3 _ (by omega), cl3 _ (by omega), cl3 _ (by omega), cl3 _ (by omega), ln3, rf3 _ (by omega)]
    exact hL
  have C4 : CS (sladd z3 114 (.ref (zn z))) := CS_fr fr4 hz L4 (by rw [cls_sladd _ _ _ (by omega), cl3 _ (by omega)]; simp only [hall0]) h0
  have e0 : sDeed v a b p 0 = v 0 := sDeed_n (by omega) (by omega)
  have e7 : sDeed v a b p 7 = v 7 := sDeed_n (by omega) (by omega)
  have Bt := hH.1.1
  have htz := (hB t Bt).2
  refine ⟨⟨C4, ⟨?_, ?_, ?_, ?_⟩, ((hH.st st4).ag agC_deed).mono (fun q h => Or.inl h), ((hR.st st4).ag agC_deed).mono (fun q h => Or.inl h), ?_, ?_, ?_, ?_, ?_⟩, fr4, by omega, by omega, by omega⟩
  · rw [fr_sladd _ _ _ (by omega), rf3 _ (by omega)]; exact h1
  · rw [fr_sladd _ _ _ (by omega), rf3 _ (by omega)]; exact h2
  · have ht114 : ¬ t = 114 := fun e => nB 114 (by unfold NwW; omega) (e ▸ Bt)
    rw [fr_sladd _ _ _ ht114, rf3 _ htz]; exact h3
  · rw [fr_sladd _ _ _ (by omega), rf3 _ (by omega)]; exact h4
  · have hls : zls (sladd z3 114 (.ref (zn z))) (109 + 2) = zls z (109 + 2) := by
      rw [ls_sladd, zu1_n _ _ _ (by omega), ls3]
    have D4 := (RDe.st st4 hls hD).mono (B2 := fun q => B q ∨ q = zn z) (fun q h => Or.inl h)
    obtain ⟨q1, q2, q3⟩ := D4
    refine ⟨by rw [e7]; exact q1, by rw [e7]; exact q2, fun i hi => ?_⟩
    rw [e7] at hi
    obtain ⟨w1, w2, w3, w4⟩ := q3 i hi
    have h7 := hD.2.1
    refine ⟨w1, w2, w3, fun j hj => ?_⟩
    rw [sDeed_n (by omega) (by omega)]
    exact w4 j hj
  · intro x hx
    rw [ia_sladd, ia3, sDeed_n (by omega) (by omega)]
    exact hK x hx
  · rw [fi_sladd, fi3 _ (by omega), sDeed_n (by omega) (by omega)]; exact h9
  · have hls : zls (sladd z3 114 (.ref (zn z))) (102 + 12) = zls z 114 ++ [.ref (zn z)] := by
      show zls (sladd z3 114 (.ref (zn z))) 114 = _
      rw [ls_sladd, zu1_s, ls3]
    obtain ⟨q1, q2, q3⟩ := hE
    have q1' : (zls z 114).length = v 8 := q1
    refine ⟨by rw [hls, sDeed_8, List.length_append, q1']; rfl, by rw [sDeed_8]; omega, fun i hi => ?_⟩
    rw [sDeed_8] at hi
    rw [hls, getD_app, q1']
    by_cases e : i = v 8
    · subst e
      obtain ⟨f0, f1, f2, f3⟩ := sDeed_f (v := v) (a := a) (b := b) (p := p)
      obtain ⟨g0, g1, g2, g3⟩ := fiN
      simp only [Nat.lt_irrefl, if_false, if_true]
      refine ⟨trivial, Or.inr trivial, by rw [cls_sladd _ _ _ (by omega)]; exact clN, fun j hj => ?_⟩
      rw [fi_sladd]
      match j, hj with
      | 0, _ => rw [Nat.add_zero, f0]; exact g0
      | 1, _ => rw [f1]; exact g1
      | 2, _ => rw [f2]; exact g2
      | 3, _ => rw [f3]; exact g3
    · have hi2 : i < v 8 := by omega
      obtain ⟨b1, b2, b3, b4⟩ := q3 i hi2
      have hq := hB _ b2
      simp only [hi2, e, if_true, if_false]
      refine ⟨b1, Or.inl b2, by rw [cls_sladd _ _ _ (by omega), cl3 _ hq.2]; exact b3, fun j hj => ?_⟩
      rw [fi_sladd, fi3 _ hq.2, sDeed_n (by omega) (by omega)]
      exact b4 j hj
  · rw [fi_sladd, fi3 _ (by omega), sDeed_n (by omega) (by omega)]; exact h6
end CM

