set_option maxRecDepth 100000
/-! sums, term by term -/
section SM0
variable {b : Nat → Nat} {sz : Nat} {S : YS} {G : Nat → Nat}
/-- factors -/
def yML (b : Nat → Nat) (sz : Nat) : Nat → YS → (Nat → Nat) → YS × (Nat → Nat)
  | 0, S, G => (S, G)
  | n + 1, S, G => if yIs b S 31 = true then yML b sz n (yP1 b sz (yAdv b sz S)).1 (yPG b sz 3 (yAdv b sz S) G) else (S, G)
def yTm (b : Nat → Nat) (sz j : Nat) (S : YS) (G : Nat → Nat) : YS × (Nat → Nat) := yML b sz (sz + 1) (yP1 b sz S).1 (yPG b sz j S G)
/-- terms -/
def ySM (b : Nat → Nat) (sz : Nat) : Nat → YS → (Nat → Nat) → YS × (Nat → Nat)
  | 0, S, G => (S, G)
  | n + 1, S, G => if yWh b S [23, 18] < 2 then ySM b sz n (yTm b sz (yWh b S [23, 18] + 1) (yAdv b sz S) G).1 (yTm b sz (yWh b S [23, 18] + 1) (yAdv b sz S) G).2 else (S, G)
def ySm (b : Nat → Nat) (sz j : Nat) (S : YS) (G : Nat → Nat) : YS × (Nat → Nat) := ySM b sz (sz + 1) (yTm b sz j S G).1 (yTm b sz j S G).2
theorem yML_ok : ∀ (n : Nat) (S : YS) (G : Nat → Nat), yOK sz S → yOK sz (yML b sz n S G).1
  | 0, S, G, h => h
  | n + 1, S, G, h => by
    unfold yML
    split
    · exact yML_ok n _ _ (yP1_ok (yAdv_ok h))
    · exact h
theorem yML_mo : ∀ (n : Nat) (S : YS) (G : Nat → Nat), yOK sz S → yFr S ≤ yFr (yML b sz n S G).1
  | 0, S, G, h => Nat.le_refl _
  | n + 1, S, G, h => by
    unfold yML
    split
    · have h1 := yML_mo n (yP1 b sz (yAdv b sz S)).1 (yPG b sz 3 (yAdv b sz S) G) (yP1_ok (yAdv_ok h))
      have h2 := yP1_mo (yAdv_ok (b := b) h) (b := b)
      have h3 := yAdv_mo h (b := b)
      omega
    · exact Nat.le_refl _
theorem yML_gr : ∀ (n : Nat) (S : YS) (G : Nat → Nat), yFk (yML b sz n S G).1 = 0 → yFk S = 0
  | 0, S, G, h => h
  | n + 1, S, G, h => by
    unfold yML at h
    split at h
    · rename_i hc
      exact (yIs_g hc).1
    · exact h
theorem yML_bad (h : ¬ yFk S = 0) : ∀ n, yML b sz n S G = (S, G)
  | 0 => rfl
  | n + 1 => by
    unfold yML
    rw [yIs_bad h]; rfl
theorem yTm_ok {j : Nat} (h : yOK sz S) : yOK sz (yTm b sz j S G).1 := yML_ok _ _ _ (yP1_ok h)
theorem yTm_mo {j : Nat} (h : yOK sz S) : yFr S ≤ yFr (yTm b sz j S G).1 := Nat.le_trans (yP1_mo h) (yML_mo _ _ _ (yP1_ok h))
theorem yTm_g {j : Nat} (hS : yOK sz S) (h : yFk (yTm b sz j S G).1 = 0) : yFk (yP1 b sz S).1 = 0 ∧ yFk S = 0 ∧ yFr S < yFr (yTm b sz j S G).1 := by
  have h1 := yML_gr _ _ _ h
  obtain ⟨h2, h3⟩ := yP1_g hS h1
  have h4 : yFr (yP1 b sz S).1 ≤ yFr (yTm b sz j S G).1 := yML_mo _ _ _ (yP1_ok hS)
  exact ⟨h1, h2, by omega⟩
theorem ySM_bad (h : ¬ yFk S = 0) : ∀ n, ySM b sz n S G = (S, G)
  | 0 => rfl
  | n + 1 => by
    unfold ySM
    rw [if_neg]
    intro q
    exact h (yWh_g (l := [23, 18]) q).1
theorem ySM_gr : ∀ (n : Nat) (S : YS) (G : Nat → Nat), yFk (ySM b sz n S G).1 = 0 → yFk S = 0
  | 0, S, G, h => h
  | n + 1, S, G, h => by
    unfold ySM at h
    split at h
    · rename_i hc
      exact (yWh_g (l := [23, 18]) hc).1
    · exact h
/-- enough is enough -/
theorem yML_fu : ∀ (n m : Nat) (S : YS) (G : Nat → Nat), yOK sz S → (yFk S = 0 → sz < yFr S + n) → n ≤ m → yML b sz m S G = yML b sz n S G
  | 0, m, S, G, h, hf, _ => by
    have hb : ¬ yFk S = 0 := fun q => by have := hf q; have := h.1; omega
    rw [yML_bad hb]; rfl
  | n + 1, 0, S, G, h, hf, hm => by omega
  | n + 1, m + 1, S, G, h, hf, hm => by
    unfold yML
    by_cases c : yIs b S 31 = true
    · rw [if_pos c, if_pos c]
      refine yML_fu n m _ _ (yP1_ok (yAdv_ok h)) (fun q => ?_) (by omega)
      have h1 := hf (yIs_g c).1
      have h2 := (yP1_g (yAdv_ok h) q).2
      have h3 := yAdv_mo h (b := b)
      omega
    · rw [if_neg c, if_neg c]
theorem ySM_fu : ∀ (n m : Nat) (S : YS) (G : Nat → Nat), yOK sz S → (yFk S = 0 → sz < yFr S + n) → n ≤ m → ySM b sz m S G = ySM b sz n S G
  | 0, m, S, G, h, hf, _ => by
    have hb : ¬ yFk S = 0 := fun q => by have := hf q; have := h.1; omega
    rw [ySM_bad hb]; rfl
  | n + 1, 0, S, G, h, hf, hm => by omega
  | n + 1, m + 1, S, G, h, hf, hm => by
    unfold ySM
    by_cases c : yWh b S [23, 18] < 2
    · rw [if_pos c, if_pos c]
      refine ySM_fu n m _ _ (yTm_ok (yAdv_ok h)) (fun q => ?_) (by omega)
      have h1 := hf (yWh_g (l := [23, 18]) c).1
      have h2 := (yTm_g (yAdv_ok h) q).2.2
      have h3 := yAdv_mo h (b := b)
      omega
    · rw [if_neg c, if_neg c]
theorem yWh_two {r1 r2 r3 : Nat} : (yIs b S r1 = true → yWh b S [r1, r2, r3] = 0 ∧ yWh b S [r1, r2] = 0) ∧ (yIs b S r1 = false → yIs b S r2 = true → yWh b S [r1, r2, r3] = 1 ∧ yWh b S [r1, r2] = 1) ∧ (yIs b S r1 = false → yIs b S r2 = false → yWh b S [r1, r2] = 2) ∧ (yIs b S r1 = false → yIs b S r2 = false → yIs b S r3 = true → yWh b S [r1, r2, r3] = 2) ∧ (yIs b S r1 = false → yIs b S r2 = false → yIs b S r3 = false → yWh b S [r1, r2, r3] = 3) := by
  simp only [yWh]
  cases yIs b S r1 <;> cases yIs b S r2 <;> cases yIs b S r3 <;> simp
/-- two words can't both stand here -/
theorem wmF_at {r a : Nat} : ∀ (n k : Nat), wmF b r a k n = true → ∀ j, k ≤ j → j < k + n → b (a + j) = (ztx r).getD j 0
  | 0, k, _, j, h1, h2 => by omega
  | n + 1, k, h, j, h1, h2 => by
    unfold wmF at h
    rw [Bool.and_eq_true, decide_eq_true_iff] at h
    by_cases c : j = k
    · rw [c]; exact h.1
    · exact wmF_at n (k + 1) h.2 j (by omega) (by omega)
theorem yIs_two {r s : Nat} (h1 : yIs b S r = true) (h2 : yIs b S s = true) : (ztx r).length = (ztx s).length ∧ ∀ j, j < (ztx r).length → (ztx r).getD j 0 = (ztx s).getD j 0 := by
  unfold yIs at h1 h2
  simp only [Bool.and_eq_true, decide_eq_true_iff] at h1 h2
  obtain ⟨_, _, a3, a4⟩ := h1
  obtain ⟨_, _, b3, b4⟩ := h2
  refine ⟨a3.symm.trans b3, fun j hj => ?_⟩
  rw [← wmF_at _ _ a4 j (by omega) (by omega), ← wmF_at _ _ b4 j (by omega) (by omega)]
theorem yIs_23 (h : yIs b S 23 = true) : yIs b S 31 = false := by
  rw [← Bool.not_eq_true]
  intro q
  exact absurd (yIs_two h q).1 (by decide)
theorem yIs_18 (h : yIs b S 18 = true) : yIs b S 31 = false := by
  rw [← Bool.not_eq_true]
  intro q
  have := (yIs_two h q).2 0 (by decide)
  exact absurd this (by decide)
/-- the flat loop is the nested one -/
theorem ySL_nest : ∀ (n : Nat) (S : YS) (G : Nat → Nat), n ≤ sz + 1 → yOK sz S → (yFk S = 0 → sz < yFr S + n) → ySL b sz n S G = ySM b sz n (yML b sz n S G).1 (yML b sz n S G).2
  | 0, S, G, _, _, _ => rfl
  | n + 1, S, G, hn, h, hf => by
    obtain ⟨w1, w2, w3, w4, w5⟩ := yWh_two (b := b) (S := S) (r1 := 23) (r2 := 18) (r3 := 31)
    have step : ∀ j : Nat, yFk S = 0 → ySL b sz n (yP1 b sz (yAdv b sz S)).1 (yPG b sz j (yAdv b sz S) G) = ySM b sz n (yML b sz n (yP1 b sz (yAdv b sz S)).1 (yPG b sz j (yAdv b sz S) G)).1 (yML b sz n (yP1 b sz (yAdv b sz S)).1 (yPG b sz j (yAdv b sz S) G)).2 ∧ (yFk (yP1 b sz (yAdv b sz S)).1 = 0 → sz < yFr (yP1 b sz (yAdv b sz S)).1 + n) := by
      intro j hg
      have hf2 : yFk (yP1 b sz (yAdv b sz S)).1 = 0 → sz < yFr (yP1 b sz (yAdv b sz S)).1 + n := fun q => by
        have h1 := hf hg
        have h2 := (yP1_g (yAdv_ok h) q).2
        have h3 := yAdv_mo h (b := b)
        omega
      exact ⟨ySL_nest n _ _ (by omega) (yP1_ok (yAdv_ok h)) hf2, hf2⟩
    have okP := yP1_ok (b := b) (yAdv_ok (b := b) h)
    by_cases e23 : yIs b S 23 = true
    · obtain ⟨u1, u2⟩ := w1 e23
      obtain ⟨s1, s2⟩ := step 1 (yIs_g e23).1
      have eL : ySL b sz (n + 1) S G = ySL b sz n (yP1 b sz (yAdv b sz S)).1 (yPG b sz 1 (yAdv b sz S) G) := by
        rw [ySL, u1]; rfl
      have eM : yML b sz (n + 1) S G = (S, G) := by
        rw [yML, yIs_23 e23]; rfl
      rw [eL, eM]
      have eS : ySM b sz (n + 1) S G = ySM b sz n (yTm b sz 1 (yAdv b sz S) G).1 (yTm b sz 1 (yAdv b sz S) G).2 := by
        rw [ySM, u2]; rfl
      dsimp only
      rw [eS, s1]
      unfold yTm
      rw [yML_fu n (sz + 1) _ _ okP s2 (by omega)]
    · rw [Bool.not_eq_true] at e23
      by_cases e18 : yIs b S 18 = true
      · obtain ⟨u1, u2⟩ := w2 e23 e18
        obtain ⟨s1, s2⟩ := step 2 (yIs_g e18).1
        have eL : ySL b sz (n + 1) S G = ySL b sz n (yP1 b sz (yAdv b sz S)).1 (yPG b sz 2 (yAdv b sz S) G) := by
          rw [ySL, u1]; rfl
        have eM : yML b sz (n + 1) S G = (S, G) := by
          rw [yML, yIs_18 e18]; rfl
        rw [eL, eM]
        have eS : ySM b sz (n + 1) S G = ySM b sz n (yTm b sz 2 (yAdv b sz S) G).1 (yTm b sz 2 (yAdv b sz S) G).2 := by
          rw [ySM, u2]; rfl
        dsimp only
        rw [eS, s1]
        unfold yTm
        rw [yML_fu n (sz + 1) _ _ okP s2 (by omega)]
      · rw [Bool.not_eq_true] at e18
        have u0 := w3 e23 e18
        by_cases e31 : yIs b S 31 = true
        · have u1 := w4 e23 e18 e31
          obtain ⟨s1, s2⟩ := step 3 (yIs_g e31).1
          have eL : ySL b sz (n + 1) S G = ySL b sz n (yP1 b sz (yAdv b sz S)).1 (yPG b sz 3 (yAdv b sz S) G) := by
            rw [ySL, u1]; rfl
          have eM : yML b sz (n + 1) S G = yML b sz n (yP1 b sz (yAdv b sz S)).1 (yPG b sz 3 (yAdv b sz S) G) := by
            rw [yML, e31]; rfl
          rw [eL, eM, s1]
          refine (ySM_fu n (n + 1) _ _ (yML_ok _ _ _ okP) (fun q => ?_) (by omega)).symm
          have h1 := s2 (yML_gr _ _ _ q)
          have h2 := yML_mo (b := b) n (yP1 b sz (yAdv b sz S)).1 (yPG b sz 3 (yAdv b sz S) G) okP
          omega
        · rw [Bool.not_eq_true] at e31
          have u1 := w5 e23 e18 e31
          have eL : ySL b sz (n + 1) S G = (S, G) := by
            rw [ySL, u1]; rfl
          have eM : yML b sz (n + 1) S G = (S, G) := by
            rw [yML, e31]; rfl
          have eS : ySM b sz (n + 1) S G = (S, G) := by
            rw [ySM, u0]; rfl
          rw [eL, eM]
          exact eS.symm
theorem ySum_nest {j : Nat} (h : yOK sz S) : ySum b sz j S G = ySm b sz j S G := ySL_nest (sz + 1) _ _ (Nat.le_refl _) (yP1_ok h) (fun _ => by omega)
end SM0
/-! pictures under finer agreements -/
section SM1
variable {B : Nat → Prop} {z : ZH} {v v2 : Nat → Nat} {N : Nat}
/-- the parts up to N are the same -/
def agP (v v2 : Nat → Nat) (N : Nat) : Prop := ∀ i, 814 ≤ i → i < 814 + 3 * N → v2 i = v i
theorem agP_refl (v : Nat → Nat) (N : Nat) : agP v v N := fun _ _ _ => rfl
theorem agP_trans {v3 : Nat → Nat} {M : Nat} (h : agP v v2 N) (k : agP v2 v3 M) (hm : N ≤ M) : agP v v3 N := fun i h1 h2 => (k i h1 (by omega)).trans (h i h1 h2)
theorem agP_mono {M : Nat} (h : agP v v2 N) (hm : M ≤ N) : agP v v2 M := fun i h1 h2 => h i h1 (by omega)
theorem zLf.ap (h : agP v v2 N) {k r : Nat} (hk : k < N) (a : zLf B z v k r) : zLf B z v2 k r := by
  obtain ⟨a1, a2⟩ := a
  refine ⟨a1, ?_⟩
  rw [h _ (by omega) (by omega), h _ (by omega) (by omega)]
  exact a2
theorem zTm.ap (h : agP v v2 N) {s : Nat} : ∀ {n r : Nat}, s + n < N → zTm B z v s n r → zTm B z v2 s n r
  | 0, r, hk, a => zLf.ap h hk a
  | n + 1, r, hk, a => by
    obtain ⟨a1, a2, a3, x, y, ⟨b1, b2⟩, c1, c2⟩ := a
    exact ⟨a1, a2, a3, x, y, ⟨b1, zTm.ap h (by omega) b2⟩, c1, zLf.ap h (by omega) c2⟩
theorem zSm.ap (h : agP v v2 N) : ∀ {ts : List (Nat × Nat)} {r : Nat}, (∀ x, x ∈ ts → x.1 + x.2 < N) → zSm B z v ts r → zSm B z v2 ts r
  | [], r, _, a => a
  | [x], r, hk, a => zTm.ap h (hk x List.mem_cons_self) a
  | x :: y :: xs, r, hk, a => by
    obtain ⟨a1, a2, a3, a4, u, w, ⟨b1, b2⟩, c1, c2⟩ := a
    have hx := hk x List.mem_cons_self
    have e := h (814 + 3 * x.1) (by omega) (by omega)
    exact ⟨a1, a2, by rw [e]; exact a3, by rw [e]; exact a4, u, w, ⟨b1, zSm.ap h (fun q hq => hk q (List.mem_cons_of_mem _ hq)) b2⟩, c1, zTm.ap h hx c2⟩
/-- terms, the last first, from k up to e -/
def rLay (v : Nat → Nat) (k : Nat) : List (Nat × Nat) → Nat → Prop
  | [], e => e = k
  | (s, n) :: xs, e => e = s + n + 1 ∧ ¬ v (814 + 3 * s) = 3 ∧ (∀ j, j < n → v (814 + 3 * (s + 1 + j)) = 3) ∧ rLay v k xs s
theorem rLay_le {k : Nat} : ∀ (a : List (Nat × Nat)) (e : Nat), rLay v k a e → k ≤ e ∧ ∀ x, x ∈ a → x.1 + x.2 < e
  | [], e, h => ⟨by have h : e = k := h; omega, fun x hx => absurd hx List.not_mem_nil⟩
  | (s, n) :: xs, e, h => by
    obtain ⟨h1, h2, h3, h4⟩ := h
    obtain ⟨g1, g2⟩ := rLay_le xs s h4
    refine ⟨by omega, fun x hx => ?_⟩
    rcases List.mem_cons.mp hx with rfl | hx
    · dsimp only; omega
    · have := g2 x hx; omega
theorem rLay_ap {k : Nat} (h : agP v v2 N) : ∀ (a : List (Nat × Nat)) (e : Nat), e ≤ N → rLay v k a e → rLay v2 k a e
  | [], e, _, a => a
  | (s, n) :: xs, e, he, a => by
    obtain ⟨h1, h2, h3, h4⟩ := a
    refine ⟨h1, by rw [h _ (by omega) (by omega)]; exact h2, fun j hj => by rw [h _ (by omega) (by omega)]; exact h3 j hj, rLay_ap h xs s (by omega) h4⟩
theorem rLay_t {k E : Nat} : ∀ (a ts : List (Nat × Nat)) (e : Nat), rLay v k a e → e ≤ E → tLay v E ts e → tLay v E (a.reverse ++ ts) k
  | [], ts, e, h, he, ht => by
    have h : e = k := h
    subst h
    exact ht
  | (s, n) :: xs, ts, e, h, he, ht => by
    obtain ⟨h1, h2, h3, h4⟩ := h
    subst h1
    rw [List.reverse_cons, List.append_assoc]
    exact rLay_t xs ((s, n) :: ts) s h4 (by omega) ⟨rfl, by omega, h2, h3, ht⟩
theorem rLay_len {k : Nat} : ∀ (a : List (Nat × Nat)) (e : Nat), rLay v k a e → a.length + k ≤ e
  | [], e, h => by have h : e = k := h; rw [h]; simp
  | (s, n) :: xs, e, h => by
    obtain ⟨h1, h2, h3, h4⟩ := h
    have := rLay_len xs s h4
    rw [List.length_cons]; omega
end SM1
/-! heaps that are the same -/
theorem zH_ext {a b : ZH} (h1 : zcls a = zcls b) (h2 : zfi a = zfi b) (h3 : zfr a = zfr b) (h4 : zia a = zia b) (h5 : zla a = zla b) (h6 : zra a = zra b) (h7 : zlen a = zlen b) (h8 : zls a = zls b) (h9 : zown a = zown b) (h10 : zn a = zn b) (h11 : zuc a = zuc b) (h12 : zus a = zus b) : a = b := by
  obtain ⟨a1, a2, a3, a4, a5, a6, a7, a8, a9, a10, a11, a12⟩ := a
  obtain ⟨b1, b2, b3, b4, b5, b6, b7, b8, b9, b10, b11, b12⟩ := b
  have h1 : a1 = b1 := h1
  have h2 : a2 = b2 := h2
  have h3 : a3 = b3 := h3
  have h4 : a4 = b4 := h4
  have h5 : a5 = b5 := h5
  have h6 : a6 = b6 := h6
  have h7 : a7 = b7 := h7
  have h8 : a8 = b8 := h8
  have h9 : a9 = b9 := h9
  have h10 : a10 = b10 := h10
  have h11 : a11 = b11 := h11
  have h12 : a12 = b12 := h12
  subst h1; subst h2; subst h3; subst h4; subst h5; subst h6; subst h7; subst h8; subst h9; subst h10; subst h11; subst h12
  rfl
section CQ2
variable {z : ZH} {R : Nat} {S : YS}
theorem fi_cPj {j : Nat} : zfi (cP z R S) R j = if j = 7 then nI (yAt S) else if j = 8 then nI (yFr S) else if j = 9 then nI (yTk S) else if j = 10 then nI (yFr S) else if j = 11 then nI (yVc S) else zfi z R j := fi_cQ
theorem cP_snew (hn : R < zn z) {c N : Nat} : snew (cP z R S) c N = cP (snew z c N) R S := by
  refine zH_ext rfl ?_ rfl rfl rfl rfl rfl rfl rfl rfl rfl rfl
  funext q
  rw [fi_snew, n_cP]
  by_cases h1 : q = R
  · subst h1
    rw [zu1_n _ _ _ (by omega)]
    funext j
    rw [fi_cPj, fi_cPj, fi_snew, zu1_n _ _ _ (by omega)]
  · rw [fi_cPn h1, fi_snew]
    by_cases h2 : q = zn z
    · subst h2
      rw [zu1_s, zu1_s]
    · rw [zu1_n _ _ _ h2, zu1_n _ _ _ h2, fi_cPn h1]
theorem cP_sfi {q k : Nat} {x : Int32} (h : ¬ q = R) : sfi (cP z R S) q k x = cP (sfi z q k x) R S := by
  refine zH_ext rfl ?_ rfl rfl rfl rfl rfl rfl rfl rfl rfl rfl
  funext p
  by_cases h1 : p = R
  · subst h1
    funext j
    rw [fi_sfi, zu2_n _ _ _ _ (fun e => h e.symm), fi_cPj, fi_cPj, fi_sfi, zu2_n _ _ _ _ (fun e => h e.symm)]
  · rw [fi_cPn h1, fi_sfi, fi_sfi]
    funext j
    by_cases h2 : p = q ∧ j = k
    · obtain ⟨rfl, rfl⟩ := h2
      rw [zu2_s, zu2_s]
    · unfold zu2
      rw [if_neg h2, if_neg h2, fi_cPn h1]
theorem cP_sfr {q k : Nat} {x : Value} : sfr (cP z R S) q k x = cP (sfr z q k x) R S := rfl
theorem cP_sia {q k : Nat} {x : Int32} : sia (cP z R S) q k x = cP (sia z q k x) R S := rfl
theorem cP_sls {q : Nat} {x : List Value} : sls (cP z R S) q x = cP (sls z q x) R S := rfl
theorem cP_slin {q N : Nat} : slin (cP z R S) q N = cP (slin z q N) R S := rfl
theorem cP_sgro {q N : Nat} : sgro (cP z R S) q N = cP (sgro z q N) R S := rfl
theorem cP_sladd {q : Nat} {x : Value} : sladd (cP z R S) q x = cP (sladd z q x) R S := by
  unfold sladd
  have e : zdat (cP z R S) q = zdat z q := rfl
  rw [ls_cP, len_cP, e]
  split <;> rfl
theorem fi_cP (q : Nat) (h : ¬ q = R) : zfi (cP z R S) q = zfi z q := fi_cPn h
end CQ2
