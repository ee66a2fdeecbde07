set_option maxRecDepth 100000
/-! the component's reader: a town in the making -/
section XP
variable {B : Nat → Prop} {z : ZH} {v v2 : Nat → Nat} {N : Nat}
theorem tLay_ap {E : Nat} (h : agP v v2 N) (hE : E ≤ N) : ∀ (ts : List (Nat × Nat)) (k : Nat), tLay v E ts k → tLay v2 E ts k
  | [], k, a => a
  | (s, n) :: xs, k, a => by
    obtain ⟨h1, h2, h3, h4, h5⟩ := a
    exact ⟨h1, h2, by rw [h _ (by omega) (by omega)]; exact h3, fun j hj => by rw [h _ (by omega) (by omega)]; exact h4 j hj, tLay_ap h hE xs _ h5⟩
theorem hdJ.ap (h : agP v v2 N) {j : Nat} {a : List (Nat × Nat)} (hin : ∀ x, x ∈ a → x.1 + x.2 < N) (k : hdJ v j a) : hdJ v2 j a := by
  obtain ⟨x, xs, h1, h2⟩ := k
  have hx := hin x (List.mem_reverse.mp (by rw [h1]; exact List.mem_cons_self))
  exact ⟨x, xs, h1, by rw [h _ (by omega) (by omega)]; exact h2⟩
theorem zTs.ap (h : agP v v2 N) {ts : List (Nat × Nat)} {t r : Nat} (ht : v2 (274 + 3 * t) = v (274 + 3 * t)) (hin : ∀ x, x ∈ ts → x.1 + x.2 < N) (k : zTs B z v ts t r) : zTs B z v2 ts t r := by
  obtain ⟨a1, a2, a3, a4, p, q, a, b, ⟨b1, b2⟩, ⟨c1, c2⟩, d1, d2, d3⟩ := k
  have ha : ∀ x, x ∈ a → x.1 + x.2 < N := fun x hx => hin x (by rw [d1]; exact List.mem_append_left _ (List.mem_reverse.mpr hx))
  have hb : ∀ x, x ∈ b → x.1 + x.2 < N := fun x hx => hin x (by rw [d1]; exact List.mem_append_right _ (List.mem_reverse.mpr hx))
  exact ⟨a1, a2, by rw [ht]; exact a3, by rw [ht]; exact a4, p, q, a, b, ⟨b1, b2.ap h ha⟩, ⟨c1, c2.ap h hb⟩, d1, d2.ap h ha, d3.ap h hb⟩
theorem zRl.ap (h : agP v v2 N) {L L2 : Nat → List (Nat × Nat)} {l r T : Nat} (hv : ∀ j, j < 5 → v2 (154 + 5 * l + j) = v (154 + 5 * l + j)) (ht : ∀ t, t < T → v2 (274 + 3 * t) = v (274 + 3 * t) ∧ L2 t = L t ∧ ∀ x, x ∈ L t → x.1 + x.2 < N) (hT : v (154 + 5 * l + 3) + v (154 + 5 * l + 4) ≤ T) (k : zRl B z v L l r) : zRl B z v2 L2 l r := by
  obtain ⟨a1, a2, a3, a4, a5, tl, ta, a6, a7⟩ := k
  have v0 := hv 0 (by omega)
  rw [Nat.add_zero] at v0
  refine ⟨a1, a2, by rw [v0]; exact a3, by rw [hv 1 (by omega)]; exact a4, by rw [hv 2 (by omega)]; exact a5, tl, ta, by rw [hv 4 (by omega)]; exact a6, ?_⟩
  rw [hv 4 (by omega), hv 3 (by omega)]
  intro j hj
  obtain ⟨b1, b2⟩ := a7 j hj
  obtain ⟨t1, t2, t3⟩ := ht (v (154 + 5 * l + 3) + j) (by omega)
  rw [t2]
  exact ⟨b1, b2.ap h t1 t3⟩
end XP
section XQ
variable {b : Nat → Nat} {sz : Nat} {S : YS} {G : Nat → Nat} {L : Nat → List (Nat × Nat)}
/-- kinds of parts stay kinds -/
theorem pOK_P {j : Nat} (h : pOK G) : pOK (yPG b sz j S G) := by
  intro k hk
  have hle : yPK b S ≤ 5 := yWh_le [17, 29, 7, 6, 15]
  by_cases g : yFk (yP1 b sz S).1 = 0
  · rw [yPG_3, if_pos g] at hk
    by_cases c : k = G 3
    · rw [c, (yPG_f g).2.1]; exact hle
    · rw [yPG_n (by omega) (Or.inl (by omega))]
      exact h k (by omega)
  · have e : yPG b sz j S G = G := if_neg g
    rw [e] at hk ⊢
    exact h k hk
theorem pOK_SL : ∀ (n : Nat) (S : YS) (G : Nat → Nat), pOK G → pOK (ySL b sz n S G).2
  | 0, S, G, h => h
  | n + 1, S, G, h => by
    unfold ySL
    split
    · exact pOK_SL n _ _ (pOK_P h)
    · exact h
theorem pOK_S {j : Nat} (h : pOK G) : pOK (ySum b sz j S G).2 := pOK_SL _ _ _ (pOK_P h)
theorem pOK_z {k x : Nat} (h : pOK G) (hk : ¬ k = 3) (hk2 : k < 814) : pOK (zu1 G k x) := by
  intro i hi
  rw [zu1_n _ _ _ (by omega)] at hi
  rw [zu1_n _ _ _ (by omega)]
  exact h i hi
theorem pOK_T (h2 : G 2 < 180) (h : pOK G) : pOK (yTG b sz S G) := by
  have h3 : pOK (yT3 b sz S G).2 := by
    unfold yT3
    split
    · exact pOK_S (pOK_S h)
    · exact pOK_S h
  unfold yTG
  split
  · exact pOK_z (pOK_z (pOK_z (pOK_z h3 (by omega) (by omega)) (by omega) (by omega)) (by omega) (by omega)) (by omega) (by omega)
  · exact h3
/-- tests are as they may be -/
def TI (G : Nat → Nat) (L : Nat → List (Nat × Nat)) : Prop := ∀ t, t < G 2 → tLay G (G (274 + 3 * t + 1) + G (274 + 3 * t + 2)) (L t) (G (274 + 3 * t + 1)) ∧ G (274 + 3 * t + 1) + G (274 + 3 * t + 2) ≤ G 3 ∧ (L t).length ≤ 350
theorem TI.lt (h : TI G L) {t : Nat} (ht : t < G 2) : ∀ x, x ∈ L t → x.1 + x.2 < G 3 := by
  intro x hx
  obtain ⟨h1, h2, _⟩ := h t ht
  have := tLay_mem _ _ h1 x hx
  omega
/-- one more test -/
theorem TI_T (h2 : G 2 < 180) (h : TI G L) (hS : yOK sz S) (hg : yFk (yT3 b sz S G).1 = 0) {a c : List (Nat × Nat)} (ha : rLay (yT1 b sz S G).2 (G 3) a ((yT1 b sz S G).2 3)) (hc : rLay (yT3 b sz S G).2 ((yT1 b sz S G).2 3) c ((yT3 b sz S G).2 3)) (hag : agP (yT1 b sz S G).2 (yT3 b sz S G).2 ((yT1 b sz S G).2 3)) (h350 : (yT3 b sz S G).2 3 ≤ 350) : TI (yTG b sz S G) (fun t => if t = G 2 then a.reverse ++ c.reverse else L t) ∧ agP G (yTG b sz S G) (G 3) := by
  have nn := yT3_n (b := b) (sz := sz) (S := S) (G := G)
  have ag3 : agP G (yT3 b sz S G).2 (G 3) := fun i h1 h2 => nn.2 i (by omega) (by omega)
  have eG : yTG b sz S G = zu1 (zu1 (zu1 (zu1 (yT3 b sz S G).2 (274 + 3 * G 2) (yTs b sz S G)) (274 + 3 * G 2 + 1) (G 3)) (274 + 3 * G 2 + 2) ((yT3 b sz S G).2 3 - G 3)) 2 (G 2 + 1) := if_pos hg
  have hi : ∀ i, ¬ i = 2 → (i < 274 + 3 * G 2 ∨ 277 + 3 * G 2 ≤ i) → yTG b sz S G i = (yT3 b sz S G).2 i := fun i h1 h2 => by
    rw [eG, zu1_n _ _ _ h1, zu1_n _ _ _ (by omega), zu1_n _ _ _ (by omega), zu1_n _ _ _ (by omega)]
  have ag4 : agP (yT3 b sz S G).2 (yTG b sz S G) ((yT3 b sz S G).2 3) := fun i h1 h2 => hi i (by omega) (by omega)
  have agG : agP G (yTG b sz S G) (G 3) := agP_trans ag3 ag4 nn.1
  refine ⟨?_, agG⟩
  have e2 : yTG b sz S G 2 = G 2 + 1 := by rw [eG, zu1_s]
  have e3 : yTG b sz S G 3 = (yT3 b sz S G).2 3 := hi 3 (by omega) (by omega)
  intro t ht
  rw [e2] at ht
  rw [e3]
  by_cases c1 : t = G 2
  · subst c1
    have f1 : yTG b sz S G (274 + 3 * G 2 + 1) = G 3 := by
      rw [eG, zu1_n _ _ _ (by omega), zu1_n _ _ _ (by omega), zu1_s]
    have f2 : yTG b sz S G (274 + 3 * G 2 + 2) = (yT3 b sz S G).2 3 - G 3 := by
      rw [eG, zu1_n _ _ _ (by omega), zu1_s]
    rw [f1, f2]
    dsimp only
    rw [if_pos rfl, show G 3 + ((yT3 b sz S G).2 3 - G 3) = (yT3 b sz S G).2 3 by have := nn.1; omega]
    have l1 := rLay_ap hag a _ (Nat.le_refl _) ha
    have l2 := rLay_ap ag4 a _ (rLay_le c _ hc).1 l1
    have l3 := rLay_ap ag4 c _ (Nat.le_refl _) hc
    have t1 := rLay_t c [] _ l3 (Nat.le_refl _) rfl
    rw [List.append_nil] at t1
    have t2 := rLay_t a c.reverse _ l2 (rLay_le c _ hc).1 t1
    have n1 := rLay_len a _ ha
    have n2 := rLay_len c _ hc
    refine ⟨t2, Nat.le_refl _, ?_⟩
    rw [List.length_append, List.length_reverse, List.length_reverse]
    omega
  · have ht2 : t < G 2 := by omega
    obtain ⟨h1, h3, h4⟩ := h t ht2
    dsimp only
    rw [if_neg c1]
    have f1 : yTG b sz S G (274 + 3 * t + 1) = G (274 + 3 * t + 1) := by rw [hi _ (by omega) (by omega), nn.2 _ (by omega) (by omega)]
    have f2 : yTG b sz S G (274 + 3 * t + 2) = G (274 + 3 * t + 2) := by rw [hi _ (by omega) (by omega), nn.2 _ (by omega) (by omega)]
    rw [f1, f2]
    exact ⟨tLay_ap agG h3 _ _ h1, by have := nn.1; omega, h4⟩
/-- the whole pure picture of a town in the making -/
def GI (G : Nat → Nat) (L : Nat → List (Nat × Nat)) : Prop := wT G ∧ cOK G L ∧ ∀ t, t < G 2 → (L t).length ≤ 350
theorem GI.ti (h : GI G L) : TI G L := fun t ht => ⟨(h.2.1.2.2.2.2.2 t ht).1, (h.2.1.2.2.2.2.2 t ht).2, h.2.2 t ht⟩
theorem yOG_TI (h1 : G 1 < 24) (h : GI G L) : TI (yOG b sz S G) L ∧ pOK (yOG b sz S G) := by
  have ht := h.ti
  have e := fun q hq => yOG_n (b := b) (sz := sz) (S := S) (G := G) q hq
  have h180 := h.2.1.2.1
  refine ⟨?_, ?_⟩
  · intro t h2
    rw [e 2 (by omega)] at h2
    obtain ⟨a1, a2, a3⟩ := ht t h2
    rw [e (274 + 3 * t + 1) (by omega), e (274 + 3 * t + 2) (by omega), e 3 (by omega)]
    exact ⟨tLay_ap (N := G 3) (fun i _ _ => e i (by omega)) a2 _ _ a1, a2, a3⟩
  · intro k hk
    rw [e 3 (by omega)] at hk
    rw [e _ (by omega)]
    exact h.2.1.2.2.2.1 k hk
end XQ
/-- cells behind the new town's own -/
def Bn (R : Nat) (z : ZH) (q : Nat) : Prop := R + 11 ≤ q ∧ q < zn z
/-- the new town's cells that are written -/
def TW (R q : Nat) : Prop := q = R + 5 ∨ q = R + 6 ∨ q = R + 8 ∨ q = R + 9
/-- the town in the making -/
def CT (z : ZH) (R : Nat) (G : Nat → Nat) (L : Nat → List (Nat × Nat)) : Prop :=
  ((zcls z (R + 5) = 2 ∧ zfr z (R + 5) 0 = .ref (R + 6) ∧ zcls z (R + 6) = 90 ∧ zfr z (R + 5) 1 = .ref (R + 8) ∧ zcls z (R + 8) = 50 ∧ zlen z (R + 8) = 16 ∧ zfr z (R + 5) 2 = .ref (R + 9) ∧ zcls z (R + 9) = 90) ∧ zfi z (R + 5) 3 = nI (G 4) ∧ zfi z (R + 5) 4 = nI (G 5)) ∧
  ((zls z (R + 6)).length = G 0 ∧ ∀ h, h < G 0 → ∃ q : Nat, (zls z (R + 6)).getD h .null = .ref q ∧ Bn R z q ∧ zcls z q = 21 ∧ ∀ j, j < 8 → zfi z q j = nI (G (10 + 9 * h + j))) ∧
  (∀ h, h < 16 → zia z (R + 8) h = nI (G (10 + 9 * h + 8))) ∧
  ((zls z (R + 9)).length = G 1 ∧ ∀ l, l < G 1 → ∃ q : Nat, (zls z (R + 9)).getD l .null = .ref q ∧ zRl (Bn R z) z G L l q)
theorem CT.fn {z z' : ZH} {R : Nat} {G : Nat → Nat} {L : Nat → List (Nat × Nat)} (h : FN z z') (hn : R + 11 ≤ zn z) (k : CT z R G L) : CT z' R G L := by
  obtain ⟨⟨⟨a1, a2, a3, a4, a5, a6, a7, a8⟩, a9, a10⟩, ⟨b1, b2⟩, c, e1, e2⟩ := k
  have st : zSt (Bn R z) z z' := h.st (fun q hq => hq.2)
  have mo : ∀ q, Bn R z q → Bn R z' q := fun q hq => ⟨hq.1, by have := h.1; have := hq.2; omega⟩
  obtain ⟨p1, p2, p3, p4, p5, p6, p7, p8⟩ := h.2 (R + 5) (by omega) (fun q => q)
  obtain ⟨q1, q2, q3, q4, q5, q6, q7, q8⟩ := h.2 (R + 6) (by omega) (fun q => q)
  obtain ⟨r1, r2, r3, r4, r5, r6, r7, r8⟩ := h.2 (R + 8) (by omega) (fun q => q)
  obtain ⟨s1, s2, s3, s4, s5, s6, s7, s8⟩ := h.2 (R + 9) (by omega) (fun q => q)
  refine ⟨⟨⟨by rw [p1]; exact a1, by rw [p3]; exact a2, by rw [q1]; exact a3, by rw [p3]; exact a4, by rw [r1]; exact a5, by rw [r7]; exact a6, by rw [p3]; exact a7, by rw [s1]; exact a8⟩, by rw [p2]; exact a9, by rw [p2]; exact a10⟩, ⟨by rw [q8]; exact b1, fun x hx => ?_⟩, fun x hx => by rw [r4]; exact c x hx, by rw [s8]; exact e1, fun l hl => ?_⟩
  · obtain ⟨q, u1, u2, u3, u4⟩ := b2 x hx
    obtain ⟨w1, w2, _⟩ := st q u2
    exact ⟨q, by rw [q8]; exact u1, mo q u2, by rw [w1]; exact u3, fun j hj => by rw [w2]; exact u4 j hj⟩
  · obtain ⟨q, u1, u2⟩ := e2 l hl
    exact ⟨q, by rw [s8]; exact u1, (u2.st st).mono mo⟩
