set_option maxRecDepth 100000
/-! beside: a meeting done again -/
section BE8
variable {d : Nat} {B : Nat → Prop} {z : ZH} {Q : ZQ} {v u : Nat → Nat} {L LI : Nat → List (Nat × Nat)} {t rl : Nat}
theorem bsP_m {zi : ZH} {Bi : Nat → Prop} {dai x : Nat → Nat} {i a b y : Nat} (hP : bsP B z zi (zn z) t rl Bi dai x i) (hB : ∀ q, B q → 100 ≤ q ∧ q < zn z) (ha : a < 16) (hb : b < 16) (hab : ¬ a = b)
    (H : ∀ z2 B2 da2, bsP B z z2 (zn z) t rl B2 da2 (sGoes x LI a b 4 y).1 (i + 1) → Q (.inl none) z2) : ZC zG d 73 [.ref (zn z), .int (nI a), .int (nI b)] zi Q := by
  obtain ⟨F, hL, h0, h1, mB, bB, hD, hK, hn, ⟨u1, u2⟩, ⟨w1, w2⟩, cp⟩ := hP
  rw [c73 hL hK ha hb hab]
  have eg : (sGoes x LI a b 4 y).1 = sMeets x a b := by
    unfold sGoes
    rw [if_pos rfl]
  rw [eg] at H
  have hK2 := RKn_meets hK ha hb hab
  have F2 : FN z (sia (sia zi (zn z + 1) a (nI (x (1864 + a) ||| 2 ^ b))) (zn z + 1) b (nI (x (1864 + b) ||| 2 ^ a))) := zFr_sia (zFr_sia F (Or.inl (by omega))) (Or.inl (by omega))
  have nb : ∀ q, Bi q → ¬ q = zn z + 1 := fun q hq e => by
    obtain ⟨_, _, q3⟩ := bB q hq
    rcases q3 with q3 | q3
    · have := (hB q q3).2; omega
    · omega
  have e7 : sMeets x a b 7 = x 7 := sMeets_0 (by omega) ha hb
  refine H _ Bi dai ⟨F2, hL, h0, h1, mB, bB, ⟨by rw [e7]; exact hD.1, by rw [e7]; exact hD.2.1, fun j hj => ?_⟩, hK2, hn, ⟨u1, by show zuc zi ≤ _; omega⟩, ⟨w1, by show zus zi + 32 ≤ zus z + 39 + 5 * (i + 1) + 4 * capL zi (zn z + 2); omega⟩, cp⟩
  rw [e7] at hj
  obtain ⟨y1, y2, y3, y4⟩ := hD.2.2 j hj
  exact ⟨y1, y2, y3, fun k hk => by rw [sMeets_0 (by omega) ha hb]; exact y4 k hk⟩
theorem CS_pay (h0 : CS z) {p : Nat} (hp : p < 4) : zra z 117 p = .ref (118 + p) ∧ zcls z (118 + p) = 6 + p := by
  unfold CS at h0
  match p, hp with
  | 0, _ => exact ⟨by simp only [h0, Nat.add_zero], by simp only [h0, Nat.add_zero]⟩
  | 1, _ => exact ⟨by simp only [h0, Nat.reduceAdd], by simp only [h0, Nat.reduceAdd]⟩
  | 2, _ => exact ⟨by simp only [h0, Nat.reduceAdd], by simp only [h0, Nat.reduceAdd]⟩
  | 3, _ => exact ⟨by simp only [h0, Nat.reduceAdd], by simp only [h0, Nat.reduceAdd]⟩
end BE8
