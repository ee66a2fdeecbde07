set_option maxRecDepth 100000
/-! beside: one deed done again -/
section BD8
variable {d : Nat} {B : Nat → Prop} {z : ZH} {Q : ZQ} {v u : Nat → Nat} {L LI : Nat → List (Nat × Nat)} {t hl kn rl : Nat} {ha ra : Nat → Nat}
/-- the ledger l, i deeds done again: as x says -/
def bsP (B : Nat → Prop) (z zi : ZH) (l t rl : Nat) (Bi : Nat → Prop) (dai : Nat → Nat) (x : Nat → Nat) (i : Nat) : Prop := FN z zi ∧ LdS zi l ∧ zfr zi l 0 = .ref t ∧ zfr zi l 1 = .ref rl ∧ (∀ q, B q → Bi q) ∧ (∀ q, Bi q → 100 ≤ q ∧ q < zn zi ∧ (B q ∨ l + 5 ≤ q)) ∧ RDe Bi zi l dai x ∧ RKn zi l x ∧ l + 5 ≤ zn zi ∧ (zuc z ≤ zuc zi ∧ zuc zi ≤ zuc z + 5 + 2 * i) ∧ (zus z ≤ zus zi ∧ zus zi + 32 ≤ zus z + 39 + 5 * i + 4 * capL zi (l + 2)) ∧ capL zi (l + 2) ≤ 1201
/-- a paying done again -/
theorem bsP_s {zi : ZH} {Bi : Nat → Prop} {dai x : Nat → Nat} {i a b p y pq : Nat} (hP : bsP B z zi (zn z) t rl Bi dai x i) (hH : RHo B z t hl kn ha v) (hR : RRu B z rl ra u LI) (hB : ∀ q, B q → 100 ≤ q ∧ q < zn z) (hz : 162 ≤ zn z) (hv : ∀ j, j = 0 ∨ j = 4 ∨ j = 5 ∨ (10 ≤ j ∧ j < 154) → x j = v j) (hu : ∀ j, (1 ≤ j ∧ j ≤ 3) ∨ (154 ≤ j ∧ j < 1864) → x j = u j) (hW : wB x) (hLl : ∀ t, t < u 2 → (LI t).length ≤ 350) (hd : 1010 ≤ d) (ha' : a < x 0) (hb' : b < x 0) (hab : ¬ a = b) (hp : p < 4) (hy : y ≤ 399) (h7 : x 7 < 600) (hpq : zcls zi pq = 6 + p) (hpz : pq < zn zi)
    (H : ∀ z2 B2 da2, bsP B z z2 (zn z) t rl B2 da2 (sGoes x LI a b p y).1 (i + 1) → Q (.inl (some (.int (nI (sGoes x LI a b p y).2)))) z2) : ZC zG d 69 [.ref (zn z), .int (nI a), .int (nI b), .ref pq, .int (nI y)] zi Q := by
  obtain ⟨F, hL, h0, h1, mB, bB, hD, hK, hn, ⟨u1, u2⟩, ⟨w1, w2⟩, cp⟩ := hP
  have st : zSt B z zi := F.st (fun q hq => (hB q hq).2)
  have hH2 := RHo_low hv ((hH.st st).mono mB)
  have hR2 := RRu_mid hu ((hR.st st).mono mB)
  have x2 := hu 2 (by omega)
  refine c69 hL h0 h1 hH2 hR2 hD hK (fun q w hq => ?_) (fun q hq => ⟨(bB q hq).1, (bB q hq).2.1⟩) (by omega) (by omega) hW (fun t ht => hLl t (by omega)) hd ha' hb' hab hp hy h7 hpq hpz (fun z2 B2 da2 hL2 _ => ?_)
  · obtain ⟨q1, q2, q3⟩ := bB q hq
    unfold LdW at w
    rcases q3 with q3 | q3
    · have := (hB q q3).2; omega
    · omega
  · obtain ⟨l1, l2, l3, l4, l5, l6, l7, ⟨l8, l9⟩, ⟨m1, m2⟩, m3, m4, m5⟩ := hL2
    have n2 := l1.1
    refine H z2 B2 da2 ⟨zFr_tr F l1 (fun q hq w => by unfold LdW at w; omega), l2, by rw [l3]; exact h0, by rw [l3]; exact h1, fun q hq => l4 q (mB q hq), fun q hq => ?_, l6, l7, by omega, ⟨by omega, by omega⟩, ⟨by omega, by omega⟩, by omega⟩
    obtain ⟨q1, q2, q3⟩ := l5 q hq
    refine ⟨q1, q2, ?_⟩
    rcases q3 with q3 | q3
    · exact (bB q q3).2.2
    · exact Or.inr (by omega)
end BD8
