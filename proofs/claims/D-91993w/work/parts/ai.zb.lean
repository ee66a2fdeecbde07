set_option maxRecDepth 100000
/-! the relation across calls -/
section AI
/-- cells that may not be written: where they lie, towns among them -/
def BK (B : Nat → Prop) (lab : Nat → Nat) (z : ZH) : Prop := ∀ q, B q → lab q = 1 ∧ ((103 ≤ q ∧ q ≤ 108) ∨ 162 ≤ q) ∧ q < zn z ∧ (zcls z q = 2 → zfr z q 1 = .ref (q + 3) ∧ q + 4 < zn z)
def cIM (B : Nat → Prop) (lab : Nat → Nat) (hs : Nat → Bool) (vI : Nat → Nat → Nat) (LI : Nat → Nat → List (Nat × Nat)) (z : ZH) : Prop := ∀ k, k < 3 → (hs k = false ∧ zra z 116 k = .null) ∨ (hs k = true ∧ ∃ s : Nat, zra z 116 k = .ref s ∧ 162 ≤ s ∧ s + 14 ≤ zn z ∧ RS B z s (vI k) (LI k) ∧ ∀ q, s ≤ q → q < s + 14 → lab q = 2 + k)
def cSL (lab : Nat → Nat) (hd : Nat → Bool) (sn sw : Nat → Nat) (sv : Nat → Nat → Int64) (z : ZH) : Prop := ∀ j, j < 4 → (hd j = false ∧ zfr z (131 + j) 0 = .null) ∨ (hd j = true ∧ ∃ q : Nat, zfr z (131 + j) 0 = .ref q ∧ 162 ≤ q ∧ q < zn z ∧ lab q = 5 + j ∧ zcls z q = zwk (nI (sw j)) ∧ zlen z q = sn j ∧ ∀ i, i < sn j → slV z q i = sv j i)
def cFe (tp : Nat) (tb : Nat → Int32) (fk fp : Int32) (z : ZH) : Prop := zfi z 100 6 = nI tp ∧ (∀ k, k < 1400 → zia z 127 k = tb k) ∧ zfi z 100 7 = fk ∧ zfi z 100 8 = fp
def CR (B : Nat → Prop) (lab : Nat → Nat) (v : Nat → Nat) (L : Nat → List (Nat × Nat)) (hs : Nat → Bool) (vI : Nat → Nat → Nat) (LI : Nat → Nat → List (Nat × Nat)) (tp : Nat) (tb : Nat → Int32) (fk fp : Int32) (hd : Nat → Bool) (sn sw : Nat → Nat) (sv : Nat → Nat → Int64) (z : ZH) : Prop :=
  162 ≤ zn z ∧ CS z ∧ RS B z 102 v L ∧ BK B lab z ∧ cIM B lab hs vI LI z ∧ cSL lab hd sn sw sv z ∧ cFe tp tb fk fp z
def mIM (hs : Nat → Bool) (vI : Nat → Nat → Nat) (z : ZH) : Prop := ∀ k, k < 3 → (hs k = false ∧ zia z 138 k = 0) ∨ (hs k = true ∧ zia z 138 k = 1 ∧ ∀ i, i < 9080 → zia z 137 (9080 * k + i) = nI (vI k i))
def mSL (hd : Nat → Bool) (sn sw : Nat → Nat) (sv : Nat → Nat → Int64) (z : ZH) : Prop := ∀ j, j < 4 → (hd j = false ∧ zia z 158 j = -1) ∨ (hd j = true ∧ zia z 158 j = nI (sn j) ∧ zia z 159 j = nI (sw j) ∧ ∀ i, i < 60 → zla z 160 (60 * j + i) = sv j i)
def mFe (tp : Nat) (tb : Nat → Int32) (fk fp : Int32) (z : ZH) : Prop := zfi z 135 5 = nI tp ∧ (∀ k, k < 1400 → zia z 139 k = tb k) ∧ zfi z 135 12 = fk ∧ zfi z 135 13 = fp ∧ ∃ x, x < 10000 ∧ zfi z 135 11 = nI x
def MR (v : Nat → Nat) (hs : Nat → Bool) (vI : Nat → Nat → Nat) (tp : Nat) (tb : Nat → Int32) (fk fp : Int32) (hd : Nat → Bool) (sn sw : Nat → Nat) (sv : Nat → Nat → Int64) (z : ZH) : Prop :=
  MS z ∧ (∀ i, zia z 136 i = nI (v i)) ∧ mIM hs vI z ∧ mSL hd sn sw sv z ∧ mFe tp tb fk fp z
def wOK (v : Nat → Nat) (L : Nat → List (Nat × Nat)) (K : Nat) : Prop := WF v L K ∧ ∀ t, t < v 2 → (L t).length ≤ 350
def WP (K : Nat) (v : Nat → Nat) (L : Nat → List (Nat × Nat)) (hs : Nat → Bool) (vI : Nat → Nat → Nat) (LI : Nat → Nat → List (Nat × Nat)) (tp : Nat) (tb : Nat → Int32) (hd : Nat → Bool) (sn sw : Nat → Nat) (sv : Nat → Nat → Int64) : Prop :=
  wOK v L K ∧ (∀ k, k < 3 → hs k = true → wOK (vI k) (LI k) K) ∧ (tp ≤ 1400 ∧ ∀ k, k < 1400 → ∃ b, b < 256 ∧ tb k = sb b) ∧ ∀ j, j < 4 → hd j = true → sn j ≤ 60 ∧ sw j < 4 ∧ ∀ y, y < sn j → cutL (sv j y) (nI (sw j)) = sv j y
def scr (sc : Nat → Int32) (n : Nat) (z : ZH) : Prop := zcls z 99 = 49 ∧ zlen z 99 = n ∧ zia z 99 = sc
def Rel (sc : Nat → Int32) (n j : Nat) (z : ZH) : Prop := ∃ v L hs vI LI tp tb fk fp hd sn sw sv, (∃ B lab, CR B lab v L hs vI LI tp tb fk fp hd sn sw sv z) ∧ MR v hs vI tp tb fk fp hd sn sw sv z ∧ WP (12000 * j) v L hs vI LI tp tb hd sn sw sv ∧ scr sc n z ∧ zuc z ≤ 384 + 18000 * j ∧ zus z ≤ 435000 + 79000 * j
/-- a call of the component and one of the model, one behind the other, answer alike -/
def Pr (sc : Nat → Int32) (n j ck mk : Nat) (xs : List Value) : Prop := ∀ (z : ZH) (Q : ZQ), Rel sc n j z → (∀ (r : Int32) (z1 : ZH), zcls z1 135 = 12 → scr sc n z1 → (∀ Q2 : ZQ, (∀ z2, Rel sc n (j + 1) z2 → Q2 (.inl (some (.int r))) z2) → ZC zG 1500 mk (.ref 135 :: xs) z1 Q2) → Q (.inl (some (.int r))) z1) → ZC zG 1500 ck (.ref 100 :: xs) z Q
variable {B B2 : Nat → Prop} {lab : Nat → Nat} {v v2 : Nat → Nat} {L L2 : Nat → List (Nat × Nat)} {hs : Nat → Bool} {vI : Nat → Nat → Nat} {LI : Nat → Nat → List (Nat × Nat)} {tp tp2 : Nat} {tb tb2 : Nat → Int32} {fk fp fk2 fp2 : Int32} {hd : Nat → Bool} {sn sw : Nat → Nat} {sv : Nat → Nat → Int64} {z z2 : ZH} {W : Nat → Prop} {sc : Nat → Int32} {n j K : Nat}
theorem wOK_le {K2 : Nat} (h : wOK v L K) (hK : K ≤ K2) : wOK v L K2 := ⟨WF_le h.1 hK, h.2⟩
theorem WP_le {K2 : Nat} (h : WP K v L hs vI LI tp tb hd sn sw sv) (hK : K ≤ K2) : WP K2 v L hs vI LI tp tb hd sn sw sv := ⟨wOK_le h.1 hK, fun k a b => wOK_le (h.2.1 k a b) hK, h.2.2⟩
theorem wOK_30 (h : wOK v L K) : ∀ i, v i < 1073741824 := fun i => by have := h.1.1 i; omega
theorem wOK_31 (h : wOK v L K) : ∀ i, v i < 2147483648 := fun i => by have := h.1.1 i; omega
theorem wOK_29 (h : wOK v L K) : ∀ i, v i < 1000000000 := fun i => by have := h.1.1 i; omega
theorem wOK_16 (h : wOK v L K) : v 0 ≤ 16 := h.1.2.1.1
theorem wOK_T (h : wOK v L K) : wT v := h.1.2.1
theorem wOK_K (h : wOK v L K) : wK v := h.1.2.2.1
theorem wOK_D (h : wOK v L K) : wD v := h.1.2.2.2.1
theorem wOK_E (h : wOK v L K) : wE v := h.1.2.2.2.2.1
theorem wOK_c (h : wOK v L K) : cOK v L := h.1.2.2.2.2.2.1
theorem wOK_8 (h : wOK v L K) : v 8 ≤ 600 := (wOK_E h).1
theorem wOK_6 (h : wOK v L K) : v 6 ≤ 399 := (wOK_E h).2.1
theorem wOK_7 (h : wOK v L K) : v 7 ≤ 600 := by have := (wOK_D h).1; have := wOK_8 h; omega
theorem CR_nw (h : CR B lab v L hs vI LI tp tb fk fp hd sn sw sv z) : ∃ t hl rl ha ra da ea, NW B z v L t hl (t + 3) rl ha ra da ea ∧ t + 4 < zn z ∧ B t := by
  obtain ⟨_, h0, hR, hB, _⟩ := h
  obtain ⟨t, hl, kn, rl, ha, ra, da, ea, hN⟩ := RS_NW h0 hR
  obtain ⟨⟨a1, a2⟩, _, ⟨a3, _⟩, _⟩ := hN.2.2.1
  obtain ⟨b1, b2⟩ := (hB t a1).2.2.2 a2
  have e : kn = t + 3 := by rw [a3] at b1; injection b1
  subst e
  exact ⟨t, hl, rl, ha, ra, da, ea, hN, b2, a1⟩
theorem CR_B (h : CR B lab v L hs vI LI tp tb fk fp hd sn sw sv z) : ∀ q, B q → ((103 ≤ q ∧ q ≤ 108) ∨ 162 ≤ q) ∧ q < zn z := fun q hq => ⟨(h.2.2.2.1 q hq).2.1, (h.2.2.2.1 q hq).2.2.1⟩
theorem CR_B2 (h : CR B lab v L hs vI LI tp tb fk fp hd sn sw sv z) : ∀ q, B q → 100 ≤ q ∧ q < zn z := fun q hq => by have := CR_B h q hq; omega
theorem CR_nB (h : CR B lab v L hs vI LI tp tb fk fp hd sn sw sv z) : ∀ q, B q → ¬ (122 ≤ q ∧ q ≤ 130) := fun q hq => by have := CR_B h q hq; omega
theorem CR_nW (h : CR B lab v L hs vI LI tp tb fk fp hd sn sw sv z) : ∀ q, NwW q → ¬ B q := fun q w hq => by have := CR_B h q hq; unfold NwW at w; omega
/-! the component's part when the heap goes on -/
def okW (q : Nat) : Prop := (100 ≤ q ∧ q < 162) ∧ ¬ (103 ≤ q ∧ q ≤ 108) ∧ ¬ q = 116 ∧ ¬ (131 ≤ q ∧ q ≤ 134)
def lbN (z : ZH) (lab : Nat → Nat) (c : Nat) : Nat → Nat := fun q => if q < zn z then lab q else c
theorem lbN_o {c q : Nat} (h : q < zn z) : lbN z lab c q = lab q := if_pos h
theorem lbN_n {c q : Nat} (h : zn z ≤ q) : lbN z lab c q = c := if_neg (by omega)
theorem slV_fr (F : zFr W z z2) {q i : Nat} (hq : q < zn z) (hw : ¬ W q) : slV z2 q i = slV z q i := by
  have c := F.2 q hq hw
  unfold slV
  rw [c.1, c.2.2.2.1, c.2.2.2.2.1]
theorem BK_W (h : BK B lab z) (hW : ∀ q, W q → okW q) : ∀ q, B q → q < zn z ∧ ¬ W q := fun q hq => ⟨(h q hq).2.2.1, fun w => by
  have x := hW q w
  have y := (h q hq).2.1
  unfold okW at x
  omega⟩
theorem cIM_fr (h : cIM B lab hs vI LI z) (hB : BK B lab z) (hz : 162 ≤ zn z) (F : zFr W z z2) (hW : ∀ q, W q → okW q) (hB2 : ∀ q, B q → B2 q) (c : Nat) : cIM B2 (lbN z lab c) hs vI LI z2 := by
  intro k hk
  have e := F.2 116 (by omega) (fun w => by have := hW _ w; unfold okW at this; omega)
  rcases h k hk with ⟨a, b⟩ | ⟨a, s, b, c1, c2, r, l⟩
  · exact Or.inl ⟨a, by rw [e.2.2.2.2.2.1]; exact b⟩
  · refine Or.inr ⟨a, s, by rw [e.2.2.2.2.2.1]; exact b, c1, Nat.le_trans c2 F.1, ?_, fun q q1 q2 => by rw [lbN_o (by omega)]; exact l q q1 q2⟩
    exact RS.mo (fun q hq _ => hB2 q hq) (fun t _ ht => hB2 t ht) (RS_fr r F c2 (fun q q1 _ w => by have := hW q w; unfold okW at this; omega) (BK_W hB hW))
theorem cSL_fr (h : cSL lab hd sn sw sv z) (hz : 162 ≤ zn z) (F : zFr W z z2) (hW : ∀ q, W q → okW q) (c : Nat) : cSL (lbN z lab c) hd sn sw sv z2 := by
  intro j hj
  have e := F.2 (131 + j) (by omega) (fun w => by have := hW _ w; unfold okW at this; omega)
  rcases h j hj with ⟨a, b⟩ | ⟨a, q, b, c1, c2, l, c3, c4, c5⟩
  · exact Or.inl ⟨a, by rw [e.2.2.1]; exact b⟩
  · have w : ¬ W q := fun w => by have := hW _ w; unfold okW at this; omega
    have f := F.2 q c2 w
    exact Or.inr ⟨a, q, by rw [e.2.2.1]; exact b, c1, Nat.lt_of_lt_of_le c2 F.1, by rw [lbN_o c2]; exact l, by rw [f.1]; exact c3, by rw [f.2.2.2.2.2.2.1]; exact c4, fun i hi => by rw [slV_fr F c2 w]; exact c5 i hi⟩
theorem CR_go (h : CR B lab v L hs vI LI tp tb fk fp hd sn sw sv z) (F : zFr W z z2) (hW : ∀ q, W q → okW q) (h0 : CS z2) (hS : RS B2 z2 102 v2 L2) (hB2 : ∀ q, B q → B2 q) (hB3 : ∀ q, B2 q → B q ∨ (zn z ≤ q ∧ q < zn z2 ∧ (zcls z2 q = 2 → zfr z2 q 1 = .ref (q + 3) ∧ q + 4 < zn z2))) (hf : cFe tp2 tb2 fk2 fp2 z2) : CR B2 (lbN z lab 1) v2 L2 hs vI LI tp2 tb2 fk2 fp2 hd sn sw sv z2 := by
  obtain ⟨hz, _, _, hB, hI, hSl, _⟩ := h
  refine ⟨Nat.le_trans hz F.1, h0, hS, fun q hq => ?_, cIM_fr hI hB hz F hW hB2 1, cSL_fr hSl hz F hW 1, hf⟩
  rcases hB3 q hq with b | ⟨b1, b2, b3⟩
  · obtain ⟨a1, a2, a3, a4⟩ := hB q b
    have e := F.2 q a3 (BK_W hB hW q b).2
    refine ⟨by rw [lbN_o a3]; exact a1, a2, Nat.lt_of_lt_of_le a3 F.1, fun hc => ?_⟩
    rw [e.1] at hc
    rw [e.2.2.1]
    exact ⟨(a4 hc).1, Nat.lt_of_lt_of_le (a4 hc).2 F.1⟩
  · exact ⟨by rw [lbN_n b1], by omega, b2, b3⟩
theorem cFe_fr (h : cFe tp tb fk fp z) (hz : 162 ≤ zn z) (F : zFr W z z2) (w1 : ¬ W 100) (w2 : ¬ W 127) : cFe tp tb fk fp z2 := by
  have a := F.2 100 (by omega) w1
  have b := F.2 127 (by omega) w2
  unfold cFe at h ⊢
  rw [a.2.1, b.2.2.2.1]
  exact h
/-- nothing of now is written but what it asks -/
theorem CR_fr (h : CR B lab v L hs vI LI tp tb fk fp hd sn sw sv z) (F : zFr W z z2) (hW : ∀ q, W q → okW q ∧ (¬ q = 100 ∧ ¬ q = 127) ∧ (¬ (102 ≤ q ∧ q ≤ 115) ∨ q = 113)) (hc : zcls z2 113 = zcls z 113) (h0 : CS z2) : CR B (lbN z lab 1) v L hs vI LI tp tb fk fp hd sn sw sv z2 := by
  have hz := h.1
  have hW1 : ∀ q, W q → okW q := fun q w => (hW q w).1
  exact CR_go h F hW1 h0 (RS_fr1 h.2.2.1 F (by omega) (fun q q1 q2 q3 w => by have := (hW q w).2.2; omega) hc (BK_W h.2.2.2.1 hW1)) (fun q hq => hq) (fun q hq => Or.inl hq) (cFe_fr h.2.2.2.2.2.2 hz F (fun w => (hW _ w).2.1.1 rfl) (fun w => (hW _ w).2.1.2 rfl))
/-- .. behind deeds -/
theorem CR_nwp {t hl rl cu su : Nat} {ha ra da ea : Nat → Nat} (h : CR B lab v L hs vI LI tp tb fk fp hd sn sw sv z) (hN : NW B z v L t hl (t + 3) rl ha ra da ea) (k : NwP B z z2 v2 L t hl (t + 3) rl ha ra cu su) : (∃ B lab, CR B lab v2 L hs vI LI tp tb fk fp hd sn sw sv z2) ∧ zFr NwW z z2 ∧ (zuc z ≤ zuc z2 ∧ zuc z2 ≤ zuc z + cu) ∧ (zus z ≤ zus z2 ∧ zus z2 ≤ zus z + su) := by
  obtain ⟨B1, da2, ea2, hN2, F, k1, k2, k3, k4⟩ := k
  have hz := h.1
  refine ⟨⟨fun q => B1 q ∧ (B q ∨ ¬ zcls z2 q = 2), _, CR_go h F (fun q w => by unfold NwW at w; unfold okW; omega) hN2.1 ?_ (fun q hq => ⟨k1 q hq, Or.inl hq⟩) (fun q hq => ?_) (cFe_fr h.2.2.2.2.2.2 hz F (by unfold NwW; omega) (by unfold NwW; omega))⟩, F, k3, k4⟩
  · refine RS.mo (fun q hq hc => ⟨hq, Or.inr hc⟩) (fun t' ht hb => ⟨hb, Or.inl ?_⟩) (NW_RS hN2)
    have e := hN2.2.1.1
    rw [ht] at e
    injection e with e
    rw [e]
    exact hN.2.2.1.1.1
  · rcases hq.2 with b | b
    · exact Or.inl b
    · rcases (k2 q hq.1).2.2 with c | c
      · exact Or.inl c
      · exact Or.inr ⟨c, (k2 q hq.1).2.1, fun e => absurd e b⟩
/-! the model's steps -/
def mSt (z z2 : ZH) : Prop := (zcls z2 = zcls z ∧ zfr z2 = zfr z ∧ zra z2 = zra z ∧ zlen z2 = zlen z ∧ zls z2 = zls z) ∧ (zn z2 = zn z ∧ zuc z2 = zuc z ∧ zus z2 = zus z) ∧ ∀ q, ¬ (135 ≤ q ∧ q ≤ 161) → zfi z2 q = zfi z q ∧ zia z2 q = zia z q ∧ zla z2 q = zla z q
theorem mSt_refl (z : ZH) : mSt z z := ⟨⟨rfl, rfl, rfl, rfl, rfl⟩, ⟨rfl, rfl, rfl⟩, fun _ _ => ⟨rfl, rfl, rfl⟩⟩
theorem mSt_tr {z3 : ZH} (h : mSt z z2) (k : mSt z2 z3) : mSt z z3 := by
  obtain ⟨⟨a1, a2, a3, a4, a5⟩, ⟨b1, b2, b3⟩, c⟩ := h
  obtain ⟨⟨d1, d2, d3, d4, d5⟩, ⟨e1, e2, e3⟩, f⟩ := k
  exact ⟨⟨d1.trans a1, d2.trans a2, d3.trans a3, d4.trans a4, d5.trans a5⟩, ⟨e1.trans b1, e2.trans b2, e3.trans b3⟩, fun q hq => ⟨(f q hq).1.trans (c q hq).1, (f q hq).2.1.trans (c q hq).2.1, (f q hq).2.2.trans (c q hq).2.2⟩⟩
theorem mSt_sfi {r k : Nat} {x : Int32} (hr : 135 ≤ r ∧ r ≤ 161) : mSt z (sfi z r k x) := ⟨⟨rfl, rfl, rfl, rfl, rfl⟩, ⟨rfl, rfl, rfl⟩, fun q hq => ⟨by rw [fi_sfi]; funext i; exact zu2_n _ _ _ _ (by omega), rfl, rfl⟩⟩
theorem mSt_sFI {r : Nat} {f : Nat → Int32} (hr : 135 ≤ r ∧ r ≤ 161) : mSt z (sFI z r f) := ⟨⟨rfl, rfl, rfl, rfl, rfl⟩, ⟨rfl, rfl, rfl⟩, fun q hq => ⟨by rw [fi_sFI]; exact zu1_n _ _ _ (by omega), rfl, rfl⟩⟩
theorem mSt_sia {r k : Nat} {x : Int32} (hr : 135 ≤ r ∧ r ≤ 161) : mSt z (sia z r k x) := ⟨⟨rfl, rfl, rfl, rfl, rfl⟩, ⟨rfl, rfl, rfl⟩, fun q hq => ⟨rfl, by rw [ia_sia]; funext i; exact zu2_n _ _ _ _ (by omega), rfl⟩⟩
theorem mSt_sIA {r : Nat} {f : Nat → Int32} (hr : 135 ≤ r ∧ r ≤ 161) : mSt z (sIA z r f) := ⟨⟨rfl, rfl, rfl, rfl, rfl⟩, ⟨rfl, rfl, rfl⟩, fun q hq => ⟨rfl, by rw [ia_sIA]; exact zu1_n _ _ _ (by omega), rfl⟩⟩
theorem mSt_sla {r k : Nat} {x : Int64} (hr : 135 ≤ r ∧ r ≤ 161) : mSt z (sla z r k x) := ⟨⟨rfl, rfl, rfl, rfl, rfl⟩, ⟨rfl, rfl, rfl⟩, fun q hq => ⟨rfl, rfl, by rw [la_sla]; funext i; exact zu2_n _ _ _ _ (by omega)⟩⟩
theorem mSt_sLA {r : Nat} {f : Nat → Int64} (hr : 135 ≤ r ∧ r ≤ 161) : mSt z (sLA z r f) := ⟨⟨rfl, rfl, rfl, rfl, rfl⟩, ⟨rfl, rfl, rfl⟩, fun q hq => ⟨rfl, rfl, by rw [la_sLA]; exact zu1_n _ _ _ (by omega)⟩⟩
theorem mSt_sW : mSt z (sW z v) := mSt_sIA (by omega)
theorem mSt_mFr (h : mFr z z2) : mSt z z2 := by
  obtain ⟨⟨a1, a2, a3, a4, a5, a6, a7⟩, b, c, d⟩ := h
  exact ⟨⟨a1, a2, a4, a5, a6⟩, b, fun q hq => ⟨by funext i; exact c q i (by omega), d q (by omega), by rw [a3]⟩⟩
theorem mSt_fr (h : mSt z z2) : zFr (fun q => 135 ≤ q ∧ q ≤ 161) z z2 := by
  obtain ⟨⟨a1, a2, a3, a4, a5⟩, ⟨b1, b2, b3⟩, c⟩ := h
  exact ⟨by rw [b1]; exact Nat.le_refl _, fun q _ hq => ⟨by rw [a1], (c q hq).1, by rw [a2], (c q hq).2.1, (c q hq).2.2, by rw [a3], by rw [a4], by rw [a5]⟩⟩
theorem mSt_CS (h : mSt z z2) (h0 : CS z) : CS z2 := by
  obtain ⟨⟨a1, a2, a3, a4, a5⟩, _⟩ := h
  unfold CS at h0 ⊢
  rw [a1, a2, a3, a4]
  exact h0
theorem mSt_MS (h : mSt z z2) (h0 : MS z) : MS z2 := by
  obtain ⟨⟨a1, a2, a3, a4, a5⟩, _⟩ := h
  unfold MS at h0 ⊢
  rw [a1, a2, a4]
  exact h0
theorem CR_m (h : CR B lab v L hs vI LI tp tb fk fp hd sn sw sv z) (k : mSt z z2) : CR B (lbN z lab 1) v L hs vI LI tp tb fk fp hd sn sw sv z2 := CR_fr h (mSt_fr k) (fun q w => by unfold okW; omega) (by rw [k.1.1]) (mSt_CS k h.2.1)
/-! the model's part when the component goes on -/
theorem MR_fr (h : MR v hs vI tp tb fk fp hd sn sw sv z) (F : zFr W z z2) (hz : 162 ≤ zn z) (hW : ∀ q, W q → ¬ (135 ≤ q ∧ q ≤ 161)) : MR v hs vI tp tb fk fp hd sn sw sv z2 := by
  have w135 := F.2 135 (by omega) (fun w => hW _ w (by omega))
  have w136 := F.2 136 (by omega) (fun w => hW _ w (by omega))
  have w137 := F.2 137 (by omega) (fun w => hW _ w (by omega))
  have w138 := F.2 138 (by omega) (fun w => hW _ w (by omega))
  have w139 := F.2 139 (by omega) (fun w => hW _ w (by omega))
  have w140 := F.2 140 (by omega) (fun w => hW _ w (by omega))
  have w141 := F.2 141 (by omega) (fun w => hW _ w (by omega))
  have w142 := F.2 142 (by omega) (fun w => hW _ w (by omega))
  have w143 := F.2 143 (by omega) (fun w => hW _ w (by omega))
  have w144 := F.2 144 (by omega) (fun w => hW _ w (by omega))
  have w145 := F.2 145 (by omega) (fun w => hW _ w (by omega))
  have w146 := F.2 146 (by omega) (fun w => hW _ w (by omega))
  have w147 := F.2 147 (by omega) (fun w => hW _ w (by omega))
  have w148 := F.2 148 (by omega) (fun w => hW _ w (by omega))
  have w149 := F.2 149 (by omega) (fun w => hW _ w (by omega))
  have w150 := F.2 150 (by omega) (fun w => hW _ w (by omega))
  have w151 := F.2 151 (by omega) (fun w => hW _ w (by omega))
  have w152 := F.2 152 (by omega) (fun w => hW _ w (by omega))
  have w153 := F.2 153 (by omega) (fun w => hW _ w (by omega))
  have w154 := F.2 154 (by omega) (fun w => hW _ w (by omega))
  have w155 := F.2 155 (by omega) (fun w => hW _ w (by omega))
  have w156 := F.2 156 (by omega) (fun w => hW _ w (by omega))
  have w157 := F.2 157 (by omega) (fun w => hW _ w (by omega))
  have w158 := F.2 158 (by omega) (fun w => hW _ w (by omega))
  have w159 := F.2 159 (by omega) (fun w => hW _ w (by omega))
  have w160 := F.2 160 (by omega) (fun w => hW _ w (by omega))
  have w161 := F.2 161 (by omega) (fun w => hW _ w (by omega))
  obtain ⟨h1, h2, h3, h4, h5⟩ := h
  refine ⟨?_, fun i => by rw [w136.2.2.2.1]; exact h2 i, ?_, ?_, ?_⟩
  · unfold MS at h1 ⊢
    simp only [w135, w136, w137, w138, w139, w140, w141, w142, w143, w144, w145, w146, w147, w148, w149, w150, w151, w152, w153, w154, w155, w156, w157, w158, w159, w160, w161, h1, and_self]
  · unfold mIM at h3 ⊢
    rw [w138.2.2.2.1, w137.2.2.2.1]
    exact h3
  · unfold mSL at h4 ⊢
    rw [w158.2.2.2.1, w159.2.2.2.1, w160.2.2.2.2.1]
    exact h4
  · unfold mFe at h5 ⊢
    rw [w135.2.1, w139.2.2.2.1]
    exact h5
/-- .. when it has scribbled and written its world -/
theorem MR_w (h : MR v hs vI tp tb fk fp hd sn sw sv z) (k : mFr z z2) : MR v2 hs vI tp tb fk fp hd sn sw sv (sW z2 v2) := by
  obtain ⟨h1, h2, h3, h4, h5⟩ := h
  have f := fun j (hj : j < 17) => k.2.2.1 135 j (by omega)
  have i := fun q (h1 : ¬ q = 136) (hq : ¬ (142 ≤ q ∧ q ≤ 157)) => (sW_n z2 v2 h1).trans (k.2.2.2 q hq)
  have l : zla (sW z2 v2) = zla z := k.1.2.2.1
  refine ⟨?_, sW_r z2 v2, ?_, ?_, ?_⟩
  · have q1 := mFr_MS k h1
    exact q1
  · unfold mIM at h3 ⊢
    rw [i 138 (by omega) (by omega), i 137 (by omega) (by omega)]
    exact h3
  · unfold mSL at h4 ⊢
    rw [i 158 (by omega) (by omega), i 159 (by omega) (by omega), l]
    exact h4
  · unfold mFe at h5 ⊢
    rw [i 139 (by omega) (by omega), fi_sW, f 5 (by omega), f 11 (by omega), f 12 (by omega), f 13 (by omega)]
    exact h5
theorem MR_sW (h : MR v hs vI tp tb fk fp hd sn sw sv z) : sW z v = z := sW_eq z v h.2.1
theorem MR_zc (h : MR v hs vI tp tb fk fp hd sn sw sv z) {k : Nat} {xs : List Value} {Q : ZQ} : ZC zG 1500 k xs z Q = ZC zG 1500 k xs (sW z v) Q := by rw [MR_sW h]
theorem MR_135 (h : MR v hs vI tp tb fk fp hd sn sw sv z) : zcls z 135 = 12 := h.1.1
theorem scr_fr (h : scr sc n z) (F : zFr W z z2) (hz : 162 ≤ zn z) (hW : ∀ q, W q → 100 ≤ q) : scr sc n z2 := by
  have e := F.2 99 (by omega) (fun w => by have := hW _ w; omega)
  unfold scr at h ⊢
  rw [e.1, e.2.2.2.1, e.2.2.2.2.2.2.1]
  exact h
theorem scr_m (h : scr sc n z) (k : mSt z z2) : scr sc n z2 := by
  unfold scr at h ⊢
  rw [k.1.1, k.1.2.2.2.1, (k.2.2 99 (by omega)).2.1]
  exact h
/-- put together, behind the model's step -/
theorem Rel_m {z3 : ZH} (hC : ∃ B lab, CR B lab v L hs vI LI tp tb fk fp hd sn sw sv z2) (k : mSt z2 z3) (hM : MR v hs vI tp tb fk fp hd sn sw sv z3) (hW : WP K v L hs vI LI tp tb hd sn sw sv) (hK : K ≤ 12000 * (j + 1)) (hS : scr sc n z2) (hu : zuc z2 ≤ 384 + 18000 * (j + 1)) (hus : zus z2 ≤ 435000 + 79000 * (j + 1)) : Rel sc n (j + 1) z3 := by
  obtain ⟨B, lab, hC⟩ := hC
  exact ⟨v, L, hs, vI, LI, tp, tb, fk, fp, hd, sn, sw, sv, ⟨B, _, CR_m hC k⟩, hM, WP_le hW hK, scr_m hS k, by rw [k.2.1.2.1]; exact hu, by rw [k.2.1.2.2]; exact hus⟩
theorem Rel_up (h : Rel sc n j z) : Rel sc n (j + 1) z := by
  obtain ⟨v, L, hs, vI, LI, tp, tb, fk, fp, hd, sn, sw, sv, hC, hM, hW, hS, h1, h2⟩ := h
  exact ⟨v, L, hs, vI, LI, tp, tb, fk, fp, hd, sn, sw, sv, hC, hM, WP_le hW (by omega), hS, by omega, by omega⟩
theorem cFr_fr (h : cFr z z2) : zFr (fun q => 122 ≤ q ∧ q ≤ 130 ∧ ¬ q = 127) z z2 := by
  obtain ⟨⟨a1, a2, a3, a4, a5, a6⟩, ⟨b1, b2, b3⟩, c, d, e⟩ := h
  exact ⟨by rw [b1]; exact Nat.le_refl _, fun q _ hq => ⟨by rw [a1], by funext i; exact c q i (by omega), by funext i; exact d q i (by omega), e q (by omega), by rw [a2], by rw [a3], by rw [a4], by rw [a5]⟩⟩
theorem CR_c (h : CR B lab v L hs vI LI tp tb fk fp hd sn sw sv z) (k : cFr z z2) : CR B (lbN z lab 1) v L hs vI LI tp tb fk fp hd sn sw sv z2 := CR_fr h (cFr_fr k) (fun q w => by unfold okW; omega) (by rw [k.1.1]) (cFr_CS k h.2.1)
theorem MR_c (h : MR v hs vI tp tb fk fp hd sn sw sv z) (hz : 162 ≤ zn z) (k : cFr z z2) : MR v hs vI tp tb fk fp hd sn sw sv z2 := MR_fr h (cFr_fr k) hz (fun q w => by omega)
end AI
