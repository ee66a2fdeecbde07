set_option maxRecDepth 100000
/-! lists laid open for the JDK's methods, and laid back -/
section JH
variable {X : ZX} {ws : va_W} {z z' y : ZH} {r q : Nat}
theorem zER.same1 {r : Nat} {e : va_E} (hs : zSame z z' r) (hq : ∀ q, zcls z q = 91 → zown z q = r → q < zn z → zSame z z' q) (hn : ws.length + 100 = zn z) (h : zER X ws z r e) : zER X ws z' r e := by
  obtain ⟨s1, s2, s3, s4, s5, s6, s7, s8, s9⟩ := hs
  unfold zER at h ⊢
  rw [s1, s2, s4, s5, s6, s7, s8, s9]
  by_cases c1 : zcls z r < 25
  · rw [if_pos c1] at h ⊢; exact h
  rw [if_neg c1] at h ⊢
  by_cases c0 : zcls z r < 50
  · rw [if_pos c0] at h; exact h.elim
  rw [if_neg c0] at h ⊢
  by_cases c2 : zcls z r = 51
  · rw [if_pos c2] at h ⊢; exact h
  rw [if_neg c2] at h ⊢
  by_cases c3 : zcls z r < 55
  · rw [if_pos c3] at h ⊢; exact h
  rw [if_neg c3] at h ⊢
  by_cases c4 : zcls z r < 65
  · rw [if_pos c4] at h ⊢; exact h
  rw [if_neg c4] at h ⊢
  by_cases c5 : zcls z r = 90
  · rw [if_pos c5] at h ⊢
    obtain ⟨q, a, mc, g, h1, h2, h3, h4, h5, h6, h7, h8, h9, h10⟩ := h
    have hlt : q < zn z := by
      have := (List.getElem?_eq_some_iff.mp h6).1
      omega
    obtain ⟨k1, k2, k3, _⟩ := hq q h3 h4 hlt
    exact ⟨q, a, mc, g, h1, h2, by rw [k1]; exact h3, by rw [k3]; exact h4, h5, by rw [k2]; exact h6, by rw [k2]; exact h7, by rw [k2]; exact h8, h9, h10⟩
  · rw [if_neg c5] at h ⊢; trivial
theorem zHR_mv (S : Nat → Prop) (h : zHR X ws z) (hn : zn z' = zn z) (hlow : ∀ p, p < 100 → ¬ S p) (hsame : ∀ p, p < zn z → ¬ S p → zSame z z' p) (hown : ∀ p, S p → zcls z p = 91 → S (zown z p)) (hS : ∀ p a e, S p → 100 ≤ p → p < zn z → ws[p - 100]? = some (a, e) → zER X ws z p e → zER X ws z' p e) : zHR X ws z' := by
  have h100 : 100 ≤ zn z := by have := h.1.1; omega
  refine ⟨⟨by rw [hn]; exact h.1.1, fun p hp => by rw [(hsame p (by omega) (hlow p hp)).1]; exact h.1.2.1 p hp, by rw [(hsame 99 (by omega) (hlow 99 (by omega))).2.1]; exact h.1.2.2.1, by rw [(hsame 99 (by omega) (hlow 99 (by omega))).2.2.2.2.2.1]; exact h.1.2.2.2⟩, fun p hp hlt => ?_⟩
  rw [hn] at hlt
  obtain ⟨a, e, h1, h2⟩ := h.2 p hp hlt
  refine ⟨a, e, h1, ?_⟩
  by_cases hs : S p
  · exact hS p a e hs hp hlt h1 h2
  · exact zER.same1 (hsame p hlt hs) (fun q q1 q2 q3 => hsame q q3 (fun hq => hs (by rw [← q2]; exact hown q hq q1))) h.1.1 h2
/-- the list r, its places at q, laid open -/
def opn (z : ZH) (r q : Nat) (mc : Int32) : ZH := zmk (zu1 (zu1 (zcls z) q 64) r 24) (zu1 (zfi z) r (fun j => if j = 0 then mc else nI (zls z r).length)) (zu1 (zfr z) r (fun _ => .ref q)) (zia z) (zla z) (zu1 (zra z) q (fun i => (zls z r).getD i .null)) (zlen z) (zls z) (zown z) (zn z) (zuc z) (zus z)
/-- what a list's cells are -/
def isL (z : ZH) (r q : Nat) : Prop := zcls z r = 90 ∧ zfr z r 0 = .ref q ∧ (100 ≤ q ∧ q < zn z ∧ zcls z q = 91 ∧ zown z q = r) ∧ (zls z r).length ≤ zlen z q ∧ 0 < zlen z q ∧ zlen z q < 200000
theorem opn_same {p : Nat} {mc : Int32} (h1 : ¬ p = r) (h2 : ¬ p = q) : zSame z (opn z r q mc) p := by
  refine ⟨?_, rfl, rfl, ?_, ?_, rfl, rfl, ?_, rfl⟩
  · show zu1 (zu1 (zcls z) q 64) r 24 p = zcls z p
    rw [zu1_n _ _ _ h1, zu1_n _ _ _ h2]
  · exact zu1_n _ _ _ h1
  · exact zu1_n _ _ _ h1
  · exact zu1_n _ _ _ h2
theorem zHR_opn (h : zHR X ws z) (hr : 100 ≤ r) (hr2 : r < zn z) (hc : zcls z r = 90) : ∃ q mc, isL z r q ∧ zHR X ws (opn z r q mc) ∧ (∀ (i : Nat) (v : Value), (zls z r)[i]? = some v → v = .null ∨ ∃ p : Nat, v = .ref p ∧ (p < 100 ∨ p < zn z)) := by
  obtain ⟨a0, e0, w0, hE⟩ := h.2 r hr hr2
  unfold zER at hE
  rw [hc, if_neg (by omega), if_neg (by omega), if_neg (by omega), if_neg (by omega), if_neg (by omega), if_pos rfl] at hE
  obtain ⟨q, a, mc, g, h1, h2, h3, h4, h5, h6, h7, h8, h9, h10⟩ := hE
  have hlt : q < zn z := by
    have := (List.getElem?_eq_some_iff.mp h6).1
    have := h.1.1
    omega
  have hrq : ¬ r = q := fun e => by rw [← e, hc] at h3; omega
  refine ⟨q, mc, ⟨hc, h1, ⟨h2, hlt, h3, h4⟩, h7, h8⟩, ?_, fun i v hi => ?_⟩
  · refine zHR_mv (fun p => p = r ∨ p = q) h rfl (fun p hp w => by omega) (fun p hp w => opn_same (fun e => w (Or.inl e)) (fun e => w (Or.inr e))) (fun p w hp => ?_) (fun p a1 e1 w hp hlt1 hw1 hE1 => ?_)
    · rcases w with w | w
      · rw [w, hc] at hp; omega
      · rw [w]; exact Or.inl h4
    · rcases w with w | w
      · rw [w] at hw1
        rw [w0] at hw1
        cases hw1
        rw [w]
        have ec : zcls (opn z r q mc) r = 24 := zu1_s _ _ _
        unfold zER
        rw [ec, if_pos (by omega)]
        refine ⟨_, h5, rfl, fun k hk => ?_⟩
        have hk3 : k < 3 := hk
        rcases (by omega : k = 0 ∨ k = 1 ∨ k = 2) with rfl | rfl | rfl
        · refine ⟨_, rfl, ?_⟩
          show Value.int mc = .int (zfi (opn z r q mc) r 0)
          have : zfi (opn z r q mc) r = fun j => if j = 0 then mc else nI (zls z r).length := zu1_s _ _ _
          rw [this]; rfl
        · refine ⟨_, rfl, ?_⟩
          show zVR X ws (zfr (opn z r q mc) r 1) (.ref a)
          have : zfr (opn z r q mc) r = fun _ => .ref q := zu1_s _ _ _
          rw [this]
          exact ⟨a, rfl, Or.inr ⟨h2, _, h6⟩⟩
        · refine ⟨_, rfl, ?_⟩
          show Value.int (nI (zls z r).length) = .int (zfi (opn z r q mc) r 2)
          have : zfi (opn z r q mc) r = fun j => if j = 0 then mc else nI (zls z r).length := zu1_s _ _ _
          rw [this]; rfl
      · rw [w] at hw1
        rw [h6] at hw1
        cases hw1
        rw [w]
        have ec : zcls (opn z r q mc) q = 64 := by
          show zu1 (zu1 (zcls z) q 64) r 24 q = 64
          rw [zu1_n _ _ _ (fun e => hrq e.symm), zu1_s]
        unfold zER
        rw [ec, if_neg (by omega), if_neg (by omega), if_neg (by omega), if_neg (by omega), if_pos (by omega)]
        refine ⟨g, rfl, fun i => ?_⟩
        have : zra (opn z r q mc) q = fun i => (zls z r).getD i .null := zu1_s _ _ _
        rw [this]
        show zVR X ws ((zls z r).getD i .null) (va_rf (g i))
        unfold List.getD
        cases hi : (zls z r)[i]? with
        | some v => exact (h9 i v hi).2
        | none =>
          rw [h10 i (List.getElem?_eq_none_iff.mp hi)]
          rfl
  · obtain ⟨hz, hv⟩ := h9 i v hi
    cases v with
    | null => exact Or.inl rfl
    | ref p =>
      refine Or.inr ⟨p, rfl, ?_⟩
      obtain ⟨a1, _, ha⟩ := hv
      rcases ha with ⟨ha, _⟩ | ⟨_, e1, ha⟩
      · exact Or.inl ha
      · have := (List.getElem?_eq_some_iff.mp ha).1
        have := h.1.1
        exact Or.inr (by omega)
    | int x => exact Bool.noConfusion (show false = true from hz)
    | long x => exact Bool.noConfusion (show false = true from hz)
    | float x => exact Bool.noConfusion (show false = true from hz)
    | double x => exact Bool.noConfusion (show false = true from hz)
    | retAddr x => exact Bool.noConfusion (show false = true from hz)
/-- laid back -/
theorem zHR_cls {N len q0 : Nat} (h : zHR X ws y) (hr : 100 ≤ r) (hr2 : r < zn y) (hL : jL y r q N len) (hq : q < zn y) (hN : 0 < N ∧ N < 200000) (hnul : ∀ i, len ≤ i → zra y q i = .null) (hzr : ∀ i, i < len → zir (zra y q i) = true) (hrq : ¬ r = q) (hq0 : 100 ≤ q0 ∧ ¬ q0 = r) (h64 : zcls y q0 = 64) (hn : zn z' = zn y) (hsame : ∀ p, p < zn y → ¬ p = r → ¬ p = q → ¬ p = q0 → zSame y z' p) (c1 : zcls z' r = 90) (c2 : zfr z' r 0 = .ref q) (c3 : zcls z' q = 91) (c4 : zown z' q = r) (c5 : zlen z' q = N) (c6 : (zls z' r).length = len) (c7 : ∀ i, i < len → (zls z' r)[i]? = some (zra y q i)) (c8 : zcls z' q0 = 91) : zHR X ws z' := by
  obtain ⟨⟨y1, y2, y3⟩, ⟨y4, y5⟩, y6, y7⟩ := hL
  have hq100 : 100 ≤ q := by
    rcases Nat.lt_or_ge q 100 with w | w
    · have := h.1.2.1 q w
      rw [y4] at this
      split at this <;> omega
    · exact w
  refine zHR_mv (fun p => p = r ∨ p = q ∨ p = q0) h hn (fun p hp w => by omega) (fun p hp w => hsame p hp (fun e => w (Or.inl e)) (fun e => w (Or.inr (Or.inl e))) (fun e => w (Or.inr (Or.inr e)))) (fun p w hp => ?_) (fun p a1 e1 w hp hlt1 hw1 hE1 => ?_)
  · rcases w with w | w | w
    · rw [w, y1] at hp; omega
    · rw [w, y4] at hp; omega
    · rw [w, h64] at hp; omega
  · have e91 : ∀ p, zcls z' p = 91 → zER X ws z' p e1 := fun p hp => by
      unfold zER
      rw [hp, if_neg (by omega), if_neg (by omega), if_neg (by omega), if_neg (by omega), if_neg (by omega), if_neg (by omega)]
      trivial
    rcases w with w | w | w
    · rw [w] at hE1 ⊢
      obtain ⟨fs, rfl, hl, hf⟩ := zER_obj hE1 y1 (by omega)
      have hl3 : fs.length = 3 := hl
      obtain ⟨v0, f0, k0⟩ := hf 0 (by decide)
      obtain ⟨v1, f1, k1⟩ := hf 1 (by decide)
      obtain ⟨v2, f2, k2⟩ := hf 2 (by decide)
      have k0 : v0 = .int (zfi y r 0) := k0
      have k1 : zVR X ws (zfr y r 1) v1 := k1
      have k2 : v2 = .int (zfi y r 2) := k2
      rw [y2] at k1
      rw [y3] at k2
      obtain ⟨a, rfl, ha⟩ := k1
      subst k0; subst k2
      have hfs : fs = [.int (zfi y r 0), .ref a, .int (nI len)] := by
        match fs, hl3, f0, f1, f2 with
        | [x0, x1, x2], _, f0, f1, f2 =>
          cases f0; cases f1; cases f2; rfl
      subst hfs
      rcases ha with ⟨ha, _⟩ | ⟨_, e2, ha⟩
      · omega
      · obtain ⟨a', e', h1, h2⟩ := h.2 q hq100 hq
        rw [ha] at h1
        cases h1
        rw [zER_ref y4 (by omega) (by omega)] at h2
        obtain ⟨g, rfl, hg⟩ := h2
        unfold zER
        rw [c1, if_neg (by omega), if_neg (by omega), if_neg (by omega), if_neg (by omega), if_neg (by omega), if_pos rfl]
        refine ⟨q, a, zfi y r 0, g, c2, hq100, c3, c4, by rw [c6], by rw [c5, ← y5]; exact ha, by rw [c6, c5]; exact y6, by rw [c5]; exact hN, fun i v hi => ?_, fun i hi => ?_⟩
        · have hlt := (List.getElem?_eq_some_iff.mp hi).1
          rw [c7 i (by omega)] at hi
          cases hi
          exact ⟨hzr i (by omega), hg i⟩
        · have hgi := hg i
          rw [hnul i (by omega)] at hgi
          cases hx : g i with
          | none => rfl
          | some w => rw [hx] at hgi; cases hgi
    · rw [w]; exact e91 q c3
    · rw [w]; exact e91 q0 c8
end JH
