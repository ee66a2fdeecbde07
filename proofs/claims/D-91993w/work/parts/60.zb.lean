set_option maxRecDepth 100000
/-! the component's picture -/
/-- cells that may be written -/
def zMut (z : ZH) (q : Nat) : Prop := (q < 162 ∧ ¬ (103 ≤ q ∧ q ≤ 108)) ∨ (∃ k, k < 3 ∧ ∃ s, zra z 116 k = .ref s ∧ s ≤ q ∧ q < s + 14) ∨ (∃ k, k < 4 ∧ zfr z (131 + k) 0 = .ref q)
def zIm (z : ZH) (q : Nat) : Prop := q < zn z ∧ ¬ zMut z q
/-- z2 comes behind z: what may not be written is as it was -/
def zSt (B : Nat → Prop) (z z2 : ZH) : Prop := ∀ q, B q → zcls z2 q = zcls z q ∧ zfi z2 q = zfi z q ∧ zfr z2 q = zfr z q ∧ zia z2 q = zia z q ∧ zlen z2 q = zlen z q ∧ zls z2 q = zls z q
theorem zSt_refl (B : Nat → Prop) (z : ZH) : zSt B z z := fun q h => ⟨rfl, rfl, rfl, rfl, rfl, rfl⟩
theorem zSt_trans {B : Nat → Prop} {z z2 z3 : ZH} (h : zSt B z z2) (h2 : zSt B z2 z3) : zSt B z z3 := by
  intro q hq
  obtain ⟨a1, a2, a3, a4, a5, a6⟩ := h q hq
  obtain ⟨b1, b2, b3, b4, b5, b6⟩ := h2 q hq
  exact ⟨b1.trans a1, b2.trans a2, b3.trans a3, b4.trans a4, b5.trans a5, b6.trans a6⟩
theorem zSt_sfi {B : Nat → Prop} {z0 z : ZH} {r k : Nat} {x : Int32} (h : zSt B z0 z) (hr : ¬ B r) : zSt B z0 (sfi z r k x) := by
  intro q hq
  obtain ⟨a1, a2, a3, a4, a5, a6⟩ := h q hq
  have hne : ¬ q = r := fun e => hr (e ▸ hq)
  refine ⟨a1, ?_, a3, a4, a5, a6⟩
  rw [fi_sfi, ← a2]
  funext j
  exact zu2_n _ _ _ _ hne
theorem zSt_sfr {B : Nat → Prop} {z0 z : ZH} {r k : Nat} {x : Value} (h : zSt B z0 z) (hr : ¬ B r) : zSt B z0 (sfr z r k x) := by
  intro q hq
  obtain ⟨a1, a2, a3, a4, a5, a6⟩ := h q hq
  have hne : ¬ q = r := fun e => hr (e ▸ hq)
  refine ⟨a1, a2, ?_, a4, a5, a6⟩
  rw [fr_sfr, ← a3]
  funext j
  exact zu2_n _ _ _ _ hne
theorem zSt_sia {B : Nat → Prop} {z0 z : ZH} {r k : Nat} {x : Int32} (h : zSt B z0 z) (hr : ¬ B r) : zSt B z0 (sia z r k x) := by
  intro q hq
  obtain ⟨a1, a2, a3, a4, a5, a6⟩ := h q hq
  have hne : ¬ q = r := fun e => hr (e ▸ hq)
  refine ⟨a1, a2, a3, ?_, a5, a6⟩
  rw [ia_sia, ← a4]
  funext j
  exact zu2_n _ _ _ _ hne
theorem zSt_sIA {B : Nat → Prop} {z0 z : ZH} {r : Nat} {f : Nat → Int32} (h : zSt B z0 z) (hr : ¬ B r) : zSt B z0 (sIA z r f) := by
  intro q hq
  obtain ⟨a1, a2, a3, a4, a5, a6⟩ := h q hq
  have hne : ¬ q = r := fun e => hr (e ▸ hq)
  refine ⟨a1, a2, a3, ?_, a5, a6⟩
  rw [ia_sIA, ← a4]
  exact zu1_n _ _ _ hne
theorem zSt_sls {B : Nat → Prop} {z0 z : ZH} {r : Nat} {f : List Value} (h : zSt B z0 z) (hr : ¬ B r) : zSt B z0 (sls z r f) := by
  intro q hq
  obtain ⟨a1, a2, a3, a4, a5, a6⟩ := h q hq
  have hne : ¬ q = r := fun e => hr (e ▸ hq)
  refine ⟨a1, a2, a3, a4, a5, ?_⟩
  rw [ls_sls, ← a6]
  exact zu1_n _ _ _ hne
theorem zSt_sla {B : Nat → Prop} {z0 z : ZH} {r k : Nat} {x : Int64} (h : zSt B z0 z) : zSt B z0 (sla z r k x) := h
theorem zSt_sLA {B : Nat → Prop} {z0 z : ZH} {r : Nat} {x : Nat → Int64} (h : zSt B z0 z) : zSt B z0 (sLA z r x) := h
theorem zSt_sra {B : Nat → Prop} {z0 z : ZH} {r k : Nat} {x : Value} (h : zSt B z0 z) : zSt B z0 (sra z r k x) := h
theorem zSt_spay {B : Nat → Prop} {z0 z : ZH} {a b : Nat} (h : zSt B z0 z) : zSt B z0 (spay z a b) := h
theorem zSt_snew {B : Nat → Prop} {z0 z : ZH} {c N : Nat} (h : zSt B z0 z) (hr : ¬ B (zn z)) : zSt B z0 (snew z c N) := by
  intro q hq
  obtain ⟨a1, a2, a3, a4, a5, a6⟩ := h q hq
  have hne : ¬ q = zn z := fun e => hr (e ▸ hq)
  refine ⟨?_, ?_, ?_, a4, a5, a6⟩
  · rw [cls_snew, zu1_n _ _ _ hne, a1]
  · rw [fi_snew, zu1_n _ _ _ hne, a2]
  · rw [fr_snew, zu1_n _ _ _ hne, a3]
theorem zSt_sarr {B : Nat → Prop} {z0 z : ZH} {c N : Nat} (h : zSt B z0 z) (hr : ¬ B (zn z)) : zSt B z0 (sarr z c N) := by
  intro q hq
  obtain ⟨a1, a2, a3, a4, a5, a6⟩ := h q hq
  have hne : ¬ q = zn z := fun e => hr (e ▸ hq)
  refine ⟨?_, a2, a3, ?_, ?_, a6⟩
  · rw [cls_sarr, zu1_n _ _ _ hne, a1]
  · rw [ia_sarr, zu1_n _ _ _ hne, a4]
  · rw [len_sarr, zu1_n _ _ _ hne, a5]
theorem zSt_slin {B : Nat → Prop} {z0 z : ZH} {r N : Nat} (h : zSt B z0 z) (hr : ¬ B (zn z)) (hr2 : ¬ B r) : zSt B z0 (slin z r N) := by
  intro q hq
  obtain ⟨a1, a2, a3, a4, a5, a6⟩ := h q hq
  have hne : ¬ q = zn z := fun e => hr (e ▸ hq)
  have hne2 : ¬ q = r := fun e => hr2 (e ▸ hq)
  refine ⟨?_, a2, ?_, a4, ?_, ?_⟩
  · rw [cls_slin, zu1_n _ _ _ hne, zu1_n _ _ _ hne2, a1]
  · rw [fr_slin, ← a3]
    funext j
    exact zu2_n _ _ _ _ hne2
  · rw [len_slin, zu1_n _ _ _ hne, a5]
  · rw [ls_slin, zu1_n _ _ _ hne2, a6]
theorem zSt_sgro {B : Nat → Prop} {z0 z : ZH} {r N : Nat} (h : zSt B z0 z) (hr : ¬ B (zn z)) (hr2 : ¬ B r) : zSt B z0 (sgro z r N) := by
  intro q hq
  obtain ⟨a1, a2, a3, a4, a5, a6⟩ := h q hq
  have hne : ¬ q = zn z := fun e => hr (e ▸ hq)
  have hne2 : ¬ q = r := fun e => hr2 (e ▸ hq)
  refine ⟨?_, a2, ?_, a4, ?_, a6⟩
  · rw [cls_sgro, zu1_n _ _ _ hne, a1]
  · rw [fr_sgro, ← a3]
    funext j
    exact zu2_n _ _ _ _ hne2
  · rw [len_sgro, zu1_n _ _ _ hne, a5]
/-- the town t: its houses in the list hl, at the cells ha; who was told to know whom in kn -/
def RHo (B : Nat → Prop) (z : ZH) (t hl kn : Nat) (ha : Nat → Nat) (v : Nat → Nat) : Prop :=
  (B t ∧ zcls z t = 2) ∧ (zfr z t 0 = .ref hl ∧ B hl ∧ zcls z hl = 90) ∧
  (zfr z t 1 = .ref kn ∧ B kn ∧ zcls z kn = 50 ∧ zlen z kn = 16) ∧
  ((zls z hl).length = v 0 ∧ v 0 ≤ 16) ∧
  (∀ h, h < v 0 → (zls z hl).getD h .null = .ref (ha h) ∧ B (ha h) ∧ zcls z (ha h) = 21 ∧ ∀ j, j < 8 → zfi z (ha h) j = nI (v (10 + 9 * h + j))) ∧
  (∀ h, h < 16 → zia z kn h = nI (v (10 + 9 * h + 8))) ∧ zfi z t 3 = nI (v 4) ∧ zfi z t 4 = nI (v 5)
/-- a part as an object -/
def zLf (B : Nat → Prop) (z : ZH) (v : Nat → Nat) (k : Nat) (r : Nat) : Prop := B r ∧ ((zcls z r = 17 ∧ v (814 + 3 * k + 1) = 5 ∧ zfi z r 0 = nI (v (814 + 3 * k + 2))) ∨ (zcls z r = 18 ∧ v (814 + 3 * k + 1) < 5 ∧ zfi z r 0 = nI (v (814 + 3 * k + 1))))
/-- a product as an object: the parts s .. s + n -/
def zTm (B : Nat → Prop) (z : ZH) (v : Nat → Nat) (s : Nat) : Nat → Nat → Prop
  | 0, r => zLf B z v s r
  | n + 1, r => B r ∧ zcls z r = 19 ∧ zfi z r 2 = nI 2 ∧ ∃ a b, (zfr z r 0 = .ref a ∧ zTm B z v s n a) ∧ (zfr z r 1 = .ref b ∧ zLf B z v (s + n + 1) b)
/-- a sum as an object: its terms, the last first -/
def zSm (B : Nat → Prop) (z : ZH) (v : Nat → Nat) : List (Nat × Nat) → Nat → Prop
  | [], _ => False
  | [x], r => zTm B z v x.1 x.2 r
  | x :: y :: xs, r => B r ∧ zcls z r = 19 ∧ (v (814 + 3 * x.1) = 1 ∨ v (814 + 3 * x.1) = 2) ∧ zfi z r 2 = nI (v (814 + 3 * x.1) - 1) ∧ ∃ a b, (zfr z r 0 = .ref a ∧ zSm B z v (y :: xs) a) ∧ (zfr z r 1 = .ref b ∧ zTm B z v x.1 x.2 b)
/-- the first of a sum's terms has the join j -/
def hdJ (v : Nat → Nat) (j : Nat) (a : List (Nat × Nat)) : Prop := ∃ x xs, a.reverse = x :: xs ∧ v (814 + 3 * x.1) = j
/-- a test as an object; its terms -/
def zTs (B : Nat → Prop) (z : ZH) (v : Nat → Nat) (ts : List (Nat × Nat)) (t r : Nat) : Prop := B r ∧ zcls z r = 20 ∧ v (274 + 3 * t) < 3 ∧ zfi z r 2 = nI (v (274 + 3 * t)) ∧
  ∃ p q a b, (zfr z r 0 = .ref p ∧ zSm B z v a p) ∧ (zfr z r 1 = .ref q ∧ zSm B z v b q) ∧ ts = a.reverse ++ b.reverse ∧ hdJ v 0 a ∧ hdJ v 4 b
/-- a rule as an object -/
def zRl (B : Nat → Prop) (z : ZH) (v : Nat → Nat) (L : Nat → List (Nat × Nat)) (l r : Nat) : Prop :=
  B r ∧ zcls z r = 15 ∧ zfi z r 0 = nI (v (154 + 5 * l)) ∧ zfi z r 1 = nI (v (154 + 5 * l + 1)) ∧ zfi z r 2 = nI (v (154 + 5 * l + 2)) ∧
  ∃ (tl : Nat) (ta : Nat → Nat), (zfr z r 3 = .ref tl ∧ B tl ∧ zcls z tl = 90 ∧ (zls z tl).length = v (154 + 5 * l + 4)) ∧
  (∀ j, j < v (154 + 5 * l + 4) → (zls z tl).getD j .null = .ref (ta j) ∧ zTs B z v (L (v (154 + 5 * l + 3) + j)) (v (154 + 5 * l + 3) + j) (ta j))
/-- rules: the list rl, at the cells ra -/
def RRu (B : Nat → Prop) (z : ZH) (rl : Nat) (ra : Nat → Nat) (v : Nat → Nat) (L : Nat → List (Nat × Nat)) : Prop :=
  (B rl ∧ zcls z rl = 90) ∧ (zls z rl).length = v 1 ∧ cOK v L ∧ (∀ l, l < v 1 → (zls z rl).getD l .null = .ref (ra l) ∧ zRl B z v L l (ra l))
/-- a ledger's fixed cells -/
def LdS (z : ZH) (l : Nat) : Prop := zcls z l = 3 ∧ zfr z l 2 = .ref (l + 1) ∧ zcls z (l + 1) = 50 ∧ zlen z (l + 1) = 16 ∧ zfr z l 3 = .ref (l + 2) ∧ zcls z (l + 2) = 90 ∧ zfr z l 4 = .ref (l + 4) ∧ zcls z (l + 4) = 4
/-- a ledger's debts, at the cells da; who knows whom -/
def RDe (B : Nat → Prop) (z : ZH) (l : Nat) (da : Nat → Nat) (v : Nat → Nat) : Prop := (zls z (l + 2)).length = v 7 ∧ v 7 ≤ 600 ∧ (∀ i, i < v 7 → (zls z (l + 2)).getD i .null = .ref (da i) ∧ B (da i) ∧ zcls z (da i) = 23 ∧ ∀ j, j < 5 → zfi z (da i) j = nI (v (1880 + 5 * i + j)))
def RKn (z : ZH) (l : Nat) (v : Nat → Nat) : Prop := ∀ h, h < 16 → zia z (l + 1) h = nI (v (1864 + h))
/-- a state's fixed cells -/
def SS (z : ZH) (s : Nat) : Prop := zcls z s = 1 ∧ zfr z s 1 = .ref (s + 7) ∧ zfr z s 2 = .ref (s + 12) ∧ zcls z (s + 12) = 90 ∧ LdS z (s + 7)
/-- its deeds, at the cells ea -/
def RDd (B : Nat → Prop) (z : ZH) (s : Nat) (ea : Nat → Nat) (v : Nat → Nat) : Prop := (zls z (s + 12)).length = v 8 ∧ v 8 ≤ 600 ∧ (∀ i, i < v 8 → (zls z (s + 12)).getD i .null = .ref (ea i) ∧ B (ea i) ∧ zcls z (ea i) = 22 ∧ ∀ j, j < 4 → zfi z (ea i) j = nI (v (6680 + 4 * i + j)))
/-- a state as the world v -/
def RS (B : Nat → Prop) (z : ZH) (s : Nat) (v : Nat → Nat) (L : Nat → List (Nat × Nat)) : Prop :=
  SS z s ∧ ∃ (t hl kn rl : Nat) (ha ra da ea : Nat → Nat), (zfr z s 0 = .ref t ∧ zfr z (s + 7) 0 = .ref t ∧ zfr z t 2 = .ref rl ∧ zfr z (s + 7) 1 = .ref rl) ∧ RHo B z t hl kn ha v ∧ RRu B z rl ra v L ∧
  RDe B z (s + 7) da v ∧ RKn z (s + 7) v ∧ zfi z (s + 7) 5 = nI (v 9) ∧ RDd B z s ea v ∧ zfi z s 3 = nI (v 6)
/-! what stays when the world goes on -/
section ST
variable {B : Nat → Prop} {z z2 : ZH} {v v2 : Nat → Nat}
theorem RHo.st (h : zSt B z z2) {t hl kn : Nat} {ha : Nat → Nat} (k : RHo B z t hl kn ha v) : RHo B z2 t hl kn ha v := by
  obtain ⟨⟨a1, a2⟩, ⟨b1, b2, b3⟩, ⟨c1, c2, c3, c4⟩, ⟨d1, d2⟩, e, f, g1, g2⟩ := k
  obtain ⟨p1, p2, p3, p4, p5, p6⟩ := h t a1
  obtain ⟨q1, q2, q3, q4, q5, q6⟩ := h hl b2
  obtain ⟨r1, r2, r3, r4, r5, r6⟩ := h kn c2
  refine ⟨⟨a1, by rw [p1]; exact a2⟩, ⟨by rw [p3]; exact b1, b2, by rw [q1]; exact b3⟩, ⟨by rw [p3]; exact c1, c2, by rw [r1]; exact c3, by rw [r5]; exact c4⟩, ⟨by rw [q6]; exact d1, d2⟩, ?_, ?_, by rw [p2]; exact g1, by rw [p2]; exact g2⟩
  · intro x hx
    obtain ⟨x1, x2, x3, x4⟩ := e x hx
    obtain ⟨y1, y2, y3, y4, y5, y6⟩ := h _ x2
    exact ⟨by rw [q6]; exact x1, x2, by rw [y1]; exact x3, fun j hj => by rw [y2]; exact x4 j hj⟩
  · intro x hx
    rw [r4]
    exact f x hx
theorem zLf.st (h : zSt B z z2) {k r : Nat} (a : zLf B z v k r) : zLf B z2 v k r := by
  obtain ⟨a1, a2⟩ := a
  obtain ⟨p1, p2, p3, p4, p5, p6⟩ := h r a1
  refine ⟨a1, ?_⟩
  rw [p1, p2]
  exact a2
theorem zTm.st (h : zSt B z z2) {s : Nat} : ∀ {n r : Nat}, zTm B z v s n r → zTm B z2 v s n r
  | 0, r, a => zLf.st h a
  | n + 1, r, a => by
    obtain ⟨a1, a2, a3, x, y, ⟨b1, b2⟩, c1, c2⟩ := a
    obtain ⟨p1, p2, p3, p4, p5, p6⟩ := h r a1
    exact ⟨a1, by rw [p1]; exact a2, by rw [p2]; exact a3, x, y, ⟨by rw [p3]; exact b1, zTm.st h b2⟩, by rw [p3]; exact c1, zLf.st h c2⟩
theorem zSm.st (h : zSt B z z2) : ∀ {ts : List (Nat × Nat)} {r : Nat}, zSm B z v ts r → zSm B z2 v ts r
  | [], r, a => a
  | [x], r, a => zTm.st h a
  | x :: y :: xs, r, a => by
    obtain ⟨a1, a2, a3, a4, u, w, ⟨b1, b2⟩, c1, c2⟩ := a
    obtain ⟨p1, p2, p3, p4, p5, p6⟩ := h r a1
    exact ⟨a1, by rw [p1]; exact a2, a3, by rw [p2]; exact a4, u, w, ⟨by rw [p3]; exact b1, zSm.st h b2⟩, by rw [p3]; exact c1, zTm.st h c2⟩
theorem zTs.st (h : zSt B z z2) {ts : List (Nat × Nat)} {t r : Nat} (a : zTs B z v ts t r) : zTs B z2 v ts t r := by
  obtain ⟨a1, a2, a3, a4, p, q, x, y, ⟨b1, b2⟩, ⟨c1, c2⟩, d1, d2, d3⟩ := a
  obtain ⟨p1, p2, p3, p4, p5, p6⟩ := h r a1
  exact ⟨a1, by rw [p1]; exact a2, a3, by rw [p2]; exact a4, p, q, x, y, ⟨by rw [p3]; exact b1, b2.st h⟩, ⟨by rw [p3]; exact c1, c2.st h⟩, d1, d2, d3⟩
theorem zRl.st (h : zSt B z z2) {L : Nat → List (Nat × Nat)} {l r : Nat} (a : zRl B z v L l r) : zRl B z2 v L l r := by
  obtain ⟨a1, a2, a3, a4, a5, tl, ta, ⟨b1, b2, b3, b4⟩, c⟩ := a
  obtain ⟨p1, p2, p3, p4, p5, p6⟩ := h r a1
  obtain ⟨q1, q2, q3, q4, q5, q6⟩ := h tl b2
  refine ⟨a1, by rw [p1]; exact a2, by rw [p2]; exact a3, by rw [p2]; exact a4, by rw [p2]; exact a5, tl, ta, ⟨by rw [p3]; exact b1, b2, by rw [q1]; exact b3, by rw [q6]; exact b4⟩, fun j hj => ?_⟩
  rw [q6]
  exact ⟨(c j hj).1, (c j hj).2.st h⟩
theorem RRu.st (h : zSt B z z2) {L : Nat → List (Nat × Nat)} {rl : Nat} {ra : Nat → Nat} (a : RRu B z rl ra v L) : RRu B z2 rl ra v L := by
  obtain ⟨⟨a1, a2⟩, b, c, e⟩ := a
  obtain ⟨q1, q2, q3, q4, q5, q6⟩ := h rl a1
  refine ⟨⟨a1, by rw [q1]; exact a2⟩, by rw [q6]; exact b, c, fun l hl => ?_⟩
  rw [q6]
  exact ⟨(e l hl).1, (e l hl).2.st h⟩
/-! .. when the world's numbers change outside the town -/
theorem RHo.ag (h : agC v v2) {t hl kn : Nat} {ha : Nat → Nat} (k : RHo B z t hl kn ha v) : RHo B z t hl kn ha v2 := by
  obtain ⟨a, b, c, ⟨d1, d2⟩, e, f, g1, g2⟩ := k
  have e0 := h 0 (by omega)
  refine ⟨a, b, c, ⟨by rw [e0]; exact d1, by omega⟩, ?_, ?_, by rw [h 4 (by omega)]; exact g1, by rw [h 5 (by omega)]; exact g2⟩
  · intro x hx
    obtain ⟨x1, x2, x3, x4⟩ := e x (by omega)
    exact ⟨x1, x2, x3, fun j hj => by rw [h _ (by omega)]; exact x4 j hj⟩
  · intro x hx
    rw [h _ (by omega)]
    exact f x hx
theorem zLf.ag (h : agC v v2) {k r : Nat} (hk : k < 350) (a : zLf B z v k r) : zLf B z v2 k r := by
  obtain ⟨a1, a2⟩ := a
  refine ⟨a1, ?_⟩
  rw [h _ (by omega), h _ (by omega)]
  exact a2
theorem zTm.ag (h : agC v v2) {s : Nat} : ∀ {n r : Nat}, s + n < 350 → zTm B z v s n r → zTm B z v2 s n r
  | 0, r, hk, a => zLf.ag h hk a
  | n + 1, r, hk, a => by
    obtain ⟨a1, a2, a3, x, y, ⟨b1, b2⟩, c1, c2⟩ := a
    exact ⟨a1, a2, a3, x, y, ⟨b1, zTm.ag h (by omega) b2⟩, c1, zLf.ag h (by omega) c2⟩
theorem zSm.ag (h : agC v v2) : ∀ {ts : List (Nat × Nat)} {r : Nat}, (∀ x, x ∈ ts → x.1 + x.2 < 350) → zSm B z v ts r → zSm B z v2 ts r
  | [], r, _, a => a
  | [x], r, hk, a => zTm.ag h (hk x List.mem_cons_self) a
  | x :: y :: xs, r, hk, a => by
    obtain ⟨a1, a2, a3, a4, u, w, ⟨b1, b2⟩, c1, c2⟩ := a
    have hx := hk x List.mem_cons_self
    have e := h (814 + 3 * x.1) (by omega)
    exact ⟨a1, a2, by rw [e]; exact a3, by rw [e]; exact a4, u, w, ⟨b1, zSm.ag h (fun q hq => hk q (List.mem_cons_of_mem _ hq)) b2⟩, c1, zTm.ag h hx c2⟩
theorem tLay_mem {e : Nat} : ∀ (ts : List (Nat × Nat)) (k : Nat), tLay v e ts k → ∀ x, x ∈ ts → x.1 + x.2 < e
  | [], k, _, x, hx => absurd hx List.not_mem_nil
  | (s, n) :: xs, k, hl, x, hx => by
    obtain ⟨h1, h2, h3, h4, h5⟩ := hl
    rcases List.mem_cons.mp hx with rfl | hx
    · exact h2
    · exact tLay_mem xs _ h5 x hx
theorem RRu.ag (h : agC v v2) {L : Nat → List (Nat × Nat)} {rl : Nat} {ra : Nat → Nat} (a : RRu B z rl ra v L) : RRu B z rl ra v2 L := by
  obtain ⟨a, b, c, e⟩ := a
  have e1 := h 1 (by omega)
  refine ⟨a, by rw [e1]; exact b, cOK_c h c, fun l hl => ?_⟩
  rw [e1] at hl
  obtain ⟨x1, y1, y2, y3, y4, y5, tl, ta, y6, y7⟩ := e l hl
  obtain ⟨c1, c2, c3, c4, c5, c6⟩ := c
  have hl24 : l < 24 := by omega
  refine ⟨x1, y1, y2, by rw [h _ (by omega)]; exact y3, by rw [h _ (by omega)]; exact y4, by rw [h _ (by omega)]; exact y5, tl, ta, by rw [h (154 + 5 * l + 4) (by omega)]; exact y6, ?_⟩
  rw [h (154 + 5 * l + 4) (by omega), h (154 + 5 * l + 3) (by omega)]
  intro j hj
  obtain ⟨w0, w1, w2, w3, w4, p, q, a, b, ⟨u1, u2⟩, ⟨u3, u4⟩, u5, u6, u7⟩ := y7 j hj
  have hc5 := (c5 l hl).2.2.2
  obtain ⟨hc6, hc7⟩ := c6 (v (154 + 5 * l + 3) + j) (by omega)
  have hm := tLay_mem _ _ hc6
  have hma : ∀ x, x ∈ a → x.1 + x.2 < 350 := fun x hx => by
    have := hm x (by rw [u5]; exact List.mem_append_left _ (List.mem_reverse.mpr hx))
    omega
  have hmb : ∀ x, x ∈ b → x.1 + x.2 < 350 := fun x hx => by
    have := hm x (by rw [u5]; exact List.mem_append_right _ (List.mem_reverse.mpr hx))
    omega
  refine ⟨w0, w1, w2, by rw [h _ (by omega)]; exact w3, by rw [h _ (by omega)]; exact w4, p, q, a, b, ⟨u1, u2.ag h hma⟩, ⟨u3, u4.ag h hmb⟩, u5, ?_, ?_⟩
  · obtain ⟨x, xs, r1, r2⟩ := u6
    have := hma x (List.mem_reverse.mp (by rw [r1]; exact List.mem_cons_self))
    exact ⟨x, xs, r1, by rw [h _ (by omega)]; exact r2⟩
  · obtain ⟨x, xs, r1, r2⟩ := u7
    have := hmb x (List.mem_reverse.mp (by rw [r1]; exact List.mem_cons_self))
    exact ⟨x, xs, r1, by rw [h _ (by omega)]; exact r2⟩
/-! .. lists and cells that are the same; more cells that may not be written -/
theorem RDe.st (h : zSt B z z2) {l : Nat} {da : Nat → Nat} (hls : zls z2 (l + 2) = zls z (l + 2)) (a : RDe B z l da v) : RDe B z2 l da v := by
  obtain ⟨a1, a2, a3⟩ := a
  refine ⟨by rw [hls]; exact a1, a2, fun i hi => ?_⟩
  obtain ⟨b1, b2, b3, b4⟩ := a3 i hi
  obtain ⟨p1, p2, p3, p4, p5, p6⟩ := h _ b2
  exact ⟨by rw [hls]; exact b1, b2, by rw [p1]; exact b3, fun j hj => by rw [p2]; exact b4 j hj⟩
theorem RDd.st (h : zSt B z z2) {s : Nat} {ea : Nat → Nat} (hls : zls z2 (s + 12) = zls z (s + 12)) (a : RDd B z s ea v) : RDd B z2 s ea v := by
  obtain ⟨a1, a2, a3⟩ := a
  refine ⟨by rw [hls]; exact a1, a2, fun i hi => ?_⟩
  obtain ⟨b1, b2, b3, b4⟩ := a3 i hi
  obtain ⟨p1, p2, p3, p4, p5, p6⟩ := h _ b2
  exact ⟨by rw [hls]; exact b1, b2, by rw [p1]; exact b3, fun j hj => by rw [p2]; exact b4 j hj⟩
variable {B2 : Nat → Prop}
theorem RHo.mono (h : ∀ q, B q → B2 q) {t hl kn : Nat} {ha : Nat → Nat} (k : RHo B z t hl kn ha v) : RHo B2 z t hl kn ha v := by
  obtain ⟨⟨a1, a2⟩, ⟨b1, b2, b3⟩, ⟨c1, c2, c3⟩, dd, e, f⟩ := k
  exact ⟨⟨h _ a1, a2⟩, ⟨b1, h _ b2, b3⟩, ⟨c1, h _ c2, c3⟩, dd, fun x hx => ⟨(e x hx).1, h _ (e x hx).2.1, (e x hx).2.2⟩, f⟩
theorem zLf.mono (h : ∀ q, B q → B2 q) {k r : Nat} (a : zLf B z v k r) : zLf B2 z v k r := ⟨h _ a.1, a.2⟩
theorem zTm.mono (h : ∀ q, B q → B2 q) {s : Nat} : ∀ {n r : Nat}, zTm B z v s n r → zTm B2 z v s n r
  | 0, r, a => zLf.mono h a
  | n + 1, r, a => by
    obtain ⟨a1, a2, a3, x, y, ⟨b1, b2⟩, c1, c2⟩ := a
    exact ⟨h _ a1, a2, a3, x, y, ⟨b1, zTm.mono h b2⟩, c1, zLf.mono h c2⟩
theorem zSm.mono (h : ∀ q, B q → B2 q) : ∀ {ts : List (Nat × Nat)} {r : Nat}, zSm B z v ts r → zSm B2 z v ts r
  | [], r, a => a
  | [x], r, a => zTm.mono h a
  | x :: y :: xs, r, a => by
    obtain ⟨a1, a2, a3, a4, u, w, ⟨b1, b2⟩, c1, c2⟩ := a
    exact ⟨h _ a1, a2, a3, a4, u, w, ⟨b1, zSm.mono h b2⟩, c1, zTm.mono h c2⟩
theorem zTs.mono (h : ∀ q, B q → B2 q) {ts : List (Nat × Nat)} {t r : Nat} (a : zTs B z v ts t r) : zTs B2 z v ts t r := by
  obtain ⟨a1, a2, a3, a4, p, q, x, y, ⟨b1, b2⟩, ⟨c1, c2⟩, dd⟩ := a
  exact ⟨h _ a1, a2, a3, a4, p, q, x, y, ⟨b1, b2.mono h⟩, ⟨c1, c2.mono h⟩, dd⟩
theorem zRl.mono (h : ∀ q, B q → B2 q) {L : Nat → List (Nat × Nat)} {l r : Nat} (a : zRl B z v L l r) : zRl B2 z v L l r := by
  obtain ⟨a1, a2, a3, a4, a5, tl, ta, ⟨b1, b2, b3⟩, c⟩ := a
  exact ⟨h _ a1, a2, a3, a4, a5, tl, ta, ⟨b1, h _ b2, b3⟩, fun j hj => ⟨(c j hj).1, (c j hj).2.mono h⟩⟩
theorem RRu.mono (h : ∀ q, B q → B2 q) {L : Nat → List (Nat × Nat)} {rl : Nat} {ra : Nat → Nat} (a : RRu B z rl ra v L) : RRu B2 z rl ra v L := by
  obtain ⟨⟨a1, a2⟩, b, c, e⟩ := a
  exact ⟨⟨h _ a1, a2⟩, b, c, fun l hl => ⟨(e l hl).1, (e l hl).2.mono h⟩⟩
theorem RDe.mono (h : ∀ q, B q → B2 q) {l : Nat} {da : Nat → Nat} (a : RDe B z l da v) : RDe B2 z l da v := ⟨a.1, a.2.1, fun i hi => ⟨(a.2.2 i hi).1, h _ (a.2.2 i hi).2.1, (a.2.2 i hi).2.2⟩⟩
theorem RDd.mono (h : ∀ q, B q → B2 q) {s : Nat} {ea : Nat → Nat} (a : RDd B z s ea v) : RDd B2 z s ea v := ⟨a.1, a.2.1, fun i hi => ⟨(a.2.2 i hi).1, h _ (a.2.2 i hi).2.1, (a.2.2 i hi).2.2⟩⟩
end ST
