set_option maxRecDepth 100000
/-! pictures: other cells that may not be written, other numbers that are the same below 9080 -/
section AH
variable {B B2 : Nat → Prop} {z z2 : ZH} {v v2 : Nat → Nat} {L : Nat → List (Nat × Nat)} {t hl kn rl : Nat} {ha ra da ea : Nat → Nat}
theorem RHo.mo (h : ∀ q, B q → ¬ zcls z q = 2 → B2 q) (ht : B2 t) (k : RHo B z t hl kn ha v) : RHo B2 z t hl kn ha v := by
  obtain ⟨⟨a1, a2⟩, ⟨b1, b2, b3⟩, ⟨c1, c2, c3, c4⟩, dd, e, f⟩ := k
  refine ⟨⟨ht, a2⟩, ⟨b1, h _ b2 (by omega), b3⟩, ⟨c1, h _ c2 (by omega), c3, c4⟩, dd, fun x hx => ?_, f⟩
  obtain ⟨e1, e2, e3, e4⟩ := e x hx
  exact ⟨e1, h _ e2 (by omega), e3, e4⟩
theorem zLf.mo (h : ∀ q, B q → ¬ zcls z q = 2 → B2 q) {k r : Nat} (a : zLf B z v k r) : zLf B2 z v k r := by
  obtain ⟨a1, a2⟩ := a
  refine ⟨h _ a1 ?_, a2⟩
  rcases a2 with ⟨x, _⟩ | ⟨x, _⟩ <;> omega
theorem zTm.mo (h : ∀ q, B q → ¬ zcls z q = 2 → B2 q) {s : Nat} : ∀ {n r : Nat}, zTm B z v s n r → zTm B2 z v s n r
  | 0, r, a => zLf.mo h a
  | n + 1, r, a => by
    obtain ⟨a1, a2, a3, x, y, ⟨b1, b2⟩, c1, c2⟩ := a
    exact ⟨h _ a1 (by omega), a2, a3, x, y, ⟨b1, zTm.mo h b2⟩, c1, zLf.mo h c2⟩
theorem zSm.mo (h : ∀ q, B q → ¬ zcls z q = 2 → B2 q) : ∀ {ts : List (Nat × Nat)} {r : Nat}, zSm B z v ts r → zSm B2 z v ts r
  | [], r, a => a
  | [x], r, a => zTm.mo h a
  | x :: y :: xs, r, a => by
    obtain ⟨a1, a2, a3, a4, u, w, ⟨b1, b2⟩, c1, c2⟩ := a
    exact ⟨h _ a1 (by omega), a2, a3, a4, u, w, ⟨b1, zSm.mo h b2⟩, c1, zTm.mo h c2⟩
theorem zTs.mo (h : ∀ q, B q → ¬ zcls z q = 2 → B2 q) {ts : List (Nat × Nat)} {t r : Nat} (a : zTs B z v ts t r) : zTs B2 z v ts t r := by
  obtain ⟨a1, a2, a3, a4, p, q, x, y, ⟨b1, b2⟩, ⟨c1, c2⟩, dd⟩ := a
  exact ⟨h _ a1 (by omega), a2, a3, a4, p, q, x, y, ⟨b1, b2.mo h⟩, ⟨c1, c2.mo h⟩, dd⟩
theorem zRl.mo (h : ∀ q, B q → ¬ zcls z q = 2 → B2 q) {l r : Nat} (a : zRl B z v L l r) : zRl B2 z v L l r := by
  obtain ⟨a1, a2, a3, a4, a5, tl, ta, ⟨b1, b2, b3, b4⟩, c⟩ := a
  exact ⟨h _ a1 (by omega), a2, a3, a4, a5, tl, ta, ⟨b1, h _ b2 (by omega), b3, b4⟩, fun j hj => ⟨(c j hj).1, (c j hj).2.mo h⟩⟩
theorem RRu.mo (h : ∀ q, B q → ¬ zcls z q = 2 → B2 q) {rl : Nat} {ra : Nat → Nat} (a : RRu B z rl ra v L) : RRu B2 z rl ra v L := by
  obtain ⟨⟨a1, a2⟩, b, c, e⟩ := a
  exact ⟨⟨h _ a1 (by omega), a2⟩, b, c, fun l hl => ⟨(e l hl).1, (e l hl).2.mo h⟩⟩
theorem RDe.mo (h : ∀ q, B q → ¬ zcls z q = 2 → B2 q) {l : Nat} {da : Nat → Nat} (a : RDe B z l da v) : RDe B2 z l da v := by
  refine ⟨a.1, a.2.1, fun i hi => ?_⟩
  obtain ⟨e1, e2, e3, e4⟩ := a.2.2 i hi
  exact ⟨e1, h _ e2 (by omega), e3, e4⟩
theorem RDd.mo (h : ∀ q, B q → ¬ zcls z q = 2 → B2 q) {s : Nat} {ea : Nat → Nat} (a : RDd B z s ea v) : RDd B2 z s ea v := by
  refine ⟨a.1, a.2.1, fun i hi => ?_⟩
  obtain ⟨e1, e2, e3, e4⟩ := a.2.2 i hi
  exact ⟨e1, h _ e2 (by omega), e3, e4⟩
theorem RS.mo {s : Nat} (h : ∀ q, B q → ¬ zcls z q = 2 → B2 q) (ht : ∀ t : Nat, zfr z s 0 = .ref t → B t → B2 t) (a : RS B z s v L) : RS B2 z s v L := by
  obtain ⟨sS, t, hl, kn, rl, ha, ra, da, ea, ⟨t1, t2, t3, t4⟩, hH, hR, hD, hK, h9, hE, h6⟩ := a
  exact ⟨sS, t, hl, kn, rl, ha, ra, da, ea, ⟨t1, t2, t3, t4⟩, hH.mo h (ht t t1 hH.1.1), hR.mo h, hD.mo h, hK, h9, hE.mo h, h6⟩
/-- the last cell of a state's ledger but one may be written -/
theorem RS_fr1 {W : Nat → Prop} {s : Nat} (h : RS B z s v L) (F : zFr W z z2) (hs : s + 14 ≤ zn z) (hW : ∀ q, s ≤ q → q < s + 14 → ¬ q = s + 11 → ¬ W q) (hc : zcls z2 (s + 11) = zcls z (s + 11)) (hB : ∀ q, B q → q < zn z ∧ ¬ W q) : RS B z2 s v L := by
  obtain ⟨⟨s1, s2, s3, s4, l1, l2, l3, l4, l5, l6, l7, l8⟩, t, hl, kn, rl, ha, ra, da, ea, ⟨t1, t2, t3, t4⟩, hH, hR, hD, hK, h9, hE, h6⟩ := h
  have st : zSt B z z2 := F.st hB
  have c := fun q (h1 : s ≤ q) (h2 : q < s + 14) (h3 : ¬ q = s + 11) => F.2 q (by omega) (hW q h1 h2 h3)
  have c0 := c s (by omega) (by omega) (by omega)
  have c7 := c (s + 7) (by omega) (by omega) (by omega)
  have c8 := c (s + 8) (by omega) (by omega) (by omega)
  have c9 := c (s + 9) (by omega) (by omega) (by omega)
  have c12 := c (s + 12) (by omega) (by omega) (by omega)
  have tB := st t hH.1.1
  refine ⟨⟨by rw [c0.1]; exact s1, by rw [c0.2.2.1]; exact s2, by rw [c0.2.2.1]; exact s3, by rw [c12.1]; exact s4, by rw [c7.1]; exact l1, by rw [c7.2.2.1]; exact l2, by rw [show s + 7 + 1 = s + 8 from rfl, c8.1]; exact l3, by rw [show s + 7 + 1 = s + 8 from rfl, c8.2.2.2.2.2.2.1]; exact l4, by rw [c7.2.2.1]; exact l5, by rw [show s + 7 + 2 = s + 9 from rfl, c9.1]; exact l6, by rw [c7.2.2.1]; exact l7, by rw [show s + 7 + 4 = s + 11 from rfl, hc]; exact l8⟩, t, hl, kn, rl, ha, ra, da, ea, ⟨by rw [c0.2.2.1]; exact t1, by rw [c7.2.2.1]; exact t2, by rw [tB.2.2.1]; exact t3, by rw [c7.2.2.1]; exact t4⟩, hH.st st, hR.st st, hD.st st c9.2.2.2.2.2.2.2, fun h hh => ?_, by rw [c7.2.1]; exact h9, hE.st st c12.2.2.2.2.2.2.2, by rw [c0.2.1]; exact h6⟩
  rw [show s + 7 + 1 = s + 8 from rfl, c8.2.2.2.1]
  exact hK h hh
theorem RS_ag9 {s : Nat} (h9 : ∀ i, i < 9080 → v2 i = v i) (a : RS B z s v L) : RS B z s v2 L := by
  obtain ⟨sS, t, hl, kn, rl, ha, ra, da, ea, tt, hH, hR, hD, hK, h99, hE, h6⟩ := a
  have ag : agC v v2 := fun i hi => h9 i (by omega)
  refine ⟨sS, t, hl, kn, rl, ha, ra, da, ea, tt, hH.ag ag, hR.ag ag, ?_, fun h hh => by rw [h9 _ (by omega)]; exact hK h hh, by rw [h9 9 (by omega)]; exact h99, ?_, by rw [h9 6 (by omega)]; exact h6⟩
  · obtain ⟨a1, a2, a3⟩ := hD
    have e := h9 7 (by omega)
    refine ⟨by rw [e]; exact a1, by rw [e]; exact a2, fun i hi => ?_⟩
    rw [e] at hi
    obtain ⟨b1, b2, b3, b4⟩ := a3 i hi
    exact ⟨b1, b2, b3, fun j hj => by rw [h9 _ (by omega)]; exact b4 j hj⟩
  · obtain ⟨a1, a2, a3⟩ := hE
    have e := h9 8 (by omega)
    refine ⟨by rw [e]; exact a1, by rw [e]; exact a2, fun i hi => ?_⟩
    rw [e] at hi
    obtain ⟨b1, b2, b3, b4⟩ := a3 i hi
    exact ⟨b1, b2, b3, fun j hj => by rw [h9 _ (by omega)]; exact b4 j hj⟩
theorem WF_ag6 {K : Nat} (h9 : ∀ i, i < 9080 → ¬ i = 6 → v2 i = v i) (h6 : v2 6 ≤ 399) (hB : wB v2) (h : WF v L K) : WF v2 L K := by
  obtain ⟨_, ⟨t0, t1, t2, t3, t4⟩, k, ⟨d1, d2⟩, ⟨e1, e2, e3⟩, c, h99⟩ := h
  have ag : agC v v2 := fun i hi => h9 i (by omega) (by omega)
  have x0 := h9 0 (by omega) (by omega)
  have x7 := h9 7 (by omega) (by omega)
  have x8 := h9 8 (by omega) (by omega)
  refine ⟨hB, ⟨by rw [x0]; exact t0, by rw [h9 4 (by omega) (by omega)]; exact t1, by rw [h9 5 (by omega) (by omega)]; exact t2, fun h hh => ?_, fun h hh => ?_⟩, fun h hh => ?_, ⟨by rw [x7, x8]; exact d1, fun i hi => ?_⟩, ⟨by rw [x8]; exact e1, h6, fun i hi => ?_⟩, cOK_c ag c, by rw [h9 9 (by omega) (by omega)]; exact h99⟩
  · rw [x0] at hh
    rw [h9 _ (by omega) (by omega), h9 (10 + 9 * h + 1) (by omega) (by omega), h9 (10 + 9 * h + 2) (by omega) (by omega), h9 (10 + 9 * h + 3) (by omega) (by omega), h9 (10 + 9 * h + 4) (by omega) (by omega), h9 (10 + 9 * h + 5) (by omega) (by omega), h9 (10 + 9 * h + 6) (by omega) (by omega), h9 (10 + 9 * h + 7) (by omega) (by omega)]
    exact t3 h hh
  · rw [x0, h9 (10 + 9 * h + 8) (by omega) (by omega)]
    exact t4 h hh
  · rw [x0, h9 (1864 + h) (by omega) (by omega)]
    exact k h hh
  · rw [x7] at hi
    rw [x0, h9 _ (by omega) (by omega), h9 (1880 + 5 * i + 1) (by omega) (by omega), h9 (1880 + 5 * i + 2) (by omega) (by omega), h9 (1880 + 5 * i + 3) (by omega) (by omega), h9 (1880 + 5 * i + 4) (by omega) (by omega)]
    exact d2 i hi
  · rw [x8] at hi
    rw [x0, h9 _ (by omega) (by omega), h9 (6680 + 4 * i + 1) (by omega) (by omega), h9 (6680 + 4 * i + 2) (by omega) (by omega), h9 (6680 + 4 * i + 3) (by omega) (by omega)]
    exact e3 i hi
theorem WF_ag9 {K : Nat} (h9 : ∀ i, i < 9080 → v2 i = v i) (hB : wB v2) (h : WF v L K) : WF v2 L K := WF_ag6 (fun i hi _ => h9 i hi) (by rw [h9 6 (by omega)]; exact h.2.2.2.2.1.2.1) hB h
/-- a day more -/
theorem RS_day {w : Nat → Nat} (h : RS B z 102 v L) (nB : ¬ B 102) (hw : ∀ i, ¬ i = 6 → w i = v i) : RS B (sfi z 102 3 (nI (w 6))) 102 w L := by
  obtain ⟨sS, t, hl, kn, rl, ha, ra, da, ea, tt, hH, hR, hD, hK, h99, hE, h6⟩ := h
  have st : zSt B z (sfi z 102 3 (nI (w 6))) := zSt_sfi (zSt_refl _ _) nB
  have ag : agC v w := fun i hi => hw i (by omega)
  refine ⟨sS, t, hl, kn, rl, ha, ra, da, ea, tt, (hH.st st).ag ag, (hR.st st).ag ag, ?_, fun h hh => by rw [hw (1864 + h) (by omega)]; exact hK h hh, ?_, ?_, ?_⟩
  · obtain ⟨a1, a2, a3⟩ := hD.st st rfl
    have e := hw 7 (by omega)
    refine ⟨by rw [e]; exact a1, by rw [e]; exact a2, fun i hi => ?_⟩
    rw [e] at hi
    obtain ⟨b1, b2, b3, b4⟩ := a3 i hi
    exact ⟨b1, b2, b3, fun j hj => by rw [hw (1880 + 5 * i + j) (by omega)]; exact b4 j hj⟩
  · rw [hw 9 (by omega), fi_sfi, zu2_n _ _ _ _ (by omega)]
    exact h99
  · obtain ⟨a1, a2, a3⟩ := hE.st st rfl
    have e := hw 8 (by omega)
    refine ⟨by rw [e]; exact a1, by rw [e]; exact a2, fun i hi => ?_⟩
    rw [e] at hi
    obtain ⟨b1, b2, b3, b4⟩ := a3 i hi
    exact ⟨b1, b2, b3, fun j hj => by rw [hw (6680 + 4 * i + j) (by omega)]; exact b4 j hj⟩
  · rw [fi_sfi, zu2_s]
end AH
/-! while it is good no place of a fault is told -/
section PG
variable {b : Nat → Nat} {sz : Nat} {S : YS} {G : Nat → Nat}
def pG (S : YS) : Prop := yFk S = 0 → yFp S = -1
theorem pG_adv (h : pG S) : pG (yAdv b sz S) := by
  unfold pG at h ⊢
  rw [(yAdv_fk b sz S).1, (yAdv_fk b sz S).2]
  exact h
theorem pG_err {x : Nat} (hx : 0 < x) : pG (yErr x S) := fun e => absurd e (yErr_fk hx)
theorem pG_need {r : Nat} (h : pG S) : pG (yNeed b sz r S) := by
  unfold yNeed
  split
  · exact pG_adv h
  · exact pG_err (by omega)
theorem pG_num {lo n : Nat} (h : pG S) : pG (yNum b sz lo n S).1 := by
  unfold yNum
  repeat' split
  · exact pG_adv h
  · exact pG_err (by omega)
  · exact pG_err (by omega)
  · exact h
theorem pG_tkn {n k : Nat} (h : pG S) : pG (yTkn b sz n k S) := by
  unfold yTkn
  repeat' split
  · exact pG_adv h
  · exact h
  · exact pG_err (by omega)
theorem pG_P1 (h : pG S) : pG (yP1 b sz S).1 := by
  unfold yP1
  split
  · exact pG_adv h
  · exact pG_num h
theorem pG_H (h : pG S) : pG (yH8 b sz S).1 := by
  have h1 : pG (yH1 b sz S).1 := pG_num (pG_need h)
  have h2 : pG (yH2 b sz S).1 := by unfold yH2; exact pG_num h1
  have h3 : pG (yH3 b sz S).1 := by unfold yH3; exact pG_num (pG_need h2)
  have h5 : pG (yH4 b sz S) := by unfold yH4; exact pG_tkn (pG_need h3)
  have h6 : pG (yH5 b sz S).1 := by unfold yH5; exact pG_num h5
  have h7 : pG (yH6 b sz S).1 := by unfold yH6; exact pG_num h6
  have h8 : pG (yH7 b sz S).1 := by
    unfold yH7
    generalize (yH6 b sz S).1 = X at h7 ⊢
    split
    · exact pG_num (pG_adv h7)
    · dsimp only; exact h7
  unfold yH8
  generalize (yH7 b sz S).1 = X at h8 ⊢
  split
  · exact pG_num (pG_adv h8)
  · dsimp only; exact h8
theorem pG_K {n : Nat} (h : pG S) : pG (yK3 b sz n S).1 := by
  have h1 : pG (yK1 b sz n S).1 := pG_num h
  have h2 : pG (yK2 b sz n S) := by
    unfold yK2
    split
    · exact pG_err (by omega)
    · exact h1
  exact pG_num h2
theorem pG_SL : ∀ (n : Nat) (S : YS) (G : Nat → Nat), pG S → pG (ySL b sz n S G).1
  | 0, S, G, h => h
  | n + 1, S, G, h => by
    unfold ySL
    split
    · exact pG_SL n _ _ (pG_P1 (pG_adv h))
    · exact h
theorem pG_Sum {j : Nat} (h : pG S) : pG (ySum b sz j S G).1 := pG_SL _ _ _ (pG_P1 h)
theorem pG_T (h : pG S) : pG (yT3 b sz S G).1 := by
  have h1 : pG (yT1 b sz S G).1 := pG_Sum h
  have h2 : pG (yT2 b sz S G) := pG_tkn h1
  unfold yT3
  split
  · exact pG_Sum h2
  · exact h2
theorem pG_TL : ∀ (n : Nat) (S : YS) (G : Nat → Nat), pG S → pG (yTL b sz n S G).1
  | 0, S, G, h => h
  | n + 1, S, G, h => by
    unfold yTL
    split
    · exact pG_TL n _ _ (pG_T (pG_adv h))
    · exact h
theorem pG_O (h : pG S) : pG (yO5 b sz S G).1 := by
  have h1 : pG (yO1 b sz S) := pG_tkn h
  have h2 : pG (yO2 b sz S) := pG_need h1
  have h3 : pG (yO3 b sz S) := pG_tkn h2
  have h4 : pG (yO4 b sz S).1 := pG_num (pG_need h3)
  unfold yO5
  split
  · exact pG_TL _ _ _ (pG_T (pG_adv h4))
  · exact h4
theorem pG_Bo (h : pG S) : pG (yBo b sz S G).1 := by
  unfold yBo
  repeat' split
  all_goals dsimp only
  · exact pG_O h
  · exact pG_H (pG_adv h)
  · exact pG_K (pG_adv h)
  · exact pG_num (pG_adv h)
  · exact pG_num (pG_adv h)
theorem pG_Ln (h : pG S) : pG (yLn b sz S G).1 := by
  unfold yLn
  repeat' split
  all_goals dsimp only
  · exact pG_err (by omega)
  · exact pG_err (by omega)
  · have h2 : pG (yBo b sz S G).1 := pG_Bo h
    unfold yEnd
    repeat' split
    · exact pG_adv h2
    · exact pG_err (by omega)
    · exact h2
theorem pG_TW : ∀ (n : Nat) (S : YS) (G : Nat → Nat), pG S → pG (yTW b sz n S G).1
  | 0, S, G, h => h
  | n + 1, S, G, h => by
    unfold yTW
    split
    · exact pG_TW n _ _ (pG_Ln h)
    · exact h
end PG
