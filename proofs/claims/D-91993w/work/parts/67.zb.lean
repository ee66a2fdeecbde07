set_option maxRecDepth 100000
/-! the component's ledger: what is done, whole -/
theorem zlel_sfi (z : ZH) (r k : Nat) (x : Int32) : zlel (sfi z r k x) = zlel z := rfl
/-- the cells of the ledger l that may be written -/
def LdW (l q : Nat) : Prop := q = l ∨ q = l + 1 ∨ q = l + 2 ∨ q = l + 4
/-- a ledger behind a deed -/
def LdP (B : Nat → Prop) (z z2 : ZH) (l : Nat) (B2 : Nat → Prop) (da2 : Nat → Nat) (v2 : Nat → Nat) : Prop :=
  zFr (LdW l) z z2 ∧ LdS z2 l ∧ zfr z2 l = zfr z l ∧ (∀ q, B q → B2 q) ∧ (∀ q, B2 q → 100 ≤ q ∧ q < zn z2 ∧ (B q ∨ zn z ≤ q)) ∧ RDe B2 z2 l da2 v2 ∧ RKn z2 l v2 ∧
  (zuc z ≤ zuc z2 ∧ zuc z2 ≤ zuc z + 2) ∧ (zus z ≤ zus z2 ∧ zus z2 + 4 * capL z (l + 2) ≤ zus z + 5 + 4 * capL z2 (l + 2)) ∧ capL z2 (l + 2) ≤ max (capL z (l + 2)) 1201 ∧ capL z (l + 2) ≤ capL z2 (l + 2) ∧ zus z2 ≤ zus z + 1206
section CE
variable {d : Nat} {B : Nat → Prop} {z : ZH} {Q : ZQ} {v da ha ra : Nat → Nat} {l t hl kn rl : Nat} {L : Nat → List (Nat × Nat)}
theorem c69 (hL : LdS z l) (hT : zfr z l 0 = .ref t) (hr : zfr z l 1 = .ref rl) (hH : RHo B z t hl kn ha v) (hR : RRu B z rl ra v L) (hD : RDe B z l da v) (hK : RKn z l v) (nB : ∀ q, LdW l q → ¬ B q) (hB : ∀ q, B q → 100 ≤ q ∧ q < zn z) (hlz : l + 4 < zn z) (h100 : 100 ≤ zn z) (hW : wB v) (hLl : ∀ t, t < v 2 → (L t).length ≤ 350) (hd : 1010 ≤ d) {a b p dy pq : Nat} (ha' : a < v 0) (hb' : b < v 0) (hab : ¬ a = b) (hp : p < 4) (hy : dy ≤ 399) (h7 : v 7 < 600) (hpq : zcls z pq = 6 + p) (hpz : pq < zn z)
    (H : ∀ z2 B2 da2, LdP B z z2 l B2 da2 (sGoes v L a b p dy).1 → zfi z2 l 5 = zfi z l 5 + nI (sGoes v L a b p dy).2 → Q (.inl (some (.int (nI (sGoes v L a b p dy).2)))) z2) : ZC zG d 69 [.ref l, .int (nI a), .int (nI b), .ref pq, .int (nI dy)] z Q := by
  have hL2 := hL
  unfold LdS at hL2
  obtain ⟨d, rfl⟩ : ∃ d', d = d' + 3 := ⟨d - 3, by omega⟩
  have h16 : v 0 ≤ 16 := hH.2.2.2.1.2
  have hvv : ∀ i, v i < 2147483648 := fun i => by have := hW i; omega
  have hls := hD.1
  have nl : ¬ B l := nB l (Or.inl rfl)
  have nl1 : ¬ B (l + 1) := nB _ (Or.inr (Or.inl rfl))
  have nl2 : ¬ B (l + 2) := nB _ (Or.inr (Or.inr (Or.inl rfl)))
  have nl4 : ¬ B (l + 4) := nB _ (Or.inr (Or.inr (Or.inr rfl)))
  have pl : ¬ pq = l ∧ ¬ pq = l + 1 ∧ ¬ pq = l + 2 ∧ ¬ pq = l + 4 := by
    refine ⟨?_, ?_, ?_, ?_⟩ <;> intro e <;> subst e <;> omega
  have hW1 : wB (sPays a b p (v 7) v 0).1 := sPays_v (v 7) v 0 hW
  have hag := agC_pays (a := a) (b := b) (p := p) (v 7) (n := 0) (agC_refl v)
  have hn := fun q => sPays_n (a := a) (b := b) (p := p) (v 7) v 0 q (Nat.le_refl _)
  have h71 := sPays_7 (a := a) (b := b) (p := p) (v 7) v 0
  have hg : sGoes v L a b p dy = (if 2 ≤ p then sMeets (sAfter (sPays a b p (v 7) v 0).1 (ptC (sPays a b p (v 7) v 0).1 a b dy) L a b p dy) a b else sAfter (sPays a b p (v 7) v 0).1 (ptC (sPays a b p (v 7) v 0).1 a b dy) L a b p dy, (sPays a b p (v 7) v 0).2) := if_neg (by omega)
  rw [hg] at H
  dsimp only at H
  generalize hV : (sPays a b p (v 7) v 0).1 = v1 at H hW1 hag hn h71
  generalize hN : (sPays a b p (v 7) v 0).2 = n at H
  have hvf : sPays a b p (v 7) v 0 = (v1, n) := by rw [← hV, ← hN]
  have hvb : ∀ i, v1 i < 2147483648 := fun i => by have := hW1 i; omega
  generalize hV2 : sAfter v1 (ptC v1 a b dy) L a b p dy = v2 at H
  -- from 172 on
  have tail : ∀ z3 B3 da3 x6 x7, LdP B z z3 l B3 da3 v2 → zfi z3 l 5 = zfi z l 5 + nI n → ZW zG (d + 3) 69 172 [.ref l, .int (nI a), .int (nI b), .ref pq, .int (nI dy), .int (nI n), x6, x7] [] z3 Q := by
    intro z3 B3 da3 x6 x7 hP h5
    have hP0 := hP
    obtain ⟨p1, p2, p3, p4, p5, p6, p7, p8, p9, p10, p11, p12⟩ := hP
    have hc3 : zcls z3 pq = 6 + p := by rw [(p1.2 pq hpz (by unfold LdW; omega)).1]; exact hpq
    have p22 := p2
    unfold LdS at p22
    obtain ⟨k1, g1, g2, g3⟩ := pay_knows hp hc3
    have u1 := fun ls st Q => s69_173 (d := d + 2) (z := z3) (Q := Q) (ls := ls) (st := st) (r := pq) (k1 := k1) g1 g2
    by_cases h2 : 2 ≤ p
    · rw [if_pos h2] at H
      have c := fun d Q => c73 (d := d) (z := z3) (Q := Q) p2 p7 (a := a) (b := b) (by omega) (by omega) hab
      simp (disch := omega) only [s69_172, s69_176, s69_179, s69_180, s69_181, s69_182, s69_185, s69_187, u1, g3, zcs_0, zcs_1, zcs_2, zcs_3, zcs_4, zcs_5, zcs_6, zcs_7, znl_i, znl_r, znl_n, Bool.and_true, Bool.true_and, zk_v, zk_n, zk_x, zir_r, zir_n, zclr_i, zclr_r, zclr_n, zclr_d, zclr_l, true_and, and_true, and_self, if_true, if_false, reduceIte, nI_add, pk_mul, zin_ok, zx_nI, nI_lt2, nI_le2, nI_eq2, nI_l0, nI_g0, nI_q0, nI_p0, nI_n0, nI_m1, Nat.add_zero, Nat.zero_add, Nat.reduceAdd, Nat.reduceMul, true_or, or_true, znar_50, bI_0, bI_1, bI_z, bft, nI_z0, nI_z1, lgc_lt, lgc_gt, lgc_le, lgc_ge, lgc_eq, not_true_eq_false, not_false_eq_true, Bool.not_eq_true, Bool.not_eq_false, reduceCtorEq, h2, decide_true, p22, c]
      refine H _ B3 da3 ⟨?_, p2, p3, p4, p5, ?_, RKn_meets p7 (by omega) (by omega) hab, p8, p9, p10, p11, p12⟩ h5
      · exact zFr_sia (zFr_sia p1 (Or.inr (Or.inr (Or.inl rfl)))) (Or.inr (Or.inr (Or.inl rfl)))
      · have hst : zSt B3 z3 (sia (sia z3 (l + 1) a (nI (v2 (1864 + a) ||| 2 ^ b))) (l + 1) b (nI (v2 (1864 + b) ||| 2 ^ a))) := by
          have nn : ¬ B3 (l + 1) := fun h => by
            rcases (p5 _ h).2.2 with h | h
            · exact nl1 h
            · omega
          exact zSt_sia (zSt_sia (zSt_refl _ _) nn) nn
        have hD3 := RDe.st hst rfl p6
        obtain ⟨q1, q2, q3⟩ := hD3
        have e7 : sMeets v2 a b 7 = v2 7 := sMeets_0 (by omega) (by omega) (by omega)
        refine ⟨by rw [e7]; exact q1, by rw [e7]; exact q2, fun i hi => ?_⟩
        rw [e7] at hi
        obtain ⟨w1, w2, w3, w4⟩ := q3 i hi
        refine ⟨w1, w2, w3, fun j hj => ?_⟩
        rw [sMeets_0 (by omega) (by omega) (by omega)]
        exact w4 j hj
    · rw [if_neg h2] at H
      simp (disch := omega) only [s69_172, s69_176, s69_179, s69_180, s69_181, s69_182, s69_185, s69_187, u1, g3, zcs_0, zcs_1, zcs_2, zcs_3, zcs_4, zcs_5, zcs_6, zcs_7, znl_i, znl_r, znl_n, Bool.and_true, Bool.true_and, zk_v, zk_n, zk_x, zir_r, zir_n, zclr_i, zclr_r, zclr_n, zclr_d, zclr_l, true_and, and_true, and_self, if_true, if_false, reduceIte, nI_add, pk_mul, zin_ok, zx_nI, nI_lt2, nI_le2, nI_eq2, nI_l0, nI_g0, nI_q0, nI_p0, nI_n0, nI_m1, Nat.add_zero, Nat.zero_add, Nat.reduceAdd, Nat.reduceMul, true_or, or_true, znar_50, bI_0, bI_1, bI_z, bft, nI_z0, nI_z1, lgc_lt, lgc_gt, lgc_le, lgc_ge, lgc_eq, not_true_eq_false, not_false_eq_true, Bool.not_eq_true, Bool.not_eq_false, reduceCtorEq, h2, decide_false]
      exact H _ _ _ hP0 h5
  -- from 88 on
  have mid : ∀ lst da x6 x7, RDe B (sls z (l + 2) lst) l da v1 → ZW zG (d + 3) 69 88 [.ref l, .int (nI a), .int (nI b), .ref pq, .int (nI dy), .int (nI n), x6, x7] [] (sls z (l + 2) lst) Q := by
    intro lst da1 x6 x7 hD1
    obtain ⟨k1, g1, g2, g3⟩ := pay_kind (z := sfi (sls z (l + 2) lst) l 5 (zfi z l 5 + nI n)) hp (by rw [cls_sfi, cls_sls]; exact hpq)
    have u1 := fun ls st Q => s69_103 (d := d + 2) (z := sfi (sls z (l + 2) lst) l 5 (zfi z l 5 + nI n)) (Q := Q) (ls := ls) (st := st) (r := pq) (k1 := k1) g1 g2
    have g4 := fun Q => g3 (d + 1) Q
    simp (disch := omega) only [s69_88, s69_89, s69_90, s69_93, s69_95, s69_96, s69_99, s69_100, s69_101, s69_102, s69_106, u1, g4, zcs_0, zcs_1, zcs_2, zcs_3, zcs_4, zcs_5, zcs_6, zcs_7, znl_i, znl_r, znl_n, Bool.and_true, Bool.true_and, zk_v, zk_n, zk_x, zir_r, zir_n, zclr_i, zclr_r, zclr_n, zclr_d, zclr_l, true_and, and_true, and_self, if_true, if_false, reduceIte, nI_add, pk_mul, zin_ok, zx_nI, nI_lt2, nI_le2, nI_eq2, nI_l0, nI_g0, nI_q0, nI_p0, nI_n0, nI_m1, Nat.add_zero, Nat.zero_add, Nat.reduceAdd, Nat.reduceMul, true_or, or_true, znar_50, bI_0, bI_1, bI_z, bft, nI_z0, nI_z1, lgc_lt, lgc_gt, lgc_le, lgc_ge, lgc_eq, not_true_eq_false, not_false_eq_true, Bool.not_eq_true, Bool.not_eq_false, reduceCtorEq, cls_sls, cls_sfi, fi_sls, hL2]
    rw [s69_108]
    refine ⟨by rw [cls_sfi, cls_sls]; exact hL2.1, rfl, ?_⟩
    generalize hz1 : sfi (sls z (l + 2) lst) l 5 (zfi z l 5 + nI n) = z1
    have st1 : zSt B z z1 := by rw [← hz1]; exact zSt_sfi (zSt_sls (zSt_refl _ _) nl2) nl
    have fr1 : zFr (LdW l) z z1 := by rw [← hz1]; exact zFr_sfi (zFr_sls (zFr_refl _ _) (Or.inr (Or.inr (Or.inr (Or.inl rfl))))) (Or.inr (Or.inl rfl))
    have L1 : LdS z1 l := by rw [← hz1]; exact hL
    have T1 : zfr z1 = zfr z := by rw [← hz1]; rfl
    have D1 : RDe B z1 l da1 v1 := by
      rw [← hz1]
      exact RDe.st (zSt_sfi (zSt_refl _ _) nl) rfl hD1
    have K1 : RKn z1 l v1 := by
      rw [← hz1]
      intro h hh
      rw [hn (1864 + h) (by omega) (by omega)]
      exact hK h hh
    have H1 := (hH.st st1).ag hag
    have R1 := (hR.st st1).ag hag
    have e0 : sFI z1 (l + 4) (zfi z1 (l + 4)) = z1 := sFI_self z1 (l + 4)
    have n1 : zn z1 = zn z := by rw [← hz1]; rfl
    have cu1 : zuc z1 = zuc z ∧ zus z1 = zus z := by rw [← hz1]; exact ⟨rfl, rfl⟩
    have cp1 : capL z1 (l + 2) = capL z (l + 2) := by rw [← hz1]; rfl
    have f51 : zfi z1 l 5 = zfi z l 5 + nI n := by rw [← hz1, fi_sfi, zu2_s]
    have hv20 : v1 2 = v 2 := hag 2 (by omega)
    have hv10 : v1 0 = v 0 := hag 0 (by omega)
    rw [← e0]
    refine c70 (d := d + 2) (z := z1) (v := v1) (L := L) L1 (by rw [T1]; exact hT) (by rw [T1]; exact hr) H1 R1 D1 K1 nl4 hW1 (by rw [hv20]; exact hLl) (by omega) (by omega) (by omega) hp (by omega) (fun f => ?_)
    -- behind rule
    have st2 : zSt B z1 (sFI z1 (l + 4) f) := zSt_sFI (zSt_refl _ _) nl4
    have fr2 : zFr (LdW l) z (sFI z1 (l + 4) f) := zFr_sFI fr1 (Or.inr (Or.inr (Or.inr (Or.inr rfl))))
    have D2 : RDe B (sFI z1 (l + 4) f) l da1 v1 := RDe.st st2 rfl D1
    have hne : ¬ l = l + 4 := by omega
    have base : v2 = v1 → ∀ y6 y7, ZW zG (d + 3) 69 172 [.ref l, .int (nI a), .int (nI b), .ref pq, .int (nI dy), .int (nI n), y6, y7] [] (sFI z1 (l + 4) f) Q := by
      intro e y6 y7
      refine tail (sFI z1 (l + 4) f) B da1 y6 y7 ⟨fr2, L1, ?_, fun q h => h, fun q h => ⟨(hB q h).1, by show q < zn z1; rw [n1]; exact (hB q h).2, Or.inl h⟩, by rw [e]; exact D2, by rw [e]; exact K1, ?_, ?_, ?_, ?_, ?_⟩ ?_
      · show zfr z1 l = zfr z l
        rw [T1]
      · show zuc z ≤ zuc z1 ∧ zuc z1 ≤ zuc z + 2
        rw [cu1.1]; omega
      · show zus z ≤ zus z1 ∧ zus z1 + 4 * capL z (l + 2) ≤ zus z + 5 + 4 * capL z1 (l + 2)
        rw [cu1.2, cp1]; omega
      · show capL z1 (l + 2) ≤ max (capL z (l + 2)) 1201
        rw [cp1]; omega
      · show capL z (l + 2) ≤ capL z1 (l + 2)
        rw [cp1]; omega
      · show zus z1 ≤ zus z + 1206
        rw [cu1.2]; omega
      · rw [fi_sFI, zu1_n _ _ _ hne]
        exact f51
    have hO := hV2
    unfold sAfter at hO
    by_cases hnul : sLine v1 (ptC v1 a b dy) L p = v1 1
    · rw [if_pos hnul] at hO ⊢
      simp (disch := omega) only [s69_111, s69_113, s69_115, s69_115r, s69_118, s69_119, s69_120, s69_121, s69_123, s69_129, s69_132, s69_133, s69_136, s69_139, s69_140, s69_141, s69_142, s69_144, s69_147, s69_150, s69_152, s69_154, s69_157, s69_158, s69_161, s69_166, s69_171, zcs_0, zcs_1, zcs_2, zcs_3, zcs_4, zcs_5, zcs_6, zcs_7, znl_i, znl_r, znl_n, Bool.and_true, Bool.true_and, zk_v, zk_n, zk_x, zir_r, zir_n, zclr_i, zclr_r, zclr_n, zclr_d, zclr_l, true_and, and_true, and_self, if_true, if_false, reduceIte, nI_add, pk_mul, zin_ok, zx_nI, nI_lt2, nI_le2, nI_eq2, nI_l0, nI_g0, nI_q0, nI_p0, nI_n0, nI_m1, Nat.add_zero, Nat.zero_add, Nat.reduceAdd, Nat.reduceMul, true_or, or_true, znar_50, bI_0, bI_1, bI_z, bft, nI_z0, nI_z1, lgc_lt, lgc_gt, lgc_le, lgc_ge, lgc_eq, not_true_eq_false, not_false_eq_true, Bool.not_eq_true, Bool.not_eq_false, reduceCtorEq]
      exact base hO.symm _ _
    · rw [if_neg hnul] at hO ⊢
      have hlt : sLine v1 (ptC v1 a b dy) L p < v1 1 := by
        have : sLine v1 (ptC v1 a b dy) L p ≤ 0 + v1 1 := (findF_le _ _ _).2
        omega
      obtain ⟨g5, g6⟩ := (R1.st st2).2.2.2 _ hlt
      have hc5 := R1.2.2.1.2.2.2.2.1 _ hlt
      generalize sLine v1 (ptC v1 a b dy) L p = ln at hO hlt g5 g6 hc5 hnul
      obtain ⟨q1, q2, q3, q4, q5, q6⟩ := g6
      have cop := fun d Q => c72 (d := d) (z := sFI z1 (l + 4) f) (v := v1) (Q := Q) L1 D2 (a := nI b) (b := nI a) (c := nI (v1 (154 + 5 * ln + 1)))
      rw [sOpen_owe hvb (by omega) (by omega) (hvb _)] at cop
      have L12 := L1
      unfold LdS at L12
      by_cases ho : sOwe v1 b a (v1 (154 + 5 * ln + 1)) = true
      · rw [if_pos ho] at hO
        rw [ho] at cop
        simp (disch := omega) only [s69_111, s69_113, s69_115, s69_115r, s69_118, s69_119, s69_120, s69_121, s69_123, s69_126, s69_129, s69_132, s69_133, s69_136, s69_139, s69_140, s69_141, s69_142, s69_144, s69_147, s69_150, s69_152, s69_154, s69_157, s69_158, s69_161, s69_166, s69_171, zcs_0, zcs_1, zcs_2, zcs_3, zcs_4, zcs_5, zcs_6, zcs_7, znl_i, znl_r, znl_n, Bool.and_true, Bool.true_and, zk_v, zk_n, zk_x, zir_r, zir_n, zclr_i, zclr_r, zclr_n, zclr_d, zclr_l, true_and, and_true, and_self, if_true, if_false, reduceIte, nI_add, pk_mul, zin_ok, zx_nI, nI_lt2, nI_le2, nI_eq2, nI_l0, nI_g0, nI_q0, nI_p0, nI_n0, nI_m1, Nat.add_zero, Nat.zero_add, Nat.reduceAdd, Nat.reduceMul, true_or, or_true, znar_50, bI_0, bI_1, bI_z, bft, nI_z0, nI_z1, lgc_lt, lgc_gt, lgc_le, lgc_ge, lgc_eq, not_true_eq_false, not_false_eq_true, Bool.not_eq_true, Bool.not_eq_false, reduceCtorEq, cls_sFI, fr_sFI, ia_sFI, la_sFI, ra_sFI, len_sFI, ls_sFI, own_sFI, n_sFI, uc_sFI, us_sFI, q2, q4, L12, cop]
        exact base hO.symm _ _
      · rw [if_neg ho] at hO
        rw [eq_false_of_ne_true ho] at cop
        have q24 : ¬ ra ln = zn z1 := by
          have := (hB _ q1).2
          omega
        have hzn : zcls (snew (sFI z1 (l + 4) f) 23 5) (zn z1) = 23 := by rw [cls_snew]; exact zu1_s _ _ _
        have hdl : ∀ q, q < zn z1 → zcls (snew (sFI z1 (l + 4) f) 23 5) q = zcls z1 q := fun q hq => by
          rw [cls_snew]
          exact zu1_n _ _ _ (by show ¬ q = zn z1; omega)
        have hfl : ∀ q, ¬ q = zn z1 → zfi (snew (sFI z1 (l + 4) f) 23 5) q = zfi (sFI z1 (l + 4) f) q := fun q hq => by
          rw [fi_snew]
          exact zu1_n _ _ _ hq
        have hrl : zfr (snew (sFI z1 (l + 4) f) 23 5) l = zfr z1 l := by
          rw [fr_snew]
          exact zu1_n _ _ _ (by show ¬ l = zn z1; omega)
        have cl2 : zcls z1 (l + 2) = 90 := L12.2.2.2.2.2.1
        have hnz : zn (sFI z1 (l + 4) f) = zn z1 := rfl
        have c250' := fun d Q a b c e f => c250 (d := d) (Q := Q) hzn (a := a) (b := b) (c := c) (e := e) (f := f)
        have hmin : dy + v1 (154 + 5 * ln + 2) < 2147483648 := by have := hc5.2.2.1; omega
        -- the list's conditions
        have hls1 : (zls (sFI z1 (l + 4) f) (l + 2)).length = v1 7 := D2.1
        have hzr : zlel (snew (sFI z1 (l + 4) f) 23 5) (.ref (zn z1)) = true := by
          have : 100 ≤ zn z1 := by omega
          simp [zlel, hzn, this]
        have hall : (zls (sFI z1 (l + 4) f) (l + 2)).all (zlel (snew (sFI z1 (l + 4) f) 23 5)) = true := by
          refine all_getD (fun i hi => ?_)
          obtain ⟨w1, w2, w3, w4⟩ := D2.2.2 i (by omega)
          have hq := hB _ w2
          rw [w1]
          unfold zlel
          dsimp only
          rw [hdl _ (by omega), show zcls z1 (da1 i) = 23 from w3]
          simp [hq.1]
        have hra : ra ln < zn z1 := by have := (hB _ q1).2; omega
        have hc15 : zcls (snew (sFI z1 (l + 4) f) 23 5) (ra ln) = 15 := by rw [hdl _ hra]; exact q2
        have hf1 : zfi (snew (sFI z1 (l + 4) f) 23 5) (ra ln) 1 = nI (v1 (154 + 5 * ln + 1)) := by rw [hfl _ q24]; exact q4
        have hf2 : zfi (snew (sFI z1 (l + 4) f) 23 5) (ra ln) 2 = nI (v1 (154 + 5 * ln + 2)) := by rw [hfl _ q24]; exact q5
        have hc90 : zcls (snew (sFI z1 (l + 4) f) 23 5) (l + 2) = 90 := by rw [hdl _ (by omega)]; exact cl2
        have hlt5 : v1 7 < 100000 := by omega
        rw [ls_sFI] at hls1 hall
        simp (disch := first | omega | assumption) only [s69_111, s69_113, s69_115, s69_115r, s69_118, s69_119, s69_120, s69_121, s69_123, s69_126, s69_129, s69_132, s69_133, s69_136, s69_139, s69_140, s69_141, s69_142, s69_144, s69_147, s69_150, s69_152, s69_154, s69_157, s69_158, s69_161, s69_163, s69_166, s69_171, zcs_0, zcs_1, zcs_2, zcs_3, zcs_4, zcs_5, zcs_6, zcs_7, znl_i, znl_r, znl_n, Bool.and_true, Bool.true_and, zk_v, zk_n, zk_x, zir_r, zir_n, zclr_i, zclr_r, zclr_n, zclr_d, zclr_l, true_and, and_true, and_self, if_true, if_false, reduceIte, nI_add, pk_mul, zin_ok, zx_nI, nI_lt2, nI_le2, nI_eq2, nI_l0, nI_g0, nI_q0, nI_p0, nI_n0, nI_m1, Nat.add_zero, Nat.zero_add, Nat.reduceAdd, Nat.reduceMul, true_or, or_true, znar_50, bI_0, bI_1, bI_z, bft, nI_z0, nI_z1, lgc_lt, lgc_gt, lgc_le, lgc_ge, lgc_eq, not_true_eq_false, not_false_eq_true, Bool.not_eq_true, Bool.not_eq_false, reduceCtorEq, cls_sFI, fr_sFI, ia_sFI, la_sFI, ra_sFI, len_sFI, ls_sFI, own_sFI, n_sFI, uc_sFI, us_sFI, q2, q4, L12, cop, hc15, hf1, hf2, zmin_nI, c250', cls_sfi, ls_sfi, ls_snew, hc90, zlel_sfi, hzr, hall, hls1, hlt5]
        have cost := add_cost (sfi (sfi (sfi (sfi (sfi (snew (sFI z1 (l + 4) f) 23 5) (zn z1) 0 (nI b)) (zn z1) 1 (nI a)) (zn z1) 2 (nI (v1 (154 + 5 * ln + 1)))) (zn z1) 3 (nI (min 399 (dy + v1 (154 + 5 * ln + 2))))) (zn z1) 4 (nI dy)) (l + 2) (.ref (zn z1))
        have DA := RDe_add (z := sFI z1 (l + 4) f) (fun q h => ⟨(hB q h).1, by show q < zn z1; rw [n1]; exact (hB q h).2⟩) D2 (by omega) (by show l + 2 < zn z1; omega) (by show 100 ≤ zn z1; omega) (b := b) (a := a) (k := v1 (154 + 5 * ln + 1)) (u := min 399 (dy + v1 (154 + 5 * ln + 2))) (y := dy) rfl
        rw [hO] at DA
        rw [hnz] at DA
        generalize hz3 : sfi (sfi (sfi (sfi (sfi (snew (sFI z1 (l + 4) f) 23 5) (zn z1) 0 (nI b)) (zn z1) 1 (nI a)) (zn z1) 2 (nI (v1 (154 + 5 * ln + 1)))) (zn z1) 3 (nI (min 399 (dy + v1 (154 + 5 * ln + 2))))) (zn z1) 4 (nI dy) = z3 at cost DA ⊢
        have fr3 : zFr (LdW l) z z3 := by
          rw [← hz3]
          have hn0 : zn z ≤ zn z1 := by omega
          exact zFr_sfi (zFr_sfi (zFr_sfi (zFr_sfi (zFr_sfi (zFr_snew fr2) (Or.inl hn0)) (Or.inl hn0)) (Or.inl hn0)) (Or.inl hn0)) (Or.inl hn0)
        have n3 : zn z3 = zn z + 1 := by rw [← hz3, ← n1]; rfl
        have cl3 : ∀ q, q < zn z → zcls z3 q = zcls z1 q := fun q hq => by
          rw [← hz3]
          exact hdl q (by omega)
        have rf3 : ∀ q, q < zn z → zfr z3 q = zfr z1 q := fun q hq => by
          rw [← hz3]
          show zfr (snew (sFI z1 (l + 4) f) 23 5) q = _
          rw [fr_snew]
          exact zu1_n _ _ _ (by show ¬ q = zn z1; omega)
        have ln3 : zlen z3 = zlen z1 := by rw [← hz3]; rfl
        have ia3 : zia z3 = zia z1 := by rw [← hz3]; rfl
        have cu3 : zuc z3 = zuc z + 1 ∧ zus z3 = zus z + 5 := by
          rw [← hz3, ← cu1.1, ← cu1.2]
          exact ⟨rfl, rfl⟩
        have cp3 : capL z3 (l + 2) = capL z (l + 2) := by
          rw [← cp1]
          unfold capL zdat
          rw [ln3, rf3 _ (by omega)]
        have ls3 : (zls z3 (l + 2)).length = v1 7 := by
          rw [← hz3]
          exact hls1
        obtain ⟨k1', k2', k3', k4', k5', k6', k7'⟩ := cost
        have nle := n_sladd z3 (l + 2) (.ref (zn z1))
        refine tail (sladd z3 (l + 2) (.ref (zn z1))) _ _ _ _ ⟨zFr_sladd fr3 (Or.inr (Or.inr (Or.inr (Or.inl rfl)))), ?_, ?_, fun q h => Or.inl h, ?_, DA, ?_, ?_, ?_, ?_, ?_, ?_⟩ ?_
        · unfold LdS
          rw [cls_sladd _ _ _ (by omega), cls_sladd _ _ _ (by omega), cls_sladd _ _ _ (by omega), cls_sladd _ _ _ (by omega), len_sladd _ _ _ (by omega), fr_sladd _ _ _ (by omega), cl3 _ (by omega), cl3 _ (by omega), cl3 _ (by omega), cl3 _ (by omega), ln3, rf3 _ (by omega)]
          exact L1
        · rw [fr_sladd _ _ _ (by omega), rf3 _ (by omega), T1]
        · intro q hq
          rcases hq with hq | hq
          · have := hB q hq
            exact ⟨this.1, by omega, Or.inl hq⟩
          · subst hq
            exact ⟨by omega, by omega, Or.inr (by omega)⟩
        · intro h hh
          rw [ia_sladd, ia3, ← hO, sComes_n (by omega) (by omega)]
          exact K1 h hh
        · omega
        · omega
        · omega
        · omega
        · omega
        · rw [fi_sladd, ← hz3]
          show zu2 (zu2 (zu2 (zu2 (zu2 (zu1 (zfi (sFI z1 (l + 4) f)) (zn z1) (fun _ => 0)) (zn z1) 0 _) (zn z1) 1 _) (zn z1) 2 _) (zn z1) 3 _) (zn z1) 4 _ l 5 = _
          rw [zu2_n _ _ _ _ (by omega), zu2_n _ _ _ _ (by omega), zu2_n _ _ _ _ (by omega), zu2_n _ _ _ _ (by omega), zu2_n _ _ _ _ (by omega), zu1_n _ _ _ (by omega), fi_sFI, zu1_n _ _ _ hne]
          exact f51
  have k0 := c69i (d := d) (z := z) (Q := Q) (l := l) (dy := dy) hL (fun q h => (hB q h).1) (a := a) (b := b) (p := p) (pq := pq) (by omega) (by omega) hp hpq (v1, n) mid (v 7) v 0 (zls z (l + 2)) da zdum hvf hvv (Nat.le_refl _) (by omega)
  have es : sls z (l + 2) (zls z (l + 2)) = z := by
    unfold sls zmk
    have : zu1 (zls z) (l + 2) (zls z (l + 2)) = zls z := by
      funext q
      unfold zu1
      by_cases hq : q = l + 2
      · rw [if_pos hq, hq]
      · rw [if_neg hq]
    rw [this]
    rfl
  rw [es] at k0
  have e1 : nI (v 7) - nI 1 = nI (v 7) + (-1) := by rw [Int32.sub_eq_add_neg]; rfl
  simp (disch := omega) only [s69_0, s69_1, s69_3, s69_4, s69_7, s69_12, s69_13, s69_14, e69, zcs_0, zcs_1, zcs_2, zcs_3, zcs_4, zcs_5, zcs_6, zcs_7, znl_i, znl_r, znl_n, Bool.and_true, Bool.true_and, zk_v, zk_n, zk_x, zir_r, zir_n, zclr_i, zclr_r, zclr_n, zclr_d, zclr_l, true_and, and_true, and_self, if_true, if_false, reduceIte, nI_add, pk_mul, zin_ok, zx_nI, nI_lt2, nI_le2, nI_eq2, nI_l0, nI_g0, nI_q0, nI_p0, nI_n0, nI_m1, Nat.add_zero, Nat.zero_add, Nat.reduceAdd, Nat.reduceMul, true_or, or_true, znar_50, bI_0, bI_1, bI_z, bft, nI_z0, nI_z1, lgc_lt, lgc_gt, lgc_le, lgc_ge, lgc_eq, not_true_eq_false, not_false_eq_true, Bool.not_eq_true, Bool.not_eq_false, reduceCtorEq, hL2, hls, e1]
  exact k0 hD
end CE
