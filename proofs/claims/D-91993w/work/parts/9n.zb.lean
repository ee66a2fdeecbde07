set_option maxRecDepth 100000
/-! reading a town: letters, tokens (both programs) -/
theorem i10 : ((1 : Int32) = 0) = False := by decide
theorem i01 : ((0 : Int32) = 1) = False := by decide
/-- a byte as an int -/
def sb (n : Nat) : Int32 := if n < 128 then nI n else - nI (256 - n)
theorem sb_and : ∀ n, n < 256 → sb n &&& nI 255 = nI n := by decide +kernel
theorem sb_neg : ∀ n, n < 256 → 128 ≤ n → sb n < 0 := by decide +kernel
theorem sb_pos {n : Nat} (h : n < 128) : sb n = nI n := if_pos h
theorem sb_eq {n c : Nat} (hn : n < 256) (hc : c < 128) : (sb n = nI c) = (n = c) := by
  apply propext
  by_cases h : n < 128
  · rw [sb_pos h, nI_eq2 (by omega) (by omega)]
  · have h1 := sb_neg n hn (by omega)
    constructor
    · intro e
      rw [e] at h1
      exact absurd h1 (nI_pos (by omega))
    · intro e
      omega
theorem sb_lo {n c : Nat} (hn : n < 256) (hc : c < 128) : (nI c ≤ sb n) = (c ≤ n ∧ n < 128) := by
  apply propext
  by_cases h : n < 128
  · rw [sb_pos h, nI_le2 (by omega) (by omega)]
    omega
  · have h1 := sb_neg n hn (by omega)
    constructor
    · intro e
      exact absurd (Int32.lt_of_le_of_lt e h1) (nI_pos (by omega))
    · intro e
      omega
theorem sb_hi {n c : Nat} (hn : n < 256) (hc : c < 128) : (sb n ≤ nI c) = (n ≤ c ∨ 128 ≤ n) := by
  apply propext
  by_cases h : n < 128
  · rw [sb_pos h, nI_le2 (by omega) (by omega)]
    omega
  · have h1 := sb_neg n hn (by omega)
    have h2 : (0 : Int32) ≤ nI c := nI_pos' (by omega)
    constructor
    · intro e
      omega
    · intro e
      exact Int32.le_trans (Int32.le_of_lt h1) h2
theorem nI_sbn {a b : Nat} (h : b ≤ a) : nI a - nI b = nI (a - b) := by
  obtain ⟨c, rfl⟩ := Nat.exists_eq_add_of_le h
  rw [Nat.add_sub_cancel_left, Nat.add_comm, ← nI_add, Int32.add_sub_cancel]
def isSp (c : Nat) : Bool := decide (c = 32) || decide (c = 10)
def isLe (c : Nat) : Bool := decide (97 ≤ c) && decide (c ≤ 122)
def isDi (c : Nat) : Bool := decide (48 ≤ c) && decide (c ≤ 57)
/-- past all with P, n of them at most -/
def skp (b : Nat → Nat) (sz : Nat) (P : Nat → Bool) : Nat → Nat → Nat
  | 0, a => a
  | n + 1, a => if a < sz ∧ P (b a) = true then skp b sz P n (a + 1) else a
def numV (b : Nat → Nat) (sz cap : Nat) : Nat → Nat → Nat → Nat
  | 0, _, x => x
  | n + 1, a, x => if a < sz ∧ isDi (b a) = true then numV b sz cap n (a + 1) (min cap (10 * x + b a - 48)) else x
theorem skp_le (b : Nat → Nat) (sz : Nat) (P : Nat → Bool) : ∀ n a, a ≤ skp b sz P n a ∧ (a ≤ sz → skp b sz P n a ≤ sz)
  | 0, a => ⟨Nat.le_refl _, fun h => h⟩
  | n + 1, a => by
    unfold skp
    split
    · obtain ⟨h1, h2⟩ := skp_le b sz P n (a + 1)
      exact ⟨by omega, fun _ => h2 (by omega)⟩
    · exact ⟨Nat.le_refl _, fun h => h⟩
theorem skp_lt {b : Nat → Nat} {sz : Nat} {P : Nat → Bool} {n a : Nat} (hn : sz ≤ a + n) (h : a < sz) (hp : P (b a) = true) : a < skp b sz P n a := by
  cases n with
  | zero => omega
  | succ n =>
    unfold skp
    rw [if_pos ⟨h, hp⟩]
    have := (skp_le b sz P n (a + 1)).1
    omega
theorem numV_le (b : Nat → Nat) (sz cap : Nat) : ∀ n a x, x ≤ cap → numV b sz cap n a x ≤ cap
  | 0, a, x, h => h
  | n + 1, a, x, h => by
    unfold numV
    split
    · exact numV_le b sz cap n (a + 1) _ (Nat.min_le_left _ _)
    · exact h
/-- where a reader stands: at, from, token, value, fault, its place -/
abbrev YS : Type := Nat × Nat × Nat × Nat × Nat × Int32
def yAt (S : YS) : Nat := S.1
def yFr (S : YS) : Nat := S.2.1
def yTk (S : YS) : Nat := S.2.2.1
def yVl (S : YS) : Nat := S.2.2.2.1
def yFk (S : YS) : Nat := S.2.2.2.2.1
def yFp (S : YS) : Int32 := S.2.2.2.2.2
/-- the token from a on -/
def yTok (b : Nat → Nat) (sz : Nat) (S : YS) (a : Nat) : YS :=
  if a < sz then (if isLe (b a) = true then (skp b sz isLe sz a, a, 1, yVl S, yFk S, yFp S) else if isDi (b a) = true then (skp b sz isDi sz a, a, 2, numV b sz 9999 sz a 0, yFk S, yFp S) else (a + 1, a, (if b a = 59 then 3 else 4), yVl S, yFk S, yFp S)) else (a, a, 0, yVl S, yFk S, yFp S)
def yAdv (b : Nat → Nat) (sz : Nat) (S : YS) : YS := yTok b sz S (skp b sz isSp sz (yAt S))
def yErr (x : Nat) (S : YS) : YS := if yFk S = 0 then (yAt S, yFr S, yTk S, yVl S, x, nI (yFr S)) else S
/-- the word r from a on, from its letter k, n more -/
def wmF (b : Nat → Nat) (r a : Nat) : Nat → Nat → Bool
  | _, 0 => true
  | k, n + 1 => decide (b (a + k) = (ztx r).getD k 0) && wmF b r a (k + 1) n
def yIs (b : Nat → Nat) (S : YS) (r : Nat) : Bool := decide (yFk S = 0) && (decide (yTk S = 1) && (decide (yAt S - yFr S = (ztx r).length) && wmF b r (yFr S) 0 (ztx r).length))
def yTake (b : Nat → Nat) (sz r : Nat) (S : YS) : YS := if yIs b S r = true then yAdv b sz S else S
def yNeed (b : Nat → Nat) (sz r : Nat) (S : YS) : YS := if yIs b S r = true then yAdv b sz S else yErr 1 S
/-- a number from lo up to n, n not counted -/
def yNum (b : Nat → Nat) (sz lo n : Nat) (S : YS) : YS × Nat :=
  if yFk S = 0 then (if yTk S = 2 then (if lo ≤ yVl S ∧ yVl S < n then (yAdv b sz S, yVl S) else (yErr 2 S, 0)) else (yErr 1 S, 0)) else (S, 0)
/-- which of some words; none: how many they are -/
def yWh (b : Nat → Nat) (S : YS) : List Nat → Nat
  | [] => 0
  | r :: rs => if yIs b S r = true then 0 else yWh b S rs + 1
def wI (n k : Nat) : Int32 := if k < n then nI k else -1
/-- what stands here is one of n, else it can't stand there -/
def yTkn (b : Nat → Nat) (sz n k : Nat) (S : YS) : YS := if k < n then (if yFk S = 0 then yAdv b sz S else S) else yErr 1 S
/-- a reader's place is as it may be -/
def yOK (sz : Nat) (S : YS) : Prop := (yFr S ≤ yAt S ∧ yAt S ≤ sz) ∧ (¬ yTk S = 0 → yFr S < yAt S) ∧ yTk S < 5 ∧ yVl S < 10000 ∧ yFk S < 4
theorem yTok_fr (b : Nat → Nat) (sz : Nat) (S : YS) (a : Nat) : yFr (yTok b sz S a) = a := by
  unfold yTok
  repeat' split
  all_goals rfl
theorem yTok_fk (b : Nat → Nat) (sz : Nat) (S : YS) (a : Nat) : yFk (yTok b sz S a) = yFk S ∧ yFp (yTok b sz S a) = yFp S := by
  unfold yTok
  repeat' split
  all_goals exact ⟨rfl, rfl⟩
theorem yTok_ok {b : Nat → Nat} {sz : Nat} {S : YS} {a : Nat} (ha : a ≤ sz) (h : yVl S < 10000) (hf : yFk S < 4) : yOK sz (yTok b sz S a) := by
  unfold yTok
  split
  · rename_i h1
    split
    · rename_i h2
      have e1 := skp_le b sz isLe sz a
      have e2 := skp_lt (b := b) (P := isLe) (n := sz) (a := a) (by omega) h1 h2
      exact ⟨⟨e1.1, e1.2 ha⟩, fun _ => e2, by show 1 < 5; omega, h, hf⟩
    · split
      · rename_i h2
        have e1 := skp_le b sz isDi sz a
        have e2 := skp_lt (b := b) (P := isDi) (n := sz) (a := a) (by omega) h1 h2
        have e3 := numV_le b sz 9999 sz a 0 (by omega)
        exact ⟨⟨e1.1, e1.2 ha⟩, fun _ => e2, by show 2 < 5; omega, Nat.lt_succ_of_le e3, hf⟩
      · refine ⟨⟨Nat.le_succ a, h1⟩, fun _ => Nat.lt_succ_self a, ?_, h, hf⟩
        show (if b a = 59 then 3 else 4) < 5
        split <;> omega
  · exact ⟨⟨Nat.le_refl a, ha⟩, fun q => absurd rfl q, by show 0 < 5; omega, h, hf⟩
theorem yAdv_ok {b : Nat → Nat} {sz : Nat} {S : YS} (h : yOK sz S) : yOK sz (yAdv b sz S) := yTok_ok ((skp_le b sz isSp sz (yAt S)).2 h.1.2) h.2.2.2.1 h.2.2.2.2
theorem yAdv_fk (b : Nat → Nat) (sz : Nat) (S : YS) : yFk (yAdv b sz S) = yFk S ∧ yFp (yAdv b sz S) = yFp S := yTok_fk b sz S _
/-- a step: the next token begins behind this one -/
theorem yAdv_fr (b : Nat → Nat) (sz : Nat) (S : YS) : yAt S ≤ yFr (yAdv b sz S) := by
  unfold yAdv
  rw [yTok_fr]
  exact (skp_le b sz isSp sz (yAt S)).1
theorem yErr_ok {sz : Nat} {S : YS} {x : Nat} (h : yOK sz S) (hx : x < 4) : yOK sz (yErr x S) := by
  unfold yErr
  split
  · exact ⟨h.1, h.2.1, h.2.2.1, h.2.2.2.1, hx⟩
  · exact h
theorem yErr_fk {S : YS} {x : Nat} (hx : 0 < x) : ¬ yFk (yErr x S) = 0 := by
  unfold yErr
  split
  · show ¬ x = 0; omega
  · assumption
theorem yErr_bad {S : YS} {x : Nat} (h : ¬ yFk S = 0) : yErr x S = S := if_neg h
theorem yIs_g {b : Nat → Nat} {S : YS} {r : Nat} (h : yIs b S r = true) : yFk S = 0 ∧ yTk S = 1 ∧ yAt S - yFr S = (ztx r).length := by
  unfold yIs at h
  simp only [Bool.and_eq_true, decide_eq_true_iff] at h
  exact ⟨h.1, h.2.1, h.2.2.1⟩
theorem yIs_bad {b : Nat → Nat} {S : YS} {r : Nat} (h : ¬ yFk S = 0) : yIs b S r = false := by
  unfold yIs
  rw [decide_eq_false h]; rfl
theorem yIs_tk {b : Nat → Nat} {S : YS} {r : Nat} (h : ¬ yTk S = 1) : yIs b S r = false := by
  unfold yIs
  rw [decide_eq_false h, Bool.false_and, Bool.and_false]
theorem yTake_ok {b : Nat → Nat} {sz r : Nat} {S : YS} (h : yOK sz S) : yOK sz (yTake b sz r S) := by
  unfold yTake
  split
  · exact yAdv_ok h
  · exact h
theorem yNeed_ok {b : Nat → Nat} {sz r : Nat} {S : YS} (h : yOK sz S) : yOK sz (yNeed b sz r S) := by
  unfold yNeed
  split
  · exact yAdv_ok h
  · exact yErr_ok h (by omega)
theorem yNum_ok {b : Nat → Nat} {sz lo n : Nat} {S : YS} (h : yOK sz S) : yOK sz (yNum b sz lo n S).1 := by
  unfold yNum
  repeat' split
  · exact yAdv_ok h
  · exact yErr_ok h (by omega)
  · exact yErr_ok h (by omega)
  · exact h
theorem yTkn_ok {b : Nat → Nat} {sz n k : Nat} {S : YS} (h : yOK sz S) : yOK sz (yTkn b sz n k S) := by
  unfold yTkn
  repeat' split
  · exact yAdv_ok h
  · exact h
  · exact yErr_ok h (by omega)
theorem yWh_le {b : Nat → Nat} {S : YS} : ∀ l, yWh b S l ≤ l.length
  | [] => Nat.le_refl _
  | r :: rs => by
    unfold yWh
    split
    · exact Nat.zero_le _
    · have := yWh_le (b := b) (S := S) rs
      rw [List.length_cons]; omega
/-! a fault stays -/
theorem yTake_bad {b : Nat → Nat} {sz r : Nat} {S : YS} (h : ¬ yFk S = 0) : yTake b sz r S = S := by
  unfold yTake
  rw [yIs_bad h]; rfl
theorem yNeed_bad {b : Nat → Nat} {sz r : Nat} {S : YS} (h : ¬ yFk S = 0) : yNeed b sz r S = S := by
  unfold yNeed
  rw [yIs_bad h, yErr_bad h]; rfl
theorem yNum_bad {b : Nat → Nat} {sz lo n : Nat} {S : YS} (h : ¬ yFk S = 0) : yNum b sz lo n S = (S, 0) := if_neg h
theorem yTkn_bad {b : Nat → Nat} {sz n k : Nat} {S : YS} (h : ¬ yFk S = 0) : yTkn b sz n k S = S := by
  unfold yTkn
  rw [if_neg h, yErr_bad h, ite_self]
/-! the model -/
/-- the text on the model's tape; how long it is -/
def TPm (z : ZH) (b : Nat → Nat) (sz : Nat) : Prop := zfi z 135 7 = nI sz ∧ sz ≤ 1400 ∧ ∀ k, k < 1400 → zia z 139 k = sb (b k) ∧ b k < 256
/-- the model's cells while a town is read -/
def mP (z : ZH) (S : YS) (F : Nat → Int32) : ZH := sIA (sFI z 135 (fun j => if j = 8 then nI (yAt S) else if j = 9 then nI (yFr S) else if j = 10 then nI (yTk S) else if j = 11 then nI (yVl S) else if j = 12 then nI (yFk S) else if j = 13 then yFp S else zfi z 135 j)) 141 F
section MP
variable {z : ZH} {S : YS} {F : Nat → Int32} {x : Nat}
theorem MS_mP : MS (mP z S F) = MS z := rfl
theorem cls_mP : zcls (mP z S F) = zcls z := rfl
theorem fr_mP : zfr (mP z S F) = zfr z := rfl
theorem len_mP : zlen (mP z S F) = zlen z := rfl
theorem fi_mP {j : Nat} : zfi (mP z S F) 135 j = if j = 8 then nI (yAt S) else if j = 9 then nI (yFr S) else if j = 10 then nI (yTk S) else if j = 11 then nI (yVl S) else if j = 12 then nI (yFk S) else if j = 13 then yFp S else zfi z 135 j := by
  unfold mP; rw [fi_sIA, fi_sFI, zu1_s]
theorem mP_7 : zfi (mP z S F) 135 7 = zfi z 135 7 := by rw [fi_mP]; rfl
theorem mP_8 : zfi (mP z S F) 135 8 = nI (yAt S) := by rw [fi_mP]; rfl
theorem mP_9 : zfi (mP z S F) 135 9 = nI (yFr S) := by rw [fi_mP]; rfl
theorem mP_10 : zfi (mP z S F) 135 10 = nI (yTk S) := by rw [fi_mP]; rfl
theorem mP_11 : zfi (mP z S F) 135 11 = nI (yVl S) := by rw [fi_mP]; rfl
theorem mP_12 : zfi (mP z S F) 135 12 = nI (yFk S) := by rw [fi_mP]; rfl
theorem ia_mP {k : Nat} : zia (mP z S F) 141 k = F k := by
  unfold mP; rw [ia_sIA, zu1_s]
theorem ia_mP9 : zia (mP z S F) 139 = zia z 139 := by
  unfold mP; rw [ia_sIA, zu1_n _ _ _ (by omega)]; rfl
theorem mP_s (j : Nat) (y : Int32) : sfi (mP z S F) 135 j y = sIA (sFI z 135 (zu1 (fun j => if j = 8 then nI (yAt S) else if j = 9 then nI (yFr S) else if j = 10 then nI (yTk S) else if j = 11 then nI (yVl S) else if j = 12 then nI (yFk S) else if j = 13 then yFp S else zfi z 135 j) j y)) 141 F := by
  show sIA (sfi (sFI z 135 _) 135 j y) 141 F = _
  rw [sFI_sfi]
theorem mP_s8 : sfi (mP z S F) 135 8 (nI x) = mP z (x, yFr S, yTk S, yVl S, yFk S, yFp S) F := by
  rw [mP_s]; unfold mP; congr 2; funext j; unfold zu1; by_cases h : j = 8 <;> simp [h, yAt, yFr, yTk, yVl, yFk, yFp]
theorem mP_s9 : sfi (mP z S F) 135 9 (nI x) = mP z (yAt S, x, yTk S, yVl S, yFk S, yFp S) F := by
  rw [mP_s]; unfold mP; congr 2; funext j; unfold zu1; by_cases h : j = 9 <;> simp [h, yAt, yFr, yTk, yVl, yFk, yFp]
theorem mP_s10 : sfi (mP z S F) 135 10 (nI x) = mP z (yAt S, yFr S, x, yVl S, yFk S, yFp S) F := by
  rw [mP_s]; unfold mP; congr 2; funext j; unfold zu1; by_cases h : j = 10 <;> simp [h, yAt, yFr, yTk, yVl, yFk, yFp]
theorem mP_s11 : sfi (mP z S F) 135 11 (nI x) = mP z (yAt S, yFr S, yTk S, x, yFk S, yFp S) F := by
  rw [mP_s]; unfold mP; congr 2; funext j; unfold zu1; by_cases h : j = 11 <;> simp [h, yAt, yFr, yTk, yVl, yFk, yFp]
theorem mP_s12 : sfi (mP z S F) 135 12 (nI x) = mP z (yAt S, yFr S, yTk S, yVl S, x, yFp S) F := by
  rw [mP_s]; unfold mP; congr 2; funext j; unfold zu1; by_cases h : j = 12 <;> simp [h, yAt, yFr, yTk, yVl, yFk, yFp]
theorem mP_s13 {y : Int32} : sfi (mP z S F) 135 13 y = mP z (yAt S, yFr S, yTk S, yVl S, yFk S, y) F := by
  rw [mP_s]; unfold mP; congr 2; funext j; unfold zu1; by_cases h : j = 13 <;> simp [h, yAt, yFr, yTk, yVl, yFk, yFp]
theorem mP_F {k : Nat} {y : Int32} : sia (mP z S F) 141 k y = mP z S (zu1 F k y) := sIA_sia _ _ _ _ _
end MP
theorem yAt_mk (a b c d e : Nat) (f : Int32) : yAt (a, b, c, d, e, f) = a := rfl
theorem yFr_mk (a b c d e : Nat) (f : Int32) : yFr (a, b, c, d, e, f) = b := rfl
theorem yTk_mk (a b c d e : Nat) (f : Int32) : yTk (a, b, c, d, e, f) = c := rfl
theorem yVl_mk (a b c d e : Nat) (f : Int32) : yVl (a, b, c, d, e, f) = d := rfl
theorem yFk_mk (a b c d e : Nat) (f : Int32) : yFk (a, b, c, d, e, f) = e := rfl
theorem yFp_mk (a b c d e : Nat) (f : Int32) : yFp (a, b, c, d, e, f) = f := rfl
theorem yS_eta (S : YS) : (yAt S, yFr S, yTk S, yVl S, yFk S, yFp S) = S := rfl
section MT1
variable {d : Nat} {z : ZH} {Q : ZQ} {b : Nat → Nat} {sz : Nat} {S : YS} {F : Nat → Int32}
theorem m121 (hM : MS z) (hT : TPm z b sz) {a : Nat} (ha : a < 2147483648) : ZC zG d 121 [.ref 135, .int (nI a)] (mP z S F) Q = Q (.inl (some (.int (if a < sz then nI (b a) else -1)))) (mP z S F) := by
  have h0 := hM
  unfold MS at h0
  obtain ⟨t1, t2, t3⟩ := hT
  by_cases h : a < sz
  · have h1 : ¬ sz ≤ a := by omega
    obtain ⟨u1, u2⟩ := t3 a (by omega)
    have u3 := sb_and (b a) u2
    simp (disch := omega) only [e121, s121_0, s121_1, s121_2, s121_5, s121_8, s121_9, s121_12, s121_13, s121_14, s121_17, s121_18, s121_21, s121_22, zcs_0, zcs_1, zcs_2, zcs_3, zcs_4, zcs_5, zcs_6, zcs_7, znl_i, znl_r, znl_n, Bool.and_true, Bool.true_and, zk_v, zk_n, zk_x, zir_r, zir_n, zclr_i, zclr_r, zclr_n, zclr_d, zclr_l, true_and, and_true, and_self, if_true, if_false, reduceIte, nI_add, pk_mul, zin_ok, zx_nI, nI_lt2, nI_le2, nI_eq2, nI_l0, nI_g0, nI_q0, nI_p0, nI_n0, nI_m1, Nat.add_zero, Nat.zero_add, Nat.reduceAdd, Nat.reduceMul, true_or, or_true, znar_50, bI_0, bI_1, bI_z, bft, nI_z0, nI_z1, lgc_lt, lgc_gt, lgc_le, lgc_ge, lgc_eq, not_true_eq_false, not_false_eq_true, Bool.not_eq_true, Bool.not_eq_false, reduceCtorEq, eq_self, nI_e0, nI_e1, i10, i01, decide_false, decide_true, Bool.false_eq_true, cls_mP, fr_mP, len_mP, mP_7, ia_mP9, h0, t1, h1, h, u1, u3]
  · have h1 : sz ≤ a := by omega
    simp (disch := omega) only [e121, s121_0, s121_1, s121_2, s121_5, s121_8, s121_9, s121_12, s121_13, s121_14, s121_17, s121_18, s121_21, s121_22, zcs_0, zcs_1, zcs_2, zcs_3, zcs_4, zcs_5, zcs_6, zcs_7, znl_i, znl_r, znl_n, Bool.and_true, Bool.true_and, zk_v, zk_n, zk_x, zir_r, zir_n, zclr_i, zclr_r, zclr_n, zclr_d, zclr_l, true_and, and_true, and_self, if_true, if_false, reduceIte, nI_add, pk_mul, zin_ok, zx_nI, nI_lt2, nI_le2, nI_eq2, nI_l0, nI_g0, nI_q0, nI_p0, nI_n0, nI_m1, Nat.add_zero, Nat.zero_add, Nat.reduceAdd, Nat.reduceMul, true_or, or_true, znar_50, bI_0, bI_1, bI_z, bft, nI_z0, nI_z1, lgc_lt, lgc_gt, lgc_le, lgc_ge, lgc_eq, not_true_eq_false, not_false_eq_true, Bool.not_eq_true, Bool.not_eq_false, reduceCtorEq, eq_self, nI_e0, nI_e1, i10, i01, decide_false, decide_true, Bool.false_eq_true, cls_mP, fr_mP, len_mP, mP_7, ia_mP9, h0, t1, h1, h]
theorem m122 (hM : MS z) (hk : yFk S < 2147483648) : ZC zG d 122 [.ref 135] (mP z S F) Q = Q (.inl (some (.int (bI (decide (yFk S = 0)))))) (mP z S F) := by
  have h0 := hM
  unfold MS at h0
  by_cases h : yFk S = 0
  · simp (disch := omega) only [e122, s122_0, s122_1, s122_4, s122_7, s122_8, s122_11, s122_12, zcs_0, zcs_1, zcs_2, zcs_3, zcs_4, zcs_5, zcs_6, zcs_7, znl_i, znl_r, znl_n, Bool.and_true, Bool.true_and, zk_v, zk_n, zk_x, zir_r, zir_n, zclr_i, zclr_r, zclr_n, zclr_d, zclr_l, true_and, and_true, and_self, if_true, if_false, reduceIte, nI_add, pk_mul, zin_ok, zx_nI, nI_lt2, nI_le2, nI_eq2, nI_l0, nI_g0, nI_q0, nI_p0, nI_n0, nI_m1, Nat.add_zero, Nat.zero_add, Nat.reduceAdd, Nat.reduceMul, true_or, or_true, znar_50, bI_0, bI_1, bI_z, bft, nI_z0, nI_z1, lgc_lt, lgc_gt, lgc_le, lgc_ge, lgc_eq, not_true_eq_false, not_false_eq_true, Bool.not_eq_true, Bool.not_eq_false, reduceCtorEq, eq_self, nI_e0, nI_e1, i10, i01, decide_false, decide_true, Bool.false_eq_true, cls_mP, fr_mP, len_mP, mP_12, h0, h, decide_true, bI_t, nI_one]
  · simp (disch := omega) only [e122, s122_0, s122_1, s122_4, s122_7, s122_8, s122_11, s122_12, zcs_0, zcs_1, zcs_2, zcs_3, zcs_4, zcs_5, zcs_6, zcs_7, znl_i, znl_r, znl_n, Bool.and_true, Bool.true_and, zk_v, zk_n, zk_x, zir_r, zir_n, zclr_i, zclr_r, zclr_n, zclr_d, zclr_l, true_and, and_true, and_self, if_true, if_false, reduceIte, nI_add, pk_mul, zin_ok, zx_nI, nI_lt2, nI_le2, nI_eq2, nI_l0, nI_g0, nI_q0, nI_p0, nI_n0, nI_m1, Nat.add_zero, Nat.zero_add, Nat.reduceAdd, Nat.reduceMul, true_or, or_true, znar_50, bI_0, bI_1, bI_z, bft, nI_z0, nI_z1, lgc_lt, lgc_gt, lgc_le, lgc_ge, lgc_eq, not_true_eq_false, not_false_eq_true, Bool.not_eq_true, Bool.not_eq_false, reduceCtorEq, eq_self, nI_e0, nI_e1, i10, i01, decide_false, decide_true, Bool.false_eq_true, cls_mP, fr_mP, len_mP, mP_12, h0, h, decide_false, bI_f, nI_0]
theorem m126 (hM : MS z) (hk : yFk S < 2147483648) {x : Nat} : ZC zG (d + 1) 126 [.ref 135, .int (nI x)] (mP z S F) Q = Q (.inl none) (mP z (yErr x S) F) := by
  have h0 := hM
  unfold MS at h0
  unfold yErr
  by_cases h : yFk S = 0
  · simp (disch := first | omega | exact hM) only [e126, s126_0, s126_1, s126_4, s126_7, s126_8, s126_9, s126_10, s126_13, s126_14, s126_15, s126_18, s126_21, zcs_0, zcs_1, zcs_2, zcs_3, zcs_4, zcs_5, zcs_6, zcs_7, znl_i, znl_r, znl_n, Bool.and_true, Bool.true_and, zk_v, zk_n, zk_x, zir_r, zir_n, zclr_i, zclr_r, zclr_n, zclr_d, zclr_l, true_and, and_true, and_self, if_true, if_false, reduceIte, nI_add, pk_mul, zin_ok, zx_nI, nI_lt2, nI_le2, nI_eq2, nI_l0, nI_g0, nI_q0, nI_p0, nI_n0, nI_m1, Nat.add_zero, Nat.zero_add, Nat.reduceAdd, Nat.reduceMul, true_or, or_true, znar_50, bI_0, bI_1, bI_z, bft, nI_z0, nI_z1, lgc_lt, lgc_gt, lgc_le, lgc_ge, lgc_eq, not_true_eq_false, not_false_eq_true, Bool.not_eq_true, Bool.not_eq_false, reduceCtorEq, eq_self, nI_e0, nI_e1, i10, i01, decide_false, decide_true, Bool.false_eq_true, cls_mP, fr_mP, len_mP, mP_9, mP_s12, mP_s13, h0, m122, h, decide_true, yAt_mk, yFr_mk, yTk_mk, yVl_mk, yFk_mk, yFp_mk]
  · simp (disch := first | omega | exact hM) only [e126, s126_0, s126_1, s126_4, s126_7, s126_8, s126_9, s126_10, s126_13, s126_14, s126_15, s126_18, s126_21, zcs_0, zcs_1, zcs_2, zcs_3, zcs_4, zcs_5, zcs_6, zcs_7, znl_i, znl_r, znl_n, Bool.and_true, Bool.true_and, zk_v, zk_n, zk_x, zir_r, zir_n, zclr_i, zclr_r, zclr_n, zclr_d, zclr_l, true_and, and_true, and_self, if_true, if_false, reduceIte, nI_add, pk_mul, zin_ok, zx_nI, nI_lt2, nI_le2, nI_eq2, nI_l0, nI_g0, nI_q0, nI_p0, nI_n0, nI_m1, Nat.add_zero, Nat.zero_add, Nat.reduceAdd, Nat.reduceMul, true_or, or_true, znar_50, bI_0, bI_1, bI_z, bft, nI_z0, nI_z1, lgc_lt, lgc_gt, lgc_le, lgc_ge, lgc_eq, not_true_eq_false, not_false_eq_true, Bool.not_eq_true, Bool.not_eq_false, reduceCtorEq, eq_self, nI_e0, nI_e1, i10, i01, decide_false, decide_true, Bool.false_eq_true, cls_mP, fr_mP, len_mP, mP_9, mP_s12, mP_s13, h0, m122, h, decide_false]
theorem ztx_b : ∀ r, r < 35 → (ztx r).length < 20 ∧ 0 < (ztx r).length := by decide +kernel
theorem ztx_c : ∀ r, r < 35 → ∀ j, j < 20 → (ztx r).getD j 0 < 128 := by decide +kernel
theorem m125 (hM : MS z) (hT : TPm z b sz) (hS : yOK sz S) {r : Nat} (hr : r < 35) : ZC zG (d + 1) 125 [.ref 135, .ref r] (mP z S F) Q = Q (.inl (some (.int (bI (yIs b S r))))) (mP z S F) := by
  have h0 := hM
  unfold MS at h0
  obtain ⟨t1, t2, t3⟩ := hT
  obtain ⟨⟨o1, o2⟩, o3, o4, o5, o6⟩ := hS
  obtain ⟨l1, l2⟩ := ztx_b r hr
  have lc := ztx_c r hr
  generalize hn : (ztx r).length = n at l1 l2
  have key : yAt S - yFr S = n → ∀ m k, k + m = n → ZW zG (d + 1) 125 39 [.ref 135, .ref r, .int (nI 1), .int (nI k)] [] (mP z S F) Q = Q (.inl (some (.int (bI (wmF b r (yFr S) k m))))) (mP z S F) := by
    intro hl m
    induction m with
    | zero =>
      intro k hk
      have h1 : n ≤ k := by omega
      refine s125_39.trans ?_
      unfold wmF
      simp (disch := omega) only [s125_0, s125_1, s125_4, s125_7, s125_8, s125_11, s125_12, s125_15, s125_16, s125_19, s125_20, s125_23, s125_24, s125_25, s125_28, s125_31, s125_32, s125_35, s125_36, s125_37, s125_38, s125_40, s125_41, s125_44, s125_47, s125_48, s125_51, s125_52, s125_55, s125_56, s125_59, s125_60, s125_61, s125_62, s125_63, s125_64, s125_67, s125_70, s125_71, s125_74, s125_75, s125_76, s125_79, s125_82, s125_83, zcs_0, zcs_1, zcs_2, zcs_3, zcs_4, zcs_5, zcs_6, zcs_7, znl_i, znl_r, znl_n, Bool.and_true, Bool.true_and, zk_v, zk_n, zk_x, zir_r, zir_n, zclr_i, zclr_r, zclr_n, zclr_d, zclr_l, true_and, and_true, and_self, if_true, if_false, reduceIte, nI_add, pk_mul, zin_ok, zx_nI, nI_lt2, nI_le2, nI_eq2, nI_l0, nI_g0, nI_q0, nI_p0, nI_n0, nI_m1, Nat.add_zero, Nat.zero_add, Nat.reduceAdd, Nat.reduceMul, true_or, or_true, znar_50, bI_0, bI_1, bI_z, bft, nI_z0, nI_z1, lgc_lt, lgc_gt, lgc_le, lgc_ge, lgc_eq, not_true_eq_false, not_false_eq_true, Bool.not_eq_true, Bool.not_eq_false, reduceCtorEq, eq_self, nI_e0, nI_e1, i10, i01, decide_false, decide_true, Bool.false_eq_true, cls_mP, fr_mP, len_mP, h0, hr, hn, h1, bI_t, nI_one]
    | succ m ih =>
      intro k hk
      have h1 : ¬ n ≤ k := by omega
      have hk2 : k < (ztx r).length := by omega
      obtain ⟨u1, u2⟩ := t3 (yFr S + k) (by omega)
      have c1 := lc k (by omega)
      have hb : b (yFr S + k) < 256 := u2
      refine s125_39.trans ?_
      unfold wmF
      have z0 : ∀ k', ZW zG (d + 1) 125 39 [.ref 135, .ref r, .int (nI 0), .int k'] [] (mP z S F) Q = Q (.inl (some (.int (bI false)))) (mP z S F) := by
        intro k'
        by_cases hh : nI n ≤ k'
        · simp (disch := omega) only [s125_39, s125_40, s125_41, s125_44, s125_47, s125_48, s125_82, s125_83, zcs_0, zcs_1, zcs_2, zcs_3, zcs_4, zcs_5, zcs_6, zcs_7, znl_i, znl_r, znl_n, Bool.and_true, Bool.true_and, zk_v, zk_n, zk_x, zir_r, zir_n, zclr_i, zclr_r, zclr_n, zclr_d, zclr_l, true_and, and_true, and_self, if_true, if_false, reduceIte, nI_add, pk_mul, zin_ok, zx_nI, nI_lt2, nI_le2, nI_eq2, nI_l0, nI_g0, nI_q0, nI_p0, nI_n0, nI_m1, Nat.add_zero, Nat.zero_add, Nat.reduceAdd, Nat.reduceMul, true_or, or_true, znar_50, bI_0, bI_1, bI_z, bft, nI_z0, nI_z1, lgc_lt, lgc_gt, lgc_le, lgc_ge, lgc_eq, not_true_eq_false, not_false_eq_true, Bool.not_eq_true, Bool.not_eq_false, reduceCtorEq, eq_self, nI_e0, nI_e1, i10, i01, decide_false, decide_true, Bool.false_eq_true, cls_mP, fr_mP, len_mP, h0, hr, hn, hh, bI_f, nI_0]
        · simp (disch := omega) only [s125_39, s125_40, s125_41, s125_44, s125_47, s125_48, s125_82, s125_83, zcs_0, zcs_1, zcs_2, zcs_3, zcs_4, zcs_5, zcs_6, zcs_7, znl_i, znl_r, znl_n, Bool.and_true, Bool.true_and, zk_v, zk_n, zk_x, zir_r, zir_n, zclr_i, zclr_r, zclr_n, zclr_d, zclr_l, true_and, and_true, and_self, if_true, if_false, reduceIte, nI_add, pk_mul, zin_ok, zx_nI, nI_lt2, nI_le2, nI_eq2, nI_l0, nI_g0, nI_q0, nI_p0, nI_n0, nI_m1, Nat.add_zero, Nat.zero_add, Nat.reduceAdd, Nat.reduceMul, true_or, or_true, znar_50, bI_0, bI_1, bI_z, bft, nI_z0, nI_z1, lgc_lt, lgc_gt, lgc_le, lgc_ge, lgc_eq, not_true_eq_false, not_false_eq_true, Bool.not_eq_true, Bool.not_eq_false, reduceCtorEq, eq_self, nI_e0, nI_e1, i10, i01, decide_false, decide_true, Bool.false_eq_true, cls_mP, fr_mP, len_mP, h0, hr, hn, hh, bI_f, nI_0]
      have ih1 := ih (k + 1) (by omega)
      by_cases hc : b (yFr S + k) = (ztx r).getD k 0
      · simp (disch := omega) only [s125_0, s125_1, s125_4, s125_7, s125_8, s125_11, s125_12, s125_15, s125_16, s125_19, s125_20, s125_23, s125_24, s125_25, s125_28, s125_31, s125_32, s125_35, s125_36, s125_37, s125_38, s125_40, s125_41, s125_44, s125_47, s125_48, s125_51, s125_52, s125_55, s125_56, s125_59, s125_60, s125_61, s125_62, s125_63, s125_64, s125_67, s125_70, s125_71, s125_74, s125_75, s125_76, s125_79, s125_82, s125_83, zcs_0, zcs_1, zcs_2, zcs_3, zcs_4, zcs_5, zcs_6, zcs_7, znl_i, znl_r, znl_n, Bool.and_true, Bool.true_and, zk_v, zk_n, zk_x, zir_r, zir_n, zclr_i, zclr_r, zclr_n, zclr_d, zclr_l, true_and, and_true, and_self, if_true, if_false, reduceIte, nI_add, pk_mul, zin_ok, zx_nI, nI_lt2, nI_le2, nI_eq2, nI_l0, nI_g0, nI_q0, nI_p0, nI_n0, nI_m1, Nat.add_zero, Nat.zero_add, Nat.reduceAdd, Nat.reduceMul, true_or, or_true, znar_50, bI_0, bI_1, bI_z, bft, nI_z0, nI_z1, lgc_lt, lgc_gt, lgc_le, lgc_ge, lgc_eq, not_true_eq_false, not_false_eq_true, Bool.not_eq_true, Bool.not_eq_false, reduceCtorEq, eq_self, nI_e0, nI_e1, i10, i01, decide_false, decide_true, Bool.false_eq_true, cls_mP, fr_mP, len_mP, mP_9, ia_mP9, h0, hr, hn, h1, u1, sb_eq, hc, decide_true, ih1]
      · simp (disch := omega) only [s125_0, s125_1, s125_4, s125_7, s125_8, s125_11, s125_12, s125_15, s125_16, s125_19, s125_20, s125_23, s125_24, s125_25, s125_28, s125_31, s125_32, s125_35, s125_36, s125_37, s125_38, s125_40, s125_41, s125_44, s125_47, s125_48, s125_51, s125_52, s125_55, s125_56, s125_59, s125_60, s125_61, s125_62, s125_63, s125_64, s125_67, s125_70, s125_71, s125_74, s125_75, s125_76, s125_79, s125_82, s125_83, zcs_0, zcs_1, zcs_2, zcs_3, zcs_4, zcs_5, zcs_6, zcs_7, znl_i, znl_r, znl_n, Bool.and_true, Bool.true_and, zk_v, zk_n, zk_x, zir_r, zir_n, zclr_i, zclr_r, zclr_n, zclr_d, zclr_l, true_and, and_true, and_self, if_true, if_false, reduceIte, nI_add, pk_mul, zin_ok, zx_nI, nI_lt2, nI_le2, nI_eq2, nI_l0, nI_g0, nI_q0, nI_p0, nI_n0, nI_m1, Nat.add_zero, Nat.zero_add, Nat.reduceAdd, Nat.reduceMul, true_or, or_true, znar_50, bI_0, bI_1, bI_z, bft, nI_z0, nI_z1, lgc_lt, lgc_gt, lgc_le, lgc_ge, lgc_eq, not_true_eq_false, not_false_eq_true, Bool.not_eq_true, Bool.not_eq_false, reduceCtorEq, eq_self, nI_e0, nI_e1, i10, i01, decide_false, decide_true, Bool.false_eq_true, cls_mP, fr_mP, len_mP, mP_9, ia_mP9, h0, hr, hn, h1, u1, sb_eq, hc, decide_false, z0, Bool.false_and]
  have z0 : ZW zG (d + 1) 125 39 [.ref 135, .ref r, .int (nI 0), .int (nI 0)] [] (mP z S F) Q = Q (.inl (some (.int (bI false)))) (mP z S F) := by
    have h1 : ¬ n = 0 := by omega
    simp (disch := omega) only [s125_39, s125_40, s125_41, s125_44, s125_47, s125_48, s125_82, s125_83, zcs_0, zcs_1, zcs_2, zcs_3, zcs_4, zcs_5, zcs_6, zcs_7, znl_i, znl_r, znl_n, Bool.and_true, Bool.true_and, zk_v, zk_n, zk_x, zir_r, zir_n, zclr_i, zclr_r, zclr_n, zclr_d, zclr_l, true_and, and_true, and_self, if_true, if_false, reduceIte, nI_add, pk_mul, zin_ok, zx_nI, nI_lt2, nI_le2, nI_eq2, nI_l0, nI_g0, nI_q0, nI_p0, nI_n0, nI_m1, Nat.add_zero, Nat.zero_add, Nat.reduceAdd, Nat.reduceMul, true_or, or_true, znar_50, bI_0, bI_1, bI_z, bft, nI_z0, nI_z1, lgc_lt, lgc_gt, lgc_le, lgc_ge, lgc_eq, not_true_eq_false, not_false_eq_true, Bool.not_eq_true, Bool.not_eq_false, reduceCtorEq, eq_self, nI_e0, nI_e1, i10, i01, decide_false, decide_true, Bool.false_eq_true, cls_mP, fr_mP, len_mP, h0, hr, hn, h1, bI_f, nI_0]
  have hg := fun d Q => m122 (d := d) (Q := Q) (F := F) (z := z) (S := S) hM (by omega)
  unfold yIs
  rw [hn]
  by_cases g1 : yFk S = 0
  · by_cases g2 : yTk S = 1
    · by_cases g3 : yAt S - yFr S = n
      · have k0 := key g3 n 0 (by omega)
        simp (disch := omega) only [e125, s125_0, s125_1, s125_4, s125_7, s125_8, s125_11, s125_12, s125_15, s125_16, s125_19, s125_20, s125_23, s125_24, s125_25, s125_28, s125_31, s125_32, s125_35, s125_36, s125_37, s125_38, s125_40, s125_41, s125_44, s125_47, s125_48, s125_51, s125_52, s125_55, s125_56, s125_59, s125_60, s125_61, s125_62, s125_63, s125_64, s125_67, s125_70, s125_71, s125_74, s125_75, s125_76, s125_79, s125_82, s125_83, zcs_0, zcs_1, zcs_2, zcs_3, zcs_4, zcs_5, zcs_6, zcs_7, znl_i, znl_r, znl_n, Bool.and_true, Bool.true_and, zk_v, zk_n, zk_x, zir_r, zir_n, zclr_i, zclr_r, zclr_n, zclr_d, zclr_l, true_and, and_true, and_self, if_true, if_false, reduceIte, nI_add, pk_mul, zin_ok, zx_nI, nI_lt2, nI_le2, nI_eq2, nI_l0, nI_g0, nI_q0, nI_p0, nI_n0, nI_m1, Nat.add_zero, Nat.zero_add, Nat.reduceAdd, Nat.reduceMul, true_or, or_true, znar_50, bI_0, bI_1, bI_z, bft, nI_z0, nI_z1, lgc_lt, lgc_gt, lgc_le, lgc_ge, lgc_eq, not_true_eq_false, not_false_eq_true, Bool.not_eq_true, Bool.not_eq_false, reduceCtorEq, eq_self, nI_e0, nI_e1, i10, i01, decide_false, decide_true, Bool.false_eq_true, cls_mP, fr_mP, len_mP, mP_8, mP_9, mP_10, h0, hr, hg, hn, g1, g2, nI_sbn, g3, decide_true, k0]
      · simp (disch := omega) only [e125, s125_0, s125_1, s125_4, s125_7, s125_8, s125_11, s125_12, s125_15, s125_16, s125_19, s125_20, s125_23, s125_24, s125_25, s125_28, s125_31, s125_32, s125_35, s125_36, s125_37, s125_38, s125_40, s125_41, s125_44, s125_47, s125_48, s125_51, s125_52, s125_55, s125_56, s125_59, s125_60, s125_61, s125_62, s125_63, s125_64, s125_67, s125_70, s125_71, s125_74, s125_75, s125_76, s125_79, s125_82, s125_83, zcs_0, zcs_1, zcs_2, zcs_3, zcs_4, zcs_5, zcs_6, zcs_7, znl_i, znl_r, znl_n, Bool.and_true, Bool.true_and, zk_v, zk_n, zk_x, zir_r, zir_n, zclr_i, zclr_r, zclr_n, zclr_d, zclr_l, true_and, and_true, and_self, if_true, if_false, reduceIte, nI_add, pk_mul, zin_ok, zx_nI, nI_lt2, nI_le2, nI_eq2, nI_l0, nI_g0, nI_q0, nI_p0, nI_n0, nI_m1, Nat.add_zero, Nat.zero_add, Nat.reduceAdd, Nat.reduceMul, true_or, or_true, znar_50, bI_0, bI_1, bI_z, bft, nI_z0, nI_z1, lgc_lt, lgc_gt, lgc_le, lgc_ge, lgc_eq, not_true_eq_false, not_false_eq_true, Bool.not_eq_true, Bool.not_eq_false, reduceCtorEq, eq_self, nI_e0, nI_e1, i10, i01, decide_false, decide_true, Bool.false_eq_true, cls_mP, fr_mP, len_mP, mP_8, mP_9, mP_10, h0, hr, hg, hn, g1, g2, nI_sbn, g3, decide_true, decide_false, z0, Bool.false_and, Bool.and_false]
    · simp (disch := omega) only [e125, s125_0, s125_1, s125_4, s125_7, s125_8, s125_11, s125_12, s125_15, s125_16, s125_19, s125_20, s125_23, s125_24, s125_25, s125_28, s125_31, s125_32, s125_35, s125_36, s125_37, s125_38, s125_40, s125_41, s125_44, s125_47, s125_48, s125_51, s125_52, s125_55, s125_56, s125_59, s125_60, s125_61, s125_62, s125_63, s125_64, s125_67, s125_70, s125_71, s125_74, s125_75, s125_76, s125_79, s125_82, s125_83, zcs_0, zcs_1, zcs_2, zcs_3, zcs_4, zcs_5, zcs_6, zcs_7, znl_i, znl_r, znl_n, Bool.and_true, Bool.true_and, zk_v, zk_n, zk_x, zir_r, zir_n, zclr_i, zclr_r, zclr_n, zclr_d, zclr_l, true_and, and_true, and_self, if_true, if_false, reduceIte, nI_add, pk_mul, zin_ok, zx_nI, nI_lt2, nI_le2, nI_eq2, nI_l0, nI_g0, nI_q0, nI_p0, nI_n0, nI_m1, Nat.add_zero, Nat.zero_add, Nat.reduceAdd, Nat.reduceMul, true_or, or_true, znar_50, bI_0, bI_1, bI_z, bft, nI_z0, nI_z1, lgc_lt, lgc_gt, lgc_le, lgc_ge, lgc_eq, not_true_eq_false, not_false_eq_true, Bool.not_eq_true, Bool.not_eq_false, reduceCtorEq, eq_self, nI_e0, nI_e1, i10, i01, decide_false, decide_true, Bool.false_eq_true, cls_mP, fr_mP, len_mP, mP_8, mP_9, mP_10, h0, hr, hg, hn, g1, g2, decide_true, decide_false, z0, Bool.false_and, Bool.and_false]
  · simp (disch := omega) only [e125, s125_0, s125_1, s125_4, s125_7, s125_8, s125_11, s125_12, s125_15, s125_16, s125_19, s125_20, s125_23, s125_24, s125_25, s125_28, s125_31, s125_32, s125_35, s125_36, s125_37, s125_38, s125_40, s125_41, s125_44, s125_47, s125_48, s125_51, s125_52, s125_55, s125_56, s125_59, s125_60, s125_61, s125_62, s125_63, s125_64, s125_67, s125_70, s125_71, s125_74, s125_75, s125_76, s125_79, s125_82, s125_83, zcs_0, zcs_1, zcs_2, zcs_3, zcs_4, zcs_5, zcs_6, zcs_7, znl_i, znl_r, znl_n, Bool.and_true, Bool.true_and, zk_v, zk_n, zk_x, zir_r, zir_n, zclr_i, zclr_r, zclr_n, zclr_d, zclr_l, true_and, and_true, and_self, if_true, if_false, reduceIte, nI_add, pk_mul, zin_ok, zx_nI, nI_lt2, nI_le2, nI_eq2, nI_l0, nI_g0, nI_q0, nI_p0, nI_n0, nI_m1, Nat.add_zero, Nat.zero_add, Nat.reduceAdd, Nat.reduceMul, true_or, or_true, znar_50, bI_0, bI_1, bI_z, bft, nI_z0, nI_z1, lgc_lt, lgc_gt, lgc_le, lgc_ge, lgc_eq, not_true_eq_false, not_false_eq_true, Bool.not_eq_true, Bool.not_eq_false, reduceCtorEq, eq_self, nI_e0, nI_e1, i10, i01, decide_false, decide_true, Bool.false_eq_true, cls_mP, fr_mP, len_mP, h0, hr, hg, hn, g1, decide_false, z0, Bool.false_and]
end MT1
