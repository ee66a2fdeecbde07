set_option maxRecDepth 100000
/-! pairs of calls: rows of numbers -/
section AL
variable {sc : Nat → Int32} {n j : Nat}
variable {B B2 : Nat → Prop} {lab : Nat → Nat} {v v2 : Nat → Nat} {L L2 : Nat → List (Nat × Nat)} {hs : Nat → Bool} {vI : Nat → Nat → Nat} {LI : Nat → Nat → List (Nat × Nat)} {tp tp2 : Nat} {tb tb2 : Nat → Int32} {fk fp fk2 fp2 : Int32} {hd : Nat → Bool} {sn sw : Nat → Nat} {sv : Nat → Nat → Int64} {z z2 : ZH} {W : Nat → Prop} {K : Nat}
theorem cut_2 (x : Int64) : cutL x (nI 2) = x.toInt32.toInt64 := by
  unfold cutL
  rw [show (nI 64 - (nI 8 <<< (nI 2 &&& 31))).toInt64 &&& 63 = 32 by decide]
  apply Int64.toBitVec_inj.mp
  rw [Int64.toBitVec_shiftRight, Int64.toBitVec_shiftLeft]
  rw [show (Int64.toBitVec 32).smod 64 = 32#64 by decide]
  apply BitVec.eq_of_getLsbD_eq
  intro i hi
  simp only [BitVec.shiftLeft_eq', BitVec.sshiftRight_eq', Int64.toBitVec_toInt32, Int32.toBitVec_toInt64, Int32.toBitVec_toInt8, Int32.toBitVec_toInt16, Int8.toBitVec_toInt32, Int16.toBitVec_toInt32, BitVec.getLsbD_sshiftRight, BitVec.getLsbD_signExtend, BitVec.msb_eq_getLsbD_last, BitVec.getLsbD_shiftLeft, BitVec.toNat_ofNat, Nat.reducePow, Nat.reduceMod, Nat.reduceSub, Nat.reduceLT, decide_true, decide_false, Bool.true_and, Bool.false_and, Bool.and_true, Bool.not_false, Bool.not_true]
  by_cases h : i < 32
  · simp [h, hi, show 32 + i < 64 by omega, show ¬ 64 ≤ i by omega, show i < 32 by omega, show i < 64 by omega]
  · by_cases h2 : i < 32
    · simp [h, h2, hi, show ¬ 32 + i < 64 by omega, show ¬ 64 ≤ i by omega]
    · simp [h, h2, hi, show ¬ 32 + i < 64 by omega, show ¬ 64 ≤ i by omega]
theorem cut_1 (x : Int64) : cutL x (nI 1) = x.toInt32.toInt16.toInt32.toInt64 := by
  unfold cutL
  rw [show (nI 64 - (nI 8 <<< (nI 1 &&& 31))).toInt64 &&& 63 = 48 by decide]
  apply Int64.toBitVec_inj.mp
  rw [Int64.toBitVec_shiftRight, Int64.toBitVec_shiftLeft]
  rw [show (Int64.toBitVec 48).smod 64 = 48#64 by decide]
  apply BitVec.eq_of_getLsbD_eq
  intro i hi
  simp only [BitVec.shiftLeft_eq', BitVec.sshiftRight_eq', Int64.toBitVec_toInt32, Int32.toBitVec_toInt64, Int32.toBitVec_toInt8, Int32.toBitVec_toInt16, Int8.toBitVec_toInt32, Int16.toBitVec_toInt32, BitVec.getLsbD_sshiftRight, BitVec.getLsbD_signExtend, BitVec.msb_eq_getLsbD_last, BitVec.getLsbD_shiftLeft, BitVec.toNat_ofNat, Nat.reducePow, Nat.reduceMod, Nat.reduceSub, Nat.reduceLT, decide_true, decide_false, Bool.true_and, Bool.false_and, Bool.and_true, Bool.not_false, Bool.not_true]
  by_cases h : i < 16
  · simp [h, hi, show 48 + i < 64 by omega, show ¬ 64 ≤ i by omega, show i < 32 by omega, show i < 64 by omega]
  · by_cases h2 : i < 32
    · simp [h, h2, hi, show ¬ 48 + i < 64 by omega, show ¬ 64 ≤ i by omega]
    · simp [h, h2, hi, show ¬ 48 + i < 64 by omega, show ¬ 64 ≤ i by omega]
theorem cut_0 (x : Int64) : cutL x (nI 0) = x.toInt32.toInt8.toInt32.toInt64 := by
  unfold cutL
  rw [show (nI 64 - (nI 8 <<< (nI 0 &&& 31))).toInt64 &&& 63 = 56 by decide]
  apply Int64.toBitVec_inj.mp
  rw [Int64.toBitVec_shiftRight, Int64.toBitVec_shiftLeft]
  rw [show (Int64.toBitVec 56).smod 64 = 56#64 by decide]
  apply BitVec.eq_of_getLsbD_eq
  intro i hi
  simp only [BitVec.shiftLeft_eq', BitVec.sshiftRight_eq', Int64.toBitVec_toInt32, Int32.toBitVec_toInt64, Int32.toBitVec_toInt8, Int32.toBitVec_toInt16, Int8.toBitVec_toInt32, Int16.toBitVec_toInt32, BitVec.getLsbD_sshiftRight, BitVec.getLsbD_signExtend, BitVec.msb_eq_getLsbD_last, BitVec.getLsbD_shiftLeft, BitVec.toNat_ofNat, Nat.reducePow, Nat.reduceMod, Nat.reduceSub, Nat.reduceLT, decide_true, decide_false, Bool.true_and, Bool.false_and, Bool.and_true, Bool.not_false, Bool.not_true]
  by_cases h : i < 8
  · simp [h, hi, show 56 + i < 64 by omega, show ¬ 64 ≤ i by omega, show i < 32 by omega, show i < 64 by omega]
  · by_cases h2 : i < 32
    · simp [h, h2, hi, show ¬ 56 + i < 64 by omega, show ¬ 64 ≤ i by omega]
    · simp [h, h2, hi, show ¬ 56 + i < 64 by omega, show ¬ 64 ≤ i by omega]
theorem cut_3 (x : Int64) : cutL x (nI 3) = x := by
  unfold cutL
  rw [show (nI 64 - (nI 8 <<< (nI 3 &&& 31))).toInt64 &&& 63 = 0 by decide]
  apply Int64.toBitVec_inj.mp
  simp
theorem zwk_v : zwk (nI 0) = 52 ∧ zwk (nI 1) = 53 ∧ zwk (nI 2) = 50 ∧ zwk (nI 3) = 51 := by decide
theorem w4 {w : Nat} (h : w < 4) : w = 0 ∨ w = 1 ∨ w = 2 ∨ w = 3 := by omega
theorem cut_w {w : Nat} (h : w < 4) (x : Int64) : cutL x (nI w) = if zwk (nI w) = 51 then x else (znar (zwk (nI w)) x.toInt32).toInt64 := by
  obtain ⟨z0, z1, z2, z3⟩ := zwk_v
  rcases w4 h with rfl | rfl | rfl | rfl
  · rw [z0, cut_0, if_neg (by omega)]; rfl
  · rw [z1, cut_1, if_neg (by omega)]; rfl
  · rw [z2, cut_2, if_neg (by omega)]; rfl
  · rw [z3, cut_3, if_pos rfl]
theorem cut_cut {w : Nat} (h : w < 4) (x : Int64) : cutL (cutL x (nI w)) (nI w) = cutL x (nI w) := by
  rcases w4 h with rfl | rfl | rfl | rfl
  · rw [cut_0, cut_0, Int64.toInt32_toInt64, Int8.toInt8_toInt32]
  · rw [cut_1, cut_1, Int64.toInt32_toInt64, Int16.toInt16_toInt32]
  · rw [cut_2, cut_2, Int64.toInt32_toInt64]
  · rw [cut_3, cut_3]
theorem cut_0w {w : Nat} (h : w < 4) : cutL (lN 0) (nI w) = lN 0 := by
  rcases w4 h with rfl | rfl | rfl | rfl <;> decide +kernel
theorem fit_of {q t w : Nat} {v : Nat → Int64} {j : Nat} (h : w < 4) (hc : zcls z q = zwk (nI w)) (hv : slV z q j = v j) (hf : cutL (v j) (nI w) = v j) : znar (zcls z q) (zia z q j) = zia z q j := by
  rw [cut_w h] at hf
  rw [hc]
  by_cases e : zwk (nI w) = 51
  · rw [e]; rfl
  · rw [if_neg e] at hf
    unfold slV at hv
    rw [hc, if_neg e] at hv
    rw [← hv, Int32.toInt32_toInt64] at hf
    have := congrArg Int64.toInt32 hf
    rw [Int32.toInt32_toInt64, Int32.toInt32_toInt64] at this
    exact this
theorem zwk_inj {a b : Nat} (h : a < 4) (k : b < 4) (e : zwk (nI a) = zwk (nI b)) : a = b := by
  obtain ⟨z0, z1, z2, z3⟩ := zwk_v
  rcases w4 h with rfl | rfl | rfl | rfl <;> rcases w4 k with rfl | rfl | rfl | rfl <;> first | rfl | (simp only [z0, z1, z2, z3] at e; omega)
theorem CS_sl (F : zFr W z z2) (hz : 162 ≤ zn z) (hW : ∀ q, W q → ¬ (100 ≤ q ∧ q ≤ 130)) (hc : ∀ q, 131 ≤ q → q ≤ 134 → zcls z2 q = zcls z q) (h0 : CS z) : CS z2 := by
  unfold CS at h0 ⊢
  have y131 := hc 131 (by omega) (by omega)
  have y132 := hc 132 (by omega) (by omega)
  have y133 := hc 133 (by omega) (by omega)
  have y134 := hc 134 (by omega) (by omega)
  have w100 := F.2 100 (by omega) (fun w => hW _ w (by omega))
  have w101 := F.2 101 (by omega) (fun w => hW _ w (by omega))
  have w102 := F.2 102 (by omega) (fun w => hW _ w (by omega))
  have w103 := F.2 103 (by omega) (fun w => hW _ w (by omega))
  have w104 := F.2 104 (by omega) (fun w => hW _ w (by omega))
  have w105 := F.2 105 (by omega) (fun w => hW _ w (by omega))
  have w106 := F.2 106 (by omega) (fun w => hW _ w (by omega))
  have w107 := F.2 107 (by omega) (fun w => hW _ w (by omega))
  have w108 := F.2 108 (by omega) (fun w => hW _ w (by omega))
  have w109 := F.2 109 (by omega) (fun w => hW _ w (by omega))
  have w110 := F.2 110 (by omega) (fun w => hW _ w (by omega))
  have w111 := F.2 111 (by omega) (fun w => hW _ w (by omega))
  have w112 := F.2 112 (by omega) (fun w => hW _ w (by omega))
  have w113 := F.2 113 (by omega) (fun w => hW _ w (by omega))
  have w114 := F.2 114 (by omega) (fun w => hW _ w (by omega))
  have w115 := F.2 115 (by omega) (fun w => hW _ w (by omega))
  have w116 := F.2 116 (by omega) (fun w => hW _ w (by omega))
  have w117 := F.2 117 (by omega) (fun w => hW _ w (by omega))
  have w118 := F.2 118 (by omega) (fun w => hW _ w (by omega))
  have w119 := F.2 119 (by omega) (fun w => hW _ w (by omega))
  have w120 := F.2 120 (by omega) (fun w => hW _ w (by omega))
  have w121 := F.2 121 (by omega) (fun w => hW _ w (by omega))
  have w122 := F.2 122 (by omega) (fun w => hW _ w (by omega))
  have w123 := F.2 123 (by omega) (fun w => hW _ w (by omega))
  have w124 := F.2 124 (by omega) (fun w => hW _ w (by omega))
  have w125 := F.2 125 (by omega) (fun w => hW _ w (by omega))
  have w126 := F.2 126 (by omega) (fun w => hW _ w (by omega))
  have w127 := F.2 127 (by omega) (fun w => hW _ w (by omega))
  have w128 := F.2 128 (by omega) (fun w => hW _ w (by omega))
  have w129 := F.2 129 (by omega) (fun w => hW _ w (by omega))
  have w130 := F.2 130 (by omega) (fun w => hW _ w (by omega))
  simp only [w100, w101, w102, w103, w104, w105, w106, w107, w108, w109, w110, w111, w112, w113, w114, w115, w116, w117, w118, w119, w120, w121, w122, w123, w124, w125, w126, w127, w128, w129, w130, y131, y132, y133, y134, h0, and_self]
/-- one row is written, or made anew -/
theorem CR_sl {s n2 w2 : Nat} {f : Nat → Int64} (h : CR B lab v L hs vI LI tp tb fk fp hd sn sw sv z) (hs4 : s < 4) (F : zFr W z z2) (hW : ∀ q, W q → q < zn z → q = 131 + s ∨ (162 ≤ q ∧ lab q = 5 + s)) (hc : ∀ q, 131 ≤ q → q ≤ 134 → zcls z2 q = zcls z q)
    (hn : ∃ q : Nat, zfr z2 (131 + s) 0 = .ref q ∧ 162 ≤ q ∧ q < zn z2 ∧ (q < zn z → lab q = 5 + s) ∧ zcls z2 q = zwk (nI w2) ∧ zlen z2 q = n2 ∧ ∀ i, i < n2 → slV z2 q i = f i) : CR B (lbN z lab (5 + s)) v L hs vI LI tp tb fk fp (fun i => if i = s then true else hd i) (fun i => if i = s then n2 else sn i) (fun i => if i = s then w2 else sw i) (fun i => if i = s then f else sv i) z2 := by
  obtain ⟨hz, h0, hR, hB, hI, hSl, hF⟩ := h
  have nW : ∀ q, q < zn z → ¬ q = 131 + s → ¬ (162 ≤ q ∧ lab q = 5 + s) → ¬ W q := fun q q1 q2 q3 w => by
    rcases hW q w q1 with w | w
    · exact q2 w
    · exact q3 w
  have nWB : ∀ q, B q → q < zn z ∧ ¬ W q := fun q hq => by
    obtain ⟨b1, b2, b3, _⟩ := hB q hq
    exact ⟨b3, nW q b3 (by omega) (by omega)⟩
  refine ⟨Nat.le_trans hz F.1, CS_sl F hz (fun q w hq => nW q (by omega) (by omega) (by omega) w) hc h0, RS_fr hR F (by omega) (fun q q1 q2 => nW q (by omega) (by omega) (by omega)) nWB, fun q hq => ?_, fun i hi => ?_, fun i hi => ?_, cFe_fr hF hz F (nW 100 (by omega) (by omega) (by omega)) (nW 127 (by omega) (by omega) (by omega))⟩
  · obtain ⟨b1, b2, b3, b4⟩ := hB q hq
    have e := F.2 q b3 (nWB q hq).2
    refine ⟨by rw [lbN_o b3]; exact b1, b2, Nat.lt_of_lt_of_le b3 F.1, fun hc => ?_⟩
    rw [e.1] at hc
    rw [e.2.2.1]
    exact ⟨(b4 hc).1, Nat.lt_of_lt_of_le (b4 hc).2 F.1⟩
  · have e := F.2 116 (by omega) (nW 116 (by omega) (by omega) (by omega))
    rcases hI i hi with ⟨a, b⟩ | ⟨a, s', b, b1, b2, b3, b4⟩
    · exact Or.inl ⟨a, by rw [e.2.2.2.2.2.1]; exact b⟩
    · exact Or.inr ⟨a, s', by rw [e.2.2.2.2.2.1]; exact b, b1, Nat.le_trans b2 F.1, RS_fr b3 F b2 (fun q q1 q2 => nW q (by omega) (by omega) (by rw [b4 q q1 q2]; omega)) nWB, fun q q1 q2 => by rw [lbN_o (by omega)]; exact b4 q q1 q2⟩
  · by_cases e : i = s
    · subst e
      obtain ⟨q, a1, a2, a3, a4, a5, a6, a7⟩ := hn
      refine Or.inr ⟨if_pos rfl, q, a1, a2, a3, ?_, ?_, ?_, ?_⟩
      · by_cases hq : q < zn z
        · rw [lbN_o hq]; exact a4 hq
        · exact lbN_n (by omega)
      · simp only [if_true]; exact a5
      · simp only [if_true]; exact a6
      · simp only [if_true]; exact a7
    · simp only [if_neg e]
      have c := F.2 (131 + i) (by omega) (nW _ (by omega) (by omega) (by omega))
      rcases hSl i hi with ⟨a, b⟩ | ⟨a, q, b, b1, b2, l, b3, b4, b5⟩
      · exact Or.inl ⟨a, by rw [c.2.2.1]; exact b⟩
      · have w := nW q b2 (by omega) (by rw [l]; omega)
        have g := F.2 q b2 w
        exact Or.inr ⟨a, q, by rw [c.2.2.1]; exact b, b1, Nat.lt_of_lt_of_le b2 F.1, by rw [lbN_o b2]; exact l, by rw [g.1]; exact b3, by rw [g.2.2.2.2.2.2.1]; exact b4, fun x hx => by rw [slV_fr F b2 w]; exact b5 x hx⟩
theorem MR_sl {s n2 w2 : Nat} {f : Nat → Int64} (h : MR v hs vI tp tb fk fp hd sn sw sv z) (hm : MS z2) (hi : ∀ q, q = 136 ∨ q = 137 ∨ q = 138 ∨ q = 139 → zia z2 q = zia z q) (hf : zfi z2 135 = zfi z 135) (h8 : ∀ i, zia z2 158 i = if i = s then nI n2 else zia z 158 i) (h9 : ∀ i, zia z2 159 i = if i = s then nI w2 else zia z 159 i) (hl : ∀ x i, x < 4 → i < 60 → zla z2 160 (60 * x + i) = if x = s then f i else zla z 160 (60 * x + i)) : MR v hs vI tp tb fk fp (fun i => if i = s then true else hd i) (fun i => if i = s then n2 else sn i) (fun i => if i = s then w2 else sw i) (fun i => if i = s then f else sv i) z2 := by
  obtain ⟨h1, h2, h3, h4, h5⟩ := h
  refine ⟨hm, fun i => by rw [hi 136 (by omega)]; exact h2 i, ?_, fun x hx => ?_, ?_⟩
  · unfold mIM at h3 ⊢
    rw [hi 138 (by omega), hi 137 (by omega)]
    exact h3
  · by_cases e : x = s
    · refine Or.inr ⟨if_pos e, ?_, ?_, fun i hi => ?_⟩
      · show zia z2 158 x = nI (if x = s then n2 else sn x)
        rw [h8, if_pos e, if_pos e]
      · show zia z2 159 x = nI (if x = s then w2 else sw x)
        rw [h9, if_pos e, if_pos e]
      · show zla z2 160 (60 * x + i) = (if x = s then f else sv x) i
        rw [hl x i hx hi, if_pos e, if_pos e]
    · rcases h4 x hx with ⟨a, b⟩ | ⟨a, b, c, g⟩
      · exact Or.inl ⟨(if_neg e).trans a, by rw [h8, if_neg e]; exact b⟩
      · refine Or.inr ⟨(if_neg e).trans a, ?_, ?_, fun i hi => ?_⟩
        · show zia z2 158 x = nI (if x = s then n2 else sn x)
          rw [h8, if_neg e, if_neg e]; exact b
        · show zia z2 159 x = nI (if x = s then w2 else sw x)
          rw [h9, if_neg e, if_neg e]; exact c
        · show zla z2 160 (60 * x + i) = (if x = s then f else sv x) i
          rw [hl x i hx hi, if_neg e, if_neg e]; exact g i hi
  · unfold mFe at h5 ⊢
    rw [hi 139 (by omega), hf]
    exact h5
theorem WP_sl {s n2 w2 : Nat} {f : Nat → Int64} (h : WP K v L hs vI LI tp tb hd sn sw sv) (hn : n2 ≤ 60) (hw : w2 < 4) (hf : ∀ y, y < n2 → cutL (f y) (nI w2) = f y) : WP K v L hs vI LI tp tb (fun i => if i = s then true else hd i) (fun i => if i = s then n2 else sn i) (fun i => if i = s then w2 else sw i) (fun i => if i = s then f else sv i) := ⟨h.1, h.2.1, h.2.2.1, fun i hi hh => by
  by_cases e : i = s
  · simp only [if_pos e]; exact ⟨hn, hw, hf⟩
  · simp only [if_neg e] at hh ⊢; exact h.2.2.2 i hi hh⟩
theorem CR_pay {a b : Nat} (h : CR B lab v L hs vI LI tp tb fk fp hd sn sw sv z) : CR B (lbN z lab 1) v L hs vI LI tp tb fk fp hd sn sw sv (spay z a b) := CR_fr (W := fun _ => False) h (zFr_spay (zFr_refl _ _)) (fun q w => False.elim w) rfl h.2.1
theorem MR_pay {a b : Nat} (h : MR v hs vI tp tb fk fp hd sn sw sv z) : MR v hs vI tp tb fk fp hd sn sw sv (spay z a b) := h
theorem scr_pay {a b : Nat} (h : scr sc n z) : scr sc n (spay z a b) := h
theorem pr0 {s w m : Int32} (hj : j < 64) : Pr sc n j 0 210 [.int s, .int w, .int m] := by
  intro z Q h H
  have hup := Rel_up h
  obtain ⟨v, L, hs, vI, LI, tp, tb, fk, fp, hd, sn, sw, sv, ⟨B, lab, hC⟩, hM, hW, hS, hu, hus⟩ := h
  cases h1 : (zin s 4 && (zin w 4 && decide (m ≤ nI 60))) with
  | false =>
    refine Eq.mpr (c0n (d := 1498) hC.2.1 h1) ?_
    refine H _ z (MR_135 hM) hS (fun Q2 H2 => ?_)
    refine Eq.mpr (m210n (d := 1498) h1) ?_
    exact H2 z hup
  | true =>
    rw [Bool.and_eq_true, Bool.and_eq_true] at h1
    obtain ⟨h1, h2, h3⟩ := h1
    have h3 := of_decide_eq_true h3
    have h1' := h1
    obtain ⟨s, hs4, _, rfl⟩ := zin_of h1
    by_cases h4 : m < 0
    · refine Eq.mpr (c0m (d := 1498) hC.2.1 hs4 h2 h3 h4) ?_
      have hM1 := MR_pay (a := 20) (b := 400) hM
      have e1 : zuc (spay z 20 400) = zuc z + 20 := rfl
      have e2 : zus (spay z 20 400) = zus z + 400 := rfl
      refine H _ _ (MR_135 hM1) (scr_pay hS) (fun Q2 H2 => ?_)
      refine Eq.mpr (m210m (d := 1498) h1' h2 h3 h4) ?_
      exact H2 _ (Rel_m ⟨_, _, CR_pay hC⟩ (mSt_refl _) hM1 hW (by omega) (scr_pay hS) (by omega) (by omega))
    · obtain ⟨w, hw4, _, rfl⟩ := zin_of h2
      have h5 : zin m 61 = true := (zin_iff (by omega)).mpr ⟨Int32.not_lt.mp h4, by
        have e : nI 60 < nI 61 := by decide
        exact Int32.lt_of_le_of_lt h3 e⟩
      obtain ⟨m, hm, _, rfl⟩ := zin_of h5
      refine Eq.mpr (c0 (d := 1498) hC.2.1 hs4 hw4 (by omega)) ?_
      have hz := hC.1
      have F : zFr (fun q => q = 131 + s) z (sfr (sarr z (zwk (nI w)) m) (131 + s) 0 (.ref (zn z))) := zFr_sfr (zFr_sarr (zFr_refl _ _)) (Or.inr rfl)
      have hC1 := CR_sl (n2 := m) (w2 := w) (f := fun _ => lN 0) hC hs4 F (fun q w _ => Or.inl w) (fun q q1 q2 => by rw [cls_sfr, cls_sarr, zu1_n _ _ _ (by omega)]) ⟨zn z, by rw [fr_sfr, zu2_s], hz, by rw [n_sfr, n_sarr]; omega, fun h => absurd h (by omega), by rw [cls_sfr, cls_sarr, zu1_s], by rw [len_sfr, len_sarr, zu1_s], fun i hi => by
        unfold slV
        rw [ia_sfr, ia_sarr, zu1_s, la_sfr, la_sarr, zu1_s]
        split <;> rfl⟩
      have hM1 := MR_fr hM F hC.1 (fun q w => by omega)
      have hS1 := scr_fr hS F hC.1 (fun q w => by omega)
      have e1 : zuc (sfr (sarr z (zwk (nI w)) m) (131 + s) 0 (.ref (zn z))) = zuc z + 1 := rfl
      have e2 : zus (sfr (sarr z (zwk (nI w)) m) (131 + s) 0 (.ref (zn z))) = zus z + m := rfl
      generalize sfr (sarr z (zwk (nI w)) m) (131 + s) 0 (.ref (zn z)) = z1 at *
      refine H _ z1 (MR_135 hM1) hS1 (fun Q2 H2 => ?_)
      refine Eq.mpr (m210 (d := 1498) hM1.1 hs4 hw4 (by omega)) ?_
      refine H2 _ (Rel_m ⟨_, _, hC1⟩ (mSt_tr (mSt_sia (by omega)) (mSt_tr (mSt_sia (by omega)) (mSt_sLA (by omega)))) (MR_sl hM1 hM1.1 (fun q hq => by
        rw [ia_sLA, ia_sia]
        funext x
        rw [zu2_n _ _ _ _ (by omega), ia_sia, zu2_n _ _ _ _ (by omega)]) rfl (fun i => ?_) (fun i => ?_) (fun x i hx hi => ?_)) (WP_sl hW (by omega) hw4 (fun y _ => cut_0w hw4)) (by omega) hS1 (by omega) (by omega))
      · rw [ia_sLA, ia_sia, zu2_n _ _ _ _ (by omega), ia_sia]
        by_cases e : i = s
        · rw [e, zu2_s, if_pos rfl]
        · rw [zu2_k _ _ _ _ e, if_neg e]
      · rw [ia_sLA, ia_sia]
        by_cases e : i = s
        · rw [e, zu2_s, if_pos rfl]
        · rw [zu2_k _ _ _ _ e, if_neg e, ia_sia, zu2_n _ _ _ _ (by omega)]
      · rw [la_sLA, zu1_s]
        unfold ovr
        by_cases e : x = s
        · rw [if_pos (by omega), if_pos e]
        · rw [if_neg (by omega), if_neg e]
theorem held_no {s : Nat} (h0 : CS z) (hs : s < 4) (hn : zfr z (131 + s) 0 = .null) : zheldB z (131 + s) = true := by
  have hc : zcls z (131 + s) = 11 := by
    unfold CS at h0
    rcases w4 hs with rfl | rfl | rfl | rfl <;> simp only [Nat.reduceAdd, h0]
  unfold zheldB
  rw [hn, hc]
  rfl
theorem held_yes {s q m : Nat} (h : slot z (131 + s) q m) (hq : 162 ≤ q) (hm : m ≤ 60) : zheldB z (131 + s) = true := by
  obtain ⟨h1, h2, h3, h4⟩ := h
  unfold zheldB
  rw [h1, h2]
  have e1 : decide (100 ≤ q) = true := decide_eq_true (by omega)
  have e2 : decide (50 ≤ zcls z q) = true := decide_eq_true (by omega)
  have e3 : decide (zcls z q < 54) = true := decide_eq_true (by omega)
  have e4 : decide (zlen z q ≤ 1000) = true := decide_eq_true (by omega)
  show (decide (11 = 11) && (decide (100 ≤ q) && (decide (50 ≤ zcls z q) && (decide (zcls z q < 54) && decide (zlen z q ≤ 1000))))) = true
  rw [e1, e2, e3, e4]
  rfl
theorem fit_no {s : Nat} (hn : zfr z (131 + s) 0 = .null) : zfitB z (131 + s) = true := by
  unfold zfitB
  rw [hn]
theorem fit_yes {s q m w : Nat} {v : Nat → Int64} (h : slot z (131 + s) q m) (hw : w < 4) (hc : zcls z q = zwk (nI w)) (hv : ∀ y, y < m → slV z q y = v y) (hf : ∀ y, y < m → cutL (v y) (nI w) = v y) : zfitB z (131 + s) = true := by
  obtain ⟨h1, h2, h3, h4⟩ := h
  unfold zfitB
  rw [h2]
  show zfitA z q = true
  unfold zfitA
  rw [List.all_eq_true]
  intro j hj
  have hj : j < zlen z q := List.mem_range.mp hj
  rw [h4] at hj
  exact decide_eq_true (fit_of (t := 0) hw hc (hv j hj) (hf j hj))
theorem sput_eq {q i : Nat} {x : Int64} : zFr (fun p => p = q) z (sput z q i x) ∧ zcls (sput z q i x) = zcls z ∧ zfr (sput z q i x) = zfr z ∧ zlen (sput z q i x) = zlen z ∧ zn (sput z q i x) = zn z ∧ zuc (sput z q i x) = zuc z ∧ zus (sput z q i x) = zus z ∧ ∀ y, slV (sput z q i x) q y = if y = i then (if zcls z q = 51 then x else (znar (zcls z q) x.toInt32).toInt64) else slV z q y := by
  unfold sput
  by_cases h : zcls z q = 51
  · rw [if_pos h]
    refine ⟨zFr_sla (zFr_refl _ _) (Or.inr rfl), rfl, rfl, rfl, rfl, rfl, rfl, fun y => ?_⟩
    unfold slV
    rw [cls_sla, if_pos h, if_pos h, if_pos h, la_sla]
    by_cases e : y = i
    · rw [e, zu2_s, if_pos rfl]
    · rw [zu2_k _ _ _ _ e, if_neg e]
  · rw [if_neg h]
    refine ⟨zFr_sia (zFr_refl _ _) (Or.inr rfl), rfl, rfl, rfl, rfl, rfl, rfl, fun y => ?_⟩
    unfold slV
    rw [cls_sia, if_neg h, if_neg h, if_neg h, ia_sia]
    by_cases e : y = i
    · rw [e, zu2_s, if_pos rfl]
    · rw [zu2_k _ _ _ _ e, if_neg e]
theorem pr3 {s i : Int32} {x : Int64} (hj : j < 64) : Pr sc n j 3 211 [.int s, .int i, .long x] := by
  intro z Q h H
  have hup := Rel_up h
  obtain ⟨v, L, hs, vI, LI, tp, tb, fk, fp, hd, sn, sw, sv, ⟨B, lab, hC⟩, hM, hW, hS, hu, hus⟩ := h
  have hSl := hC.2.2.2.2.2.1
  cases h1 : zin s 4 with
  | false =>
    refine Eq.mpr (c3n (d := 1498) hC.2.1 h1) ?_
    refine H _ z (MR_135 hM) hS (fun Q2 H2 => ?_)
    refine Eq.mpr (m211n (d := 1498) h1) ?_
    exact H2 z hup
  | true =>
    obtain ⟨s, hs4, _, rfl⟩ := zin_of h1
    have hM1 := MR_pay (a := 40) (b := 800) hM
    have e1 : zuc (spay z 40 800) = zuc z + 40 := rfl
    have e2 : zus (spay z 40 800) = zus z + 800 := rfl
    cases hh : hd s with
    | false =>
      have hno := cSL_no hSl hs4 hh
      have hp : zputs z (131 + s) i x = (-6, spay z 40 800) := by unfold zputs; rw [hno]
      refine Eq.mpr (c3 (d := 1498) hC.2.1 hs4 (held_no hC.2.1 hs4 hno)) ?_
      rw [hp]
      refine H _ _ (MR_135 hM1) (scr_pay hS) (fun Q2 H2 => ?_)
      refine Eq.mpr (m211m (d := 1498) hM1.1 hs4 (mSL_no hM1.2.2.2.1 hs4 hh)) ?_
      exact H2 _ (Rel_m ⟨_, _, CR_pay hC⟩ (mSt_refl _) hM1 hW (by omega) (scr_pay hS) (by omega) (by omega))
    | true =>
      obtain ⟨q, q1, q2, q3, q4, q5, q6⟩ := cSL_slot (B := B) hC.2.1 hSl hs4 (fun e => (hW.2.2.2 s hs4 e).2.1) hh
      obtain ⟨n60, w4', fit⟩ := hW.2.2.2 s hs4 hh
      refine Eq.mpr (c3 (d := 1498) hC.2.1 hs4 (held_yes q1 q2 n60)) ?_
      by_cases hi : zin i (sn s) = true
      · have hp : zputs z (131 + s) i x = (0, sput (spay z 40 800) q (zx i) x) := by
          unfold zputs
          rw [q1.2.1]
          dsimp only
          rw [q1.2.2.2, if_pos hi]
        rw [hp]
        obtain ⟨i, i1, i2, rfl⟩ := zin_of hi
        rw [zx_nI i2]
        obtain ⟨F, p1, p2, p3, p4, p5, p6, p7⟩ := sput_eq (z := spay z 40 800) (q := q) (i := i) (x := x)
        have hCp := CR_pay (a := 40) (b := 800) hC
        have q5 : lbN z lab 1 q = 5 + s := by rw [lbN_o q3]; exact q5
        have p7 : ∀ y, slV (sput (spay z 40 800) q i x) q y = if y = i then (if zcls z q = 51 then x else (znar (zcls z q) x.toInt32).toInt64) else slV z q y := p7
        have hSp := scr_pay (a := 40) (b := 800) hS
        have hC1 := CR_sl (n2 := sn s) (w2 := sw s) (f := fun y => if y = i then cutL x (nI (sw s)) else sv s y) hCp hs4 F (fun p e _ => by subst e; exact Or.inr ⟨q2, q5⟩) (fun p _ _ => by rw [p1]) ⟨q, by rw [p2]; exact q1.2.1, q2, by rw [p4]; exact q3, fun _ => q5, by rw [p1]; exact q4, by rw [p3]; exact q1.2.2.2, fun y hy => by
          rw [p7, q4, ← cut_w w4']
          by_cases e : y = i
          · rw [if_pos e, if_pos e]
          · rw [if_neg e, if_neg e]; exact q6 y hy⟩
        have hM1 := MR_fr hM1 F hCp.1 (fun q w => by omega)
        have hS1 := scr_fr hSp F hCp.1 (fun q w => by omega)
        generalize sput (spay z 40 800) q i x = z1 at *
        have hm := mSL_yes hM1.2.2.2.1 hs4 hh
        refine H _ z1 (MR_135 hM1) hS1 (fun Q2 H2 => ?_)
        refine Eq.mpr (m211 (d := 1498) hM1.1 hs4 n60 hm.1 i1) ?_
        rw [hm.2.1]
        refine H2 _ (Rel_m ⟨_, _, hC1⟩ (mSt_sla (by omega)) (MR_sl hM1 hM1.1 (fun q hq => rfl) rfl (fun y => ?_) (fun y => ?_) (fun y k hy hk => ?_)) (WP_sl hW n60 w4' (fun y hy => by
          by_cases e : y = i
          · rw [if_pos e]; exact cut_cut w4' x
          · rw [if_neg e]; exact fit y hy)) (by omega) hS1 (by omega) (by omega))
        · show zia z1 158 y = _
          by_cases e : y = s
          · rw [if_pos e, e]; exact hm.1
          · rw [if_neg e]
        · show zia z1 159 y = _
          by_cases e : y = s
          · rw [if_pos e, e]; exact hm.2.1
          · rw [if_neg e]
        · rw [la_sla]
          by_cases e : y = s
          · subst e
            rw [if_pos rfl]
            by_cases e2 : k = i
            · rw [e2, zu2_s, if_pos rfl]
            · rw [zu2_k _ _ _ _ (by omega), if_neg e2]; exact hm.2.2 k hk
          · rw [if_neg e, zu2_k _ _ _ _ (by omega)]
      · have hp : zputs z (131 + s) i x = (-7, spay z 40 800) := by
          unfold zputs
          rw [q1.2.1]
          dsimp only
          rw [q1.2.2.2, if_neg hi]
        rw [hp]
        rw [Bool.not_eq_true] at hi
        refine H _ _ (MR_135 hM1) (scr_pay hS) (fun Q2 H2 => ?_)
        refine Eq.mpr (m211e (d := 1498) hM1.1 hs4 n60 (mSL_yes hM1.2.2.2.1 hs4 hh).1 hi) ?_
        exact H2 _ (Rel_m ⟨_, _, CR_pay hC⟩ (mSt_refl _) hM1 hW (by omega) (scr_pay hS) (by omega) (by omega))
theorem scpy_eq {u q a b m : Nat} (hc : zcls z u = zcls z q) : zFr (fun p => p = q) z (scpy z u q a b m) ∧ zcls (scpy z u q a b m) = zcls z ∧ zfr (scpy z u q a b m) = zfr z ∧ zlen (scpy z u q a b m) = zlen z ∧ zn (scpy z u q a b m) = zn z ∧ zuc (scpy z u q a b m) = zuc z ∧ zus (scpy z u q a b m) = zus z ∧ ∀ y, slV (scpy z u q a b m) q y = if b ≤ y ∧ y < b + m then slV z u (a + (y - b)) else slV z q y := by
  unfold scpy
  by_cases h : zcls z q = 51
  · rw [if_pos h]
    refine ⟨zFr_sLA (zFr_refl _ _) (Or.inr rfl), rfl, rfl, rfl, rfl, rfl, rfl, fun y => ?_⟩
    unfold slV
    rw [cls_sLA, hc, if_pos h, if_pos h, if_pos h, la_sLA, zu1_s]
    rfl
  · rw [if_neg h]
    refine ⟨zFr_sIA (zFr_refl _ _) (Or.inr rfl), rfl, rfl, rfl, rfl, rfl, rfl, fun y => ?_⟩
    unfold slV
    rw [cls_sIA, hc, if_neg h, if_neg h, if_neg h, ia_sIA, zu1_s]
    unfold va_cpy
    split <;> rfl
theorem nn_of {a : Int32} (h : ¬ a < 0) : ∃ k : Nat, k < 2147483648 ∧ a = nI k ∧ zx a = k := by
  have h5 : zin a 2147483647 = true ∨ a = nI 2147483647 := by
    by_cases e : a = nI 2147483647
    · exact Or.inr e
    · refine Or.inl ((zin_iff (by omega)).mpr ⟨Int32.not_lt.mp h, ?_⟩)
      rcases Int32.lt_or_lt_of_ne e with x | x
      · exact x
      · exact absurd x (Int32.not_lt.mpr (Int32.le_iff_toInt_le.mpr (by
          have h1 := a.toInt_lt
          have e1 : (nI 2147483647).toInt = 2147483647 := by decide
          omega)))
  rcases h5 with h5 | rfl
  · obtain ⟨k, _, k2, rfl⟩ := zin_of h5
    exact ⟨k, k2, rfl, zx_nI k2⟩
  · exact ⟨2147483647, by omega, rfl, zx_nI (by omega)⟩
theorem pr4 {s i t k m : Int32} (hj : j < 64) : Pr sc n j 4 213 [.int s, .int i, .int t, .int k, .int m] := by
  intro z Q h H
  have hup := Rel_up h
  obtain ⟨v, L, hs, vI, LI, tp, tb, fk, fp, hd, sn, sw, sv, ⟨B, lab, hC⟩, hM, hW, hS, hu, hus⟩ := h
  have hSl := hC.2.2.2.2.2.1
  cases h1 : (zin s 4 && zin t 4) with
  | false =>
    refine Eq.mpr (c4n (d := 1498) hC.2.1 h1) ?_
    refine H _ z (MR_135 hM) hS (fun Q2 H2 => ?_)
    refine Eq.mpr (m213n (d := 1498) h1) ?_
    exact H2 z hup
  | true =>
    rw [Bool.and_eq_true] at h1
    obtain ⟨s, hs4, _, rfl⟩ := zin_of h1.1
    obtain ⟨t, ht4, _, rfl⟩ := zin_of h1.2
    have nohold : zheldB z (131 + s) = true → zheldB z (131 + t) = true → zfitB z (131 + s) = true → zpastes z (131 + s) i (131 + t) k m = (-6, z) → (zia z 158 s = -1 ∨ zia z 158 t = -1) → ZC zG 1500 4 [.ref 100, .int (nI s), .int i, .int (nI t), .int k, .int m] z Q := fun a b a9 c e => by
      refine Eq.mpr (c4 (d := 1498) hC.2.1 hs4 ht4 a b a9) ?_
      rw [c]
      refine H _ z (MR_135 hM) hS (fun Q2 H2 => ?_)
      refine Eq.mpr (m213m (d := 1498) hM.1 hs4 ht4 e) ?_
      exact H2 z hup
    cases hh : hd s with
    | false =>
      have hno := cSL_no hSl hs4 hh
      have hp : zpastes z (131 + s) i (131 + t) k m = (-6, z) := by unfold zpastes; rw [hno]
      refine nohold (held_no hC.2.1 hs4 hno) ?_ (fit_no hno) hp (Or.inl (mSL_no hM.2.2.2.1 hs4 hh))
      cases ht : hd t with
      | false => exact held_no hC.2.1 ht4 (cSL_no hSl ht4 ht)
      | true =>
        obtain ⟨q, q1, q2, _⟩ := cSL_slot (B := B) hC.2.1 hSl ht4 (fun e => (hW.2.2.2 t ht4 e).2.1) ht
        exact held_yes q1 q2 (hW.2.2.2 t ht4 ht).1
    | true =>
      obtain ⟨q, q1, q2, q3, q4, q5, q6⟩ := cSL_slot (B := B) hC.2.1 hSl hs4 (fun e => (hW.2.2.2 s hs4 e).2.1) hh
      obtain ⟨n60, w4', fit⟩ := hW.2.2.2 s hs4 hh
      cases ht : hd t with
      | false =>
        have hno := cSL_no hSl ht4 ht
        have hp : zpastes z (131 + s) i (131 + t) k m = (-6, z) := by unfold zpastes; rw [q1.2.1, hno]
        exact nohold (held_yes q1 q2 n60) (held_no hC.2.1 ht4 hno) (fit_yes q1 w4' q4 q6 fit) hp (Or.inr (mSL_no hM.2.2.2.1 ht4 ht))
      | true =>
        obtain ⟨p, p1, p2, p3, p4, p5, p6⟩ := cSL_slot (B := B) hC.2.1 hSl ht4 (fun e => (hW.2.2.2 t ht4 e).2.1) ht
        obtain ⟨m60, u4, fit2⟩ := hW.2.2.2 t ht4 ht
        refine Eq.mpr (c4 (d := 1498) hC.2.1 hs4 ht4 (held_yes q1 q2 n60) (held_yes p1 p2 m60) (fit_yes q1 w4' q4 q6 fit)) ?_
        have hms := mSL_yes hM.2.2.2.1 hs4 hh
        have hmt := mSL_yes hM.2.2.2.1 ht4 ht
        by_cases hw : sw s = sw t
        rotate_left
        · have hne : ¬ zcls z q = zcls z p := fun e => hw (zwk_inj w4' u4 (by rw [← q4, ← p4]; exact e))
          have hp : zpastes z (131 + s) i (131 + t) k m = (-8, z) := by
            unfold zpastes
            rw [q1.2.1, p1.2.1]
            dsimp only
            rw [if_neg hne]
          rw [hp]
          refine H _ z (MR_135 hM) hS (fun Q2 H2 => ?_)
          refine Eq.mpr (m213u (d := 1498) hM.1 hs4 ht4 hms.1 hmt.1 n60 m60 hms.2.1 hmt.2.1 w4' u4 hw) ?_
          exact H2 z hup
        · have heq : zcls z q = zcls z p := by rw [q4, p4, hw]
          by_cases hc : (¬ i < 0 ∧ ¬ k < 0 ∧ ¬ m < 0) ∧ zx i + zx m ≤ sn s ∧ zx k + zx m ≤ sn t
          rotate_left
          · have hp : zpastes z (131 + s) i (131 + t) k m = (-7, spay z 40 800) := by
              unfold zpastes
              rw [q1.2.1, p1.2.1]
              dsimp only
              rw [if_pos heq, q1.2.2.2, p1.2.2.2, if_neg hc]
            rw [hp]
            have hM1 := MR_pay (a := 40) (b := 800) hM
            have e1 : zuc (spay z 40 800) = zuc z + 40 := rfl
            have e2 : zus (spay z 40 800) = zus z + 800 := rfl
            refine H _ _ (MR_135 hM1) (scr_pay hS) (fun Q2 H2 => ?_)
            refine Eq.mpr (m213e (d := 1498) hM1.1 hs4 ht4 hms.1 hmt.1 n60 m60 hms.2.1 (by rw [hw]; exact hmt.2.1) w4' hc) ?_
            exact H2 _ (Rel_m ⟨_, _, CR_pay hC⟩ (mSt_refl _) hM1 hW (by omega) (scr_pay hS) (by omega) (by omega))
          · have hp : zpastes z (131 + s) i (131 + t) k m = (0, scpy z q p (zx i) (zx k) (zx m)) := by
              unfold zpastes
              rw [q1.2.1, p1.2.1]
              dsimp only
              rw [if_pos heq, q1.2.2.2, p1.2.2.2, if_pos hc]
            rw [hp]
            obtain ⟨⟨a1, a2, a3⟩, a4, a5⟩ := hc
            obtain ⟨i, i1, rfl, i3⟩ := nn_of a1
            obtain ⟨k, k1, rfl, k3⟩ := nn_of a2
            obtain ⟨m, m1, rfl, m3⟩ := nn_of a3
            rw [i3, k3, m3]
            rw [i3, m3] at a4
            rw [k3, m3] at a5
            obtain ⟨F, r1, r2, r3, r4, r5, r6, r7⟩ := scpy_eq (z := z) (u := q) (q := p) (a := i) (b := k) (m := m) heq
            have hC1 := CR_sl (n2 := sn t) (w2 := sw t) (f := fun y => if k ≤ y ∧ y < k + m then sv s (i + (y - k)) else sv t y) hC ht4 F (fun x e _ => by subst e; exact Or.inr ⟨p2, p5⟩) (fun x _ _ => by rw [r1]) ⟨p, by rw [r2]; exact p1.2.1, p2, by rw [r4]; exact p3, fun _ => p5, by rw [r1]; exact p4, by rw [r3]; exact p1.2.2.2, fun y hy => by
              rw [r7]
              by_cases e : k ≤ y ∧ y < k + m
              · rw [if_pos e, if_pos e]; exact q6 _ (by omega)
              · rw [if_neg e, if_neg e]; exact p6 y hy⟩
            have hM1 := MR_fr hM F hC.1 (fun q w => by omega)
            have hS1 := scr_fr hS F hC.1 (fun q w => by omega)
            generalize scpy z q p i k m = z1 at *
            have hmt1 := mSL_yes hM1.2.2.2.1 ht4 ht
            have hms1 := mSL_yes hM1.2.2.2.1 hs4 hh
            refine H _ z1 (MR_135 hM1) hS1 (fun Q2 H2 => ?_)
            refine Eq.mpr (m213 (d := 1498) hM1.1 hs4 ht4 hms1.1 hmt1.1 n60 m60 hms1.2.1 (by rw [hw]; exact hmt1.2.1) w4' a4 a5) ?_
            refine H2 _ (Rel_m ⟨_, _, hC1⟩ (mSt_tr (mSt_sLA (by omega)) (mSt_sLA (by omega))) (MR_sl hM1 hM1.1 (fun q hq => rfl) rfl (fun y => ?_) (fun y => ?_) (fun y x hy hx => ?_)) (WP_sl hW m60 u4 (fun y hy => by
              by_cases e : k ≤ y ∧ y < k + m
              · rw [if_pos e, ← hw]; exact fit _ (by omega)
              · rw [if_neg e]; exact fit2 y hy)) (by omega) hS1 (by omega) (by omega))
            · show zia z1 158 y = _
              by_cases e : y = t
              · rw [if_pos e, e]; exact hmt1.1
              · rw [if_neg e]
            · show zia z1 159 y = _
              by_cases e : y = t
              · rw [if_pos e, e]; exact hmt1.2.1
              · rw [if_neg e]
            · rw [la_sLA, zu1_s]
              unfold ovr
              by_cases e : y = t
              · subst e
                rw [if_pos rfl]
                by_cases e2 : k ≤ x ∧ x < k + m
                · rw [if_pos (by omega), if_pos e2]
                  dsimp only
                  rw [show 60 * s + i + (60 * y + x - (60 * y + k)) = 60 * s + (i + (x - k)) by omega]
                  exact hms1.2.2 _ (by omega)
                · rw [if_neg (by omega), if_neg e2]; exact hmt1.2.2 x hx
              · rw [if_neg (by omega), if_neg e]
end AL
