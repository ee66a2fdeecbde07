set_option maxRecDepth 100000
/-! the component's ledger: what is done -/
section CD
variable {d : Nat} {B : Nat → Prop} {z : ZH} {Q : ZQ} {v da ha ra : Nat → Nat} {l t hl kn rl : Nat} {L : Nat → List (Nat × Nat)}
theorem c73 (hL : LdS z l) (hK : RKn z l v) {a b : Nat} (ha : a < 16) (hb : b < 16) (hab : ¬ a = b) : ZC zG d 73 [.ref l, .int (nI a), .int (nI b)] z Q = Q (.inl none) (sia (sia z (l + 1) a (nI (v (1864 + a) ||| 2 ^ b))) (l + 1) b (nI (v (1864 + b) ||| 2 ^ a))) := by
  unfold LdS at hL
  have k1 := hK a ha
  have k2 := hK b hb
  have hba : ¬ b = a := fun e => hab e.symm
  simp (disch := first | omega | assumption) only [e73, s73_0, s73_1, s73_4, s73_5, s73_6, s73_7, s73_8, s73_9, s73_10, s73_11, s73_12, s73_13, s73_16, s73_17, s73_18, s73_19, s73_20, s73_21, s73_22, s73_23, s73_24, zcs_0, zcs_1, zcs_2, zcs_3, zcs_4, zcs_5, zcs_6, zcs_7, znl_i, znl_r, znl_n, Bool.and_true, Bool.true_and, zk_v, zk_n, zk_x, zir_r, zir_n, zclr_i, zclr_r, zclr_n, zclr_d, zclr_l, true_and, and_true, and_self, if_true, if_false, reduceIte, nI_add, pk_mul, zin_ok, zx_nI, nI_lt2, nI_le2, nI_eq2, nI_l0, nI_g0, nI_q0, nI_p0, nI_n0, nI_m1, Nat.add_zero, Nat.zero_add, Nat.reduceAdd, Nat.reduceMul, true_or, or_true, znar_50, bI_0, bI_1, bI_z, bft, nI_z0, nI_z1, lgc_lt, lgc_gt, lgc_le, lgc_ge, lgc_eq, not_true_eq_false, not_false_eq_true, Bool.not_eq_true, Bool.not_eq_false, reduceCtorEq, hL, k1, k2, cls_sia, fr_sia, len_sia, ia_sia, zu2_k, nI_sh1, nI_or]
theorem RKn_meets (hK : RKn z l v) {a b : Nat} (ha : a < 16) (hb : b < 16) (hab : ¬ a = b) : RKn (sia (sia z (l + 1) a (nI (v (1864 + a) ||| 2 ^ b))) (l + 1) b (nI (v (1864 + b) ||| 2 ^ a))) l (sMeets v a b) := by
  intro h hh
  rw [ia_sia, ia_sia]
  unfold sMeets
  by_cases e : h = b
  · subst e
    rw [zu2_s, zu1_s, zu1_n _ _ _ (by omega)]
  · rw [zu2_k _ _ _ _ e, zu1_n _ _ _ (by omega)]
    by_cases e2 : h = a
    · subst e2
      rw [zu2_s, zu1_s]
    · rw [zu2_k _ _ _ _ e2, zu1_n _ _ _ (by omega)]
      exact hK h hh
/-- a debt taken out of the list -/
theorem RDe_drop {lst : List Value} (h : RDe B (sls z (l + 2) lst) l da v) {k : Nat} (hk : k < v 7) (h7 : v 7 ≤ 600) : RDe B (sls z (l + 2) (lst.eraseIdx k)) l (fun i => if i < k then da i else da (i + 1)) (sDrop v k) := by
  obtain ⟨a1, a2, a3⟩ := h
  have e7 : sDrop v k 7 = v 7 - 1 := zu1_s _ _ _
  have hls : zls (sls z (l + 2) lst) (l + 2) = lst := by rw [ls_sls, zu1_s]
  have hls2 : zls (sls z (l + 2) (lst.eraseIdx k)) (l + 2) = lst.eraseIdx k := by rw [ls_sls, zu1_s]
  rw [hls] at a1 a3
  refine ⟨by rw [hls2, e7, len_erase (by omega)]; omega, by omega, fun i hi => ?_⟩
  rw [e7] at hi
  rw [hls2, getD_erase]
  have key : ∀ j, j < 5 → sDrop v k (1880 + 5 * i + j) = if i < k then v (1880 + 5 * i + j) else v (1880 + 5 * (i + 1) + j) := by
    intro j hj
    unfold sDrop
    rw [zu1_n _ _ _ (by omega)]
    unfold sShift
    by_cases c : i < k
    · rw [if_pos c, if_neg (by omega)]
    · rw [if_neg c, if_pos (by omega)]
      congr 1
      omega
  by_cases c : i < k
  · obtain ⟨b1, b2, b3, b4⟩ := a3 i (by omega)
    simp only [c, if_true]
    refine ⟨b1, b2, b3, fun j hj => ?_⟩
    rw [key j hj, if_pos c]
    exact b4 j hj
  · obtain ⟨b1, b2, b3, b4⟩ := a3 (i + 1) (by omega)
    simp only [c, if_false]
    refine ⟨b1, b2, b3, fun j hj => ?_⟩
    rw [key j hj, if_neg c]
    exact b4 j hj
/-- the payings' loop -/
theorem c69i (hL : LdS z l) (hB : ∀ q, B q → 100 ≤ q) {a b p dy pq : Nat} (ha : a < 16) (hb : b < 16) (hp : p < 4) (hpq : zcls z pq = 6 + p) (vf : (Nat → Nat) × Nat) (H : ∀ lst da x6 x7, RDe B (sls z (l + 2) lst) l da vf.1 → ZW zG (d + 3) 69 88 [.ref l, .int (nI a), .int (nI b), .ref pq, .int (nI dy), .int (nI vf.2), x6, x7] [] (sls z (l + 2) lst) Q) :
    ∀ (k : Nat) (v : Nat → Nat) (n : Nat) (lst : List Value) (da : Nat → Nat) (x7 : Value), sPays a b p k v n = vf → (∀ i, v i < 2147483648) → k ≤ v 7 → v 7 ≤ 600 → RDe B (sls z (l + 2) lst) l da v → ZW zG (d + 3) 69 16 [.ref l, .int (nI a), .int (nI b), .ref pq, .int (nI dy), .int (nI n), .int (nI k + (-1)), x7] [] (sls z (l + 2) lst) Q := by
  have hL2 := hL
  unfold LdS at hL2
  intro k
  induction k with
  | zero =>
    intro v n lst da x7 hvf hv hk h7 hD
    have e0 : nI 0 + (-1) = -1 := by decide +kernel
    have e1 : ((-1 : Int32) < 0) = True := by simp
    rw [s69_16]
    simp (disch := omega) only [s69_18, zcs_0, zcs_1, zcs_2, zcs_3, zcs_4, zcs_5, zcs_6, zcs_7, znl_i, znl_r, znl_n, Bool.and_true, Bool.true_and, zk_v, zk_n, zk_x, zir_r, zir_n, zclr_i, zclr_r, zclr_n, zclr_d, zclr_l, true_and, and_true, and_self, if_true, if_false, reduceIte, e0, e1]
    have hvf2 : (v, n) = vf := hvf
    subst hvf2
    exact H lst da _ _ hD
  | succ k ih =>
    intro v n lst da x7 hvf hv hk h7 hD
    have hls : zls (sls z (l + 2) lst) (l + 2) = lst := by rw [ls_sls, zu1_s]
    have hD0 := hD
    obtain ⟨a1, a2, a3⟩ := hD
    rw [hls] at a1 a3
    obtain ⟨b1, b2, b3, b4⟩ := a3 k (by omega)
    have f0 := b4 0 (by omega)
    have f1 := b4 1 (by omega)
    have f2 := b4 2 (by omega)
    rw [Nat.add_zero] at f0
    rw [fi_sls] at f0 f1 f2
    rw [cls_sls] at b3
    have hall : lst.all (zlel (sls z (l + 2) lst)) = true := by
      refine all_getD (fun i hi => ?_)
      obtain ⟨g1, g2, g3, g4⟩ := a3 i (by omega)
      rw [g1]
      have := hB _ g2
      simp [zlel, this, g3]
    have u1 := fun ls st Q => s69_58 (d := d + 2) (z := sls z (l + 2) lst) (Q := Q) (ls := ls) (st := st) (w0 := da k) (r := pq) (k1 := 83) (by rw [cls_sls]; exact pay_lk hp hpq) (Nat.le_of_ble_eq_true rfl)
    have u2 := fun Q => pay_pays (d := d) (z := sls z (l + 2) lst) (Q := Q) hp (by rw [cls_sls]; exact hpq) (q := da k) (by rw [cls_sls]; exact b3)
    rw [fi_sls, f2] at u2
    rw [s69_16, pk_m1]
    have hs : sPays a b p (k + 1) v n = if sMatch v a b p k = true then sPays a b p k (sDrop v k) (n + 1) else sPays a b p k v n := rfl
    rw [hs] at hvf
    have hvd : ∀ i, sDrop v k i < 2147483648 := by
      intro i
      unfold sDrop zu1 sShift
      split
      · have := hv 7; omega
      · split <;> exact hv _
    by_cases c1 : v (1880 + 5 * k) = a
    · by_cases c2 : v (1880 + 5 * k + 1) = b
      · by_cases c3 : v (1880 + 5 * k + 2) ≤ p
        · have hm : sMatch v a b p k = true := by unfold sMatch; simp [c1, c2, c3]
          rw [if_pos hm] at hvf
          have e7 : sDrop v k 7 = v 7 - 1 := zu1_s _ _ _
          have i2 := ih (sDrop v k) (n + 1) (lst.eraseIdx k) _ (.ref (da k)) hvf hvd (by omega) (by omega) (RDe_drop hD0 (by omega) h7)
          have es : sls (sls z (l + 2) lst) (l + 2) (lst.eraseIdx k) = sls z (l + 2) (lst.eraseIdx k) := by
            unfold sls zmk
            simp only [zcls, zfi, zfr, zia, zla, zra, zlen, zls, zown, zn, zuc, zus, Prod.mk.injEq, true_and, and_true]
            funext q
            unfold zu1
            by_cases hq : q = l + 2
            · simp [hq]
            · simp [hq]
          simp (disch := first | omega | exact hv _) only [s69_18, s69_21, s69_22, s69_25, s69_27, s69_32, s69_35, s69_37, s69_39, s69_42, s69_43, s69_46, s69_48, s69_51, s69_52, s69_55, s69_56, s69_61, s69_64, s69_67, s69_68, s69_71, s69_73, s69_78, s69_79, s69_82, s69_85, u1, u2, zcs_0, zcs_1, zcs_2, zcs_3, zcs_4, zcs_5, zcs_6, zcs_7, znl_i, znl_r, znl_n, Bool.and_true, Bool.true_and, zk_v, zk_n, zk_x, zir_r, zir_n, zclr_i, zclr_r, zclr_n, zclr_d, zclr_l, true_and, and_true, and_self, if_true, if_false, reduceIte, nI_add, pk_mul, zin_ok, zx_nI, nI_lt2, nI_le2, nI_eq2, nI_l0, nI_g0, nI_q0, nI_p0, nI_n0, nI_m1, Nat.add_zero, Nat.zero_add, Nat.reduceAdd, Nat.reduceMul, true_or, or_true, znar_50, bI_0, bI_1, bI_z, bft, nI_z0, nI_z1, lgc_lt, lgc_gt, lgc_le, lgc_ge, lgc_eq, not_true_eq_false, not_false_eq_true, Bool.not_eq_true, Bool.not_eq_false, reduceCtorEq, cls_sls, fr_sls, fi_sls, hls, hL2, a1, b1, b3, f0, f1, f2, c1, c2, c3, decide_true, hall, es]
          exact i2
        · have hm : ¬ sMatch v a b p k = true := by unfold sMatch; simp [c3]
          rw [if_neg hm] at hvf
          simp (disch := first | omega | exact hv _) only [s69_18, s69_21, s69_22, s69_25, s69_27, s69_32, s69_35, s69_37, s69_39, s69_42, s69_43, s69_46, s69_48, s69_51, s69_52, s69_55, s69_56, s69_61, s69_64, s69_67, s69_68, s69_71, s69_73, s69_78, s69_79, s69_82, s69_85, u1, u2, zcs_0, zcs_1, zcs_2, zcs_3, zcs_4, zcs_5, zcs_6, zcs_7, znl_i, znl_r, znl_n, Bool.and_true, Bool.true_and, zk_v, zk_n, zk_x, zir_r, zir_n, zclr_i, zclr_r, zclr_n, zclr_d, zclr_l, true_and, and_true, and_self, if_true, if_false, reduceIte, nI_add, pk_mul, zin_ok, zx_nI, nI_lt2, nI_le2, nI_eq2, nI_l0, nI_g0, nI_q0, nI_p0, nI_n0, nI_m1, Nat.add_zero, Nat.zero_add, Nat.reduceAdd, Nat.reduceMul, true_or, or_true, znar_50, bI_0, bI_1, bI_z, bft, nI_z0, nI_z1, lgc_lt, lgc_gt, lgc_le, lgc_ge, lgc_eq, not_true_eq_false, not_false_eq_true, Bool.not_eq_true, Bool.not_eq_false, reduceCtorEq, cls_sls, fr_sls, fi_sls, hls, hL2, a1, b1, b3, f0, f1, f2, c1, c2, c3, decide_false]
          exact ih v n lst da _ hvf hv (by omega) h7 hD0
      · have hm : ¬ sMatch v a b p k = true := by unfold sMatch; simp [c2]
        rw [if_neg hm] at hvf
        simp (disch := first | omega | exact hv _) only [s69_18, s69_21, s69_22, s69_25, s69_27, s69_32, s69_35, s69_37, s69_39, s69_42, s69_43, s69_46, s69_48, s69_51, s69_52, s69_55, s69_56, s69_61, s69_64, s69_67, s69_68, s69_71, s69_73, s69_78, s69_79, s69_82, s69_85, zcs_0, zcs_1, zcs_2, zcs_3, zcs_4, zcs_5, zcs_6, zcs_7, znl_i, znl_r, znl_n, Bool.and_true, Bool.true_and, zk_v, zk_n, zk_x, zir_r, zir_n, zclr_i, zclr_r, zclr_n, zclr_d, zclr_l, true_and, and_true, and_self, if_true, if_false, reduceIte, nI_add, pk_mul, zin_ok, zx_nI, nI_lt2, nI_le2, nI_eq2, nI_l0, nI_g0, nI_q0, nI_p0, nI_n0, nI_m1, Nat.add_zero, Nat.zero_add, Nat.reduceAdd, Nat.reduceMul, true_or, or_true, znar_50, bI_0, bI_1, bI_z, bft, nI_z0, nI_z1, lgc_lt, lgc_gt, lgc_le, lgc_ge, lgc_eq, not_true_eq_false, not_false_eq_true, Bool.not_eq_true, Bool.not_eq_false, reduceCtorEq, cls_sls, fr_sls, fi_sls, hls, hL2, a1, b1, b3, f0, f1, f2, c1, c2]
        exact ih v n lst da _ hvf hv (by omega) h7 hD0
    · have hm : ¬ sMatch v a b p k = true := by unfold sMatch; simp [c1]
      rw [if_neg hm] at hvf
      simp (disch := first | omega | exact hv _) only [s69_18, s69_21, s69_22, s69_25, s69_27, s69_32, s69_35, s69_37, s69_39, s69_42, s69_43, s69_46, s69_48, s69_51, s69_52, s69_55, s69_56, s69_61, s69_64, s69_67, s69_68, s69_71, s69_73, s69_78, s69_79, s69_82, s69_85, zcs_0, zcs_1, zcs_2, zcs_3, zcs_4, zcs_5, zcs_6, zcs_7, znl_i, znl_r, znl_n, Bool.and_true, Bool.true_and, zk_v, zk_n, zk_x, zir_r, zir_n, zclr_i, zclr_r, zclr_n, zclr_d, zclr_l, true_and, and_true, and_self, if_true, if_false, reduceIte, nI_add, pk_mul, zin_ok, zx_nI, nI_lt2, nI_le2, nI_eq2, nI_l0, nI_g0, nI_q0, nI_p0, nI_n0, nI_m1, Nat.add_zero, Nat.zero_add, Nat.reduceAdd, Nat.reduceMul, true_or, or_true, znar_50, bI_0, bI_1, bI_z, bft, nI_z0, nI_z1, lgc_lt, lgc_gt, lgc_le, lgc_ge, lgc_eq, not_true_eq_false, not_false_eq_true, Bool.not_eq_true, Bool.not_eq_false, reduceCtorEq, cls_sls, fr_sls, fi_sls, hls, hL2, a1, b1, b3, f0, f1, f2, c1]
      exact ih v n lst da _ hvf hv (by omega) h7 hD0
theorem sOpen_owe (hv : ∀ i, v i < 2147483648) {a b k : Nat} (ha : a < 2147483648) (hb : b < 2147483648) (hk : k < 2147483648) : sOpenN v (nI b) (nI a) (nI k) (v 7) = sOwe v b a k := by
  unfold sOpenN sOwe
  congr 1
  funext i
  simp only [nI_eq2 (hv _) hb, nI_eq2 (hv _) ha, nI_eq2 (hv _) hk]
theorem c250 {r : Nat} (h : zcls z r = 23) {a b c e f : Int32} : ZC zG d 250 [.ref r, .int a, .int b, .int c, .int e, .int f] z Q = Q (.inl none) (sfi (sfi (sfi (sfi (sfi z r 0 a) r 1 b) r 2 c) r 3 e) r 4 f) := by
  simp only [e250, s250_0, s250_1, s250_4, s250_5, s250_6, s250_9, s250_10, s250_11, s250_14, s250_15, s250_16, s250_19, s250_20, s250_22, s250_25, s250_26, s250_28, s250_31, zcs_0, zcs_1, zcs_2, zcs_3, zcs_4, zcs_5, zcs_6, zcs_7, znl_i, znl_r, znl_n, Bool.and_true, Bool.true_and, zk_v, zk_n, zk_x, zir_r, zir_n, zclr_i, zclr_r, zclr_n, zclr_d, zclr_l, true_and, and_true, and_self, if_true, if_false, reduceIte, cls_sfi, h]
/-- a new debt, put at the end -/
theorem RDe_add (hB : ∀ q, B q → 100 ≤ q ∧ q < zn z) (h : RDe B z l da v) (h7 : v 7 < 600) (hl : l + 2 < zn z) (hz : 100 ≤ zn z) {b a k u y : Nat} {z2 : ZH} (hz2 : z2 = sladd (sfi (sfi (sfi (sfi (sfi (snew z 23 5) (zn z) 0 (nI b)) (zn z) 1 (nI a)) (zn z) 2 (nI k)) (zn z) 3 (nI u)) (zn z) 4 (nI y)) (l + 2) (.ref (zn z))) : RDe (fun q => B q ∨ q = zn z) z2 l (fun i => if i = v 7 then zn z else da i) (sComes v b a k u y) := by
  obtain ⟨a1, a2, a3⟩ := h
  have els : zls z2 (l + 2) = zls z (l + 2) ++ [.ref (zn z)] := by
    rw [hz2, ls_sladd, zu1_s]
    rfl
  have efi : ∀ q, ¬ q = zn z → zfi z2 q = zfi z q := by
    intro q hq
    rw [hz2, fi_sladd, fi_sfi, fi_sfi, fi_sfi, fi_sfi, fi_sfi, fi_snew]
    funext j
    rw [zu2_n _ _ _ _ hq, zu2_n _ _ _ _ hq, zu2_n _ _ _ _ hq, zu2_n _ _ _ _ hq, zu2_n _ _ _ _ hq, zu1_n _ _ _ hq]
  have ecl : ∀ q, q < zn z → zcls z2 q = zcls z q := by
    intro q hq
    rw [hz2, cls_sladd _ _ _ (by show q < zn z + 1; omega)]
    show zu1 (zcls z) (zn z) 23 q = _
    rw [zu1_n _ _ _ (by omega)]
  have eclN : zcls z2 (zn z) = 23 := by
    rw [hz2, cls_sladd _ _ _ (by show zn z < zn z + 1; omega)]
    show zu1 (zcls z) (zn z) 23 (zn z) = _
    rw [zu1_s]
  have efN : zfi z2 (zn z) 0 = nI b ∧ zfi z2 (zn z) 1 = nI a ∧ zfi z2 (zn z) 2 = nI k ∧ zfi z2 (zn z) 3 = nI u ∧ zfi z2 (zn z) 4 = nI y := by
    rw [hz2, fi_sladd, fi_sfi, fi_sfi, fi_sfi, fi_sfi, fi_sfi]
    refine ⟨?_, ?_, ?_, ?_, ?_⟩
    · rw [zu2_k _ _ _ _ (by omega), zu2_k _ _ _ _ (by omega), zu2_k _ _ _ _ (by omega), zu2_k _ _ _ _ (by omega), zu2_s]
    · rw [zu2_k _ _ _ _ (by omega), zu2_k _ _ _ _ (by omega), zu2_k _ _ _ _ (by omega), zu2_s]
    · rw [zu2_k _ _ _ _ (by omega), zu2_k _ _ _ _ (by omega), zu2_s]
    · rw [zu2_k _ _ _ _ (by omega), zu2_s]
    · rw [zu2_s]
  refine ⟨by rw [els, sComes_7, List.length_append, a1]; rfl, by rw [sComes_7]; omega, fun i hi => ?_⟩
  rw [sComes_7] at hi
  rw [els, getD_app, a1]
  by_cases e : i = v 7
  · subst e
    obtain ⟨f0, f1, f2, f3, f4⟩ := sComes_f (v := v) (b := b) (a := a) (k := k) (u := u) (y := y)
    obtain ⟨g0, g1, g2, g3, g4⟩ := efN
    simp only [Nat.lt_irrefl, if_false, if_true]
    refine ⟨trivial, Or.inr trivial, eclN, fun j hj => ?_⟩
    match j, hj with
    | 0, _ => rw [Nat.add_zero, f0]; exact g0
    | 1, _ => rw [f1]; exact g1
    | 2, _ => rw [f2]; exact g2
    | 3, _ => rw [f3]; exact g3
    | 4, _ => rw [f4]; exact g4
  · have hi2 : i < v 7 := by omega
    obtain ⟨b1, b2, b3, b4⟩ := a3 i hi2
    have hq := hB _ b2
    simp only [hi2, e, if_true, if_false]
    refine ⟨b1, Or.inl b2, by rw [ecl _ hq.2]; exact b3, fun j hj => ?_⟩
    rw [efi _ (by omega), sComes_n (by omega) (by omega)]
    exact b4 j hj
end CD
