set_option maxRecDepth 100000
/-! a slot's put as a method: what it leaves, what it throws -/
section XQ
variable {d : Nat} {z : ZH} {Q : ZQ} {r q : Nat} {i : Int32} {x : Int64}
theorem c_wid50 (h11 : zcls z r = 11) (hq : zfr z r 0 = .ref q) (hc : zcls z q = 50) (hi : zin i (zlen z q) = true) : ZC zP d 1 [.ref r, .int i, .long x] z Q = Q (.inl none) (sia z q (zx i) (znar 50 x.toInt32)) := by
  simp only [ep1, p1_0, p1_1, p1_4, p1_7, p1_9, p1_11, p1_12, p1_13, p1_14, p1_15, p1_20, p1_21, p1_24, p1_27, p1_29, p1_31, p1_32, p1_33, p1_34, p1_18, zcs_0, zcs_1, zcs_2, zcs_3, zcs_4, zcs_5, zcs_6, zcs_7, znl_i, znl_r, znl_n, Bool.and_true, Bool.true_and, zk_v, zk_n, zk_x, zir_r, zir_n, zclr_i, zclr_r, zclr_n, zclr_d, zclr_l, true_and, and_true, and_self, if_true, if_false, reduceIte, h11, hq, hc, hi]
theorem c_wid51 (h11 : zcls z r = 11) (hq : zfr z r 0 = .ref q) (hc : zcls z q = 51) (hi : zin i (zlen z q) = true) : ZC zP d 1 [.ref r, .int i, .long x] z Q = Q (.inl none) (sla (spay z 20 400) q (zx i) x) := by
  have e1 : (51 = 50) = False := eq_false (by decide)
  have e2 : (51 = 51) = True := eq_true rfl
  have e3 : zfr (spay z 20 400) = zfr z := rfl
  have e4 : zcls (spay z 20 400) = zcls z := rfl
  have e5 : zlen (spay z 20 400) = zlen z := rfl
  simp only [ep1, p1_0, p1_1, p1_4, p1_7, p1_9, p1_11, p1_12, p1_13, p1_14, p1_15, p1_20, p1_21, p1_24, p1_27, p1_29, p1_31, p1_32, p1_33, p1_34, p1_18, zcs_0, zcs_1, zcs_2, zcs_3, zcs_4, zcs_5, zcs_6, zcs_7, znl_i, znl_r, znl_n, Bool.and_true, Bool.true_and, zk_v, zk_n, zk_x, zir_r, zir_n, zclr_i, zclr_r, zclr_n, zclr_d, zclr_l, true_and, and_true, and_self, if_true, if_false, reduceIte, h11, hq, hc, hi, e1, e2, e3, e4, e5]
theorem c_put52 (h11 : zcls z r = 11) (hq : zfr z r 0 = .ref q) (hc : zcls z q = 52) (hi : zin i (zlen z q) = true) : ZC zP d 0 [.ref r, .int i, .long x] z Q = Q (.inl none) (sia z q (zx i) (znar 52 x.toInt32.toInt8.toInt32)) := by
  have g1 : (50 ≤ 52) = True := eq_true (by decide)
  have g2 : (52 < 54) = True := eq_true (by decide)
  have e1 : (52 = 52) = True := eq_true rfl
  have e2 : ((1 : Int32) = 0) = False := eq_false (by decide)
  simp only [ep0, p0_0, p0_1, p0_4, p0_4r, p0_7, p0_10, p0_11, p0_14, p0_17, p0_19, p0_21, p0_22, p0_23, p0_24, p0_25, p0_26, p0_29, p0_30, p0_33, p0_33r, p0_36, p0_39, p0_40, p0_43, p0_46, p0_48, p0_50, p0_51, p0_52, p0_53, p0_54, p0_55, p0_58, p0_59, p0_60, p0_61, p0_64, zcs_0, zcs_1, zcs_2, zcs_3, zcs_4, zcs_5, zcs_6, zcs_7, znl_i, znl_r, znl_n, Bool.and_true, Bool.true_and, zk_v, zk_n, zk_x, zir_r, zir_n, zclr_i, zclr_r, zclr_n, zclr_d, zclr_l, true_and, and_true, and_self, if_true, if_false, reduceIte, h11, hq, hc, hi, g1, g2, e1, e2]
theorem c_put53 (h11 : zcls z r = 11) (hq : zfr z r 0 = .ref q) (hc : zcls z q = 53) (hi : zin i (zlen z q) = true) : ZC zP d 0 [.ref r, .int i, .long x] z Q = Q (.inl none) (sia z q (zx i) (znar 53 x.toInt32.toInt16.toInt32)) := by
  have g1 : (50 ≤ 53) = True := eq_true (by decide)
  have g2 : (53 < 54) = True := eq_true (by decide)
  have e1 : (53 = 53) = True := eq_true rfl
  have e3 : (53 = 52) = False := eq_false (by decide)
  have e2 : ((1 : Int32) = 0) = False := eq_false (by decide)
  have e4 : ((0 : Int32) = 0) = True := eq_true rfl
  simp only [ep0, p0_0, p0_1, p0_4, p0_4r, p0_7, p0_10, p0_11, p0_14, p0_17, p0_19, p0_21, p0_22, p0_23, p0_24, p0_25, p0_26, p0_29, p0_30, p0_33, p0_33r, p0_36, p0_39, p0_40, p0_43, p0_46, p0_48, p0_50, p0_51, p0_52, p0_53, p0_54, p0_55, p0_58, p0_59, p0_60, p0_61, p0_64, zcs_0, zcs_1, zcs_2, zcs_3, zcs_4, zcs_5, zcs_6, zcs_7, znl_i, znl_r, znl_n, Bool.and_true, Bool.true_and, zk_v, zk_n, zk_x, zir_r, zir_n, zclr_i, zclr_r, zclr_n, zclr_d, zclr_l, true_and, and_true, and_self, if_true, if_false, reduceIte, h11, hq, hc, hi, g1, g2, e1, e2, e3, e4]
theorem c_put50 (h11 : zcls z r = 11) (hq : zfr z r 0 = .ref q) (hc : zcls z q = 50) (hi : zin i (zlen z q) = true) : ZC zP (d + 1) 0 [.ref r, .int i, .long x] z Q = Q (.inl none) (sia z q (zx i) (znar 50 x.toInt32)) := by
  have g1 : (50 ≤ 50) = True := eq_true (by decide)
  have g2 : (50 < 54) = True := eq_true (by decide)
  have e1 : (50 = 52) = False := eq_false (by decide)
  have e3 : (50 = 53) = False := eq_false (by decide)
  have e4 : ((0 : Int32) = 0) = True := eq_true rfl
  have cw := fun d Q => c_wid50 (d := d) (Q := Q) (x := x) h11 hq hc hi
  simp only [ep0, p0_0, p0_1, p0_4, p0_4r, p0_7, p0_10, p0_11, p0_14, p0_17, p0_19, p0_21, p0_22, p0_23, p0_24, p0_25, p0_26, p0_29, p0_30, p0_33, p0_33r, p0_36, p0_39, p0_40, p0_43, p0_46, p0_48, p0_50, p0_51, p0_52, p0_53, p0_54, p0_55, p0_58, p0_59, p0_60, p0_61, p0_64, zcs_0, zcs_1, zcs_2, zcs_3, zcs_4, zcs_5, zcs_6, zcs_7, znl_i, znl_r, znl_n, Bool.and_true, Bool.true_and, zk_v, zk_n, zk_x, zir_r, zir_n, zclr_i, zclr_r, zclr_n, zclr_d, zclr_l, true_and, and_true, and_self, if_true, if_false, reduceIte, h11, hq, hc, g1, g2, e1, e3, e4, cw, eq_self]
theorem c_put51 (h11 : zcls z r = 11) (hq : zfr z r 0 = .ref q) (hc : zcls z q = 51) (hi : zin i (zlen z q) = true) : ZC zP (d + 1) 0 [.ref r, .int i, .long x] z Q = Q (.inl none) (sla (spay z 20 400) q (zx i) x) := by
  have g1 : (50 ≤ 51) = True := eq_true (by decide)
  have g2 : (51 < 54) = True := eq_true (by decide)
  have e1 : (51 = 52) = False := eq_false (by decide)
  have e3 : (51 = 53) = False := eq_false (by decide)
  have e4 : ((0 : Int32) = 0) = True := eq_true rfl
  have cw := fun d Q => c_wid51 (d := d) (Q := Q) (x := x) h11 hq hc hi
  simp only [ep0, p0_0, p0_1, p0_4, p0_4r, p0_7, p0_10, p0_11, p0_14, p0_17, p0_19, p0_21, p0_22, p0_23, p0_24, p0_25, p0_26, p0_29, p0_30, p0_33, p0_33r, p0_36, p0_39, p0_40, p0_43, p0_46, p0_48, p0_50, p0_51, p0_52, p0_53, p0_54, p0_55, p0_58, p0_59, p0_60, p0_61, p0_64, zcs_0, zcs_1, zcs_2, zcs_3, zcs_4, zcs_5, zcs_6, zcs_7, znl_i, znl_r, znl_n, Bool.and_true, Bool.true_and, zk_v, zk_n, zk_x, zir_r, zir_n, zclr_i, zclr_r, zclr_n, zclr_d, zclr_l, true_and, and_true, and_self, if_true, if_false, reduceIte, h11, hq, hc, g1, g2, e1, e3, e4, cw, eq_self]
theorem h_sia {X : ZX} {ws : va_W} {j a b : Nat} {v : Int32} (h : zHR X ws (sia z q j v)) : zHR X ws (sia (spay z a b) q j v) := h
theorem h_sla0 {X : ZX} {ws : va_W} {j a b : Nat} {v : Int64} (h : zHR X ws (sla (spay z a b) q j v)) : zHR X ws (sla z q j v) := h
theorem h_sla {X : ZX} {ws : va_W} {j a b : Nat} {v : Int64} (h : zHR X ws (sla z q j v)) : zHR X ws (sla (spay z a b) q j v) := h
theorem nar8 (a : Int32) : znar 52 a.toInt8.toInt32 = znar 52 a := by
  show a.toInt8.toInt32.toInt8.toInt32 = a.toInt8.toInt32
  rw [Int8.toInt8_toInt32]
theorem nar16 (a : Int32) : znar 53 a.toInt16.toInt32 = znar 53 a := by
  show a.toInt16.toInt32.toInt16.toInt32 = a.toInt16.toInt32
  rw [Int16.toInt16_toInt32]
/-- put, where nothing is thrown -/
theorem c_put (h11 : zcls z r = 11) (hq : zfr z r 0 = .ref q) (hk : 50 ≤ zcls z q ∧ zcls z q < 54) (hi : zin i (zlen z q) = true) : ∃ y, ZC zP 1 0 [.ref r, .int i, .long x] z (fun o w => o = .inl none ∧ w = y) ∧ (zuc y ≤ zuc z + 40 ∧ zus y ≤ zus z + 800) ∧ ∀ (X : ZX) (ws : va_W), zHR X ws y → zHR X ws (sput (spay z 40 800) q (zx i) x) := by
  have e51 : ¬ zcls z q = 51 → sput (spay z 40 800) q (zx i) x = sia (spay z 40 800) q (zx i) (znar (zcls z q) x.toInt32) := fun h => if_neg h
  rcases (by omega : zcls z q = 52 ∨ zcls z q = 53 ∨ zcls z q = 50 ∨ zcls z q = 51) with h | h | h | h
  · refine ⟨_, Eq.mpr (c_put52 h11 hq h hi) ⟨rfl, rfl⟩, ⟨Nat.le_add_right _ _, Nat.le_add_right _ _⟩, fun X ws g => ?_⟩
    rw [e51 (by omega), h]
    rw [nar8] at g
    exact h_sia g
  · refine ⟨_, Eq.mpr (c_put53 h11 hq h hi) ⟨rfl, rfl⟩, ⟨Nat.le_add_right _ _, Nat.le_add_right _ _⟩, fun X ws g => ?_⟩
    rw [e51 (by omega), h]
    rw [nar16] at g
    exact h_sia g
  · refine ⟨_, Eq.mpr (c_put50 (d := 0) h11 hq h hi) ⟨rfl, rfl⟩, ⟨Nat.le_add_right _ _, Nat.le_add_right _ _⟩, fun X ws g => ?_⟩
    rw [e51 (by omega), h]
    exact h_sia g
  · refine ⟨_, Eq.mpr (c_put51 (d := 0) h11 hq h hi) ⟨rfl, rfl⟩, ⟨?_, ?_⟩, fun X ws g => ?_⟩
    · show zuc z + 20 ≤ zuc z + 40; omega
    · show zus z + 400 ≤ zus z + 800; omega
    · have e9 : sput (spay z 40 800) q (zx i) x = sla (spay z 40 800) q (zx i) x := if_pos h
      rw [e9]
      exact h_sla (h_sla0 g)
/-- putWider called, where it throws -/
theorem x_61 {z' : ZH} {E : String} {ls : List Value} (hM : ∀ l : Launch, l.flags = flags0 → xMet l pI1 27 0 [.ref r, .int i, .long x] z z' E) (h11 : zcls z r = 11) (hc : zuc z ≤ zuc z') (hs : zus z ≤ zus z') : xThr pI0 61 ls [.long x, .int i, .ref r] z 61 z' E := by
  refine ⟨⟨hc, hs⟩, ?_⟩
  intro p l e R s m args below meth c H locs cells slots Q X A w0 ws lsm stm C I hcl hsl k
  have I0 := I
  obtain ⟨hx, hb, hml, hown, hts, hSx, hA, hnm, hfr, hlo, hlk, hfl, -, hR, htab⟩ := C
  have hR := hR rfl
  have hlev : zLev pI0 = 2 := by decide +kernel
  rw [hlev] at hR
  obtain ⟨hR1, hR2⟩ := hR
  obtain ⟨hH, hP, hD, hS, hE, hL, hsr⟩ := I
  obtain ⟨as2, restm, e3, has, hrest⟩ : ∃ as' restm, stm = as'.reverse ++ restm ∧ zSR X ws [.ref r, .int i, .long x] as' ∧ zSR X ws [] restm := zSR_split (as := [.ref r, .int i, .long x]) (rest := []) hsr
  have hMl := hM l hfl X ws H.size as2 hH has (hD.weaken (fun _ _ _ _ => trivial))
  have hMl : vx_Met l yX11_putWider (wsW_ yX11_putWider _ 6 _ (_ :: _)) (zRm 27 0 (zuc z' - zuc z) (zus z' - zus z)) (zPc X ws H.size as2) xNoQ (XCE E X ws H.size z') (zuc z' - zuc z) (zus z' - zus z) (va_A ws H.size) := hMl
  obtain ⟨a, As, rfl, har, hvs⟩ := zSR_r has
  obtain ⟨hr1, e0, he0, hE0⟩ := hH.at (by omega) (by omega) har
  obtain ⟨fs, rfl, hl1, hfs⟩ := zER_obj hE0 h11 (by omega)
  have hFr := zFree hA I0
  have hpc : ∀ U : State, U.heap = H → s.WarmedH U.vm → zPc X ws H.size (.ref a :: As) (Value.ref a :: As).toArray U := fun U hU hW => ⟨rfl, by rw [hU], by rw [hU]; exact hP, hSx.to hW (by rw [hU]; exact hS) hFr⟩
  exact xRun_go (vx_runVX (As := As) (rest := restm) (C := RX11) ⟨hx, hb, hml, hown, hts⟩ hMl (vx_cwVW 2 hts (lw_VW q320 q322 qs3 q125 q323) rfl rfl rfl ⟨rfl, by decide +kernel⟩ (zrm_ok (by omega) (by omega))) ⟨zPc_blind, va_recv hSx.1 hP rfl he0, hpc⟩ rfl (by rw [← hvs.len]; rfl) hL.1.1 (by rw [e3]; simp) (lv_room (zstk_ok hrest rfl)) dX11_put_61 ⟨hcl, hsl⟩) hA I0 (fun H' locs' ws' q ce I' g1 g2 g3 => k H' locs' ws' ls lsm restm q ce I' g1 g2 g3)
theorem pass_w (E : String) (h : (E, "java/lang/ClassCastException") ∈ zNcs) : xPass pI1 14 E := fun y hy => by
  have hy : y = ⟨0, 15, 18, 36⟩ := List.mem_singleton.mp hy
  subst hy
  exact Or.inr ⟨by decide, _, q324, h⟩
theorem pass_w33 (E : String) : xPass pI1 33 E := fun y hy => by
  have hy : y = ⟨0, 15, 18, 36⟩ := List.mem_singleton.mp hy
  subst hy
  exact Or.inl (by decide)
theorem pass_p (pc : Nat) (E : String) : xPass pI0 pc E := fun y hy => nomatch hy
theorem e0_in {inf : ZInf} {pcx : Nat} {z' : ZH} {E : String} (hL : inf.2.2.1 = 5) (h : xThr inf 0 [.ref r, .int i, .long x, zdum, zdum] [] z pcx z' E) : xThr inf 0 (zpad (zent [.ref r, .int i, .long x]) inf.2.2.1) [] z pcx z' E := by
  rw [hL]
  exact h
theorem e1_in {inf : ZInf} {pcx : Nat} {z' : ZH} {E : String} (hL : inf.2.2.1 = 6) (h : xThr inf 0 [.ref r, .int i, .long x, zdum, zdum, zdum] [] z pcx z' E) : xThr inf 0 (zpad (zent [.ref r, .int i, .long x]) inf.2.2.1) [] z pcx z' E := by
  rw [hL]
  exact h
theorem fit5 {inf : ZInf} (hL : 5 ≤ inf.2.2.1) : (zent [.ref r, .int i, .long x]).length ≤ inf.2.2.1 := Nat.le_trans (show 4 ≤ 5 by decide) hL
theorem pay1 : zuc z ≤ zuc (spay z 40 800) := Nat.le_add_right _ _
theorem pay2 : zus z ≤ zus (spay z 40 800) := Nat.le_add_right _ _
/-- put throws: out of bounds -/
theorem put_out (h11 : zcls z r = 11) (hq : zfr z r 0 = .ref q) (hk : 50 ≤ zcls z q ∧ zcls z q < 54) (hno : ¬ zin i (zlen z q) = true) (hl : zlen z q ≤ 1000) (l : Launch) (hfl : l.flags = flags0) : xMet l pI0 29 0 [.ref r, .int i, .long x] z (spay z 40 800) "java/lang/ArrayIndexOutOfBoundsException" := by
  have k1 : zuc z + 20 ≤ zuc z + 40 := by omega
  have k2 : zus z + 400 ≤ zus z + 800 := by omega
  have fin : ∀ {pcx : Nat}, xThr pI0 0 [.ref r, .int i, .long x, zdum, zdum] [] z pcx (spay z 40 800) "java/lang/ArrayIndexOutOfBoundsException" → xMet l pI0 29 0 [.ref r, .int i, .long x] z (spay z 40 800) "java/lang/ArrayIndexOutOfBoundsException" := fun h => xEnter hfl (by decide +kernel) (by decide +kernel) (by decide +kernel) (fit5 (by decide)) (e0_in rfl h) (pass_p _ _)
  have nc : ("java/lang/ArrayIndexOutOfBoundsException", "java/lang/ClassCastException") ∈ zNcs := by decide +kernel
  rcases (by omega : zcls z q = 52 ∨ zcls z q = 53 ∨ zcls z q = 50 ∨ zcls z q = 51) with h | h | h | h
  · obtain ⟨b, g⟩ := g_b (i := i) (x := x) h11 hq h
    exact fin (((x_ast52 dX11_put_25 (by decide +kernel) h hno hl).go' g).more k1 k2 (fun _ _ h => zHR_pay (zHR_unpay h)))
  · obtain ⟨b, g⟩ := g_s (i := i) (x := x) h11 hq h
    exact fin (((x_ast53 dX11_put_54 (by decide +kernel) h hno hl).go' g).more k1 k2 (fun _ _ h => zHR_pay (zHR_unpay h)))
  · exact fin ((x_61 (fun l hl9 => xEnter hl9 (by decide +kernel) (by decide +kernel) (by decide +kernel) (fit5 (by decide)) (e1_in rfl (w_i h11 hq h hno hl)) (pass_w _ nc)) h11 pay1 pay2).go' (g_w h11 hq (by omega)))
  · exact fin ((x_61 (fun l hl9 => xEnter hl9 (by decide +kernel) (by decide +kernel) (by decide +kernel) (fit5 (by decide)) (e1_in rfl (w_l h11 hq h hno hl)) (pass_w33 _)) h11 pay1 pay2).go' (g_w h11 hq (by omega)))
/-- put throws: nothing is held -/
theorem put_null (h11 : zcls z r = 11) (hq : zfr z r 0 = .null) (l : Launch) (hfl : l.flags = flags0) : xMet l pI0 29 0 [.ref r, .int i, .long x] z (spay z 40 800) "java/lang/NullPointerException" := by
  have nc : ("java/lang/NullPointerException", "java/lang/ClassCastException") ∈ zNcs := by decide +kernel
  exact xEnter hfl (by decide +kernel) (by decide +kernel) (by decide +kernel) (fit5 (by decide)) (e0_in rfl ((x_61 (fun l hl9 => xEnter hl9 (by decide +kernel) (by decide +kernel) (by decide +kernel) (fit5 (by decide)) (e1_in rfl (w_n h11 hq)) (pass_w _ nc)) h11 pay1 pay2).go' (g_n h11 hq))) (pass_p _ _)
end XQ

