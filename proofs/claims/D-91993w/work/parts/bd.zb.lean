set_option maxRecDepth 100000
/-! a slot's put: what it does, what it throws; the call of it in puts -/
section XP
variable {z : ZH} {r q p : Nat} {i : Int32} {x : Int64} {ls st : List Value}
theorem f_getR (h11 : zcls z r = 11) (hq : zfr z r 0 = .ref q) : z_getR 11 0 p ls (.ref r :: st) z = some (p, ls, .ref q :: st, z) := by
  show (if zcls z r = 11 ∧ zir (zfr z r 0) = true then some (p, ls, zfr z r 0 :: st, z) else none) = _
  rw [hq, if_pos ⟨h11, rfl⟩]
theorem f_getN (h11 : zcls z r = 11) (hq : zfr z r 0 = .null) : z_getR 11 0 p ls (.ref r :: st) z = some (p, ls, .null :: st, z) := by
  show (if zcls z r = 11 ∧ zir (zfr z r 0) = true then some (p, ls, zfr z r 0 :: st, z) else none) = _
  rw [hq, if_pos ⟨h11, rfl⟩]
theorem f_inst1 {t : Nat} (h : zcls z q = t) (ht : 50 ≤ t ∧ t < 54) : z_inst t p ls (.ref q :: st) z = some (p, ls, .int 1 :: st, z) := by
  show (if 50 ≤ zcls z q ∧ zcls z q < 54 then some (p, ls, .int (if zcls z q = t then 1 else 0) :: st, z) else none) = _
  rw [if_pos (by omega), if_pos h]
theorem f_inst0 {t : Nat} (h : ¬ zcls z q = t) (hk : 50 ≤ zcls z q ∧ zcls z q < 54) : z_inst t p ls (.ref q :: st) z = some (p, ls, .int 0 :: st, z) := by
  show (if 50 ≤ zcls z q ∧ zcls z q < 54 then some (p, ls, .int (if zcls z q = t then 1 else 0) :: st, z) else none) = _
  rw [if_pos hk, if_neg h]
theorem f_cast {t : Nat} (h : zcls z q = t) : z_cast t p ls (.ref q :: st) z = some (p, ls, .ref q :: st, z) := if_pos h
theorem f_if1 {t : Nat} : z_ifeq t p ls (.int 1 :: st) z = some (p, ls, st, z) := by
  show (if (1 : Int32) = 0 then some (t, ls, st, z) else some (p, ls, st, z)) = _
  rw [if_neg (by decide)]
theorem f_if0 {t : Nat} : z_ifeq t p ls (.int 0 :: st) z = some (t, ls, st, z) := by
  show (if (0 : Int32) = 0 then some (t, ls, st, z) else some (p, ls, st, z)) = _
  rw [if_pos rfl]
theorem zHR_pay {X : ZX} {ws : va_W} {a b : Nat} (h : zHR X ws z) : zHR X ws (spay z a b) := h
theorem zHR_unpay {X : ZX} {ws : va_W} {a b : Nat} (h : zHR X ws (spay z a b)) : zHR X ws z := h
theorem f_cst1 {h : Nat} (hz : zcs st = true) (hc : zcls z q = 50) : z_cstX h p ls (.ref q :: st) z = some (p, ls, .ref q :: st, z) := (if_pos hz).trans (if_pos hc)
theorem f_cst2 {h : Nat} (hz : zcs st = true) (hc : zcls z q = 51) : z_cstX h p ls (.ref q :: st) z = some (h, ls, [.float 0], spay z 20 400) := (if_pos hz).trans ((if_neg (by omega)).trans (if_pos hc))
theorem xThr.more {inf : ZInf} {pc pcx : Nat} {z1 z2 : ZH} {E : String} (h : xThr inf pc ls st z pcx z1 E) (hc : zuc z1 ≤ zuc z2) (hs : zus z1 ≤ zus z2) (he : ∀ (X : ZX) (ws : va_W), zHR X ws z1 → zHR X ws z2) : xThr inf pc ls st z pcx z2 E := by
  obtain ⟨⟨a1, a2⟩, k1⟩ := h
  refine ⟨⟨Nat.le_trans a1 hc, Nat.le_trans a2 hs⟩, ?_⟩
  intro p l e R s m args below meth c H locs cells slots Q X A w0 ws lsm stm C I h1 h2 k
  exact k1 p l e R s m args below meth c H locs cells slots Q X A w0 ws lsm stm C I (by omega) (by omega) (fun H' locs' ws' ls' lsm' restm' q ce I' g1 g2 g3 => vx_widen (by omega) (by omega) (k H' locs' ws' ls' lsm' restm' q ce ⟨he _ _ I'.1, I'.2⟩ g1 g2 g3))
-- runs of put up to the place where it may end
theorem g_b (h11 : zcls z r = 11) (hq : zfr z r 0 = .ref q) (hc : zcls z q = 52) : ∃ b : Int32, zGo pI0 0 [.ref r, .int i, .long x, zdum, zdum] [] z 25 [.ref r, .int i, .long x, zdum, .ref q] [.int b, .int i, .ref q] z :=
  ⟨_, (zGo.s po0_0 rfl).tr <| (zGo.s po0_1 (f_getR h11 hq)).tr <| (zGo.s po0_4 (f_inst1 hc (by decide))).tr <| (zGo.s po0_7 f_if1).tr <| (zGo.s po0_10 rfl).tr <| (zGo.s po0_11 (f_getR h11 hq)).tr <| (zGo.s po0_14 (f_cast hc)).tr <| (zGo.s po0_17 rfl).tr <| (zGo.s po0_19 rfl).tr <| (zGo.s po0_21 rfl).tr <| (zGo.s po0_22 rfl).tr <| (zGo.s po0_23 rfl).tr (zGo.s po0_24 rfl)⟩
theorem g_29 (h11 : zcls z r = 11) (hq : zfr z r 0 = .ref q) (hk : 50 ≤ zcls z q ∧ zcls z q < 54) (h52 : ¬ zcls z q = 52) : zGo pI0 0 [.ref r, .int i, .long x, zdum, zdum] [] z 33 [.ref r, .int i, .long x, zdum, zdum] [.ref q] z :=
  (zGo.s po0_0 rfl).tr <| (zGo.s po0_1 (f_getR h11 hq)).tr <| (zGo.s po0_4 (f_inst0 h52 hk)).tr <| (zGo.s po0_7 f_if0).tr <| (zGo.s po0_29 rfl).tr (zGo.s po0_30 (f_getR h11 hq))
theorem g_s (h11 : zcls z r = 11) (hq : zfr z r 0 = .ref q) (hc : zcls z q = 53) : ∃ b : Int32, zGo pI0 0 [.ref r, .int i, .long x, zdum, zdum] [] z 54 [.ref r, .int i, .long x, zdum, .ref q] [.int b, .int i, .ref q] z :=
  ⟨_, (g_29 h11 hq (by omega) (by omega)).tr <| (zGo.s po0_33 (f_inst1 hc (by decide))).tr <| (zGo.s po0_36 f_if1).tr <| (zGo.s po0_39 rfl).tr <| (zGo.s po0_40 (f_getR h11 hq)).tr <| (zGo.s po0_43 (f_cast hc)).tr <| (zGo.s po0_46 rfl).tr <| (zGo.s po0_48 rfl).tr <| (zGo.s po0_50 rfl).tr <| (zGo.s po0_51 rfl).tr <| (zGo.s po0_52 rfl).tr (zGo.s po0_53 rfl)⟩
theorem g_w (h11 : zcls z r = 11) (hq : zfr z r 0 = .ref q) (hk : 50 ≤ zcls z q ∧ zcls z q < 52) : zGo pI0 0 [.ref r, .int i, .long x, zdum, zdum] [] z 61 [.ref r, .int i, .long x, zdum, zdum] [.long x, .int i, .ref r] z :=
  (g_29 h11 hq (by omega) (by omega)).tr <| (zGo.s po0_33 (f_inst0 (by omega) (by omega))).tr <| (zGo.s po0_36 f_if0).tr <| (zGo.s po0_58 rfl).tr <| (zGo.s po0_59 rfl).tr (zGo.s po0_60 rfl)
theorem g_n (h11 : zcls z r = 11) (hq : zfr z r 0 = .null) : zGo pI0 0 [.ref r, .int i, .long x, zdum, zdum] [] z 61 [.ref r, .int i, .long x, zdum, zdum] [.long x, .int i, .ref r] z :=
  (zGo.s po0_0 rfl).tr <| (zGo.s po0_1 (f_getN h11 hq)).tr <| (zGo.s po0_4 rfl).tr <| (zGo.s po0_7 f_if0).tr <| (zGo.s po0_29 rfl).tr <| (zGo.s po0_30 (f_getN h11 hq)).tr <| (zGo.s po0_33 rfl).tr <| (zGo.s po0_36 f_if0).tr <| (zGo.s po0_58 rfl).tr <| (zGo.s po0_59 rfl).tr (zGo.s po0_60 rfl)
theorem g_wi (h11 : zcls z r = 11) (hq : zfr z r 0 = .ref q) (hc : zcls z q = 50) : ∃ (b : Int32) (ls' : List Value), zGo pI1 0 [.ref r, .int i, .long x, zdum, zdum, zdum] [] z 14 ls' [.int b, .int i, .ref q] z :=
  ⟨_, _, (zGo.s po1_0 rfl).tr <| (zGo.s po1_1 (f_getR h11 hq)).tr <| (zGo.s po1_4 (f_cst1 rfl hc)).tr <| (zGo.s po1_7 rfl).tr <| (zGo.s po1_9 rfl).tr <| (zGo.s po1_11 rfl).tr <| (zGo.s po1_12 rfl).tr (zGo.s po1_13 rfl)⟩
theorem g_wn (h11 : zcls z r = 11) (hq : zfr z r 0 = .null) : ∃ (b : Int32) (ls' : List Value), zGo pI1 0 [.ref r, .int i, .long x, zdum, zdum, zdum] [] z 14 ls' [.int b, .int i, .null] z :=
  ⟨_, _, (zGo.s po1_0 rfl).tr <| (zGo.s po1_1 (f_getN h11 hq)).tr <| (zGo.s po1_4 rfl).tr <| (zGo.s po1_7 rfl).tr <| (zGo.s po1_9 rfl).tr <| (zGo.s po1_11 rfl).tr <| (zGo.s po1_12 rfl).tr (zGo.s po1_13 rfl)⟩
theorem g_wl (h11 : zcls z r = 11) (hq : zfr z r 0 = .ref q) (hc : zcls z q = 51) : ∃ ls' : List Value, zGo pI1 0 [.ref r, .int i, .long x, zdum, zdum, zdum] [] z 33 ls' [.long x, .int i, .ref q] (spay z 20 400) :=
  ⟨_, (zGo.s po1_0 rfl).tr <| (zGo.s po1_1 (f_getR h11 hq)).tr <| (zGo.s po1_4 (f_cst2 rfl hc)).tr <| (zGo.s po1_18 rfl).tr <| (zGo.s po1_20 rfl).tr <| (zGo.s po1_21 (f_getR (z := spay z 20 400) h11 hq)).tr <| (zGo.s po1_24 (f_cast (z := spay z 20 400) hc)).tr <| (zGo.s po1_27 rfl).tr <| (zGo.s po1_29 rfl).tr <| (zGo.s po1_31 rfl).tr (zGo.s po1_32 rfl)⟩
-- putWider throws
theorem w_i (h11 : zcls z r = 11) (hq : zfr z r 0 = .ref q) (hc : zcls z q = 50) (hno : ¬ zin i (zlen z q) = true) (hl : zlen z q ≤ 1000) : xThr pI1 0 [.ref r, .int i, .long x, zdum, zdum, zdum] [] z 14 (spay z 40 800) "java/lang/ArrayIndexOutOfBoundsException" := by
  obtain ⟨b, ls', g⟩ := g_wi (i := i) (x := x) h11 hq hc
  exact ((x_ast50 dX11_putWider_14 rfl hc hno hl).go' g).more (by show zuc z + 20 ≤ zuc z + 40; omega) (by show zus z + 400 ≤ zus z + 800; omega) (fun _ _ h => zHR_pay (zHR_unpay h))
theorem w_n (h11 : zcls z r = 11) (hq : zfr z r 0 = .null) : xThr pI1 0 [.ref r, .int i, .long x, zdum, zdum, zdum] [] z 14 (spay z 40 800) "java/lang/NullPointerException" := by
  obtain ⟨b, ls', g⟩ := g_wn (i := i) (x := x) h11 hq
  exact ((x_astN dX11_putWider_14 rfl).go' g).more (by show zuc z + 20 ≤ zuc z + 40; omega) (by show zus z + 400 ≤ zus z + 800; omega) (fun _ _ h => zHR_pay (zHR_unpay h))
theorem w_l (h11 : zcls z r = 11) (hq : zfr z r 0 = .ref q) (hc : zcls z q = 51) (hno : ¬ zin i (zlen z q) = true) (hl : zlen z q ≤ 1000) : xThr pI1 0 [.ref r, .int i, .long x, zdum, zdum, zdum] [] z 33 (spay z 40 800) "java/lang/ArrayIndexOutOfBoundsException" := by
  obtain ⟨ls', g⟩ := g_wl (i := i) (x := x) h11 hq hc
  exact ((x_ast51 (z := spay z 20 400) dX11_putWider_33 rfl hc hno hl).go' g).more (by show zuc z + 20 + 20 ≤ zuc z + 40; omega) (by show zus z + 400 + 400 ≤ zus z + 800; omega) (fun _ _ h => zHR_pay (zHR_unpay (zHR_unpay h)))
end XP
