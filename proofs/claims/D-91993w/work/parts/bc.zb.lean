set_option maxRecDepth 100000
/-! put and putWider where the machine throws: runs up to a fault, methods that throw -/
section XG
/-- from one place to another, without a call -/
def zGo (inf : ZInf) (pc : Nat) (ls st : List Value) (z : ZH) (p' : Nat) (ls' st' : List Value) (z' : ZH) : Prop := (zuc z ≤ zuc z' ∧ zus z ≤ zus z') ∧
    ∀ (p : Program) (l : Launch) (e : Env) (R : Room) (s : State) (m : MethodId) (args : Array Value) (below : List Frame) (meth : Method) (c : Code) (H : Heap) (locs : List Loc) (cells slots : Nat) (Q : State → Prop) (X : ZX) (A : Nat → Prop) (w0 ws : va_W) (lsm : Array Slot) (stm : List Value),
      zCtx X A p l s m args meth c R inf → zInv X A s inf.2.2.1 w0 H locs ws z ls st lsm stm → cells + (zuc z' - zuc z) ≤ R.cells → slots + (zus z' - zus z) ≤ R.slots →
      (∀ (H' : Heap) (locs' : List Loc) (ws' : va_W) (lsm' : Array Slot) (stm' : List Value), zInv X A s inf.2.2.1 w0 H' locs' ws' z' ls' st' lsm' stm' → W p l e R s m args below meth c H' locs' (cells + (zuc z' - zuc z)) (slots + (zus z' - zus z)) Q (F0 m p' lsm' stm')) →
      W p l e R s m args below meth c H locs cells slots Q (F0 m pc lsm stm)
variable {inf : ZInf} {pc p1 p2 : Nat} {ls st ls1 st1 ls2 st2 : List Value} {z z1 z2 : ZH}
theorem zGo.s {zI : Nat → ZInf} {hdl : Option Nat} {f : ZF} (h : zSiteOK zI inf hdl pc (.inl f)) (hf : f ls st z = some (p1, ls1, st1, z1)) : zGo inf pc ls st z p1 ls1 st1 z1 := by
  have h : zOK inf pc f := h
  exact h ls st z p1 ls1 st1 z1 hf
theorem zGo.tr (h1 : zGo inf pc ls st z p1 ls1 st1 z1) (h2 : zGo inf p1 ls1 st1 z1 p2 ls2 st2 z2) : zGo inf pc ls st z p2 ls2 st2 z2 := by
  obtain ⟨⟨a1, a2⟩, k1⟩ := h1
  obtain ⟨⟨b1, b2⟩, k2⟩ := h2
  refine ⟨⟨Nat.le_trans a1 b1, Nat.le_trans a2 b2⟩, ?_⟩
  intro p l e R s m args below meth c H locs cells slots Q X A w0 ws lsm stm C I hc hs k
  refine k1 p l e R s m args below meth c H locs cells slots Q X A w0 ws lsm stm C I (by omega) (by omega) (fun H' locs' ws' lsm' stm' I' => ?_)
  refine k2 p l e R s m args below meth c H' locs' _ _ Q X A w0 ws' lsm' stm' C I' (by omega) (by omega) (fun H2 locs2 ws2 lsm2 stm2 I2 => ?_)
  have e1 : cells + (zuc z1 - zuc z) + (zuc z2 - zuc z1) = cells + (zuc z2 - zuc z) := by omega
  have e2 : slots + (zus z1 - zus z) + (zus z2 - zus z1) = slots + (zus z2 - zus z) := by omega
  rw [e1, e2]
  exact k H2 locs2 ws2 lsm2 stm2 I2
/-- the machine throws E, at pcx -/
def xThr (inf : ZInf) (pc : Nat) (ls st : List Value) (z : ZH) (pcx : Nat) (z' : ZH) (E : String) : Prop := (zuc z ≤ zuc z' ∧ zus z ≤ zus z') ∧
    ∀ (p : Program) (l : Launch) (e : Env) (R : Room) (s : State) (m : MethodId) (args : Array Value) (below : List Frame) (meth : Method) (c : Code) (H : Heap) (locs : List Loc) (cells slots : Nat) (Q : State → Prop) (X : ZX) (A : Nat → Prop) (w0 ws : va_W) (lsm : Array Slot) (stm : List Value),
      zCtx X A p l s m args meth c R inf → zInv X A s inf.2.2.1 w0 H locs ws z ls st lsm stm → cells + (zuc z' - zuc z) ≤ R.cells → slots + (zus z' - zus z) ≤ R.slots →
      (∀ (H' : Heap) (locs' : List Loc) (ws' : va_W) (ls' : List Value) (lsm' : Array Slot) (restm' : List Value) (q : Addr) (ce : Cell), zInv X A s inf.2.2.1 w0 H' locs' ws' z' ls' [.float 0] lsm' [.ref q] → H'[q]? = some ce → ce.vm = .none → s.vm.findClass E = some ce.cls → vx_W p l e R s m args below meth c H' locs' (cells + (zuc z' - zuc z)) (slots + (zus z' - zus z)) Q (F0 m pcx lsm' restm') q) →
      W p l e R s m args below meth c H locs cells slots Q (F0 m pc lsm stm)
theorem xThr.go {pcx : Nat} {E : String} (h2 : xThr inf p1 ls1 st1 z1 pcx z2 E) (h1 : zGo inf pc ls st z p1 ls1 st1 z1) : xThr inf pc ls st z pcx z2 E := by
  obtain ⟨⟨a1, a2⟩, k1⟩ := h1
  obtain ⟨⟨b1, b2⟩, k2⟩ := h2
  refine ⟨⟨Nat.le_trans a1 b1, Nat.le_trans a2 b2⟩, ?_⟩
  intro p l e R s m args below meth c H locs cells slots Q X A w0 ws lsm stm C I hc hs k
  refine k1 p l e R s m args below meth c H locs cells slots Q X A w0 ws lsm stm C I (by omega) (by omega) (fun H' locs' ws' lsm' stm' I' => ?_)
  refine k2 p l e R s m args below meth c H' locs' _ _ Q X A w0 ws' lsm' stm' C I' (by omega) (by omega) (fun H2 locs2 ws2 ls2 lsm2 stm2 q ce I2 g1 g2 g3 => ?_)
  have e1 : cells + (zuc z1 - zuc z) + (zuc z2 - zuc z1) = cells + (zuc z2 - zuc z) := by omega
  have e2 : slots + (zus z1 - zus z) + (zus z2 - zus z1) = slots + (zus z2 - zus z) := by omega
  rw [e1, e2]
  exact k H2 locs2 ws2 ls2 lsm2 stm2 q ce I2 g1 g2 g3
theorem xThr.go' {pcx : Nat} {E : String} (h2 : xThr inf p1 ls1 st1 z1 pcx z2 E) (h1 : zGo inf pc ls st z p1 ls1 st1 z1) : xThr inf pc ls st z pcx z2 E := h2.go h1
theorem not_vp {i : Int32} {n : Nat} (h : ¬ zin i n = true) : ¬ vp_in i n := fun h9 => h (by
  unfold zin
  rw [Bool.and_eq_true]
  unfold vp_in at h9
  refine ⟨?_, ?_⟩
  · simpa using fun q => h9 (Or.inl q)
  · exact decide_eq_true (by
      rcases Nat.lt_or_ge i.toNatClampNeg n with q | q
      · exact q
      · exact absurd (Or.inr q) h9))
end XG
section XF
variable {inf : ZInf} {pc : Nat} {ls : List Value} {z : ZH}
theorem x_ast52 {b : Int32} {i : Int32} {q : Nat} (hd : decode inf.1 pc = .ok (.bastore, 1)) (hsl : zSlot inf = true) (hc : zcls z q = 52) (hno : ¬ zin i (zlen z q) = true) (hl : zlen z q ≤ 1000) : xThr inf pc ls [.int b, .int i, .ref q] z pc (spay z 20 400) "java/lang/ArrayIndexOutOfBoundsException" := by
  refine ⟨⟨Nat.le_add_right _ _, Nat.le_add_right _ _⟩, ?_⟩
  intro p l e R s m args below meth c H locs cells slots Q X A w0 ws lsm stm C I hcl hsl2 k
  have u1 : zuc (spay z 20 400) - zuc z = 20 := Nat.add_sub_cancel_left _ _
  have u2 : zus (spay z 20 400) - zus z = 400 := Nat.add_sub_cancel_left _ _
  rw [u1] at hcl k
  rw [u2] at hsl2 k
  have C0 := C
  have I0 := I
  obtain ⟨hx9, hb, hml, hown, hts, hSx, hA, hnm, hfr, hlo, hlk, hfl, -, hR, htab⟩ := C
  obtain ⟨hH, hP, hD, hS, hE, hL, hs⟩ := I
  obtain ⟨v1, rfl, hs1⟩ := zSR_i hs
  obtain ⟨v2, rfl, hs2⟩ := zSR_i hs1
  obtain ⟨a0, v3, rfl, ha0, hs3⟩ := zSR_r hs2
  obtain ⟨hr1, e0, he0, hE0⟩ := hH.at (by omega) (by omega) ha0
  rw [zER_int hc (by omega) (by omega) (by omega)] at hE0
  subst hE0
  refine vx_bastZ hx9 hb hSx.1 hP (q - 100) 2 he0 rfl (not_vp hno) hd (fun tx htx => ?_)
  have hcat := zstk_ok hs3 (rfl : zcs [] = true)
  refine xNoteM (nb := 212) xM_out C0 (xroom (hR hsl)) I0 (by omega) (by rw [htx]; exact index_text_modelled i _) (by rw [htx]; exact index_text_bytes i (by omega)) (by omega) (by omega) (by omega) (fun H1 q9 ce I1 h1 h2 h3 => ?_)
  exact vx_widen (k := cells + 20) (n := slots + 400) (by omega) (by omega) (k H1 locs ws ls lsm _ q9 ce I1 h1 h2 h3)
theorem x_ast53 {b : Int32} {i : Int32} {q : Nat} (hd : decode inf.1 pc = .ok (.sastore, 1)) (hsl : zSlot inf = true) (hc : zcls z q = 53) (hno : ¬ zin i (zlen z q) = true) (hl : zlen z q ≤ 1000) : xThr inf pc ls [.int b, .int i, .ref q] z pc (spay z 20 400) "java/lang/ArrayIndexOutOfBoundsException" := by
  refine ⟨⟨Nat.le_add_right _ _, Nat.le_add_right _ _⟩, ?_⟩
  intro p l e R s m args below meth c H locs cells slots Q X A w0 ws lsm stm C I hcl hsl2 k
  have u1 : zuc (spay z 20 400) - zuc z = 20 := Nat.add_sub_cancel_left _ _
  have u2 : zus (spay z 20 400) - zus z = 400 := Nat.add_sub_cancel_left _ _
  rw [u1] at hcl k
  rw [u2] at hsl2 k
  have C0 := C
  have I0 := I
  obtain ⟨hx9, hb, hml, hown, hts, hSx, hA, hnm, hfr, hlo, hlk, hfl, -, hR, htab⟩ := C
  obtain ⟨hH, hP, hD, hS, hE, hL, hs⟩ := I
  obtain ⟨v1, rfl, hs1⟩ := zSR_i hs
  obtain ⟨v2, rfl, hs2⟩ := zSR_i hs1
  obtain ⟨a0, v3, rfl, ha0, hs3⟩ := zSR_r hs2
  obtain ⟨hr1, e0, he0, hE0⟩ := hH.at (by omega) (by omega) ha0
  rw [zER_int hc (by omega) (by omega) (by omega)] at hE0
  subst hE0
  refine vx_sastZ hx9 hb hSx.1 hP (q - 100) 3 he0 rfl (not_vp hno) hd (fun tx htx => ?_)
  have hcat := zstk_ok hs3 (rfl : zcs [] = true)
  refine xNoteM (nb := 212) xM_out C0 (xroom (hR hsl)) I0 (by omega) (by rw [htx]; exact index_text_modelled i _) (by rw [htx]; exact index_text_bytes i (by omega)) (by omega) (by omega) (by omega) (fun H1 q9 ce I1 h1 h2 h3 => ?_)
  exact vx_widen (k := cells + 20) (n := slots + 400) (by omega) (by omega) (k H1 locs ws ls lsm _ q9 ce I1 h1 h2 h3)
theorem x_ast50 {b : Int32} {i : Int32} {q : Nat} (hd : decode inf.1 pc = .ok (.iastore, 1)) (hsl : zSlot inf = true) (hc : zcls z q = 50) (hno : ¬ zin i (zlen z q) = true) (hl : zlen z q ≤ 1000) : xThr inf pc ls [.int b, .int i, .ref q] z pc (spay z 20 400) "java/lang/ArrayIndexOutOfBoundsException" := by
  refine ⟨⟨Nat.le_add_right _ _, Nat.le_add_right _ _⟩, ?_⟩
  intro p l e R s m args below meth c H locs cells slots Q X A w0 ws lsm stm C I hcl hsl2 k
  have u1 : zuc (spay z 20 400) - zuc z = 20 := Nat.add_sub_cancel_left _ _
  have u2 : zus (spay z 20 400) - zus z = 400 := Nat.add_sub_cancel_left _ _
  rw [u1] at hcl k
  rw [u2] at hsl2 k
  have C0 := C
  have I0 := I
  obtain ⟨hx9, hb, hml, hown, hts, hSx, hA, hnm, hfr, hlo, hlk, hfl, -, hR, htab⟩ := C
  obtain ⟨hH, hP, hD, hS, hE, hL, hs⟩ := I
  obtain ⟨v1, rfl, hs1⟩ := zSR_i hs
  obtain ⟨v2, rfl, hs2⟩ := zSR_i hs1
  obtain ⟨a0, v3, rfl, ha0, hs3⟩ := zSR_r hs2
  obtain ⟨hr1, e0, he0, hE0⟩ := hH.at (by omega) (by omega) ha0
  rw [zER_int hc (by omega) (by omega) (by omega)] at hE0
  subst hE0
  refine vx_iastZ hx9 hb hSx.1 hP (q - 100) 0 he0 rfl (not_vp hno) hd (fun tx htx => ?_)
  have hcat := zstk_ok hs3 (rfl : zcs [] = true)
  refine xNoteM (nb := 212) xM_out C0 (xroom (hR hsl)) I0 (by omega) (by rw [htx]; exact index_text_modelled i _) (by rw [htx]; exact index_text_bytes i (by omega)) (by omega) (by omega) (by omega) (fun H1 q9 ce I1 h1 h2 h3 => ?_)
  exact vx_widen (k := cells + 20) (n := slots + 400) (by omega) (by omega) (k H1 locs ws ls lsm _ q9 ce I1 h1 h2 h3)
theorem x_ast51 {b : Int64} {i : Int32} {q : Nat} (hd : decode inf.1 pc = .ok (.lastore, 1)) (hsl : zSlot inf = true) (hc : zcls z q = 51) (hno : ¬ zin i (zlen z q) = true) (hl : zlen z q ≤ 1000) : xThr inf pc ls [.long b, .int i, .ref q] z pc (spay z 20 400) "java/lang/ArrayIndexOutOfBoundsException" := by
  refine ⟨⟨Nat.le_add_right _ _, Nat.le_add_right _ _⟩, ?_⟩
  intro p l e R s m args below meth c H locs cells slots Q X A w0 ws lsm stm C I hcl hsl2 k
  have u1 : zuc (spay z 20 400) - zuc z = 20 := Nat.add_sub_cancel_left _ _
  have u2 : zus (spay z 20 400) - zus z = 400 := Nat.add_sub_cancel_left _ _
  rw [u1] at hcl k
  rw [u2] at hsl2 k
  have C0 := C
  have I0 := I
  obtain ⟨hx9, hb, hml, hown, hts, hSx, hA, hnm, hfr, hlo, hlk, hfl, -, hR, htab⟩ := C
  obtain ⟨hH, hP, hD, hS, hE, hL, hs⟩ := I
  obtain ⟨v1, rfl, hs1⟩ := zSR_l hs
  obtain ⟨v2, rfl, hs2⟩ := zSR_i hs1
  obtain ⟨a0, v3, rfl, ha0, hs3⟩ := zSR_r hs2
  obtain ⟨hr1, e0, he0, hE0⟩ := hH.at (by omega) (by omega) ha0
  rw [zER_long hc] at hE0
  subst hE0
  refine vx_lastZ hx9 hb hSx.1 hP (q - 100) 1 he0 rfl (not_vp hno) hd (fun tx htx => ?_)
  have hcat := zstk_ok hs3 (rfl : zcs [] = true)
  refine xNoteM (nb := 212) xM_out C0 (xroom (hR hsl)) I0 (by omega) (by rw [htx]; exact index_text_modelled i _) (by rw [htx]; exact index_text_bytes i (by omega)) (by omega) (by omega) (by omega) (fun H1 q9 ce I1 h1 h2 h3 => ?_)
  exact vx_widen (k := cells + 20) (n := slots + 400) (by omega) (by omega) (k H1 locs ws ls lsm _ q9 ce I1 h1 h2 h3)
theorem x_astN {b i : Int32} (hd : decode inf.1 pc = .ok (.iastore, 1)) (hsl : zSlot inf = true) : xThr inf pc ls [.int b, .int i, .null] z pc (spay z 20 400) "java/lang/NullPointerException" := by
  refine ⟨⟨Nat.le_add_right _ _, Nat.le_add_right _ _⟩, ?_⟩
  intro p l e R s m args below meth c H locs cells slots Q X A w0 ws lsm stm C I hcl hsl2 k
  have u1 : zuc (spay z 20 400) - zuc z = 20 := Nat.add_sub_cancel_left _ _
  have u2 : zus (spay z 20 400) - zus z = 400 := Nat.add_sub_cancel_left _ _
  rw [u1] at hcl k
  rw [u2] at hsl2 k
  have C0 := C
  have I0 := I
  obtain ⟨hx9, hb, hml, hown, hts, hSx, hA, hnm, hfr, hlo, hlk, hfl, -, hR, htab⟩ := C
  obtain ⟨hH, hP, hD, hS, hE, hL, hs⟩ := I
  obtain ⟨v1, rfl, hs1⟩ := zSR_i hs
  obtain ⟨v2, rfl, hs2⟩ := zSR_i hs1
  obtain ⟨w3, v3, rfl, hw3, hs3⟩ := zSR_v hs2
  have hw3 : w3 = .null := hw3
  subst hw3
  have hcat := zstk_ok hs3 (rfl : zcs [] = true)
  refine vx_iastoreN hx9 hb hd (xNoteN C0 (xroom (hR hsl)) I0 (by omega) (by omega) (by omega) (fun H1 q9 ce I1 h1 h2 h3 => ?_))
  exact vx_widen (k := cells + 20) (n := slots + 400) (by omega) (by omega) (k H1 locs ws ls lsm _ q9 ce I1 h1 h2 h3)
end XF
section XE
/-- a method threw E, the world is z' -/
def XCE (E : String) (X : ZX) (ws : va_W) (sz : Nat) (z' : ZH) : String → State → State → Prop := fun E' st t => E' = E ∧ (∃ ws' : va_W, zHR X ws' z' ∧ zExt ws ws' ∧ va_P (xD X) zcl ws' t.heap ∧ va_D (va_A ws sz) ws') ∧ va_F (va_A ws sz) st t
def xNoQ : Array Value → State → Outcome → State → Prop := fun _ _ _ _ => False
/-- the method inf, called with as in z, throws E in z' -/
def xMet (l : Launch) (inf : ZInf) (b d : Nat) (as : List Value) (z : ZH) (z' : ZH) (E : String) : Prop := ∀ (X : ZX) (ws : va_W) (sz : Nat) (as' : List Value), zHR X ws z → zSR X ws as as' → va_D (fun _ => True) ws → vx_Met l inf.2.1 (zws inf) (zRm b d (zuc z' - zuc z) (zus z' - zus z)) (zPc X ws sz as') xNoQ (XCE E X ws sz z') (zuc z' - zuc z) (zus z' - zus z) (va_A ws sz)
/-- no row of the table takes it -/
def xPass (inf : ZInf) (pc : Nat) (E : String) : Prop := ∀ y ∈ tableOf inf.2.2.2.2, covers y pc = false ∨ (y.catchType ≠ 0 ∧ ∃ nm : String, Cond.classLink inf.2.1.cls y.catchType nm ∈ lw_all ∧ (E, nm) ∈ zNcs)
section
variable {p : Program} {l : Launch} {e : Env} {R : Room} {s : State} {m : MethodId} {args : Array Value} {below : List Frame} {meth : Method} {c : Code} {H : Heap} {locs : List Loc} {cells slots : Nat} {Q : State → Prop} {inf : ZInf} {X : ZX} {w0 ws : va_W} {z z' : ZH} {ls st : List Value} {lsm : Array Slot} {stm restm : List Value} {pc : Nat}
theorem xOut {E : String} {ce : Cell} {q : Addr} {mc ms : Nat} (C : zCtx X (va_A w0 s.heap.size) p l s m args meth c R inf) (hpass : xPass inf pc E) (I : zInv X (va_A w0 s.heap.size) s inf.2.2.1 w0 H locs ws z ls st lsm stm) (hcell : H[q]? = some ce) (hv : ce.vm = .none) (hcl : s.vm.findClass E = some ce.cls) (hc : cells ≤ mc) (hs : slots ≤ ms) :
    vx_W p l e R s m args below meth c H locs cells slots (vx_MQ below xNoQ (XCE E X w0 s.heap.size z) args s mc ms (va_A w0 s.heap.size)) (F0 m pc lsm restm) q := by
  obtain ⟨hx9, hb, hml, hown, hts, hSx, hA, hnm, hfr, hlo, hlk, hfl, -, hR, htab⟩ := C
  obtain ⟨hH, hP, hD, hS, hE, hL, hsr⟩ := I
  refine vx_outP hown hlk (fun y hy => ?_) hcell hv hcl (fun t ht _ => ⟨rfl, ⟨ws, hH, hE, by rw [ht]; exact hP, hD⟩, hS.F ht⟩) hS.2.2 hc hs
  rw [htab] at hy
  rcases hpass y hy with h | ⟨h1, nm, h2, h3⟩
  · exact Or.inl h
  · exact Or.inr ⟨h1, nm, hts _ h2, hSx.2.2.2.2.2.1 _ h3⟩
/-- what a caller has of a method that throws -/
theorem xRun_go {A : Nat → Prop} {nL : Nat} {E : String} {mc ms : Nat} {a9 : Array Value}
    (hr : vx_Run p l e R s m args below meth c H locs cells slots mc ms (F0 m pc lsm stm) restm (xNoQ a9) (XCE E X ws H.size z') (va_A ws H.size)) (hA : ∀ q, s.heap.size ≤ q → A q) (I : zInv X A s nL w0 H locs ws z ls st lsm stm)
    (kk : ∀ (H' : Heap) (locs' : List Loc) (ws' : va_W) (q : Addr) (ce : Cell), zInv X A s nL w0 H' locs' ws' z' ls [.float 0] lsm [.ref q] → H'[q]? = some ce → ce.vm = .none → s.vm.findClass E = some ce.cls → vx_W p l e R s m args below meth c H' locs' (cells + mc) (slots + ms) Q (F0 m pc lsm restm) q) : W p l e R s m args below meth c H locs cells slots Q (F0 m pc lsm stm) := by
  intro T hT X0
  have hFr := zFree hA I
  obtain ⟨hH, hP, hD, hS, hE, hL, hs⟩ := I
  rcases hr T hT X0 with ⟨v, st₀, t, T', L, h0, X', hLL, e1, e2, hno, _⟩ | ⟨q, st₀, t, T', L, E', ce, h0, X', hLL, e1, e2, ⟨rfl, ⟨ws', hH', hext, hP', hD'⟩, hF⟩, hce, hcv, hcl, st1⟩
  · exact hno.elim
  · obtain ⟨k1, k2, k3⟩ := vx_keep h0 e1 hS (fun q _ h => hFr q h) hFr hLL hF
    obtain ⟨t2, a1, b1⟩ := kk T'.heap (locs ++ L) ws' q ce ⟨hH', by rw [e1]; exact hP', hD'.weaken (fun _ _ _ h => hFr _ h), k3, hE.trans hext, hL.ext hext, Or.inr ⟨q, rfl⟩, trivial⟩ (by rw [e1]; exact hce) hcv hcl T' rfl X'
    exact ⟨t2, st1.trans a1, b1⟩
end
theorem xEnter {l : Launch} (hfl : l.flags = flags0) {inf : ZInf} {b d : Nat} (hk2 : plainName inf.2.1.cls = true) (hmn : zMain inf = false) (hb : 27 + zLev inf ≤ b) {as : List Value} {z z' : ZH} {E : String} {pcx : Nat} (hfit : (zent as).length ≤ inf.2.2.1) (hT : xThr inf 0 (zpad (zent as) inf.2.2.1) [] z pcx z' E) (hpass : xPass inf pcx E) : xMet l inf b d as z z' E := by
  intro X ws sz as' hH has hD
  obtain ⟨cc, y, L, rt, hh⟩ := inf
  have body : ∀ (p : Program) (e : Env) (s : State) (m : MethodId) (args : Array Value) (below : List Frame) (meth : Method) (c : Code) (s₁ : State), BodyLoose p l y (headSpec (zws (cc, y, L, rt, hh)) (zRm b d (zuc z' - zuc z) (zus z' - zus z))) cc L rt e s m args below meth c s₁ → c.maxLocals = L → c.exceptionTable.toList = tableOf hh → (∀ w ∈ lw_all, w.before args s = true) → zPc X ws sz as' args s →
      W p l e (zRm b d (zuc z' - zuc z) (zus z' - zus z)) s m args below meth c s.heap [] 0 0 (vx_MQ below xNoQ (XCE E X ws s.heap.size z') args s (zuc z' - zuc z) (zus z' - zus z) (va_A ws s.heap.size)) (entryFrame m args L) ∧ sz = s.heap.size := by
    intro p e s m args below meth c s₁ B hml htab hts hv
    obtain ⟨rfl, hsz, hP, hSx⟩ := hv
    refine ⟨?_, hsz.symm⟩
    subst hsz
    rw [lg_entry_eq]
    have C : zCtx X (va_A ws s.heap.size) p l s m as'.toArray meth c (zRm b d (zuc z' - zuc z) (zus z' - zus z)) (cc, y, L, rt, hh) := ⟨B.exec, B.bytes, hml, findClass_of_methodNamed B.named, hts, hSx, fun q h => Or.inr h, (name_of_methodNamed B.named B.method).1, (by show 8 ≤ d + b; omega), (by show 400 ≤ 40 * d + 400 * b; omega), B.notSynchronized, hfl, (fun h9 => by rw [hmn] at h9; cases h9), (fun _ => ⟨by show _ ≤ d + b; omega, by show _ ≤ 40 * d + 400 * b; omega⟩), htab⟩
    exact hT.2 p l e _ s m _ below meth c s.heap [] 0 0 _ X _ ws ws _ [] C ⟨hH, hP, hD.self, va_S.rf, zExt.rf, zLR_entry has hfit, trivial⟩ (by show 0 + (zuc z' - zuc z) ≤ zuc z' - zuc z; omega) (by show 0 + (zus z' - zus z) ≤ zus z' - zus z; omega) (fun H' locs' ws' ls' lsm' restm' q ce I' h1 h2 h3 => xOut C hpass I' h1 h2 h3 (by omega) (by omega))
  cases hh with
  | nil =>
    refine MetFree.of_bodyS (code := cc) (maxLocals := L) (ret := rt) hk2 ?_ ?_
    · intro args s m h hn
      obtain ⟨meth, c, h1, h2, h3, h4, h5, h6, -, -⟩ := Cond.code_spec hn (atoms_spec (ws := ws_ y cc L rt) h _ List.mem_cons_self)
      exact ⟨meth, c, h1, h2, h3, h4, h5, h6⟩
    · intro p e s m args below meth c s₁ B hml hP _
      have hh0 : s₁.heap = s.heap := by rw [B.state]; rfl
      have hts0 := atoms_spec (ws := ws_ y cc L rt) B.pre
      have htab : c.exceptionTable.toList = tableOf [] := by
        obtain ⟨meth9, c9, h1, h2, -, -, -, -, h7, -⟩ := Cond.code_spec B.named (hts0 _ List.mem_cons_self)
        cases Option.some.inj (h1.symm.trans B.method)
        cases Option.some.inj (h2.symm.trans (Stand.of_body B).code)
        rw [Array.isEmpty_iff.mp h7]
        rfl
      obtain ⟨hw, hsz⟩ := body p e s m args below meth c s₁ B hml htab (fun w hw => hts0 w (List.mem_cons_of_mem _ hw)) hP
      obtain ⟨t, a1, o, b1, b2, b3⟩ := hw s₁ hh0 (Stand.of_body B)
      rw [hsz]
      exact ⟨t, o, a1, b1, b2, b3⟩
  | cons h9 t9 =>
    refine MetFree.of_bodyS (code := cc) (maxLocals := L) (ret := rt) hk2 ?_ ?_
    · intro args s m h hn
      obtain ⟨m9, meth, c, hn9, h1, h2, h3, h4, -, h5, h6, -⟩ := Cond.codeWith_spec (atoms_spec (ws := wsW_ y cc L rt (h9 :: t9)) h _ List.mem_cons_self)
      cases hn.symm.trans hn9
      exact ⟨meth, c, h1, h2, h3, h4, h5, h6⟩
    · intro p e s m args below meth c s₁ B hml hP _
      have hh0 : s₁.heap = s.heap := by rw [B.state]; rfl
      have hts0 := atoms_spec (ws := wsW_ y cc L rt (h9 :: t9)) B.pre
      have htab : c.exceptionTable.toList = tableOf (h9 :: t9) := vx_table (x := y) B (hts0 _ List.mem_cons_self)
      obtain ⟨hw, hsz⟩ := body p e s m args below meth c s₁ B hml htab (fun w hw => hts0 w (List.mem_cons_of_mem _ hw)) hP
      obtain ⟨t, a1, o, b1, b2, b3⟩ := hw s₁ hh0 (Stand.of_body B)
      rw [hsz]
      exact ⟨t, o, a1, b1, b2, b3⟩
end XE
