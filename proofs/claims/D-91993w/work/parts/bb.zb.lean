set_option maxRecDepth 100000
/-! checkcast that fails: its text; put and putWider as a program of their own -/
section XC
theorem xfind {vm : Vm} {name : String} {c : ClassId} (h : vm.findClass name = some c) : ∃ k, vm.classes[c]? = some k ∧ k.name = name ∧ k.hidden = none ∧ k.loader = none := by
  obtain ⟨hlt, hp, _⟩ := Array.findIdx?_eq_some_iff_getElem.mp h
  refine ⟨vm.classes[c], by simp [hlt], ?_⟩
  simp only [Bool.and_eq_true, beq_iff_eq, Option.isNone_iff_eq_none] at hp
  exact ⟨hp.1.1.1, hp.1.1.2, hp.2⟩
theorem xcls {vm : Vm} {name : String} {c comp : ClassId} {ty : FieldType} {k : Class} (h : vm.findClass name = some c) (hk : vm.classes[c]? = some k) (hc : k.kind = .array comp ty) (hn : (withoutBrackets name).length = 1) : k.shown = dotted name ∧ k.loader = none ∧ vm.moduleOf k = vm.modules.find? (·.name == "java.base") := by
  obtain ⟨k', h1, h2, h3, h4⟩ := xfind h
  cases hk.symm.trans h1
  refine ⟨?_, h4, ?_⟩
  · unfold Class.shown
    rw [h3]
    dsimp only
    rw [h2]
  · have e : k.ofPrimitives = true := by
      unfold Class.ofPrimitives
      rw [hc]
      dsimp only
      rw [h2, hn]
      rfl
    unfold Vm.moduleOf
    rw [if_pos e]
def xtxt1 : String := "class [J cannot be cast to class [I ([J and [I are in module java.base of loader 'bootstrap')"
def xtxt2 : String := "class [J cannot be cast to class [I ([J and [I are in unnamed module of loader 'bootstrap')"
theorem xtxt_ok : ((xtxt1 == notModelled) = false ∧ (stringBytes (stringToUtf16 xtxt1)).size ≤ 120) ∧ ((xtxt2 == notModelled) = false ∧ (stringBytes (stringToUtf16 xtxt2)).size ≤ 120) := by decide +kernel
theorem xmsg {vm : Vm} {c1 c2 p1 p2 : ClassId} {k1 k2 : Class} (h1 : vm.findClass "[J" = some c1) (h2 : vm.findClass "[I" = some c2) (e1 : vm.classes[c1]? = some k1) (e2 : vm.classes[c2]? = some k2) (a1 : k1.kind = .array p1 .long) (a2 : k2.kind = .array p2 .int) : Op.checkcast.message vm k1 k2 = xtxt1 ∨ Op.checkcast.message vm k1 k2 = xtxt2 := by
  obtain ⟨s1, l1, m1⟩ := xcls h1 e1 a1 (by decide +kernel)
  obtain ⟨s2, l2, m2⟩ := xcls h2 e2 a2 (by decide +kernel)
  have d1 : dotted "[J" = "[J" := by decide +kernel
  have d2 : dotted "[I" = "[I" := by decide +kernel
  rw [d1] at s1
  rw [d2] at s2
  have hs : vm.sameModule k1 k2 = true := by
    unfold Vm.sameModule
    rw [m1, m2, l1, l2]
    cases vm.modules.find? (·.name == "java.base") with
    | none => rfl
    | some x => exact beq_self_eq_true _
  have hh : vm.homes k1 k2 = "[J and [I are in " ++ vm.home k1 := by
    unfold Vm.homes
    rw [if_pos hs, s1, s2]
    rfl
  have hhome : vm.home k1 = "module java.base of loader 'bootstrap'" ∨ vm.home k1 = "unnamed module of loader 'bootstrap'" := by
    unfold Vm.home
    rw [m1, l1]
    cases e9 : vm.modules.find? (·.name == "java.base") with
    | none => exact Or.inr rfl
    | some x =>
      have h9 := List.find?_some e9
      have h9 : x.name = "java.base" := by simpa using h9
      dsimp only
      rw [h9]
      exact Or.inl rfl
  unfold Op.checkcast.message
  rw [s1, s2, hh]
  rcases hhome with e | e
  · rw [e]; exact Or.inl (by decide +kernel)
  · rw [e]; exact Or.inr (by decide +kernel)
section
variable {p : Program} {l : Launch} {e : Env} {R : Room} {s : State} {m : MethodId} {args : Array Value} {below : List Frame} {meth : Method} {c : Code} {T : State} {locs : List Loc} {cells slots : Nat}
theorem xcastNo (X : Stand p l e R s m args below meth c T locs cells slots) (hexec : p.tables.exec = Jvm.exec)
    {own name : String} {index : Nat} (hown : s.vm.findClass own = some m.cls) (hlink : (Cond.classLink own index name).before args s = true)
    {a : Addr} {cell : Cell} {cT : ClassId} {ks : Class} (hcell : T.heap[a]? = some cell) (hobj : ∀ k, cell.vm ≠ .statics k) (hks : s.vm.classes[cell.cls]? = some ks)
    (hcT : s.vm.findClass name = some cT) (hasg : s.vm.assignable cell.cls cT = false)
    {g : JFrame} (hg : g.method = m) {rest : List Value} (hstack : g.stack = .ref a :: rest) (hdg : decode c.code g.pc = .ok (.checkcast index, 3)) :
    ∃ (vm' : Vm) (ks' kt' : Class), s.WarmedH vm' ∧ Stand p l e R s m args below meth c (T.setVm vm') locs cells slots ∧ vm'.classes[cell.cls]? = some ks' ∧ vm'.classes[cT]? = some kt' ∧
      ∀ target, Steps p.tables e below (((T.setVm vm').setTop g).pushFrame (.throwNew "java/lang/ClassCastException" (some (Op.checkcast.message vm' ks' kt')) none)) target → Steps p.tables e below (T.setTop g) target := by
  have hpl : e.platform.magicAccessors = ({} : Platform).magicAccessors := by rw [X.admits.platform]
  obtain ⟨c', hc', hcl⟩ := Cond.classLink_spec hown hlink e.platform hpl
  cases hcT.symm.trans hc'
  obtain ⟨dk, _, _, kt, hd, _, _, _, _, hkt, _, hopen⟩ := hcl.here
  have hcl₀ := X.warmed.classLinks hcl
  have hW' : s.WarmedH (T.vm.noted m.cls index (.cls cT)) := X.warmed.noted hd hopen (State.rightAt_cls hcl)
  obtain ⟨ks', hks', -⟩ := hW'.alike.2.2 _ _ hks
  obtain ⟨kt', hkt', -⟩ := hW'.alike.2.2 _ _ hkt
  refine ⟨_, ks', kt', hW', X.noted hW', hks', hkt', fun target hrest => ?_⟩
  subst hg
  jvm_step X.here [hexec, hdg, Op.checkcast.wp_cold (e := e) (s := T) (f := g) X.here.top hstack (resolveClass_links e.toSetting hcl₀) hcl₀.ready,
    Op.checkcast.wp_ready (e := e) (s := T.setVm (T.vm.noted g.method.cls index (.cls cT))) (f := g) X.here.top hcl₀.ready hstack]
  refine ⟨cell, hcell, hobj, ks', hks', kt', hkt', ?_⟩
  rw [if_neg (by rw [hW'.alike.assignable, hasg]; decide)]
  exact hrest
end
variable {inf : ZInf} {pc : Nat}
theorem ok_cstX {idx lo hi h ct : Nat} (hd : decode inf.1 pc = .ok (.checkcast idx, 3)) (hsl : zSlot inf = true) (htb : inf.2.2.2.2 = [(lo, hi, h, ct)]) (hx : covers ⟨lo, hi, h, ct⟩ pc = true) (h0 : ct ≠ 0) (hlink : Cond.classLink inf.2.1.cls ct "java/lang/ClassCastException" ∈ lw_all) (hq : Cond.classLink inf.2.1.cls idx "[I" ∈ lw_all) : zOK inf pc (z_cstX h (pc + 3)) := by
  intro ls st z p' ls' st' z' hf0
  unfold z_cstX at hf0
  split at hf0
  · rename_i r st1
    by_cases hz : zcs st1 = true
    case neg => rw [if_neg hz] at hf0; cases hf0
    rw [if_pos hz] at hf0
    by_cases h50 : zcls z r = 50
    · rw [if_pos h50] at hf0
      exact ok_cast50 hd hq ls (.ref r :: st1) z p' ls' st' z' ((if_pos h50).trans hf0)
    rw [if_neg h50] at hf0
    split at hf0
    · rename_i h51
      cases hf0
      refine ⟨⟨Nat.le_add_right _ _, Nat.le_add_right _ _⟩, ?_⟩
      intro p l e R s m args below meth c H locs cells slots Q X A w0 ws lsm stm C I hcl hsl2 k
      have u1 : zuc (spay z 20 400) - zuc z = 20 := Nat.add_sub_cancel_left _ _
      have u2 : zus (spay z 20 400) - zus z = 400 := Nat.add_sub_cancel_left _ _
      rw [u1] at hcl k
      rw [u2] at hsl2 k
      have C0 := C
      have I0 := I
      obtain ⟨hx9, hb, hml, hown, hts, hSx, hA, hnm, hfr, hlo, hlk, hfl, -, hR, htab⟩ := C
      obtain ⟨hH, hP, hD, hS, hE, hL, hs⟩ := I
      obtain ⟨a0, v1, rfl, ha0, hs1⟩ := zSR_r hs
      obtain ⟨hr1, e0, he0, hE0⟩ := hH.at (by omega) (by omega) ha0
      obtain ⟨cell, c1, c2, c3⟩ := zarr_cell hSx.1 hP he0 hE0 h51 (by omega)
      have c3 : s.vm.findClass "[J" = some cell.cls := c3
      obtain ⟨b1, b2, n1, n2, n3⟩ := hSx.2.2.2.2.2.1 ("[J", "[I") (by decide)
      have n1 : s.vm.findClass "[J" = some b1 := n1
      have n2 : s.vm.findClass "[I" = some b2 := n2
      cases n1.symm.trans c3
      obtain ⟨ks, hks, -⟩ := xfind c3
      intro T hT X9
      obtain ⟨vm', ks', kt', hW, X8, hks', hkt', st⟩ := xcastNo X9 hx9 hown (hts _ hq) (by rw [hT]; exact c1) (fun k9 e9 => by rw [e9] at c2; cases c2) hks n2 n3 (g := F0 m pc lsm (.ref a0 :: v1)) rfl rfl (by rw [hb]; exact hd)
      have hK' := va_K.moved (U := T.setVm vm') hW.alike hSx.1
      have f1 : vm'.findClass "[J" = some (xT X 51) := (hK'.2 1 (xT X 51, .long) rfl).2
      have f0 : vm'.findClass "[I" = some (xT X 50) := (hK'.2 0 (xT X 50, .int) rfl).2
      have g1 : vm'.findClass "[J" = some cell.cls := by rw [hW.alike.findClass]; exact c3
      have g0 : vm'.findClass "[I" = some b2 := by rw [hW.alike.findClass]; exact n2
      obtain ⟨-, k1, hk1, p1, hp1⟩ := (hK'.2 1 (xT X 51, .long) rfl).1 0 (fun _ => .null)
      obtain ⟨-, k0, hk0, p0, hp0⟩ := (hK'.2 0 (xT X 50, .int) rfl).1 0 (fun _ => .null)
      have hk1 : vm'.classes[xT X 51]? = some k1 := hk1
      have hk0 : vm'.classes[xT X 50]? = some k0 := hk0
      rw [Option.some.inj (f1.symm.trans g1)] at hk1
      rw [Option.some.inj (f0.symm.trans g0)] at hk0
      cases hk1.symm.trans hks'
      cases hk0.symm.trans hkt'
      have hmsg := xmsg g1 g0 hk1 hk0 hp1 hp0
      have hok : (Op.checkcast.message vm' ks' kt' == notModelled) = false ∧ (stringBytes (stringToUtf16 (Op.checkcast.message vm' ks' kt'))).size ≤ 120 := by
        rcases hmsg with e9 | e9
        · rw [e9]; exact xtxt_ok.1
        · rw [e9]; exact xtxt_ok.2
      have hcat := zstk_ok hs1 hz
      obtain ⟨t, a1, b9⟩ := xNoteM (nb := 120) (restm := .ref a0 :: v1) (pc := pc) (text := Op.checkcast.message vm' ks' kt') xM_cast C0 (xroom (hR hsl)) I0 (by rw [List.map_cons, List.sum_cons]; have : (Value.ref a0).category = 1 := rfl; omega) hok.1 hok.2 (by omega) (by omega) (by omega) (fun H1 q9 ce I1 h1 h2 h3 => vx_widen (k := cells + 20) (n := slots + 400) (by omega) (by omega) (xCatch C0 [] ⟨lo, hi, h, ct⟩ [] (by rw [htb]; rfl) (fun y hy => nomatch hy) hx h0 hlink q336 h1 h2 h3 (k H1 locs ws lsm _ I1))) (T.setVm vm') hT X8
      exact ⟨t, st t a1, b9⟩
    · cases hf0
  · rename_i st1
    cases hf0
    refine ⟨⟨Nat.le_refl _, Nat.le_refl _⟩, ?_⟩
    intro p l e R s m args below meth c H locs cells slots Q X A w0 ws lsm stm C I hcl hsl2 k
    simp only [Nat.sub_self, Nat.add_zero] at hcl hsl2 k
    obtain ⟨hx9, hb, hml, hown, hts, hSx, hA, hnm, hfr, hlo, hlk, hfl⟩ := C
    obtain ⟨hH, hP, hD, hS, hE, hL, hs⟩ := I
    obtain ⟨w9, v1, rfl, hw9, hs1⟩ := zSR_v hs
    have hw9 : w9 = .null := hw9
    subst hw9
    exact lv_castN hx9 hb hd (k H locs ws lsm _ ⟨hH, hP, hD, hS, hE, hL, rfl, hs1⟩)
  · cases hf0
end XC

/-! a slot's methods: 0 X11_put, 1 X11_putWider -/
set_option maxRecDepth 100000
def pT0 (pc : Nat) : Option ZI := (bif Nat.blt pc 33 then (bif Nat.blt pc 19 then (bif Nat.blt pc 10 then (bif Nat.blt pc 4 then (bif Nat.blt pc 1 then (bif Nat.beq pc 0 then some (.inl (z_aload 0 1)) else none) else (bif Nat.beq pc 1 then some (.inl (z_getR 11 0 4)) else none)) else (bif Nat.blt pc 7 then (bif Nat.beq pc 4 then some (.inl (z_inst 52 7)) else none) else (bif Nat.beq pc 7 then some (.inl (z_ifeq 29 10)) else none))) else (bif Nat.blt pc 14 then (bif Nat.blt pc 11 then (bif Nat.beq pc 10 then some (.inl (z_aload 0 11)) else none) else (bif Nat.beq pc 11 then some (.inl (z_getR 11 0 14)) else none)) else (bif Nat.blt pc 17 then (bif Nat.beq pc 14 then some (.inl (z_cast 52 17)) else none) else (bif Nat.beq pc 17 then some (.inl (z_astore 4 19)) else none)))) else (bif Nat.blt pc 24 then (bif Nat.blt pc 22 then (bif Nat.blt pc 21 then (bif Nat.beq pc 19 then some (.inl (z_aload 4 21)) else none) else (bif Nat.beq pc 21 then some (.inl (z_iload 1 22)) else none)) else (bif Nat.blt pc 23 then (bif Nat.beq pc 22 then some (.inl (z_lload 2 23)) else none) else (bif Nat.beq pc 23 then some (.inl (z_l2i 24)) else none))) else (bif Nat.blt pc 26 then (bif Nat.blt pc 25 then (bif Nat.beq pc 24 then some (.inl (z_i2b 25)) else none) else (bif Nat.beq pc 25 then some (.inl (z_iast 52 26)) else none)) else (bif Nat.blt pc 29 then (bif Nat.beq pc 26 then some (.inl (z_goto 64)) else none) else (bif Nat.blt pc 30 then (bif Nat.beq pc 29 then some (.inl (z_aload 0 30)) else none) else (bif Nat.beq pc 30 then some (.inl (z_getR 11 0 33)) else none)))))) else (bif Nat.blt pc 52 then (bif Nat.blt pc 43 then (bif Nat.blt pc 39 then (bif Nat.blt pc 36 then (bif Nat.beq pc 33 then some (.inl (z_inst 53 36)) else none) else (bif Nat.beq pc 36 then some (.inl (z_ifeq 58 39)) else none)) else (bif Nat.blt pc 40 then (bif Nat.beq pc 39 then some (.inl (z_aload 0 40)) else none) else (bif Nat.beq pc 40 then some (.inl (z_getR 11 0 43)) else none))) else (bif Nat.blt pc 48 then (bif Nat.blt pc 46 then (bif Nat.beq pc 43 then some (.inl (z_cast 53 46)) else none) else (bif Nat.beq pc 46 then some (.inl (z_astore 4 48)) else none)) else (bif Nat.blt pc 50 then (bif Nat.beq pc 48 then some (.inl (z_aload 4 50)) else none) else (bif Nat.blt pc 51 then (bif Nat.beq pc 50 then some (.inl (z_iload 1 51)) else none) else (bif Nat.beq pc 51 then some (.inl (z_lload 2 52)) else none))))) else (bif Nat.blt pc 58 then (bif Nat.blt pc 54 then (bif Nat.blt pc 53 then (bif Nat.beq pc 52 then some (.inl (z_l2i 53)) else none) else (bif Nat.beq pc 53 then some (.inl (z_i2s 54)) else none)) else (bif Nat.blt pc 55 then (bif Nat.beq pc 54 then some (.inl (z_iast 53 55)) else none) else (bif Nat.beq pc 55 then some (.inl (z_goto 64)) else none))) else (bif Nat.blt pc 60 then (bif Nat.blt pc 59 then (bif Nat.beq pc 58 then some (.inl (z_aload 0 59)) else none) else (bif Nat.beq pc 59 then some (.inl (z_iload 1 60)) else none)) else (bif Nat.blt pc 61 then (bif Nat.beq pc 60 then some (.inl (z_lload 2 61)) else none) else (bif Nat.blt pc 64 then (bif Nat.beq pc 61 then some (.inr (.inl (64, sV2 11 1))) else none) else (bif Nat.beq pc 64 then some (.inr (.inr 1)) else none)))))))
def pT1 (pc : Nat) : Option ZI := (bif Nat.blt pc 18 then (bif Nat.blt pc 11 then (bif Nat.blt pc 4 then (bif Nat.blt pc 1 then (bif Nat.beq pc 0 then some (.inl (z_aload 0 1)) else none) else (bif Nat.beq pc 1 then some (.inl (z_getR 11 0 4)) else none)) else (bif Nat.blt pc 7 then (bif Nat.beq pc 4 then some (.inl (z_cstX 18 7)) else none) else (bif Nat.blt pc 9 then (bif Nat.beq pc 7 then some (.inl (z_astore 4 9)) else none) else (bif Nat.beq pc 9 then some (.inl (z_aload 4 11)) else none)))) else (bif Nat.blt pc 13 then (bif Nat.blt pc 12 then (bif Nat.beq pc 11 then some (.inl (z_iload 1 12)) else none) else (bif Nat.beq pc 12 then some (.inl (z_lload 2 13)) else none)) else (bif Nat.blt pc 14 then (bif Nat.beq pc 13 then some (.inl (z_l2i 14)) else none) else (bif Nat.blt pc 15 then (bif Nat.beq pc 14 then some (.inl (z_iast 50 15)) else none) else (bif Nat.beq pc 15 then some (.inl (z_goto 34)) else none))))) else (bif Nat.blt pc 29 then (bif Nat.blt pc 21 then (bif Nat.blt pc 20 then (bif Nat.beq pc 18 then some (.inl (z_astx 4 20)) else none) else (bif Nat.beq pc 20 then some (.inl (z_aload 0 21)) else none)) else (bif Nat.blt pc 24 then (bif Nat.beq pc 21 then some (.inl (z_getR 11 0 24)) else none) else (bif Nat.blt pc 27 then (bif Nat.beq pc 24 then some (.inl (z_cast 51 27)) else none) else (bif Nat.beq pc 27 then some (.inl (z_astore 5 29)) else none)))) else (bif Nat.blt pc 32 then (bif Nat.blt pc 31 then (bif Nat.beq pc 29 then some (.inl (z_aload 5 31)) else none) else (bif Nat.beq pc 31 then some (.inl (z_iload 1 32)) else none)) else (bif Nat.blt pc 33 then (bif Nat.beq pc 32 then some (.inl (z_lload 2 33)) else none) else (bif Nat.blt pc 34 then (bif Nat.beq pc 33 then some (.inl (z_last 34)) else none) else (bif Nat.beq pc 34 then some (.inr (.inr 1)) else none))))))
def pTab (k pc : Nat) : Option ZI := (bif Nat.blt k 1 then (bif Nat.beq k 0 then pT0 pc else none) else (bif Nat.beq k 1 then pT1 pc else none))
def pMl (k : Nat) : Nat := (bif Nat.blt k 1 then 5 else 6)
def pHd (_ _ : Nat) : Option Nat := none
def zP : ZP := (pTab, pMl, pHd)
set_option maxRecDepth 100000
section ZSITE
variable {d : Nat} {st : List Value} {z : ZH} {Q : ZQ}
/-- X11_put (IJ)V -/
theorem ep0 {r0 : Nat} {v0 : Int32} {v1 : Int64} : ZC zP d 0 [.ref r0, .int v0, .long v1] z Q = ZW zP d 0 0 [.ref r0, .int v0, .long v1, zdum, zdum] [] z Q := rfl
theorem p0_0 {x0 x1 x2 x3 x4 : Value} : ZW zP d 0 0 [x0, x1, x2, x3, x4] st z Q = (zir x0 = true ∧ ZW zP d 0 1 [x0, x1, x2, x3, x4] (x0 :: st) z Q) := zw_cond (f := z_aload 0 1) rfl rfl
theorem p0_1 {ls : List Value} {r : Nat} : ZW zP d 0 1 ls (.ref r :: st) z Q = ((zcls z r = 11 ∧ zir (zfr z r 0) = true) ∧ ZW zP d 0 4 ls (zfr z r 0 :: st) (z) Q) := zw_getR rfl
theorem p0_4 {ls : List Value} : ZW zP d 0 4 ls (.null :: st) z Q = ZW zP d 0 7 ls (.int 0 :: st) z Q := zw_inst0 rfl
theorem p0_4r {ls : List Value} {r : Nat} : ZW zP d 0 4 ls (.ref r :: st) z Q = ((50 ≤ zcls z r ∧ zcls z r < 54) ∧ ZW zP d 0 7 ls (.int (if zcls z r = 52 then 1 else 0) :: st) z Q) := zw_inst1 rfl
theorem p0_7 {ls : List Value} {a : Int32} : ZW zP d 0 7 ls (.int a :: st) z Q = if a = 0 then ZW zP d 0 29 ls st z Q else ZW zP d 0 10 ls st z Q := zw_ifeq rfl
theorem p0_10 {x0 x1 x2 x3 x4 : Value} : ZW zP d 0 10 [x0, x1, x2, x3, x4] st z Q = (zir x0 = true ∧ ZW zP d 0 11 [x0, x1, x2, x3, x4] (x0 :: st) z Q) := zw_cond (f := z_aload 0 11) rfl rfl
theorem p0_11 {ls : List Value} {r : Nat} : ZW zP d 0 11 ls (.ref r :: st) z Q = ((zcls z r = 11 ∧ zir (zfr z r 0) = true) ∧ ZW zP d 0 14 ls (zfr z r 0 :: st) (z) Q) := zw_getR rfl
theorem p0_14 {ls : List Value} {r : Nat} : ZW zP d 0 14 ls (.ref r :: st) z Q = ((zcls z r = 52) ∧ ZW zP d 0 17 ls (.ref r :: st) (z) Q) := zw_cast rfl
theorem p0_17 {x0 x1 x2 x3 x4 : Value} {v : Value} : ZW zP d 0 17 [x0, x1, x2, x3, x4] (v :: st) z Q = (zir v = true ∧ ZW zP d 0 19 [x0, x1, x2, zclr x3, v] st z Q) := by rw [zw_cond (f := z_astore 4 19) (G := zP) rfl rfl]; exact propext ⟨fun h => ⟨h.1.1, h.2⟩, fun h => ⟨⟨h.1, Nat.le_of_ble_eq_true rfl⟩, h.2⟩⟩
theorem p0_19 {x0 x1 x2 x3 x4 : Value} : ZW zP d 0 19 [x0, x1, x2, x3, x4] st z Q = (zir x4 = true ∧ ZW zP d 0 21 [x0, x1, x2, x3, x4] (x4 :: st) z Q) := zw_cond (f := z_aload 4 21) rfl rfl
theorem p0_21 {x0 x2 x3 x4 : Value} {a : Int32} : ZW zP d 0 21 [x0, .int a, x2, x3, x4] st z Q = ZW zP d 0 22 [x0, .int a, x2, x3, x4] (.int a :: st) z Q := zw_next (f := z_iload 1 22) rfl rfl
theorem p0_22 {x0 x1 x3 x4 : Value} {a : Int64} : ZW zP d 0 22 [x0, x1, .long a, x3, x4] st z Q = ZW zP d 0 23 [x0, x1, .long a, x3, x4] (.long a :: st) z Q := zw_next (f := z_lload 2 23) rfl rfl
theorem p0_23 {ls : List Value} {x : Int64} : ZW zP d 0 23 ls (.long x :: st) z Q = ZW zP d 0 24 ls (.int x.toInt32 :: st) z Q := zw_l2i rfl
theorem p0_24 {ls : List Value} {a : Int32} : ZW zP d 0 24 ls (.int a :: st) z Q = ZW zP d 0 25 ls (.int a.toInt8.toInt32 :: st) z Q := zw_i2b rfl
theorem p0_25 {ls : List Value} {a b : Int32} {r : Nat} : ZW zP d 0 25 ls (.int b :: .int a :: .ref r :: st) z Q = ((zcls z r = 52 ∧ zin a (zlen z r) = true) ∧ ZW zP d 0 26 ls (st) (sia z r (zx a) (znar 52 b)) Q) := zw_iast rfl
theorem p0_26 {ls : List Value}  : ZW zP d 0 26 ls (st) z Q = ZW zP d 0 64 ls st z Q := zw_goto rfl
theorem p0_29 {x0 x1 x2 x3 x4 : Value} : ZW zP d 0 29 [x0, x1, x2, x3, x4] st z Q = (zir x0 = true ∧ ZW zP d 0 30 [x0, x1, x2, x3, x4] (x0 :: st) z Q) := zw_cond (f := z_aload 0 30) rfl rfl
theorem p0_30 {ls : List Value} {r : Nat} : ZW zP d 0 30 ls (.ref r :: st) z Q = ((zcls z r = 11 ∧ zir (zfr z r 0) = true) ∧ ZW zP d 0 33 ls (zfr z r 0 :: st) (z) Q) := zw_getR rfl
theorem p0_33 {ls : List Value} : ZW zP d 0 33 ls (.null :: st) z Q = ZW zP d 0 36 ls (.int 0 :: st) z Q := zw_inst0 rfl
theorem p0_33r {ls : List Value} {r : Nat} : ZW zP d 0 33 ls (.ref r :: st) z Q = ((50 ≤ zcls z r ∧ zcls z r < 54) ∧ ZW zP d 0 36 ls (.int (if zcls z r = 53 then 1 else 0) :: st) z Q) := zw_inst1 rfl
theorem p0_36 {ls : List Value} {a : Int32} : ZW zP d 0 36 ls (.int a :: st) z Q = if a = 0 then ZW zP d 0 58 ls st z Q else ZW zP d 0 39 ls st z Q := zw_ifeq rfl
theorem p0_39 {x0 x1 x2 x3 x4 : Value} : ZW zP d 0 39 [x0, x1, x2, x3, x4] st z Q = (zir x0 = true ∧ ZW zP d 0 40 [x0, x1, x2, x3, x4] (x0 :: st) z Q) := zw_cond (f := z_aload 0 40) rfl rfl
theorem p0_40 {ls : List Value} {r : Nat} : ZW zP d 0 40 ls (.ref r :: st) z Q = ((zcls z r = 11 ∧ zir (zfr z r 0) = true) ∧ ZW zP d 0 43 ls (zfr z r 0 :: st) (z) Q) := zw_getR rfl
theorem p0_43 {ls : List Value} {r : Nat} : ZW zP d 0 43 ls (.ref r :: st) z Q = ((zcls z r = 53) ∧ ZW zP d 0 46 ls (.ref r :: st) (z) Q) := zw_cast rfl
theorem p0_46 {x0 x1 x2 x3 x4 : Value} {v : Value} : ZW zP d 0 46 [x0, x1, x2, x3, x4] (v :: st) z Q = (zir v = true ∧ ZW zP d 0 48 [x0, x1, x2, zclr x3, v] st z Q) := by rw [zw_cond (f := z_astore 4 48) (G := zP) rfl rfl]; exact propext ⟨fun h => ⟨h.1.1, h.2⟩, fun h => ⟨⟨h.1, Nat.le_of_ble_eq_true rfl⟩, h.2⟩⟩
theorem p0_48 {x0 x1 x2 x3 x4 : Value} : ZW zP d 0 48 [x0, x1, x2, x3, x4] st z Q = (zir x4 = true ∧ ZW zP d 0 50 [x0, x1, x2, x3, x4] (x4 :: st) z Q) := zw_cond (f := z_aload 4 50) rfl rfl
theorem p0_50 {x0 x2 x3 x4 : Value} {a : Int32} : ZW zP d 0 50 [x0, .int a, x2, x3, x4] st z Q = ZW zP d 0 51 [x0, .int a, x2, x3, x4] (.int a :: st) z Q := zw_next (f := z_iload 1 51) rfl rfl
theorem p0_51 {x0 x1 x3 x4 : Value} {a : Int64} : ZW zP d 0 51 [x0, x1, .long a, x3, x4] st z Q = ZW zP d 0 52 [x0, x1, .long a, x3, x4] (.long a :: st) z Q := zw_next (f := z_lload 2 52) rfl rfl
theorem p0_52 {ls : List Value} {x : Int64} : ZW zP d 0 52 ls (.long x :: st) z Q = ZW zP d 0 53 ls (.int x.toInt32 :: st) z Q := zw_l2i rfl
theorem p0_53 {ls : List Value} {a : Int32} : ZW zP d 0 53 ls (.int a :: st) z Q = ZW zP d 0 54 ls (.int a.toInt16.toInt32 :: st) z Q := zw_i2s rfl
theorem p0_54 {ls : List Value} {a b : Int32} {r : Nat} : ZW zP d 0 54 ls (.int b :: .int a :: .ref r :: st) z Q = ((zcls z r = 53 ∧ zin a (zlen z r) = true) ∧ ZW zP d 0 55 ls (st) (sia z r (zx a) (znar 53 b)) Q) := zw_iast rfl
theorem p0_55 {ls : List Value}  : ZW zP d 0 55 ls (st) z Q = ZW zP d 0 64 ls st z Q := zw_goto rfl
theorem p0_58 {x0 x1 x2 x3 x4 : Value} : ZW zP d 0 58 [x0, x1, x2, x3, x4] st z Q = (zir x0 = true ∧ ZW zP d 0 59 [x0, x1, x2, x3, x4] (x0 :: st) z Q) := zw_cond (f := z_aload 0 59) rfl rfl
theorem p0_59 {x0 x2 x3 x4 : Value} {a : Int32} : ZW zP d 0 59 [x0, .int a, x2, x3, x4] st z Q = ZW zP d 0 60 [x0, .int a, x2, x3, x4] (.int a :: st) z Q := zw_next (f := z_iload 1 60) rfl rfl
theorem p0_60 {x0 x1 x3 x4 : Value} {a : Int64} : ZW zP d 0 60 [x0, x1, .long a, x3, x4] st z Q = ZW zP d 0 61 [x0, x1, .long a, x3, x4] (.long a :: st) z Q := zw_next (f := z_lload 2 61) rfl rfl
theorem p0_61 {ls : List Value} {w0 : Int32} {w1 : Int64} {r : Nat} : ZW zP (d + 1) 0 61 ls (.long w1 :: .int w0 :: .ref r :: st) z Q = (zcls z r = 11 ∧ zcs st = true ∧ ZC zP d 1 [.ref r, .int w0, .long w1] z (zk zP (d + 1) 0 (none) 64 ls st Q)) := zc_V2 rfl (Nat.le_of_ble_eq_true rfl)
theorem p0_64 {ls : List Value}  : ZW zP d 0 64 ls ([]) z Q = Q (.inl none) z := zw_ret rfl
/-- X11_putWider (IJ)V -/
theorem ep1 {r0 : Nat} {v0 : Int32} {v1 : Int64} : ZC zP d 1 [.ref r0, .int v0, .long v1] z Q = ZW zP d 1 0 [.ref r0, .int v0, .long v1, zdum, zdum, zdum] [] z Q := rfl
theorem p1_0 {x0 x1 x2 x3 x4 x5 : Value} : ZW zP d 1 0 [x0, x1, x2, x3, x4, x5] st z Q = (zir x0 = true ∧ ZW zP d 1 1 [x0, x1, x2, x3, x4, x5] (x0 :: st) z Q) := zw_cond (f := z_aload 0 1) rfl rfl
theorem p1_1 {ls : List Value} {r : Nat} : ZW zP d 1 1 ls (.ref r :: st) z Q = ((zcls z r = 11 ∧ zir (zfr z r 0) = true) ∧ ZW zP d 1 4 ls (zfr z r 0 :: st) (z) Q) := zw_getR rfl
theorem p1_4 {ls : List Value} {r : Nat} : ZW zP d 1 4 ls (.ref r :: st) z Q = (zcs st = true ∧ if zcls z r = 50 then ZW zP d 1 7 ls (.ref r :: st) z Q else (zcls z r = 51 ∧ ZW zP d 1 18 ls [.float 0] (spay z 20 400) Q)) := zw_cstX rfl
theorem p1_7 {x0 x1 x2 x3 x4 x5 : Value} {v : Value} : ZW zP d 1 7 [x0, x1, x2, x3, x4, x5] (v :: st) z Q = (zir v = true ∧ ZW zP d 1 9 [x0, x1, x2, zclr x3, v, x5] st z Q) := by rw [zw_cond (f := z_astore 4 9) (G := zP) rfl rfl]; exact propext ⟨fun h => ⟨h.1.1, h.2⟩, fun h => ⟨⟨h.1, Nat.le_of_ble_eq_true rfl⟩, h.2⟩⟩
theorem p1_9 {x0 x1 x2 x3 x4 x5 : Value} : ZW zP d 1 9 [x0, x1, x2, x3, x4, x5] st z Q = (zir x4 = true ∧ ZW zP d 1 11 [x0, x1, x2, x3, x4, x5] (x4 :: st) z Q) := zw_cond (f := z_aload 4 11) rfl rfl
theorem p1_11 {x0 x2 x3 x4 x5 : Value} {a : Int32} : ZW zP d 1 11 [x0, .int a, x2, x3, x4, x5] st z Q = ZW zP d 1 12 [x0, .int a, x2, x3, x4, x5] (.int a :: st) z Q := zw_next (f := z_iload 1 12) rfl rfl
theorem p1_12 {x0 x1 x3 x4 x5 : Value} {a : Int64} : ZW zP d 1 12 [x0, x1, .long a, x3, x4, x5] st z Q = ZW zP d 1 13 [x0, x1, .long a, x3, x4, x5] (.long a :: st) z Q := zw_next (f := z_lload 2 13) rfl rfl
theorem p1_13 {ls : List Value} {x : Int64} : ZW zP d 1 13 ls (.long x :: st) z Q = ZW zP d 1 14 ls (.int x.toInt32 :: st) z Q := zw_l2i rfl
theorem p1_14 {ls : List Value} {a b : Int32} {r : Nat} : ZW zP d 1 14 ls (.int b :: .int a :: .ref r :: st) z Q = ((zcls z r = 50 ∧ zin a (zlen z r) = true) ∧ ZW zP d 1 15 ls (st) (sia z r (zx a) (znar 50 b)) Q) := zw_iast rfl
theorem p1_15 {ls : List Value}  : ZW zP d 1 15 ls (st) z Q = ZW zP d 1 34 ls st z Q := zw_goto rfl
theorem p1_20 {x0 x1 x2 x3 x4 x5 : Value} : ZW zP d 1 20 [x0, x1, x2, x3, x4, x5] st z Q = (zir x0 = true ∧ ZW zP d 1 21 [x0, x1, x2, x3, x4, x5] (x0 :: st) z Q) := zw_cond (f := z_aload 0 21) rfl rfl
theorem p1_21 {ls : List Value} {r : Nat} : ZW zP d 1 21 ls (.ref r :: st) z Q = ((zcls z r = 11 ∧ zir (zfr z r 0) = true) ∧ ZW zP d 1 24 ls (zfr z r 0 :: st) (z) Q) := zw_getR rfl
theorem p1_24 {ls : List Value} {r : Nat} : ZW zP d 1 24 ls (.ref r :: st) z Q = ((zcls z r = 51) ∧ ZW zP d 1 27 ls (.ref r :: st) (z) Q) := zw_cast rfl
theorem p1_27 {x0 x1 x2 x3 x4 x5 : Value} {v : Value} : ZW zP d 1 27 [x0, x1, x2, x3, x4, x5] (v :: st) z Q = (zir v = true ∧ ZW zP d 1 29 [x0, x1, x2, x3, zclr x4, v] st z Q) := by rw [zw_cond (f := z_astore 5 29) (G := zP) rfl rfl]; exact propext ⟨fun h => ⟨h.1.1, h.2⟩, fun h => ⟨⟨h.1, Nat.le_of_ble_eq_true rfl⟩, h.2⟩⟩
theorem p1_29 {x0 x1 x2 x3 x4 x5 : Value} : ZW zP d 1 29 [x0, x1, x2, x3, x4, x5] st z Q = (zir x5 = true ∧ ZW zP d 1 31 [x0, x1, x2, x3, x4, x5] (x5 :: st) z Q) := zw_cond (f := z_aload 5 31) rfl rfl
theorem p1_31 {x0 x2 x3 x4 x5 : Value} {a : Int32} : ZW zP d 1 31 [x0, .int a, x2, x3, x4, x5] st z Q = ZW zP d 1 32 [x0, .int a, x2, x3, x4, x5] (.int a :: st) z Q := zw_next (f := z_iload 1 32) rfl rfl
theorem p1_32 {x0 x1 x3 x4 x5 : Value} {a : Int64} : ZW zP d 1 32 [x0, x1, .long a, x3, x4, x5] st z Q = ZW zP d 1 33 [x0, x1, .long a, x3, x4, x5] (.long a :: st) z Q := zw_next (f := z_lload 2 33) rfl rfl
theorem p1_33 {ls : List Value} {a : Int32} {x : Int64} {r : Nat} : ZW zP d 1 33 ls (.long x :: .int a :: .ref r :: st) z Q = ((zcls z r = 51 ∧ zin a (zlen z r) = true) ∧ ZW zP d 1 34 ls (st) (sla z r (zx a) x) Q) := zw_last rfl
theorem p1_34 {ls : List Value}  : ZW zP d 1 34 ls ([]) z Q = Q (.inl none) z := zw_ret rfl
theorem p1_18 {x0 x1 x2 x3 x4 x5 : Value} {f : UInt32} : ZW zP d 1 18 [x0, x1, x2, x3, x4, x5] (.float f :: st) z Q = ZW zP d 1 20 [x0, x1, x2, zclr x3, .float f, x5] st z Q := zw_next (f := z_astx 4 20) rfl rfl
end ZSITE

abbrev pI0 : ZInf := (cX11_put, yX11_put, 5, (Option.none : Option Jvm.ClassFile.FieldType), [])
abbrev pI1 : ZInf := (cX11_putWider, yX11_putWider, 6, (Option.none : Option Jvm.ClassFile.FieldType), [((0 : Nat), (15 : Nat), (18 : Nat), (36 : Nat))])
def pInfo (k : Nat) : ZInf := (bif Nat.blt k 1 then pI0 else pI1)
theorem pleaf {zI : Nat → ZInf} {inf : ZInf} {k c pc : Nat} {i I : ZI} (h : (bif Nat.beq pc c then some I else none) = some i) (ok : zSiteOK zI inf (pHd k c) c I) : zSiteOK zI inf (pHd k pc) pc i := by
  cases hb : Nat.beq pc c with
  | true =>
    rw [hb] at h
    have h : some I = some i := h
    cases h
    have := Nat.eq_of_beq_eq_true hb
    subst this
    exact ok
  | false => rw [hb] at h; cases h
theorem po0_0 : zSiteOK pInfo pI0 (pHd 0 0) 0 (.inl (z_aload 0 1)) := zs_p (ok_aload_n (inf := pI0) dX11_put_0 rfl)
theorem po0_1 : zSiteOK pInfo pI0 (pHd 0 1) 1 (.inl (z_getR 11 0 4)) := zs_p (ok_getR (inf := pI0) (C := RX11) (T := TX11) (N := 1) dX11_put_1 rfl (by decide) in_X11 (by decide) rfl rfl q621 rfl)
theorem po0_4 : zSiteOK pInfo pI0 (pHd 0 4) 4 (.inl (z_inst 52 7)) := zs_p (ok_inst52 (inf := pI0) dX11_put_4 q318)
theorem po0_7 : zSiteOK pInfo pI0 (pHd 0 7) 7 (.inl (z_ifeq 29 10)) := zs_p (ok_ifeq (inf := pI0) dX11_put_7 (by decide))
theorem po0_10 : zSiteOK pInfo pI0 (pHd 0 10) 10 (.inl (z_aload 0 11)) := zs_p (ok_aload_n (inf := pI0) dX11_put_10 rfl)
theorem po0_11 : zSiteOK pInfo pI0 (pHd 0 11) 11 (.inl (z_getR 11 0 14)) := zs_p (ok_getR (inf := pI0) (C := RX11) (T := TX11) (N := 1) dX11_put_11 rfl (by decide) in_X11 (by decide) rfl rfl q621 rfl)
theorem po0_14 : zSiteOK pInfo pI0 (pHd 0 14) 14 (.inl (z_cast 52 17)) := zs_p (ok_cast52 (inf := pI0) dX11_put_14 q318)
theorem po0_17 : zSiteOK pInfo pI0 (pHd 0 17) 17 (.inl (z_astore 4 19)) := zs_p (ok_astore (inf := pI0) dX11_put_17)
theorem po0_19 : zSiteOK pInfo pI0 (pHd 0 19) 19 (.inl (z_aload 4 21)) := zs_p (ok_aload (inf := pI0) dX11_put_19)
theorem po0_21 : zSiteOK pInfo pI0 (pHd 0 21) 21 (.inl (z_iload 1 22)) := zs_p (ok_iload_n (inf := pI0) dX11_put_21 rfl)
theorem po0_22 : zSiteOK pInfo pI0 (pHd 0 22) 22 (.inl (z_lload 2 23)) := zs_p (ok_lload_n (inf := pI0) dX11_put_22 rfl)
theorem po0_23 : zSiteOK pInfo pI0 (pHd 0 23) 23 (.inl (z_l2i 24)) := zs_p (ok_l2i (inf := pI0) dX11_put_23)
theorem po0_24 : zSiteOK pInfo pI0 (pHd 0 24) 24 (.inl (z_i2b 25)) := zs_p (ok_i2b (inf := pI0) dX11_put_24)
theorem po0_25 : zSiteOK pInfo pI0 (pHd 0 25) 25 (.inl (z_iast 52 26)) := zs_p (ok_iast52 (inf := pI0) dX11_put_25)
theorem po0_26 : zSiteOK pInfo pI0 (pHd 0 26) 26 (.inl (z_goto 64)) := zs_p (ok_goto (inf := pI0) dX11_put_26 (by decide))
theorem po0_29 : zSiteOK pInfo pI0 (pHd 0 29) 29 (.inl (z_aload 0 30)) := zs_p (ok_aload_n (inf := pI0) dX11_put_29 rfl)
theorem po0_30 : zSiteOK pInfo pI0 (pHd 0 30) 30 (.inl (z_getR 11 0 33)) := zs_p (ok_getR (inf := pI0) (C := RX11) (T := TX11) (N := 1) dX11_put_30 rfl (by decide) in_X11 (by decide) rfl rfl q621 rfl)
theorem po0_33 : zSiteOK pInfo pI0 (pHd 0 33) 33 (.inl (z_inst 53 36)) := zs_p (ok_inst53 (inf := pI0) dX11_put_33 q319)
theorem po0_36 : zSiteOK pInfo pI0 (pHd 0 36) 36 (.inl (z_ifeq 58 39)) := zs_p (ok_ifeq (inf := pI0) dX11_put_36 (by decide))
theorem po0_39 : zSiteOK pInfo pI0 (pHd 0 39) 39 (.inl (z_aload 0 40)) := zs_p (ok_aload_n (inf := pI0) dX11_put_39 rfl)
theorem po0_40 : zSiteOK pInfo pI0 (pHd 0 40) 40 (.inl (z_getR 11 0 43)) := zs_p (ok_getR (inf := pI0) (C := RX11) (T := TX11) (N := 1) dX11_put_40 rfl (by decide) in_X11 (by decide) rfl rfl q621 rfl)
theorem po0_43 : zSiteOK pInfo pI0 (pHd 0 43) 43 (.inl (z_cast 53 46)) := zs_p (ok_cast53 (inf := pI0) dX11_put_43 q319)
theorem po0_46 : zSiteOK pInfo pI0 (pHd 0 46) 46 (.inl (z_astore 4 48)) := zs_p (ok_astore (inf := pI0) dX11_put_46)
theorem po0_48 : zSiteOK pInfo pI0 (pHd 0 48) 48 (.inl (z_aload 4 50)) := zs_p (ok_aload (inf := pI0) dX11_put_48)
theorem po0_50 : zSiteOK pInfo pI0 (pHd 0 50) 50 (.inl (z_iload 1 51)) := zs_p (ok_iload_n (inf := pI0) dX11_put_50 rfl)
theorem po0_51 : zSiteOK pInfo pI0 (pHd 0 51) 51 (.inl (z_lload 2 52)) := zs_p (ok_lload_n (inf := pI0) dX11_put_51 rfl)
theorem po0_52 : zSiteOK pInfo pI0 (pHd 0 52) 52 (.inl (z_l2i 53)) := zs_p (ok_l2i (inf := pI0) dX11_put_52)
theorem po0_53 : zSiteOK pInfo pI0 (pHd 0 53) 53 (.inl (z_i2s 54)) := zs_p (ok_i2s (inf := pI0) dX11_put_53)
theorem po0_54 : zSiteOK pInfo pI0 (pHd 0 54) 54 (.inl (z_iast 53 55)) := zs_p (ok_iast53 (inf := pI0) dX11_put_54)
theorem po0_55 : zSiteOK pInfo pI0 (pHd 0 55) 55 (.inl (z_goto 64)) := zs_p (ok_goto (inf := pI0) dX11_put_55 (by decide))
theorem po0_58 : zSiteOK pInfo pI0 (pHd 0 58) 58 (.inl (z_aload 0 59)) := zs_p (ok_aload_n (inf := pI0) dX11_put_58 rfl)
theorem po0_59 : zSiteOK pInfo pI0 (pHd 0 59) 59 (.inl (z_iload 1 60)) := zs_p (ok_iload_n (inf := pI0) dX11_put_59 rfl)
theorem po0_60 : zSiteOK pInfo pI0 (pHd 0 60) 60 (.inl (z_lload 2 61)) := zs_p (ok_lload_n (inf := pI0) dX11_put_60 rfl)
theorem po0_61 : zSiteOK pInfo pI0 (pHd 0 61) 61 (.inr (.inl (64, sV2 11 1))) := zs_c rfl (cok_VW (inf := pI0) (n := 2) (C := RX11) (T := TX11) (N := 1) dX11_put_61 rfl (by decide) rfl selV2 q320 q322 qs3 q125 q323 rfl (by decide +kernel))
theorem po0_64 : zSiteOK pInfo pI0 (pHd 0 64) 64 (.inr (.inr 1)) := zs_r (show zROK pI0 64 1 from ⟨dX11_put_64, rfl⟩)
theorem pok0 (pc : Nat) (i : ZI) : pT0 pc = some i → zSiteOK pInfo pI0 (pHd 0 pc) pc i := (fun h => zbif h (fun h => zbif h (fun h => zbif h (fun h => zbif h (fun h => zbif h (fun h => pleaf h po0_0) (fun h => pleaf h po0_1)) (fun h => zbif h (fun h => pleaf h po0_4) (fun h => pleaf h po0_7))) (fun h => zbif h (fun h => zbif h (fun h => pleaf h po0_10) (fun h => pleaf h po0_11)) (fun h => zbif h (fun h => pleaf h po0_14) (fun h => pleaf h po0_17)))) (fun h => zbif h (fun h => zbif h (fun h => zbif h (fun h => pleaf h po0_19) (fun h => pleaf h po0_21)) (fun h => zbif h (fun h => pleaf h po0_22) (fun h => pleaf h po0_23))) (fun h => zbif h (fun h => zbif h (fun h => pleaf h po0_24) (fun h => pleaf h po0_25)) (fun h => zbif h (fun h => pleaf h po0_26) (fun h => zbif h (fun h => pleaf h po0_29) (fun h => pleaf h po0_30)))))) (fun h => zbif h (fun h => zbif h (fun h => zbif h (fun h => zbif h (fun h => pleaf h po0_33) (fun h => pleaf h po0_36)) (fun h => zbif h (fun h => pleaf h po0_39) (fun h => pleaf h po0_40))) (fun h => zbif h (fun h => zbif h (fun h => pleaf h po0_43) (fun h => pleaf h po0_46)) (fun h => zbif h (fun h => pleaf h po0_48) (fun h => zbif h (fun h => pleaf h po0_50) (fun h => pleaf h po0_51))))) (fun h => zbif h (fun h => zbif h (fun h => zbif h (fun h => pleaf h po0_52) (fun h => pleaf h po0_53)) (fun h => zbif h (fun h => pleaf h po0_54) (fun h => pleaf h po0_55))) (fun h => zbif h (fun h => zbif h (fun h => pleaf h po0_58) (fun h => pleaf h po0_59)) (fun h => zbif h (fun h => pleaf h po0_60) (fun h => zbif h (fun h => pleaf h po0_61) (fun h => pleaf h po0_64)))))))
theorem po1_0 : zSiteOK pInfo pI1 (pHd 1 0) 0 (.inl (z_aload 0 1)) := zs_p (ok_aload_n (inf := pI1) dX11_putWider_0 rfl)
theorem po1_1 : zSiteOK pInfo pI1 (pHd 1 1) 1 (.inl (z_getR 11 0 4)) := zs_p (ok_getR (inf := pI1) (C := RX11) (T := TX11) (N := 1) dX11_putWider_1 rfl (by decide) in_X11 (by decide) rfl rfl q621 rfl)
theorem po1_4 : zSiteOK pInfo pI1 (pHd 1 4) 4 (.inl (z_cstX 18 7)) := zs_p (ok_cstX (inf := pI1) dX11_putWider_4 rfl rfl (by decide) (by decide) q324 q338)
theorem po1_7 : zSiteOK pInfo pI1 (pHd 1 7) 7 (.inl (z_astore 4 9)) := zs_p (ok_astore (inf := pI1) dX11_putWider_7)
theorem po1_9 : zSiteOK pInfo pI1 (pHd 1 9) 9 (.inl (z_aload 4 11)) := zs_p (ok_aload (inf := pI1) dX11_putWider_9)
theorem po1_11 : zSiteOK pInfo pI1 (pHd 1 11) 11 (.inl (z_iload 1 12)) := zs_p (ok_iload_n (inf := pI1) dX11_putWider_11 rfl)
theorem po1_12 : zSiteOK pInfo pI1 (pHd 1 12) 12 (.inl (z_lload 2 13)) := zs_p (ok_lload_n (inf := pI1) dX11_putWider_12 rfl)
theorem po1_13 : zSiteOK pInfo pI1 (pHd 1 13) 13 (.inl (z_l2i 14)) := zs_p (ok_l2i (inf := pI1) dX11_putWider_13)
theorem po1_14 : zSiteOK pInfo pI1 (pHd 1 14) 14 (.inl (z_iast 50 15)) := zs_p (ok_iast50 (inf := pI1) dX11_putWider_14)
theorem po1_15 : zSiteOK pInfo pI1 (pHd 1 15) 15 (.inl (z_goto 34)) := zs_p (ok_goto (inf := pI1) dX11_putWider_15 (by decide))
theorem po1_18 : zSiteOK pInfo pI1 (pHd 1 18) 18 (.inl (z_astx 4 20)) := zs_p (ok_astx (inf := pI1) dX11_putWider_18)
theorem po1_20 : zSiteOK pInfo pI1 (pHd 1 20) 20 (.inl (z_aload 0 21)) := zs_p (ok_aload_n (inf := pI1) dX11_putWider_20 rfl)
theorem po1_21 : zSiteOK pInfo pI1 (pHd 1 21) 21 (.inl (z_getR 11 0 24)) := zs_p (ok_getR (inf := pI1) (C := RX11) (T := TX11) (N := 1) dX11_putWider_21 rfl (by decide) in_X11 (by decide) rfl rfl q621 rfl)
theorem po1_24 : zSiteOK pInfo pI1 (pHd 1 24) 24 (.inl (z_cast 51 27)) := zs_p (ok_cast51 (inf := pI1) dX11_putWider_24 q339)
theorem po1_27 : zSiteOK pInfo pI1 (pHd 1 27) 27 (.inl (z_astore 5 29)) := zs_p (ok_astore (inf := pI1) dX11_putWider_27)
theorem po1_29 : zSiteOK pInfo pI1 (pHd 1 29) 29 (.inl (z_aload 5 31)) := zs_p (ok_aload (inf := pI1) dX11_putWider_29)
theorem po1_31 : zSiteOK pInfo pI1 (pHd 1 31) 31 (.inl (z_iload 1 32)) := zs_p (ok_iload_n (inf := pI1) dX11_putWider_31 rfl)
theorem po1_32 : zSiteOK pInfo pI1 (pHd 1 32) 32 (.inl (z_lload 2 33)) := zs_p (ok_lload_n (inf := pI1) dX11_putWider_32 rfl)
theorem po1_33 : zSiteOK pInfo pI1 (pHd 1 33) 33 (.inl (z_last 34)) := zs_p (ok_last (inf := pI1) dX11_putWider_33)
theorem po1_34 : zSiteOK pInfo pI1 (pHd 1 34) 34 (.inr (.inr 1)) := zs_r (show zROK pI1 34 1 from ⟨dX11_putWider_34, rfl⟩)
theorem pok1 (pc : Nat) (i : ZI) : pT1 pc = some i → zSiteOK pInfo pI1 (pHd 1 pc) pc i := (fun h => zbif h (fun h => zbif h (fun h => zbif h (fun h => zbif h (fun h => pleaf h po1_0) (fun h => pleaf h po1_1)) (fun h => zbif h (fun h => pleaf h po1_4) (fun h => zbif h (fun h => pleaf h po1_7) (fun h => pleaf h po1_9)))) (fun h => zbif h (fun h => zbif h (fun h => pleaf h po1_11) (fun h => pleaf h po1_12)) (fun h => zbif h (fun h => pleaf h po1_13) (fun h => zbif h (fun h => pleaf h po1_14) (fun h => pleaf h po1_15))))) (fun h => zbif h (fun h => zbif h (fun h => zbif h (fun h => pleaf h po1_18) (fun h => pleaf h po1_20)) (fun h => zbif h (fun h => pleaf h po1_21) (fun h => zbif h (fun h => pleaf h po1_24) (fun h => pleaf h po1_27)))) (fun h => zbif h (fun h => zbif h (fun h => pleaf h po1_29) (fun h => pleaf h po1_31)) (fun h => zbif h (fun h => pleaf h po1_32) (fun h => zbif h (fun h => pleaf h po1_33) (fun h => pleaf h po1_34))))))
theorem pAllSites (k pc : Nat) (i : ZI) : pTab k pc = some i → zSiteOK pInfo (pInfo k) (pHd k pc) pc i := (fun h => zbif h (fun h => zleafK (pc := pc) (P := fun k => zSiteOK pInfo (pInfo k) (pHd k pc) pc i) h (pok0 pc i)) (fun h => zleafK (pc := pc) (P := fun k => zSiteOK pInfo (pInfo k) (pHd k pc) pc i) h (pok1 pc i)))
theorem pTabLt (k pc : Nat) (i : ZI) : pTab k pc = some i → k < 2 := (fun h => zbif h (fun h => zleafK (pc := pc) (P := fun k => k < 2) h (fun _ => Nat.le_of_ble_eq_true rfl)) (fun h => zleafK (pc := pc) (P := fun k => k < 2) h (fun _ => Nat.le_of_ble_eq_true rfl)))
theorem pInfoOK : ∀ k, k < 2 → (((pInfo k).2.2.1 = pMl k ∧ plainName (pInfo k).2.1.cls = true ∧ pMl k ≤ 20) ∧ zMain (pInfo k) = false ∧ 27 + zLev (pInfo k) ≤ 29) := by decide +kernel
theorem pIOK {k pc : Nat} {i : ZI} (h : zP.1 k pc = some i) : zIOK zP 29 pInfo k := by
  have h0 := pInfoOK k (pTabLt k pc i h)
  exact ⟨h0.1.1, h0.1.2.1, h0.1.2.2, by decide, (fun hm => by rw [h0.2.1] at hm; cases hm), fun _ => h0.2.2⟩
theorem zSP : ∀ n, zBody zP 29 pInfo n := zSound zP 29 pInfo (fun k pc i h => pIOK h) (fun k pc i h => pAllSites k pc i h) q844

