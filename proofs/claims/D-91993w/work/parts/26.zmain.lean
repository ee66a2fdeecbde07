/-! Z is sound: what Z computes, the machine does -/
set_option maxRecDepth 100000
def zROK (inf : ZInf) (pc j : Nat) : Prop := match j with
  | 0 => decode inf.1 pc = .ok (.ireturn, 1) ∧ inf.2.2.2.1 = some .int
  | 1 => decode inf.1 pc = .ok (.return_, 1) ∧ inf.2.2.2.1 = none
  | 2 => decode inf.1 pc = .ok (.athrow, 1) ∧ inf.2.2.2.2 = []
  | 3 => decode inf.1 pc = .ok (.ireturn, 1) ∧ inf.2.2.2.1 = some .boolean
  | 4 => decode inf.1 pc = .ok (.lreturn, 1) ∧ inf.2.2.2.1 = some .long
  | 6 => decode inf.1 pc = .ok (.ireturn, 1) ∧ (inf.2.2.2.1 = some .byte ∨ inf.2.2.2.1 = some .char)
  | _ => decode inf.1 pc = .ok (.areturn, 1) ∧ ∃ rt, inf.2.2.2.1 = some rt ∧ ((∃ n, rt = .object n) ∨ ∃ t, rt = .array t)
/-- where a thrown one is caught: by the first row of the table -/
def zHOK (inf : ZInf) (pc q : Nat) : Prop := ∃ (x : ExceptionTableEntry) (suf : List ExceptionTableEntry), tableOf inf.2.2.2.2 = x :: suf ∧ covers x pc = true ∧ x.catchType ≠ 0 ∧ x.handlerPc = q ∧ Cond.classLink inf.2.1.cls x.catchType zWr ∈ lw_all
def zSiteOK (zI : Nat → ZInf) (inf : ZInf) (hdl : Option Nat) (pc : Nat) (i : ZI) : Prop := match i with
  | .inl f => zOK inf pc f
  | .inr (.inl (p, sel)) => zCOK zI inf pc p sel ∧ (hdl ≠ none → zCOKT zI inf pc sel) ∧ (hdl = some 0 → inf.2.2.2.2 = []) ∧ ∀ q, hdl = some (q + 1) → zHOK inf pc q
  | .inr (.inr j) => zROK inf pc j
def zIOK (G : ZP) (b : Nat) (zI : Nat → ZInf) (k : Nat) : Prop := (zI k).2.2.1 = G.2.1 k ∧ plainName (zI k).2.1.cls = true ∧ G.2.1 k ≤ 20 ∧ 8 ≤ b ∧ (zMain (zI k) = true → 40 ≤ b) ∧ (zSlot (zI k) = true → 27 + zLev (zI k) ≤ b)
def zBody (G : ZP) (b : Nat) (zI : Nat → ZInf) (n : Nat) : Prop := ∀ (d k pc : Nat) (ls st : List Value) (z : ZH) (res : Option Value ⊕ Value) (z' : ZH), ev G n d k pc ls st z = some (res, z') → (zuc z ≤ zuc z' ∧ zus z ≤ zus z') ∧
  ∀ (p : Program) (l : Launch) (e : Env) (s : State) (m : MethodId) (args : Array Value) (below : List Frame) (meth : Method) (c : Code) (H : Heap) (locs : List Loc) (cells slots : Nat) (X : ZX) (w0 ws : va_W) (lsm : Array Slot) (stm : List Value) (mc ms : Nat),
    zCtx X (va_A w0 s.heap.size) p l s m args meth c (zRm b d mc ms) (zI k) → c.exceptionTable.toList = tableOf (zI k).2.2.2.2 → meth.sig.returnType = (zI k).2.2.2.1 → zInv X (va_A w0 s.heap.size) s (zI k).2.2.1 w0 H locs ws z ls st lsm stm → cells + (zuc z' - zuc z) = mc → slots + (zus z' - zus z) = ms →
    W p l e (zRm b d mc ms) s m args below meth c H locs cells slots (zMQ below X w0 s res z' args mc ms) (F0 m pc lsm stm)
/-- the locals at a method's entry -/
theorem zent_len {X : ZX} {ws : va_W} : ∀ {as as' : List Value}, zSR X ws as as' → (zent as).length = (lg_sl as').length
  | [], [], _ => rfl
  | .long x :: vs, w :: us, h => by
    have h1 : w = .long x := h.1
    subst h1
    have e : lg_sl (Value.long x :: us) = Slot.val (.long x) :: Slot.second :: lg_sl us := rfl
    rw [e]
    exact congrArg (· + 2) (zent_len h.2)
  | .int x :: vs, w :: us, h => by
    have h1 : w = .int x := h.1
    subst h1
    have e : lg_sl (Value.int x :: us) = Slot.val (.int x) :: lg_sl us := rfl
    rw [e]
    exact congrArg (· + 1) (zent_len h.2)
  | .null :: vs, w :: us, h => by
    have h1 : w = .null := h.1
    subst h1
    have e : lg_sl (Value.null :: us) = Slot.val (.null) :: lg_sl us := rfl
    rw [e]
    exact congrArg (· + 1) (zent_len h.2)
  | .ref x :: vs, w :: us, h => by
    obtain ⟨a, rfl, -⟩ := h.1
    have e : lg_sl (Value.ref a :: us) = Slot.val (.ref a) :: lg_sl us := rfl
    rw [e]
    exact congrArg (· + 1) (zent_len h.2)
  | .float x :: vs, w :: us, h => by
    have e : lg_sl (w :: us) = Slot.val w :: lg_sl us := by
      rcases h.1 with rfl | ⟨a, rfl⟩ <;> rfl
    rw [e]
    exact congrArg (· + 1) (zent_len h.2)
  | .double x :: vs, w :: us, h => h.1.elim
  | .retAddr x :: vs, w :: us, h => h.1.elim
  | [], _ :: _, h => h.elim
  | _ :: _, [], h => h.elim
theorem zents_f {w : Value} {us : List Value} (off : Nat) (h : w = .null ∨ ∃ a : Nat, w = .ref a) : (off + 0, w) ∈ lv_args off (w :: us) := by
  rcases h with rfl | ⟨a, rfl⟩
  · exact List.mem_cons_self
  · exact List.mem_cons_self
theorem zents_g {w : Value} {us : List Value} (off : Nat) (h : w = .null ∨ ∃ a : Nat, w = .ref a) {x : Nat × Value} (hx : x ∈ lv_args (off + 1) us) : x ∈ lv_args off (w :: us) := by
  rcases h with rfl | ⟨a, rfl⟩
  · exact List.mem_cons_of_mem _ hx
  · exact List.mem_cons_of_mem _ hx
theorem zent_at {X : ZX} {ws : va_W} : ∀ {as as' : List Value} (off : Nat), zSR X ws as as' → ∀ (i : Nat) (v : Value), (zent as)[i]? = some v → v = zdum ∨ ∃ w, zVR X ws v w ∧ (off + i, w) ∈ lv_args off as'
  | [], [], _, _, i, v, hi => by cases hi
  | .long x :: vs, w :: us, off, h, i, v, hi => by
    have h1 : w = .long x := h.1
    subst h1
    match i, hi with
    | 0, hi => cases hi; exact Or.inr ⟨_, rfl, List.mem_cons_self⟩
    | 1, hi => cases hi; exact Or.inl rfl
    | i + 2, hi =>
      rcases zent_at (off + 2) h.2 i v hi with e | ⟨w, h3, h4⟩
      · exact Or.inl e
      · refine Or.inr ⟨w, h3, List.mem_cons_of_mem _ ?_⟩
        rw [show off + (i + 2) = off + 2 + i from by omega]
        exact h4
  | .int x :: vs, w :: us, off, h, i, v, hi => by
    have h1 : w = .int x := h.1
    subst h1
    match i, hi with
    | 0, hi => cases hi; exact Or.inr ⟨_, rfl, List.mem_cons_self⟩
    | i + 1, hi =>
      rcases zent_at (off + 1) h.2 i v hi with e | ⟨w, h3, h4⟩
      · exact Or.inl e
      · refine Or.inr ⟨w, h3, List.mem_cons_of_mem _ ?_⟩
        rw [show off + (i + 1) = off + 1 + i from by omega]
        exact h4
  | .null :: vs, w :: us, off, h, i, v, hi => by
    have h1 : w = .null := h.1
    subst h1
    match i, hi with
    | 0, hi => cases hi; exact Or.inr ⟨_, rfl, List.mem_cons_self⟩
    | i + 1, hi =>
      rcases zent_at (off + 1) h.2 i v hi with e | ⟨w, h3, h4⟩
      · exact Or.inl e
      · refine Or.inr ⟨w, h3, List.mem_cons_of_mem _ ?_⟩
        rw [show off + (i + 1) = off + 1 + i from by omega]
        exact h4
  | .ref x :: vs, w :: us, off, h, i, v, hi => by
    obtain ⟨a, rfl, ha⟩ := h.1
    match i, hi with
    | 0, hi => cases hi; exact Or.inr ⟨_, ⟨a, rfl, ha⟩, List.mem_cons_self⟩
    | i + 1, hi =>
      rcases zent_at (off + 1) h.2 i v hi with e | ⟨w, h3, h4⟩
      · exact Or.inl e
      · refine Or.inr ⟨w, h3, List.mem_cons_of_mem _ ?_⟩
        rw [show off + (i + 1) = off + 1 + i from by omega]
        exact h4
  | .float x :: vs, w :: us, off, h, i, v, hi => by
    have hw : w.category = 1 := by rcases h.1 with rfl | ⟨a, rfl⟩ <;> rfl
    match i, hi with
    | 0, hi => cases hi; exact Or.inr ⟨w, h.1, zents_f off h.1⟩
    | i + 1, hi =>
      rcases zent_at (off + 1) h.2 i v hi with e | ⟨w1, h3, h4⟩
      · exact Or.inl e
      · refine Or.inr ⟨w1, h3, ?_⟩
        rw [show off + (i + 1) = off + 1 + i from by omega]
        exact zents_g off h.1 h4
  | .double x :: vs, w :: us, _, h, _, _, _ => h.1.elim
  | .retAddr x :: vs, w :: us, _, h, _, _, _ => h.1.elim
  | [], _ :: _, _, h, _, _, _ => h.elim
  | _ :: _, [], _, h, _, _, _ => h.elim
theorem zLR_entry {X : ZX} {ws : va_W} {as as' : List Value} {nL : Nat} (h : zSR X ws as as') (hfit : (zent as).length ≤ nL) : zLR X ws nL (zpad (zent as) nL) (lg_sl as' ++ List.replicate (nL - (lg_sl as').length) Slot.unset).toArray := by
  have hle : (lg_sl as').length ≤ nL := by rw [← zent_len h]; exact hfit
  have hl := lv_entry as' (n := nL) hle
  refine ⟨⟨hl.1, hl.2.1, by unfold zpad; rw [List.length_append, List.length_replicate]; omega⟩, fun i v hi => ?_⟩
  unfold zpad at hi
  by_cases hlt : i < (zent as).length
  · rw [List.getElem?_append_left hlt] at hi
    rcases zent_at 0 h i v hi with e | ⟨w, h3, h4⟩
    · exact Or.inl e
    · refine Or.inr ⟨w, h3, ?_⟩
      rw [Nat.zero_add] at h4
      exact hl.2.2 _ h4
  · rw [List.getElem?_append_right (by omega), List.getElem?_replicate] at hi
    split at hi
    · cases hi; exact Or.inl rfl
    · cases hi
/-- a method out of its body -/
theorem zEnter {G : ZP} {b : Nat} {zI : Nat → ZInf} {n : Nat} (ih : zBody G b zI n) {l : Launch} (hfl : l.flags = flags0) {k d : Nat} (hk : zIOK G b zI k) {as : List Value} {z z' : ZH} {res : Option Value ⊕ Value} (hev : ev G n d k 0 (zpad (zent as) (G.2.1 k)) [] z = some (res, z')) (hfit : (zent as).length ≤ G.2.1 k) (X : ZX) (ws : va_W) (sz : Nat) (as' : List Value) (hH : zHR X ws z) (has : zSR X ws as as') (hD : va_D (fun _ => True) ws) :
    MetFree l (zI k).2.1 (headSpec (zws (zI k)) (zRm b d (zuc z' - zuc z) (zus z' - zus z))) (zPc X ws sz as') (fun _ _ _ _ _ => True) (zFin X ws sz res z' (zuc z' - zuc z) (zus z' - zus z)) := by
  obtain ⟨hk1, hk2, hk3, hb8, hbm, hbs⟩ := hk
  have key := (ih d k 0 _ [] z res z' hev).2
  generalize hinf : zI k = inf at key hk1 hk2 hbm hbs ⊢
  obtain ⟨cc, y, L, rt, hh⟩ := inf
  dsimp only at key hk1 hk2 ⊢
  subst hk1
  have body : ∀ (p : Program) (e : Env) (s : State) (m : MethodId) (args : Array Value) (below : List Frame) (meth : Method) (c : Code) (s₁ : State), BodyLoose p l y (headSpec (zws (cc, y, G.2.1 k, rt, hh)) (zRm b d (zuc z' - zuc z) (zus z' - zus z))) cc (G.2.1 k) rt e s m args below meth c s₁ → c.maxLocals = G.2.1 k → c.exceptionTable.toList = tableOf hh → (∀ w ∈ lw_all, w.before args s = true) → zPc X ws sz as' args s →
      W p l e (zRm b d (zuc z' - zuc z) (zus z' - zus z)) s m args below meth c s.heap [] 0 0 (zMQ below X ws s res z' args (zuc z' - zuc z) (zus z' - zus z)) (entryFrame m args (G.2.1 k)) ∧ sz = s.heap.size := by
    intro p e s m args below meth c s₁ B hml htab hts hv
    obtain ⟨rfl, hsz, hP, hSx⟩ := hv
    refine ⟨?_, hsz.symm⟩
    subst hsz
    rw [lg_entry_eq]
    refine key p l e s m as'.toArray below meth c s.heap [] 0 0 X ws ws _ [] _ _ ⟨B.exec, B.bytes, hml, findClass_of_methodNamed B.named, hts, hSx, fun q h => Or.inr h, (name_of_methodNamed B.named B.method).1, (by show 8 ≤ d + b; omega), (by show 400 ≤ 40 * d + 400 * b; omega), B.notSynchronized, hfl, fun h9 => ⟨by have := hbm h9; show 40 ≤ d + b; omega, by have := hbm h9; show 16000 ≤ 40 * d + 400 * b; omega⟩, fun h9 => ⟨by have h8 := hbs h9; show 27 + zLev _ ≤ d + b; omega, by have h8 := hbs h9; show 400 * (27 + zLev _) ≤ 40 * d + 400 * b; omega⟩, htab⟩ htab B.returns ⟨hH, hP, hD.self, va_S.rf, zExt.rf, zLR_entry has hfit, trivial⟩ (Nat.zero_add _) (Nat.zero_add _)
  cases hh with
  | nil =>
    refine MetFree.of_bodyS (code := cc) (maxLocals := G.2.1 k) (ret := rt) hk2 ?_ ?_
    · intro args s m h hn
      obtain ⟨meth, c, h1, h2, h3, h4, h5, h6, -, -⟩ := Cond.code_spec hn (atoms_spec (ws := ws_ y cc (G.2.1 k) rt) h _ List.mem_cons_self)
      exact ⟨meth, c, h1, h2, h3, h4, h5, h6⟩
    · intro p e s m args below meth c s₁ B hml hP _
      have hh0 : s₁.heap = s.heap := by rw [B.state]; rfl
      have hts0 := atoms_spec (ws := ws_ y cc (G.2.1 k) rt) B.pre
      have htab : c.exceptionTable.toList = tableOf [] := by
        obtain ⟨meth9, c9, h1, h2, -, -, -, -, h7, -⟩ := Cond.code_spec B.named (hts0 _ List.mem_cons_self)
        cases Option.some.inj (h1.symm.trans B.method)
        cases Option.some.inj (h2.symm.trans (Stand.of_body B).code)
        rw [Array.isEmpty_iff.mp h7]
        rfl
      obtain ⟨hw, hsz⟩ := body p e s m args below meth c s₁ B hml htab (fun w hw => hts0 w (List.mem_cons_of_mem _ hw)) hP
      obtain ⟨t, a1, o, b1, b2, b3⟩ := hw s₁ hh0 (Stand.of_body B)
      rw [hsz]
      exact ⟨t, o, a1, b1, b2, b3⟩
  | cons h9 t9 =>
    refine MetFree.of_bodyS (code := cc) (maxLocals := G.2.1 k) (ret := rt) hk2 ?_ ?_
    · intro args s m h hn
      obtain ⟨m9, meth, c, hn9, h1, h2, h3, h4, -, h5, h6, -⟩ := Cond.codeWith_spec (atoms_spec (ws := wsW_ y cc (G.2.1 k) rt (h9 :: t9)) h _ List.mem_cons_self)
      cases hn.symm.trans hn9
      exact ⟨meth, c, h1, h2, h3, h4, h5, h6⟩
    · intro p e s m args below meth c s₁ B hml hP _
      have hh0 : s₁.heap = s.heap := by rw [B.state]; rfl
      have hts0 := atoms_spec (ws := wsW_ y cc (G.2.1 k) rt (h9 :: t9)) B.pre
      have htab : c.exceptionTable.toList = tableOf (h9 :: t9) := vx_table (x := y) B (hts0 _ List.mem_cons_self)
      obtain ⟨hw, hsz⟩ := body p e s m args below meth c s₁ B hml htab (fun w hw => hts0 w (List.mem_cons_of_mem _ hw)) hP
      obtain ⟨t, a1, o, b1, b2, b3⟩ := hw s₁ hh0 (Stand.of_body B)
      rw [hsz]
      exact ⟨t, o, a1, b1, b2, b3⟩
/-- a stack of arguments over the rest -/
theorem zSR_split {X : ZX} {ws : va_W} {as rest stm : List Value} (h : zSR X ws (as.reverse ++ rest) stm) : ∃ as' restm, stm = as'.reverse ++ restm ∧ zSR X ws as as' ∧ zSR X ws rest restm := by
  have key : ∀ (a : List Value) (stm : List Value), zSR X ws (a ++ rest) stm → ∃ a' restm, stm = a' ++ restm ∧ zSR X ws a a' ∧ zSR X ws rest restm := by
    intro a
    induction a with
    | nil => intro stm h; exact ⟨[], stm, rfl, trivial, h⟩
    | cons v a ih =>
      intro stm h
      obtain ⟨w, u, rfl, h1, h2⟩ := zSR_v h
      obtain ⟨a', restm, rfl, h3, h4⟩ := ih u h2
      exact ⟨w :: a', restm, rfl, ⟨h1, h3⟩, h4⟩
  have rev : ∀ (a b : List Value), zSR X ws a b → zSR X ws a.reverse b.reverse := by
    intro a
    induction a with
    | nil => intro b h; cases b with
      | nil => exact trivial
      | cons _ _ => exact h.elim
    | cons v a ih =>
      intro b h
      obtain ⟨w, u, rfl, h1, h2⟩ := zSR_v h
      rw [List.reverse_cons, List.reverse_cons]
      exact (ih u h2).app ⟨h1, trivial⟩
  obtain ⟨a', restm, e, h1, h2⟩ := key _ _ h
  exact ⟨a'.reverse, restm, by rw [List.reverse_reverse]; exact e, by have := rev _ _ h1; rwa [List.reverse_reverse] at this, h2⟩
section ZEND2
variable {p : Program} {l : Launch} {e : Env} {R : Room} {s : State} {m : MethodId} {args : Array Value} {below : List Frame} {meth : Method} {c : Code} {H : Heap} {locs : List Loc} {cells slots : Nat} {X : ZX} {w0 ws : va_W} {ls : List Value} {lsm : Array Slot} {stm : List Value} {inf : ZInf} {pc : Nat} {z : ZH}
theorem zfin {v v' : Option Value} {st : List Value} {nL : Nat} (I : zInv X (va_A w0 s.heap.size) s nL w0 H locs ws z ls st lsm stm) (hor : zOR X ws v v') : ∀ t : State, t.heap = H → s.WarmedH t.vm → zQr X w0 s.heap.size z v args s (.returned v') t := by
  intro t ht _
  obtain ⟨hH, hP, hD, hS, hE, hL, hs⟩ := I
  exact ⟨⟨v', ws, rfl, hor, hH, hE, by rw [ht]; exact hP, hD⟩, hS.F ht⟩
theorem zend_i {a : Int32} (hR : zROK inf pc 0) (C : zCtx X (va_A w0 s.heap.size) p l s m args meth c R inf) (hr : meth.sig.returnType = inf.2.2.2.1) (I : zInv X (va_A w0 s.heap.size) s inf.2.2.1 w0 H locs ws z ls [.int a] lsm stm) : W p l e R s m args below meth c H locs cells slots (zMQ below X w0 s (.inl (some (.int a))) z args cells slots) (F0 m pc lsm stm) := by
  obtain ⟨hx, hb, hml, hown, hts, hSx, hA, hnm, hfr, hlo, hlk, hfl⟩ := C
  have I0 := I
  obtain ⟨hH, hP, hD, hS, hE, hL, hs⟩ := I
  obtain ⟨u1, rfl, hs1⟩ := zSR_i hs
  cases u1 with
  | cons _ _ => exact hs1.elim
  | nil =>
    exact W.iret hx hb (hr.trans hR.2) (zfin (v := some (.int a)) I0 rfl) hS.2.2 hR.1 hlk
theorem zend_v  (hR : zROK inf pc 1) (C : zCtx X (va_A w0 s.heap.size) p l s m args meth c R inf) (hr : meth.sig.returnType = inf.2.2.2.1) (I : zInv X (va_A w0 s.heap.size) s inf.2.2.1 w0 H locs ws z ls [] lsm stm) : W p l e R s m args below meth c H locs cells slots (zMQ below X w0 s (.inl none) z args cells slots) (F0 m pc lsm stm) := by
  obtain ⟨hx, hb, hml, hown, hts, hSx, hA, hnm, hfr, hlo, hlk, hfl⟩ := C
  have I0 := I
  obtain ⟨hH, hP, hD, hS, hE, hL, hs⟩ := I
  cases stm with
  | cons _ _ => exact hs.elim
  | nil =>
    exact W.vret hx hb (hr.trans hR.2) (zfin (v := none) I0 trivial) hS.2.2 hR.1 hlk
theorem zend_z {a : Int32} (hR : zROK inf pc 3) (hc : a = 0 ∨ a = 1) (C : zCtx X (va_A w0 s.heap.size) p l s m args meth c R inf) (hr : meth.sig.returnType = inf.2.2.2.1) (I : zInv X (va_A w0 s.heap.size) s inf.2.2.1 w0 H locs ws z ls [.int a] lsm stm) : W p l e R s m args below meth c H locs cells slots (zMQ below X w0 s (.inl (some (.int a))) z args cells slots) (F0 m pc lsm stm) := by
  obtain ⟨hx, hb, hml, hown, hts, hSx, hA, hnm, hfr, hlo, hlk, hfl⟩ := C
  have I0 := I
  obtain ⟨hH, hP, hD, hS, hE, hL, hs⟩ := I
  obtain ⟨u1, rfl, hs1⟩ := zSR_i hs
  cases u1 with
  | cons _ _ => exact hs1.elim
  | nil =>
    exact W.zret (ty := .boolean) hx hb (hr.trans hR.2) (by rcases hc with rfl | rfl <;> decide) (zfin (v := some (.int a)) I0 rfl) hS.2.2 hR.1 hlk
theorem zch8 : ∀ k, k < 128 → narrow .byte (.int (Int32.ofNat k)) = .int (Int32.ofNat k) := by decide +kernel
theorem zchc : ∀ k, k < 128 → narrow .char (.int (Int32.ofNat k)) = .int (Int32.ofNat k) := by decide +kernel
theorem zend_c {a : Int32} (hR : zROK inf pc 6) (hc : 0 ≤ a ∧ a.toNatClampNeg < 128) (C : zCtx X (va_A w0 s.heap.size) p l s m args meth c R inf) (hr : meth.sig.returnType = inf.2.2.2.1) (I : zInv X (va_A w0 s.heap.size) s inf.2.2.1 w0 H locs ws z ls [.int a] lsm stm) : W p l e R s m args below meth c H locs cells slots (zMQ below X w0 s (.inl (some (.int a))) z args cells slots) (F0 m pc lsm stm) := by
  obtain ⟨hx, hb, hml, hown, hts, hSx, hA, hnm, hfr, hlo, hlk, hfl⟩ := C
  have I0 := I
  obtain ⟨hH, hP, hD, hS, hE, hL, hs⟩ := I
  obtain ⟨u1, rfl, hs1⟩ := zSR_i hs
  cases u1 with
  | cons _ _ => exact hs1.elim
  | nil =>
    have e : Int32.ofNat a.toNatClampNeg = a := Int32.ofNat_toNatClampNeg a hc.1
    rcases hR.2 with hR2 | hR2
    · exact W.zret (ty := .byte) hx hb (hr.trans hR2) (by have h9 := zch8 _ hc.2; rw [e] at h9; exact h9) (zfin (v := some (.int a)) I0 rfl) hS.2.2 hR.1 hlk
    · exact W.zret (ty := .char) hx hb (hr.trans hR2) (by have h9 := zchc _ hc.2; rw [e] at h9; exact h9) (zfin (v := some (.int a)) I0 rfl) hS.2.2 hR.1 hlk
theorem zend_l {a : Int64} (hR : zROK inf pc 4) (C : zCtx X (va_A w0 s.heap.size) p l s m args meth c R inf) (hr : meth.sig.returnType = inf.2.2.2.1) (I : zInv X (va_A w0 s.heap.size) s inf.2.2.1 w0 H locs ws z ls [.long a] lsm stm) : W p l e R s m args below meth c H locs cells slots (zMQ below X w0 s (.inl (some (.long a))) z args cells slots) (F0 m pc lsm stm) := by
  obtain ⟨hx, hb, hml, hown, hts, hSx, hA, hnm, hfr, hlo, hlk, hfl⟩ := C
  have I0 := I
  obtain ⟨hH, hP, hD, hS, hE, hL, hs⟩ := I
  obtain ⟨u1, rfl, hs1⟩ := zSR_l hs
  cases u1 with
  | cons _ _ => exact hs1.elim
  | nil =>
    exact W.lret hx hb (hr.trans hR.2) (zfin (v := some (.long a)) I0 rfl) hS.2.2 hR.1 hlk
theorem zend_a {q : Nat} {rt : FieldType} (hd : decode inf.1 pc = .ok (.areturn, 1)) (hrt : inf.2.2.2.1 = some rt) (hrt2 : (∃ n, rt = .object n) ∨ ∃ t, rt = .array t) (C : zCtx X (va_A w0 s.heap.size) p l s m args meth c R inf) (hr : meth.sig.returnType = inf.2.2.2.1) (I : zInv X (va_A w0 s.heap.size) s inf.2.2.1 w0 H locs ws z ls [.ref q] lsm stm) : W p l e R s m args below meth c H locs cells slots (zMQ below X w0 s (.inl (some (.ref q))) z args cells slots) (F0 m pc lsm stm) := by
  obtain ⟨hx, hb, hml, hown, hts, hSx, hA, hnm, hfr, hlo, hlk, hfl⟩ := C
  have I0 := I
  obtain ⟨hH, hP, hD, hS, hE, hL, hs⟩ := I
  obtain ⟨a0, u1, rfl, h0, hs1⟩ := zSR_r hs
  cases u1 with
  | cons _ _ => exact hs1.elim
  | nil =>
    exact W.aret hx hb (hr.trans hrt) hrt2 (Or.inr ⟨a0, rfl⟩) (zfin (v := some (.ref q)) I0 (show zVR X ws (.ref q) (.ref a0) from ⟨a0, rfl, h0⟩)) hS.2.2 hd hlk
theorem zend_n {rt : FieldType} (hd : decode inf.1 pc = .ok (.areturn, 1)) (hrt : inf.2.2.2.1 = some rt) (hrt2 : (∃ n, rt = .object n) ∨ ∃ t, rt = .array t) (C : zCtx X (va_A w0 s.heap.size) p l s m args meth c R inf) (hr : meth.sig.returnType = inf.2.2.2.1) (I : zInv X (va_A w0 s.heap.size) s inf.2.2.1 w0 H locs ws z ls [.null] lsm stm) : W p l e R s m args below meth c H locs cells slots (zMQ below X w0 s (.inl (some .null)) z args cells slots) (F0 m pc lsm stm) := by
  obtain ⟨hx, hb, hml, hown, hts, hSx, hA, hnm, hfr, hlo, hlk, hfl⟩ := C
  have I0 := I
  obtain ⟨hH, hP, hD, hS, hE, hL, hs⟩ := I
  obtain ⟨u1, rfl, hs1⟩ := zSR_n hs
  cases u1 with
  | cons _ _ => exact hs1.elim
  | nil =>
    exact W.aret hx hb (hr.trans hrt) hrt2 (Or.inl rfl) (zfin (v := some .null) I0 (show zVR X ws .null .null from rfl)) hS.2.2 hd hlk
theorem zend_t {q : Nat} {st : List Value} (hR : zROK inf pc 2) (hc : zcls z q = 14) (htab : c.exceptionTable.toList = tableOf inf.2.2.2.2) (C : zCtx X (va_A w0 s.heap.size) p l s m args meth c R inf) (hr : meth.sig.returnType = inf.2.2.2.1) (I : zInv X (va_A w0 s.heap.size) s inf.2.2.1 w0 H locs ws z ls (.ref q :: st) lsm stm) : W p l e R s m args below meth c H locs cells slots (zMQ below X w0 s (.inr (.ref q)) z args cells slots) (F0 m pc lsm stm) := by
  obtain ⟨hx, hb, hml, hown, hts, hSx, hA, hnm, hfr, hlo, hlk, hfl⟩ := C
  obtain ⟨hH, hP, hD, hS, hE, hL, hs⟩ := I
  obtain ⟨a0, u1, rfl, h0, hs1⟩ := zSR_r hs
  obtain ⟨hr1, e0, he0, hE0⟩ := hH.at (by omega) (by omega) h0
  obtain ⟨fs, rfl, hl1, hfs⟩ := zER_obj hE0 hc (by omega)
  obtain ⟨r9, g1, cell, g2, g3, g4, g5⟩ := hP _ _ he0
  have hcl : s.vm.findClass zWr = some cell.cls := by
    rw [g3]
    exact (hSx.1.1 14 _ rfl).2.1
  rw [hR.2] at htab
  exact vx_athrow hx hb hR.1 (zT_out (by rw [htab]; intro x hx; cases hx) hlk ⟨hH, hP, hD, hS, hE, hL, ⟨⟨a0, rfl, h0⟩, trivial⟩⟩ g2 g4 hcl)
end ZEND2
/-- a return, or a throw -/
theorem zRet {G : ZP} {inf : ZInf} {pc j : Nat} (hR : zROK inf pc j) {go : ZGo} {d k : Nat} {ls st : List Value} {z : ZH} {res : Option Value ⊕ Value} {z' : ZH} (hG : G.1 k pc = some (.inr (.inr j))) (hev : evS G go d k pc ls st z = some (res, z')) :
    z' = z ∧ ∀ (p : Program) (l : Launch) (e : Env) (R : Room) (s : State) (m : MethodId) (args : Array Value) (below : List Frame) (meth : Method) (c : Code) (H : Heap) (locs : List Loc) (cells slots : Nat) (X : ZX) (w0 ws : va_W) (lsm : Array Slot) (stm : List Value),
    zCtx X (va_A w0 s.heap.size) p l s m args meth c R inf → c.exceptionTable.toList = tableOf inf.2.2.2.2 → meth.sig.returnType = inf.2.2.2.1 → zInv X (va_A w0 s.heap.size) s inf.2.2.1 w0 H locs ws z ls st lsm stm →
    W p l e R s m args below meth c H locs cells slots (zMQ below X w0 s res z args cells slots) (F0 m pc lsm stm) := by
  unfold evS at hev
  rw [hG] at hev
  match j, hR, hev with
  | 0, hR, hev =>
    dsimp only at hev
    split at hev
    · cases hev
      exact ⟨rfl, fun p l e R s m args below meth c H locs cells slots X w0 ws lsm stm C htab hr I => zend_i hR C hr I⟩
    · cases hev
  | 1, hR, hev =>
    dsimp only at hev
    split at hev
    · cases hev
      exact ⟨rfl, fun p l e R s m args below meth c H locs cells slots X w0 ws lsm stm C htab hr I => zend_v hR C hr I⟩
    · cases hev
  | 2, hR, hev =>
    dsimp only at hev
    split at hev
    · split at hev
      · rename_i hc
        cases hev
        exact ⟨rfl, fun p l e R s m args below meth c H locs cells slots X w0 ws lsm stm C htab hr I => zend_t hR hc htab C hr I⟩
      · cases hev
    · cases hev
  | 3, hR, hev =>
    dsimp only at hev
    split at hev
    · split at hev
      · rename_i hc
        cases hev
        exact ⟨rfl, fun p l e R s m args below meth c H locs cells slots X w0 ws lsm stm C htab hr I => zend_z hR hc C hr I⟩
      · cases hev
    · cases hev
  | 4, hR, hev =>
    dsimp only at hev
    split at hev
    · cases hev
      exact ⟨rfl, fun p l e R s m args below meth c H locs cells slots X w0 ws lsm stm C htab hr I => zend_l hR C hr I⟩
    · cases hev
  | 5, hR, hev =>
    obtain ⟨hd, rt, hrt, hrt2⟩ : decode inf.1 pc = .ok (.areturn, 1) ∧ ∃ rt, inf.2.2.2.1 = some rt ∧ ((∃ n, rt = .object n) ∨ ∃ t, rt = .array t) := hR
    simp only at hev
    split at hev
    · cases hev
      exact ⟨rfl, fun p l e R s m args below meth c H locs cells slots X w0 ws lsm stm C htab hr I => zend_a hd hrt hrt2 C hr I⟩
    · cases hev
      exact ⟨rfl, fun p l e R s m args below meth c H locs cells slots X w0 ws lsm stm C htab hr I => zend_n hd hrt hrt2 C hr I⟩
    · cases hev
  | 6, hR, hev =>
    simp only at hev
    split at hev
    · split at hev
      · rename_i hc
        cases hev
        exact ⟨rfl, fun p l e R s m args below meth c H locs cells slots X w0 ws lsm stm C htab hr I => zend_c hR hc C hr I⟩
      · cases hev
    · cases hev
  | j + 7, hR, hev =>
    obtain ⟨hd, rt, hrt, hrt2⟩ : decode inf.1 pc = .ok (.areturn, 1) ∧ ∃ rt, inf.2.2.2.1 = some rt ∧ ((∃ n, rt = .object n) ∨ ∃ t, rt = .array t) := hR
    simp only at hev
    split at hev
    · cases hev
      exact ⟨rfl, fun p l e R s m args below meth c H locs cells slots X w0 ws lsm stm C htab hr I => zend_a hd hrt hrt2 C hr I⟩
    · cases hev
      exact ⟨rfl, fun p l e R s m args below meth c H locs cells slots X w0 ws lsm stm C htab hr I => zend_n hd hrt hrt2 C hr I⟩
    · cases hev
set_option maxHeartbeats 2000000 in
/-- Z IS SOUND -/
theorem zSound (G : ZP) (b : Nat) (zI : Nat → ZInf) (hI : ∀ k pc i, G.1 k pc = some i → zIOK G b zI k) (hSites : ∀ k pc i, G.1 k pc = some i → zSiteOK zI (zI k) (G.2.2 k pc) pc i) (hWr : Cond.castable zWr zWr ∈ lw_tbl) : ∀ n, zBody G b zI n := by
  intro n
  induction n with
  | zero => intro d k pc ls st z res z' hev; cases hev
  | succ n ih =>
    intro d k pc ls st z res z' hev
    have hev : evS G (ev G n) d k pc ls st z = some (res, z') := hev
    cases hT : G.1 k pc with
    | none =>
      unfold evS at hev
      rw [show G.1 k pc = G.1 k pc from rfl, hT] at hev
      cases hev
    | some i =>
      have hG : G.1 k pc = some i := hT
      have hsite := hSites k pc i hT
      have hIk := hI k pc i hT
      cases i with
      | inl f =>
        unfold evS at hev
        rw [hG] at hev
        dsimp only at hev
        have hsite : zOK (zI k) pc f := hsite
        cases hf : f ls st z with
        | none => rw [hf] at hev; cases hev
        | some o =>
          obtain ⟨p1, ls1, st1, z1⟩ := o
          rw [hf] at hev
          dsimp only at hev
          obtain ⟨⟨m1, m2⟩, hW⟩ := hsite ls st z p1 ls1 st1 z1 hf
          obtain ⟨⟨m3, m4⟩, hK⟩ := ih d k p1 ls1 st1 z1 res z' hev
          refine ⟨⟨by omega, by omega⟩, ?_⟩
          intro p l e s m args below meth c H locs cells slots X w0 ws lsm stm mc ms C htab hr I e1 e2
          refine hW p l e (zRm b d mc ms) s m args below meth c H locs cells slots _ X _ w0 ws lsm stm C I (by show _ ≤ mc; omega) (by show _ ≤ ms; omega) (fun H' locs' ws' lsm' stm' I' => ?_)
          exact hK p l e s m args below meth c H' locs' _ _ X w0 ws' lsm' stm' mc ms C htab hr I' (by omega) (by omega)
      | inr i =>
        cases i with
        | inr j =>
          obtain ⟨rfl, hW⟩ := zRet (show zROK (zI k) pc j from hsite) hG hev
          refine ⟨⟨Nat.le_refl _, Nat.le_refl _⟩, ?_⟩
          intro p l e s m args below meth c H locs cells slots X w0 ws lsm stm mc ms C htab hr I e1 e2
          rw [Nat.sub_self, Nat.add_zero] at e1 e2
          subst e1; subst e2
          exact hW p l e _ s m args below meth c H locs cells slots X w0 ws lsm stm C htab hr I
        | inl ps =>
          obtain ⟨p0, sel⟩ := ps
          obtain ⟨⟨hp0, hcok⟩, hcokT, hc0, hcH⟩ : zCOK zI (zI k) pc p0 sel ∧ (G.2.2 k pc ≠ none → zCOKT zI (zI k) pc sel) ∧ (G.2.2 k pc = some 0 → (zI k).2.2.2.2 = []) ∧ ∀ q, G.2.2 k pc = some (q + 1) → zHOK (zI k) pc q := hsite
          subst hp0
          unfold evS at hev
          rw [hG] at hev
          dsimp only at hev
          cases hs : sel z st with
          | none => rw [hs] at hev; cases hev
          | some o =>
            obtain ⟨k', as, rest⟩ := o
            rw [hs] at hev
            cases d with
            | zero => cases hev
            | succ d =>
              dsimp only at hev
              by_cases hz : zcs rest = true ∧ (zent as).length ≤ G.2.1 k'
              rotate_left
              · rw [if_neg hz] at hev; cases hev
              rw [if_pos hz] at hev
              obtain ⟨hz1, hfit⟩ := hz
              have hfit : (zent as).length ≤ G.2.1 k' := hfit
              cases hc : ev G n d k' 0 (zpad (zent as) (G.2.1 k')) [] z with
              | none => rw [hc] at hev; cases hev
              | some r1 =>
                rw [hc] at hev
                dsimp only at hev
                have hc : ev G n d k' 0 (zpad (zent as) (G.2.1 k')) [] z = some r1 := hc
                have hIk' : zIOK G b zI k' := by
                  cases hT2 : G.1 k' 0 with
                  | some i2 => exact hI k' 0 i2 hT2
                  | none =>
                    exfalso
                    cases n with
                    | zero => cases hc
                    | succ n =>
                      have hc2 : evS G (ev G n) d k' 0 (zpad (zent as) (G.2.1 k')) [] z = some r1 := hc
                      unfold evS at hc2
                      rw [show G.1 k' 0 = G.1 k' 0 from rfl, hT2] at hc2
                      cases hc2
                obtain ⟨o1, z1⟩ := r1
                obtain ⟨⟨m1, m2⟩, -⟩ := ih d k' 0 _ [] z o1 z1 hc
                obtain ⟨hst, hrun⟩ := hcok z st k' as rest hs
                cases o1 with
                | inl v =>
                  have hev : ev G n (d + 1) k (pc + 3) ls (v.toList ++ rest) z1 = some (res, z') := by
                    cases v with
                    | none => exact hev
                    | some v => exact hev
                  obtain ⟨⟨m3, m4⟩, hK⟩ := ih (d + 1) k (pc + 3) ls (v.toList ++ rest) z1 res z' hev
                  refine ⟨⟨by omega, by omega⟩, ?_⟩
                  intro p l e s m args below meth c H locs cells slots X w0 ws lsm stm mc ms C htab hr I e1 e2
                  have hfl : l.flags = flags0 := C.2.2.2.2.2.2.2.2.2.2.2.1
                  have hA := C.2.2.2.2.2.2.1
                  have hSx := C.2.2.2.2.2.1
                  have hFr := zFree hA I
                  obtain ⟨hH, hP, hD, hS, hE, hL, hsr⟩ := id I
                  rw [hst] at hsr
                  obtain ⟨as', restm, e3, has, hrest⟩ : ∃ as' restm, stm = as'.reverse ++ restm ∧ zSR X ws as as' ∧ zSR X ws rest restm := zSR_split hsr
                  have hM : Met l (zI k').2.1 (zws (zI k')) (zRm b d (zuc z1 - zuc z) (zus z1 - zus z)) (zPc X ws H.size as') (zQr X ws H.size z1 v) (zuc z1 - zuc z) (zus z1 - zus z) (va_A ws H.size) := zEnter ih hfl hIk' hc hfit X ws H.size as' hH has (hD.weaken (fun _ _ _ _ => trivial))
                  have hr2 := hrun p l e (zRm b (d + 1) mc ms) s m args below meth c H locs cells slots X _ w0 ws ls lsm stm b d _ _ _ _ _ as' restm C I hz1 (by show d + b + 1 ≤ d + 1 + b; omega) (by show _ ≤ 40 * (d + 1) + 400 * b; have := hIk'.1; have := hIk'.2.2.1; omega) (by show _ ≤ mc; omega) (by show _ ≤ ms; omega) e3 has hrest hM zPc_blind (fun U hU hW => ⟨rfl, by rw [hU], by rw [hU]; exact hP, hSx.to hW (by rw [hU]; exact hS) hFr⟩)
                  refine zRun_go hr2 hA I hrest (fun H' locs' ws' stm' I' => ?_)
                  exact hK p l e s m args below meth c H' locs' _ _ X w0 ws' lsm stm' mc ms C htab hr I' (by omega) (by omega)
                | inr x =>
                  have hnn : G.2.2 k pc ≠ none := by
                    intro h9
                    rw [show G.2.2 k pc = G.2.2 k pc from rfl, h9] at hev
                    cases hev
                  have hrunT := hcokT hnn z st k' as rest hs
                  have hcom : ∀ (p : Program) (l : Launch) (e : Env) (s : State) (m : MethodId) (args : Array Value) (below : List Frame) (meth : Method) (c : Code) (H : Heap) (locs : List Loc) (cells slots : Nat) (X : ZX) (w0 ws : va_W) (lsm : Array Slot) (stm : List Value) (mc ms : Nat) (Q : State → Prop), zCtx X (va_A w0 s.heap.size) p l s m args meth c (zRm b (d + 1) mc ms) (zI k) → zInv X (va_A w0 s.heap.size) s (zI k).2.2.1 w0 H locs ws z ls st lsm stm → cells + (zuc z1 - zuc z) ≤ mc → slots + (zus z1 - zus z) ≤ ms → (∀ (H' : Heap) (locs' : List Loc) (ws' : va_W) (q : Addr) (ce : Cell) (restm : List Value), zInv X (va_A w0 s.heap.size) s (zI k).2.2.1 w0 H' locs' ws' z1 ls [x] lsm [.ref q] → H'[q]? = some ce → ce.vm = .none → s.vm.findClass zWr = some ce.cls → vx_W p l e (zRm b (d + 1) mc ms) s m args below meth c H' locs' (cells + (zuc z1 - zuc z)) (slots + (zus z1 - zus z)) Q (F0 m pc lsm restm) q) → W p l e (zRm b (d + 1) mc ms) s m args below meth c H locs cells slots Q (F0 m pc lsm stm) := by
                    intro p l e s m args below meth c H locs cells slots X w0 ws lsm stm mc ms Q C I e1 e2 kk
                    have hfl : l.flags = flags0 := C.2.2.2.2.2.2.2.2.2.2.2.1
                    have hA := C.2.2.2.2.2.2.1
                    have hSx := C.2.2.2.2.2.1
                    have hFr := zFree hA I
                    obtain ⟨hH, hP, hD, hS, hE, hL, hsr⟩ := id I
                    rw [hst] at hsr
                    obtain ⟨as', restm, e3, has, hrest⟩ : ∃ as' restm, stm = as'.reverse ++ restm ∧ zSR X ws as as' ∧ zSR X ws rest restm := zSR_split hsr
                    have hM := zEnter ih hfl hIk' hc hfit X ws H.size as' hH has (hD.weaken (fun _ _ _ _ => trivial))
                    have hr2 := hrunT p l e (zRm b (d + 1) mc ms) s m args below meth c H locs cells slots X _ w0 ws ls lsm stm b d _ _ _ _ _ as' restm C I hz1 (by show d + b + 1 ≤ d + 1 + b; omega) (by show _ ≤ 40 * (d + 1) + 400 * b; have := hIk'.1; have := hIk'.2.2.1; omega) e1 e2 e3 has hrest hM zPc_blind (fun U hU hW => ⟨rfl, by rw [hU], by rw [hU]; exact hP, hSx.to hW (by rw [hU]; exact hS) hFr⟩)
                    exact zRunT_go (rest := rest) hr2 hA I (fun H' locs' ws' q ce I' h1 h2 h3 => kk H' locs' ws' q ce restm I' h1 h2 h3)
                  cases hh : G.2.2 k pc with
                  | none => exact absurd hh hnn
                  | some q0 =>
                    rw [show G.2.2 k pc = G.2.2 k pc from rfl, hh] at hev
                    cases q0 with
                    | zero =>
                      have hev : (some (.inr x, z1) : Option ZR) = some (res, z') := hev
                      cases hev
                      refine ⟨⟨m1, m2⟩, ?_⟩
                      intro p l e s m args below meth c H locs cells slots X w0 ws lsm stm mc ms C htab hr I e1 e2
                      refine hcom p l e s m args below meth c H locs cells slots X w0 ws lsm stm mc ms _ C I (by omega) (by omega) (fun H' locs' ws' q ce restm I' h1 h2 h3 => ?_)
                      rw [hc0 hh] at htab
                      rw [e1, e2]
                      exact zT_out (by rw [htab]; intro x hx; cases hx) C.2.2.2.2.2.2.2.2.2.2.1 I' h1 h2 h3
                    | succ q0 =>
                      have hev : ev G n (d + 1) k q0 ls [x] z1 = some (res, z') := hev
                      obtain ⟨⟨m3, m4⟩, hK⟩ := ih (d + 1) k q0 ls [x] z1 res z' hev
                      refine ⟨⟨by omega, by omega⟩, ?_⟩
                      intro p l e s m args below meth c H locs cells slots X w0 ws lsm stm mc ms C htab hr I e1 e2
                      refine hcom p l e s m args below meth c H locs cells slots X w0 ws lsm stm mc ms _ C I (by omega) (by omega) (fun H' locs' ws' q ce restm I' h1 h2 h3 => ?_)
                      obtain ⟨x9, suf, t1, t2, t3, t4, t5⟩ := hcH q0 hh
                      have k9 := hK p l e s m args below meth c H' locs' (cells + (zuc z1 - zuc z)) (slots + (zus z1 - zus z)) X w0 ws' lsm [.ref q] mc ms C htab hr I' (by omega) (by omega)
                      subst t4
                      exact vx_catch C.2.2.2.1 [] x9 suf (htab.trans t1) (fun y hy => by cases hy) t2 t3 (C.2.2.2.2.1 _ t5) (va_Nw.use rfl (C.2.2.2.2.2.1.2.1 _ hWr rfl)) h1 h2 h3 k9
