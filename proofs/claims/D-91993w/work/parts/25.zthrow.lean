/-! Z and the machine: methods that throw -/
set_option maxRecDepth 100000
abbrev zWr : String := "CardBowl$Wrong"
/-- a method that throws q -/
def zTQ (XQ : Addr → State → State → Prop) (mc ms : Nat) (free : Addr → Prop) : Array Value → State → Outcome → State → Prop := fun _ st o t =>
  ∃ (q : Addr) (ce : Cell) (L : List Loc), o = .threw q ∧ XQ q st t ∧ t.heap[q]? = some ce ∧ ce.vm = .none ∧ st.vm.findClass zWr = some ce.cls ∧ st.WarmedH t.vm ∧ st.sameButNew ({ t with vm := st.vm } : State) L mc ms ∧ ∀ z ∈ L, free z.base
def zPostX (XQ : Addr → State → State → Prop) (mc ms : Nat) (free : Addr → Prop) : Pt → Array Value → Addr → Pt → Prop := fun A a q B =>
  ∃ (g : JFrame) (mk : MethodId) (t : State) (L : List Loc) (ce : Cell), B.U.heap = t.heap ∧ B.U.vm = t.vm ∧ XQ q (A.U.calling g mk a) t ∧ t.heap[q]? = some ce ∧ ce.vm = .none ∧ A.U.vm.findClass zWr = some ce.cls ∧ B.locs = A.locs ++ L ∧ (∀ z ∈ L, free z.base) ∧ B.cells = A.cells + mc ∧ B.slots = A.slots + ms
section ZTB
variable {l : Launch} {R : Room} {p : Program} {e : Env} {below : List Frame} {s : State} {sargs : Array Value} {y : MethodName} {len W9 : Nat}
theorem zT_back {ws : List Cond} {rm : Room} {Pc : Array Value → State → Prop} {XQ : Addr → State → State → Prop} {mc ms : Nat} {free : Addr → Prop} {bytes : ByteArray} {maxL : Nat} {ret : Option FieldType}
    (hM : MetFree l y (headSpec ws rm) Pc (fun _ _ _ _ _ => True) (zTQ XQ mc ms free)) (hblind : FrameBlind Pc) (hrc : rm.cells = mc) (hrs : rm.slots = ms)
    (hframes : rm.frames + 1 ≤ R.frames) (hlocals : W9 + (maxL + 11) + rm.locals ≤ R.locals)
    (hws : ∀ w ∈ ws, ∀ a' U, s.WarmedH U.vm → w.before a' U = true) (hcode : Cond.code y bytes maxL ret ∈ ws) (hinit : ∀ a' U, s.WarmedH U.vm → (Cond.initialized y.cls).before a' U = true) :
    vx_Back l R p e below s sargs y len W9 (PreOf R mc ms Pc) (fun _ _ _ _ => False) (zPostX XQ mc ms free) := by
  intro m meth c A g ig mk a X hg hsize hdg hW hn hp
  have h1 : (headSpec ws rm).pre.before a A.U = true := atoms_intro fun w hw => hws w hw _ _ X.warmed
  have h2 : (Cond.code y bytes maxL ret).before a A.U = true := hws _ hcode _ _ X.warmed
  have h3 : (Cond.initialized y.cls).before a A.U = true := hinit _ _ X.warmed
  have h4 : A.cells + (headSpec ws rm).room.cells ≤ R.cells := by rw [show (headSpec ws rm).room.cells = mc from hrc]; exact hp.1
  have h5 : A.slots + (headSpec ws rm).room.slots ≤ R.slots := by rw [show (headSpec ws rm).room.slots = ms from hrs]; exact hp.2.1
  have hPc : Pc a (A.U.calling g mk a) := hblind _ _ _ _ hp.2.2
  obtain ⟨U, Ls, c0, s0⟩ := A
  dsimp only [Pt.U, Pt.locs, Pt.cells, Pt.slots] at h1 h2 h3 h4 h5 X hn hPc ⊢
  obtain ⟨methY, cY, hmY, hcY, -, hlY, -, -, -, -⟩ := Cond.code_spec hn h2
  obtain ⟨kY, hkY, -⟩ := className_of_methodNamed hn
  have hinitY : kY.init = .initialized := Cond.initialized_spec (findClass_of_methodNamed hn) hkY h3
  have h : At U g.method c below := by rw [hg]; exact X.here
  have hlocals9 : W9 + (maxL + 11) + (headSpec ws rm).room.locals ≤ R.locals := hlocals
  have happ : (headSpec ws rm).appliesLoose y e.platform (U.calling g mk a) = true :=
    Spec.appliesLoose_calling (g := g) h hdg hn hkY hinitY
      (X.room_calling (g := g) (R' := (headSpec ws rm).room) hsize hmY hcY hframes (by rw [hlY]; omega) h4 h5) h1
  obtain ⟨mid, hmid⟩ := h.above
  have hfr : (U.setTop g).frames = (.java g :: mid) ++ below := by rw [State.frames_setTop' g h.top, hmid]; rfl
  obtain ⟨o, s₂, hsteps, -, hend, hq⟩ := Steps.callFree hM p X.admits X.cas X.clock (acts := []) hfr happ hPc trivial
  have hq' : zTQ XQ mc ms free a (U.calling g mk a) o s₂ := hq
  rw [State.frames_setTop' g h.top] at hend
  obtain ⟨g₀, hg0⟩ := Option.isSome_iff_exists.mp h.top
  obtain ⟨r, hr⟩ := State.topJava?_eq_some.mp hg0
  have hr' : (({ U with heap := s₂.heap, slotsUsed := s₂.slotsUsed } : State).setVm s₂.vm).frames = .java g₀ :: r := hr
  obtain ⟨q, ce, L, rfl, hx, hce, hcv, hcl, hW₂, hsm, hL⟩ := hq'
  obtain ⟨e2, q2, q3, q4, q5, q6⟩ := id hsm
  have e3 : s₂ = ({ (U.calling g mk a).setFrames s₂.frames with heap := s₂.heap, slotsUsed := s₂.slotsUsed } : State).setVm s₂.vm := by
    have : s₂ = ({ s₂ with vm := (U.calling g mk a).vm } : State).setVm s₂.vm := rfl
    rw [e2] at this
    exact this
  have hf₂ : s₂.frames = .throwing q :: .java g :: U.frames.tail := hend
  have hW' : U.WarmedH s₂.vm := hW₂
  have hs₂ : s₂ = ((({ U with heap := s₂.heap, slotsUsed := s₂.slotsUsed } : State).setVm s₂.vm).setTop g).pushFrame (.throwing q) := by
    refine e3.trans ?_
    rw [hf₂, State.calling_eq h.top, State.setFrames_setFrames, State.pushFrame, State.frames_setTop _ hr', State.setTop_of_frames _ hr', State.setFrames_setFrames, hr]
    rfl
  have hsame : U.sameButNew ({ U with heap := s₂.heap, slotsUsed := s₂.slotsUsed } : State) L mc ms := by
    refine ⟨?_, q2, q3, q4, q5, q6⟩
    obtain ⟨t, ht, -⟩ := State.frames_cons hr
    show ({ U with heap := s₂.heap, slotsUsed := s₂.slotsUsed } : State) = { U.setFrames U.frames with heap := s₂.heap, slotsUsed := s₂.slotsUsed }
    rw [State.setFrames_self ht]
  subst hg
  refine Or.inr ⟨q, ⟨(({ U with heap := s₂.heap, slotsUsed := s₂.slotsUsed } : State).setVm s₂.vm), Ls ++ L, c0 + mc, s0 + ms⟩,
    ⟨X.admits, X.cas, X.clock, X.frames, X.room, X.hears, X.method, X.code, (X.here.setHeapUsed s₂.heap s₂.slotsUsed).setVm hW'.alike, X.tail, State.WarmedH.trans X.warmed hW', X.limits, X.bytes, X.same.trans (hsame.setVm s.vm)⟩,
    ⟨g, mk, s₂, L, ce, rfl, rfl, hx, hce, hcv, hcl, rfl, hL, rfl, rfl⟩, ?_⟩
  show Steps p.tables e below _ (((({ U with heap := s₂.heap, slotsUsed := s₂.slotsUsed } : State).setVm s₂.vm).setTop g).pushFrame (.throwing q))
  rw [← hs₂]
  exact hsteps
end ZTB
/-- a call that throws: from the call's frame to the thrown one over it -/
def zRunT (p : Program) (l : Launch) (e : Env) (R : Room) (s : State) (m : MethodId) (args : Array Value) (below : List Frame) (meth : Method) (c : Code) (H : Heap) (locs : List Loc) (cells slots mc ms : Nat) (g : JFrame) (rest : List Value) (XQ : Addr → State → State → Prop) (free : Addr → Prop) : Prop :=
  ∀ T : State, T.heap = H → Stand p l e R s m args below meth c T locs cells slots → ∃ (q : Addr) (st₀ t T' : State) (L : List Loc) (ce : Cell), st₀.heap = H ∧ Stand p l e R s m args below meth c T' (locs ++ L) (cells + mc) (slots + ms) ∧ (∀ z ∈ L, free z.base) ∧ T'.heap = t.heap ∧ T'.vm = t.vm ∧ XQ q st₀ t ∧ t.heap[q]? = some ce ∧ ce.vm = .none ∧ s.vm.findClass zWr = some ce.cls ∧
    Steps p.tables e below (T.setTop g) ((T'.setTop { g with stack := rest }).pushFrame (.throwing q))
def zCOKT (zI : Nat → ZInf) (inf : ZInf) (pc : Nat) (sel : ZS) : Prop := ∀ (z : ZH) (st : List Value) (k' : Nat) (as rest : List Value), sel z st = some (k', as, rest) →
  ∀ (pr : Program) (l : Launch) (e : Env) (R : Room) (s : State) (m : MethodId) (args : Array Value) (below : List Frame) (meth : Method) (c : Code) (H : Heap) (locs : List Loc) (cells slots : Nat) (X : ZX) (A : Nat → Prop) (w0 ws : va_W) (ls : List Value) (lsm : Array Slot) (stm : List Value) (b d mc ms : Nat) (Pc : Array Value → State → Prop) (XQ : Addr → State → State → Prop) (free : Addr → Prop) (as' restm : List Value),
    zCtx X A pr l s m args meth c R inf → zInv X A s inf.2.2.1 w0 H locs ws z ls st lsm stm → zcs rest = true → d + b + 1 ≤ R.frames → 8 + ((zI k').2.2.1 + 11) + (40 * d + 400 * b) ≤ R.locals → cells + mc ≤ R.cells → slots + ms ≤ R.slots → stm = as'.reverse ++ restm → zSR X ws as as' → zSR X ws rest restm →
    MetFree l (zI k').2.1 (headSpec (zws (zI k')) (zRm b d mc ms)) Pc (fun _ _ _ _ _ => True) (zTQ XQ mc ms free) → FrameBlind Pc → (∀ U : State, U.heap = H → s.WarmedH U.vm → Pc as'.toArray U) →
    zRunT pr l e R s m args below meth c H locs cells slots mc ms (F0 m pc lsm stm) restm XQ free
section ZCT
variable {zI : Nat → ZInf} {inf : ZInf} {pc idx c k1 n : Nat} {sel : ZS} {C : String} {T : u_T} {N : Nat} {cc : ByteArray} {y : MethodName} {L : Nat} {rt : Option FieldType}
set_option maxHeartbeats 1000000 in
theorem cokT_V (hd : decode inf.1 pc = .ok (.invokevirtual idx, 3)) (hc : zcl[c]? = some (C, T, N)) (hc25 : c < 25) (hi : zI k1 = (cc, y, L, rt, [])) (hsel : zSelV sel c k1 n) (q1 : Cond.methodLink inf.2.1.cls idx y ∈ lw_all) (q2 : Cond.instanceMethod y ∈ lw_all) (q3 : Cond.selects C y y ∈ lw_all) (q4 : Cond.initialized C ∈ lw_all) (q5 : Cond.code y cc L rt ∈ lw_all) (hyC : y.cls = C) (hd9 : zNoMH y n) : zCOKT zI inf pc sel := by
  intro z st k' as rest hs0
  obtain ⟨rfl, r, vs, rfl, hn, rfl, hcr⟩ := hsel z st k' as rest hs0
  intro pr l e R s m args below meth c0 H locs cells slots X A w0 ws ls lsm stm b d mc ms Pc XQ free as' restm C0 I hz hfr hlo h1 h2 hst has hrest hM hbl hpc
  rw [hi] at hM hlo
  have hM : MetFree l y (headSpec (ws_ y cc L rt) (zRm b d mc ms)) Pc (fun _ _ _ _ _ => True) (zTQ XQ mc ms free) := hM
  obtain ⟨hx, hb, hml, hown, hts, hSx, hA, hnm, hfr0, hlo0, hlk, hfl⟩ := C0
  obtain ⟨hH, hP, hD, hS, hE, hL, hs⟩ := I
  obtain ⟨a, As, rfl, har, hvs⟩ := zSR_r has
  obtain ⟨hr1, e0, he0, hE0⟩ := hH.at (by omega) (by omega) har
  obtain ⟨fs, rfl, hl1, hfs⟩ := zER_obj hE0 hcr hc25
  have cw := cwV (R := R) (rm := zRm b d mc ms) (mc := mc) (ms := ms) n hts (lw_V q1 q2 q3 q4 q5) rfl rfl rfl ⟨hyC, hd9⟩ (zrm_ok hfr hlo)
  obtain ⟨⟨hrc, hrs, hfr1, hlo1, hws, hcw, hcode, hini, hy, hlen, hl⟩, hin, hse⟩ := cw
  have hK : vx_Back l R pr e below s args y 3 8 (PreOf R mc ms Pc) (fun _ _ _ _ => False) (zPostX XQ mc ms free) := zT_back (bytes := cc) (maxL := L) (ret := rt) hM hbl hrc hrs hfr1 hlo1 hws hcw (fun a' U hW => word_at hW (Or.inl (by first | rfl | simp [Cond.onTables, Cond.keeps, Cond.steady])) hini)
  obtain ⟨cellB, hcB, hoB, hclB⟩ := va_recv hSx.1 hP hc he0
  intro T0 hT X0
  rcases vx_callV X0 hx (C := C) (bytes := cc) (maxL := L) (ret := rt) hown hl hin hse hcode hy hK (by rw [hT]; exact hcB) hoB hclB (g := F0 m pc lsm stm) rfl (hL.1.1.trans hml.symm) (argsL := As) (rest := restm) (fun sig h => (by rw [← hvs.len]; exact hn : As.length = n).trans (hlen sig h)) (by rw [hst]; simp) (lv_room (zstk_ok hrest hz)) (by rw [hb]; exact hd)
    (fun vm₁ hW₁ => ⟨h1, h2, hpc (T0.setVm vm₁) hT hW₁⟩) with ⟨v, vm₁, B, hW₁, X', hf, st1⟩ | ⟨q, vm₁, ⟨U', l2, c2, s2⟩, hW₁, X', ⟨g', mk, t, L', ce, e1, e2, hq, hce, hcv, hcl, g1, hL', g2, g3⟩, st1⟩
  · exact hf.elim
  · dsimp only [Pt.U, Pt.locs, Pt.cells, Pt.slots] at X' e1 e2 g1 g2 g3 st1 hcl
    subst g1; subst g2; subst g3
    exact ⟨q, (T0.setVm vm₁).calling g' mk (Value.ref a :: As).toArray, t, U', L', ce, hT, X', hL', e1, e2, hq, hce, hcv, vx_cls hW₁ hcl, st1⟩
end ZCT
def zXT (X : ZX) (ws : va_W) (sz : Nat) (z' : ZH) (x : Value) : Addr → State → State → Prop := fun q st t =>
  (∃ ws' : va_W, zVR X ws' x (.ref q) ∧ zHR X ws' z' ∧ zExt ws ws' ∧ va_P (xD X) zcl ws' t.heap ∧ va_D (va_A ws sz) ws') ∧ va_F (va_A ws sz) st t
/-- the method inf, called with as in z, throws x in z' -/
def zMetT (l : Launch) (inf : ZInf) (b d : Nat) (as : List Value) (z : ZH) (x : Value) (z' : ZH) : Prop :=
  ∀ (X : ZX) (ws : va_W) (sz : Nat) (as' : List Value), zHR X ws z → zSR X ws as as' → va_D (fun _ => True) ws → MetFree l inf.2.1 (headSpec (zws inf) (zRm b d (zuc z' - zuc z) (zus z' - zus z))) (zPc X ws sz as') (fun _ _ _ _ _ => True) (zTQ (zXT X ws sz z' x) (zuc z' - zuc z) (zus z' - zus z) (va_A ws sz))
section ZRUNT
variable {p : Program} {l : Launch} {e : Env} {R : Room} {s : State} {m : MethodId} {args : Array Value} {below : List Frame} {meth : Method} {c : Code} {H : Heap} {locs : List Loc} {cells slots : Nat} {Q : State → Prop}
theorem zRunT_go {X : ZX} {A : Nat → Prop} {nL : Nat} {w0 ws : va_W} {z z' : ZH} {ls st rest : List Value} {lsm : Array Slot} {stm restm : List Value} {mc ms pc : Nat} {x : Value}
    (hr : zRunT p l e R s m args below meth c H locs cells slots mc ms (F0 m pc lsm stm) restm (zXT X ws H.size z' x) (va_A ws H.size)) (hA : ∀ q, s.heap.size ≤ q → A q) (I : zInv X A s nL w0 H locs ws z ls st lsm stm)
    (kk : ∀ (H' : Heap) (locs' : List Loc) (ws' : va_W) (q : Addr) (ce : Cell), zInv X A s nL w0 H' locs' ws' z' ls [x] lsm [.ref q] → H'[q]? = some ce → ce.vm = .none → s.vm.findClass zWr = some ce.cls → vx_W p l e R s m args below meth c H' locs' (cells + mc) (slots + ms) Q (F0 m pc lsm restm) q) : W p l e R s m args below meth c H locs cells slots Q (F0 m pc lsm stm) := by
  intro T hT X0
  have hFr := zFree hA I
  obtain ⟨hH, hP, hD, hS, hE, hL, hs⟩ := I
  obtain ⟨q, st₀, t, T', L, ce, h0, X', hLL, e1, e2, ⟨⟨ws', hv, hH', hext, hP', hD'⟩, hF⟩, hce, hcv, hcl, st1⟩ := hr T hT X0
  obtain ⟨k1, k2, k3⟩ := vx_keep h0 e1 hS (fun q _ h => hFr q h) hFr hLL hF
  obtain ⟨t2, a1, b1⟩ := kk T'.heap (locs ++ L) ws' q ce ⟨hH', by rw [e1]; exact hP', hD'.weaken (fun _ _ _ h => hFr _ h), k3, hE.trans hext, hL.ext hext, ⟨hv, trivial⟩⟩ (by rw [e1]; exact hce) hcv hcl T' rfl X'
  exact ⟨t2, st1.trans a1, b1⟩
end ZRUNT
/-- how a method ends -/
def zFin (X : ZX) (ws : va_W) (sz : Nat) (res : Option Value ⊕ Value) (z' : ZH) (mc ms : Nat) : Array Value → State → Outcome → State → Prop := match res with
  | .inl v => fun a st o t => zQr X ws sz z' v a st o t ∧ ∃ L, FrameEnd st o t L mc ms ∧ ∀ q ∈ L, va_A ws sz q.base
  | .inr x => zTQ (zXT X ws sz z' x) mc ms (va_A ws sz)
/-- what a body owes at its end -/
def zMQ (below : List Frame) (X : ZX) (w0 : va_W) (s : State) (res : Option Value ⊕ Value) (z' : ZH) (args : Array Value) (mc ms : Nat) : State → Prop := fun t =>
  ∃ o, t.status = .running ∧ Ended t below o ∧ zFin X w0 s.heap.size res z' mc ms args s o t
section ZENDS
variable {p : Program} {l : Launch} {e : Env} {R : Room} {s : State} {m : MethodId} {args : Array Value} {below : List Frame} {meth : Method} {c : Code} {H : Heap} {locs : List Loc} {cells slots : Nat}
/-- not caught here -/
theorem zT_out {X : ZX} {nL : Nat} {w0 ws : va_W} {z : ZH} {ls : List Value} {lsm : Array Slot} {restm : List Value} {pc : Nat} {x : Value} {q : Addr} {ce : Cell} (hout : ∀ x ∈ c.exceptionTable.toList, covers x pc = false) (hlocks : meth.locks = false) (I : zInv X (va_A w0 s.heap.size) s nL w0 H locs ws z ls [x] lsm [.ref q]) (hce : H[q]? = some ce) (hcv : ce.vm = .none) (hcl : s.vm.findClass zWr = some ce.cls) :
    vx_W p l e R s m args below meth c H locs cells slots (zMQ below X w0 s (.inr x) z args cells slots) (F0 m pc lsm restm) q := by
  intro T hT X0
  obtain ⟨hH, hP, hD, hS, hE, hL, hs⟩ := I
  obtain ⟨st1, hrun, hend, hW, hsm⟩ := X0.leaveThrown q (g := F0 m pc lsm restm) rfl rfl rfl hout hlocks
  have hcell9 : (T.setFrames (.throwing q :: below)).heap[q]? = some ce := by
    show T.heap[q]? = some ce
    rw [hT]; exact hce
  refine ⟨_, st1, .threw q, hrun, hend, q, ce, locs, rfl, ⟨⟨ws, hs.1, hH, hE, ?_, hD⟩, hS.F (by exact hT)⟩, hcell9, hcv, hcl, hW, hsm, hS.2.2⟩
  show va_P (xD X) zcl ws T.heap
  rw [hT]; exact hP
end ZENDS
