set_option maxRecDepth 100000
/-! arraycopy where it throws (follows vx_vmAt, over a native frame) -/
section XN
theorem xnvAt {p : Program} {l : Launch} {e : Env} {R : Room} {s : State} {m₀ : MethodId} {args : Array Value} {below : List Frame} {meth : Method} {c : Code} {W : State} {locs : List Loc} {cells slots : Nat}
    (X : Stand p l e R s m₀ args below meth c W locs cells slots) (hexec : p.tables.exec = Jvm.exec) (htr : e.platform.stackTraces = false) {cls : String} {names : List String} {text : String}
    (hcls : Bundle.fit cls = true) (hnames : ∀ n ∈ names, Bundle.fit n = true) (hsoe : (cls == "java/lang/StackOverflowError") = false) (hoom : (cls == "java/lang/OutOfMemoryError") = false)
    (h : ∀ a ∈ Bundle.messageArmAtoms cls names, a.before args s = true)
    (hlocs : ∀ x ∈ locs, ∀ cell, s.heap[x.base]? = some cell → cell.vm.isStatics = false)
    (htext : (text == notModelled) = false) (hlimit : ¬ (stringBytes (stringToUtf16 text)).size > e.platform.arrayLengthLimit) (hheap : ¬ (stringBytes (stringToUtf16 text)).size * componentBytes .byte > e.platform.maxHeapBytes)
    {g : JFrame} (hg : g.method = m₀) (hsize : g.locals.size = c.maxLocals) {nf : NFrame} (hnf : nf.words = 0)
    (hRframes : names.length + 5 < R.frames) (hRlocals : 2 * g.monitorRoom + (g.stack.map fun v => v.category).sum + 10240 ≤ R.locals) (hshort : 13 * names.length + 55 ≤ 10240)
    (hRcells : cells + 3 ≤ R.cells) (hRslots : slots + ((stringBytes (stringToUtf16 text)).size + 4 + 6) ≤ R.slots) :
    ∃ (S : State) (q : Addr) (ce : Cell), Steps p.tables e below (W.setFrames (.throwNew cls (some text) none :: .native nf :: .java g :: below)) (S.setFrames (.throwing q :: .native nf :: .java g :: below)) ∧
      Stand p l e R s m₀ args below meth c S locs (cells + 3) (slots + ((stringBytes (stringToUtf16 text)).size + 4 + 6)) ∧ (W.heap.size ≤ S.heap.size ∧ ∀ a0, a0 < W.heap.size → S.heap[a0]? = W.heap[a0]?) ∧ S.heap[q]? = some ce ∧ s.vm.findClass cls = some ce.cls ∧ ce.vm = .none := by
  have howns : e.platform.frameOwnsMonitors = true := by rw [X.admits.platform]
  have hfin : e.platform.finalization = false := by rw [X.admits.platform]
  have hpl : e.platform.magicAccessors = ({} : Platform).magicAccessors := by rw [X.admits.platform]
  have a : ∀ x, x ∈ Bundle.messageArmAtoms cls names → x.holds args s none s [] = true := fun x hx => h x hx
  obtain ⟨T, Z0, L, -, Y⟩ := ThrowableC.of_atoms (args := args) howns hfin hpl (fun x hx => h x (by simp [Bundle.messageArmAtoms, hx]))
  obtain ⟨Z, M, LZ, LM, hnZ⟩ := Init0T.ofS_atoms (args := args) hpl L Y (fun x hx => h x (by simp [Bundle.messageArmAtoms, hx]))
  obtain ⟨P1, Ps, hlen, L1, hL, hP1m, hlink1, hlink⟩ := Bundle.chainS (args := args) hpl hnZ names cls hcls hnames (fun x hx => h x (by simp [Bundle.messageArmAtoms, hx]))
  obtain ⟨Zs, LZs, hn4, hfitv, hfitc⟩ := StringT.of_atoms (args := args) (fun x hx => h x (by simp [Bundle.messageArmAtoms, hx]))
  have hfound : s.vm.findClass cls = some P1.m.cls := findClass_of_methodNamed hP1m
  obtain ⟨c1, kX, hc1, hk, hord, -, -, hn6⟩ := Cond.instantiable_spec (a (.instantiable cls 6) (by simp [Bundle.messageArmAtoms]))
  cases Option.some.inj (hc1.symm.trans hfound)
  have hinit := Cond.initialized_spec hfound hk (a (.initialized cls) (by simp [Bundle.messageArmAtoms]))
  have hctor : kX.findMethod "<init>" "(Ljava/lang/String;)V" = some P1.m.idx := findMethod_of_methodNamed hP1m hk
  have hsel0 : selectMethod e.platform s.vm P1.m.cls T.fill0 = .method T.fill0 := by
    obtain ⟨c2, r2, m2, q1, q2, q3, q4, -⟩ := Cond.selects_spec (a (.selects cls Bundle.tFill0 Bundle.tFill0) (by simp [Bundle.messageArmAtoms]))
    cases Option.some.inj (q1.symm.trans hfound)
    cases Option.some.inj (q2.symm.trans (State.methodFound?_of_named Y.fill0 (by decide)))
    cases Option.some.inj (q3.symm.trans Y.fill0)
    rw [Launch.admits_selectMethod X.admits]; exact q4
  have hselF : selectMethod e.platform s.vm P1.m.cls T.fill = .method T.fill := by
    obtain ⟨c2, r2, m2, q1, q2, q3, q4, -⟩ := Cond.selects_spec (a (.selects cls Bundle.tFill Bundle.tFill) (by simp [Bundle.messageArmAtoms]))
    cases Option.some.inj (q1.symm.trans hfound)
    cases Option.some.inj (q2.symm.trans (State.methodFound?_of_named Y.fill (by decide)))
    cases Option.some.inj (q3.symm.trans Y.fill)
    rw [Launch.admits_selectMethod X.admits]; exact q4
  obtain ⟨cellS0, hcS0, hiss⟩ := Y.statics
  obtain ⟨u0, hu0⟩ := Cond.staticRefV Y.unassigned L.unassignedStatic L.statics hcS0 hiss (a (.isRef (.static Bundle.tN "UNASSIGNED_STACK" Bundle.steD)) (by simp [Bundle.messageArmAtoms]))
  obtain ⟨sen, hsen⟩ := Cond.staticRefV Y.sentinel L.sentinelStatic L.statics hcS0 hiss (a (.isRef (.static Bundle.tN "SUPPRESSED_SENTINEL" Bundle.listD)) (by simp [Bundle.messageArmAtoms]))
  obtain ⟨ci198, i198, fB, hk198, hg198, ha198, hsB, -, hnB, htB, hffB⟩ := Cond.ownField (t := .object "java/lang/Object") Y.found L.cls (by decide +kernel) (a (.fieldLink Bundle.tN 198 Bundle.tN "backtrace" "Ljava/lang/Object;") (by simp [Bundle.messageArmAtoms])) (a (.lays Bundle.tN Bundle.tN "backtrace" "Ljava/lang/Object;") (by simp [Bundle.messageArmAtoms])) e.platform hpl
  obtain ⟨cellS, hcS', heS, -, hkeep⟩ := X.same.2.2.2.2.2 T.aS cellS0 hcS0
  have hcellS : W.heap[T.aS]? = some cellS := hcS'
  have hout' : ∀ i, (⟨T.aS, i⟩ : Loc) ∉ locs := fun i hmem => by
    have := hlocs _ hmem cellS0 hcS0
    rw [hiss] at this; cases this
  have hknownS : cellS.vm ≠ .unknown := by
    rw [heS]; intro hu
    rw [show cellS0.vm = .unknown from hu] at hiss
    cases hiss
  have hvU : cellS.slots[T.fUnassigned.slot]? = some u0.v := by rw [hkeep _ (hout' _)]; exact hu0
  have hvSen : cellS.slots[T.fSentinel.slot]? = some sen.v := by rw [hkeep _ (hout' _)]; exact hsen
  obtain ⟨iM, hffM⟩ := Y.msg
  obtain ⟨tyC, dC, hdC, hdnC⟩ := Cond.laysAt hfound hk Y.cause (a (.lays cls Bundle.tN "cause" "Ljava/lang/Throwable;") (by simp [Bundle.messageArmAtoms]))
  obtain ⟨tyS, dS, hdS, hdnS⟩ := Cond.laysAt hfound hk Y.stack (a (.lays cls Bundle.tN "stackTrace" Bundle.steD) (by simp [Bundle.messageArmAtoms]))
  obtain ⟨tyP, dP, hdP, hdnP⟩ := Cond.laysAt hfound hk Y.supp (a (.lays cls Bundle.tN "suppressedExceptions" Bundle.listD) (by simp [Bundle.messageArmAtoms]))
  obtain ⟨tyM, dM, hdM, hdnM⟩ := Cond.laysAt hfound hk hffM (a (.lays cls Bundle.tN "detailMessage" "Ljava/lang/String;") (by simp [Bundle.messageArmAtoms]))
  obtain ⟨tyB, dB, hdB, hdnB⟩ := Cond.laysAt hfound hk hffB (a (.lays cls Bundle.tN "backtrace" "Ljava/lang/Object;") (by simp [Bundle.messageArmAtoms]))
  have bC := Cond.laysApart hdB hdC hdnB hdnC (by rw [hnB, Y.causeName]; decide)
  have bS := Cond.laysApart hdB hdS hdnB hdnS (by rw [hnB, Y.stackName]; decide)
  have bP := Cond.laysApart hdB hdP hdnB hdnP (by rw [hnB, Y.suppName]; decide)
  have hbk : ((preparedCellV T.toThrowableT (freshCell P1.m.cls kX) (W.heap.size + 2) u0 sen).withEntry W.cur).slots[fB.slot]? = some .null := by
    have := fresh_default (c := P1.m.cls) tyB
    rw [htB] at this
    simpa [preparedCellV, Cell.setSlot, Cell.withEntry, Array.getElem?_setIfInBounds, bC, bS, bP, bC.symm, bS.symm, bP.symm, defaultValue] using this
  have tkC := Takes.of_laid (v := .ref (W.heap.size + 2)) hk hord tyC (by rw [Y.causeType]; rfl)
  have tkS := Takes.of_laid (v := u0.v) hk hord tyS (by rw [Y.stackType]; exact fits_refV_array _ u0)
  have tkP := Takes.of_laid (v := sen.v) hk hord tyP (by rw [Y.suppType]; exact fits_refV_object _ sen)
  have tkM := Takes.of_laid (v := .ref (W.heap.size + 1)) hk hord tyM (by rw [Y.msgType]; rfl)
  have hskip : SkipFacts T e.platform s (fun u => u) u0 ((preparedCellV T.toThrowableT (freshCell P1.m.cls kX) (W.heap.size + 2) u0 sen).withEntry W.cur) := ⟨{ ci198 := ci198, i198 := i198, fBack := fB }, ⟨hk198, hg198, ha198, hsB⟩, hbk, fun _ _ => rfl⟩
  have b2 : (stringAt Zs.cS Zs.kS Zs.fv Zs.fc (stringToUtf16 text) W.heap.size).slots.size = 4 := by simp [string0, Cell.setSlot, hn4]
  have b1 : (bytesOf Zs.cB (stringToUtf16 text)).slots.size = (stringBytes (stringToUtf16 text)).size := by
    rw [(Cell.writeAll_facts _ _).2.2]; simp [bytes0]
  have b3 : (freshCell P1.m.cls kX).slots.size = 6 := by simp [hn6]
  obtain ⟨vm', X5, st, hkept⟩ := X.nativeThrowsMessageColdBareV hexec (g := g) hsize (nf := nf) hnf T L Z LZ M LM Zs LZs P1 L1 Ps hL hlink1 hlink hsoe hoom hfound hk hinit hord hctor htext hlimit hheap (hfitv _) (hfitc _)
    (u0 := u0) (sen := sen) hsel0 hselF hcellS hknownS hvU hvSen tkC tkS tkP tkM Y.objLocals hskip
    (fun _ u hA hW _ hroom t' hrest => L.nativeOff p htr hA hW hroom hrest) (by omega) hRlocals (by omega) hRcells (by rw [hn4, hn6]; exact hRslots)
  obtain ⟨-, -, w3, w4, -, -, -⟩ := withThrown_facts e.platform W Zs text P1.m.cls kX
  have ha : (W.heap.size + 2) < ((withThrown W Zs text P1.m.cls kX).setVm vm').heap.size := by show _ < (withThrown W Zs text P1.m.cls kX).heap.size; rw [w3]; omega
  rw [b1, b2, b3] at X5
  have e9 : slots + (stringBytes (stringToUtf16 text)).size + 4 + 6 = slots + ((stringBytes (stringToUtf16 text)).size + 4 + 6) := by omega
  rw [e9] at X5
  have hge : s.heap.size ≤ W.heap.size := X.same.2.1
  have X6 := X5.forget (locs := locs) (fun y hy => by simp only [List.mem_cons, List.not_mem_nil, or_false] at hy; rcases hy with rfl | rfl | rfl | rfl | rfl <;> exact Nat.le_trans hge (Nat.le_add_right _ 2))
  have hself := heapAt_setCell_self (plainBareV T.toThrowableT (freshCell P1.m.cls kX) (W.heap.size + 2) u0 sen (.ref (W.heap.size + 1))) ha
  exact ⟨_, W.heap.size + 2, _, st, X6, ⟨by have := (Array.getElem?_eq_some_iff.mp hself).1; omega, hkept⟩, hself, hfound, rfl⟩
end XN

/-! arraycopy out of bounds: its text, the call -/
section XT
theorem ts_str (s : String) : toString s = s := rfl
theorem int_print {x : Int} (h1 : -(10000000000 : Int) < x) (h2 : x < 10000000000) : (toString x).toList.length ≤ 11 := by
  show (Int.repr x).toList.length ≤ 11
  cases h : x with
  | ofNat m =>
    rw [h] at h2
    have h2' : (m : Int) < 10000000000 := h2
    have := nat_print (n := m) (by omega)
    show (toString m).toList.length ≤ 11
    omega
  | negSucc m =>
    rw [h] at h1
    have h1' : -(10000000000 : Int) < -((m : Int) + 1) := by simpa [Int.negSucc_eq] using h1
    have := nat_print (n := m.succ) (by omega)
    show ("-" ++ toString m.succ).toList.length ≤ 11
    rw [String.toList_append, List.length_append]
    have h0 : "-".toList.length = 1 := by decide
    omega
theorem kind_len (t : FieldType) : (Jvm.Native.java_lang_System.arraycopy.kindName t).toList.length ≤ 12 := by
  cases t <;> first | decide | exact (by decide : ("object array" : String).toList.length ≤ 12)
theorem sum_print (a b : Int32) : (toString (a.toInt + b.toInt)).toList.length ≤ 11 := by
  have h1 := Int32.toInt_lt a
  have h2 := Int32.le_toInt a
  have h3 := Int32.toInt_lt b
  have h4 := Int32.le_toInt b
  exact int_print (by omega) (by omega)
theorem copyTxt {ty ty' : FieldType} {n0 n1 : Nat} {sp dp n : Int32} {what : String} (h0 : n0 ≤ 1000) (h1 : n1 ≤ 1000) (hf : copyFault ty ty' n0 n1 sp dp n = some what) : what.toList.length ≤ 79 := by
  have a1 := kind_len ty
  have a2 := kind_len ty'
  have a3 := nat_print (n := n0) (by omega)
  have a4 := nat_print (n := n1) (by omega)
  have a5 := int32_print sp
  have a6 := int32_print dp
  have a7 := int32_print n
  have a8 := sum_print sp n
  have a9 := sum_print dp n
  have l1 : "source index ".toList.length = 13 := by decide
  have l2 : " out of bounds for ".toList.length = 19 := by decide
  have l3 : "destination index ".toList.length = 18 := by decide
  have l4 : "length ".toList.length = 7 := by decide
  have l5 : " is negative".toList.length = 12 := by decide
  have l6 : "last source index ".toList.length = 18 := by decide
  have l7 : "last destination index ".toList.length = 23 := by decide
  have l8 : "[".toList.length = 1 := by decide
  have l9 : "]".toList.length = 1 := by decide
  have l0 : "".toList.length = 0 := by decide
  unfold copyFault at hf
  split at hf
  · cases hf; simp only [ts_str, String.toList_append, List.length_append]; omega
  split at hf
  · cases hf; simp only [ts_str, String.toList_append, List.length_append]; omega
  split at hf
  · cases hf; simp only [ts_str, String.toList_append, List.length_append]; omega
  split at hf
  · cases hf; simp only [ts_str, String.toList_append, List.length_append]; omega
  split at hf
  · cases hf; simp only [ts_str, String.toList_append, List.length_append]; omega
  · cases hf
theorem copyTxt_ok {what : String} (h : what.toList.length ≤ 79) : (("arraycopy: " ++ what) == notModelled) = false ∧ (stringBytes (stringToUtf16 ("arraycopy: " ++ what))).size ≤ 360 := by
  constructor
  · rw [beq_eq_false_iff_ne]
    intro h
    have h2 := congrArg String.toList h
    rw [String.toList_append] at h2
    have h3 : "arraycopy: ".toList = 'a' :: "rraycopy: ".toList := by decide
    have h4 : notModelled.toList = '\u0000' :: " a message that is not modelled".toList := by decide
    rw [h3, h4] at h2
    simp at h2
  · have b1 := stringBytes_size_le (stringToUtf16 ("arraycopy: " ++ what))
    have b2 := utf16_size_le ("arraycopy: " ++ what)
    have b3 : ("arraycopy: " ++ what).toList.length = 11 + what.toList.length := by
      rw [String.toList_append, List.length_append]
      have : "arraycopy: ".toList.length = 11 := by decide
      omega
    omega
theorem toI {a : Int32} (h : ¬ a < 0) : a.toInt = (zx a : Int) := by
  have h0 : (0 : Int) ≤ a.toInt := by
    have := Int32.not_lt.mp h
    simpa using Int32.le_iff_toInt_le.mp this
  show a.toInt = ((a.toInt.toNat : Nat) : Int)
  omega
theorem copyBad {ty ty' : FieldType} {n0 n1 : Nat} {sp dp n : Int32} (h : ¬ ((¬ sp < 0 ∧ ¬ dp < 0 ∧ ¬ n < 0) ∧ zx sp + zx n ≤ n0 ∧ zx dp + zx n ≤ n1)) : ∃ what, copyFault ty ty' n0 n1 sp dp n = some what := by
  unfold copyFault
  split
  · exact ⟨_, rfl⟩
  split
  · exact ⟨_, rfl⟩
  split
  · exact ⟨_, rfl⟩
  split
  · exact ⟨_, rfl⟩
  split
  · exact ⟨_, rfl⟩
  · rename_i h1 h2 h3 h4 h5
    rw [toI h1, toI h3] at h4
    rw [toI h2, toI h3] at h5
    exact absurd ⟨⟨h1, h2, h3⟩, by omega, by omega⟩ h
theorem fit8 {x : Int32} (h : x.toInt8.toInt32 = x) : fits .byte (.int x) = true := by
  rw [← h]
  generalize x.toInt8 = y
  have h1 := Int8.le_toInt y
  have h2 := Int8.toInt_lt y
  have h3 : y.toInt32.toInt = y.toInt := Int8.toInt_toInt32 y
  show (decide ((-128 : Int32) ≤ y.toInt32) && decide (y.toInt32 ≤ 127)) = true
  rw [Bool.and_eq_true, decide_eq_true_eq, decide_eq_true_eq, Int32.le_iff_toInt_le, Int32.le_iff_toInt_le, h3]
  have e1 : (-128 : Int32).toInt = -128 := by decide
  have e2 : (127 : Int32).toInt = 127 := by decide
  rw [e1, e2]
  omega
theorem fit16 {x : Int32} (h : x.toInt16.toInt32 = x) : fits .short (.int x) = true := by
  rw [← h]
  generalize x.toInt16 = y
  have h1 := Int16.le_toInt y
  have h2 := Int16.toInt_lt y
  have h3 : y.toInt32.toInt = y.toInt := Int16.toInt_toInt32 y
  show (decide ((-32768 : Int32) ≤ y.toInt32) && decide (y.toInt32 ≤ 32767)) = true
  rw [Bool.and_eq_true, decide_eq_true_eq, decide_eq_true_eq, Int32.le_iff_toInt_le, Int32.le_iff_toInt_le, h3]
  have e1 : (-32768 : Int32).toInt = -32768 := by decide
  have e2 : (32767 : Int32).toInt = 32767 := by decide
  rw [e1, e2]
  omega
section
variable {p : Program} {l : Launch} {e : Env} {R : Room} {s : State} {m : MethodId} {args : Array Value} {below : List Frame} {meth : Method} {c : Code} {locs : List Loc} {cells slots : Nat}
theorem xcopyNo {T : State} (X : Stand p l e R s m args below meth c T locs cells slots) (hexec : p.tables.exec = Jvm.exec) {own : String} {index : Nat} (hown : s.vm.findClass own = some m.cls)
    (hlink : (Cond.methodLink own index arraycopyName).before args s = true) (hnat : (Cond.native arraycopyName).before args s = true) (hstat : (Cond.static arraycopyName).before args s = true)
    (hinit : (Cond.initialized "java/lang/System").before args s = true)
    {src dst : Addr} {sp dp n : Int32} {cs cd : Cell} {ks kd : Class} {sComp dComp : ClassId} {sType dType : FieldType} {what : String}
    (hs : T.heap[src]? = some cs) (hd : T.heap[dst]? = some cd) (hsobj : ∀ k, cs.vm ≠ .statics k) (hdobj : ∀ k, cd.vm ≠ .statics k)
    (hks : s.vm.classes[cs.cls]? = some ks) (hkd : s.vm.classes[cd.cls]? = some kd) (hsk : ks.kind = .array sComp sType) (hdk : kd.kind = .array dComp dType)
    (hty : ((refKind sType != refKind dType) || (!refKind sType && sType != dType)) = false) (hf : copyFault sType dType cs.slots.size cd.slots.size sp dp n = some what)
    {g : JFrame} (hg : g.method = m) (hsize : g.locals.size = c.maxLocals) {rest : List Value} (hstack : g.stack = .int n :: .int dp :: .ref dst :: .int sp :: .ref src :: rest)
    (hdg : decode c.code g.pc = .ok (.invokestatic index, 3))
    (hframes : 1 ≤ R.frames) (hlocals : 2 * g.monitorRoom + (rest.map fun v => v.category).sum + (nativeFrameWords "java/lang/System" "arraycopy" 5 + 11) ≤ R.locals) :
    ∃ (vm' : Vm) (mk : MethodId), Stand p l e R s m args below meth c (T.setVm vm') locs cells slots ∧
      ∀ target, Steps p.tables e below ((T.setVm vm').setFrames (.throwNew "java/lang/ArrayIndexOutOfBoundsException" (some ("arraycopy: " ++ what)) none :: .native { method := mk, args := #[.ref src, .int sp, .ref dst, .int dp, .int n], locked := none } :: .java { g with stack := rest } :: below)) target → Steps p.tables e below (T.setTop g) target := by
  obtain ⟨r, kS, methS, hnS, hmS, hkS, N⟩ := NativeOf.of_static hnat hstat (ps := [.object "java/lang/Object", .int, .object "java/lang/Object", .int, .int]) (ret := none) (by decide +kernel)
  have hinitS : kS.init = .initialized := Cond.initialized_spec (findClass_of_methodNamed hnS) hkS hinit
  obtain ⟨vm', X', step⟩ := X.invokestatic hexec hown hlink hnS hmS N.static hkS hinitS (by decide) hg (argsL := [.ref src, .int sp, .ref dst, .int dp, .int n]) (rest := rest) (by rw [N.sig]; rfl) hstack hdg
  refine ⟨vm', r, X', fun target hrest => step target fun acts => ?_⟩
  subst hg
  have hA' : s.vm.Alike vm' := X'.warmed.alike
  obtain ⟨kS', N'⟩ := N.alike hA'
  obtain ⟨ks', hks', hes⟩ := hA'.2.2 _ _ hks
  obtain ⟨kd', hkd', hed⟩ := hA'.2.2 _ _ hkd
  have hseen : seenByNative methS #[.ref src, .int sp, .ref dst, .int dp, .int n] = #[.ref src, .int sp, .ref dst, .int dp, .int n] := by
    simp [seenByNative, N'.static, N'.sig, narrow]
  obtain ⟨g₀, hfr⟩ := X'.frames_eq
  have hU : ((T.setVm vm').setTop { g with stack := rest }).pushFrame (.native { method := r, args := seenByNative methS #[.ref src, .int sp, .ref dst, .int dp, .int n], locked := none }) = (T.setVm vm').setFrames (.native { method := r, args := #[.ref src, .int sp, .ref dst, .int dp, .int n], locked := none } :: .java { g with stack := rest } :: below) := by
    rw [State.pushFrame, State.frames_setTop _ hfr, State.setTop_of_frames _ hfr, State.setFrames_setFrames, hseen]
  have hcur : (T.setVm vm').cur < (T.setVm vm').threads.size := State.cur_lt_of_frames hfr
  refine Steps.nativeThrowsNote (g := { g with stack := rest }) (row := arraycopyRow) (cls := "java/lang/ArrayIndexOutOfBoundsException") (msg := some ("arraycopy: " ++ what)) (T := fun u => u) X'.here acts N'.cls N'.meth N'.boot N'.native N'.noCode N'.noLock
    (by rw [N'.className, N'.name, N'.desc]; exact arraycopy_row p)
    (by rw [N'.className, N'.name]; exact X'.notFull (g := { g with stack := rest }) hsize (vars := nativeFrameWords "java/lang/System" "arraycopy" 5) hframes hlocals) ?_ ?_
  · intro E hE
    rw [hU] at hE ⊢
    rw [hseen] at hE ⊢
    rw [arraycopyRow_sem]
    exact Jvm.W.arraycopy_bounds (cs := cs) (cd := cd) (ks := ks') (kd := kd') hs hd hsobj hdobj hks' hkd' (by rw [hes]; exact hsk) (by rw [hed]; exact hdk) hty hf (hE _)
  · show Steps p.tables e below ((((T.setVm vm').setTop { g with stack := rest }).pushFrame (.native { method := r, args := seenByNative methS #[.ref src, .int sp, .ref dst, .int dp, .int n], locked := none })).pushFrame (.throwNew "java/lang/ArrayIndexOutOfBoundsException" (some ("arraycopy: " ++ what)) none)) target
    rw [hU, State.pushFrame, State.frames_setFrames _ hcur, State.setFrames_setFrames]
    exact hrest
end
/-- arraycopy called, out of bounds -/
theorem vx_copyNo {p : Program} {l : Launch} {e : Env} {R : Room} {s : State} {m : MethodId} {args : Array Value} {below : List Frame} {meth : Method} {c : Code} {H : Heap} {locs : List Loc} {cells slots : Nat} {Q : State → Prop} {pc : Nat} {ls : Array Slot} {rest : List Value} {cc : ByteArray} {names : List String} {nb : Nat} {A : Nat → Prop}
    (hexec : p.tables.exec = Jvm.exec) (hb : c.code = cc) (hml : ls.size = c.maxLocals) (hl : l.stackTraces = false) {own : String} {index : Nat} (hown : s.vm.findClass own = some m.cls) (hlink : (Cond.methodLink own index arraycopyName).before args s = true) (hnat : (Cond.native arraycopyName).before args s = true) (hstat : (Cond.static arraycopyName).before args s = true) (hini : (Cond.initialized "java/lang/System").before args s = true)
    (hM : xM "java/lang/ArrayIndexOutOfBoundsException" names) (hat : ∀ w ∈ vx_atM "java/lang/ArrayIndexOutOfBoundsException" names, w.before args s = true)
    (hU : vx_Zq Bundle.tN "UNASSIGNED_STACK" Bundle.steD A s s.heap) (hN : vx_Zq Bundle.tN "SUPPRESSED_SENTINEL" Bundle.listD A s s.heap) (hS : va_S A s.heap H locs)
    {src dst : Addr} {sp dp n : Int32} {cs cd : Cell} {ks kd : Class} {sComp dComp : ClassId} {ty : FieldType} {what : String}
    (hs : H[src]? = some cs) (hd : H[dst]? = some cd) (hsobj : ∀ k, cs.vm ≠ .statics k) (hdobj : ∀ k, cd.vm ≠ .statics k)
    (hks : s.vm.classes[cs.cls]? = some ks) (hkd : s.vm.classes[cd.cls]? = some kd) (hsk : ks.kind = .array sComp ty) (hdk : kd.kind = .array dComp ty)
    (hf : copyFault ty ty cs.slots.size cd.slots.size sp dp n = some what) (hlen : what.toList.length ≤ 79) (hdg : decode cc pc = .ok (.invokestatic index, 3))
    (hRframes : 10 ≤ R.frames) (hRlocals : (rest.map fun v => v.category).sum + 10240 ≤ R.locals) (hRcells : cells + 3 ≤ R.cells) (hRslots : slots + 370 ≤ R.slots)
    (k : ∀ (H1 : Heap) (q9 : Addr) (ce : Cell), H.size ≤ H1.size → (∀ q : Nat, q < H.size → H1[q]? = H[q]?) → va_S A s.heap H1 locs → H1[q9]? = some ce → ce.vm = .none → s.vm.findClass "java/lang/ArrayIndexOutOfBoundsException" = some ce.cls → vx_W p l e R s m args below meth c H1 locs (cells + 3) (slots + 370) Q (F0 m pc ls rest) q9) :
    W p l e R s m args below meth c H locs cells slots Q (F0 m pc ls (.int n :: .int dp :: .ref dst :: .int sp :: .ref src :: rest)) := by
  intro T hT X0
  obtain ⟨⟨m1, m2, m3, m4, m5⟩, m6, m7⟩ := hM
  have htr : e.platform.stackTraces = false := (show e.platform.stackTraces = l.stackTraces by rw [X0.admits.platform]).trans hl
  obtain ⟨vm', mk, X, st0⟩ := xcopyNo X0 hexec hown hlink hnat hstat hini (sp := sp) (dp := dp) (n := n) (by rw [hT]; exact hs) (by rw [hT]; exact hd) hsobj hdobj hks hkd hsk hdk (by simp) hf (g := F0 m pc ls (.int n :: .int dp :: .ref dst :: .int sp :: .ref src :: rest)) rfl hml rfl (by rw [hb]; exact hdg) (by omega) (by show 2 * 0 + (rest.map fun v => v.category).sum + (nativeFrameWords "java/lang/System" "arraycopy" 5 + 11) ≤ R.locals; exact Nat.le_trans (Nat.add_le_add (Nat.le_of_eq (Nat.zero_add _)) (by decide : nativeFrameWords "java/lang/System" "arraycopy" 5 + 11 ≤ 10240)) hRlocals)
  have hT' : (T.setVm vm').heap = H := hT
  revert X st0 hT'
  generalize T.setVm vm' = U
  intro X st0 hT'
  have Y := vx_rebase X (R' := { frames := R.frames, locals := R.locals, cells := 3, slots := 370 }) (Nat.le_refl _) (Nat.le_refl _) hRcells hRslots
  have hhp : ((U.setVm s.vm).setFrames (.invoking m args :: below)).heap = H := hT'
  have hW0 : s.WarmedH ((U.setVm s.vm).setFrames (.invoking m args :: below)).vm := State.WarmedH.refl s
  have hat' : ∀ w ∈ vx_atM "java/lang/ArrayIndexOutOfBoundsException" names, w.before args ((U.setVm s.vm).setFrames (.invoking m args :: below)) = true := fun w hw => vx_ot_at hW0 rfl (List.all_eq_true.mp m7 w hw) (hat w hw)
  have hU' : vx_Zq Bundle.tN "UNASSIGNED_STACK" Bundle.steD A ((U.setVm s.vm).setFrames (.invoking m args :: below)) ((U.setVm s.vm).setFrames (.invoking m args :: below)).heap := by rw [hhp]; exact vx_Zq.moved hW0.alike (hU.kept hS.2.1)
  have hN' : vx_Zq Bundle.tN "SUPPRESSED_SENTINEL" Bundle.listD A ((U.setVm s.vm).setFrames (.invoking m args :: below)) ((U.setVm s.vm).setFrames (.invoking m args :: below)).heap := by rw [hhp]; exact vx_Zq.moved hW0.alike (hN.kept hS.2.1)
  obtain ⟨htext, hnb⟩ := copyTxt_ok hlen
  obtain ⟨S, q, ce, st, Z, -, hce, hcl', hv⟩ := xnvAt Y hexec htr (cls := "java/lang/ArrayIndexOutOfBoundsException") (names := names) (text := "arraycopy: " ++ what) m1 m2 m3 m4 (vx_own hat' (vx_isRefq hU'.1) (vx_isRefq hN'.1) hU'.2.word hN'.2.word) (fun x hx => nomatch hx) htext
    (by rw [Launch.admits_arrayLengthLimit X.admits]; omega) (by rw [Launch.admits_maxHeapBytes X.admits]; simp only [componentBytes]; omega)
    (g := F0 m pc ls rest) rfl hml (nf := { method := mk, args := #[.ref src, .int sp, .ref dst, .int dp, .int n], locked := none }) rfl (by show names.length + 5 < R.frames; omega) (by show 2 * 0 + (rest.map fun v => v.category).sum + 10240 ≤ R.locals; omega) (by omega) (by show 0 + 3 ≤ 3; omega) (by show 0 + (_ + 4 + 6) ≤ 370; omega)
  obtain ⟨f1, f2⟩ := vx_frame Z.same
  have f1' : H.size ≤ S.heap.size := by rw [← hT']; exact f1
  have f2' : ∀ q : Nat, q < H.size → S.heap[q]? = H[q]? := fun q hq => by
    rw [← hT']
    exact f2 q (by rw [← hT'] at hq; exact hq) (fun z hz => nomatch hz)
  have X5 := vx_back9 X Y Z
  have X6 : Stand p l e R s m args below meth c S locs (cells + 3) (slots + 370) := { X5 with same := X5.same.mono (by omega) (by omega) }
  obtain ⟨t, a1, b1⟩ := k S.heap q ce f1' f2' ⟨Nat.le_trans hS.1 f1', fun q h1 h2 => (f2' q (Nat.lt_of_lt_of_le h1 hS.1)).trans (hS.2.1 q h1 h2), hS.2.2⟩ hce hv hcl' S rfl X6
  refine ⟨t, st0 t ?_, b1⟩
  obtain ⟨g1, hfrB⟩ := X6.frames_eq
  have hV : (S.setTop (F0 m pc ls rest)).pushFrame (.throwing q) = S.setFrames (.throwing q :: .java (F0 m pc ls rest) :: below) := by
    rw [State.pushFrame, State.frames_setTop _ hfrB, State.setTop_of_frames _ hfrB, State.setFrames_setFrames]
  rw [hV] at a1
  have st' : Steps p.tables e below (U.setFrames (.throwNew "java/lang/ArrayIndexOutOfBoundsException" (some ("arraycopy: " ++ what)) none :: .native { method := mk, args := #[.ref src, .int sp, .ref dst, .int dp, .int n], locked := none } :: .java (F0 m pc ls rest) :: below)) (S.setFrames (.throwing q :: .native { method := mk, args := #[.ref src, .int sp, .ref dst, .int dp, .int n], locked := none } :: .java (F0 m pc ls rest) :: below)) := st
  refine st'.trans ?_
  exact Steps.throwingLeavesNative ⟨X6.here.running, X6.here.runnable, X6.here.alone⟩ (State.cur_lt_of_frames hfrB) ⟨[.java (F0 m pc ls rest)], rfl⟩ rfl rfl a1
end XT

section XU
variable {inf : ZInf} {pc : Nat}
theorem fit_at {z : ZH} {q : Nat} (h : zfitA z q = true) {j : Nat} (hj : j < zlen z q) : znar (zcls z q) (zia z q j) = zia z q j := of_decide_eq_true (List.all_eq_true.mp h j (List.mem_range.mpr hj))
theorem uc_scpy (z : ZH) (u w i j n : Nat) : zuc (scpy z u w i j n) = zuc z := by unfold scpy; split <;> rfl
theorem us_scpy (z : ZH) (u w i j n : Nat) : zus (scpy z u w i j n) = zus z := by unfold scpy; split <;> rfl
theorem hH_cpyi {X : ZX} {ws : va_W} {z : ZH} {u w t a : Nat} {e1 : va_E} {i j n : Nat} (hH : zHR X ws z) (hr2 : 100 ≤ w) (he1 : ws[w - 100]? = some (a, e1)) (hc : zcls z w = t) (h1 : 50 ≤ t) (h2 : t < 55) (h3 : t ≠ 51) : zHR X (ws.set (w - 100) (a, .inl (xT X t, zlen z w, .inl (va_cpy (zia z u) (zia z w) i j n)))) (sIA z w (va_cpy (zia z u) (zia z w) i j n)) := by
  refine hH.set hr2 he1 (by omega) rfl rfl rfl rfl (fun q hq => ⟨rfl, rfl, rfl, rfl, rfl, zu1_n _ _ _ hq, rfl, rfl, rfl⟩) ?_
  rw [zER_int (z := sIA z w (va_cpy (zia z u) (zia z w) i j n)) hc h1 h2 h3, ia_sIA, zu1_s]
  rfl
theorem hH_cpyl {X : ZX} {ws : va_W} {z : ZH} {u w a : Nat} {e1 : va_E} {i j n : Nat} (hH : zHR X ws z) (hr2 : 100 ≤ w) (he1 : ws[w - 100]? = some (a, e1)) (hc : zcls z w = 51) : zHR X (ws.set (w - 100) (a, .inl (xT X 51, zlen z w, .inr (.inl (va_cpy (zla z u) (zla z w) i j n))))) (sLA z w (va_cpy (zla z u) (zla z w) i j n)) := by
  refine hH.set hr2 he1 (by omega) rfl rfl rfl rfl (fun q hq => ⟨rfl, rfl, rfl, rfl, rfl, rfl, zu1_n _ _ _ hq, rfl, rfl⟩) ?_
  rw [zER_long (z := sLA z w (va_cpy (zla z u) (zla z w) i j n)) hc, la_sLA, zu1_s]
  rfl
section
variable {p : Program} {l : Launch} {e : Env} {R : Room} {s : State} {m : MethodId} {args : Array Value} {below : List Frame} {meth : Method} {c : Code} {H : Heap} {locs : List Loc} {cells slots : Nat} {Q : State → Prop}
variable {X : ZX} {A : Nat → Prop} {w0 ws : va_W} {z : ZH} {ls st1 : List Value} {lsm : Array Slot} {stm : List Value} {idx : Nat} {u w : Nat} {n1 a b : Int32}
theorem cpyI {t k9 : Nat} {ty : FieldType} (ht9 : (ztys (xT X))[k9]? = some (xT X t, ty)) (hty : refKind ty = false) (h1 : 50 ≤ t) (h2 : t < 54) (h3 : t ≠ 51) (hfit : ∀ x : Int32, znar t x = x → fits ty (.int x) = true)
    (hd : decode inf.1 pc = .ok (.invokestatic idx, 3)) (hq : Cond.methodLink inf.2.1.cls idx arraycopyName ∈ lw_all) (C : zCtx X A p l s m args meth c R inf) (I : zInv X A s inf.2.2.1 w0 H locs ws z ls (.int n1 :: .int b :: .ref w :: .int a :: .ref u :: st1) lsm stm) (hz : zcs st1 = true) (hcu : zcls z u = t) (hcw : zcls z w = t) (hf : zfitA z u = true)
    (hin : (¬ a < 0 ∧ ¬ b < 0 ∧ ¬ n1 < 0) ∧ zx a + zx n1 ≤ zlen z u ∧ zx b + zx n1 ≤ zlen z w)
    (kk : ∀ (H' : Heap) (locs' : List Loc) (ws' : va_W) (stm' : List Value), zInv X A s inf.2.2.1 w0 H' locs' ws' (sIA z w (va_cpy (zia z u) (zia z w) (zx a) (zx b) (zx n1))) ls st1 lsm stm' → W p l e R s m args below meth c H' locs' cells slots Q (F0 m (pc + 3) lsm stm')) : W p l e R s m args below meth c H locs cells slots Q (F0 m pc lsm stm) := by
  obtain ⟨hx, hb, hml, hown, hts, hSx, hA, hnm, hfr, hlo, hlk, hfl, -⟩ := C
  obtain ⟨hH, hP, hD, hS, hE, hL, hs⟩ := I
  obtain ⟨u1, rfl, hs1⟩ := zSR_i hs
  obtain ⟨u2, rfl, hs2⟩ := zSR_i hs1
  obtain ⟨a1, u3, rfl, g1, hs3⟩ := zSR_r hs2
  obtain ⟨u4, rfl, hs4⟩ := zSR_i hs3
  obtain ⟨a0, u5, rfl, g0, hs5⟩ := zSR_r hs4
  have h8 := zstk_ok hs5 hz
  obtain ⟨hr1, e0, he0, hE0⟩ := hH.at (by omega) (by omega) g0
  obtain ⟨hr2, e1, he1, hE1⟩ := hH.at (by omega) (by omega) g1
  rw [zER_int hcu h1 (by omega) h3] at hE0
  rw [zER_int hcw h1 (by omega) h3] at hE1
  subst hE0
  subst hE1
  obtain ⟨⟨k1, k2, k3⟩, k4, k5⟩ := hin
  refine va_copyi hx hb (by rw [hml]; exact hL.1.1.symm) hown (hts _ hq) (hts _ q355) (hts _ q354) (hts _ q118) hSx.1 hP hD hS (u - 100) (w - 100) k9 k9 he0 he1 ht9 ht9 hty k1 k2 k3 k4 k5 (fun i hi => hfit _ (by rw [← hcu]; exact fit_at hf (Nat.lt_of_lt_of_le (Nat.add_lt_add_left hi _) k4))) (by omega) (Nat.le_trans (Nat.add_le_add h8 (by decide : nativeFrameWords "java/lang/System" "arraycopy" 5 + 11 ≤ 300)) (by omega)) hd (fun H1 locs1 hP1 hD1 hS1 => ?_)
  have hX := zExt.set (e' := (.inl (xT X t, zlen z w, .inl (va_cpy (zia z u) (zia z w) (zx a) (zx b) (zx n1))) : va_E)) he1
  exact kk H1 locs1 _ _ ⟨hH_cpyi hH hr2 he1 hcw h1 (by omega) h3, hP1, hD1, hS1, hE.trans hX, hL.ext hX, hs5.ext hX⟩
theorem cpyL (hd : decode inf.1 pc = .ok (.invokestatic idx, 3)) (hq : Cond.methodLink inf.2.1.cls idx arraycopyName ∈ lw_all) (C : zCtx X A p l s m args meth c R inf) (I : zInv X A s inf.2.2.1 w0 H locs ws z ls (.int n1 :: .int b :: .ref w :: .int a :: .ref u :: st1) lsm stm) (hz : zcs st1 = true) (hcu : zcls z u = 51) (hcw : zcls z w = 51)
    (hin : (¬ a < 0 ∧ ¬ b < 0 ∧ ¬ n1 < 0) ∧ zx a + zx n1 ≤ zlen z u ∧ zx b + zx n1 ≤ zlen z w)
    (kk : ∀ (H' : Heap) (locs' : List Loc) (ws' : va_W) (stm' : List Value), zInv X A s inf.2.2.1 w0 H' locs' ws' (sLA z w (va_cpy (zla z u) (zla z w) (zx a) (zx b) (zx n1))) ls st1 lsm stm' → W p l e R s m args below meth c H' locs' cells slots Q (F0 m (pc + 3) lsm stm')) : W p l e R s m args below meth c H locs cells slots Q (F0 m pc lsm stm) := by
  obtain ⟨hx, hb, hml, hown, hts, hSx, hA, hnm, hfr, hlo, hlk, hfl, -⟩ := C
  obtain ⟨hH, hP, hD, hS, hE, hL, hs⟩ := I
  obtain ⟨u1, rfl, hs1⟩ := zSR_i hs
  obtain ⟨u2, rfl, hs2⟩ := zSR_i hs1
  obtain ⟨a1, u3, rfl, g1, hs3⟩ := zSR_r hs2
  obtain ⟨u4, rfl, hs4⟩ := zSR_i hs3
  obtain ⟨a0, u5, rfl, g0, hs5⟩ := zSR_r hs4
  have h8 := zstk_ok hs5 hz
  obtain ⟨hr1, e0, he0, hE0⟩ := hH.at (by omega) (by omega) g0
  obtain ⟨hr2, e1, he1, hE1⟩ := hH.at (by omega) (by omega) g1
  rw [zER_long hcu] at hE0
  rw [zER_long hcw] at hE1
  subst hE0
  subst hE1
  obtain ⟨⟨k1, k2, k3⟩, k4, k5⟩ := hin
  refine va_copyl (ty := .long) hx hb (by rw [hml]; exact hL.1.1.symm) hown (hts _ hq) (hts _ q355) (hts _ q354) (hts _ q118) hSx.1 hP hD hS (u - 100) (w - 100) 1 1 he0 he1 rfl rfl rfl k1 k2 k3 k4 k5 (fun i hi => rfl) (by omega) (Nat.le_trans (Nat.add_le_add h8 (by decide : nativeFrameWords "java/lang/System" "arraycopy" 5 + 11 ≤ 300)) (by omega)) hd (fun H1 locs1 hP1 hD1 hS1 => ?_)
  have hX := zExt.set (e' := (.inl (xT X 51, zlen z w, .inr (.inl (va_cpy (zla z u) (zla z w) (zx a) (zx b) (zx n1)))) : va_E)) he1
  exact kk H1 locs1 _ _ ⟨hH_cpyl hH hr2 he1 hcw, hP1, hD1, hS1, hE.trans hX, hL.ext hX, hs5.ext hX⟩
/-- a row's cell: as the machine lays it -/
theorem row_cell {r a0 : Nat} {e0 : va_E} {t : Nat} (hK : va_K (xD X) zcl (ztys (xT X)) s) (hP : va_P (xD X) zcl ws H) (he : ws[r - 100]? = some (a0, e0)) (hE : zER X ws z r e0) (hc : zcls z r = t) (ht : 50 ≤ t ∧ t < 54) : ∃ cell : Cell, H[a0]? = some cell ∧ (∀ k, cell.vm ≠ .statics k) ∧ cell.slots.size = zlen z r ∧ cell.cls = xT X t := by
  by_cases h51 : t = 51
  · subst h51
    rw [zER_long hc] at hE
    subst hE
    refine ⟨_, hP _ _ he, ?_, ?_, ?_⟩
    · rw [vp_cell_l]; exact fun k h => nomatch h
    · rw [vp_cell_l]; exact arrV_size _ _ _
    · rw [vp_cell_l]; rfl
  · rw [zER_int hc ht.1 (by omega) h51] at hE
    subst hE
    refine ⟨_, hP _ _ he, ?_, ?_, ?_⟩
    · rw [vp_cell_i]; exact fun k h => nomatch h
    · rw [vp_cell_i]; exact arrV_size _ _ _
    · rw [vp_cell_i]; rfl
theorem cpyX {t k9 nb : Nat} {ty : FieldType} (ht9 : (ztys (xT X))[k9]? = some (xT X t, ty)) (ht : 50 ≤ t ∧ t < 54)
    (hd : decode inf.1 pc = .ok (.invokestatic idx, 3)) (hq : Cond.methodLink inf.2.1.cls idx arraycopyName ∈ lw_all) (C : zCtx X A p l s m args meth c R inf) (hR : 27 ≤ R.frames ∧ 10800 ≤ R.locals) (I : zInv X A s inf.2.2.1 w0 H locs ws z ls (.int n1 :: .int b :: .ref w :: .int a :: .ref u :: st1) lsm stm) (hz : zcs st1 = true) (hcu : zcls z u = t) (hcw : zcls z w = t) (hlu : zlen z u ≤ 1000) (hlw : zlen z w ≤ 1000)
    (hno : ¬ ((¬ a < 0 ∧ ¬ b < 0 ∧ ¬ n1 < 0) ∧ zx a + zx n1 ≤ zlen z u ∧ zx b + zx n1 ≤ zlen z w)) (hcl : cells + 40 ≤ R.cells) (hsl : slots + 800 ≤ R.slots)
    (kk : ∀ (H' : Heap) (restm : List Value) (q : Addr) (ce : Cell), zInv X A s inf.2.2.1 w0 H' locs ws z ls [.float 0] lsm [.ref q] → H'[q]? = some ce → ce.vm = .none → s.vm.findClass "java/lang/ArrayIndexOutOfBoundsException" = some ce.cls → vx_W p l e R s m args below meth c H' locs (cells + 3) (slots + 370) Q (F0 m pc lsm restm) q) : W p l e R s m args below meth c H locs cells slots Q (F0 m pc lsm stm) := by
  obtain ⟨hx, hb, hml, hown, hts, hSx, hA, hnm, hfr, hlo, hlk, hfl, -⟩ := C
  obtain ⟨hH, hP, hD, hS, hE, hL, hs⟩ := I
  obtain ⟨u1, rfl, hs1⟩ := zSR_i hs
  obtain ⟨u2, rfl, hs2⟩ := zSR_i hs1
  obtain ⟨a1, u3, rfl, g1, hs3⟩ := zSR_r hs2
  obtain ⟨u4, rfl, hs4⟩ := zSR_i hs3
  obtain ⟨a0, u5, rfl, g0, hs5⟩ := zSR_r hs4
  have h8 := zstk_ok hs5 hz
  obtain ⟨hr1, e0, he0, hE0⟩ := hH.at (by omega) (by omega) g0
  obtain ⟨hr2, e1, he1, hE1⟩ := hH.at (by omega) (by omega) g1
  obtain ⟨cs, s1, s2, s3, s4⟩ := row_cell hSx.1 hP he0 hE0 hcu ht
  obtain ⟨cd, d1, d2, d3, d4⟩ := row_cell hSx.1 hP he1 hE1 hcw ht
  obtain ⟨-, k0, hk0, cm0, hkk0⟩ := (hSx.1.2 k9 _ ht9).1 0 (fun _ => .null)
  have hk0 : s.vm.classes[xT X t]? = some k0 := hk0
  obtain ⟨what, hwhat⟩ := copyBad (ty := ty) (ty' := ty) hno
  have hJ := hSx.2.2.2.2.2.2.2.2.2.2
  exact vx_copyNo (cs := cs) (cd := cd) (ks := k0) (kd := k0) hx hb (hL.1.1.trans hml.symm) (hl_of hfl) hown (hts _ hq) (hts _ q355) (hts _ q354) (hts _ q118) xM_out (xwords xM_out.2.1 hts hSx.2.1) hJ.2.2.1 hJ.2.2.2.1 hS s1 d1 s2 d2 (by rw [s4]; exact hk0) (by rw [d4]; exact hk0) hkk0 hkk0 (by rw [s3, d3]; exact hwhat) (copyTxt hlu hlw hwhat) hd (by omega) (by omega) (by omega) (by omega)
    (fun H1 q9 ce h1 h2 h3 h4 h5 h6 => kk H1 _ q9 ce ⟨hH, zP_more hP h2, hD, h3, hE, hL, Or.inr ⟨q9, rfl⟩, trivial⟩ h4 h5 h6)
end
theorem ok_cpyX {idx lo hi h ct : Nat} (hd : decode inf.1 pc = .ok (.invokestatic idx, 3)) (hsl : zSlot inf = true) (htb : inf.2.2.2.2 = [(lo, hi, h, ct)]) (hx : covers ⟨lo, hi, h, ct⟩ pc = true) (h0 : ct ≠ 0) (hlink : Cond.classLink inf.2.1.cls ct "java/lang/IndexOutOfBoundsException" ∈ lw_all) (hq : Cond.methodLink inf.2.1.cls idx arraycopyName ∈ lw_all) : zOK inf pc (z_cpyX h (pc + 3)) := by
  intro ls st z p' ls' st' z' hf0
  unfold z_cpyX at hf0
  split at hf0
  · rename_i n1 b w a u st1
    split at hf0
    · rename_i hcr
      obtain ⟨hz, hu, hcw, hl1, hl2, hfit⟩ := hcr
      split at hf0
      · rename_i hin
        cases hf0
        refine ⟨⟨Nat.le_of_eq (uc_scpy _ _ _ _ _ _).symm, Nat.le_of_eq (us_scpy _ _ _ _ _ _).symm⟩, ?_⟩
        intro p l e R s m args below meth c H locs cells slots Q X A w0 ws lsm stm C I hcl hsl2 k
        rw [uc_scpy, us_scpy] at k
        simp only [Nat.sub_self, Nat.add_zero] at k
        by_cases h51 : zcls z u = 51
        · have e9 : scpy z u w (zx a) (zx b) (zx n1) = sLA z w (va_cpy (zla z u) (zla z w) (zx a) (zx b) (zx n1)) := if_pos (hcw.symm.trans h51)
          rw [e9] at k
          exact cpyL hd hq C I hz h51 (hcw.symm.trans h51) hin (fun H' locs' ws' stm' I' => k H' locs' ws' lsm stm' I')
        · have e9 : scpy z u w (zx a) (zx b) (zx n1) = sIA z w (va_cpy (zia z u) (zia z w) (zx a) (zx b) (zx n1)) := if_neg (fun q => h51 (hcw.trans q))
          rw [e9] at k
          rcases (by omega : zcls z u = 50 ∨ zcls z u = 52 ∨ zcls z u = 53) with q | q | q
          · exact cpyI (t := 50) (k9 := 0) rfl rfl (by decide) (by decide) (by decide) (fun _ _ => rfl) hd hq C I hz q (hcw.symm.trans q) hfit hin (fun H' locs' ws' stm' I' => k H' locs' ws' lsm stm' I')
          · exact cpyI (t := 52) (k9 := 2) rfl rfl (by decide) (by decide) (by decide) (fun _ h => fit8 h) hd hq C I hz q (hcw.symm.trans q) hfit hin (fun H' locs' ws' stm' I' => k H' locs' ws' lsm stm' I')
          · exact cpyI (t := 53) (k9 := 3) rfl rfl (by decide) (by decide) (by decide) (fun _ h => fit16 h) hd hq C I hz q (hcw.symm.trans q) hfit hin (fun H' locs' ws' stm' I' => k H' locs' ws' lsm stm' I')
      · rename_i hno
        cases hf0
        refine ⟨⟨Nat.le_add_right _ _, Nat.le_add_right _ _⟩, ?_⟩
        intro p l e R s m args below meth c H locs cells slots Q X A w0 ws lsm stm C I hcl hsl2 k
        have u1 : zuc (spay z 40 800) - zuc z = 40 := Nat.add_sub_cancel_left _ _
        have u2 : zus (spay z 40 800) - zus z = 800 := Nat.add_sub_cancel_left _ _
        rw [u1] at hcl k
        rw [u2] at hsl2 k
        have hR := xroom (C.2.2.2.2.2.2.2.2.2.2.2.2.2.1 hsl)
        have fin : ∀ (H' : Heap) (restm : List Value) (q : Addr) (ce : Cell), zInv X A s inf.2.2.1 w0 H' locs ws z ls [.float 0] lsm [.ref q] → H'[q]? = some ce → ce.vm = .none → s.vm.findClass "java/lang/ArrayIndexOutOfBoundsException" = some ce.cls → vx_W p l e R s m args below meth c H' locs (cells + 3) (slots + 370) Q (F0 m pc lsm restm) q := fun H' restm q ce I1 g1 g2 g3 =>
          vx_widen (k := cells + 40) (n := slots + 800) (by omega) (by omega) (xCatch C [] ⟨lo, hi, h, ct⟩ [] (by rw [htb]; rfl) (fun y hy => nomatch hy) hx h0 hlink q2271 g1 g2 g3 (k H' locs ws lsm _ ⟨zHR_pay I1.1, I1.2⟩))
        rcases (by omega : zcls z u = 50 ∨ zcls z u = 51 ∨ zcls z u = 52 ∨ zcls z u = 53) with q | q | q | q
        · exact cpyX (t := 50) (k9 := 0) rfl (by decide) hd hq C hR I hz q (hcw.symm.trans q) hl1 hl2 hno hcl hsl2 fin
        · exact cpyX (t := 51) (k9 := 1) rfl (by decide) hd hq C hR I hz q (hcw.symm.trans q) hl1 hl2 hno hcl hsl2 fin
        · exact cpyX (t := 52) (k9 := 2) rfl (by decide) hd hq C hR I hz q (hcw.symm.trans q) hl1 hl2 hno hcl hsl2 fin
        · exact cpyX (t := 53) (k9 := 3) rfl (by decide) hd hq C hR I hz q (hcw.symm.trans q) hl1 hl2 hno hcl hsl2 fin
    · cases hf0
  · cases hf0
/-- the primitive: int rows -/
theorem p_acpy (inf : ZInf) (pc idx cnt : Nat) (hd : decode inf.1 pc = .ok (.invokestatic idx, 3)) (hq : Cond.methodLink inf.2.1.cls idx ⟨"java/lang/System", "arraycopy", "(Ljava/lang/Object;ILjava/lang/Object;II)V"⟩ ∈ lw_all) : zOK inf pc (z_acpy (pc + 3)) := by
  intro ls st z p' ls' st' z' hf0
  unfold z_acpy at hf0
  split at hf0
  · rename_i n1 b w a u st1
    split at hf0
    · rename_i hcr
      obtain ⟨⟨hz, hcu, hcw, -⟩, ⟨hi1, hi2, hi3⟩, hb1, hb2⟩ := hcr
      cases hf0
      refine ⟨⟨Nat.le_refl _, Nat.le_refl _⟩, ?_⟩
      intro p l e R s m args below meth c H locs cells slots Q X A w0 ws lsm stm C I hcl hsl2 k
      simp only [uc_sIA, us_sIA, Nat.sub_self, Nat.add_zero] at k
      exact cpyI (t := 50) (k9 := 0) rfl rfl (by decide) (by decide) (by decide) (fun _ _ => rfl) hd hq C I hz hcu hcw (by unfold zfitA; rw [hcu]; exact List.all_eq_true.mpr (fun j _ => decide_eq_true rfl)) ⟨⟨fun q => zin_vp hi1 (Or.inl q), fun q => zin_vp hi2 (Or.inl q), fun q => zin_vp hi3 (Or.inl q)⟩, hb1, hb2⟩ (fun H' locs' ws' stm' I' => k H' locs' ws' lsm stm' I')
    · cases hf0
  · cases hf0
end XU

