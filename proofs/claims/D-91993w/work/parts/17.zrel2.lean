/-! Z and the machine: what holds at every place, and when an operation is sound -/
set_option maxRecDepth 100000
/-- a method: code, name, locals, answer -/
abbrev ZInf : Type := ByteArray × MethodName × Nat × Option FieldType × List (Nat × Nat × Nat × Nat)
/-- the words of the tables that don't ride along -/
def zNest (w : Cond) : Bool := match w with
  | .fieldLinkNest .. => true
  | .methodLinkNest .. => true
  | .castable .. => true
  | .declares .. => true
  | _ => false
theorem zNest.warm {w : Cond} {s U : State} (hw : zNest w = true) (hW : s.WarmedH U.vm) (h : va_Nw w s) : va_Nw w U := by
  cases w <;> first | exact va_Nw.warmF hW h | exact va_Nw.warmM hW h | exact va_Nw.warmC hW h | exact va_Nw.warmD hW h | exact absurd hw (by decide) | exact absurd hw (fun q => by cases q)
theorem zNest.same {w : Cond} {s U : State} (hw : zNest w = true) (hv : s.vm = U.vm) (h : va_Nw w s) : va_Nw w U := by
  refine va_Nw.same ?_ hv h
  cases w <;> first | rfl | exact absurd hw (fun q => by cases q)
/-- the texts: how long, their bytes -/
def zLen : List Nat := ztxs.map List.length
def zByt : List (List Int32) := ztxs.map (List.map nI)
def zStrs : List (String × Nat × String × Nat) := [("CardBowl$Reader", 11, "sun", 28), ("CardBowl$Reader", 13, "mon", 19), ("CardBowl$Reader", 15, "tue", 32), ("CardBowl$Reader", 17, "wed", 33), ("CardBowl$Reader", 19, "thu", 30), ("CardBowl$Reader", 21, "fri", 9), ("CardBowl$Reader", 23, "sat", 26), ("CardBowl$Reader", 31, "sent", 27), ("CardBowl$Reader", 33, "card", 5), ("CardBowl$Reader", 35, "call", 3), ("CardBowl$Reader", 37, "dinner", 8), ("CardBowl$Reader", 42, "more", 20), ("CardBowl$Reader", 44, "less", 16), ("CardBowl$Reader", 46, "same", 25), ("CardBowl$Reader", 51, "mine", 17), ("CardBowl$Reader", 53, "theirs", 29), ("CardBowl$Reader", 55, "debts", 7), ("CardBowl$Reader", 57, "day", 6), ("CardBowl$Reader", 59, "known", 15), ("CardBowl$Reader", 250, "house", 11), ("CardBowl$Reader", 225, "owes", 22), ("CardBowl$Reader", 229, "within", 34), ("CardBowl$Reader", 234, "if", 12), ("CardBowl$Reader", 211, "times", 31), ("CardBowl$Reader", 221, "plus", 23), ("CardBowl$Reader", 223, "minus", 18), ("CardBowl$Reader", 245, "and", 0), ("CardBowl$Reader", 149, "at", 1), ("CardBowl$Reader", 159, "rank", 24), ("CardBowl$Reader", 163, "home", 10), ("CardBowl$Reader", 175, "came", 4), ("CardBowl$Reader", 179, "bride", 2), ("CardBowl$Reader", 259, "know", 14), ("CardBowl$Reader", 263, "new", 21), ("CardBowl$Reader", 268, "introduce", 13), ("CardBowlModel", 197, "sent", 27), ("CardBowlModel", 199, "card", 5), ("CardBowlModel", 201, "call", 3), ("CardBowlModel", 203, "dinner", 8), ("CardBowlModel", 266, "house", 11), ("CardBowlModel", 268, "know", 14), ("CardBowlModel", 270, "new", 21), ("CardBowlModel", 272, "introduce", 13), ("CardBowlModel", 255, "owes", 22), ("CardBowlModel", 257, "within", 34), ("CardBowlModel", 259, "if", 12), ("CardBowlModel", 224, "mine", 17), ("CardBowlModel", 226, "theirs", 29), ("CardBowlModel", 228, "debts", 7), ("CardBowlModel", 230, "day", 6), ("CardBowlModel", 232, "known", 15), ("CardBowlModel", 237, "plus", 23), ("CardBowlModel", 239, "minus", 18), ("CardBowlModel", 241, "times", 31), ("CardBowlModel", 246, "more", 20), ("CardBowlModel", 248, "less", 16), ("CardBowlModel", 250, "same", 25), ("CardBowlModel", 264, "and", 0), ("CardBowlModel", 205, "at", 1), ("CardBowlModel", 210, "rank", 24), ("CardBowlModel", 212, "home", 10), ("CardBowlModel", 183, "sun", 28), ("CardBowlModel", 185, "mon", 19), ("CardBowlModel", 187, "tue", 32), ("CardBowlModel", 189, "wed", 33), ("CardBowlModel", 191, "thu", 30), ("CardBowlModel", 193, "fri", 9), ("CardBowlModel", 195, "sat", 26), ("CardBowlModel", 220, "came", 4), ("CardBowlModel", 222, "bride", 2)]
def zOver : List String := ["CardBowl$Slot", "CardBowl$State", "CardBowl$Paying", "java/lang/String", "java/lang/Object"]
def zFaces : List (MethodName × MethodName) := [(⟨"java/util/List", "size", "()I"⟩, ⟨"java/util/ArrayList", "size", "()I"⟩), (⟨"java/util/List", "get", "(I)Ljava/lang/Object;"⟩, ⟨"java/util/ArrayList", "get", "(I)Ljava/lang/Object;"⟩), (⟨"java/util/List", "add", "(Ljava/lang/Object;)Z"⟩, ⟨"java/util/ArrayList", "add", "(Ljava/lang/Object;)Z"⟩), (⟨"java/util/List", "remove", "(I)Ljava/lang/Object;"⟩, ⟨"java/util/ArrayList", "remove", "(I)Ljava/lang/Object;"⟩), (⟨"java/util/List", "clear", "()V"⟩, ⟨"java/util/ArrayList", "clear", "()V"⟩)]
def zNcs : List (String × String) := [("[B", "[S"), ("[B", "[I"), ("[B", "[J"), ("[S", "[B"), ("[S", "[I"), ("[S", "[J"), ("[I", "[B"), ("[I", "[S"), ("[I", "[J"), ("[J", "[B"), ("[J", "[S"), ("[J", "[I"), ("java/lang/ArrayIndexOutOfBoundsException", "java/lang/NullPointerException"), ("java/lang/ArrayIndexOutOfBoundsException", "java/lang/ClassCastException"), ("java/lang/NullPointerException", "java/lang/ClassCastException")]
/-- what the JDK's own statics hold, all through -/
def zJx (X : ZX) (A : Nat → Prop) (U : State) (H : Heap) : Prop :=
  va_Z "java/lang/String" "COMPACT_STRINGS" "Z" (.int 1) A U H ∧ va_Zq "jdk/internal/util/Preconditions" "SIOOBE_FORMATTER" "Ljava/util/function/BiFunction;" A U H ∧ vx_Zq Bundle.tN "UNASSIGNED_STACK" Bundle.steD A U H ∧ vx_Zq Bundle.tN "SUPPRESSED_SENTINEL" Bundle.listD A U H ∧ va_Mi "[Ljava/lang/Object;" (xK X 98) U ∧ va_Dc U ∧ (∀ i, i < 35 → xK X (35 + i) = xV X i) ∧ modulesRight_1 U = true
theorem zJx.moved {X : ZX} {A : Nat → Prop} {u U : State} {H : Heap} (hvm : u.vm.Alike U.vm) (h : zJx X A u H) : zJx X A U H := by
  obtain ⟨h1, h2, h3, h4, h5, h6, h8, h7⟩ := h
  refine ⟨h1.moved hvm, h2.moved hvm, h3.moved hvm, h4.moved hvm, h5.moved hvm, h6.moved hvm, h8, ?_⟩
  have e : U.vm.modules = u.vm.modules := by rw [hvm.1]
  unfold modulesRight_1 at h7 ⊢
  rw [e]; exact h7
theorem zJx.kept {X : ZX} {A : Nat → Prop} {U : State} {H H1 : Heap} (h : zJx X A U H) (hq : ∀ a : Nat, a < H.size → ¬ A a → H1[a]? = H[a]?) : zJx X A U H1 := ⟨h.1.kept hq, h.2.1.kept hq, h.2.2.1.kept hq, h.2.2.2.1.kept hq, h.2.2.2.2⟩
theorem zJx.narrow {X : ZX} {A B : Nat → Prop} {U : State} {H : Heap} (h : zJx X A U H) (hAB : ∀ q, B q → A q) : zJx X B U H := ⟨h.1.narrow hAB, h.2.1.narrow hAB, h.2.2.1.narrow hAB, h.2.2.2.1.narrow hAB, h.2.2.2.2⟩
/-- what the machine's tables and its old heap say all through a run -/
def zSx (X : ZX) (A : Nat → Prop) (U : State) : Prop :=
  va_K (xD X) zcl (ztys (xT X)) U ∧ (∀ w ∈ lw_tbl, zNest w = true → va_Nw w U) ∧ (∀ q ∈ zStrs, vk_R q.1 q.2.1 q.2.2.1 (xK X q.2.2.2) U) ∧ (∀ C ∈ zOver, va_AO C U) ∧ (∀ q ∈ zFaces, va_Fw "java/util/ArrayList" q.1 q.2 U) ∧ (∀ q ∈ zNcs, va_Nc q.1 q.2 U) ∧ vk_S 35 zLen zByt (xK X) (xV X) A U U.heap ∧ va_X (xK X 99) (xL X) (xS X) U U.heap ∧ xK X 99 < U.heap.size ∧ ¬ A (xK X 99) ∧ zJx X A U U.heap
theorem zFaces_ok : ∀ q ∈ zFaces, q.1.cls ≠ "java/lang/invoke/MethodHandle" ∧ q.1.cls ≠ "java/lang/invoke/VarHandle" := by decide +kernel
/-- seen from a state with the same heap but for cells of A, fewer cells -/
theorem zSx.to {X : ZX} {A B : Nat → Prop} {s U : State} {locs : List Loc} (h : zSx X A s) (hW : s.WarmedH U.vm) (hS : va_S A s.heap U.heap locs) (hAB : ∀ q, B q → A q) : zSx X B U := by
  obtain ⟨h1, h2, h3, h4, h5, hNc, h6, h7, h8, h9, hJ⟩ := h
  have hk : U.heap[xK X 99]? = s.heap[xK X 99]? := hS.2.1 _ h8 h9
  refine ⟨va_K.moved hW.alike h1, fun w hw hn => (h2 w hw hn |> zNest.warm hn hW), fun q hq => (h3 q hq).warm hW, fun C hC => (h4 C hC).moved hW.alike, fun q hq => (h5 q hq).moved (zFaces_ok q hq) hW.alike, fun q hq => (hNc q hq).moved hW.alike, ?_, ?_, Nat.lt_of_lt_of_le h8 hS.1, fun q => h9 (hAB _ q), ((hJ.kept hS.2.1).moved hW.alike).narrow hAB⟩
  · exact ((h6.kept hS.2.1).moved hW.alike).narrow hAB
  · exact (h7.kept hk).moved hW.alike
theorem zSx.same {X : ZX} {A : Nat → Prop} {s U : State} (h : zSx X A s) (hv : U.vm = s.vm) (hh : U.heap = s.heap) : zSx X A U := by
  obtain ⟨h1, h2, h3, h4, h5, hNc, h6, h7, h8, h9, hJ⟩ := h
  have ha : s.vm.Alike U.vm := by rw [hv]; exact Vm.Alike.refl _
  refine ⟨va_K.moved ha h1, fun w hw hn => zNest.same hn hv.symm (h2 w hw hn), fun q hq => (h3 q hq).same hv, fun C hC => (h4 C hC).moved ha, fun q hq => (h5 q hq).moved (zFaces_ok q hq) ha, fun q hq => (hNc q hq).moved ha, ?_, ?_, by rw [hh]; exact h8, h9, by rw [hh]; exact hJ.moved ha⟩
  · rw [hh]; exact h6.moved ha
  · rw [hh]; exact h7.moved ha
/-- the JDK's classes that Z runs by themselves -/
def zJdk : List String := ["java/util/ArrayList", "java/util/AbstractList", "java/util/AbstractCollection", "java/util/Objects", "java/util/Arrays", "jdk/internal/util/ArraysSupport", "jdk/internal/util/Preconditions", "java/lang/String", "java/lang/StringLatin1", "java/lang/Exception", "java/lang/Throwable"]
def zSlot (inf : ZInf) : Bool := inf.2.1.cls == "CardBowl$Slot"
/-- how deep a slot's method still calls -/
def zLev (inf : ZInf) : Nat := if inf.2.1.name = "putWider" then 0 else if inf.2.1.name = "put" then 2 else 4
theorem zLev_le (inf : ZInf) : zLev inf ≤ 4 := by
  unfold zLev
  split
  · decide
  · split
    · decide
    · decide
def zMain (inf : ZInf) : Bool := !(zJdk.contains inf.2.1.cls) && !(zSlot inf)
def zCtx (X : ZX) (A : Nat → Prop) (p : Program) (l : Launch) (s : State) (m : MethodId) (args : Array Value) (meth : Method) (c : Code) (R : Room) (inf : ZInf) : Prop :=
  p.tables.exec = Jvm.exec ∧ c.code = inf.1 ∧ c.maxLocals = inf.2.2.1 ∧ s.vm.findClass inf.2.1.cls = some m.cls ∧ (∀ w ∈ lw_all, w.before args s = true) ∧ zSx X A s ∧ (∀ q, s.heap.size ≤ q → A q) ∧ meth.name = inf.2.1.name ∧ 8 ≤ R.frames ∧ 400 ≤ R.locals ∧ meth.locks = false ∧ l.flags = flags0 ∧ (zMain inf = true → 40 ≤ R.frames ∧ 16000 ≤ R.locals) ∧ (zSlot inf = true → 27 + zLev inf ≤ R.frames ∧ 400 * (27 + zLev inf) ≤ R.locals) ∧ c.exceptionTable.toList = tableOf inf.2.2.2.2
def zInv (X : ZX) (A : Nat → Prop) (s : State) (nL : Nat) (w0 : va_W) (H : Heap) (locs : List Loc) (ws : va_W) (z : ZH) (ls st : List Value) (lsm : Array Slot) (stm : List Value) : Prop :=
  zHR X ws z ∧ va_P (xD X) zcl ws H ∧ va_D A ws ∧ va_S A s.heap H locs ∧ zExt w0 ws ∧ zLR X ws nL ls lsm ∧ zSR X ws st stm
/-- the operation f at the place pc of the method inf is what the machine does there -/
def zOK (inf : ZInf) (pc : Nat) (f : ZF) : Prop :=
  ∀ (ls st : List Value) (z : ZH) (p' : Nat) (ls' st' : List Value) (z' : ZH), f ls st z = some (p', ls', st', z') → (zuc z ≤ zuc z' ∧ zus z ≤ zus z') ∧
    ∀ (p : Program) (l : Launch) (e : Env) (R : Room) (s : State) (m : MethodId) (args : Array Value) (below : List Frame) (meth : Method) (c : Code) (H : Heap) (locs : List Loc) (cells slots : Nat) (Q : State → Prop) (X : ZX) (A : Nat → Prop) (w0 ws : va_W) (lsm : Array Slot) (stm : List Value),
      zCtx X A p l s m args meth c R inf → zInv X A s inf.2.2.1 w0 H locs ws z ls st lsm stm → cells + (zuc z' - zuc z) ≤ R.cells → slots + (zus z' - zus z) ≤ R.slots →
      (∀ (H' : Heap) (locs' : List Loc) (ws' : va_W) (lsm' : Array Slot) (stm' : List Value), zInv X A s inf.2.2.1 w0 H' locs' ws' z' ls' st' lsm' stm' → W p l e R s m args below meth c H' locs' (cells + (zuc z' - zuc z)) (slots + (zus z' - zus z)) Q (F0 m p' lsm' stm')) →
      W p l e R s m args below meth c H locs cells slots Q (F0 m pc lsm stm)
/-- an operation that leaves the heap alone -/
theorem zOK_pure {inf : ZInf} {pc : Nat} {f : ZF} (h : ∀ (ls st : List Value) (z : ZH) (p' : Nat) (ls' st' : List Value) (z' : ZH), f ls st z = some (p', ls', st', z') → z' = z ∧
    ∀ (p : Program) (l : Launch) (e : Env) (R : Room) (s : State) (m : MethodId) (args : Array Value) (below : List Frame) (meth : Method) (c : Code) (H : Heap) (locs : List Loc) (cells slots : Nat) (Q : State → Prop) (X : ZX) (A : Nat → Prop) (w0 ws : va_W) (lsm : Array Slot) (stm : List Value),
      zCtx X A p l s m args meth c R inf → zInv X A s inf.2.2.1 w0 H locs ws z ls st lsm stm →
      (∀ (lsm' : Array Slot) (stm' : List Value), zLR X ws inf.2.2.1 ls' lsm' → zSR X ws st' stm' → W p l e R s m args below meth c H locs cells slots Q (F0 m p' lsm' stm')) →
      W p l e R s m args below meth c H locs cells slots Q (F0 m pc lsm stm)) : zOK inf pc f := by
  intro ls st z p' ls' st' z' hf
  obtain ⟨rfl, h⟩ := h ls st z p' ls' st' z' hf
  refine ⟨⟨Nat.le_refl _, Nat.le_refl _⟩, ?_⟩
  intro p l e R s m args below meth c H locs cells slots Q X A w0 ws lsm stm C I _ _ k
  refine h p l e R s m args below meth c H locs cells slots Q X A w0 ws lsm stm C I (fun lsm' stm' h1 h2 => ?_)
  have k1 := k H locs ws lsm' stm' ⟨I.1, I.2.1, I.2.2.1, I.2.2.2.1, I.2.2.2.2.1, h1, h2⟩
  rw [Nat.sub_self, Nat.sub_self] at k1
  exact k1
/-- .. and the locals -/
theorem zOK_stk {inf : ZInf} {pc : Nat} {f : ZF} (h : ∀ (ls st : List Value) (z : ZH) (p' : Nat) (ls' st' : List Value) (z' : ZH), f ls st z = some (p', ls', st', z') → (z' = z ∧ ls' = ls) ∧
    ∀ (p : Program) (l : Launch) (e : Env) (R : Room) (s : State) (m : MethodId) (args : Array Value) (below : List Frame) (meth : Method) (c : Code) (H : Heap) (locs : List Loc) (cells slots : Nat) (Q : State → Prop) (X : ZX) (A : Nat → Prop) (w0 ws : va_W) (lsm : Array Slot) (stm : List Value),
      zCtx X A p l s m args meth c R inf → zInv X A s inf.2.2.1 w0 H locs ws z ls st lsm stm → zSR X ws st stm →
      (∀ (stm' : List Value), zSR X ws st' stm' → W p l e R s m args below meth c H locs cells slots Q (F0 m p' lsm stm')) →
      W p l e R s m args below meth c H locs cells slots Q (F0 m pc lsm stm)) : zOK inf pc f := by
  refine zOK_pure (fun ls st z p' ls' st' z' hf => ?_)
  obtain ⟨⟨rfl, rfl⟩, h⟩ := h ls st z p' ls' st' z' hf
  refine ⟨rfl, ?_⟩
  intro p l e R s m args below meth c H locs cells slots Q X A w0 ws lsm stm C I k
  exact h p l e R s m args below meth c H locs cells slots Q X A w0 ws lsm stm C I I.2.2.2.2.2.2 (fun stm' h2 => k lsm stm' I.2.2.2.2.2.1 h2)
