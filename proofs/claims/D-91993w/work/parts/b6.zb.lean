set_option maxRecDepth 100000
/-! the primitives: calls of the JDK's methods, run by the second program -/
theorem lw_F {own : String} {idx : Nat} {C : String} {x y : MethodName} {b : ByteArray} {L : Nat} {r : Option FieldType} (h1 : Cond.methodLink own idx x ∈ lw_all) (h2 : Cond.selects C x y ∈ lw_all) (h3 : Cond.instanceMethod y ∈ lw_all) (h4 : Cond.initialized y.cls ∈ lw_all) (h5 : Cond.code y b L r ∈ lw_all) : GoodIn lw_all (va_wsF own idx C x y (ws_ y b L r)) := by
  refine lw_app ?_ (lw_meth h5)
  intro w hw
  simp only [List.mem_cons, List.not_mem_nil, or_false] at hw
  rcases hw with e | e | e | e
  · rw [e]; exact h1
  · rw [e]; exact h2
  · rw [e]; exact h3
  · rw [e]; exact h4
/-- the methods that the primitives are -/
def jy (y : MethodName) : Bool := y.cls == "java/util/List" || (y.cls == "java/util/ArrayList" && y.name == "<init>") || (y.cls == "java/lang/String" && (y.name == "length" || y.name == "charAt")) || (y.cls == "java/lang/Exception" && y.desc == "(Ljava/lang/String;Ljava/lang/Throwable;ZZ)V") || (y.cls == "CardBowl$Slot" && (y.name == "begins" || y.name == "puts" || y.name == "pastes"))
/-- words of a JDK class, or of a slot, that would link to one of them -/
def jbad (w : Cond) : Bool := match w with
  | .methodLink c _ y => jy y && (zJdk.contains c || c == "CardBowl$Slot")
  | _ => false
theorem jgood : lw_all.all (fun w => !jbad w) = true := by decide +kernel
theorem jmain {inf : ZInf} {idx : Nat} {y : MethodName} (h : Cond.methodLink inf.2.1.cls idx y ∈ lw_all) (hy : jy y = true) : zMain inf = true := by
  have h1 := List.all_eq_true.mp jgood _ h
  have h2 : jbad (Cond.methodLink inf.2.1.cls idx y) = (true && (zJdk.contains inf.2.1.cls || inf.2.1.cls == "CardBowl$Slot")) := by
    unfold jbad
    dsimp only
    rw [hy]
  rw [h2, Bool.true_and, Bool.not_or] at h1
  exact h1
section JP
theorem jMet {k d : Nat} {as : List Value} {y y' : ZH} {v : Option Value} {l : Launch} (hfl : l.flags = flags0) (hk : zIOK zJ 8 jInfo k) (hrun : ZC zJ d k as y (fun o w => o = .inl v ∧ w = y')) (hfit : (zent as).length ≤ jMl k) (X : ZX) (ws : va_W) (sz : Nat) (as' : List Value) (hH : zHR X ws y) (has : zSR X ws as as') (hD : va_D (fun _ => True) ws) : Met l (jInfo k).2.1 (zws (jInfo k)) (zRm 8 d (zuc y' - zuc y) (zus y' - zus y)) (zPc X ws sz as') (zQr X ws sz y' v) (zuc y' - zuc y) (zus y' - zus y) (va_A ws sz) ∧ (zuc y ≤ zuc y' ∧ zus y ≤ zus y') := by
  obtain ⟨n, ⟨o, z1⟩, hev, ho, hz⟩ := hrun
  dsimp only at ho hz
  subst ho
  subst hz
  exact ⟨zEnter (zSJ n) hfl hk hev hfit X ws sz as' hH has hD, (zSJ n d k 0 _ [] y _ _ hev).1⟩
variable {p : Program} {l : Launch} {e : Env} {R : Room} {s : State} {m : MethodId} {args : Array Value} {below : List Frame} {meth : Method} {c : Code} {H : Heap} {locs : List Loc} {cells slots : Nat} {Q : State → Prop}
theorem jgo3 {X : ZX} {A : Nat → Prop} {nL : Nat} {w0 ws : va_W} {z y' z' : ZH} {ls st rest : List Value} {lsm : Array Slot} {stm restm : List Value} {mc ms pc : Nat} {v : Option Value} {a9 : Array Value}
    (hr : va_Run p l e R s m args below meth c H locs cells slots mc ms (F0 m pc lsm stm) restm (zQr X ws H.size y' v a9) (va_A ws H.size)) (hA : ∀ q, s.heap.size ≤ q → A q) (I : zInv X A s nL w0 H locs ws z ls st lsm stm) (hrest : zSR X ws rest restm) (conv : ∀ ws', zHR X ws' y' → zHR X ws' z')
    (kk : ∀ (H' : Heap) (locs' : List Loc) (ws' : va_W) (stm' : List Value), zInv X A s nL w0 H' locs' ws' z' ls (v.toList ++ rest) lsm stm' → W p l e R s m args below meth c H' locs' (cells + mc) (slots + ms) Q (F0 m (pc + 3) lsm stm')) : W p l e R s m args below meth c H locs cells slots Q (F0 m pc lsm stm) := by
  intro T hT X0
  have hFr := zFree hA I
  obtain ⟨hH, hP, hD, hS, hE, hL, hs⟩ := I
  obtain ⟨v', st₀, t, T', L, h0, X', hLL, e1, e2, ⟨⟨v'', ws', hv, hor, hH', hext, hP', hD'⟩, hF⟩, st1⟩ := hr T hT X0
  cases hv
  obtain ⟨k1, k2, k3⟩ := vx_keep h0 e1 hS (fun q _ h => hFr q h) hFr hLL hF
  have hstk : zSR X ws' (v.toList ++ rest) (v'.toList ++ restm) := by
    refine zSR.app ?_ (hrest.ext hext)
    match v, v', hor with
    | none, none, _ => exact trivial
    | some a, some b, h => exact ⟨h, trivial⟩
  obtain ⟨t2, a1, b1⟩ := kk T'.heap (locs ++ L) ws' _ ⟨conv ws' hH', by rw [e1]; exact hP', hD'.weaken (fun _ _ _ h => hFr _ h), k3, hE.trans hext, hL.ext hext, hstk⟩ T' rfl X'
  exact ⟨t2, st1 t2 a1, b1⟩
theorem jgo5 {X : ZX} {A : Nat → Prop} {nL : Nat} {w0 ws : va_W} {z y' z' : ZH} {ls st rest : List Value} {lsm : Array Slot} {stm restm : List Value} {mc ms pc : Nat} {v : Option Value} {a9 : Array Value}
    (hr : va_Run5 p l e R s m args below meth c H locs cells slots mc ms (F0 m pc lsm stm) restm (zQr X ws H.size y' v a9) (va_A ws H.size)) (hA : ∀ q, s.heap.size ≤ q → A q) (I : zInv X A s nL w0 H locs ws z ls st lsm stm) (hrest : zSR X ws rest restm) (conv : ∀ ws', zHR X ws' y' → zHR X ws' z')
    (kk : ∀ (H' : Heap) (locs' : List Loc) (ws' : va_W) (stm' : List Value), zInv X A s nL w0 H' locs' ws' z' ls (v.toList ++ rest) lsm stm' → W p l e R s m args below meth c H' locs' (cells + mc) (slots + ms) Q (F0 m (pc + 5) lsm stm')) : W p l e R s m args below meth c H locs cells slots Q (F0 m pc lsm stm) := by
  intro T hT X0
  have hFr := zFree hA I
  obtain ⟨hH, hP, hD, hS, hE, hL, hs⟩ := I
  obtain ⟨v', st₀, t, T', L, h0, X', hLL, e1, e2, ⟨⟨v'', ws', hv, hor, hH', hext, hP', hD'⟩, hF⟩, st1⟩ := hr T hT X0
  cases hv
  obtain ⟨k1, k2, k3⟩ := vx_keep h0 e1 hS (fun q _ h => hFr q h) hFr hLL hF
  have hstk : zSR X ws' (v.toList ++ rest) (v'.toList ++ restm) := by
    refine zSR.app ?_ (hrest.ext hext)
    match v, v', hor with
    | none, none, _ => exact trivial
    | some a, some b, h => exact ⟨h, trivial⟩
  obtain ⟨t2, a1, b1⟩ := kk T'.heap (locs ++ L) ws' _ ⟨conv ws' hH', by rw [e1]; exact hP', hD'.weaken (fun _ _ _ h => hFr _ h), k3, hE.trans hext, hL.ext hext, hstk⟩ T' rfl X'
  exact ⟨t2, st1 t2 a1, b1⟩
/-- a JDK's method, called by a name -/
theorem jCall {inf : ZInf} {pc k d : Nat} {sel : ZS} (hok : zCOK jInfo inf pc (pc + 3) sel) (hk : zIOK zJ 8 jInfo k) (hmn : zMain inf = true) (hL20 : (jInfo k).2.2.1 ≤ 20) (hd20 : d ≤ 20)
    {X : ZX} {A : Nat → Prop} {w0 ws : va_W} {z y1 y2 z' : ZH} {ls st as st1 : List Value} {lsm : Array Slot} {stm : List Value} {v : Option Value}
    (C : zCtx X A p l s m args meth c R inf) (I : zInv X A s inf.2.2.1 w0 H locs ws z ls st lsm stm) (hsel : sel z st = some (k, as, st1)) (hz : zcs st1 = true) (h1 : zHR X ws y1) (hfit : (zent as).length ≤ jMl k)
    (hrun : ZC zJ d k as y1 (fun o w => o = .inl v ∧ w = y2)) (hc1 : cells + (zuc y2 - zuc y1) ≤ R.cells) (hc2 : slots + (zus y2 - zus y1) ≤ R.slots) (conv : ∀ ws', zHR X ws' y2 → zHR X ws' z')
    (kk : ∀ (H' : Heap) (locs' : List Loc) (ws' : va_W) (stm' : List Value), zInv X A s inf.2.2.1 w0 H' locs' ws' z' ls (v.toList ++ st1) lsm stm' → W p l e R s m args below meth c H' locs' (cells + (zuc y2 - zuc y1)) (slots + (zus y2 - zus y1)) Q (F0 m (pc + 3) lsm stm')) : W p l e R s m args below meth c H locs cells slots Q (F0 m pc lsm stm) := by
  have C0 := C
  obtain ⟨hx, hb, hml, hown, hts, hSx, hA, hnm, hfr, hlo, hlk, hfl, hmain, -⟩ := C
  obtain ⟨h40, h16⟩ := hmain hmn
  have hFr := zFree hA I
  obtain ⟨hH, hP, hD, hS, hE, hL, hsr⟩ := id I
  obtain ⟨hst, hrun2⟩ := hok.2 z st k as st1 hsel
  subst hst
  obtain ⟨as2, restm, e3, has, hrest⟩ : ∃ as' restm, stm = as'.reverse ++ restm ∧ zSR X ws as as' ∧ zSR X ws st1 restm := zSR_split hsr
  have hM := (jMet (k := k) (d := d) hfl hk hrun hfit X ws H.size as2 h1 has (hD.weaken (fun _ _ _ _ => trivial))).1
  exact jgo3 (hrun2 p l e R s m args below meth c H locs cells slots X A w0 ws ls lsm stm 8 d _ _ _ _ _ as2 restm C0 I hz (by omega) (by omega) hc1 hc2 e3 has hrest hM zPc_blind (fun U hU hW => ⟨rfl, by rw [hU], by rw [hU]; exact hP, hSx.to hW (by rw [hU]; exact hS) hFr⟩)) hA I hrest conv kk
set_option maxHeartbeats 2000000 in
/-- a list's method, called through the interface -/
theorem jListF {inf : ZInf} {pc idx cnt k n d : Nat} {x y : MethodName} {cc : ByteArray} {L : Nat} {rt : Option FieldType} (hd : decode inf.1 pc = .ok (.invokeinterface idx cnt, 5)) (hi : jInfo k = (cc, y, L, rt, [])) (hk : zIOK zJ 8 jInfo k) (hface : (x, y) ∈ zFaces) (q1 : Cond.methodLink inf.2.1.cls idx x ∈ lw_all) (q2 : Cond.selects "java/util/ArrayList" x y ∈ lw_all) (q3 : Cond.instanceMethod y ∈ lw_all) (q4 : Cond.initialized y.cls ∈ lw_all) (q5 : Cond.code y cc L rt ∈ lw_all) (hxl : (x.cls == "java/util/List") = true) (hd9 : zNoMH x n) (hL20 : L ≤ 20) (hd20 : d ≤ 20)
    {X : ZX} {A : Nat → Prop} {w0 ws : va_W} {z y1 y2 z' : ZH} {ls as st1 : List Value} {lsm : Array Slot} {stm : List Value} {r : Nat} {v : Option Value}
    (C : zCtx X A p l s m args meth c R inf) (I : zInv X A s inf.2.2.1 w0 H locs ws z ls ((.ref r :: as).reverse ++ st1) lsm stm) (hz : zcs st1 = true) (h1 : zHR X ws y1) (hc24 : zcls y1 r = 24) (hn : as.length = n) (hfit : (zent (.ref r :: as)).length ≤ jMl k)
    (hrun : ZC zJ d k (.ref r :: as) y1 (fun o w => o = .inl v ∧ w = y2)) (hc1 : cells + (zuc y2 - zuc y1) ≤ R.cells) (hc2 : slots + (zus y2 - zus y1) ≤ R.slots) (conv : ∀ ws', zHR X ws' y2 → zHR X ws' z')
    (kk : ∀ (H' : Heap) (locs' : List Loc) (ws' : va_W) (stm' : List Value), zInv X A s inf.2.2.1 w0 H' locs' ws' z' ls (v.toList ++ st1) lsm stm' → W p l e R s m args below meth c H' locs' (cells + (zuc y2 - zuc y1)) (slots + (zus y2 - zus y1)) Q (F0 m (pc + 5) lsm stm')) : W p l e R s m args below meth c H locs cells slots Q (F0 m pc lsm stm) := by
  obtain ⟨hx, hb, hml, hown, hts, hSx, hA, hnm, hfr, hlo, hlk, hfl, hmain, -⟩ := C
  obtain ⟨h40, h16⟩ := hmain (jmain q1 (by unfold jy; rw [hxl]; rfl))
  have hFr := zFree hA I
  obtain ⟨hH, hP, hD, hS, hE, hL, hsr⟩ := id I
  obtain ⟨as2, restm, e3, has, hrest⟩ : ∃ as' restm, stm = as'.reverse ++ restm ∧ zSR X ws (.ref r :: as) as' ∧ zSR X ws st1 restm := zSR_split hsr
  have hM := (jMet (k := k) (d := d) hfl hk hrun hfit X ws H.size as2 h1 has (hD.weaken (fun _ _ _ _ => trivial))).1
  rw [hi] at hM
  have hM : Met l y (ws_ y cc L rt) (zRm 8 d (zuc y2 - zuc y1) (zus y2 - zus y1)) (zPc X ws H.size as2) (zQr X ws H.size y2 v) (zuc y2 - zuc y1) (zus y2 - zus y1) (va_A ws H.size) := hM
  obtain ⟨a, As, rfl, har, hvs⟩ := zSR_r has
  obtain ⟨hr1, e0, he0, hE0⟩ := h1.at (by omega) (by omega) har
  obtain ⟨fs, rfl, hl1, hfs⟩ := zER_obj hE0 hc24 (by omega)
  have hpc : ∀ U : State, U.heap = H → s.WarmedH U.vm → zPc X ws H.size (.ref a :: As) (Value.ref a :: As).toArray U := fun U hU hW => ⟨rfl, by rw [hU], by rw [hU]; exact hP, hSx.to hW (by rw [hU]; exact hS) hFr⟩
  exact jgo5 (va_runF (As := As) (rest := restm) (hSx.1.1 24 _ rfl).2 ⟨hx, hb, hml, hown, hts⟩ hM (va_cwF n hts (lw_F q1 q2 q3 q4 q5) rfl rfl rfl (hSx.2.2.2.2.1 _ hface) hd9 (zrm_ok (by omega) (by omega))) ⟨zPc_blind, va_recv hSx.1 hP rfl he0, hpc⟩ (g := F0 m pc lsm stm) rfl (by rw [← hvs.len]; exact hn) hL.1.1 (by rw [e3]; simp) (lv_room (zstk_ok hrest hz)) hd ⟨hc1, hc2⟩) hA I hrest conv kk
end JP
