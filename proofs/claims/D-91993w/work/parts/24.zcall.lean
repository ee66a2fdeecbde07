/-! Z and the machine: contracts and calls -/
set_option maxRecDepth 100000
def zws (inf : ZInf) : List Cond := match inf.2.2.2.2 with
  | [] => ws_ inf.2.1 inf.1 inf.2.2.1 inf.2.2.2.1
  | h :: t => wsW_ inf.2.1 inf.1 inf.2.2.1 inf.2.2.2.1 (h :: t)
def zRm (b d mc ms : Nat) : Room := { frames := d + b, cells := mc, slots := ms, locals := 40 * d + 400 * b }
def zPc (X : ZX) (ws : va_W) (sz : Nat) (as' : List Value) : Array Value → State → Prop := va_Pc as' (fun U => U.heap.size = sz ∧ va_P (xD X) zcl ws U.heap ∧ zSx X (va_A ws sz) U)
theorem zPc_blind {X : ZX} {ws : va_W} {sz : Nat} {as' : List Value} : FrameBlind (zPc X ws sz as') := by
  intro a U g mk h
  obtain ⟨h1, h2, h3, h4⟩ := h
  exact ⟨h1, h2, h3, h4.same rfl rfl⟩
def zOR (X : ZX) (ws : va_W) : Option Value → Option Value → Prop
  | none, none => True
  | some a, some b => zVR X ws a b
  | _, _ => False
def zQr (X : ZX) (ws : va_W) (sz : Nat) (z' : ZH) (v : Option Value) : Array Value → State → Outcome → State → Prop := fun _ st oc t =>
  (∃ (v' : Option Value) (ws' : va_W), oc = .returned v' ∧ zOR X ws' v v' ∧ zHR X ws' z' ∧ zExt ws ws' ∧ va_P (xD X) zcl ws' t.heap ∧ va_D (va_A ws sz) ws') ∧ va_F (va_A ws sz) st t
/-- the method inf, called with as in z, returns v in z' -/
def zMet (l : Launch) (inf : ZInf) (b d : Nat) (as : List Value) (z : ZH) (v : Option Value) (z' : ZH) : Prop :=
  ∀ (X : ZX) (ws : va_W) (sz : Nat) (as' : List Value), zHR X ws z → zSR X ws as as' → va_D (fun _ => True) ws → Met l inf.2.1 (zws inf) (zRm b d (zuc z' - zuc z) (zus z' - zus z)) (zPc X ws sz as') (zQr X ws sz z' v) (zuc z' - zuc z) (zus z' - zus z) (va_A ws sz)
theorem zFree {X : ZX} {A : Nat → Prop} {s : State} {nL : Nat} {w0 : va_W} {H : Heap} {locs : List Loc} {ws : va_W} {z : ZH} {ls st : List Value} {lsm : Array Slot} {stm : List Value} (hA : ∀ q, s.heap.size ≤ q → A q) (I : zInv X A s nL w0 H locs ws z ls st lsm stm) : ∀ q, va_A ws H.size q → A q := by
  intro q h
  rcases h with ⟨k, e, h⟩ | h
  · exact I.2.2.1.2 k (q, e) h
  · exact hA q (Nat.le_trans I.2.2.2.1.1 h)
section ZRUN
variable {p : Program} {l : Launch} {e : Env} {R : Room} {s : State} {m : MethodId} {args : Array Value} {below : List Frame} {meth : Method} {c : Code} {H : Heap} {locs : List Loc} {cells slots : Nat} {Q : State → Prop}
theorem zRun_go {X : ZX} {A : Nat → Prop} {nL : Nat} {w0 ws : va_W} {z z' : ZH} {ls st rest : List Value} {lsm : Array Slot} {stm restm : List Value} {mc ms pc : Nat} {v : Option Value} {a9 : Array Value}
    (hr : va_Run p l e R s m args below meth c H locs cells slots mc ms (F0 m pc lsm stm) restm (zQr X ws H.size z' v a9) (va_A ws H.size)) (hA : ∀ q, s.heap.size ≤ q → A q) (I : zInv X A s nL w0 H locs ws z ls st lsm stm) (hrest : zSR X ws rest restm)
    (kk : ∀ (H' : Heap) (locs' : List Loc) (ws' : va_W) (stm' : List Value), zInv X A s nL w0 H' locs' ws' z' ls (v.toList ++ rest) lsm stm' → W p l e R s m args below meth c H' locs' (cells + mc) (slots + ms) Q (F0 m (pc + 3) lsm stm')) : W p l e R s m args below meth c H locs cells slots Q (F0 m pc lsm stm) := by
  intro T hT X0
  have hFr := zFree hA I
  obtain ⟨hH, hP, hD, hS, hE, hL, hs⟩ := I
  obtain ⟨v', st₀, t, T', L, h0, X', hLL, e1, e2, ⟨⟨v'', ws', hv, hor, hH', hext, hP', hD'⟩, hF⟩, st1⟩ := hr T hT X0
  cases hv
  obtain ⟨k1, k2, k3⟩ := vx_keep h0 e1 hS (fun q _ h => hFr q h) hFr hLL hF
  have hstk : zSR X ws' (v.toList ++ rest) (v'.toList ++ restm) := by
    refine zSR.app ?_ (hrest.ext hext)
    match v, v', hor with
    | none, none, _ => exact trivial
    | some a, some b, h => exact ⟨h, trivial⟩
  obtain ⟨t2, a1, b1⟩ := kk T'.heap (locs ++ L) ws' _ ⟨hH', by rw [e1]; exact hP', hD'.weaken (fun _ _ _ h => hFr _ h), k3, hE.trans hext, hL.ext hext, hstk⟩ T' rfl X'
  exact ⟨t2, st1 t2 a1, b1⟩
end ZRUN
def zCOK (zI : Nat → ZInf) (inf : ZInf) (pc p : Nat) (sel : ZS) : Prop := p = pc + 3 ∧ ∀ (z : ZH) (st : List Value) (k' : Nat) (as rest : List Value), sel z st = some (k', as, rest) → st = as.reverse ++ rest ∧
  ∀ (pr : Program) (l : Launch) (e : Env) (R : Room) (s : State) (m : MethodId) (args : Array Value) (below : List Frame) (meth : Method) (c : Code) (H : Heap) (locs : List Loc) (cells slots : Nat) (X : ZX) (A : Nat → Prop) (w0 ws : va_W) (ls : List Value) (lsm : Array Slot) (stm : List Value) (b d mc ms : Nat) (Pc : Array Value → State → Prop) (Qc : Array Value → State → Outcome → State → Prop) (free : Addr → Prop) (as' restm : List Value),
    zCtx X A pr l s m args meth c R inf → zInv X A s inf.2.2.1 w0 H locs ws z ls st lsm stm → zcs rest = true → d + b + 1 ≤ R.frames → 8 + ((zI k').2.2.1 + 11) + (40 * d + 400 * b) ≤ R.locals → cells + mc ≤ R.cells → slots + ms ≤ R.slots → stm = as'.reverse ++ restm → zSR X ws as as' → zSR X ws rest restm →
    Met l (zI k').2.1 (zws (zI k')) (zRm b d mc ms) Pc Qc mc ms free → FrameBlind Pc → (∀ U : State, U.heap = H → s.WarmedH U.vm → Pc as'.toArray U) →
    va_Run pr l e R s m args below meth c H locs cells slots mc ms (F0 m pc lsm stm) restm (Qc as'.toArray) free
section ZCALLS
variable {zI : Nat → ZInf} {inf : ZInf} {pc idx c k1 n : Nat} {sel : ZS} {C : String} {T : u_T} {N : Nat} {cc : ByteArray} {y : MethodName} {L : Nat} {rt : Option FieldType}
theorem zrm_ok {b d mc ms L : Nat} {R : Room} (h1 : d + b + 1 ≤ R.frames) (h2 : 8 + (L + 11) + (40 * d + 400 * b) ≤ R.locals) : (zRm b d mc ms).frames + 1 ≤ R.frames ∧ 8 + (L + 11) + (zRm b d mc ms).locals ≤ R.locals := ⟨h1, h2⟩
theorem zstk_ok {X : ZX} {ws : va_W} {rest restm : List Value} (h : zSR X ws rest restm) (hz : zcs rest = true) : (restm.map fun v => v.category).sum ≤ 8 := by
  rw [h.cat]; exact zcs_le hz
abbrev zSelV (sel : ZS) (c k1 n : Nat) : Prop := ∀ (z : ZH) (st : List Value) (k' : Nat) (as rest : List Value), sel z st = some (k', as, rest) → k' = k1 ∧ ∃ (r : Nat) (vs : List Value), as = .ref r :: vs ∧ vs.length = n ∧ st = as.reverse ++ rest ∧ zcls z r = c
abbrev zSelI (sel : ZS) (k1 n : Nat) : Prop := ∀ (z : ZH) (st : List Value) (k' : Nat) (as rest : List Value), sel z st = some (k', as, rest) → k' = k1 ∧ ∃ (r : Nat) (vs : List Value), as = .ref r :: vs ∧ vs.length = n ∧ st = as.reverse ++ rest
abbrev zSelS (sel : ZS) (k1 n : Nat) : Prop := ∀ (z : ZH) (st : List Value) (k' : Nat) (as rest : List Value), sel z st = some (k', as, rest) → k' = k1 ∧ as.length = n ∧ st = as.reverse ++ rest
abbrev zNoMH (y : MethodName) (n : Nat) : Prop := y.cls ≠ "java/lang/invoke/MethodHandle" ∧ y.cls ≠ "java/lang/invoke/VarHandle" ∧ (parseMethodDescriptor y.desc).map (fun d => d.parameters.length) = some n
set_option maxHeartbeats 1000000 in
theorem cok_V (hd : decode inf.1 pc = .ok (.invokevirtual idx, 3)) (hc : zcl[c]? = some (C, T, N)) (hc25 : c < 25) (hi : zI k1 = (cc, y, L, rt, [])) (hsel : zSelV sel c k1 n) (q1 : Cond.methodLink inf.2.1.cls idx y ∈ lw_all) (q2 : Cond.instanceMethod y ∈ lw_all) (q3 : Cond.selects C y y ∈ lw_all) (q4 : Cond.initialized C ∈ lw_all) (q5 : Cond.code y cc L rt ∈ lw_all) (hyC : y.cls = C) (hd9 : zNoMH y n) : zCOK zI inf pc (pc + 3) sel := by
  refine ⟨rfl, fun z st k' as rest hs0 => ?_⟩
  obtain ⟨rfl, r, vs, rfl, hn, rfl, hcr⟩ := hsel z st k' as rest hs0
  refine ⟨rfl, ?_⟩
  intro pr l e R s m args below meth c0 H locs cells slots X A w0 ws ls lsm stm b d mc ms Pc Qc free as' restm C0 I hz hfr hlo h1 h2 hst has hrest hM hbl hpc
  rw [hi] at hM hlo
  have hM : Met l y (ws_ y cc L rt) (zRm b d mc ms) Pc Qc mc ms free := hM
  obtain ⟨hx, hb, hml, hown, hts, hSx, hA, hnm, hfr0, hlo0, hlk, hfl⟩ := C0
  obtain ⟨hH, hP, hD, hS, hE, hL, hs⟩ := I
  obtain ⟨a, As, rfl, har, hvs⟩ := zSR_r has
  obtain ⟨hr1, e0, he0, hE0⟩ := hH.at (by omega) (by omega) har
  obtain ⟨fs, rfl, hl1, hfs⟩ := zER_obj hE0 hcr hc25
  exact va_runV (As := As) (rest := restm) ⟨hx, hb, hml, hown, hts⟩ hM (cwV n hts (lw_V q1 q2 q3 q4 q5) rfl rfl rfl ⟨hyC, hd9⟩ (zrm_ok hfr hlo)) ⟨hbl, va_recv hSx.1 hP hc he0, hpc⟩ rfl (by rw [← hvs.len]; exact hn) hL.1.1 (by rw [hst]; simp) (lv_room (zstk_ok hrest hz)) hd ⟨h1, h2⟩
set_option maxHeartbeats 1000000 in
theorem cok_VN {host : String} (hd : decode inf.1 pc = .ok (.invokevirtual idx, 3)) (hc : zcl[c]? = some (C, T, N)) (hc25 : c < 25) (hi : zI k1 = (cc, y, L, rt, [])) (hsel : zSelV sel c k1 n) (q1 : Cond.methodLinkNest inf.2.1.cls idx y host ∈ lw_tbl) (q2 : Cond.instanceMethod y ∈ lw_all) (q3 : Cond.selects C y y ∈ lw_all) (q4 : Cond.initialized y.cls ∈ lw_all) (q5 : Cond.code y cc L rt ∈ lw_all) (hd9 : zNoMH y n) : zCOK zI inf pc (pc + 3) sel := by
  refine ⟨rfl, fun z st k' as rest hs0 => ?_⟩
  obtain ⟨rfl, r, vs, rfl, hn, rfl, hcr⟩ := hsel z st k' as rest hs0
  refine ⟨rfl, ?_⟩
  intro pr l e R s m args below meth c0 H locs cells slots X A w0 ws ls lsm stm b d mc ms Pc Qc free as' restm C0 I hz hfr hlo h1 h2 hst has hrest hM hbl hpc
  rw [hi] at hM hlo
  have hM : Met l y (ws_ y cc L rt) (zRm b d mc ms) Pc Qc mc ms free := hM
  obtain ⟨hx, hb, hml, hown, hts, hSx, hA, hnm, hfr0, hlo0, hlk, hfl⟩ := C0
  obtain ⟨hH, hP, hD, hS, hE, hL, hs⟩ := I
  obtain ⟨a, As, rfl, har, hvs⟩ := zSR_r has
  obtain ⟨hr1, e0, he0, hE0⟩ := hH.at (by omega) (by omega) har
  obtain ⟨fs, rfl, hl1, hfs⟩ := zER_obj hE0 hcr hc25
  exact va_runVN (As := As) (rest := restm) ⟨hx, hb, hml, hown, hts⟩ hM ⟨va_cnB n hts (lw_meth q5) rfl rfl rfl (hSx.2.1 _ q1 rfl) (hts _ q4) hd9 (zrm_ok hfr hlo), hts _ q2, hts _ q3⟩ ⟨hbl, va_recv hSx.1 hP hc he0, hpc⟩ rfl (by rw [← hvs.len]; exact hn) hL.1.1 (by rw [hst]; simp) (lv_room (zstk_ok hrest hz)) hd ⟨h1, h2⟩
set_option maxHeartbeats 1000000 in
theorem cok_S (hd : decode inf.1 pc = .ok (.invokestatic idx, 3)) (hi : zI k1 = (cc, y, L, rt, [])) (hsel : zSelS sel k1 n) (q1 : Cond.methodLink inf.2.1.cls idx y ∈ lw_all) (q2 : Cond.static y ∈ lw_all) (q4 : Cond.initialized y.cls ∈ lw_all) (q5 : Cond.code y cc L rt ∈ lw_all) (hd9 : zNoMH y n) : zCOK zI inf pc (pc + 3) sel := by
  refine ⟨rfl, fun z st k' as rest hs0 => ?_⟩
  obtain ⟨rfl, hn, rfl⟩ := hsel z st k' as rest hs0
  refine ⟨rfl, ?_⟩
  intro pr l e R s m args below meth c0 H locs cells slots X A w0 ws ls lsm stm b d mc ms Pc Qc free as' restm C0 I hz hfr hlo h1 h2 hst has hrest hM hbl hpc
  rw [hi] at hM hlo
  have hM : Met l y (ws_ y cc L rt) (zRm b d mc ms) Pc Qc mc ms free := hM
  obtain ⟨hx, hb, hml, hown, hts, hSx, hA, hnm, hfr0, hlo0, hlk, hfl⟩ := C0
  obtain ⟨hH, hP, hD, hS, hE, hL, hs⟩ := I
  exact va_runS (As := as') (rest := restm) ⟨hx, hb, hml, hown, hts⟩ hM (va_cwS n hts (lw_S q1 q2 q4 q5) rfl rfl rfl hd9 (zrm_ok hfr hlo)) ⟨hbl, hpc⟩ rfl (by rw [← has.len]; exact hn) hL.1.1 hst (lv_room (zstk_ok hrest hz)) hd ⟨h1, h2⟩
set_option maxHeartbeats 1000000 in
theorem cok_SN {host : String} (hd : decode inf.1 pc = .ok (.invokestatic idx, 3)) (hi : zI k1 = (cc, y, L, rt, [])) (hsel : zSelS sel k1 n) (q1 : Cond.methodLinkNest inf.2.1.cls idx y host ∈ lw_tbl) (q2 : Cond.static y ∈ lw_all) (q4 : Cond.initialized y.cls ∈ lw_all) (q5 : Cond.code y cc L rt ∈ lw_all) (hd9 : zNoMH y n) : zCOK zI inf pc (pc + 3) sel := by
  refine ⟨rfl, fun z st k' as rest hs0 => ?_⟩
  obtain ⟨rfl, hn, rfl⟩ := hsel z st k' as rest hs0
  refine ⟨rfl, ?_⟩
  intro pr l e R s m args below meth c0 H locs cells slots X A w0 ws ls lsm stm b d mc ms Pc Qc free as' restm C0 I hz hfr hlo h1 h2 hst has hrest hM hbl hpc
  rw [hi] at hM hlo
  have hM : Met l y (ws_ y cc L rt) (zRm b d mc ms) Pc Qc mc ms free := hM
  obtain ⟨hx, hb, hml, hown, hts, hSx, hA, hnm, hfr0, hlo0, hlk, hfl⟩ := C0
  obtain ⟨hH, hP, hD, hS, hE, hL, hs⟩ := I
  exact va_runSN (As := as') (rest := restm) ⟨hx, hb, hml, hown, hts⟩ hM ⟨va_cnB n hts (lw_meth q5) rfl rfl rfl (hSx.2.1 _ q1 rfl) (hts _ q4) hd9 (zrm_ok hfr hlo), hts _ q2, trivial⟩ ⟨hbl, hpc⟩ rfl (by rw [← has.len]; exact hn) hL.1.1 hst (lv_room (zstk_ok hrest hz)) hd ⟨h1, h2⟩
set_option maxHeartbeats 1000000 in
theorem cok_I (hd : decode inf.1 pc = .ok (.invokespecial idx, 3)) (hi : zI k1 = (cc, y, L, none, [])) (hsel : zSelI sel k1 n) (q1 : Cond.methodLink inf.2.1.cls idx y ∈ lw_all) (q2 : Cond.instanceMethod y ∈ lw_all) (q4 : Cond.initialized y.cls ∈ lw_all) (q5 : Cond.code y cc L none ∈ lw_all) (hy1 : y.name = "<init>") (hd9 : zNoMH y n) : zCOK zI inf pc (pc + 3) sel := by
  refine ⟨rfl, fun z st k' as rest hs0 => ?_⟩
  obtain ⟨rfl, r, vs, rfl, hn, rfl⟩ := hsel z st k' as rest hs0
  refine ⟨rfl, ?_⟩
  intro pr l e R s m args below meth c0 H locs cells slots X A w0 ws ls lsm stm b d mc ms Pc Qc free as' restm C0 I hz hfr hlo h1 h2 hst has hrest hM hbl hpc
  rw [hi] at hM hlo
  have hM : Met l y (ws_ y cc L none) (zRm b d mc ms) Pc Qc mc ms free := hM
  obtain ⟨hx, hb, hml, hown, hts, hSx, hA, hnm, hfr0, hlo0, hlk, hfl⟩ := C0
  obtain ⟨hH, hP, hD, hS, hE, hL, hs⟩ := I
  obtain ⟨a, As, rfl, har, hvs⟩ := zSR_r has
  exact va_runI (As := As) (rest := restm) ⟨hx, hb, hml, hown, hts⟩ hM (cwI n hts (lw_meth q5) rfl rfl rfl (hts _ q4) (hts _ q1) (hts _ q2) hy1 hd9 (zrm_ok hfr hlo)) ⟨hbl, hpc⟩ rfl (by rw [← hvs.len]; exact hn) hL.1.1 (by rw [hst]; simp) (lv_room (zstk_ok hrest hz)) hd ⟨h1, h2⟩
set_option maxHeartbeats 1000000 in
theorem cok_IN {host : String} (hd : decode inf.1 pc = .ok (.invokespecial idx, 3)) (hi : zI k1 = (cc, y, L, none, [])) (hsel : zSelI sel k1 n) (q1 : Cond.methodLinkNest inf.2.1.cls idx y host ∈ lw_tbl) (q2 : Cond.instanceMethod y ∈ lw_all) (q4 : Cond.initialized y.cls ∈ lw_all) (q5 : Cond.code y cc L none ∈ lw_all) (hy1 : y.name = "<init>") (hd9 : zNoMH y n) : zCOK zI inf pc (pc + 3) sel := by
  refine ⟨rfl, fun z st k' as rest hs0 => ?_⟩
  obtain ⟨rfl, r, vs, rfl, hn, rfl⟩ := hsel z st k' as rest hs0
  refine ⟨rfl, ?_⟩
  intro pr l e R s m args below meth c0 H locs cells slots X A w0 ws ls lsm stm b d mc ms Pc Qc free as' restm C0 I hz hfr hlo h1 h2 hst has hrest hM hbl hpc
  rw [hi] at hM hlo
  have hM : Met l y (ws_ y cc L none) (zRm b d mc ms) Pc Qc mc ms free := hM
  obtain ⟨hx, hb, hml, hown, hts, hSx, hA, hnm, hfr0, hlo0, hlk, hfl⟩ := C0
  obtain ⟨hH, hP, hD, hS, hE, hL, hs⟩ := I
  obtain ⟨a, As, rfl, har, hvs⟩ := zSR_r has
  exact va_runIN (As := As) (rest := restm) ⟨hx, hb, hml, hown, hts⟩ hM ⟨va_cnB n hts (lw_meth q5) rfl rfl rfl (hSx.2.1 _ q1 rfl) (hts _ q4) hd9 (zrm_ok hfr hlo), hy1, hts _ q2⟩ ⟨hbl, hpc⟩ rfl (by rw [← hvs.len]; exact hn) hL.1.1 (by rw [hst]; simp) (lv_room (zstk_ok hrest hz)) hd ⟨h1, h2⟩
set_option maxHeartbeats 1000000 in
theorem cok_X (hd : decode inf.1 pc = .ok (.invokespecial idx, 3)) (hc : zcl[c]? = some (C, T, N)) (hc25 : c < 25) (hi : zI k1 = (cc, y, L, rt, [])) (hsel : zSelV sel c k1 n) (hws : GoodIn lw_all (va_wsSU inf.2.1.cls idx y (ws_ y cc L rt))) (hd9 : y.name ≠ "<init>" ∧ (parseMethodDescriptor y.desc).map (fun d => d.parameters.length) = some n) : zCOK zI inf pc (pc + 3) sel := by
  refine ⟨rfl, fun z st k' as rest hs0 => ?_⟩
  obtain ⟨rfl, r, vs, rfl, hn, rfl, hcr⟩ := hsel z st k' as rest hs0
  refine ⟨rfl, ?_⟩
  intro pr l e R s m args below meth c0 H locs cells slots X A w0 ws ls lsm stm b d mc ms Pc Qc free as' restm C0 I hz hfr hlo h1 h2 hst has hrest hM hbl hpc
  rw [hi] at hM hlo
  have hM : Met l y (ws_ y cc L rt) (zRm b d mc ms) Pc Qc mc ms free := hM
  obtain ⟨hx, hb, hml, hown, hts, hSx, hA, hnm, hfr0, hlo0, hlk, hfl⟩ := C0
  obtain ⟨hH, hP, hD, hS, hE, hL, hs⟩ := I
  obtain ⟨a, As, rfl, har, hvs⟩ := zSR_r has
  obtain ⟨hr1, e0, he0, hE0⟩ := hH.at (by omega) (by omega) har
  obtain ⟨fs, rfl, hl1, hfs⟩ := zER_obj hE0 hcr hc25
  exact va_runSU (As := As) (rest := restm) (hSx.1.1 c _ hc).2 ⟨hx, hb, hml, hown, hts⟩ hM (va_cwSU n hts hws rfl rfl rfl hd9 (zrm_ok hfr hlo)) ⟨hbl, va_recv hSx.1 hP hc he0, hpc⟩ rfl (by rw [← hvs.len]; exact hn) hL.1.1 (by rw [hst]; simp) (lv_room (zstk_ok hrest hz)) hd ⟨h1, h2⟩
/-- chosen by the receiver's class: what is asked of each class that may come -/
def zCU (zI : Nat → ZInf) (inf : ZInf) (idx n c k' : Nat) : Prop := c < 25 ∧ ∃ (C : String) (T : u_T) (N : Nat) (owner : String) (x y : MethodName) (cc : ByteArray) (L : Nat) (rt : Option FieldType), zcl[c]? = some (C, T, N) ∧ zI k' = (cc, y, L, rt, []) ∧ ∀ (R : Room) (s : State) (args : Array Value) (b d mc ms : Nat), (∀ w ∈ lw_all, w.before args s = true) → (∀ w ∈ lw_tbl, zNest w = true → va_Nw w s) → (zRm b d mc ms).frames + 1 ≤ R.frames ∧ 8 + (L + 11) + (zRm b d mc ms).locals ≤ R.locals → va_CU R s args inf.2.1.cls C owner idx x y cc L rt (ws_ y cc L rt) (zRm b d mc ms) mc ms n
set_option maxHeartbeats 1000000 in
theorem cok_U (hd : decode inf.1 pc = .ok (.invokevirtual idx, 3)) (hsel : ∀ (z : ZH) (st : List Value) (k' : Nat) (as rest : List Value), sel z st = some (k', as, rest) → ∃ (r : Nat) (vs : List Value), as = .ref r :: vs ∧ vs.length = n ∧ st = as.reverse ++ rest ∧ zCU zI inf idx n (zcls z r) k') : zCOK zI inf pc (pc + 3) sel := by
  refine ⟨rfl, fun z st k' as rest hs0 => ?_⟩
  obtain ⟨r, vs, rfl, hn, rfl, hc25, C, T, N, owner, x, y, cc, L, rt, hc, hi, hcu⟩ := hsel z st k' as rest hs0
  refine ⟨rfl, ?_⟩
  intro pr l e R s m args below meth c0 H locs cells slots X A w0 ws ls lsm stm b d mc ms Pc Qc free as' restm C0 I hz hfr hlo h1 h2 hst has hrest hM hbl hpc
  rw [hi] at hM hlo
  have hM : Met l y (ws_ y cc L rt) (zRm b d mc ms) Pc Qc mc ms free := hM
  obtain ⟨hx, hb, hml, hown, hts, hSx, hA, hnm, hfr0, hlo0, hlk, hfl⟩ := C0
  obtain ⟨hH, hP, hD, hS, hE, hL, hs⟩ := I
  obtain ⟨a, As, rfl, har, hvs⟩ := zSR_r has
  obtain ⟨hr1, e0, he0, hE0⟩ := hH.at (by omega) (by omega) har
  obtain ⟨fs, rfl, hl1, hfs⟩ := zER_obj hE0 rfl hc25
  exact va_runU (As := As) (rest := restm) ⟨hx, hb, hml, hown, hts⟩ hM (hcu R s args b d mc ms hts hSx.2.1 (zrm_ok hfr hlo)) ⟨hbl, va_recv hSx.1 hP hc he0, hpc⟩ rfl (by rw [← hvs.len]; exact hn) hL.1.1 (by rw [hst]; simp) (lv_room (zstk_ok hrest hz)) hd ⟨h1, h2⟩
set_option maxHeartbeats 1000000 in
theorem cok_VW {hh0 : Nat × Nat × Nat × Nat} {hh1 : List (Nat × Nat × Nat × Nat)} (hd : decode inf.1 pc = .ok (.invokevirtual idx, 3)) (hc : zcl[c]? = some (C, T, N)) (hc25 : c < 25) (hi : zI k1 = (cc, y, L, rt, hh0 :: hh1)) (hsel : zSelV sel c k1 n) (q1 : Cond.methodLink inf.2.1.cls idx y ∈ lw_all) (q2 : Cond.instanceMethod y ∈ lw_all) (q3 : Cond.selects C y y ∈ lw_all) (q4 : Cond.initialized C ∈ lw_all) (q5 : Cond.codeWith y cc L rt (hh0 :: hh1) ∈ lw_all) (hyC : y.cls = C) (hd9 : zNoMH y n) : zCOK zI inf pc (pc + 3) sel := by
  refine ⟨rfl, fun z st k' as rest hs0 => ?_⟩
  obtain ⟨rfl, r, vs, rfl, hn, rfl, hcr⟩ := hsel z st k' as rest hs0
  refine ⟨rfl, ?_⟩
  intro pr l e R s m args below meth c0 H locs cells slots X A w0 ws ls lsm stm b d mc ms Pc Qc free as' restm C0 I hz hfr hlo h1 h2 hst has hrest hM hbl hpc
  rw [hi] at hM hlo
  have hM : Met l y (wsW_ y cc L rt (hh0 :: hh1)) (zRm b d mc ms) Pc Qc mc ms free := hM
  obtain ⟨hx, hb, hml, hown, hts, hSx, hA, hnm, hfr0, hlo0, hlk, hfl⟩ := C0
  obtain ⟨hH, hP, hD, hS, hE, hL, hs⟩ := I
  obtain ⟨a, As, rfl, har, hvs⟩ := zSR_r has
  obtain ⟨hr1, e0, he0, hE0⟩ := hH.at (by omega) (by omega) har
  obtain ⟨fs, rfl, hl1, hfs⟩ := zER_obj hE0 hcr hc25
  exact vx_runVW (As := As) (rest := restm) ⟨hx, hb, hml, hown, hts⟩ hM (vx_cwVW n hts (lw_VW q1 q2 q3 q4 q5) rfl rfl rfl ⟨hyC, hd9⟩ (zrm_ok hfr hlo)) ⟨hbl, va_recv hSx.1 hP hc he0, hpc⟩ rfl (by rw [← hvs.len]; exact hn) hL.1.1 (by rw [hst]; simp) (lv_room (zstk_ok hrest hz)) hd ⟨h1, h2⟩
end ZCALLS
