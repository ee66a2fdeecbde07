set_option maxRecDepth 100000
/-! the law's body: from its entry to its end -/
section XLAW
def zh0 (L : Nat) (xs : Nat → Int32) : ZH := zmk (fun r => if r = 99 then 49 else 99) (fun _ _ => 0) (fun _ _ => .null) (fun r => if r = 99 then xs else fun _ => 0) (fun _ _ => 0) (fun _ _ => .null) (fun r => if r = 99 then L else 0) (fun _ => []) (fun _ => 0) 100 0 0
theorem zHR_0 {X : ZX} {L : Nat} {xs : Nat → Int32} (h1 : xL X = L) (h2 : xS X = xs) : zHR X [] (zh0 L xs) := by
  refine ⟨⟨rfl, fun r _ => rfl, h1.symm, h2.symm⟩, fun r g1 g2 => ?_⟩
  have g2 : r < 100 := g2
  omega
theorem scr_0 {L : Nat} {xs : Nat → Int32} : scr xs L (zh0 L xs) := ⟨rfl, rfl, rfl⟩
theorem W_roomier {p : Program} {l : Launch} {e : Env} {R R' : Room} {s : State} {m : MethodId} {args : Array Value} {below : List Frame} {meth : Method} {c : Code} {H : Heap} {locs : List Loc} {cells slots : Nat} {Q : State → Prop} {g : JFrame} (hf : R.frames ≤ R'.frames) (hl : R.locals ≤ R'.locals) (hc : R.cells ≤ R'.cells) (hs : R.slots ≤ R'.slots) (k : W p l e R s m args below meth c H locs cells slots Q g) : W p l e R' s m args below meth c H locs cells slots Q g := fun T hT X =>
  k T hT { admits := X.admits, cas := X.cas, clock := X.clock, frames := X.frames, room := hasRoom_mono hf hl hc hs X.room, hears := X.hears, method := X.method, code := X.code, here := X.here, tail := X.tail, warmed := X.warmed, limits := X.limits, bytes := X.bytes, same := X.same }
def xQ (below : List Frame) (s : State) : State → Prop := fun t => ∃ o, t.status = .running ∧ Ended t below o ∧ (o = .returned (some (.int 1)) ∧ Framed s o t [] 1200384 5497258)
theorem xQ_of {below : List Frame} {X : ZX} {s : State} {z' : ZH} {args : Array Value} {mc ms : Nat} {t : State} (hc : mc ≤ 1200384) (hs : ms ≤ 5497258) (h : zMQ below X [] s (.inl (some (.int 1))) z' args mc ms t) : xQ below s t := by
  obtain ⟨o, h1, h2, h3⟩ := h
  obtain ⟨⟨⟨v', ws', ho, hor, -⟩, -⟩, L, ⟨hv, hW, hsame⟩, hLf⟩ := h3
  have hv1 : v' = some (.int 1) := by
    match v', hor with
    | none, h => exact h.elim
    | some w, h =>
      have h : w = .int 1 := h
      rw [h]
  subst hv1
  have hfresh : ∀ x ∈ L, s.heap.size ≤ x.base := fun x hx => by
    rcases hLf x hx with ⟨k, e, h⟩ | h
    · exact nomatch (show ([] : va_W)[k]? = some (x.base, e) from h)
    · exact h
  have h9 : s.sameButNew ({ t with vm := s.vm } : State) ([] ++ L) mc ms := hsame
  exact ⟨o, h1, h2, ho, ⟨_, ho⟩, hW, (h9.drop_fresh hfresh).mono hc hs⟩
theorem law_W {p : Program} {e : Env} {s : State} {m : MethodId} {below : List Frame} {meth : Method} {c : Code} (l : Launch) (hflags : l.flags = flags0) {b L : Nat} {xs : Nat → Int32} (hL : L ≤ 384) (hx : p.tables.exec = Jvm.exec) (hb : c.code = code) (hr : meth.sig.returnType = ret) (hml : c.maxLocals = 4) (hown : s.vm.findClass "CardBowlLaw" = some m.cls) (hts : ∀ w ∈ lw_tbl, w.before #[Value.ref b] s = true) (hX : va_X b L xs s s.heap) (hbl : b < s.heap.size) (hlocks : meth.locks = false) (hgv : (Jvm.Cond.and given_1 narrow_1).before #[Value.ref b] s = true) (hm : modulesRight_1 s = true) (hnm : meth.name = x.name) (htab : c.exceptionTable.toList = []) :
    W p l e room_1 s m #[Value.ref b] below meth c s.heap [] 0 0 (xQ below s) (entryFrame m ([Value.ref b] : List Value).toArray 4) := by
  obtain ⟨X, hSx, h99, hXL, hXS⟩ := st_X hts hX hbl hgv hm
  have hrun : ZC zG (1500 + 1) 253 [.ref 99] (zh0 L xs) (fun o w => o = .inl (some (.int 1)) ∧ zuc w ≤ 1200384 ∧ zus w ≤ 5497258) := law_Z (d := 1500) rfl rfl scr_0 hL rfl rfl (fun z' h1 h2 => ⟨rfl, h1, h2⟩)
  obtain ⟨n, ⟨o, z1⟩, hev, ho, hc1, hs1⟩ := hrun
  dsimp only at ho hc1 hs1
  subst ho
  have hMl : zG.2.1 253 = 4 := rfl
  rw [hMl] at hev
  have hi : zInfo 253 = zi253 := rfl
  have key := (zS_ok n (1500 + 1) 253 0 _ [] (zh0 L xs) (.inl (some (.int 1))) z1 hev).2
  rw [hi] at key
  have e1 : zuc z1 - zuc (zh0 L xs) = zuc z1 := Nat.sub_zero _
  have e2 : zus z1 - zus (zh0 L xs) = zus z1 := Nat.sub_zero _
  have hall : ∀ w ∈ lw_all, w.before #[Value.ref b] s = true := fun w hw => hts w (lw_all_tbl hw)
  have hns : ¬ zSlot zi253 = true := by decide +kernel
  have C : zCtx X (va_A [] s.heap.size) p l s m #[Value.ref b] meth c (zRm 40 (1500 + 1) (zuc z1) (zus z1)) zi253 := ⟨hx, hb, hml, hown, hall, hSx, fun q h => Or.inr h, hnm, (by show 8 ≤ 1500 + 1 + 40; decide), (by show 400 ≤ 40 * (1500 + 1) + 400 * 40; decide), hlocks, hflags, fun _ => ⟨by show 40 ≤ 1500 + 1 + 40; decide, by show 16000 ≤ 40 * (1500 + 1) + 400 * 40; decide⟩, fun h => absurd h hns, htab⟩
  have has : zSR X [] [.ref 99] [.ref b] := ⟨⟨b, rfl, Or.inl ⟨by decide, h99⟩⟩, trivial⟩
  have hH := zHR_0 (X := X) hXL hXS
  rw [lg_entry_eq]
  have hk := key p l e s m #[Value.ref b] below meth c s.heap [] 0 0 X [] [] _ [] (zuc z1) (zus z1) C htab hr ⟨hH, fun k q h => nomatch h, ⟨fun i j p q h => nomatch h, fun k q h => nomatch h⟩, va_S.rf, zExt.rf, zLR_entry has (by decide), trivial⟩ (by rw [e1, Nat.zero_add]) (by rw [e2, Nat.zero_add])
  refine W_roomier (R := zRm 40 (1500 + 1) (zuc z1) (zus z1)) (by show 1500 + 1 + 40 ≤ 8192; decide) (by show 40 * (1500 + 1) + 400 * 40 ≤ 104096; decide) hc1 hs1 ?_
  intro T hT X0
  obtain ⟨t, a1, b1⟩ := hk T hT X0
  exact ⟨t, a1, xQ_of hc1 hs1 b1⟩
end XLAW
