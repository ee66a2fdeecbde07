set_option maxRecDepth 100000
/-! the slots' own methods: operations that the machine may throw at, caught at once -/
section ZOPX
variable {G : ZP} {d k pc p q h : Nat} {ls st : List Value} {z : ZH} {Q : ZQ}
theorem zw_guard {f : ZF} {c P : Prop} [Decidable c] (hG : G.1 k pc = some (.inl f)) (hno : ¬ c → f ls st z = none) (hyes : c → ZW G d k pc ls st z Q = P) : ZW G d k pc ls st z Q = (c ∧ P) := by
  by_cases h : c
  · rw [eq_true h, true_and]
    exact hyes h
  · rw [eq_false h, false_and]
    apply propext
    constructor
    · intro h9
      obtain ⟨n, r, e, _⟩ := h9
      cases n with
      | zero => cases e
      | succ n =>
        have e1 : evS G (ev G n) d k pc ls st z = some r := e
        unfold evS at e1
        rw [hG] at e1
        have e2 := hno h
        simp only [e2] at e1
        cases e1
    · intro h9
      exact h9.elim
def z_newX (t h p : Nat) : ZF := fun ls st z => match st with
  | .int a :: st => if zcs st = true then (if a < 0 then some (h, ls, [.float 0], spay z 20 400) else if zin a 1000000 = true then some (p, ls, .ref (zn z) :: st, sarr z t (zx a)) else none) else none
  | _ => none
theorem zw_newX {t : Nat} {a : Int32} (hG : G.1 k pc = some (.inl (z_newX t h p))) : ZW G d k pc ls (.int a :: st) z Q = (zcs st = true ∧ if a < 0 then ZW G d k h ls [.float 0] (spay z 20 400) Q else (zin a 1000000 = true ∧ ZW G d k p ls (.ref (zn z) :: st) (sarr z t (zx a)) Q)) := by
  refine zw_guard hG (fun hz => if_neg hz) (fun hz => ?_)
  by_cases c : a < 0
  · rw [if_pos c]; exact zw_next hG ((if_pos hz).trans (if_pos c))
  · rw [if_neg c]; exact zw_cond hG ((if_pos hz).trans (if_neg c))
def z_cstX (h p : Nat) : ZF := fun ls st z => match st with
  | .ref r :: st => if zcs st = true then (if zcls z r = 50 then some (p, ls, .ref r :: st, z) else if zcls z r = 51 then some (h, ls, [.float 0], spay z 20 400) else none) else none
  | .null :: st => some (p, ls, .null :: st, z)
  | _ => none
theorem zw_cstX {r : Nat} (hG : G.1 k pc = some (.inl (z_cstX h p))) : ZW G d k pc ls (.ref r :: st) z Q = (zcs st = true ∧ if zcls z r = 50 then ZW G d k p ls (.ref r :: st) z Q else (zcls z r = 51 ∧ ZW G d k h ls [.float 0] (spay z 20 400) Q)) := by
  refine zw_guard hG (fun hz => if_neg hz) (fun hz => ?_)
  by_cases c : zcls z r = 50
  · rw [if_pos c]; exact zw_next hG ((if_pos hz).trans (if_pos c))
  · rw [if_neg c]; exact zw_cond hG ((if_pos hz).trans (if_neg c))
def z_astx (i p : Nat) : ZF := fun ls st z => match st with
  | .float f :: st => if i < ls.length then some (p, zst1 ls i (.float f), st, z) else none
  | _ => none
def z_cpyX (h p : Nat) : ZF := fun ls st z => match st with
  | .int n1 :: .int b :: .ref w :: .int a :: .ref u :: st => if zcs st = true ∧ (50 ≤ zcls z u ∧ zcls z u < 54) ∧ zcls z u = zcls z w ∧ zlen z u ≤ 1000 ∧ zlen z w ≤ 1000 ∧ zfitA z u = true then (if (¬ a < 0 ∧ ¬ b < 0 ∧ ¬ n1 < 0) ∧ zx a + zx n1 ≤ zlen z u ∧ zx b + zx n1 ≤ zlen z w then some (p, ls, st, scpy z u w (zx a) (zx b) (zx n1)) else some (h, ls, [.float 0], spay z 40 800)) else none
  | _ => none
theorem zw_cpyX {n1 a b : Int32} {u w : Nat} (hG : G.1 k pc = some (.inl (z_cpyX h p))) : ZW G d k pc ls (.int n1 :: .int b :: .ref w :: .int a :: .ref u :: st) z Q = ((zcs st = true ∧ (50 ≤ zcls z u ∧ zcls z u < 54) ∧ zcls z u = zcls z w ∧ zlen z u ≤ 1000 ∧ zlen z w ≤ 1000 ∧ zfitA z u = true) ∧ if (¬ a < 0 ∧ ¬ b < 0 ∧ ¬ n1 < 0) ∧ zx a + zx n1 ≤ zlen z u ∧ zx b + zx n1 ≤ zlen z w then ZW G d k p ls st (scpy z u w (zx a) (zx b) (zx n1)) Q else ZW G d k h ls [.float 0] (spay z 40 800) Q) := by
  exact zw_guard hG (fun hz => if_neg hz) (fun hz => zw_ite hG (if_pos hz))
def z_putX (h6 h7 p : Nat) : ZF := fun ls st z => match st with
  | .long x :: .int a :: .ref r :: st => if zcs st = true ∧ zheldB z r = true then (if (zputs z r a x).1 = 0 then some (p, ls, st, (zputs z r a x).2) else some (if (zputs z r a x).1 = -6 then h6 else h7, ls, [.float 0], (zputs z r a x).2)) else none
  | _ => none
end ZOPX
section XV
theorem hl_of {l : Launch} (h : l.flags = flags0) : l.stackTraces = false := by
  unfold Launch.stackTraces
  rw [h]
  decide +kernel
theorem zNest_tab {w : Cond} (h : zNest w = true) : w.onTables = true := by
  cases w <;> first | rfl | exact absurd h (fun q => by cases q)
theorem xwords {L : List Cond} {s : State} {args : Array Value} (h : L.all (fun w => (goodWord w && lw_all.contains w) || (zNest w && lw_tbl.contains w)) = true) (hts : ∀ w ∈ lw_all, w.before args s = true) (hn : ∀ w ∈ lw_tbl, zNest w = true → va_Nw w s) : ∀ w ∈ L, w.before args s = true := by
  intro w hw
  have h1 := List.all_eq_true.mp h w hw
  rw [Bool.or_eq_true, Bool.and_eq_true, Bool.and_eq_true] at h1
  rcases h1 with ⟨_, h2⟩ | ⟨h2, h3⟩
  · exact hts w (List.contains_iff_mem.mp h2)
  · exact va_Nw.use (zNest_tab h2) (hn w (List.contains_iff_mem.mp h3) h2)
/-- an exception's class, that the machine makes with a text: its words are there -/
def xM (cls : String) (names : List String) : Prop := (Bundle.fit cls = true ∧ (∀ n ∈ names, Bundle.fit n = true) ∧ (cls == "java/lang/StackOverflowError") = false ∧ (cls == "java/lang/OutOfMemoryError") = false ∧ names.length ≤ 4) ∧ ((vx_atM cls names).all (fun w => (goodWord w && lw_all.contains w) || (zNest w && lw_tbl.contains w)) = true ∧ (vx_atM cls names).all vx_ot = true)
def xup1 : List String := ["java/lang/RuntimeException", "java/lang/Exception"]
def xup2 : List String := ["java/lang/IndexOutOfBoundsException", "java/lang/RuntimeException", "java/lang/Exception"]
theorem xM_neg : xM "java/lang/NegativeArraySizeException" xup1 := ⟨⟨by decide +kernel, by decide +kernel, by decide +kernel, by decide +kernel, by decide⟩, by decide +kernel, by decide +kernel⟩
theorem xM_cast : xM "java/lang/ClassCastException" xup1 := ⟨⟨by decide +kernel, by decide +kernel, by decide +kernel, by decide +kernel, by decide⟩, by decide +kernel, by decide +kernel⟩
theorem xM_out : xM "java/lang/ArrayIndexOutOfBoundsException" xup2 := ⟨⟨by decide +kernel, by decide +kernel, by decide +kernel, by decide +kernel, by decide⟩, by decide +kernel, by decide +kernel⟩
theorem xN_null : (vx_atN 8).all (fun w => (goodWord w && lw_all.contains w) || (zNest w && lw_tbl.contains w)) = true ∧ (vx_atN 8).all vx_ot = true := ⟨by decide +kernel, by decide +kernel⟩
theorem zP_more {D : va_G} {cl : List vw_C} {ws : va_W} {H H1 : Heap} (hP : va_P D cl ws H) (hs : ∀ q : Nat, q < H.size → H1[q]? = H[q]?) : va_P D cl ws H1 := fun k q hk => (hP k q hk).kept (hs _ (vx_lt hP hk))
section XW
variable {p : Program} {l : Launch} {e : Env} {R : Room} {s : State} {m : MethodId} {args : Array Value} {below : List Frame} {meth : Method} {c : Code} {H : Heap} {locs : List Loc} {cells slots : Nat} {Q : State → Prop} {inf : ZInf} {X : ZX} {A : Nat → Prop} {w0 ws : va_W} {z : ZH} {ls st : List Value} {lsm : Array Slot} {stm restm : List Value} {pc : Nat}
theorem xroom {R : Room} {inf : ZInf} (h : 27 + zLev inf ≤ R.frames ∧ 400 * (27 + zLev inf) ≤ R.locals) : 27 ≤ R.frames ∧ 10800 ≤ R.locals := by omega
theorem W_widen {g : JFrame} {k n : Nat} (h1 : cells ≤ k) (h2 : slots ≤ n) (kk : W p l e R s m args below meth c H locs k n Q g) : W p l e R s m args below meth c H locs cells slots Q g := fun T hT X => kk T hT (stand_widen X h1 h2)
/-- the machine makes an exception with a text: what is known behind it -/
theorem xNoteM {cls text : String} {names : List String} {nb : Nat} (hM : xM cls names) (C : zCtx X A p l s m args meth c R inf) (hR : 27 ≤ R.frames ∧ 10800 ≤ R.locals) (I : zInv X A s inf.2.2.1 w0 H locs ws z ls st lsm stm) (hcat : (restm.map fun v => v.category).sum ≤ 20) (htext : (text == notModelled) = false) (hnb : (stringBytes (stringToUtf16 text)).size ≤ nb) (hnb1 : nb ≤ 1000) (hc : cells + 3 ≤ R.cells) (hs : slots + (nb + 10) ≤ R.slots)
    (k : ∀ (H1 : Heap) (q9 : Addr) (ce : Cell), zInv X A s inf.2.2.1 w0 H1 locs ws z ls [.float 0] lsm [.ref q9] → H1[q9]? = some ce → ce.vm = .none → s.vm.findClass cls = some ce.cls → vx_W p l e R s m args below meth c H1 locs (cells + 3) (slots + (nb + 10)) Q (F0 m pc lsm restm) q9) : vx_Note p l e R s m args below meth c H locs cells slots Q (F0 m pc lsm restm) cls text := by
  obtain ⟨⟨m1, m2, m3, m4, m5⟩, m6, m7⟩ := hM
  obtain ⟨hx, hb, hml, hown, hts, hSx, hA, hnm, hfr, hlo, hlk, hfl, -⟩ := C
  obtain ⟨hH, hP, hD, hS, hE, hL, hsr⟩ := I
  have hJ := hSx.2.2.2.2.2.2.2.2.2.2
  exact vx_vm (A := A) hx (hl_of hfl) (names := names) (nb := nb) m1 m2 m3 m4 (xwords m6 hts hSx.2.1) (fun w hw => List.all_eq_true.mp m7 w hw) hJ.2.2.1 hJ.2.2.2.1 hS (hL.1.1.trans hml.symm) htext hnb hnb1 (by omega) (by omega) (by omega) hc hs hlk (fun H1 q9 ce h1 h2 h3 h4 h5 h6 => k H1 q9 ce ⟨hH, zP_more hP h2, hD, h3, hE, hL, Or.inr ⟨q9, rfl⟩, trivial⟩ h4 h5 h6)
/-- .. and NullPointerException -/
theorem xNoteN (C : zCtx X A p l s m args meth c R inf) (hR : 27 ≤ R.frames ∧ 10800 ≤ R.locals) (I : zInv X A s inf.2.2.1 w0 H locs ws z ls st lsm stm) (hcat : (restm.map fun v => v.category).sum ≤ 20) (hc : cells + 1 ≤ R.cells) (hs : slots + 8 ≤ R.slots)
    (k : ∀ (H1 : Heap) (q9 : Addr) (ce : Cell), zInv X A s inf.2.2.1 w0 H1 locs ws z ls [.float 0] lsm [.ref q9] → H1[q9]? = some ce → ce.vm = .none → s.vm.findClass "java/lang/NullPointerException" = some ce.cls → vx_W p l e R s m args below meth c H1 locs (cells + 1) (slots + 8) Q (F0 m pc lsm restm) q9) : vx_NoteN p l e R s m args below meth c H locs cells slots Q (F0 m pc lsm restm) := by
  obtain ⟨hx, hb, hml, hown, hts, hSx, hA, hnm, hfr, hlo, hlk, hfl, -⟩ := C
  obtain ⟨hH, hP, hD, hS, hE, hL, hsr⟩ := I
  have hJ := hSx.2.2.2.2.2.2.2.2.2.2
  exact vx_npe (A := A) hx (hl_of hfl) (nb := 8) (xwords xN_null.1 hts hSx.2.1) (fun w hw => List.all_eq_true.mp xN_null.2 w hw) hJ.2.2.1 hJ.2.2.2.1 hS (hL.1.1.trans hml.symm) (by omega) (by omega) hc hs hlk (fun H1 q9 ce h1 h2 h3 h4 h5 h6 => k H1 q9 ce ⟨hH, zP_more hP h2, hD, h3, hE, hL, Or.inr ⟨q9, rfl⟩, trivial⟩ h4 h5 h6)
/-- caught in the same method -/
theorem xCatch {E name : String} {ce : Cell} {q : Addr} (C : zCtx X A p l s m args meth c R inf) (pre : List ExceptionTableEntry) (x : ExceptionTableEntry) (suf : List ExceptionTableEntry) (hsplit : tableOf inf.2.2.2.2 = pre ++ x :: suf) (hpass : ∀ y ∈ pre, covers y pc = false ∨ (y.catchType ≠ 0 ∧ ∃ nm : String, Cond.classLink inf.2.1.cls y.catchType nm ∈ lw_all ∧ (E, nm) ∈ zNcs)) (hx : covers x pc = true) (h0 : x.catchType ≠ 0) (hlink : Cond.classLink inf.2.1.cls x.catchType name ∈ lw_all) (hcast : Cond.castable E name ∈ lw_tbl) (hcell : H[q]? = some ce) (hv : ce.vm = .none) (hcl : s.vm.findClass E = some ce.cls)
    (kk : W p l e R s m args below meth c H locs cells slots Q (F0 m x.handlerPc lsm [.ref q])) : vx_W p l e R s m args below meth c H locs cells slots Q (F0 m pc lsm restm) q := by
  obtain ⟨hx9, hb, hml, hown, hts, hSx, hA, hnm, hfr, hlo, hlk, hfl, -, -, htab⟩ := C
  refine vx_catch hown pre x suf (htab.trans hsplit) (fun y hy => ?_) hx h0 (hts _ hlink) (va_Nw.use rfl (hSx.2.1 _ hcast rfl)) hcell hv hcl kk
  rcases hpass y hy with h | ⟨h1, nm, h2, h3⟩
  · exact Or.inl h
  · exact Or.inr ⟨h1, nm, hts _ h2, hSx.2.2.2.2.2.1 _ h3⟩
end XW
end XV
section XOK
variable {inf : ZInf} {pc : Nat}
theorem ok_astx {i : Nat} (hd : decode inf.1 pc = .ok (.astore i, 2)) : zOK inf pc (z_astx i (pc + 2)) := by
  refine zOK_pure (fun ls st z p' ls' st' z' hf => ?_)
  unfold z_astx at hf
  split at hf
  · rename_i f st1
    split at hf
    · rename_i hi
      cases hf
      refine ⟨rfl, ?_⟩
      intro p l e R s m args below meth c H locs cells slots Q X A w0 ws lsm stm C I k
      obtain ⟨hx, hb, hml, hown, hts, hSx, hA, hnm, hfr, hlo, hlk, hfl⟩ := C
      obtain ⟨hH, hP, hD, hS, hE, hL, hs⟩ := I
      obtain ⟨w, u1, rfl, hw, hs1⟩ := zSR_v hs
      have hi : i < inf.2.2.1 := by rw [← hL.1.2.2]; exact hi
      have hw2 : w = .null ∨ ∃ a : Nat, w = .ref a := hw
      rcases hw2 with rfl | ⟨a, rfl⟩
      · exact lv_astoreN hx hb hd (zfull_has hL.1.1 hL.1.2.1) hi rfl (fun ls' h' => k _ _ (hL.st1 hi hw h') hs1)
      · exact lv_astore hx hb hd (zfull_has hL.1.1 hL.1.2.1) hi rfl (fun ls' h' => k _ _ (hL.st1 hi hw h') hs1)
    · cases hf
  · cases hf
theorem ok_astx_n {j : Fin 4} {i : Nat} (hd : decode inf.1 pc = .ok (.astore_n j, 1)) (hj : (j : Nat) = i) : zOK inf pc (z_astx i (pc + 1)) := by
  refine zOK_pure (fun ls st z p' ls' st' z' hf => ?_)
  unfold z_astx at hf
  split at hf
  · rename_i f st1
    split at hf
    · rename_i hi
      cases hf
      refine ⟨rfl, ?_⟩
      intro p l e R s m args below meth c H locs cells slots Q X A w0 ws lsm stm C I k
      obtain ⟨hx, hb, hml, hown, hts, hSx, hA, hnm, hfr, hlo, hlk, hfl⟩ := C
      obtain ⟨hH, hP, hD, hS, hE, hL, hs⟩ := I
      obtain ⟨w, u1, rfl, hw, hs1⟩ := zSR_v hs
      have hi : i < inf.2.2.1 := by rw [← hL.1.2.2]; exact hi
      have hw2 : w = .null ∨ ∃ a : Nat, w = .ref a := hw
      rcases hw2 with rfl | ⟨a, rfl⟩
      · exact lv_astore_nN hx hb hd hj (zfull_has hL.1.1 hL.1.2.1) hi rfl (fun ls' h' => k _ _ (hL.st1 hi hw h') hs1)
      · exact lv_astore_n hx hb hd hj (zfull_has hL.1.1 hL.1.2.1) hi rfl (fun ls' h' => k _ _ (hL.st1 hi hw h') hs1)
    · cases hf
  · cases hf
theorem ok_newX50 {lo hi h ct : Nat} (hd : decode inf.1 pc = .ok (.newarray .int, 2)) (hsl : zSlot inf = true) (htb : inf.2.2.2.2 = [(lo, hi, h, ct)]) (hx : covers ⟨lo, hi, h, ct⟩ pc = true) (h0 : ct ≠ 0) (hlink : Cond.classLink inf.2.1.cls ct "java/lang/NegativeArraySizeException" ∈ lw_all) : zOK inf pc (z_newX 50 h (pc + 2)) := by
  intro ls st z p' ls' st' z' hf0
  unfold z_newX at hf0
  split at hf0
  · rename_i a st1
    by_cases hz : zcs st1 = true
    case neg => rw [if_neg hz] at hf0; cases hf0
    rw [if_pos hz] at hf0
    split at hf0
    · rename_i hn
      cases hf0
      refine ⟨⟨Nat.le_add_right _ _, Nat.le_add_right _ _⟩, ?_⟩
      intro p l e R s m args below meth c H locs cells slots Q X A w0 ws lsm stm C I hcl hsl2 k
      have u1 : zuc (spay z 20 400) - zuc z = 20 := Nat.add_sub_cancel_left _ _
      have u2 : zus (spay z 20 400) - zus z = 400 := Nat.add_sub_cancel_left _ _
      rw [u1] at hcl k
      rw [u2] at hsl2 k
      have C0 := C
      have I0 := I
      obtain ⟨hx9, hb, hml, hown, hts, hSx, hA, hnm, hfr, hlo, hlk, hfl, -, hR, htab⟩ := C
      obtain ⟨hH, hP, hD, hS, hE, hL, hs⟩ := I
      obtain ⟨v1, rfl, hs1⟩ := zSR_i hs
      refine vx_newarrayZ hx9 hb hn hd (fun tx htx => ?_)
      subst htx
      refine xNoteM (nb := 44) xM_neg C0 (xroom (hR hsl)) I0 ?_ (negative_text_modelled hn) (negative_text_bytes a) (by omega) (by omega) (by omega) (fun H1 q9 ce I1 h1 h2 h3 => ?_)
      · exact Nat.le_trans (zstk_ok hs1 hz) (by decide)
      · refine vx_widen (k := cells + 20) (n := slots + 400) (by omega) (by omega) (xCatch C0 [] ⟨lo, hi, h, ct⟩ [] (by rw [htb]; rfl) (fun y hy => nomatch hy) hx h0 hlink q235 h1 h2 h3 (k H1 locs ws lsm _ I1))
    · rename_i hn
      exact ok_newa50 hd q259 ls (.int a :: st1) z p' ls' st' z' hf0
  · cases hf0
theorem ok_newX51 {lo hi h ct : Nat} (hd : decode inf.1 pc = .ok (.newarray .long, 2)) (hsl : zSlot inf = true) (htb : inf.2.2.2.2 = [(lo, hi, h, ct)]) (hx : covers ⟨lo, hi, h, ct⟩ pc = true) (h0 : ct ≠ 0) (hlink : Cond.classLink inf.2.1.cls ct "java/lang/NegativeArraySizeException" ∈ lw_all) : zOK inf pc (z_newX 51 h (pc + 2)) := by
  intro ls st z p' ls' st' z' hf0
  unfold z_newX at hf0
  split at hf0
  · rename_i a st1
    by_cases hz : zcs st1 = true
    case neg => rw [if_neg hz] at hf0; cases hf0
    rw [if_pos hz] at hf0
    split at hf0
    · rename_i hn
      cases hf0
      refine ⟨⟨Nat.le_add_right _ _, Nat.le_add_right _ _⟩, ?_⟩
      intro p l e R s m args below meth c H locs cells slots Q X A w0 ws lsm stm C I hcl hsl2 k
      have u1 : zuc (spay z 20 400) - zuc z = 20 := Nat.add_sub_cancel_left _ _
      have u2 : zus (spay z 20 400) - zus z = 400 := Nat.add_sub_cancel_left _ _
      rw [u1] at hcl k
      rw [u2] at hsl2 k
      have C0 := C
      have I0 := I
      obtain ⟨hx9, hb, hml, hown, hts, hSx, hA, hnm, hfr, hlo, hlk, hfl, -, hR, htab⟩ := C
      obtain ⟨hH, hP, hD, hS, hE, hL, hs⟩ := I
      obtain ⟨v1, rfl, hs1⟩ := zSR_i hs
      refine vx_newarrayZ hx9 hb hn hd (fun tx htx => ?_)
      subst htx
      refine xNoteM (nb := 44) xM_neg C0 (xroom (hR hsl)) I0 ?_ (negative_text_modelled hn) (negative_text_bytes a) (by omega) (by omega) (by omega) (fun H1 q9 ce I1 h1 h2 h3 => ?_)
      · exact Nat.le_trans (zstk_ok hs1 hz) (by decide)
      · refine vx_widen (k := cells + 20) (n := slots + 400) (by omega) (by omega) (xCatch C0 [] ⟨lo, hi, h, ct⟩ [] (by rw [htb]; rfl) (fun y hy => nomatch hy) hx h0 hlink q235 h1 h2 h3 (k H1 locs ws lsm _ I1))
    · rename_i hn
      exact ok_newa51 hd q260 ls (.int a :: st1) z p' ls' st' z' hf0
  · cases hf0
theorem ok_newX52 {lo hi h ct : Nat} (hd : decode inf.1 pc = .ok (.newarray .byte, 2)) (hsl : zSlot inf = true) (htb : inf.2.2.2.2 = [(lo, hi, h, ct)]) (hx : covers ⟨lo, hi, h, ct⟩ pc = true) (h0 : ct ≠ 0) (hlink : Cond.classLink inf.2.1.cls ct "java/lang/NegativeArraySizeException" ∈ lw_all) : zOK inf pc (z_newX 52 h (pc + 2)) := by
  intro ls st z p' ls' st' z' hf0
  unfold z_newX at hf0
  split at hf0
  · rename_i a st1
    by_cases hz : zcs st1 = true
    case neg => rw [if_neg hz] at hf0; cases hf0
    rw [if_pos hz] at hf0
    split at hf0
    · rename_i hn
      cases hf0
      refine ⟨⟨Nat.le_add_right _ _, Nat.le_add_right _ _⟩, ?_⟩
      intro p l e R s m args below meth c H locs cells slots Q X A w0 ws lsm stm C I hcl hsl2 k
      have u1 : zuc (spay z 20 400) - zuc z = 20 := Nat.add_sub_cancel_left _ _
      have u2 : zus (spay z 20 400) - zus z = 400 := Nat.add_sub_cancel_left _ _
      rw [u1] at hcl k
      rw [u2] at hsl2 k
      have C0 := C
      have I0 := I
      obtain ⟨hx9, hb, hml, hown, hts, hSx, hA, hnm, hfr, hlo, hlk, hfl, -, hR, htab⟩ := C
      obtain ⟨hH, hP, hD, hS, hE, hL, hs⟩ := I
      obtain ⟨v1, rfl, hs1⟩ := zSR_i hs
      refine vx_newarrayZ hx9 hb hn hd (fun tx htx => ?_)
      subst htx
      refine xNoteM (nb := 44) xM_neg C0 (xroom (hR hsl)) I0 ?_ (negative_text_modelled hn) (negative_text_bytes a) (by omega) (by omega) (by omega) (fun H1 q9 ce I1 h1 h2 h3 => ?_)
      · exact Nat.le_trans (zstk_ok hs1 hz) (by decide)
      · refine vx_widen (k := cells + 20) (n := slots + 400) (by omega) (by omega) (xCatch C0 [] ⟨lo, hi, h, ct⟩ [] (by rw [htb]; rfl) (fun y hy => nomatch hy) hx h0 hlink q235 h1 h2 h3 (k H1 locs ws lsm _ I1))
    · rename_i hn
      exact ok_newa52 hd q253 ls (.int a :: st1) z p' ls' st' z' hf0
  · cases hf0
theorem ok_newX53 {lo hi h ct : Nat} (hd : decode inf.1 pc = .ok (.newarray .short, 2)) (hsl : zSlot inf = true) (htb : inf.2.2.2.2 = [(lo, hi, h, ct)]) (hx : covers ⟨lo, hi, h, ct⟩ pc = true) (h0 : ct ≠ 0) (hlink : Cond.classLink inf.2.1.cls ct "java/lang/NegativeArraySizeException" ∈ lw_all) : zOK inf pc (z_newX 53 h (pc + 2)) := by
  intro ls st z p' ls' st' z' hf0
  unfold z_newX at hf0
  split at hf0
  · rename_i a st1
    by_cases hz : zcs st1 = true
    case neg => rw [if_neg hz] at hf0; cases hf0
    rw [if_pos hz] at hf0
    split at hf0
    · rename_i hn
      cases hf0
      refine ⟨⟨Nat.le_add_right _ _, Nat.le_add_right _ _⟩, ?_⟩
      intro p l e R s m args below meth c H locs cells slots Q X A w0 ws lsm stm C I hcl hsl2 k
      have u1 : zuc (spay z 20 400) - zuc z = 20 := Nat.add_sub_cancel_left _ _
      have u2 : zus (spay z 20 400) - zus z = 400 := Nat.add_sub_cancel_left _ _
      rw [u1] at hcl k
      rw [u2] at hsl2 k
      have C0 := C
      have I0 := I
      obtain ⟨hx9, hb, hml, hown, hts, hSx, hA, hnm, hfr, hlo, hlk, hfl, -, hR, htab⟩ := C
      obtain ⟨hH, hP, hD, hS, hE, hL, hs⟩ := I
      obtain ⟨v1, rfl, hs1⟩ := zSR_i hs
      refine vx_newarrayZ hx9 hb hn hd (fun tx htx => ?_)
      subst htx
      refine xNoteM (nb := 44) xM_neg C0 (xroom (hR hsl)) I0 ?_ (negative_text_modelled hn) (negative_text_bytes a) (by omega) (by omega) (by omega) (fun H1 q9 ce I1 h1 h2 h3 => ?_)
      · exact Nat.le_trans (zstk_ok hs1 hz) (by decide)
      · refine vx_widen (k := cells + 20) (n := slots + 400) (by omega) (by omega) (xCatch C0 [] ⟨lo, hi, h, ct⟩ [] (by rw [htb]; rfl) (fun y hy => nomatch hy) hx h0 hlink q235 h1 h2 h3 (k H1 locs ws lsm _ I1))
    · rename_i hn
      exact ok_newa53 hd q258 ls (.int a :: st1) z p' ls' st' z' hf0
  · cases hf0
end XOK
