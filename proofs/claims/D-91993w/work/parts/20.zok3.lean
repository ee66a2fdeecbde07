set_option maxRecDepth 100000
section ZOKH
variable {inf : ZInf} {pc : Nat}
theorem zER_obj {X : ZX} {ws : va_W} {z : ZH} {r c : Nat} {e : va_E} (h : zER X ws z r e) (hc : zcls z r = c) (h25 : c < 25) : ∃ fs : List Value, e = .inr (c, fs) ∧ fs.length = zNf c ∧ ∀ k, k < zNf c → ∃ w, fs[k]? = some w ∧ (if zRf c k = true then zVR X ws (zfr z r k) w else w = .int (zfi z r k)) := by
  unfold zER at h
  rw [hc, if_pos h25] at h
  exact h
theorem zER_obj' {X : ZX} {ws : va_W} {z : ZH} {r c : Nat} {fs : List Value} (hc : zcls z r = c) (h25 : c < 25) (h1 : fs.length = zNf c) (h2 : ∀ k, k < zNf c → ∃ w, fs[k]? = some w ∧ (if zRf c k = true then zVR X ws (zfr z r k) w else w = .int (zfi z r k))) : zER X ws z r (.inr (c, fs)) := by
  unfold zER
  rw [hc, if_pos h25]
  exact ⟨fs, rfl, h1, h2⟩
theorem zER_int {X : ZX} {ws : va_W} {z : ZH} {r t : Nat} {e : va_E} (hc : zcls z r = t) (h1 : 50 ≤ t) (h2 : t < 55) (h3 : t ≠ 51) : zER X ws z r e = (e = .inl (xT X t, zlen z r, .inl (zia z r))) := by
  unfold zER
  rw [hc, if_neg (by omega), if_neg (by omega), if_neg h3, if_pos h2]
theorem zER_long {X : ZX} {ws : va_W} {z : ZH} {r : Nat} {e : va_E} (hc : zcls z r = 51) : zER X ws z r e = (e = .inl (xT X 51, zlen z r, vl (zla z r))) := by
  unfold zER
  rw [hc, if_neg (by omega), if_neg (by omega), if_pos rfl]
theorem zER_ref {X : ZX} {ws : va_W} {z : ZH} {r t : Nat} {e : va_E} (hc : zcls z r = t) (h1 : 60 ≤ t) (h2 : t < 65) : zER X ws z r e = ∃ g, e = .inl (xT X t, zlen z r, vq g) ∧ ∀ i, zVR X ws (zra z r i) (va_rf (g i)) := by
  unfold zER
  rw [hc, if_neg (by omega), if_neg (by omega), if_neg (by omega), if_neg (by omega), if_pos h2]
theorem zin_vp {a : Int32} {n : Nat} (h : zin a n = true) : vp_in a n := by
  unfold zin at h
  rw [Bool.and_eq_true] at h
  obtain ⟨h1, h2⟩ := h
  have h1 : ¬ a < 0 := by simpa using h1
  have h2 := of_decide_eq_true h2
  rintro (q | q)
  · exact h1 q
  · omega
theorem zVR_rf {X : ZX} {ws : va_W} {v w : Value} (h : zVR X ws v w) (hv : zir v = true) : (v = .null ∧ w = .null) ∨ ∃ r a, v = .ref r ∧ w = .ref a ∧ zAR X ws r a := by
  cases v with
  | null => exact Or.inl ⟨rfl, h⟩
  | ref r => obtain ⟨a, e, h⟩ := h; exact Or.inr ⟨r, a, rfl, e, h⟩
  | int x => cases hv
  | long x => cases hv
  | float x => cases hv
  | double x => cases hv
  | retAddr x => cases hv
theorem ok_getI {c f idx : Nat} {ref C : String} {T : u_T} {N : Nat} (hd : decode inf.1 pc = .ok (.getfield idx, 3)) (hc : zcl[c]? = some (C, T, N)) (hc25 : c < 25) (hin : ∀ w ∈ u_ws C T N, w ∈ lw_all) (hf : f < N) (hN : zNf c = N) (hr : zRf c f = false) (hq : Cond.fieldLink inf.2.1.cls idx ref (T f).2.1 (T f).2.2.1 ∈ lw_all) (hsm : (T f).1 = ref) : zOK inf pc (z_getI c f (pc + 3)) := by
  refine zOK_pure (fun ls st z p' ls' st' z' hf0 => ?_)
  unfold z_getI at hf0
  split at hf0
  · rename_i r st1
    split at hf0
    · rename_i hcr
      skip
      cases hf0
      refine ⟨rfl, ?_⟩
      intro p l e R s m args below meth c0 H locs cells slots Q X A w0 ws lsm stm C I k
      obtain ⟨hx, hb, hml, hown, hts, hSx, hA, hnm, hfr, hlo, hlk, hfl⟩ := C
      obtain ⟨hH, hP, hD, hS, hE, hL, hs⟩ := I
      obtain ⟨a0, u1, rfl, h0, hs1⟩ := zSR_r hs
      obtain ⟨hr1, e0, he0, hE0⟩ := hH.at (by omega) (by omega) h0
      obtain ⟨fs, rfl, hl1, hfs⟩ := zER_obj hE0 hcr hc25
      obtain ⟨w, hw1, hw2⟩ := hfs f (by omega)
      rw [hr, if_neg (by decide)] at hw2
      subst hw2
      exact va_get (ref := ref) (C := C) (T := T) (N := N) hx hb hts hin hown hSx.1 hP (r - 100) he0 hc f hf (hts _ hq) (fun x hx9 => by rw [← hsm]; exact hx9) hw1 hd (k _ _ hL ⟨rfl, hs1⟩)
    · cases hf0
  · cases hf0
theorem ok_getIN {c f idx : Nat} {ref C : String} {T : u_T} {N : Nat} (hd : decode inf.1 pc = .ok (.getfield idx, 3)) (hc : zcl[c]? = some (C, T, N)) (hc25 : c < 25) (hin : ∀ w ∈ u_ws C T N, w ∈ lw_all) (hf : f < N) (hN : zNf c = N) (hr : zRf c f = false) {host : String} (hq : Cond.fieldLinkNest inf.2.1.cls idx ref (T f).2.1 (T f).2.2.1 host ∈ lw_tbl) (hsm : (T f).1 = ref) : zOK inf pc (z_getI c f (pc + 3)) := by
  refine zOK_pure (fun ls st z p' ls' st' z' hf0 => ?_)
  unfold z_getI at hf0
  split at hf0
  · rename_i r st1
    split at hf0
    · rename_i hcr
      skip
      cases hf0
      refine ⟨rfl, ?_⟩
      intro p l e R s m args below meth c0 H locs cells slots Q X A w0 ws lsm stm C I k
      obtain ⟨hx, hb, hml, hown, hts, hSx, hA, hnm, hfr, hlo, hlk, hfl⟩ := C
      obtain ⟨hH, hP, hD, hS, hE, hL, hs⟩ := I
      obtain ⟨a0, u1, rfl, h0, hs1⟩ := zSR_r hs
      obtain ⟨hr1, e0, he0, hE0⟩ := hH.at (by omega) (by omega) h0
      obtain ⟨fs, rfl, hl1, hfs⟩ := zER_obj hE0 hcr hc25
      obtain ⟨w, hw1, hw2⟩ := hfs f (by omega)
      rw [hr, if_neg (by decide)] at hw2
      subst hw2
      exact va_getN (ref := ref) (C := C) (T := T) (N := N) hx hb hts hin hown hSx.1 hP (r - 100) he0 hc f hf (va_Nw.use rfl (hSx.2.1 _ hq rfl)) (fun x hx9 => by rw [← hsm]; exact hx9) hw1 hd (k _ _ hL ⟨rfl, hs1⟩)
    · cases hf0
  · cases hf0
theorem ok_getR {c f idx : Nat} {ref C : String} {T : u_T} {N : Nat} (hd : decode inf.1 pc = .ok (.getfield idx, 3)) (hc : zcl[c]? = some (C, T, N)) (hc25 : c < 25) (hin : ∀ w ∈ u_ws C T N, w ∈ lw_all) (hf : f < N) (hN : zNf c = N) (hr : zRf c f = true) (hq : Cond.fieldLink inf.2.1.cls idx ref (T f).2.1 (T f).2.2.1 ∈ lw_all) (hsm : (T f).1 = ref) : zOK inf pc (z_getR c f (pc + 3)) := by
  refine zOK_pure (fun ls st z p' ls' st' z' hf0 => ?_)
  unfold z_getR at hf0
  split at hf0
  · rename_i r st1
    split at hf0
    · rename_i hcr
      obtain ⟨hcr, hir⟩ := hcr
      cases hf0
      refine ⟨rfl, ?_⟩
      intro p l e R s m args below meth c0 H locs cells slots Q X A w0 ws lsm stm C I k
      obtain ⟨hx, hb, hml, hown, hts, hSx, hA, hnm, hfr, hlo, hlk, hfl⟩ := C
      obtain ⟨hH, hP, hD, hS, hE, hL, hs⟩ := I
      obtain ⟨a0, u1, rfl, h0, hs1⟩ := zSR_r hs
      obtain ⟨hr1, e0, he0, hE0⟩ := hH.at (by omega) (by omega) h0
      obtain ⟨fs, rfl, hl1, hfs⟩ := zER_obj hE0 hcr hc25
      obtain ⟨w, hw1, hw2⟩ := hfs f (by omega)
      rw [hr, if_pos (by decide)] at hw2
      skip
      exact va_get (ref := ref) (C := C) (T := T) (N := N) hx hb hts hin hown hSx.1 hP (r - 100) he0 hc f hf (hts _ hq) (fun x hx9 => by rw [← hsm]; exact hx9) hw1 hd (k _ _ hL ⟨hw2, hs1⟩)
    · cases hf0
  · cases hf0
theorem ok_getRN {c f idx : Nat} {ref C : String} {T : u_T} {N : Nat} (hd : decode inf.1 pc = .ok (.getfield idx, 3)) (hc : zcl[c]? = some (C, T, N)) (hc25 : c < 25) (hin : ∀ w ∈ u_ws C T N, w ∈ lw_all) (hf : f < N) (hN : zNf c = N) (hr : zRf c f = true) {host : String} (hq : Cond.fieldLinkNest inf.2.1.cls idx ref (T f).2.1 (T f).2.2.1 host ∈ lw_tbl) (hsm : (T f).1 = ref) : zOK inf pc (z_getR c f (pc + 3)) := by
  refine zOK_pure (fun ls st z p' ls' st' z' hf0 => ?_)
  unfold z_getR at hf0
  split at hf0
  · rename_i r st1
    split at hf0
    · rename_i hcr
      obtain ⟨hcr, hir⟩ := hcr
      cases hf0
      refine ⟨rfl, ?_⟩
      intro p l e R s m args below meth c0 H locs cells slots Q X A w0 ws lsm stm C I k
      obtain ⟨hx, hb, hml, hown, hts, hSx, hA, hnm, hfr, hlo, hlk, hfl⟩ := C
      obtain ⟨hH, hP, hD, hS, hE, hL, hs⟩ := I
      obtain ⟨a0, u1, rfl, h0, hs1⟩ := zSR_r hs
      obtain ⟨hr1, e0, he0, hE0⟩ := hH.at (by omega) (by omega) h0
      obtain ⟨fs, rfl, hl1, hfs⟩ := zER_obj hE0 hcr hc25
      obtain ⟨w, hw1, hw2⟩ := hfs f (by omega)
      rw [hr, if_pos (by decide)] at hw2
      skip
      exact va_getN (ref := ref) (C := C) (T := T) (N := N) hx hb hts hin hown hSx.1 hP (r - 100) he0 hc f hf (va_Nw.use rfl (hSx.2.1 _ hq rfl)) (fun x hx9 => by rw [← hsm]; exact hx9) hw1 hd (k _ _ hL ⟨hw2, hs1⟩)
    · cases hf0
  · cases hf0
set_option maxHeartbeats 800000 in
theorem ok_putI {c f idx : Nat} {ref C : String} {T : u_T} {N : Nat} (hd : decode inf.1 pc = .ok (.putfield idx, 3)) (hc : zcl[c]? = some (C, T, N)) (hc25 : c < 25) (hin : ∀ w ∈ u_ws C T N, w ∈ lw_all) (hf : f < N) (hN : zNf c = N) (hr : zRf c f = false) (hq : Cond.fieldLink inf.2.1.cls idx ref (T f).2.1 (T f).2.2.1 ∈ lw_all) (hsm : (T f).1 = ref) {ty0 : Nat → FieldType} (hty : ∀ k, k < N → parseFieldDescriptor (T k).2.2.1 = some (ty0 k)) (hnmx : ∀ a, a < N → ∀ b, b < N → a ≠ b → (T a).2.1 ≠ (T b).2.1) (hfin : (T f).2.2.2 = false) (ht1 : parseFieldDescriptor (T f).2.2.1 = some .int) : zOK inf pc (z_putI c f (pc + 3)) := by
  intro ls st z p' ls' st' z' hf0
  unfold z_putI at hf0
  split at hf0
  · rename_i v r st1
    split at hf0
    · rename_i hcr
      skip
      cases hf0
      refine ⟨⟨Nat.le_refl _, Nat.le_refl _⟩, ?_⟩
      intro p l e R s m args below meth c0 H locs cells slots Q X A w0 ws lsm stm C I hcl hsl k
      simp only [uc_sfi, us_sfi, uc_sfr, us_sfr, Nat.sub_self, Nat.add_zero] at k
      obtain ⟨hx, hb, hml, hown, hts, hSx, hA, hnm, hfr, hlo, hlk, hfl⟩ := C
      obtain ⟨hH, hP, hD, hS, hE, hL, hs⟩ := I
      obtain ⟨u1, rfl, hs1⟩ := zSR_i hs
      obtain ⟨a0, u2, rfl, h0, hs2⟩ := zSR_r hs1
      obtain ⟨hr1, e0, he0, hE0⟩ := hH.at (by omega) (by omega) h0
      obtain ⟨fs, rfl, hl1, hfs⟩ := zER_obj hE0 hcr hc25
      have hnf : narrow .int (.int v) = .int v ∧ fits .int (.int v) = true := ⟨rfl, rfl⟩
      refine va_put (ref := ref) (C := C) (T := T) (N := N) hx hb hts hin ty0 hty hnmx hown hSx.1 hP hD hS (r - 100) he0 hc f hf (hts _ hq) (fun x hx9 => by rw [← hsm]; exact hx9) hfin (ty := .int) ht1 hnf.1 hnf.2 (by omega) hd (fun H1 locs1 hP1 hD1 hS1 => ?_)
      have hX := zExt.set (e' := (.inr (c, fs.set f (.int v)) : va_E)) he0
      refine k H1 locs1 _ _ _ ⟨hH.set hr1 he0 (by omega) rfl rfl rfl rfl (fun q hq => ?_) (zER_obj' hcr hc25 (by rw [List.length_set]; exact hl1) (fun j hj => ?_)), hP1, hD1, hS1, hE.trans hX, hL.ext hX, hs2.ext hX⟩
      · refine ⟨rfl, rfl, rfl, ?_, ?_, rfl, rfl, rfl, rfl⟩
        · funext j; exact zu2_n _ _ _ _ hq
        · rfl
      · by_cases hjf : j = f
        · subst hjf
          refine ⟨(.int v), by rw [List.getElem?_set_self (by omega)], ?_⟩
          rw [hr, if_neg (by decide)]
          rw [fi_sfi, zu2_s]
        · obtain ⟨w1, hw1, hw2⟩ := hfs j hj
          refine ⟨w1, by rw [List.getElem?_set_ne (fun e => hjf e.symm)]; exact hw1, ?_⟩
          by_cases hz : zRf c j = true
          · rw [if_pos hz] at hw2 ⊢
            exact hw2.ext hX
          · rw [if_neg hz] at hw2 ⊢
            rw [fi_sfi, zu2_k _ _ _ _ hjf]; exact hw2
    · cases hf0
  · cases hf0
set_option maxHeartbeats 800000 in
theorem ok_putIF {c f idx : Nat} {ref C : String} {T : u_T} {N : Nat} (hd : decode inf.1 pc = .ok (.putfield idx, 3)) (hc : zcl[c]? = some (C, T, N)) (hc25 : c < 25) (hin : ∀ w ∈ u_ws C T N, w ∈ lw_all) (hf : f < N) (hN : zNf c = N) (hr : zRf c f = false) (hq : Cond.fieldLink inf.2.1.cls idx ref (T f).2.1 (T f).2.2.1 ∈ lw_all) (hsm : (T f).1 = ref) {ty0 : Nat → FieldType} (hty : ∀ k, k < N → parseFieldDescriptor (T k).2.2.1 = some (ty0 k)) (hnmx : ∀ a, a < N → ∀ b, b < N → a ≠ b → (T a).2.1 ≠ (T b).2.1) (hfin : (T f).2.2.2 = true) (hini : inf.2.1.name = "<init>") (hdc : (T f).1 = inf.2.1.cls) (ht1 : parseFieldDescriptor (T f).2.2.1 = some .int) : zOK inf pc (z_putI c f (pc + 3)) := by
  intro ls st z p' ls' st' z' hf0
  unfold z_putI at hf0
  split at hf0
  · rename_i v r st1
    split at hf0
    · rename_i hcr
      skip
      cases hf0
      refine ⟨⟨Nat.le_refl _, Nat.le_refl _⟩, ?_⟩
      intro p l e R s m args below meth c0 H locs cells slots Q X A w0 ws lsm stm C I hcl hsl k
      simp only [uc_sfi, us_sfi, uc_sfr, us_sfr, Nat.sub_self, Nat.add_zero] at k
      obtain ⟨hx, hb, hml, hown, hts, hSx, hA, hnm, hfr, hlo, hlk, hfl⟩ := C
      obtain ⟨hH, hP, hD, hS, hE, hL, hs⟩ := I
      obtain ⟨u1, rfl, hs1⟩ := zSR_i hs
      obtain ⟨a0, u2, rfl, h0, hs2⟩ := zSR_r hs1
      obtain ⟨hr1, e0, he0, hE0⟩ := hH.at (by omega) (by omega) h0
      obtain ⟨fs, rfl, hl1, hfs⟩ := zER_obj hE0 hcr hc25
      have hnf : narrow .int (.int v) = .int v ∧ fits .int (.int v) = true := ⟨rfl, rfl⟩
      refine va_putF (ref := ref) (C := C) (T := T) (N := N) hx hb hts hin ty0 hty hnmx hown hSx.1 hP hD hS (r - 100) he0 hc f hf (hts _ hq) (fun x hx9 => by rw [← hsm]; exact hx9) hfin (hnm.trans hini) hdc (ty := .int) ht1 hnf.1 hnf.2 (by omega) hd (fun H1 locs1 hP1 hD1 hS1 => ?_)
      have hX := zExt.set (e' := (.inr (c, fs.set f (.int v)) : va_E)) he0
      refine k H1 locs1 _ _ _ ⟨hH.set hr1 he0 (by omega) rfl rfl rfl rfl (fun q hq => ?_) (zER_obj' hcr hc25 (by rw [List.length_set]; exact hl1) (fun j hj => ?_)), hP1, hD1, hS1, hE.trans hX, hL.ext hX, hs2.ext hX⟩
      · refine ⟨rfl, rfl, rfl, ?_, ?_, rfl, rfl, rfl, rfl⟩
        · funext j; exact zu2_n _ _ _ _ hq
        · rfl
      · by_cases hjf : j = f
        · subst hjf
          refine ⟨(.int v), by rw [List.getElem?_set_self (by omega)], ?_⟩
          rw [hr, if_neg (by decide)]
          rw [fi_sfi, zu2_s]
        · obtain ⟨w1, hw1, hw2⟩ := hfs j hj
          refine ⟨w1, by rw [List.getElem?_set_ne (fun e => hjf e.symm)]; exact hw1, ?_⟩
          by_cases hz : zRf c j = true
          · rw [if_pos hz] at hw2 ⊢
            exact hw2.ext hX
          · rw [if_neg hz] at hw2 ⊢
            rw [fi_sfi, zu2_k _ _ _ _ hjf]; exact hw2
    · cases hf0
  · cases hf0
set_option maxHeartbeats 800000 in
theorem ok_putIN {c f idx : Nat} {ref C : String} {T : u_T} {N : Nat} (hd : decode inf.1 pc = .ok (.putfield idx, 3)) (hc : zcl[c]? = some (C, T, N)) (hc25 : c < 25) (hin : ∀ w ∈ u_ws C T N, w ∈ lw_all) (hf : f < N) (hN : zNf c = N) (hr : zRf c f = false) {host : String} (hq : Cond.fieldLinkNest inf.2.1.cls idx ref (T f).2.1 (T f).2.2.1 host ∈ lw_tbl) (hsm : (T f).1 = ref) {ty0 : Nat → FieldType} (hty : ∀ k, k < N → parseFieldDescriptor (T k).2.2.1 = some (ty0 k)) (hnmx : ∀ a, a < N → ∀ b, b < N → a ≠ b → (T a).2.1 ≠ (T b).2.1) (hfin : (T f).2.2.2 = false) (ht1 : parseFieldDescriptor (T f).2.2.1 = some .int) : zOK inf pc (z_putI c f (pc + 3)) := by
  intro ls st z p' ls' st' z' hf0
  unfold z_putI at hf0
  split at hf0
  · rename_i v r st1
    split at hf0
    · rename_i hcr
      skip
      cases hf0
      refine ⟨⟨Nat.le_refl _, Nat.le_refl _⟩, ?_⟩
      intro p l e R s m args below meth c0 H locs cells slots Q X A w0 ws lsm stm C I hcl hsl k
      simp only [uc_sfi, us_sfi, uc_sfr, us_sfr, Nat.sub_self, Nat.add_zero] at k
      obtain ⟨hx, hb, hml, hown, hts, hSx, hA, hnm, hfr, hlo, hlk, hfl⟩ := C
      obtain ⟨hH, hP, hD, hS, hE, hL, hs⟩ := I
      obtain ⟨u1, rfl, hs1⟩ := zSR_i hs
      obtain ⟨a0, u2, rfl, h0, hs2⟩ := zSR_r hs1
      obtain ⟨hr1, e0, he0, hE0⟩ := hH.at (by omega) (by omega) h0
      obtain ⟨fs, rfl, hl1, hfs⟩ := zER_obj hE0 hcr hc25
      have hnf : narrow .int (.int v) = .int v ∧ fits .int (.int v) = true := ⟨rfl, rfl⟩
      refine va_putN (ref := ref) (C := C) (T := T) (N := N) hx hb hts hin ty0 hty hnmx hown hSx.1 hP hD hS (r - 100) he0 hc f hf (va_Nw.use rfl (hSx.2.1 _ hq rfl)) (fun x hx9 => by rw [← hsm]; exact hx9) hfin (ty := .int) ht1 hnf.1 hnf.2 (by omega) hd (fun H1 locs1 hP1 hD1 hS1 => ?_)
      have hX := zExt.set (e' := (.inr (c, fs.set f (.int v)) : va_E)) he0
      refine k H1 locs1 _ _ _ ⟨hH.set hr1 he0 (by omega) rfl rfl rfl rfl (fun q hq => ?_) (zER_obj' hcr hc25 (by rw [List.length_set]; exact hl1) (fun j hj => ?_)), hP1, hD1, hS1, hE.trans hX, hL.ext hX, hs2.ext hX⟩
      · refine ⟨rfl, rfl, rfl, ?_, ?_, rfl, rfl, rfl, rfl⟩
        · funext j; exact zu2_n _ _ _ _ hq
        · rfl
      · by_cases hjf : j = f
        · subst hjf
          refine ⟨(.int v), by rw [List.getElem?_set_self (by omega)], ?_⟩
          rw [hr, if_neg (by decide)]
          rw [fi_sfi, zu2_s]
        · obtain ⟨w1, hw1, hw2⟩ := hfs j hj
          refine ⟨w1, by rw [List.getElem?_set_ne (fun e => hjf e.symm)]; exact hw1, ?_⟩
          by_cases hz : zRf c j = true
          · rw [if_pos hz] at hw2 ⊢
            exact hw2.ext hX
          · rw [if_neg hz] at hw2 ⊢
            rw [fi_sfi, zu2_k _ _ _ _ hjf]; exact hw2
    · cases hf0
  · cases hf0
set_option maxHeartbeats 800000 in
theorem ok_putZ {c f idx : Nat} {ref C : String} {T : u_T} {N : Nat} (hd : decode inf.1 pc = .ok (.putfield idx, 3)) (hc : zcl[c]? = some (C, T, N)) (hc25 : c < 25) (hin : ∀ w ∈ u_ws C T N, w ∈ lw_all) (hf : f < N) (hN : zNf c = N) (hr : zRf c f = false) (hq : Cond.fieldLink inf.2.1.cls idx ref (T f).2.1 (T f).2.2.1 ∈ lw_all) (hsm : (T f).1 = ref) {ty0 : Nat → FieldType} (hty : ∀ k, k < N → parseFieldDescriptor (T k).2.2.1 = some (ty0 k)) (hnmx : ∀ a, a < N → ∀ b, b < N → a ≠ b → (T a).2.1 ≠ (T b).2.1) (hfin : (T f).2.2.2 = false) (ht1 : parseFieldDescriptor (T f).2.2.1 = some .boolean) : zOK inf pc (z_putZ c f (pc + 3)) := by
  intro ls st z p' ls' st' z' hf0
  unfold z_putZ at hf0
  split at hf0
  · rename_i v r st1
    split at hf0
    · rename_i hcr
      obtain ⟨hcr, hir⟩ := hcr
      cases hf0
      refine ⟨⟨Nat.le_refl _, Nat.le_refl _⟩, ?_⟩
      intro p l e R s m args below meth c0 H locs cells slots Q X A w0 ws lsm stm C I hcl hsl k
      simp only [uc_sfi, us_sfi, uc_sfr, us_sfr, Nat.sub_self, Nat.add_zero] at k
      obtain ⟨hx, hb, hml, hown, hts, hSx, hA, hnm, hfr, hlo, hlk, hfl⟩ := C
      obtain ⟨hH, hP, hD, hS, hE, hL, hs⟩ := I
      obtain ⟨u1, rfl, hs1⟩ := zSR_i hs
      obtain ⟨a0, u2, rfl, h0, hs2⟩ := zSR_r hs1
      obtain ⟨hr1, e0, he0, hE0⟩ := hH.at (by omega) (by omega) h0
      obtain ⟨fs, rfl, hl1, hfs⟩ := zER_obj hE0 hcr hc25
      have hnf : narrow .boolean (.int v) = .int v ∧ fits .boolean (.int v) = true := by
        rcases hir with rfl | rfl <;> exact ⟨by decide, by decide⟩
      refine va_put (ref := ref) (C := C) (T := T) (N := N) hx hb hts hin ty0 hty hnmx hown hSx.1 hP hD hS (r - 100) he0 hc f hf (hts _ hq) (fun x hx9 => by rw [← hsm]; exact hx9) hfin (ty := .boolean) ht1 hnf.1 hnf.2 (by omega) hd (fun H1 locs1 hP1 hD1 hS1 => ?_)
      have hX := zExt.set (e' := (.inr (c, fs.set f (.int v)) : va_E)) he0
      refine k H1 locs1 _ _ _ ⟨hH.set hr1 he0 (by omega) rfl rfl rfl rfl (fun q hq => ?_) (zER_obj' hcr hc25 (by rw [List.length_set]; exact hl1) (fun j hj => ?_)), hP1, hD1, hS1, hE.trans hX, hL.ext hX, hs2.ext hX⟩
      · refine ⟨rfl, rfl, rfl, ?_, ?_, rfl, rfl, rfl, rfl⟩
        · funext j; exact zu2_n _ _ _ _ hq
        · rfl
      · by_cases hjf : j = f
        · subst hjf
          refine ⟨(.int v), by rw [List.getElem?_set_self (by omega)], ?_⟩
          rw [hr, if_neg (by decide)]
          rw [fi_sfi, zu2_s]
        · obtain ⟨w1, hw1, hw2⟩ := hfs j hj
          refine ⟨w1, by rw [List.getElem?_set_ne (fun e => hjf e.symm)]; exact hw1, ?_⟩
          by_cases hz : zRf c j = true
          · rw [if_pos hz] at hw2 ⊢
            exact hw2.ext hX
          · rw [if_neg hz] at hw2 ⊢
            rw [fi_sfi, zu2_k _ _ _ _ hjf]; exact hw2
    · cases hf0
  · cases hf0
set_option maxHeartbeats 800000 in
theorem ok_putZN {c f idx : Nat} {ref C : String} {T : u_T} {N : Nat} (hd : decode inf.1 pc = .ok (.putfield idx, 3)) (hc : zcl[c]? = some (C, T, N)) (hc25 : c < 25) (hin : ∀ w ∈ u_ws C T N, w ∈ lw_all) (hf : f < N) (hN : zNf c = N) (hr : zRf c f = false) {host : String} (hq : Cond.fieldLinkNest inf.2.1.cls idx ref (T f).2.1 (T f).2.2.1 host ∈ lw_tbl) (hsm : (T f).1 = ref) {ty0 : Nat → FieldType} (hty : ∀ k, k < N → parseFieldDescriptor (T k).2.2.1 = some (ty0 k)) (hnmx : ∀ a, a < N → ∀ b, b < N → a ≠ b → (T a).2.1 ≠ (T b).2.1) (hfin : (T f).2.2.2 = false) (ht1 : parseFieldDescriptor (T f).2.2.1 = some .boolean) : zOK inf pc (z_putZ c f (pc + 3)) := by
  intro ls st z p' ls' st' z' hf0
  unfold z_putZ at hf0
  split at hf0
  · rename_i v r st1
    split at hf0
    · rename_i hcr
      obtain ⟨hcr, hir⟩ := hcr
      cases hf0
      refine ⟨⟨Nat.le_refl _, Nat.le_refl _⟩, ?_⟩
      intro p l e R s m args below meth c0 H locs cells slots Q X A w0 ws lsm stm C I hcl hsl k
      simp only [uc_sfi, us_sfi, uc_sfr, us_sfr, Nat.sub_self, Nat.add_zero] at k
      obtain ⟨hx, hb, hml, hown, hts, hSx, hA, hnm, hfr, hlo, hlk, hfl⟩ := C
      obtain ⟨hH, hP, hD, hS, hE, hL, hs⟩ := I
      obtain ⟨u1, rfl, hs1⟩ := zSR_i hs
      obtain ⟨a0, u2, rfl, h0, hs2⟩ := zSR_r hs1
      obtain ⟨hr1, e0, he0, hE0⟩ := hH.at (by omega) (by omega) h0
      obtain ⟨fs, rfl, hl1, hfs⟩ := zER_obj hE0 hcr hc25
      have hnf : narrow .boolean (.int v) = .int v ∧ fits .boolean (.int v) = true := by
        rcases hir with rfl | rfl <;> exact ⟨by decide, by decide⟩
      refine va_putN (ref := ref) (C := C) (T := T) (N := N) hx hb hts hin ty0 hty hnmx hown hSx.1 hP hD hS (r - 100) he0 hc f hf (va_Nw.use rfl (hSx.2.1 _ hq rfl)) (fun x hx9 => by rw [← hsm]; exact hx9) hfin (ty := .boolean) ht1 hnf.1 hnf.2 (by omega) hd (fun H1 locs1 hP1 hD1 hS1 => ?_)
      have hX := zExt.set (e' := (.inr (c, fs.set f (.int v)) : va_E)) he0
      refine k H1 locs1 _ _ _ ⟨hH.set hr1 he0 (by omega) rfl rfl rfl rfl (fun q hq => ?_) (zER_obj' hcr hc25 (by rw [List.length_set]; exact hl1) (fun j hj => ?_)), hP1, hD1, hS1, hE.trans hX, hL.ext hX, hs2.ext hX⟩
      · refine ⟨rfl, rfl, rfl, ?_, ?_, rfl, rfl, rfl, rfl⟩
        · funext j; exact zu2_n _ _ _ _ hq
        · rfl
      · by_cases hjf : j = f
        · subst hjf
          refine ⟨(.int v), by rw [List.getElem?_set_self (by omega)], ?_⟩
          rw [hr, if_neg (by decide)]
          rw [fi_sfi, zu2_s]
        · obtain ⟨w1, hw1, hw2⟩ := hfs j hj
          refine ⟨w1, by rw [List.getElem?_set_ne (fun e => hjf e.symm)]; exact hw1, ?_⟩
          by_cases hz : zRf c j = true
          · rw [if_pos hz] at hw2 ⊢
            exact hw2.ext hX
          · rw [if_neg hz] at hw2 ⊢
            rw [fi_sfi, zu2_k _ _ _ _ hjf]; exact hw2
    · cases hf0
  · cases hf0
set_option maxHeartbeats 800000 in
theorem ok_putR {c f idx : Nat} {ref C : String} {T : u_T} {N : Nat} (hd : decode inf.1 pc = .ok (.putfield idx, 3)) (hc : zcl[c]? = some (C, T, N)) (hc25 : c < 25) (hin : ∀ w ∈ u_ws C T N, w ∈ lw_all) (hf : f < N) (hN : zNf c = N) (hr : zRf c f = true) (hq : Cond.fieldLink inf.2.1.cls idx ref (T f).2.1 (T f).2.2.1 ∈ lw_all) (hsm : (T f).1 = ref) {ty0 : Nat → FieldType} (hty : ∀ k, k < N → parseFieldDescriptor (T k).2.2.1 = some (ty0 k)) (hnmx : ∀ a, a < N → ∀ b, b < N → a ≠ b → (T a).2.1 ≠ (T b).2.1) (hfin : (T f).2.2.2 = false) {ty : FieldType} (ht1 : parseFieldDescriptor (T f).2.2.1 = some ty) (ht2 : (∃ n, ty = .object n) ∨ ∃ t, ty = .array t) : zOK inf pc (z_putR c f (pc + 3)) := by
  intro ls st z p' ls' st' z' hf0
  unfold z_putR at hf0
  split at hf0
  · rename_i v r st1
    split at hf0
    · rename_i hcr
      obtain ⟨hcr, hir⟩ := hcr
      cases hf0
      refine ⟨⟨Nat.le_refl _, Nat.le_refl _⟩, ?_⟩
      intro p l e R s m args below meth c0 H locs cells slots Q X A w0 ws lsm stm C I hcl hsl k
      simp only [uc_sfi, us_sfi, uc_sfr, us_sfr, Nat.sub_self, Nat.add_zero] at k
      obtain ⟨hx, hb, hml, hown, hts, hSx, hA, hnm, hfr, hlo, hlk, hfl⟩ := C
      obtain ⟨hH, hP, hD, hS, hE, hL, hs⟩ := I
      obtain ⟨w, u1, rfl, hw, hs1⟩ := zSR_v hs
      obtain ⟨a0, u2, rfl, h0, hs2⟩ := zSR_r hs1
      obtain ⟨hr1, e0, he0, hE0⟩ := hH.at (by omega) (by omega) h0
      obtain ⟨fs, rfl, hl1, hfs⟩ := zER_obj hE0 hcr hc25
      have hnf : narrow ty w = w ∧ fits ty w = true := by
        rcases zVR_rf hw hir with ⟨-, rfl⟩ | ⟨_, a9, -, rfl, -⟩ <;> rcases ht2 with ⟨n, rfl⟩ | ⟨t, rfl⟩ <;> exact ⟨rfl, rfl⟩
      refine va_put (ref := ref) (C := C) (T := T) (N := N) hx hb hts hin ty0 hty hnmx hown hSx.1 hP hD hS (r - 100) he0 hc f hf (hts _ hq) (fun x hx9 => by rw [← hsm]; exact hx9) hfin (ty := ty) ht1 hnf.1 hnf.2 (by omega) hd (fun H1 locs1 hP1 hD1 hS1 => ?_)
      have hX := zExt.set (e' := (.inr (c, fs.set f w) : va_E)) he0
      refine k H1 locs1 _ _ _ ⟨hH.set hr1 he0 (by omega) rfl rfl rfl rfl (fun q hq => ?_) (zER_obj' hcr hc25 (by rw [List.length_set]; exact hl1) (fun j hj => ?_)), hP1, hD1, hS1, hE.trans hX, hL.ext hX, hs2.ext hX⟩
      · refine ⟨rfl, rfl, rfl, ?_, ?_, rfl, rfl, rfl, rfl⟩
        · rfl
        · funext j; exact zu2_n _ _ _ _ hq
      · by_cases hjf : j = f
        · subst hjf
          refine ⟨w, by rw [List.getElem?_set_self (by omega)], ?_⟩
          rw [hr, if_pos (by decide)]
          rw [fr_sfr, zu2_s]; exact hw.ext hX
        · obtain ⟨w1, hw1, hw2⟩ := hfs j hj
          refine ⟨w1, by rw [List.getElem?_set_ne (fun e => hjf e.symm)]; exact hw1, ?_⟩
          by_cases hz : zRf c j = true
          · rw [if_pos hz] at hw2 ⊢
            rw [fr_sfr, zu2_k _ _ _ _ hjf]; exact hw2.ext hX
          · rw [if_neg hz] at hw2 ⊢
            exact hw2
    · cases hf0
  · cases hf0
set_option maxHeartbeats 800000 in
theorem ok_putRF {c f idx : Nat} {ref C : String} {T : u_T} {N : Nat} (hd : decode inf.1 pc = .ok (.putfield idx, 3)) (hc : zcl[c]? = some (C, T, N)) (hc25 : c < 25) (hin : ∀ w ∈ u_ws C T N, w ∈ lw_all) (hf : f < N) (hN : zNf c = N) (hr : zRf c f = true) (hq : Cond.fieldLink inf.2.1.cls idx ref (T f).2.1 (T f).2.2.1 ∈ lw_all) (hsm : (T f).1 = ref) {ty0 : Nat → FieldType} (hty : ∀ k, k < N → parseFieldDescriptor (T k).2.2.1 = some (ty0 k)) (hnmx : ∀ a, a < N → ∀ b, b < N → a ≠ b → (T a).2.1 ≠ (T b).2.1) (hfin : (T f).2.2.2 = true) (hini : inf.2.1.name = "<init>") (hdc : (T f).1 = inf.2.1.cls) {ty : FieldType} (ht1 : parseFieldDescriptor (T f).2.2.1 = some ty) (ht2 : (∃ n, ty = .object n) ∨ ∃ t, ty = .array t) : zOK inf pc (z_putR c f (pc + 3)) := by
  intro ls st z p' ls' st' z' hf0
  unfold z_putR at hf0
  split at hf0
  · rename_i v r st1
    split at hf0
    · rename_i hcr
      obtain ⟨hcr, hir⟩ := hcr
      cases hf0
      refine ⟨⟨Nat.le_refl _, Nat.le_refl _⟩, ?_⟩
      intro p l e R s m args below meth c0 H locs cells slots Q X A w0 ws lsm stm C I hcl hsl k
      simp only [uc_sfi, us_sfi, uc_sfr, us_sfr, Nat.sub_self, Nat.add_zero] at k
      obtain ⟨hx, hb, hml, hown, hts, hSx, hA, hnm, hfr, hlo, hlk, hfl⟩ := C
      obtain ⟨hH, hP, hD, hS, hE, hL, hs⟩ := I
      obtain ⟨w, u1, rfl, hw, hs1⟩ := zSR_v hs
      obtain ⟨a0, u2, rfl, h0, hs2⟩ := zSR_r hs1
      obtain ⟨hr1, e0, he0, hE0⟩ := hH.at (by omega) (by omega) h0
      obtain ⟨fs, rfl, hl1, hfs⟩ := zER_obj hE0 hcr hc25
      have hnf : narrow ty w = w ∧ fits ty w = true := by
        rcases zVR_rf hw hir with ⟨-, rfl⟩ | ⟨_, a9, -, rfl, -⟩ <;> rcases ht2 with ⟨n, rfl⟩ | ⟨t, rfl⟩ <;> exact ⟨rfl, rfl⟩
      refine va_putF (ref := ref) (C := C) (T := T) (N := N) hx hb hts hin ty0 hty hnmx hown hSx.1 hP hD hS (r - 100) he0 hc f hf (hts _ hq) (fun x hx9 => by rw [← hsm]; exact hx9) hfin (hnm.trans hini) hdc (ty := ty) ht1 hnf.1 hnf.2 (by omega) hd (fun H1 locs1 hP1 hD1 hS1 => ?_)
      have hX := zExt.set (e' := (.inr (c, fs.set f w) : va_E)) he0
      refine k H1 locs1 _ _ _ ⟨hH.set hr1 he0 (by omega) rfl rfl rfl rfl (fun q hq => ?_) (zER_obj' hcr hc25 (by rw [List.length_set]; exact hl1) (fun j hj => ?_)), hP1, hD1, hS1, hE.trans hX, hL.ext hX, hs2.ext hX⟩
      · refine ⟨rfl, rfl, rfl, ?_, ?_, rfl, rfl, rfl, rfl⟩
        · rfl
        · funext j; exact zu2_n _ _ _ _ hq
      · by_cases hjf : j = f
        · subst hjf
          refine ⟨w, by rw [List.getElem?_set_self (by omega)], ?_⟩
          rw [hr, if_pos (by decide)]
          rw [fr_sfr, zu2_s]; exact hw.ext hX
        · obtain ⟨w1, hw1, hw2⟩ := hfs j hj
          refine ⟨w1, by rw [List.getElem?_set_ne (fun e => hjf e.symm)]; exact hw1, ?_⟩
          by_cases hz : zRf c j = true
          · rw [if_pos hz] at hw2 ⊢
            rw [fr_sfr, zu2_k _ _ _ _ hjf]; exact hw2.ext hX
          · rw [if_neg hz] at hw2 ⊢
            exact hw2
    · cases hf0
  · cases hf0
set_option maxHeartbeats 800000 in
theorem ok_putRN {c f idx : Nat} {ref C : String} {T : u_T} {N : Nat} (hd : decode inf.1 pc = .ok (.putfield idx, 3)) (hc : zcl[c]? = some (C, T, N)) (hc25 : c < 25) (hin : ∀ w ∈ u_ws C T N, w ∈ lw_all) (hf : f < N) (hN : zNf c = N) (hr : zRf c f = true) {host : String} (hq : Cond.fieldLinkNest inf.2.1.cls idx ref (T f).2.1 (T f).2.2.1 host ∈ lw_tbl) (hsm : (T f).1 = ref) {ty0 : Nat → FieldType} (hty : ∀ k, k < N → parseFieldDescriptor (T k).2.2.1 = some (ty0 k)) (hnmx : ∀ a, a < N → ∀ b, b < N → a ≠ b → (T a).2.1 ≠ (T b).2.1) (hfin : (T f).2.2.2 = false) {ty : FieldType} (ht1 : parseFieldDescriptor (T f).2.2.1 = some ty) (ht2 : (∃ n, ty = .object n) ∨ ∃ t, ty = .array t) : zOK inf pc (z_putR c f (pc + 3)) := by
  intro ls st z p' ls' st' z' hf0
  unfold z_putR at hf0
  split at hf0
  · rename_i v r st1
    split at hf0
    · rename_i hcr
      obtain ⟨hcr, hir⟩ := hcr
      cases hf0
      refine ⟨⟨Nat.le_refl _, Nat.le_refl _⟩, ?_⟩
      intro p l e R s m args below meth c0 H locs cells slots Q X A w0 ws lsm stm C I hcl hsl k
      simp only [uc_sfi, us_sfi, uc_sfr, us_sfr, Nat.sub_self, Nat.add_zero] at k
      obtain ⟨hx, hb, hml, hown, hts, hSx, hA, hnm, hfr, hlo, hlk, hfl⟩ := C
      obtain ⟨hH, hP, hD, hS, hE, hL, hs⟩ := I
      obtain ⟨w, u1, rfl, hw, hs1⟩ := zSR_v hs
      obtain ⟨a0, u2, rfl, h0, hs2⟩ := zSR_r hs1
      obtain ⟨hr1, e0, he0, hE0⟩ := hH.at (by omega) (by omega) h0
      obtain ⟨fs, rfl, hl1, hfs⟩ := zER_obj hE0 hcr hc25
      have hnf : narrow ty w = w ∧ fits ty w = true := by
        rcases zVR_rf hw hir with ⟨-, rfl⟩ | ⟨_, a9, -, rfl, -⟩ <;> rcases ht2 with ⟨n, rfl⟩ | ⟨t, rfl⟩ <;> exact ⟨rfl, rfl⟩
      refine va_putN (ref := ref) (C := C) (T := T) (N := N) hx hb hts hin ty0 hty hnmx hown hSx.1 hP hD hS (r - 100) he0 hc f hf (va_Nw.use rfl (hSx.2.1 _ hq rfl)) (fun x hx9 => by rw [← hsm]; exact hx9) hfin (ty := ty) ht1 hnf.1 hnf.2 (by omega) hd (fun H1 locs1 hP1 hD1 hS1 => ?_)
      have hX := zExt.set (e' := (.inr (c, fs.set f w) : va_E)) he0
      refine k H1 locs1 _ _ _ ⟨hH.set hr1 he0 (by omega) rfl rfl rfl rfl (fun q hq => ?_) (zER_obj' hcr hc25 (by rw [List.length_set]; exact hl1) (fun j hj => ?_)), hP1, hD1, hS1, hE.trans hX, hL.ext hX, hs2.ext hX⟩
      · refine ⟨rfl, rfl, rfl, ?_, ?_, rfl, rfl, rfl, rfl⟩
        · rfl
        · funext j; exact zu2_n _ _ _ _ hq
      · by_cases hjf : j = f
        · subst hjf
          refine ⟨w, by rw [List.getElem?_set_self (by omega)], ?_⟩
          rw [hr, if_pos (by decide)]
          rw [fr_sfr, zu2_s]; exact hw.ext hX
        · obtain ⟨w1, hw1, hw2⟩ := hfs j hj
          refine ⟨w1, by rw [List.getElem?_set_ne (fun e => hjf e.symm)]; exact hw1, ?_⟩
          by_cases hz : zRf c j = true
          · rw [if_pos hz] at hw2 ⊢
            rw [fr_sfr, zu2_k _ _ _ _ hjf]; exact hw2.ext hX
          · rw [if_neg hz] at hw2 ⊢
            exact hw2
    · cases hf0
  · cases hf0
end ZOKH
