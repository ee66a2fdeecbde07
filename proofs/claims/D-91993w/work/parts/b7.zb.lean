set_option maxRecDepth 100000
/-! the primitives: lists -/
section JB
variable {X : ZX} {ws : va_W} {z y : ZH} {r q : Nat}
/-- y is the heap z with the list r, its places at q, laid open and worked on -/
def zOp (z y : ZH) (r q : Nat) : Prop := (zcls y = zu1 (zu1 (zcls z) q 64) r 24 ∧ zfr y = zu1 (zfr z) r (fun _ => .ref q) ∧ zia y = zia z ∧ zla y = zla z ∧ zlen y = zlen z ∧ zls y = zls z ∧ zown y = zown z ∧ zn y = zn z) ∧ (zuc y = zuc z ∧ zus y = zus z) ∧ (∀ p, ¬ p = r → zfi y p = zfi z p) ∧ (∀ p, ¬ p = q → zra y p = zra z p)
theorem zOp_opn {mc : Int32} : zOp z (opn z r q mc) r q := ⟨⟨rfl, rfl, rfl, rfl, rfl, rfl, rfl, rfl⟩, ⟨rfl, rfl⟩, fun _ h => zu1_n _ _ _ h, fun _ h => zu1_n _ _ _ h⟩
theorem zOp_sfi {k : Nat} {x : Int32} (h : zOp z y r q) : zOp z (sfi y r k x) r q := by
  obtain ⟨h1, h2, h3, h4⟩ := h
  refine ⟨h1, h2, fun p hp => ?_, h4⟩
  rw [← h3 p hp]
  funext j
  exact if_neg (fun e => hp e.1)
theorem zOp_sra {k : Nat} {v : Value} (h : zOp z y r q) : zOp z (sra y q k v) r q := by
  obtain ⟨h1, h2, h3, h4⟩ := h
  refine ⟨h1, h2, h3, fun p hp => ?_⟩
  rw [← h4 p hp]
  funext j
  exact if_neg (fun e => hp e.1)
theorem zOp_sRA {f : Nat → Value} (h : zOp z y r q) : zOp z (sRA y q f) r q := by
  obtain ⟨h1, h2, h3, h4⟩ := h
  refine ⟨h1, h2, h3, fun p hp => ?_⟩
  rw [← h4 p hp]
  exact zu1_n _ _ _ hp
theorem zOp_clr (h : zOp z y r q) : ∀ i, zOp z (clrH y q i) r q
  | 0 => h
  | i + 1 => zOp_sra (zOp_clr h i)
theorem zOp.same (h : zOp z y r q) {l : List Value} {p : Nat} (h1 : ¬ p = r) (h2 : ¬ p = q) : zSame y (sls z r l) p := by
  obtain ⟨⟨z1, z2, z3, z4, z5, z6, z7, z8⟩, _, h3, h4⟩ := h
  refine ⟨?_, ?_, ?_, (h3 p h1).symm, ?_, ?_, ?_, (h4 p h2).symm, ?_⟩
  · rw [z1, zu1_n _ _ _ h1, zu1_n _ _ _ h2]; rfl
  · rw [z5]; rfl
  · rw [z7]; rfl
  · rw [z2, zu1_n _ _ _ h1]; rfl
  · rw [z3]; rfl
  · rw [z4]; rfl
  · rw [z6]; exact zu1_n _ _ _ h1
theorem isL.ne (h : isL z r q) : ¬ r = q := fun e => by
  have h1 := h.1
  have h2 := h.2.2.1.2.2.1
  rw [e, h2] at h1
  omega
theorem zOp.jL {len : Nat} (h : zOp z y r q) (hi : isL z r q) (hlen : zfi y r 2 = nI len) (hle : len ≤ zlen z q) : jL y r q (zlen z q) len := by
  obtain ⟨⟨z1, z2, z3, z4, z5, z6, z7, z8⟩, _, h3, h4⟩ := h
  have hrq := hi.ne
  have h9 := hi.2.2.2.2.2
  refine ⟨⟨by rw [z1, zu1_s], ?_, hlen⟩, ⟨by rw [z1, zu1_n _ _ _ (fun e => hrq e.symm), zu1_s], by rw [z5]⟩, hle, by omega⟩
  rw [z2]
  show zu1 (zfr z) r (fun _ => Value.ref q) r 1 = _
  rw [zu1_s]
/-- the list laid back -/
theorem jback {l : List Value} (h : zHR X ws y) (hz : zOp z y r q) (hi : isL z r q) (hr : 100 ≤ r) (hrn : r < zn z) (hlen : zfi y r 2 = nI l.length) (hle : l.length ≤ zlen z q) (he : ∀ (i : Nat) (v : Value), l[i]? = some v → zra y q i = v ∧ zir v = true) (hnul : ∀ i, l.length ≤ i → zra y q i = .null) : zHR X ws (sls z r l) := by
  have hL := hz.jL hi hlen hle
  have hs := fun p h1 h2 => hz.same (l := l) (p := p) h1 h2
  have hrq := hi.ne
  obtain ⟨⟨z1, z2, z3, z4, z5, z6, z7, z8⟩, _, h3, h4⟩ := hz
  obtain ⟨hc, hf, ⟨q1, q2, q3, q4⟩, hl0, hl1, hl2⟩ := hi
  have el : zls (sls z r l) r = l := zu1_s _ _ _
  refine zHR_cls (q0 := q) h hr (by rw [z8]; exact hrn) hL (by rw [z8]; exact q2) ⟨hl1, hl2⟩ hnul (fun i h => ?_) hrq ⟨q1, fun e => hrq e.symm⟩ (by rw [z1, zu1_n _ _ _ (fun e => hrq e.symm), zu1_s]) (by rw [z8]; rfl) (fun p _ a b _ => hs p a b) hc hf q3 q4 rfl (by rw [el]) (fun i h => ?_) q3
  · have e9 := List.getElem?_eq_getElem h
    obtain ⟨e1, e2⟩ := he i _ e9
    rw [e1]; exact e2
  · have e9 := List.getElem?_eq_getElem h
    obtain ⟨e1, e2⟩ := he i _ e9
    rw [el, e9, e1]
/-- what the places of a list laid open hold -/
theorem opn_ra {mc : Int32} {i : Nat} : zra (opn z r q mc) q i = (zls z r).getD i .null := by
  show zu1 (zra z) q (fun i => (zls z r).getD i .null) q i = _
  rw [zu1_s]
theorem opn_fi0 {mc : Int32} (k : Nat) : zfi (opn z r q mc) r k = if k = 0 then mc else nI (zls z r).length := by
  show zu1 (zfi z) r (fun j => if j = 0 then mc else nI (zls z r).length) r k = _
  rw [zu1_s]
theorem getD_some {l : List Value} {i : Nat} {v : Value} (h : l[i]? = some v) : l.getD i .null = v := by
  unfold List.getD
  rw [h]
  rfl
theorem getD_none {l : List Value} {i : Nat} (h : l.length ≤ i) : l.getD i .null = .null := by
  unfold List.getD
  rw [List.getElem?_eq_none_iff.mpr h]
  rfl
/-- the very list laid back -/
theorem jback0 {mc : Int32} (h : zHR X ws (opn z r q mc)) (hi : isL z r q) (hr : 100 ≤ r) (hrn : r < zn z) (hel : ∀ (i : Nat) (v : Value), (zls z r)[i]? = some v → zir v = true) : zHR X ws z := by
  have k := jback (l := zls z r) h zOp_opn hi hr hrn (by rw [opn_fi0]; rfl) hi.2.2.2.1 (fun i v e => ⟨by rw [opn_ra]; exact getD_some e, hel i v e⟩) (fun i e => by rw [opn_ra]; exact getD_none e)
  have e : sls z r (zls z r) = z := by
    have : zu1 (zls z) r (zls z r) = zls z := by
      funext j
      by_cases hj : j = r
      · rw [hj, zu1_s]
      · exact zu1_n _ _ _ hj
    unfold sls
    rw [this]
    rfl
  rw [e] at k
  exact k
end JB
section JPL
variable {X : ZX} {ws w0 : va_W} {z : ZH} {A : Nat → Prop} {s : State} {nL : Nat} {H : Heap} {locs : List Loc} {ls st : List Value} {lsm : Array Slot} {stm : List Value}
/-- a list on top of the stack, below its arguments, laid open -/
theorem jopen {r : Nat} {as : List Value} (I : zInv X A s nL w0 H locs ws z ls ((.ref r :: as).reverse ++ st) lsm stm) (hc : zcls z r = 90) : 100 ≤ r ∧ r < zn z ∧ ∃ q mc, isL z r q ∧ zHR X ws (opn z r q mc) ∧ (∀ (i : Nat) (v : Value), (zls z r)[i]? = some v → v = .null ∨ ∃ p : Nat, v = .ref p ∧ (p < 100 ∨ p < zn z)) := by
  obtain ⟨hH, hP, hD, hS, hE, hL, hs⟩ := I
  obtain ⟨as2, restm, e3, has, hrest⟩ : ∃ as' restm, stm = as'.reverse ++ restm ∧ zSR X ws (.ref r :: as) as' ∧ zSR X ws st restm := zSR_split hs
  obtain ⟨a, As, rfl, har, hvs⟩ := zSR_r has
  obtain ⟨hr1, e0, he0, hE0⟩ := hH.at (by omega) (by omega) har
  have hlt := (List.getElem?_eq_some_iff.mp he0).1
  have h1 := hH.1.1
  have hrn : r < zn z := by omega
  exact ⟨hr1, hrn, zHR_opn hH hr1 hrn hc⟩
theorem jrefn {r c : Nat} {as : List Value} (I : zInv X A s nL w0 H locs ws z ls ((.ref r :: as).reverse ++ st) lsm stm) (hc : zcls z r = c) (h1 : c ≠ 99) (h2 : c ≠ 49) : 100 ≤ r ∧ r < zn z := by
  obtain ⟨hH, hP, hD, hS, hE, hL, hs⟩ := I
  obtain ⟨as2, restm, e3, has, hrest⟩ : ∃ as' restm, stm = as'.reverse ++ restm ∧ zSR X ws (.ref r :: as) as' ∧ zSR X ws st restm := zSR_split hs
  obtain ⟨a, As, rfl, har, hvs⟩ := zSR_r has
  obtain ⟨hr1, e0, he0, hE0⟩ := hH.at (by omega) (by omega) har
  have hlt := (List.getElem?_eq_some_iff.mp he0).1
  have h3 := hH.1.1
  exact ⟨hr1, by omega⟩
theorem zir_of {l : List Value} {n : Nat} (h : ∀ (i : Nat) (v : Value), l[i]? = some v → v = .null ∨ ∃ p : Nat, v = .ref p ∧ (p < 100 ∨ p < n)) : ∀ (i : Nat) (v : Value), l[i]? = some v → zir v = true := fun i v e => by
  rcases h i v e with rfl | ⟨p, rfl, _⟩
  · rfl
  · rfl
end JPL
section JPR
variable {inf : ZInf} {pc idx cnt : Nat}
set_option maxHeartbeats 1000000 in
theorem p_lsize (hd : decode inf.1 pc = .ok (.invokeinterface idx cnt, 5)) (hq : Cond.methodLink inf.2.1.cls idx ⟨"java/util/List", "size", "()I"⟩ ∈ lw_all) : zOK inf pc (z_lsize (pc + 5)) := by
  intro ls st z p' ls' st' z' hf0
  unfold z_lsize at hf0
  split at hf0
  · rename_i r st1
    split at hf0
    · rename_i hb
      obtain ⟨hzc, hc⟩ := hb
      cases hf0
      refine ⟨⟨Nat.le_refl _, Nat.le_refl _⟩, ?_⟩
      intro p l e R s m args below meth c H locs cells slots Q X A w0 ws lsm stm C I hcl hsl k
      simp only [Nat.sub_self, Nat.add_zero] at hcl hsl k
      obtain ⟨hr1, hr2, q, mc, hi, hO, hel⟩ := jopen (as := []) (st := st1) I hc
      have hjl : jL (opn z r q mc) r q (zlen z q) (zls z r).length := zOp_opn.jL hi (by rw [opn_fi0]; rfl) hi.2.2.2.1
      have hrun : ZC zJ 0 4 [.ref r] (opn z r q mc) (fun o w => o = .inl (some (.int (nI (zls z r).length))) ∧ w = opn z r q mc) := Eq.mpr (jc4 hjl) ⟨rfl, rfl⟩
      refine jListF (k := 4) (n := 0) (d := 0) (as := []) (st1 := st1) (y1 := opn z r q mc) (y2 := opn z r q mc) (z' := z) hd rfl (jIOK (k := 4) (pc := 0) rfl) (by decide +kernel) hq q831 q833 q115 q835 rfl ⟨by decide, by decide, by decide +kernel⟩ (by decide) (by decide) C I hzc hO (zu1_s _ _ _) rfl (by show (1 : Nat) ≤ _; decide +kernel) hrun (by omega) (by omega) (fun ws' h => jback0 h hi hr1 hr2 (zir_of hel)) (fun H' locs' ws' stm' I' => ?_)
      simp only [Nat.sub_self, Nat.add_zero]
      exact k H' locs' ws' lsm stm' I'
    · cases hf0
  · cases hf0
set_option maxHeartbeats 1000000 in
theorem p_lget (hd : decode inf.1 pc = .ok (.invokeinterface idx cnt, 5)) (hq : Cond.methodLink inf.2.1.cls idx ⟨"java/util/List", "get", "(I)Ljava/lang/Object;"⟩ ∈ lw_all) : zOK inf pc (z_lget (pc + 5)) := by
  intro ls st z p' ls' st' z' hf0
  unfold z_lget at hf0
  split at hf0
  · rename_i a r st1
    split at hf0
    · rename_i hb
      obtain ⟨hzc, hc, hin⟩ := hb
      cases hf0
      refine ⟨⟨Nat.le_refl _, Nat.le_refl _⟩, ?_⟩
      intro p l e R s m args below meth c H locs cells slots Q X A w0 ws lsm stm C I hcl hsl k
      simp only [Nat.sub_self, Nat.add_zero] at hcl hsl k
      obtain ⟨i, hi1, hi2, rfl⟩ := zin_of hin
      rw [zx_nI hi2] at k
      obtain ⟨hr1, hr2, q, mc, hi, hO, hel⟩ := jopen (as := [.int (nI i)]) (st := st1) I hc
      have hjl : jL (opn z r q mc) r q (zlen z q) (zls z r).length := zOp_opn.jL hi (by rw [opn_fi0]; rfl) hi.2.2.2.1
      have e9 := List.getElem?_eq_getElem hi1
      have hg : (zls z r).getD i .null = (zls z r)[i] := getD_some e9
      have hrun : ZC zJ 2 9 [.ref r, .int (nI i)] (opn z r q mc) (fun o w => o = .inl (some ((zls z r).getD i .null)) ∧ w = opn z r q mc) := by
        rcases hel i _ e9 with e | ⟨p9, e, _⟩
        · rw [hg, e]
          exact Eq.mpr (jc9n (d := 0) hjl hi1 (by rw [opn_ra, hg, e])) ⟨rfl, rfl⟩
        · rw [hg, e]
          exact Eq.mpr (jc9 (d := 0) hjl hi1 (by rw [opn_ra, hg, e])) ⟨rfl, rfl⟩
      refine jListF (k := 9) (n := 1) (d := 2) (as := [.int (nI i)]) (st1 := st1) (y1 := opn z r q mc) (y2 := opn z r q mc) (z' := z) hd rfl (jIOK (k := 9) (pc := 0) rfl) (by decide +kernel) hq q1180 q1182 q115 q1184 rfl ⟨by decide, by decide, by decide +kernel⟩ (by decide) (by decide) C I hzc hO (zu1_s _ _ _) rfl (by show (2 : Nat) ≤ _; decide +kernel) hrun (by omega) (by omega) (fun ws' h => jback0 h hi hr1 hr2 (zir_of hel)) (fun H' locs' ws' stm' I' => ?_)
      simp only [Nat.sub_self, Nat.add_zero]
      exact k H' locs' ws' lsm stm' I'
    · cases hf0
  · cases hf0
set_option maxHeartbeats 1000000 in
theorem p_lclr (hd : decode inf.1 pc = .ok (.invokeinterface idx cnt, 5)) (hq : Cond.methodLink inf.2.1.cls idx ⟨"java/util/List", "clear", "()V"⟩ ∈ lw_all) : zOK inf pc (z_lclr (pc + 5)) := by
  intro ls st z p' ls' st' z' hf0
  unfold z_lclr at hf0
  split at hf0
  · rename_i r st1
    split at hf0
    · rename_i hb
      obtain ⟨hzc, hc⟩ := hb
      cases hf0
      refine ⟨⟨Nat.le_refl _, Nat.le_refl _⟩, ?_⟩
      intro p l e R s m args below meth c H locs cells slots Q X A w0 ws lsm stm C I hcl hsl k
      simp only [uc_sls, us_sls, Nat.sub_self, Nat.add_zero] at hcl hsl k
      obtain ⟨hr1, hr2, q, mc, hi, hO, hel⟩ := jopen (as := []) (st := st') I hc
      have hjl : jL (opn z r q mc) r q (zlen z q) (zls z r).length := zOp_opn.jL hi (by rw [opn_fi0]; rfl) hi.2.2.2.1
      have hrun : ZC zJ 0 3 [.ref r] (opn z r q mc) (fun o w => o = .inl none ∧ w = jClr (opn z r q mc) r q (zls z r).length) := Eq.mpr (jc3 hjl) ⟨rfl, rfl⟩
      have hz2 : zOp z (jClr (opn z r q mc) r q (zls z r).length) r q := zOp_clr (zOp_sfi (zOp_sfi zOp_opn)) _
      have u1 : zuc (jClr (opn z r q mc) r q (zls z r).length) = zuc (opn z r q mc) := hz2.2.1.1
      have u2 : zus (jClr (opn z r q mc) r q (zls z r).length) = zus (opn z r q mc) := hz2.2.1.2
      refine jListF (k := 3) (n := 0) (d := 0) (as := []) (st1 := st') (y1 := opn z r q mc) (z' := sls z r []) hd rfl (jIOK (k := 3) (pc := 0) rfl) (by decide +kernel) hq q506 q508 q115 q510 rfl ⟨by decide, by decide, by decide +kernel⟩ (by decide) (by decide) C I hzc hO (zu1_s _ _ _) rfl (by show (1 : Nat) ≤ _; decide +kernel) hrun (by omega) (by omega) (fun ws' h => ?_) (fun H' locs' ws' stm' I' => ?_)
      · refine jback (l := []) h hz2 hi hr1 hr2 ?_ (Nat.zero_le _) (fun i v e => nomatch e) (fun i _ => ?_)
        · unfold jClr
          rw [(clrH_o _ _ _).2.1, fi_sfi, zu2_s]
          rfl
        · unfold jClr
          rw [clrH_r]
          by_cases c9 : q = q ∧ i < (zls z r).length
          · rw [if_pos c9]
          · rw [if_neg c9, ra_sfi, ra_sfi, opn_ra]
            exact getD_none (by omega)
      · rw [u1, u2]
        simp only [Nat.sub_self, Nat.add_zero]
        exact k H' locs' ws' lsm stm' I'
    · cases hf0
  · cases hf0
end JPR
