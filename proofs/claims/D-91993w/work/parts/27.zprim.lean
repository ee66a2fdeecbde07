/-! the primitives: idiv, irem, Math here; the others are taken as zPrims, proved in a later part -/
set_option maxRecDepth 100000
section ZPRIM
variable {inf : ZInf} {pc idx cnt : Nat}
theorem ok_idiv (hd : decode inf.1 pc = .ok (.idiv, 1)) : zOK inf pc (z_idiv (pc + 1)) := by
  refine zOK_stk (fun ls st z p' ls' st' z' hf => ?_)
  unfold z_idiv at hf
  split at hf
  · split at hf
    · rename_i hb0
      cases hf
      refine ⟨⟨rfl, rfl⟩, ?_⟩
      intro p l e R s m args below meth c H locs cells slots Q X A w0 ws lsm stm C I hs k
      obtain ⟨hx, hb, hml, hown, hts, hSx, hA, hnm, hfr, hlo, hlk, hfl⟩ := C
      obtain ⟨u1, rfl, hs1⟩ := zSR_i hs
      obtain ⟨u2, rfl, hs2⟩ := zSR_i hs1
      exact lv_idiv hx hb hd hb0 (k _ ⟨rfl, hs2⟩)
    · cases hf
  · cases hf
theorem ok_irem (hd : decode inf.1 pc = .ok (.irem, 1)) : zOK inf pc (z_irem (pc + 1)) := by
  refine zOK_stk (fun ls st z p' ls' st' z' hf => ?_)
  unfold z_irem at hf
  split at hf
  · split at hf
    · rename_i hb0
      cases hf
      refine ⟨⟨rfl, rfl⟩, ?_⟩
      intro p l e R s m args below meth c H locs cells slots Q X A w0 ws lsm stm C I hs k
      obtain ⟨hx, hb, hml, hown, hts, hSx, hA, hnm, hfr, hlo, hlk, hfl⟩ := C
      obtain ⟨u1, rfl, hs1⟩ := zSR_i hs
      obtain ⟨u2, rfl, hs2⟩ := zSR_i hs1
      exact lv_irem hx hb hd hb0 (k _ ⟨rfl, hs2⟩)
    · cases hf
  · cases hf
theorem ok_mmax (hd : decode inf.1 pc = .ok (.invokestatic idx, 3)) (hq : Cond.methodLink inf.2.1.cls idx Lib.Math.max.name ∈ lw_all) : zOK inf pc (z_mmax (pc + 3)) := by
  intro ls st z p' ls' st' z' hf
  unfold z_mmax at hf
  split at hf
  · split at hf
    · rename_i hb0
      cases hf
      refine ⟨⟨Nat.le_refl _, Nat.le_refl _⟩, ?_⟩
      intro p l e R s m args below meth c H locs cells slots Q X A w0 ws lsm stm C I hcl hsl k
      simp only [Nat.sub_self, Nat.add_zero] at hcl hsl k
      obtain ⟨hx, hb, hml, hown, hts, hSx, hA, hnm, hfr, hlo, hlk, hfl⟩ := C
      obtain ⟨hH, hP, hD, hS, hE, hL, hs⟩ := I
      obtain ⟨u1, rfl, hs1⟩ := zSR_i hs
      obtain ⟨u2, rfl, hs2⟩ := zSR_i hs1
      have h8 := zstk_ok hs2 hb0
      exact va_mmax hx hb (by rw [hml]; exact hL.1.1.symm) hown (hts _ hq) (hts _ q1020) (hts _ q128) (hts _ q1021) (by omega) (by omega) hcl hsl hd (k H locs ws lsm _ ⟨hH, hP, hD, hS, hE, hL, ⟨rfl, hs2⟩⟩)
    · cases hf
  · cases hf
theorem ok_mmin (hd : decode inf.1 pc = .ok (.invokestatic idx, 3)) (hq : Cond.methodLink inf.2.1.cls idx Lib.Math.min.name ∈ lw_all) : zOK inf pc (z_mmin (pc + 3)) := by
  intro ls st z p' ls' st' z' hf
  unfold z_mmin at hf
  split at hf
  · split at hf
    · rename_i hb0
      cases hf
      refine ⟨⟨Nat.le_refl _, Nat.le_refl _⟩, ?_⟩
      intro p l e R s m args below meth c H locs cells slots Q X A w0 ws lsm stm C I hcl hsl k
      simp only [Nat.sub_self, Nat.add_zero] at hcl hsl k
      obtain ⟨hx, hb, hml, hown, hts, hSx, hA, hnm, hfr, hlo, hlk, hfl⟩ := C
      obtain ⟨hH, hP, hD, hS, hE, hL, hs⟩ := I
      obtain ⟨u1, rfl, hs1⟩ := zSR_i hs
      obtain ⟨u2, rfl, hs2⟩ := zSR_i hs1
      have h8 := zstk_ok hs2 hb0
      exact va_mmin hx hb (by rw [hml]; exact hL.1.1.symm) hown (hts _ hq) (hts _ q760) (hts _ q128) (hts _ q761) (by omega) (by omega) hcl hsl hd (k H locs ws lsm _ ⟨hH, hP, hD, hS, hE, hL, ⟨rfl, hs2⟩⟩)
    · cases hf
  · cases hf
theorem ok_mabs (hd : decode inf.1 pc = .ok (.invokestatic idx, 3)) (hq : Cond.methodLink inf.2.1.cls idx Lib.Math.abs.name ∈ lw_all) : zOK inf pc (z_mabs (pc + 3)) := by
  intro ls st z p' ls' st' z' hf
  unfold z_mabs at hf
  split at hf
  · split at hf
    · rename_i hb0
      cases hf
      refine ⟨⟨Nat.le_refl _, Nat.le_refl _⟩, ?_⟩
      intro p l e R s m args below meth c H locs cells slots Q X A w0 ws lsm stm C I hcl hsl k
      simp only [Nat.sub_self, Nat.add_zero] at hcl hsl k
      obtain ⟨hx, hb, hml, hown, hts, hSx, hA, hnm, hfr, hlo, hlk, hfl⟩ := C
      obtain ⟨hH, hP, hD, hS, hE, hL, hs⟩ := I
      obtain ⟨u1, rfl, hs1⟩ := zSR_i hs
      have h8 := zstk_ok hs1 hb0
      exact va_mabs hx hb (by rw [hml]; exact hL.1.1.symm) hown (hts _ hq) (hts _ q1502) (hts _ q128) (hts _ q1503) (by omega) (by omega) hcl hsl hd (k H locs ws lsm _ ⟨hH, hP, hD, hS, hE, hL, ⟨rfl, hs1⟩⟩)
    · cases hf
  · cases hf
/-- what the machine does at calls of lists, texts, copies and rows -/
def zPrims : Prop :=
  (∀ (inf : ZInf) (pc idx cnt : Nat), decode inf.1 pc = .ok (.invokeinterface idx cnt, 5) → Cond.methodLink inf.2.1.cls idx ⟨"java/util/List", "size", "()I"⟩ ∈ lw_all → zOK inf pc (z_lsize (pc + 5))) ∧
  (∀ (inf : ZInf) (pc idx cnt : Nat), decode inf.1 pc = .ok (.invokeinterface idx cnt, 5) → Cond.methodLink inf.2.1.cls idx ⟨"java/util/List", "get", "(I)Ljava/lang/Object;"⟩ ∈ lw_all → zOK inf pc (z_lget (pc + 5))) ∧
  (∀ (inf : ZInf) (pc idx cnt : Nat), decode inf.1 pc = .ok (.invokeinterface idx cnt, 5) → Cond.methodLink inf.2.1.cls idx ⟨"java/util/List", "add", "(Ljava/lang/Object;)Z"⟩ ∈ lw_all → zOK inf pc (z_ladd1 (pc + 5))) ∧
  (∀ (inf : ZInf) (pc idx cnt : Nat), decode inf.1 pc = .ok (.invokeinterface idx cnt, 5) → Cond.methodLink inf.2.1.cls idx ⟨"java/util/List", "remove", "(I)Ljava/lang/Object;"⟩ ∈ lw_all → zOK inf pc (z_lrem (pc + 5))) ∧
  (∀ (inf : ZInf) (pc idx cnt : Nat), decode inf.1 pc = .ok (.invokeinterface idx cnt, 5) → Cond.methodLink inf.2.1.cls idx ⟨"java/util/List", "clear", "()V"⟩ ∈ lw_all → zOK inf pc (z_lclr (pc + 5))) ∧
  (∀ (inf : ZInf) (pc idx cnt : Nat), decode inf.1 pc = .ok (.invokespecial idx, 3) → Cond.methodLink inf.2.1.cls idx ⟨"java/util/ArrayList", "<init>", "(I)V"⟩ ∈ lw_all → zOK inf pc (z_linit (pc + 3))) ∧
  (∀ (inf : ZInf) (pc idx cnt : Nat), decode inf.1 pc = .ok (.invokevirtual idx, 3) → Cond.methodLink inf.2.1.cls idx ⟨"java/lang/String", "length", "()I"⟩ ∈ lw_all → zOK inf pc (z_slen (pc + 3))) ∧
  (∀ (inf : ZInf) (pc idx cnt : Nat), decode inf.1 pc = .ok (.invokevirtual idx, 3) → Cond.methodLink inf.2.1.cls idx ⟨"java/lang/String", "charAt", "(I)C"⟩ ∈ lw_all → zOK inf pc (z_schar (pc + 3))) ∧
  (∀ (inf : ZInf) (pc idx cnt : Nat), decode inf.1 pc = .ok (.invokestatic idx, 3) → Cond.methodLink inf.2.1.cls idx ⟨"java/lang/System", "arraycopy", "(Ljava/lang/Object;ILjava/lang/Object;II)V"⟩ ∈ lw_all → zOK inf pc (z_acpy (pc + 3))) ∧
  (∀ (inf : ZInf) (pc idx cnt : Nat), decode inf.1 pc = .ok (.invokespecial idx, 3) → Cond.methodLink inf.2.1.cls idx ⟨"java/lang/Exception", "<init>", "(Ljava/lang/String;Ljava/lang/Throwable;ZZ)V"⟩ ∈ lw_all → zOK inf pc (z_excinit (pc + 3))) ∧
  (∀ (inf : ZInf) (pc idx cnt : Nat), decode inf.1 pc = .ok (.invokevirtual idx, 3) → Cond.methodLink inf.2.1.cls idx ⟨"CardBowl$Slot", "begins", "(II)Z"⟩ ∈ lw_all → zOK inf pc (z_begins (pc + 3))) ∧
  (∀ (inf : ZInf) (pc idx cnt : Nat), decode inf.1 pc = .ok (.invokevirtual idx, 3) → Cond.methodLink inf.2.1.cls idx ⟨"CardBowl$Slot", "puts", "(IJ)I"⟩ ∈ lw_all → zOK inf pc (z_puts (pc + 3))) ∧
  (∀ (inf : ZInf) (pc idx cnt : Nat), decode inf.1 pc = .ok (.invokevirtual idx, 3) → Cond.methodLink inf.2.1.cls idx ⟨"CardBowl$Slot", "pastes", "(ILCardBowl$Slot;II)I"⟩ ∈ lw_all → zOK inf pc (z_pastes (pc + 3)))
theorem ok_lsize (hp : zPrims) (hd : decode inf.1 pc = .ok (.invokeinterface idx cnt, 5)) (hq : Cond.methodLink inf.2.1.cls idx ⟨"java/util/List", "size", "()I"⟩ ∈ lw_all) : zOK inf pc (z_lsize (pc + 5)) := hp.1 inf pc idx cnt hd hq
theorem ok_lget (hp : zPrims) (hd : decode inf.1 pc = .ok (.invokeinterface idx cnt, 5)) (hq : Cond.methodLink inf.2.1.cls idx ⟨"java/util/List", "get", "(I)Ljava/lang/Object;"⟩ ∈ lw_all) : zOK inf pc (z_lget (pc + 5)) := hp.2.1 inf pc idx cnt hd hq
theorem ok_ladd1 (hp : zPrims) (hd : decode inf.1 pc = .ok (.invokeinterface idx cnt, 5)) (hq : Cond.methodLink inf.2.1.cls idx ⟨"java/util/List", "add", "(Ljava/lang/Object;)Z"⟩ ∈ lw_all) : zOK inf pc (z_ladd1 (pc + 5)) := hp.2.2.1 inf pc idx cnt hd hq
theorem ok_lrem (hp : zPrims) (hd : decode inf.1 pc = .ok (.invokeinterface idx cnt, 5)) (hq : Cond.methodLink inf.2.1.cls idx ⟨"java/util/List", "remove", "(I)Ljava/lang/Object;"⟩ ∈ lw_all) : zOK inf pc (z_lrem (pc + 5)) := hp.2.2.2.1 inf pc idx cnt hd hq
theorem ok_lclr (hp : zPrims) (hd : decode inf.1 pc = .ok (.invokeinterface idx cnt, 5)) (hq : Cond.methodLink inf.2.1.cls idx ⟨"java/util/List", "clear", "()V"⟩ ∈ lw_all) : zOK inf pc (z_lclr (pc + 5)) := hp.2.2.2.2.1 inf pc idx cnt hd hq
theorem ok_linit (hp : zPrims) (hd : decode inf.1 pc = .ok (.invokespecial idx, 3)) (hq : Cond.methodLink inf.2.1.cls idx ⟨"java/util/ArrayList", "<init>", "(I)V"⟩ ∈ lw_all) : zOK inf pc (z_linit (pc + 3)) := hp.2.2.2.2.2.1 inf pc idx 0 hd hq
theorem ok_slen (hp : zPrims) (hd : decode inf.1 pc = .ok (.invokevirtual idx, 3)) (hq : Cond.methodLink inf.2.1.cls idx ⟨"java/lang/String", "length", "()I"⟩ ∈ lw_all) : zOK inf pc (z_slen (pc + 3)) := hp.2.2.2.2.2.2.1 inf pc idx 0 hd hq
theorem ok_schar (hp : zPrims) (hd : decode inf.1 pc = .ok (.invokevirtual idx, 3)) (hq : Cond.methodLink inf.2.1.cls idx ⟨"java/lang/String", "charAt", "(I)C"⟩ ∈ lw_all) : zOK inf pc (z_schar (pc + 3)) := hp.2.2.2.2.2.2.2.1 inf pc idx 0 hd hq
theorem ok_acpy (hp : zPrims) (hd : decode inf.1 pc = .ok (.invokestatic idx, 3)) (hq : Cond.methodLink inf.2.1.cls idx ⟨"java/lang/System", "arraycopy", "(Ljava/lang/Object;ILjava/lang/Object;II)V"⟩ ∈ lw_all) : zOK inf pc (z_acpy (pc + 3)) := hp.2.2.2.2.2.2.2.2.1 inf pc idx 0 hd hq
theorem ok_excinit (hp : zPrims) (hd : decode inf.1 pc = .ok (.invokespecial idx, 3)) (hq : Cond.methodLink inf.2.1.cls idx ⟨"java/lang/Exception", "<init>", "(Ljava/lang/String;Ljava/lang/Throwable;ZZ)V"⟩ ∈ lw_all) : zOK inf pc (z_excinit (pc + 3)) := hp.2.2.2.2.2.2.2.2.2.1 inf pc idx 0 hd hq
theorem ok_begins (hp : zPrims) (hd : decode inf.1 pc = .ok (.invokevirtual idx, 3)) (hq : Cond.methodLink inf.2.1.cls idx ⟨"CardBowl$Slot", "begins", "(II)Z"⟩ ∈ lw_all) : zOK inf pc (z_begins (pc + 3)) := hp.2.2.2.2.2.2.2.2.2.2.1 inf pc idx 0 hd hq
theorem ok_puts (hp : zPrims) (hd : decode inf.1 pc = .ok (.invokevirtual idx, 3)) (hq : Cond.methodLink inf.2.1.cls idx ⟨"CardBowl$Slot", "puts", "(IJ)I"⟩ ∈ lw_all) : zOK inf pc (z_puts (pc + 3)) := hp.2.2.2.2.2.2.2.2.2.2.2.1 inf pc idx 0 hd hq
theorem ok_pastes (hp : zPrims) (hd : decode inf.1 pc = .ok (.invokevirtual idx, 3)) (hq : Cond.methodLink inf.2.1.cls idx ⟨"CardBowl$Slot", "pastes", "(ILCardBowl$Slot;II)I"⟩ ∈ lw_all) : zOK inf pc (z_pastes (pc + 3)) := hp.2.2.2.2.2.2.2.2.2.2.2.2 inf pc idx 0 hd hq
end ZPRIM
