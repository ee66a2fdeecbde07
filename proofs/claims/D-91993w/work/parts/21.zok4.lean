set_option maxRecDepth 100000
section ZOKA
variable {inf : ZInf} {pc : Nat}
theorem zu2_upd (f : Nat → Nat → Int32) (r i : Nat) (v : Int32) : zu2 f r i v r = upd (f r) i v := by
  funext j
  unfold zu2 upd
  by_cases h : j = i
  · rw [if_pos ⟨rfl, h⟩, if_pos h]
  · rw [if_neg (fun q => h q.2), if_neg h]
theorem zu2_updL (f : Nat → Nat → Int64) (r i : Nat) (v : Int64) : zu2 f r i v r = vp_updL (f r) i v := by
  funext j
  unfold zu2 vp_updL
  by_cases h : j = i
  · rw [if_pos ⟨rfl, h⟩, if_pos h]
  · rw [if_neg (fun q => h q.2), if_neg h]
theorem zu2_off {α : Type} (f : Nat → Nat → α) (r i : Nat) (v : α) {q : Nat} (h : q ≠ r) : zu2 f r i v q = f q := by
  funext j; exact zu2_n _ _ _ _ h
theorem ok_iald50 (hd : decode inf.1 pc = .ok (.iaload, 1)) : zOK inf pc (z_iald 50 (pc + 1)) := by
  refine zOK_pure (fun ls st z p' ls' st' z' hf0 => ?_)
  unfold z_iald at hf0
  split at hf0
  · rename_i a r st1
    split at hf0
    · rename_i hcr
      obtain ⟨hcr, hir⟩ := hcr
      cases hf0
      refine ⟨rfl, ?_⟩
      intro p l e R s m args below meth c0 H locs cells slots Q X A w0 ws lsm stm C I k
      obtain ⟨hx, hb, hml, hown, hts, hSx, hA, hnm, hfr, hlo, hlk, hfl⟩ := C
      obtain ⟨hH, hP, hD, hS, hE, hL, hs⟩ := I
      obtain ⟨u1, rfl, hs1⟩ := zSR_i hs
      obtain ⟨a0, u2, rfl, h0, hs2⟩ := zSR_r hs1
      obtain ⟨hr1, e0, he0, hE0⟩ := hH.at (by omega) (by omega) h0
      rw [zER_int hcr (by omega) (by omega) (by omega)] at hE0
      subst hE0
      exact va_iald hx hb hSx.1 hP (r - 100) 0 he0 rfl (zin_vp hir) hd (k _ _ hL ⟨rfl, hs2⟩)
    · cases hf0
  · cases hf0
theorem ok_iald52 (hd : decode inf.1 pc = .ok (.baload, 1)) : zOK inf pc (z_iald 52 (pc + 1)) := by
  refine zOK_pure (fun ls st z p' ls' st' z' hf0 => ?_)
  unfold z_iald at hf0
  split at hf0
  · rename_i a r st1
    split at hf0
    · rename_i hcr
      obtain ⟨hcr, hir⟩ := hcr
      cases hf0
      refine ⟨rfl, ?_⟩
      intro p l e R s m args below meth c0 H locs cells slots Q X A w0 ws lsm stm C I k
      obtain ⟨hx, hb, hml, hown, hts, hSx, hA, hnm, hfr, hlo, hlk, hfl⟩ := C
      obtain ⟨hH, hP, hD, hS, hE, hL, hs⟩ := I
      obtain ⟨u1, rfl, hs1⟩ := zSR_i hs
      obtain ⟨a0, u2, rfl, h0, hs2⟩ := zSR_r hs1
      obtain ⟨hr1, e0, he0, hE0⟩ := hH.at (by omega) (by omega) h0
      rw [zER_int hcr (by omega) (by omega) (by omega)] at hE0
      subst hE0
      exact va_bald hx hb hSx.1 hP (r - 100) 2 he0 rfl (zin_vp hir) hd (k _ _ hL ⟨rfl, hs2⟩)
    · cases hf0
  · cases hf0
theorem ok_iald53 (hd : decode inf.1 pc = .ok (.saload, 1)) : zOK inf pc (z_iald 53 (pc + 1)) := by
  refine zOK_pure (fun ls st z p' ls' st' z' hf0 => ?_)
  unfold z_iald at hf0
  split at hf0
  · rename_i a r st1
    split at hf0
    · rename_i hcr
      obtain ⟨hcr, hir⟩ := hcr
      cases hf0
      refine ⟨rfl, ?_⟩
      intro p l e R s m args below meth c0 H locs cells slots Q X A w0 ws lsm stm C I k
      obtain ⟨hx, hb, hml, hown, hts, hSx, hA, hnm, hfr, hlo, hlk, hfl⟩ := C
      obtain ⟨hH, hP, hD, hS, hE, hL, hs⟩ := I
      obtain ⟨u1, rfl, hs1⟩ := zSR_i hs
      obtain ⟨a0, u2, rfl, h0, hs2⟩ := zSR_r hs1
      obtain ⟨hr1, e0, he0, hE0⟩ := hH.at (by omega) (by omega) h0
      rw [zER_int hcr (by omega) (by omega) (by omega)] at hE0
      subst hE0
      exact va_sald hx hb hSx.1 hP (r - 100) 3 he0 rfl (zin_vp hir) hd (k _ _ hL ⟨rfl, hs2⟩)
    · cases hf0
  · cases hf0
theorem ok_iald54 (hd : decode inf.1 pc = .ok (.baload, 1)) : zOK inf pc (z_iald 54 (pc + 1)) := by
  refine zOK_pure (fun ls st z p' ls' st' z' hf0 => ?_)
  unfold z_iald at hf0
  split at hf0
  · rename_i a r st1
    split at hf0
    · rename_i hcr
      obtain ⟨hcr, hir⟩ := hcr
      cases hf0
      refine ⟨rfl, ?_⟩
      intro p l e R s m args below meth c0 H locs cells slots Q X A w0 ws lsm stm C I k
      obtain ⟨hx, hb, hml, hown, hts, hSx, hA, hnm, hfr, hlo, hlk, hfl⟩ := C
      obtain ⟨hH, hP, hD, hS, hE, hL, hs⟩ := I
      obtain ⟨u1, rfl, hs1⟩ := zSR_i hs
      obtain ⟨a0, u2, rfl, h0, hs2⟩ := zSR_r hs1
      obtain ⟨hr1, e0, he0, hE0⟩ := hH.at (by omega) (by omega) h0
      rw [zER_int hcr (by omega) (by omega) (by omega)] at hE0
      subst hE0
      exact va_zald hx hb hSx.1 hP (r - 100) 4 he0 rfl (zin_vp hir) hd (k _ _ hL ⟨rfl, hs2⟩)
    · cases hf0
  · cases hf0
theorem ok_lald (hd : decode inf.1 pc = .ok (.laload, 1)) : zOK inf pc (z_lald (pc + 1)) := by
  refine zOK_pure (fun ls st z p' ls' st' z' hf0 => ?_)
  unfold z_lald at hf0
  split at hf0
  · rename_i a r st1
    split at hf0
    · rename_i hcr
      obtain ⟨hcr, hir⟩ := hcr
      cases hf0
      refine ⟨rfl, ?_⟩
      intro p l e R s m args below meth c0 H locs cells slots Q X A w0 ws lsm stm C I k
      obtain ⟨hx, hb, hml, hown, hts, hSx, hA, hnm, hfr, hlo, hlk, hfl⟩ := C
      obtain ⟨hH, hP, hD, hS, hE, hL, hs⟩ := I
      obtain ⟨u1, rfl, hs1⟩ := zSR_i hs
      obtain ⟨a0, u2, rfl, h0, hs2⟩ := zSR_r hs1
      obtain ⟨hr1, e0, he0, hE0⟩ := hH.at (by omega) (by omega) h0
      rw [zER_long hcr] at hE0
      subst hE0
      exact va_lald hx hb hSx.1 hP (r - 100) 1 he0 rfl (zin_vp hir) hd (k _ _ hL ⟨rfl, hs2⟩)
    · cases hf0
  · cases hf0
theorem ok_aald60 (hd : decode inf.1 pc = .ok (.aaload, 1)) : zOK inf pc (z_aald 60 (pc + 1)) := by
  refine zOK_pure (fun ls st z p' ls' st' z' hf0 => ?_)
  unfold z_aald at hf0
  split at hf0
  · rename_i a r st1
    split at hf0
    · rename_i hcr
      obtain ⟨hcr, hir, hv⟩ := hcr
      cases hf0
      refine ⟨rfl, ?_⟩
      intro p l e R s m args below meth c0 H locs cells slots Q X A w0 ws lsm stm C I k
      obtain ⟨hx, hb, hml, hown, hts, hSx, hA, hnm, hfr, hlo, hlk, hfl⟩ := C
      obtain ⟨hH, hP, hD, hS, hE, hL, hs⟩ := I
      obtain ⟨u1, rfl, hs1⟩ := zSR_i hs
      obtain ⟨a0, u2, rfl, h0, hs2⟩ := zSR_r hs1
      obtain ⟨hr1, e0, he0, hE0⟩ := hH.at (by omega) (by omega) h0
      rw [zER_ref hcr (by omega) (by omega)] at hE0
      obtain ⟨g, rfl, hg⟩ := hE0
      exact va_aldq hx hb hSx.1 hP (r - 100) 5 he0 rfl (zin_vp hir) hd (k _ _ hL ⟨hg _, hs2⟩)
    · cases hf0
  · cases hf0
theorem ok_aald61 (hd : decode inf.1 pc = .ok (.aaload, 1)) : zOK inf pc (z_aald 61 (pc + 1)) := by
  refine zOK_pure (fun ls st z p' ls' st' z' hf0 => ?_)
  unfold z_aald at hf0
  split at hf0
  · rename_i a r st1
    split at hf0
    · rename_i hcr
      obtain ⟨hcr, hir, hv⟩ := hcr
      cases hf0
      refine ⟨rfl, ?_⟩
      intro p l e R s m args below meth c0 H locs cells slots Q X A w0 ws lsm stm C I k
      obtain ⟨hx, hb, hml, hown, hts, hSx, hA, hnm, hfr, hlo, hlk, hfl⟩ := C
      obtain ⟨hH, hP, hD, hS, hE, hL, hs⟩ := I
      obtain ⟨u1, rfl, hs1⟩ := zSR_i hs
      obtain ⟨a0, u2, rfl, h0, hs2⟩ := zSR_r hs1
      obtain ⟨hr1, e0, he0, hE0⟩ := hH.at (by omega) (by omega) h0
      rw [zER_ref hcr (by omega) (by omega)] at hE0
      obtain ⟨g, rfl, hg⟩ := hE0
      exact va_aldq hx hb hSx.1 hP (r - 100) 6 he0 rfl (zin_vp hir) hd (k _ _ hL ⟨hg _, hs2⟩)
    · cases hf0
  · cases hf0
theorem ok_aald62 (hd : decode inf.1 pc = .ok (.aaload, 1)) : zOK inf pc (z_aald 62 (pc + 1)) := by
  refine zOK_pure (fun ls st z p' ls' st' z' hf0 => ?_)
  unfold z_aald at hf0
  split at hf0
  · rename_i a r st1
    split at hf0
    · rename_i hcr
      obtain ⟨hcr, hir, hv⟩ := hcr
      cases hf0
      refine ⟨rfl, ?_⟩
      intro p l e R s m args below meth c0 H locs cells slots Q X A w0 ws lsm stm C I k
      obtain ⟨hx, hb, hml, hown, hts, hSx, hA, hnm, hfr, hlo, hlk, hfl⟩ := C
      obtain ⟨hH, hP, hD, hS, hE, hL, hs⟩ := I
      obtain ⟨u1, rfl, hs1⟩ := zSR_i hs
      obtain ⟨a0, u2, rfl, h0, hs2⟩ := zSR_r hs1
      obtain ⟨hr1, e0, he0, hE0⟩ := hH.at (by omega) (by omega) h0
      rw [zER_ref hcr (by omega) (by omega)] at hE0
      obtain ⟨g, rfl, hg⟩ := hE0
      exact va_aldq hx hb hSx.1 hP (r - 100) 7 he0 rfl (zin_vp hir) hd (k _ _ hL ⟨hg _, hs2⟩)
    · cases hf0
  · cases hf0
theorem ok_aald63 (hd : decode inf.1 pc = .ok (.aaload, 1)) : zOK inf pc (z_aald 63 (pc + 1)) := by
  refine zOK_pure (fun ls st z p' ls' st' z' hf0 => ?_)
  unfold z_aald at hf0
  split at hf0
  · rename_i a r st1
    split at hf0
    · rename_i hcr
      obtain ⟨hcr, hir, hv⟩ := hcr
      cases hf0
      refine ⟨rfl, ?_⟩
      intro p l e R s m args below meth c0 H locs cells slots Q X A w0 ws lsm stm C I k
      obtain ⟨hx, hb, hml, hown, hts, hSx, hA, hnm, hfr, hlo, hlk, hfl⟩ := C
      obtain ⟨hH, hP, hD, hS, hE, hL, hs⟩ := I
      obtain ⟨u1, rfl, hs1⟩ := zSR_i hs
      obtain ⟨a0, u2, rfl, h0, hs2⟩ := zSR_r hs1
      obtain ⟨hr1, e0, he0, hE0⟩ := hH.at (by omega) (by omega) h0
      rw [zER_ref hcr (by omega) (by omega)] at hE0
      obtain ⟨g, rfl, hg⟩ := hE0
      exact va_aldq hx hb hSx.1 hP (r - 100) 8 he0 rfl (zin_vp hir) hd (k _ _ hL ⟨hg _, hs2⟩)
    · cases hf0
  · cases hf0
theorem ok_aald64 (hd : decode inf.1 pc = .ok (.aaload, 1)) : zOK inf pc (z_aald 64 (pc + 1)) := by
  refine zOK_pure (fun ls st z p' ls' st' z' hf0 => ?_)
  unfold z_aald at hf0
  split at hf0
  · rename_i a r st1
    split at hf0
    · rename_i hcr
      obtain ⟨hcr, hir, hv⟩ := hcr
      cases hf0
      refine ⟨rfl, ?_⟩
      intro p l e R s m args below meth c0 H locs cells slots Q X A w0 ws lsm stm C I k
      obtain ⟨hx, hb, hml, hown, hts, hSx, hA, hnm, hfr, hlo, hlk, hfl⟩ := C
      obtain ⟨hH, hP, hD, hS, hE, hL, hs⟩ := I
      obtain ⟨u1, rfl, hs1⟩ := zSR_i hs
      obtain ⟨a0, u2, rfl, h0, hs2⟩ := zSR_r hs1
      obtain ⟨hr1, e0, he0, hE0⟩ := hH.at (by omega) (by omega) h0
      rw [zER_ref hcr (by omega) (by omega)] at hE0
      obtain ⟨g, rfl, hg⟩ := hE0
      exact va_aldq hx hb hSx.1 hP (r - 100) 9 he0 rfl (zin_vp hir) hd (k _ _ hL ⟨hg _, hs2⟩)
    · cases hf0
  · cases hf0
set_option maxHeartbeats 800000 in
theorem ok_iast50 (hd : decode inf.1 pc = .ok (.iastore, 1)) : zOK inf pc (z_iast 50 (pc + 1)) := by
  intro ls st z p' ls' st' z' hf0
  unfold z_iast at hf0
  split at hf0
  · rename_i b a r st1
    split at hf0
    · rename_i hcr
      obtain ⟨hcr, hir⟩ := hcr
      cases hf0
      refine ⟨⟨Nat.le_refl _, Nat.le_refl _⟩, ?_⟩
      intro p l e R s m args below meth c0 H locs cells slots Q X A w0 ws lsm stm C I hcl hsl k
      simp only [uc_sia, us_sia, Nat.sub_self, Nat.add_zero] at k
      obtain ⟨hx, hb, hml, hown, hts, hSx, hA, hnm, hfr, hlo, hlk, hfl⟩ := C
      obtain ⟨hH, hP, hD, hS, hE, hL, hs⟩ := I
      obtain ⟨u1, rfl, hs1⟩ := zSR_i hs
      obtain ⟨u2, rfl, hs2⟩ := zSR_i hs1
      obtain ⟨a0, u3, rfl, h0, hs3⟩ := zSR_r hs2
      obtain ⟨hr1, e0, he0, hE0⟩ := hH.at (by omega) (by omega) h0
      rw [zER_int hcr (by omega) (by omega) (by omega)] at hE0
      subst hE0
      have hnar : znar 50 b = b := rfl
      refine va_iast hx hb hSx.1 hP hD hS (r - 100) 0 he0 rfl (zin_vp hir) hd (fun H1 locs1 hP1 hD1 hS1 => ?_)
      have hX := zExt.set (e' := (.inl (xT X 50, zlen z r, .inl (upd (zia z r) a.toNatClampNeg b)) : va_E)) he0
      refine k H1 locs1 _ _ _ ⟨hH.set hr1 he0 (by omega) rfl rfl rfl rfl (fun q hq => ⟨rfl, rfl, rfl, rfl, rfl, zu2_off _ _ _ _ hq, rfl, rfl, rfl⟩) ?_, hP1, hD1, hS1, hE.trans hX, hL.ext hX, hs3.ext hX⟩
      rw [zER_int (z := sia z r (zx a) (znar 50 b)) hcr (by omega) (by omega) (by omega), ia_sia, zu2_upd, hnar]
      rfl
    · cases hf0
  · cases hf0
set_option maxHeartbeats 800000 in
theorem ok_iast52 (hd : decode inf.1 pc = .ok (.bastore, 1)) : zOK inf pc (z_iast 52 (pc + 1)) := by
  intro ls st z p' ls' st' z' hf0
  unfold z_iast at hf0
  split at hf0
  · rename_i b a r st1
    split at hf0
    · rename_i hcr
      obtain ⟨hcr, hir⟩ := hcr
      cases hf0
      refine ⟨⟨Nat.le_refl _, Nat.le_refl _⟩, ?_⟩
      intro p l e R s m args below meth c0 H locs cells slots Q X A w0 ws lsm stm C I hcl hsl k
      simp only [uc_sia, us_sia, Nat.sub_self, Nat.add_zero] at k
      obtain ⟨hx, hb, hml, hown, hts, hSx, hA, hnm, hfr, hlo, hlk, hfl⟩ := C
      obtain ⟨hH, hP, hD, hS, hE, hL, hs⟩ := I
      obtain ⟨u1, rfl, hs1⟩ := zSR_i hs
      obtain ⟨u2, rfl, hs2⟩ := zSR_i hs1
      obtain ⟨a0, u3, rfl, h0, hs3⟩ := zSR_r hs2
      obtain ⟨hr1, e0, he0, hE0⟩ := hH.at (by omega) (by omega) h0
      rw [zER_int hcr (by omega) (by omega) (by omega)] at hE0
      subst hE0
      have hnar : znar 52 b = (vp_nar .byte b) := (vp_nar_byte _).symm
      refine va_bast hx hb hSx.1 hP hD hS (r - 100) 2 he0 rfl (zin_vp hir) hd (fun H1 locs1 hP1 hD1 hS1 => ?_)
      have hX := zExt.set (e' := (.inl (xT X 52, zlen z r, .inl (upd (zia z r) a.toNatClampNeg (vp_nar .byte b))) : va_E)) he0
      refine k H1 locs1 _ _ _ ⟨hH.set hr1 he0 (by omega) rfl rfl rfl rfl (fun q hq => ⟨rfl, rfl, rfl, rfl, rfl, zu2_off _ _ _ _ hq, rfl, rfl, rfl⟩) ?_, hP1, hD1, hS1, hE.trans hX, hL.ext hX, hs3.ext hX⟩
      rw [zER_int (z := sia z r (zx a) (znar 52 b)) hcr (by omega) (by omega) (by omega), ia_sia, zu2_upd, hnar]
      rfl
    · cases hf0
  · cases hf0
set_option maxHeartbeats 800000 in
theorem ok_iast53 (hd : decode inf.1 pc = .ok (.sastore, 1)) : zOK inf pc (z_iast 53 (pc + 1)) := by
  intro ls st z p' ls' st' z' hf0
  unfold z_iast at hf0
  split at hf0
  · rename_i b a r st1
    split at hf0
    · rename_i hcr
      obtain ⟨hcr, hir⟩ := hcr
      cases hf0
      refine ⟨⟨Nat.le_refl _, Nat.le_refl _⟩, ?_⟩
      intro p l e R s m args below meth c0 H locs cells slots Q X A w0 ws lsm stm C I hcl hsl k
      simp only [uc_sia, us_sia, Nat.sub_self, Nat.add_zero] at k
      obtain ⟨hx, hb, hml, hown, hts, hSx, hA, hnm, hfr, hlo, hlk, hfl⟩ := C
      obtain ⟨hH, hP, hD, hS, hE, hL, hs⟩ := I
      obtain ⟨u1, rfl, hs1⟩ := zSR_i hs
      obtain ⟨u2, rfl, hs2⟩ := zSR_i hs1
      obtain ⟨a0, u3, rfl, h0, hs3⟩ := zSR_r hs2
      obtain ⟨hr1, e0, he0, hE0⟩ := hH.at (by omega) (by omega) h0
      rw [zER_int hcr (by omega) (by omega) (by omega)] at hE0
      subst hE0
      have hnar : znar 53 b = (vp_nar .short b) := (vp_nar_short _).symm
      refine va_sast hx hb hSx.1 hP hD hS (r - 100) 3 he0 rfl (zin_vp hir) hd (fun H1 locs1 hP1 hD1 hS1 => ?_)
      have hX := zExt.set (e' := (.inl (xT X 53, zlen z r, .inl (upd (zia z r) a.toNatClampNeg (vp_nar .short b))) : va_E)) he0
      refine k H1 locs1 _ _ _ ⟨hH.set hr1 he0 (by omega) rfl rfl rfl rfl (fun q hq => ⟨rfl, rfl, rfl, rfl, rfl, zu2_off _ _ _ _ hq, rfl, rfl, rfl⟩) ?_, hP1, hD1, hS1, hE.trans hX, hL.ext hX, hs3.ext hX⟩
      rw [zER_int (z := sia z r (zx a) (znar 53 b)) hcr (by omega) (by omega) (by omega), ia_sia, zu2_upd, hnar]
      rfl
    · cases hf0
  · cases hf0
set_option maxHeartbeats 800000 in
theorem ok_iast54 (hd : decode inf.1 pc = .ok (.bastore, 1)) : zOK inf pc (z_iast 54 (pc + 1)) := by
  intro ls st z p' ls' st' z' hf0
  unfold z_iast at hf0
  split at hf0
  · rename_i b a r st1
    split at hf0
    · rename_i hcr
      obtain ⟨hcr, hir⟩ := hcr
      cases hf0
      refine ⟨⟨Nat.le_refl _, Nat.le_refl _⟩, ?_⟩
      intro p l e R s m args below meth c0 H locs cells slots Q X A w0 ws lsm stm C I hcl hsl k
      simp only [uc_sia, us_sia, Nat.sub_self, Nat.add_zero] at k
      obtain ⟨hx, hb, hml, hown, hts, hSx, hA, hnm, hfr, hlo, hlk, hfl⟩ := C
      obtain ⟨hH, hP, hD, hS, hE, hL, hs⟩ := I
      obtain ⟨u1, rfl, hs1⟩ := zSR_i hs
      obtain ⟨u2, rfl, hs2⟩ := zSR_i hs1
      obtain ⟨a0, u3, rfl, h0, hs3⟩ := zSR_r hs2
      obtain ⟨hr1, e0, he0, hE0⟩ := hH.at (by omega) (by omega) h0
      rw [zER_int hcr (by omega) (by omega) (by omega)] at hE0
      subst hE0
      have hnar : znar 54 b = (vp_nar .boolean b) := rfl
      refine va_zast hx hb hSx.1 hP hD hS (r - 100) 4 he0 rfl (zin_vp hir) hd (fun H1 locs1 hP1 hD1 hS1 => ?_)
      have hX := zExt.set (e' := (.inl (xT X 54, zlen z r, .inl (upd (zia z r) a.toNatClampNeg (vp_nar .boolean b))) : va_E)) he0
      refine k H1 locs1 _ _ _ ⟨hH.set hr1 he0 (by omega) rfl rfl rfl rfl (fun q hq => ⟨rfl, rfl, rfl, rfl, rfl, zu2_off _ _ _ _ hq, rfl, rfl, rfl⟩) ?_, hP1, hD1, hS1, hE.trans hX, hL.ext hX, hs3.ext hX⟩
      rw [zER_int (z := sia z r (zx a) (znar 54 b)) hcr (by omega) (by omega) (by omega), ia_sia, zu2_upd, hnar]
      rfl
    · cases hf0
  · cases hf0
set_option maxHeartbeats 800000 in
theorem ok_last (hd : decode inf.1 pc = .ok (.lastore, 1)) : zOK inf pc (z_last (pc + 1)) := by
  intro ls st z p' ls' st' z' hf0
  unfold z_last at hf0
  split at hf0
  · rename_i b a r st1
    split at hf0
    · rename_i hcr
      obtain ⟨hcr, hir⟩ := hcr
      cases hf0
      refine ⟨⟨Nat.le_refl _, Nat.le_refl _⟩, ?_⟩
      intro p l e R s m args below meth c0 H locs cells slots Q X A w0 ws lsm stm C I hcl hsl k
      simp only [uc_sla, us_sla, Nat.sub_self, Nat.add_zero] at k
      obtain ⟨hx, hb, hml, hown, hts, hSx, hA, hnm, hfr, hlo, hlk, hfl⟩ := C
      obtain ⟨hH, hP, hD, hS, hE, hL, hs⟩ := I
      obtain ⟨u1, rfl, hs1⟩ := zSR_l hs
      obtain ⟨u2, rfl, hs2⟩ := zSR_i hs1
      obtain ⟨a0, u3, rfl, h0, hs3⟩ := zSR_r hs2
      obtain ⟨hr1, e0, he0, hE0⟩ := hH.at (by omega) (by omega) h0
      rw [zER_long hcr] at hE0
      subst hE0
      refine va_last hx hb hSx.1 hP hD hS (r - 100) 1 he0 rfl (zin_vp hir) hd (fun H1 locs1 hP1 hD1 hS1 => ?_)
      have hX := zExt.set (e' := (.inl (xT X 51, zlen z r, vl (vp_updL (zla z r) a.toNatClampNeg b)) : va_E)) he0
      refine k H1 locs1 _ _ _ ⟨hH.set hr1 he0 (by omega) rfl rfl rfl rfl (fun q hq => ⟨rfl, rfl, rfl, rfl, rfl, rfl, zu2_off _ _ _ _ hq, rfl, rfl⟩) ?_, hP1, hD1, hS1, hE.trans hX, hL.ext hX, hs3.ext hX⟩
      rw [zER_long (z := sla z r (zx a) b) hcr, la_sla, zu2_updL]
      rfl
    · cases hf0
  · cases hf0
set_option maxHeartbeats 800000 in
theorem ok_aast60 (hd : decode inf.1 pc = .ok (.aastore, 1)) : zOK inf pc (z_aast 60 (pc + 1)) := by
  intro ls st z p' ls' st' z' hf0
  unfold z_aast at hf0
  split at hf0
  · rename_i v a r st1
    split at hf0
    · rename_i hcr
      obtain ⟨hcr, hir, hv⟩ := hcr
      cases hf0
      refine ⟨⟨Nat.le_refl _, Nat.le_refl _⟩, ?_⟩
      intro p l e R s m args below meth c0 H locs cells slots Q X A w0 ws lsm stm C I hcl hsl k
      simp only [uc_sra, us_sra, Nat.sub_self, Nat.add_zero] at k
      obtain ⟨hx, hb, hml, hown, hts, hSx, hA, hnm, hfr, hlo, hlk, hfl⟩ := C
      obtain ⟨hH, hP, hD, hS, hE, hL, hs⟩ := I
      obtain ⟨w, u1, rfl, hw, hs1⟩ := zSR_v hs
      obtain ⟨u2, rfl, hs2⟩ := zSR_i hs1
      obtain ⟨a0, u3, rfl, h0, hs3⟩ := zSR_r hs2
      obtain ⟨hr1, e0, he0, hE0⟩ := hH.at (by omega) (by omega) h0
      rw [zER_ref hcr (by omega) (by omega)] at hE0
      obtain ⟨g, rfl, hg⟩ := hE0
      obtain ⟨v1, rfl⟩ : ∃ v1 : Nat, v = .ref v1 := by
        cases v with
        | ref q => exact ⟨q, rfl⟩
        | _ => exact absurd hv (by simp [zael])
      obtain ⟨a1, rfl, hav⟩ := hw
      obtain ⟨h100, hc11⟩ : 100 ≤ v1 ∧ zcls z v1 = 11 := by
        simp only [zael] at hv
        simpa using hv
      obtain ⟨hv1, e1, he1, hE1⟩ := hH.at (by omega) (by omega) hav
      obtain ⟨fs, rfl, -, -⟩ := zER_obj hE1 hc11 (by omega)
      have hany : va_Any "CardBowl$Slot" s H a1 := va_rAny (r := (RX11, TX11, 1)) hSx.1 hP he1 rfl (fun comp c9 g1 g2 => vb_asgS comp c9 g1 g2)
      refine va_astqM hx hb hSx.1 hP hD hS (r - 100) 5 he0 rfl hany (zin_vp hir) hd (fun H1 locs1 hP1 hD1 hS1 => ?_)
      have hX := zExt.set (e' := (.inl (xT X 60, zlen z r, vq (va_up g a.toNatClampNeg (some a1))) : va_E)) he0
      refine k H1 locs1 _ _ _ ⟨hH.set hr1 he0 (by omega) rfl rfl rfl rfl (fun q hq => ⟨rfl, rfl, rfl, rfl, rfl, rfl, rfl, zu2_off _ _ _ _ hq, rfl⟩) ?_, hP1, hD1, hS1, hE.trans hX, hL.ext hX, hs3.ext hX⟩
      rw [zER_ref (z := sra z r (zx a) (.ref v1)) hcr (by omega) (by omega)]
      refine ⟨_, rfl, fun i => ?_⟩
      rw [ra_sra]
      by_cases hi : i = zx a
      · subst hi
        rw [zu2_s]
        have e9 : va_up g a.toNatClampNeg (some a1) (zx a) = some a1 := va_up_self _ _ _
        rw [e9]
        exact ⟨a1, rfl, hav.ext hX⟩
      · rw [zu2_k _ _ _ _ hi]
        have e9 : va_up g a.toNatClampNeg (some a1) i = g i := va_up_ne _ _ hi
        rw [e9]
        exact (hg i).ext hX
    · cases hf0
  · cases hf0
set_option maxHeartbeats 800000 in
theorem ok_aast61 (hd : decode inf.1 pc = .ok (.aastore, 1)) : zOK inf pc (z_aast 61 (pc + 1)) := by
  intro ls st z p' ls' st' z' hf0
  unfold z_aast at hf0
  split at hf0
  · rename_i v a r st1
    split at hf0
    · rename_i hcr
      obtain ⟨hcr, hir, hv⟩ := hcr
      cases hf0
      refine ⟨⟨Nat.le_refl _, Nat.le_refl _⟩, ?_⟩
      intro p l e R s m args below meth c0 H locs cells slots Q X A w0 ws lsm stm C I hcl hsl k
      simp only [uc_sra, us_sra, Nat.sub_self, Nat.add_zero] at k
      obtain ⟨hx, hb, hml, hown, hts, hSx, hA, hnm, hfr, hlo, hlk, hfl⟩ := C
      obtain ⟨hH, hP, hD, hS, hE, hL, hs⟩ := I
      obtain ⟨w, u1, rfl, hw, hs1⟩ := zSR_v hs
      obtain ⟨u2, rfl, hs2⟩ := zSR_i hs1
      obtain ⟨a0, u3, rfl, h0, hs3⟩ := zSR_r hs2
      obtain ⟨hr1, e0, he0, hE0⟩ := hH.at (by omega) (by omega) h0
      rw [zER_ref hcr (by omega) (by omega)] at hE0
      obtain ⟨g, rfl, hg⟩ := hE0
      obtain ⟨v1, rfl⟩ : ∃ v1 : Nat, v = .ref v1 := by
        cases v with
        | ref q => exact ⟨q, rfl⟩
        | _ => exact absurd hv (by simp [zael])
      obtain ⟨a1, rfl, hav⟩ := hw
      obtain ⟨h100, hc11⟩ : 100 ≤ v1 ∧ zcls z v1 = 1 := by
        simp only [zael] at hv
        simpa using hv
      obtain ⟨hv1, e1, he1, hE1⟩ := hH.at (by omega) (by omega) hav
      obtain ⟨fs, rfl, -, -⟩ := zER_obj hE1 hc11 (by omega)
      have hany : va_Any "CardBowl$State" s H a1 := va_rAny (r := (RX1, TX1, 4)) hSx.1 hP he1 rfl (fun comp c9 g1 g2 => vb_asgS comp c9 g1 g2)
      refine va_astqM hx hb hSx.1 hP hD hS (r - 100) 6 he0 rfl hany (zin_vp hir) hd (fun H1 locs1 hP1 hD1 hS1 => ?_)
      have hX := zExt.set (e' := (.inl (xT X 61, zlen z r, vq (va_up g a.toNatClampNeg (some a1))) : va_E)) he0
      refine k H1 locs1 _ _ _ ⟨hH.set hr1 he0 (by omega) rfl rfl rfl rfl (fun q hq => ⟨rfl, rfl, rfl, rfl, rfl, rfl, rfl, zu2_off _ _ _ _ hq, rfl⟩) ?_, hP1, hD1, hS1, hE.trans hX, hL.ext hX, hs3.ext hX⟩
      rw [zER_ref (z := sra z r (zx a) (.ref v1)) hcr (by omega) (by omega)]
      refine ⟨_, rfl, fun i => ?_⟩
      rw [ra_sra]
      by_cases hi : i = zx a
      · subst hi
        rw [zu2_s]
        have e9 : va_up g a.toNatClampNeg (some a1) (zx a) = some a1 := va_up_self _ _ _
        rw [e9]
        exact ⟨a1, rfl, hav.ext hX⟩
      · rw [zu2_k _ _ _ _ hi]
        have e9 : va_up g a.toNatClampNeg (some a1) i = g i := va_up_ne _ _ hi
        rw [e9]
        exact (hg i).ext hX
    · cases hf0
  · cases hf0
set_option maxHeartbeats 800000 in
theorem ok_aast62 (hd : decode inf.1 pc = .ok (.aastore, 1)) : zOK inf pc (z_aast 62 (pc + 1)) := by
  intro ls st z p' ls' st' z' hf0
  unfold z_aast at hf0
  split at hf0
  · rename_i v a r st1
    split at hf0
    · rename_i hcr
      obtain ⟨hcr, hir, hv⟩ := hcr
      cases hf0
      refine ⟨⟨Nat.le_refl _, Nat.le_refl _⟩, ?_⟩
      intro p l e R s m args below meth c0 H locs cells slots Q X A w0 ws lsm stm C I hcl hsl k
      simp only [uc_sra, us_sra, Nat.sub_self, Nat.add_zero] at k
      obtain ⟨hx, hb, hml, hown, hts, hSx, hA, hnm, hfr, hlo, hlk, hfl⟩ := C
      obtain ⟨hH, hP, hD, hS, hE, hL, hs⟩ := I
      obtain ⟨w, u1, rfl, hw, hs1⟩ := zSR_v hs
      obtain ⟨u2, rfl, hs2⟩ := zSR_i hs1
      obtain ⟨a0, u3, rfl, h0, hs3⟩ := zSR_r hs2
      obtain ⟨hr1, e0, he0, hE0⟩ := hH.at (by omega) (by omega) h0
      rw [zER_ref hcr (by omega) (by omega)] at hE0
      obtain ⟨g, rfl, hg⟩ := hE0
      obtain ⟨v1, rfl⟩ : ∃ v1 : Nat, v = .ref v1 := by
        cases v with
        | ref q => exact ⟨q, rfl⟩
        | _ => exact absurd hv (by simp [zael])
      obtain ⟨a1, rfl, hav⟩ := hw
      obtain ⟨h100, hc11⟩ : 100 ≤ v1 ∧ (6 ≤ zcls z v1 ∧ zcls z v1 ≤ 9) := by
        simp only [zael] at hv
        simpa using hv
      obtain ⟨hv1, e1, he1, hE1⟩ := hH.at (by omega) (by omega) hav
      have hany : va_Any "CardBowl$Paying" s H a1 := by
        rcases (show zcls z v1 = 6 ∨ zcls z v1 = 7 ∨ zcls z v1 = 8 ∨ zcls z v1 = 9 by omega) with q | q | q | q
        · obtain ⟨fs, rfl, -, -⟩ := zER_obj hE1 q (by omega)
          exact va_rAny (r := (RX6, uT0, 0)) hSx.1 hP he1 rfl (fun comp c9 g1 g2 => vb_asgC (hSx.2.1 _ q2302 rfl) comp c9 g1 g2)
        · obtain ⟨fs, rfl, -, -⟩ := zER_obj hE1 q (by omega)
          exact va_rAny (r := (RX7, uT0, 0)) hSx.1 hP he1 rfl (fun comp c9 g1 g2 => vb_asgC (hSx.2.1 _ q2303 rfl) comp c9 g1 g2)
        · obtain ⟨fs, rfl, -, -⟩ := zER_obj hE1 q (by omega)
          exact va_rAny (r := (RX8, uT0, 0)) hSx.1 hP he1 rfl (fun comp c9 g1 g2 => vb_asgC (hSx.2.1 _ q2304 rfl) comp c9 g1 g2)
        · obtain ⟨fs, rfl, -, -⟩ := zER_obj hE1 q (by omega)
          exact va_rAny (r := (RX9, uT0, 0)) hSx.1 hP he1 rfl (fun comp c9 g1 g2 => vb_asgC (hSx.2.1 _ q2305 rfl) comp c9 g1 g2)
      refine va_astqM hx hb hSx.1 hP hD hS (r - 100) 7 he0 rfl hany (zin_vp hir) hd (fun H1 locs1 hP1 hD1 hS1 => ?_)
      have hX := zExt.set (e' := (.inl (xT X 62, zlen z r, vq (va_up g a.toNatClampNeg (some a1))) : va_E)) he0
      refine k H1 locs1 _ _ _ ⟨hH.set hr1 he0 (by omega) rfl rfl rfl rfl (fun q hq => ⟨rfl, rfl, rfl, rfl, rfl, rfl, rfl, zu2_off _ _ _ _ hq, rfl⟩) ?_, hP1, hD1, hS1, hE.trans hX, hL.ext hX, hs3.ext hX⟩
      rw [zER_ref (z := sra z r (zx a) (.ref v1)) hcr (by omega) (by omega)]
      refine ⟨_, rfl, fun i => ?_⟩
      rw [ra_sra]
      by_cases hi : i = zx a
      · subst hi
        rw [zu2_s]
        have e9 : va_up g a.toNatClampNeg (some a1) (zx a) = some a1 := va_up_self _ _ _
        rw [e9]
        exact ⟨a1, rfl, hav.ext hX⟩
      · rw [zu2_k _ _ _ _ hi]
        have e9 : va_up g a.toNatClampNeg (some a1) i = g i := va_up_ne _ _ hi
        rw [e9]
        exact (hg i).ext hX
    · cases hf0
  · cases hf0
set_option maxHeartbeats 800000 in
theorem ok_aast63 (hd : decode inf.1 pc = .ok (.aastore, 1)) : zOK inf pc (z_aast 63 (pc + 1)) := by
  intro ls st z p' ls' st' z' hf0
  unfold z_aast at hf0
  split at hf0
  · rename_i v a r st1
    split at hf0
    · rename_i hcr
      obtain ⟨hcr, hir, hv⟩ := hcr
      cases hf0
      refine ⟨⟨Nat.le_refl _, Nat.le_refl _⟩, ?_⟩
      intro p l e R s m args below meth c0 H locs cells slots Q X A w0 ws lsm stm C I hcl hsl k
      simp only [uc_sra, us_sra, Nat.sub_self, Nat.add_zero] at k
      obtain ⟨hx, hb, hml, hown, hts, hSx, hA, hnm, hfr, hlo, hlk, hfl⟩ := C
      obtain ⟨hH, hP, hD, hS, hE, hL, hs⟩ := I
      obtain ⟨w, u1, rfl, hw, hs1⟩ := zSR_v hs
      obtain ⟨u2, rfl, hs2⟩ := zSR_i hs1
      obtain ⟨a0, u3, rfl, h0, hs3⟩ := zSR_r hs2
      obtain ⟨hr1, e0, he0, hE0⟩ := hH.at (by omega) (by omega) h0
      rw [zER_ref hcr (by omega) (by omega)] at hE0
      obtain ⟨g, rfl, hg⟩ := hE0
      obtain ⟨v1, rfl⟩ : ∃ v1 : Nat, v = .ref v1 := by
        cases v with
        | ref q => exact ⟨q, rfl⟩
        | _ => exact absurd hv (by simp [zael])
      obtain ⟨a1, rfl, hav⟩ := hw
      have hlt : v1 < 35 := by
        simp only [zael] at hv
        simpa using hv
      have hav2 : xK X v1 = a1 := by
        rcases hav with ⟨-, h⟩ | ⟨h, -⟩
        · exact h
        · omega
      have hany : va_Any "java/lang/String" s H a1 := by
        obtain ⟨cell, g1, g2, g3, -⟩ := (hSx.2.2.2.2.2.2.1.1 v1 hlt).1.kept hS.2.1
        rw [hav2] at g1
        obtain ⟨kC, hkC, -⟩ := Vm.findClass_spec g3
        exact ⟨cell, g1, g2, ⟨kC, hkC⟩, fun comp h => vb_asgS comp _ h g3⟩
      refine va_astqM hx hb hSx.1 hP hD hS (r - 100) 8 he0 rfl hany (zin_vp hir) hd (fun H1 locs1 hP1 hD1 hS1 => ?_)
      have hX := zExt.set (e' := (.inl (xT X 63, zlen z r, vq (va_up g a.toNatClampNeg (some a1))) : va_E)) he0
      refine k H1 locs1 _ _ _ ⟨hH.set hr1 he0 (by omega) rfl rfl rfl rfl (fun q hq => ⟨rfl, rfl, rfl, rfl, rfl, rfl, rfl, zu2_off _ _ _ _ hq, rfl⟩) ?_, hP1, hD1, hS1, hE.trans hX, hL.ext hX, hs3.ext hX⟩
      rw [zER_ref (z := sra z r (zx a) (.ref v1)) hcr (by omega) (by omega)]
      refine ⟨_, rfl, fun i => ?_⟩
      rw [ra_sra]
      by_cases hi : i = zx a
      · subst hi
        rw [zu2_s]
        have e9 : va_up g a.toNatClampNeg (some a1) (zx a) = some a1 := va_up_self _ _ _
        rw [e9]
        exact ⟨a1, rfl, hav.ext hX⟩
      · rw [zu2_k _ _ _ _ hi]
        have e9 : va_up g a.toNatClampNeg (some a1) i = g i := va_up_ne _ _ hi
        rw [e9]
        exact (hg i).ext hX
    · cases hf0
  · cases hf0
theorem ok_alen50 (hd : decode inf.1 pc = .ok (.arraylength, 1)) : zOK inf pc (z_alen 50 (pc + 1)) := by
  refine zOK_pure (fun ls st z p' ls' st' z' hf0 => ?_)
  unfold z_alen at hf0
  split at hf0
  · rename_i r st1
    split at hf0
    · rename_i hcr
      cases hf0
      refine ⟨rfl, ?_⟩
      intro p l e R s m args below meth c0 H locs cells slots Q X A w0 ws lsm stm C I k
      obtain ⟨hx, hb, hml, hown, hts, hSx, hA, hnm, hfr, hlo, hlk, hfl⟩ := C
      obtain ⟨hH, hP, hD, hS, hE, hL, hs⟩ := I
      obtain ⟨a0, u2, rfl, h0, hs2⟩ := zSR_r hs
      obtain ⟨hr1, e0, he0, hE0⟩ := hH.at (by omega) (by omega) h0
      rw [zER_int hcr (by omega) (by omega) (by omega)] at hE0
      subst hE0
      exact va_alen hx hb hSx.1 hP (r - 100) 0 he0 rfl rfl hd (k _ _ hL ⟨rfl, hs2⟩)
    · cases hf0
  · cases hf0
theorem ok_alen51 (hd : decode inf.1 pc = .ok (.arraylength, 1)) : zOK inf pc (z_alen 51 (pc + 1)) := by
  refine zOK_pure (fun ls st z p' ls' st' z' hf0 => ?_)
  unfold z_alen at hf0
  split at hf0
  · rename_i r st1
    split at hf0
    · rename_i hcr
      cases hf0
      refine ⟨rfl, ?_⟩
      intro p l e R s m args below meth c0 H locs cells slots Q X A w0 ws lsm stm C I k
      obtain ⟨hx, hb, hml, hown, hts, hSx, hA, hnm, hfr, hlo, hlk, hfl⟩ := C
      obtain ⟨hH, hP, hD, hS, hE, hL, hs⟩ := I
      obtain ⟨a0, u2, rfl, h0, hs2⟩ := zSR_r hs
      obtain ⟨hr1, e0, he0, hE0⟩ := hH.at (by omega) (by omega) h0
      rw [zER_long hcr] at hE0
      subst hE0
      exact va_alen hx hb hSx.1 hP (r - 100) 1 he0 rfl rfl hd (k _ _ hL ⟨rfl, hs2⟩)
    · cases hf0
  · cases hf0
theorem ok_alen52 (hd : decode inf.1 pc = .ok (.arraylength, 1)) : zOK inf pc (z_alen 52 (pc + 1)) := by
  refine zOK_pure (fun ls st z p' ls' st' z' hf0 => ?_)
  unfold z_alen at hf0
  split at hf0
  · rename_i r st1
    split at hf0
    · rename_i hcr
      cases hf0
      refine ⟨rfl, ?_⟩
      intro p l e R s m args below meth c0 H locs cells slots Q X A w0 ws lsm stm C I k
      obtain ⟨hx, hb, hml, hown, hts, hSx, hA, hnm, hfr, hlo, hlk, hfl⟩ := C
      obtain ⟨hH, hP, hD, hS, hE, hL, hs⟩ := I
      obtain ⟨a0, u2, rfl, h0, hs2⟩ := zSR_r hs
      obtain ⟨hr1, e0, he0, hE0⟩ := hH.at (by omega) (by omega) h0
      rw [zER_int hcr (by omega) (by omega) (by omega)] at hE0
      subst hE0
      exact va_alen hx hb hSx.1 hP (r - 100) 2 he0 rfl rfl hd (k _ _ hL ⟨rfl, hs2⟩)
    · cases hf0
  · cases hf0
theorem ok_alen53 (hd : decode inf.1 pc = .ok (.arraylength, 1)) : zOK inf pc (z_alen 53 (pc + 1)) := by
  refine zOK_pure (fun ls st z p' ls' st' z' hf0 => ?_)
  unfold z_alen at hf0
  split at hf0
  · rename_i r st1
    split at hf0
    · rename_i hcr
      cases hf0
      refine ⟨rfl, ?_⟩
      intro p l e R s m args below meth c0 H locs cells slots Q X A w0 ws lsm stm C I k
      obtain ⟨hx, hb, hml, hown, hts, hSx, hA, hnm, hfr, hlo, hlk, hfl⟩ := C
      obtain ⟨hH, hP, hD, hS, hE, hL, hs⟩ := I
      obtain ⟨a0, u2, rfl, h0, hs2⟩ := zSR_r hs
      obtain ⟨hr1, e0, he0, hE0⟩ := hH.at (by omega) (by omega) h0
      rw [zER_int hcr (by omega) (by omega) (by omega)] at hE0
      subst hE0
      exact va_alen hx hb hSx.1 hP (r - 100) 3 he0 rfl rfl hd (k _ _ hL ⟨rfl, hs2⟩)
    · cases hf0
  · cases hf0
theorem ok_alen54 (hd : decode inf.1 pc = .ok (.arraylength, 1)) : zOK inf pc (z_alen 54 (pc + 1)) := by
  refine zOK_pure (fun ls st z p' ls' st' z' hf0 => ?_)
  unfold z_alen at hf0
  split at hf0
  · rename_i r st1
    split at hf0
    · rename_i hcr
      cases hf0
      refine ⟨rfl, ?_⟩
      intro p l e R s m args below meth c0 H locs cells slots Q X A w0 ws lsm stm C I k
      obtain ⟨hx, hb, hml, hown, hts, hSx, hA, hnm, hfr, hlo, hlk, hfl⟩ := C
      obtain ⟨hH, hP, hD, hS, hE, hL, hs⟩ := I
      obtain ⟨a0, u2, rfl, h0, hs2⟩ := zSR_r hs
      obtain ⟨hr1, e0, he0, hE0⟩ := hH.at (by omega) (by omega) h0
      rw [zER_int hcr (by omega) (by omega) (by omega)] at hE0
      subst hE0
      exact va_alen hx hb hSx.1 hP (r - 100) 4 he0 rfl rfl hd (k _ _ hL ⟨rfl, hs2⟩)
    · cases hf0
  · cases hf0
theorem ok_alen60 (hd : decode inf.1 pc = .ok (.arraylength, 1)) : zOK inf pc (z_alen 60 (pc + 1)) := by
  refine zOK_pure (fun ls st z p' ls' st' z' hf0 => ?_)
  unfold z_alen at hf0
  split at hf0
  · rename_i r st1
    split at hf0
    · rename_i hcr
      cases hf0
      refine ⟨rfl, ?_⟩
      intro p l e R s m args below meth c0 H locs cells slots Q X A w0 ws lsm stm C I k
      obtain ⟨hx, hb, hml, hown, hts, hSx, hA, hnm, hfr, hlo, hlk, hfl⟩ := C
      obtain ⟨hH, hP, hD, hS, hE, hL, hs⟩ := I
      obtain ⟨a0, u2, rfl, h0, hs2⟩ := zSR_r hs
      obtain ⟨hr1, e0, he0, hE0⟩ := hH.at (by omega) (by omega) h0
      rw [zER_ref hcr (by omega) (by omega)] at hE0
      obtain ⟨g, rfl, hg⟩ := hE0
      exact va_alen hx hb hSx.1 hP (r - 100) 5 he0 rfl rfl hd (k _ _ hL ⟨rfl, hs2⟩)
    · cases hf0
  · cases hf0
theorem ok_alen61 (hd : decode inf.1 pc = .ok (.arraylength, 1)) : zOK inf pc (z_alen 61 (pc + 1)) := by
  refine zOK_pure (fun ls st z p' ls' st' z' hf0 => ?_)
  unfold z_alen at hf0
  split at hf0
  · rename_i r st1
    split at hf0
    · rename_i hcr
      cases hf0
      refine ⟨rfl, ?_⟩
      intro p l e R s m args below meth c0 H locs cells slots Q X A w0 ws lsm stm C I k
      obtain ⟨hx, hb, hml, hown, hts, hSx, hA, hnm, hfr, hlo, hlk, hfl⟩ := C
      obtain ⟨hH, hP, hD, hS, hE, hL, hs⟩ := I
      obtain ⟨a0, u2, rfl, h0, hs2⟩ := zSR_r hs
      obtain ⟨hr1, e0, he0, hE0⟩ := hH.at (by omega) (by omega) h0
      rw [zER_ref hcr (by omega) (by omega)] at hE0
      obtain ⟨g, rfl, hg⟩ := hE0
      exact va_alen hx hb hSx.1 hP (r - 100) 6 he0 rfl rfl hd (k _ _ hL ⟨rfl, hs2⟩)
    · cases hf0
  · cases hf0
theorem ok_alen62 (hd : decode inf.1 pc = .ok (.arraylength, 1)) : zOK inf pc (z_alen 62 (pc + 1)) := by
  refine zOK_pure (fun ls st z p' ls' st' z' hf0 => ?_)
  unfold z_alen at hf0
  split at hf0
  · rename_i r st1
    split at hf0
    · rename_i hcr
      cases hf0
      refine ⟨rfl, ?_⟩
      intro p l e R s m args below meth c0 H locs cells slots Q X A w0 ws lsm stm C I k
      obtain ⟨hx, hb, hml, hown, hts, hSx, hA, hnm, hfr, hlo, hlk, hfl⟩ := C
      obtain ⟨hH, hP, hD, hS, hE, hL, hs⟩ := I
      obtain ⟨a0, u2, rfl, h0, hs2⟩ := zSR_r hs
      obtain ⟨hr1, e0, he0, hE0⟩ := hH.at (by omega) (by omega) h0
      rw [zER_ref hcr (by omega) (by omega)] at hE0
      obtain ⟨g, rfl, hg⟩ := hE0
      exact va_alen hx hb hSx.1 hP (r - 100) 7 he0 rfl rfl hd (k _ _ hL ⟨rfl, hs2⟩)
    · cases hf0
  · cases hf0
theorem ok_alen63 (hd : decode inf.1 pc = .ok (.arraylength, 1)) : zOK inf pc (z_alen 63 (pc + 1)) := by
  refine zOK_pure (fun ls st z p' ls' st' z' hf0 => ?_)
  unfold z_alen at hf0
  split at hf0
  · rename_i r st1
    split at hf0
    · rename_i hcr
      cases hf0
      refine ⟨rfl, ?_⟩
      intro p l e R s m args below meth c0 H locs cells slots Q X A w0 ws lsm stm C I k
      obtain ⟨hx, hb, hml, hown, hts, hSx, hA, hnm, hfr, hlo, hlk, hfl⟩ := C
      obtain ⟨hH, hP, hD, hS, hE, hL, hs⟩ := I
      obtain ⟨a0, u2, rfl, h0, hs2⟩ := zSR_r hs
      obtain ⟨hr1, e0, he0, hE0⟩ := hH.at (by omega) (by omega) h0
      rw [zER_ref hcr (by omega) (by omega)] at hE0
      obtain ⟨g, rfl, hg⟩ := hE0
      exact va_alen hx hb hSx.1 hP (r - 100) 8 he0 rfl rfl hd (k _ _ hL ⟨rfl, hs2⟩)
    · cases hf0
  · cases hf0
theorem ok_alen64 (hd : decode inf.1 pc = .ok (.arraylength, 1)) : zOK inf pc (z_alen 64 (pc + 1)) := by
  refine zOK_pure (fun ls st z p' ls' st' z' hf0 => ?_)
  unfold z_alen at hf0
  split at hf0
  · rename_i r st1
    split at hf0
    · rename_i hcr
      cases hf0
      refine ⟨rfl, ?_⟩
      intro p l e R s m args below meth c0 H locs cells slots Q X A w0 ws lsm stm C I k
      obtain ⟨hx, hb, hml, hown, hts, hSx, hA, hnm, hfr, hlo, hlk, hfl⟩ := C
      obtain ⟨hH, hP, hD, hS, hE, hL, hs⟩ := I
      obtain ⟨a0, u2, rfl, h0, hs2⟩ := zSR_r hs
      obtain ⟨hr1, e0, he0, hE0⟩ := hH.at (by omega) (by omega) h0
      rw [zER_ref hcr (by omega) (by omega)] at hE0
      obtain ⟨g, rfl, hg⟩ := hE0
      exact va_alen hx hb hSx.1 hP (r - 100) 9 he0 rfl rfl hd (k _ _ hL ⟨rfl, hs2⟩)
    · cases hf0
  · cases hf0
theorem ok_iald49 (hd : decode inf.1 pc = .ok (.iaload, 1)) : zOK inf pc (z_iald 49 (pc + 1)) := by
  refine zOK_pure (fun ls st z p' ls' st' z' hf0 => ?_)
  unfold z_iald at hf0
  split at hf0
  · rename_i a r st1
    split at hf0
    · rename_i hcr
      obtain ⟨hcr, hir⟩ := hcr
      cases hf0
      refine ⟨rfl, ?_⟩
      intro p l e R s m args below meth c0 H locs cells slots Q X A w0 ws lsm stm C I k
      obtain ⟨hx, hb, hml, hown, hts, hSx, hA, hnm, hfr, hlo, hlk, hfl⟩ := C
      obtain ⟨hH, hP, hD, hS, hE, hL, hs⟩ := I
      obtain ⟨u1, rfl, hs1⟩ := zSR_i hs
      obtain ⟨a0, u2, rfl, h0, hs2⟩ := zSR_r hs1
      rcases h0 with ⟨h1, h2⟩ | ⟨h1, e0, he0⟩
      · have h9 : r = 99 := by
          have := hH.1.2.1 r h1
          rw [hcr] at this
          by_cases h9 : r = 99
          · exact h9
          · rw [if_neg h9] at this; omega
        subst h9
        subst h2
        rw [hH.1.2.2.1] at hir
        obtain ⟨-, -, -, -, -, -, -, hX1, hX2, hX3, -⟩ := hSx
        have k1 := k lsm (.int (xS X (zx a)) :: u2) hL ⟨by rw [hH.1.2.2.2]; rfl, hs2⟩
        exact va_sld hx hb hX1 hX2 hX3 hS (zin_vp hir) hd k1
      · exfalso
        have hlt := (List.getElem?_eq_some_iff.mp he0).1
        obtain ⟨a', e', g2, g3⟩ := hH.2 r h1 (by have := hH.1.1; omega)
        unfold zER at g3
        rw [hcr, if_neg (by omega), if_pos (by omega)] at g3
        exact g3
    · cases hf0
  · cases hf0
theorem ok_alen49 (hd : decode inf.1 pc = .ok (.arraylength, 1)) : zOK inf pc (z_alen 49 (pc + 1)) := by
  refine zOK_pure (fun ls st z p' ls' st' z' hf0 => ?_)
  unfold z_alen at hf0
  split at hf0
  · rename_i r st1
    split at hf0
    · rename_i hcr
      cases hf0
      refine ⟨rfl, ?_⟩
      intro p l e R s m args below meth c0 H locs cells slots Q X A w0 ws lsm stm C I k
      obtain ⟨hx, hb, hml, hown, hts, hSx, hA, hnm, hfr, hlo, hlk, hfl⟩ := C
      obtain ⟨hH, hP, hD, hS, hE, hL, hs⟩ := I
      obtain ⟨a0, u2, rfl, h0, hs2⟩ := zSR_r hs
      rcases h0 with ⟨h1, h2⟩ | ⟨h1, e0, he0⟩
      · have h9 : r = 99 := by
          have := hH.1.2.1 r h1
          rw [hcr] at this
          by_cases h9 : r = 99
          · exact h9
          · rw [if_neg h9] at this; omega
        subst h9
        subst h2
        obtain ⟨-, -, -, -, -, -, -, hX1, hX2, hX3, -⟩ := hSx
        have k1 := k lsm (.int (nI (xL X)) :: u2) hL ⟨by rw [hH.1.2.2.1]; rfl, hs2⟩
        exact va_slen hx hb hX1 hX2 hX3 hS hd k1
      · exfalso
        have hlt := (List.getElem?_eq_some_iff.mp he0).1
        obtain ⟨a', e', g2, g3⟩ := hH.2 r h1 (by have := hH.1.1; omega)
        unfold zER at g3
        rw [hcr, if_neg (by omega), if_pos (by omega)] at g3
        exact g3
    · cases hf0
  · cases hf0
end ZOKA
