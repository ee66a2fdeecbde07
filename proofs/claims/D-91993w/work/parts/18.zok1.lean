set_option maxRecDepth 100000
section ZOKP
variable {inf : ZInf} {pc : Nat}
theorem ok_iadd (hd : decode inf.1 pc = .ok (.iadd, 1)) : zOK inf pc (z_iadd  (pc + 1)) := by
  refine zOK_stk (fun ls st z p' ls' st' z' hf => ?_)
  unfold z_iadd at hf
  split at hf
  · cases hf
    refine ⟨⟨rfl, rfl⟩, ?_⟩
    intro p l e R s m args below meth c H locs cells slots Q X A w0 ws lsm stm C I hs k
    obtain ⟨hx, hb, hml, hown, hts, hSx, hA, hnm, hfr, hlo, hlk, hfl⟩ := C
    obtain ⟨u1, rfl, hs1⟩ := zSR_i hs
    obtain ⟨u2, rfl, hs2⟩ := zSR_i hs1
    exact lv_iadd hx hb hd (k _ ⟨rfl, hs2⟩)
  · cases hf
theorem ok_isub (hd : decode inf.1 pc = .ok (.isub, 1)) : zOK inf pc (z_isub  (pc + 1)) := by
  refine zOK_stk (fun ls st z p' ls' st' z' hf => ?_)
  unfold z_isub at hf
  split at hf
  · cases hf
    refine ⟨⟨rfl, rfl⟩, ?_⟩
    intro p l e R s m args below meth c H locs cells slots Q X A w0 ws lsm stm C I hs k
    obtain ⟨hx, hb, hml, hown, hts, hSx, hA, hnm, hfr, hlo, hlk, hfl⟩ := C
    obtain ⟨u1, rfl, hs1⟩ := zSR_i hs
    obtain ⟨u2, rfl, hs2⟩ := zSR_i hs1
    exact lv_isub hx hb hd (k _ ⟨rfl, hs2⟩)
  · cases hf
theorem ok_imul (hd : decode inf.1 pc = .ok (.imul, 1)) : zOK inf pc (z_imul  (pc + 1)) := by
  refine zOK_stk (fun ls st z p' ls' st' z' hf => ?_)
  unfold z_imul at hf
  split at hf
  · cases hf
    refine ⟨⟨rfl, rfl⟩, ?_⟩
    intro p l e R s m args below meth c H locs cells slots Q X A w0 ws lsm stm C I hs k
    obtain ⟨hx, hb, hml, hown, hts, hSx, hA, hnm, hfr, hlo, hlk, hfl⟩ := C
    obtain ⟨u1, rfl, hs1⟩ := zSR_i hs
    obtain ⟨u2, rfl, hs2⟩ := zSR_i hs1
    exact lv_imul hx hb hd (k _ ⟨rfl, hs2⟩)
  · cases hf
theorem ok_iand (hd : decode inf.1 pc = .ok (.iand, 1)) : zOK inf pc (z_iand  (pc + 1)) := by
  refine zOK_stk (fun ls st z p' ls' st' z' hf => ?_)
  unfold z_iand at hf
  split at hf
  · cases hf
    refine ⟨⟨rfl, rfl⟩, ?_⟩
    intro p l e R s m args below meth c H locs cells slots Q X A w0 ws lsm stm C I hs k
    obtain ⟨hx, hb, hml, hown, hts, hSx, hA, hnm, hfr, hlo, hlk, hfl⟩ := C
    obtain ⟨u1, rfl, hs1⟩ := zSR_i hs
    obtain ⟨u2, rfl, hs2⟩ := zSR_i hs1
    exact lv_iand hx hb hd (k _ ⟨rfl, hs2⟩)
  · cases hf
theorem ok_ior (hd : decode inf.1 pc = .ok (.ior, 1)) : zOK inf pc (z_ior  (pc + 1)) := by
  refine zOK_stk (fun ls st z p' ls' st' z' hf => ?_)
  unfold z_ior at hf
  split at hf
  · cases hf
    refine ⟨⟨rfl, rfl⟩, ?_⟩
    intro p l e R s m args below meth c H locs cells slots Q X A w0 ws lsm stm C I hs k
    obtain ⟨hx, hb, hml, hown, hts, hSx, hA, hnm, hfr, hlo, hlk, hfl⟩ := C
    obtain ⟨u1, rfl, hs1⟩ := zSR_i hs
    obtain ⟨u2, rfl, hs2⟩ := zSR_i hs1
    exact lv_ior hx hb hd (k _ ⟨rfl, hs2⟩)
  · cases hf
theorem ok_ixor (hd : decode inf.1 pc = .ok (.ixor, 1)) : zOK inf pc (z_ixor  (pc + 1)) := by
  refine zOK_stk (fun ls st z p' ls' st' z' hf => ?_)
  unfold z_ixor at hf
  split at hf
  · cases hf
    refine ⟨⟨rfl, rfl⟩, ?_⟩
    intro p l e R s m args below meth c H locs cells slots Q X A w0 ws lsm stm C I hs k
    obtain ⟨hx, hb, hml, hown, hts, hSx, hA, hnm, hfr, hlo, hlk, hfl⟩ := C
    obtain ⟨u1, rfl, hs1⟩ := zSR_i hs
    obtain ⟨u2, rfl, hs2⟩ := zSR_i hs1
    exact lv_ixor hx hb hd (k _ ⟨rfl, hs2⟩)
  · cases hf
theorem ok_ishl (hd : decode inf.1 pc = .ok (.ishl, 1)) : zOK inf pc (z_ishl  (pc + 1)) := by
  refine zOK_stk (fun ls st z p' ls' st' z' hf => ?_)
  unfold z_ishl at hf
  split at hf
  · cases hf
    refine ⟨⟨rfl, rfl⟩, ?_⟩
    intro p l e R s m args below meth c H locs cells slots Q X A w0 ws lsm stm C I hs k
    obtain ⟨hx, hb, hml, hown, hts, hSx, hA, hnm, hfr, hlo, hlk, hfl⟩ := C
    obtain ⟨u1, rfl, hs1⟩ := zSR_i hs
    obtain ⟨u2, rfl, hs2⟩ := zSR_i hs1
    exact lv_ishl hx hb hd (k _ ⟨rfl, hs2⟩)
  · cases hf
theorem ok_ishr (hd : decode inf.1 pc = .ok (.ishr, 1)) : zOK inf pc (z_ishr  (pc + 1)) := by
  refine zOK_stk (fun ls st z p' ls' st' z' hf => ?_)
  unfold z_ishr at hf
  split at hf
  · cases hf
    refine ⟨⟨rfl, rfl⟩, ?_⟩
    intro p l e R s m args below meth c H locs cells slots Q X A w0 ws lsm stm C I hs k
    obtain ⟨hx, hb, hml, hown, hts, hSx, hA, hnm, hfr, hlo, hlk, hfl⟩ := C
    obtain ⟨u1, rfl, hs1⟩ := zSR_i hs
    obtain ⟨u2, rfl, hs2⟩ := zSR_i hs1
    exact lv_ishr hx hb hd (k _ ⟨rfl, hs2⟩)
  · cases hf
theorem ok_iushr (hd : decode inf.1 pc = .ok (.iushr, 1)) : zOK inf pc (z_iushr  (pc + 1)) := by
  refine zOK_stk (fun ls st z p' ls' st' z' hf => ?_)
  unfold z_iushr at hf
  split at hf
  · cases hf
    refine ⟨⟨rfl, rfl⟩, ?_⟩
    intro p l e R s m args below meth c H locs cells slots Q X A w0 ws lsm stm C I hs k
    obtain ⟨hx, hb, hml, hown, hts, hSx, hA, hnm, hfr, hlo, hlk, hfl⟩ := C
    obtain ⟨u1, rfl, hs1⟩ := zSR_i hs
    obtain ⟨u2, rfl, hs2⟩ := zSR_i hs1
    exact lv_iushr hx hb hd rfl (k _ ⟨rfl, hs2⟩)
  · cases hf
theorem ok_ladd (hd : decode inf.1 pc = .ok (.ladd, 1)) : zOK inf pc (z_ladd  (pc + 1)) := by
  refine zOK_stk (fun ls st z p' ls' st' z' hf => ?_)
  unfold z_ladd at hf
  split at hf
  · cases hf
    refine ⟨⟨rfl, rfl⟩, ?_⟩
    intro p l e R s m args below meth c H locs cells slots Q X A w0 ws lsm stm C I hs k
    obtain ⟨hx, hb, hml, hown, hts, hSx, hA, hnm, hfr, hlo, hlk, hfl⟩ := C
    obtain ⟨u1, rfl, hs1⟩ := zSR_l hs
    obtain ⟨u2, rfl, hs2⟩ := zSR_l hs1
    exact lv_ladd hx hb hd (k _ ⟨rfl, hs2⟩)
  · cases hf
theorem ok_lsub (hd : decode inf.1 pc = .ok (.lsub, 1)) : zOK inf pc (z_lsub  (pc + 1)) := by
  refine zOK_stk (fun ls st z p' ls' st' z' hf => ?_)
  unfold z_lsub at hf
  split at hf
  · cases hf
    refine ⟨⟨rfl, rfl⟩, ?_⟩
    intro p l e R s m args below meth c H locs cells slots Q X A w0 ws lsm stm C I hs k
    obtain ⟨hx, hb, hml, hown, hts, hSx, hA, hnm, hfr, hlo, hlk, hfl⟩ := C
    obtain ⟨u1, rfl, hs1⟩ := zSR_l hs
    obtain ⟨u2, rfl, hs2⟩ := zSR_l hs1
    exact lv_lsub hx hb hd (k _ ⟨rfl, hs2⟩)
  · cases hf
theorem ok_lmul (hd : decode inf.1 pc = .ok (.lmul, 1)) : zOK inf pc (z_lmul  (pc + 1)) := by
  refine zOK_stk (fun ls st z p' ls' st' z' hf => ?_)
  unfold z_lmul at hf
  split at hf
  · cases hf
    refine ⟨⟨rfl, rfl⟩, ?_⟩
    intro p l e R s m args below meth c H locs cells slots Q X A w0 ws lsm stm C I hs k
    obtain ⟨hx, hb, hml, hown, hts, hSx, hA, hnm, hfr, hlo, hlk, hfl⟩ := C
    obtain ⟨u1, rfl, hs1⟩ := zSR_l hs
    obtain ⟨u2, rfl, hs2⟩ := zSR_l hs1
    exact lv_lmul hx hb hd (k _ ⟨rfl, hs2⟩)
  · cases hf
theorem ok_land (hd : decode inf.1 pc = .ok (.land, 1)) : zOK inf pc (z_land  (pc + 1)) := by
  refine zOK_stk (fun ls st z p' ls' st' z' hf => ?_)
  unfold z_land at hf
  split at hf
  · cases hf
    refine ⟨⟨rfl, rfl⟩, ?_⟩
    intro p l e R s m args below meth c H locs cells slots Q X A w0 ws lsm stm C I hs k
    obtain ⟨hx, hb, hml, hown, hts, hSx, hA, hnm, hfr, hlo, hlk, hfl⟩ := C
    obtain ⟨u1, rfl, hs1⟩ := zSR_l hs
    obtain ⟨u2, rfl, hs2⟩ := zSR_l hs1
    exact lv_land hx hb hd (k _ ⟨rfl, hs2⟩)
  · cases hf
theorem ok_lor (hd : decode inf.1 pc = .ok (.lor, 1)) : zOK inf pc (z_lor  (pc + 1)) := by
  refine zOK_stk (fun ls st z p' ls' st' z' hf => ?_)
  unfold z_lor at hf
  split at hf
  · cases hf
    refine ⟨⟨rfl, rfl⟩, ?_⟩
    intro p l e R s m args below meth c H locs cells slots Q X A w0 ws lsm stm C I hs k
    obtain ⟨hx, hb, hml, hown, hts, hSx, hA, hnm, hfr, hlo, hlk, hfl⟩ := C
    obtain ⟨u1, rfl, hs1⟩ := zSR_l hs
    obtain ⟨u2, rfl, hs2⟩ := zSR_l hs1
    exact lv_lor hx hb hd (k _ ⟨rfl, hs2⟩)
  · cases hf
theorem ok_lcmp (hd : decode inf.1 pc = .ok (.lcmp, 1)) : zOK inf pc (z_lcmp  (pc + 1)) := by
  refine zOK_stk (fun ls st z p' ls' st' z' hf => ?_)
  unfold z_lcmp at hf
  split at hf
  · cases hf
    refine ⟨⟨rfl, rfl⟩, ?_⟩
    intro p l e R s m args below meth c H locs cells slots Q X A w0 ws lsm stm C I hs k
    obtain ⟨hx, hb, hml, hown, hts, hSx, hA, hnm, hfr, hlo, hlk, hfl⟩ := C
    obtain ⟨u1, rfl, hs1⟩ := zSR_l hs
    obtain ⟨u2, rfl, hs2⟩ := zSR_l hs1
    exact W.lcmp hx hb hd (k _ ⟨rfl, hs2⟩)
  · cases hf
theorem ok_lshl (hd : decode inf.1 pc = .ok (.lshl, 1)) : zOK inf pc (z_lshl  (pc + 1)) := by
  refine zOK_stk (fun ls st z p' ls' st' z' hf => ?_)
  unfold z_lshl at hf
  split at hf
  · cases hf
    refine ⟨⟨rfl, rfl⟩, ?_⟩
    intro p l e R s m args below meth c H locs cells slots Q X A w0 ws lsm stm C I hs k
    obtain ⟨hx, hb, hml, hown, hts, hSx, hA, hnm, hfr, hlo, hlk, hfl⟩ := C
    obtain ⟨u1, rfl, hs1⟩ := zSR_i hs
    obtain ⟨u2, rfl, hs2⟩ := zSR_l hs1
    exact lv_lshl hx hb hd rfl (k _ ⟨rfl, hs2⟩)
  · cases hf
theorem ok_lshr (hd : decode inf.1 pc = .ok (.lshr, 1)) : zOK inf pc (z_lshr  (pc + 1)) := by
  refine zOK_stk (fun ls st z p' ls' st' z' hf => ?_)
  unfold z_lshr at hf
  split at hf
  · cases hf
    refine ⟨⟨rfl, rfl⟩, ?_⟩
    intro p l e R s m args below meth c H locs cells slots Q X A w0 ws lsm stm C I hs k
    obtain ⟨hx, hb, hml, hown, hts, hSx, hA, hnm, hfr, hlo, hlk, hfl⟩ := C
    obtain ⟨u1, rfl, hs1⟩ := zSR_i hs
    obtain ⟨u2, rfl, hs2⟩ := zSR_l hs1
    exact lv_lshr hx hb hd rfl (k _ ⟨rfl, hs2⟩)
  · cases hf
theorem ok_ineg (hd : decode inf.1 pc = .ok (.ineg, 1)) : zOK inf pc (z_ineg  (pc + 1)) := by
  refine zOK_stk (fun ls st z p' ls' st' z' hf => ?_)
  unfold z_ineg at hf
  split at hf
  · cases hf
    refine ⟨⟨rfl, rfl⟩, ?_⟩
    intro p l e R s m args below meth c H locs cells slots Q X A w0 ws lsm stm C I hs k
    obtain ⟨hx, hb, hml, hown, hts, hSx, hA, hnm, hfr, hlo, hlk, hfl⟩ := C
    obtain ⟨u1, rfl, hs1⟩ := zSR_i hs
    exact lv_ineg hx hb hd (k _ ⟨rfl, hs1⟩)
  · cases hf
theorem ok_i2l (hd : decode inf.1 pc = .ok (.i2l, 1)) : zOK inf pc (z_i2l  (pc + 1)) := by
  refine zOK_stk (fun ls st z p' ls' st' z' hf => ?_)
  unfold z_i2l at hf
  split at hf
  · cases hf
    refine ⟨⟨rfl, rfl⟩, ?_⟩
    intro p l e R s m args below meth c H locs cells slots Q X A w0 ws lsm stm C I hs k
    obtain ⟨hx, hb, hml, hown, hts, hSx, hA, hnm, hfr, hlo, hlk, hfl⟩ := C
    obtain ⟨u1, rfl, hs1⟩ := zSR_i hs
    exact lv_i2l hx hb hd rfl (k _ ⟨rfl, hs1⟩)
  · cases hf
theorem ok_l2i (hd : decode inf.1 pc = .ok (.l2i, 1)) : zOK inf pc (z_l2i  (pc + 1)) := by
  refine zOK_stk (fun ls st z p' ls' st' z' hf => ?_)
  unfold z_l2i at hf
  split at hf
  · cases hf
    refine ⟨⟨rfl, rfl⟩, ?_⟩
    intro p l e R s m args below meth c H locs cells slots Q X A w0 ws lsm stm C I hs k
    obtain ⟨hx, hb, hml, hown, hts, hSx, hA, hnm, hfr, hlo, hlk, hfl⟩ := C
    obtain ⟨u1, rfl, hs1⟩ := zSR_l hs
    exact lv_l2i hx hb hd rfl (k _ ⟨rfl, hs1⟩)
  · cases hf
theorem ok_i2b (hd : decode inf.1 pc = .ok (.i2b, 1)) : zOK inf pc (z_i2b  (pc + 1)) := by
  refine zOK_stk (fun ls st z p' ls' st' z' hf => ?_)
  unfold z_i2b at hf
  split at hf
  · cases hf
    refine ⟨⟨rfl, rfl⟩, ?_⟩
    intro p l e R s m args below meth c H locs cells slots Q X A w0 ws lsm stm C I hs k
    obtain ⟨hx, hb, hml, hown, hts, hSx, hA, hnm, hfr, hlo, hlk, hfl⟩ := C
    obtain ⟨u1, rfl, hs1⟩ := zSR_i hs
    exact lv_i2b hx hb hd rfl (k _ ⟨rfl, hs1⟩)
  · cases hf
theorem ok_i2s (hd : decode inf.1 pc = .ok (.i2s, 1)) : zOK inf pc (z_i2s  (pc + 1)) := by
  refine zOK_stk (fun ls st z p' ls' st' z' hf => ?_)
  unfold z_i2s at hf
  split at hf
  · cases hf
    refine ⟨⟨rfl, rfl⟩, ?_⟩
    intro p l e R s m args below meth c H locs cells slots Q X A w0 ws lsm stm C I hs k
    obtain ⟨hx, hb, hml, hown, hts, hSx, hA, hnm, hfr, hlo, hlk, hfl⟩ := C
    obtain ⟨u1, rfl, hs1⟩ := zSR_i hs
    exact lv_i2s hx hb hd rfl (k _ ⟨rfl, hs1⟩)
  · cases hf
theorem ok_i2c (hd : decode inf.1 pc = .ok (.i2c, 1)) : zOK inf pc (z_i2c  (pc + 1)) := by
  refine zOK_stk (fun ls st z p' ls' st' z' hf => ?_)
  unfold z_i2c at hf
  split at hf
  · cases hf
    refine ⟨⟨rfl, rfl⟩, ?_⟩
    intro p l e R s m args below meth c H locs cells slots Q X A w0 ws lsm stm C I hs k
    obtain ⟨hx, hb, hml, hown, hts, hSx, hA, hnm, hfr, hlo, hlk, hfl⟩ := C
    obtain ⟨u1, rfl, hs1⟩ := zSR_i hs
    exact lv_i2c hx hb hd rfl (k _ ⟨rfl, hs1⟩)
  · cases hf
theorem ok_popi (hd : decode inf.1 pc = .ok (.pop, 1)) : zOK inf pc (z_popi  (pc + 1)) := by
  refine zOK_stk (fun ls st z p' ls' st' z' hf => ?_)
  unfold z_popi at hf
  split at hf
  · cases hf
    refine ⟨⟨rfl, rfl⟩, ?_⟩
    intro p l e R s m args below meth c H locs cells slots Q X A w0 ws lsm stm C I hs k
    obtain ⟨hx, hb, hml, hown, hts, hSx, hA, hnm, hfr, hlo, hlk, hfl⟩ := C
    obtain ⟨u1, rfl, hs1⟩ := zSR_i hs
    exact lv_pop hx hb hd rfl (k _ hs1)
  · cases hf
theorem ok_popr (hd : decode inf.1 pc = .ok (.pop, 1)) : zOK inf pc (z_popr  (pc + 1)) := by
  refine zOK_stk (fun ls st z p' ls' st' z' hf => ?_)
  unfold z_popr at hf
  split at hf
  · cases hf
    refine ⟨⟨rfl, rfl⟩, ?_⟩
    intro p l e R s m args below meth c H locs cells slots Q X A w0 ws lsm stm C I hs k
    obtain ⟨hx, hb, hml, hown, hts, hSx, hA, hnm, hfr, hlo, hlk, hfl⟩ := C
    obtain ⟨a0, u1, rfl, h0, hs1⟩ := zSR_r hs
    exact lv_pop hx hb hd rfl (k _ hs1)
  · cases hf
theorem ok_dupi (hd : decode inf.1 pc = .ok (.dup, 1)) : zOK inf pc (z_dupi  (pc + 1)) := by
  refine zOK_stk (fun ls st z p' ls' st' z' hf => ?_)
  unfold z_dupi at hf
  split at hf
  · cases hf
    refine ⟨⟨rfl, rfl⟩, ?_⟩
    intro p l e R s m args below meth c H locs cells slots Q X A w0 ws lsm stm C I hs k
    obtain ⟨hx, hb, hml, hown, hts, hSx, hA, hnm, hfr, hlo, hlk, hfl⟩ := C
    obtain ⟨u1, rfl, hs1⟩ := zSR_i hs
    exact lv_dup hx hb hd rfl (k _ ⟨rfl, rfl, hs1⟩)
  · cases hf
theorem ok_dupr (hd : decode inf.1 pc = .ok (.dup, 1)) : zOK inf pc (z_dupr  (pc + 1)) := by
  refine zOK_stk (fun ls st z p' ls' st' z' hf => ?_)
  unfold z_dupr at hf
  split at hf
  · cases hf
    refine ⟨⟨rfl, rfl⟩, ?_⟩
    intro p l e R s m args below meth c H locs cells slots Q X A w0 ws lsm stm C I hs k
    obtain ⟨hx, hb, hml, hown, hts, hSx, hA, hnm, hfr, hlo, hlk, hfl⟩ := C
    obtain ⟨a0, u1, rfl, h0, hs1⟩ := zSR_r hs
    exact lv_dup hx hb hd rfl (k _ ⟨⟨_, rfl, h0⟩, ⟨_, rfl, h0⟩, hs1⟩)
  · cases hf
theorem ok_dup2 (hd : decode inf.1 pc = .ok (.dup2, 1)) : zOK inf pc (z_dup2  (pc + 1)) := by
  refine zOK_stk (fun ls st z p' ls' st' z' hf => ?_)
  unfold z_dup2 at hf
  split at hf
  · cases hf
    refine ⟨⟨rfl, rfl⟩, ?_⟩
    intro p l e R s m args below meth c H locs cells slots Q X A w0 ws lsm stm C I hs k
    obtain ⟨hx, hb, hml, hown, hts, hSx, hA, hnm, hfr, hlo, hlk, hfl⟩ := C
    obtain ⟨u1, rfl, hs1⟩ := zSR_i hs
    obtain ⟨a0, u2, rfl, h0, hs2⟩ := zSR_r hs1
    exact lv_dup2_11 hx hb hd rfl rfl (k _ ⟨rfl, ⟨_, rfl, h0⟩, rfl, ⟨_, rfl, h0⟩, hs2⟩)
  · cases hf
theorem ok_iconst {n : Int} {v : Int32} (hd : decode inf.1 pc = .ok (.iconst n, 1)) (hv : Int32.ofInt n = v) : zOK inf pc (z_push (.int v) (pc + 1)) := by
  refine zOK_stk (fun ls st z p' ls' st' z' hf => ?_)
  cases hf
  refine ⟨⟨rfl, rfl⟩, ?_⟩
  intro p l e R s m args below meth c H locs cells slots Q X A w0 ws lsm stm C I hs k
  obtain ⟨hx, hb, hml, hown, hts, hSx, hA, hnm, hfr, hlo, hlk, hfl⟩ := C
  exact lv_iconst hx hb hd hv (k _ ⟨rfl, hs⟩)
theorem ok_bipush {n : Int} {v : Int32} (hd : decode inf.1 pc = .ok (.bipush n, 2)) (hv : (Int8.ofInt n).toInt32 = v) : zOK inf pc (z_push (.int v) (pc + 2)) := by
  refine zOK_stk (fun ls st z p' ls' st' z' hf => ?_)
  cases hf
  refine ⟨⟨rfl, rfl⟩, ?_⟩
  intro p l e R s m args below meth c H locs cells slots Q X A w0 ws lsm stm C I hs k
  obtain ⟨hx, hb, hml, hown, hts, hSx, hA, hnm, hfr, hlo, hlk, hfl⟩ := C
  exact lv_bipush hx hb hd hv (k _ ⟨rfl, hs⟩)
theorem ok_sipush {n : Int} {v : Int32} (hd : decode inf.1 pc = .ok (.sipush n, 3)) (hv : (Int16.ofInt n).toInt32 = v) : zOK inf pc (z_push (.int v) (pc + 3)) := by
  refine zOK_stk (fun ls st z p' ls' st' z' hf => ?_)
  cases hf
  refine ⟨⟨rfl, rfl⟩, ?_⟩
  intro p l e R s m args below meth c H locs cells slots Q X A w0 ws lsm stm C I hs k
  obtain ⟨hx, hb, hml, hown, hts, hSx, hA, hnm, hfr, hlo, hlk, hfl⟩ := C
  exact lv_sipush hx hb hd hv (k _ ⟨rfl, hs⟩)
theorem ok_lconst {n : Fin 2} {v : Int64} (hd : decode inf.1 pc = .ok (.lconst n, 1)) (hv : Int64.ofNat (n : Nat) = v) : zOK inf pc (z_push (.long v) (pc + 1)) := by
  refine zOK_stk (fun ls st z p' ls' st' z' hf => ?_)
  cases hf
  refine ⟨⟨rfl, rfl⟩, ?_⟩
  intro p l e R s m args below meth c H locs cells slots Q X A w0 ws lsm stm C I hs k
  obtain ⟨hx, hb, hml, hown, hts, hSx, hA, hnm, hfr, hlo, hlk, hfl⟩ := C
  exact lv_lconst hx hb hd hv (k _ ⟨rfl, hs⟩)
theorem ok_null (hd : decode inf.1 pc = .ok (.aconst_null, 1)) : zOK inf pc (z_push .null (pc + 1)) := by
  refine zOK_stk (fun ls st z p' ls' st' z' hf => ?_)
  cases hf
  refine ⟨⟨rfl, rfl⟩, ?_⟩
  intro p l e R s m args below meth c H locs cells slots Q X A w0 ws lsm stm C I hs k
  obtain ⟨hx, hb, hml, hown, hts, hSx, hA, hnm, hfr, hlo, hlk, hfl⟩ := C
  exact lv_null hx hb hd (k _ ⟨rfl, hs⟩)
theorem ok_ldc {i : Nat} {v : Int32} (hd : decode inf.1 pc = .ok (.ldc i, 2)) (hq : Cond.constant inf.2.1.cls i v ∈ lw_all) : zOK inf pc (z_push (.int v) (pc + 2)) := by
  refine zOK_stk (fun ls st z p' ls' st' z' hf => ?_)
  cases hf
  refine ⟨⟨rfl, rfl⟩, ?_⟩
  intro p l e R s m args below meth c H locs cells slots Q X A w0 ws lsm stm C I hs k
  obtain ⟨hx, hb, hml, hown, hts, hSx, hA, hnm, hfr, hlo, hlk, hfl⟩ := C
  exact lv_ldc hx hb hown (hts _ hq) hd (k _ ⟨rfl, hs⟩)
theorem ok_ldcw {i : Nat} {v : Int32} (hd : decode inf.1 pc = .ok (.ldc_w i, 3)) (hq : Cond.constant inf.2.1.cls i v ∈ lw_all) : zOK inf pc (z_push (.int v) (pc + 3)) := by
  refine zOK_stk (fun ls st z p' ls' st' z' hf => ?_)
  cases hf
  refine ⟨⟨rfl, rfl⟩, ?_⟩
  intro p l e R s m args below meth c H locs cells slots Q X A w0 ws lsm stm C I hs k
  obtain ⟨hx, hb, hml, hown, hts, hSx, hA, hnm, hfr, hlo, hlk, hfl⟩ := C
  exact lv_ldcw hx hb hown (hts _ hq) hd (k _ ⟨rfl, hs⟩)
theorem ok_ldc2 {i : Nat} {v : Int64} (hd : decode inf.1 pc = .ok (.ldc2_w i, 3)) (hq : Cond.constantLong inf.2.1.cls i v ∈ lw_all) : zOK inf pc (z_push (.long v) (pc + 3)) := by
  refine zOK_stk (fun ls st z p' ls' st' z' hf => ?_)
  cases hf
  refine ⟨⟨rfl, rfl⟩, ?_⟩
  intro p l e R s m args below meth c H locs cells slots Q X A w0 ws lsm stm C I hs k
  obtain ⟨hx, hb, hml, hown, hts, hSx, hA, hnm, hfr, hlo, hlk, hfl⟩ := C
  exact lv_ldc2 hx hb hown (hts _ hq) hd (k _ ⟨rfl, hs⟩)
theorem ok_ldcs {i r : Nat} {tx : String} (hd : decode inf.1 pc = .ok (.ldc i, 2)) (hr : r < 100) (hq : (inf.2.1.cls, i, tx, r) ∈ zStrs) : zOK inf pc (z_push (.ref r) (pc + 2)) := by
  refine zOK_stk (fun ls st z p' ls' st' z' hf => ?_)
  cases hf
  refine ⟨⟨rfl, rfl⟩, ?_⟩
  intro p l e R s m args below meth c H locs cells slots Q X A w0 ws lsm stm C I hs k
  obtain ⟨hx, hb, hml, hown, hts, hSx, hA, hnm, hfr, hlo, hlk, hfl⟩ := C
  exact va_ldcS hx hb hown (hSx.2.2.1 _ hq) hd (k _ ⟨⟨_, rfl, Or.inl ⟨hr, rfl⟩⟩, hs⟩)
theorem ok_ldcsw {i r : Nat} {tx : String} (hd : decode inf.1 pc = .ok (.ldc_w i, 3)) (hr : r < 100) (hq : (inf.2.1.cls, i, tx, r) ∈ zStrs) : zOK inf pc (z_push (.ref r) (pc + 3)) := by
  refine zOK_stk (fun ls st z p' ls' st' z' hf => ?_)
  cases hf
  refine ⟨⟨rfl, rfl⟩, ?_⟩
  intro p l e R s m args below meth c H locs cells slots Q X A w0 ws lsm stm C I hs k
  obtain ⟨hx, hb, hml, hown, hts, hSx, hA, hnm, hfr, hlo, hlk, hfl⟩ := C
  have hZ := hSx.2.2.1 _ hq
  intro T hT X9
  obtain ⟨t, a1, b1⟩ := k (.ref (xK X r) :: stm) ⟨⟨_, rfl, Or.inl ⟨hr, rfl⟩⟩, hs⟩ T hT X9
  exact ⟨t, X9.ldcStringW hx hown (text := tx) (a := xK X r) hZ.1 hZ.2 (g := F0 m pc lsm stm) rfl (by rw [hb]; exact hd) t a1, b1⟩
theorem ok_goto {off : Int} {t : Nat} (hd : decode inf.1 pc = .ok (.goto off, 3)) (ht : (pc : Int) + off = (t : Int)) : zOK inf pc (z_goto t) := by
  refine zOK_stk (fun ls st z p' ls' st' z' hf => ?_)
  cases hf
  refine ⟨⟨rfl, rfl⟩, ?_⟩
  intro p l e R s m args below meth c H locs cells slots Q X A w0 ws lsm stm C I hs k
  obtain ⟨hx, hb, hml, hown, hts, hSx, hA, hnm, hfr, hlo, hlk, hfl⟩ := C
  exact lv_goto hx hb hd ht (k _ hs)
theorem ok_ifeq {off : Int} {t : Nat} (hd : decode inf.1 pc = .ok (.ifCond .eq off, 3)) (ht : (pc : Int) + off = (t : Int)) : zOK inf pc (z_ifeq t (pc + 3)) := by
  refine zOK_stk (fun ls st z p' ls' st' z' hf => ?_)
  unfold z_ifeq at hf
  split at hf
  · rename_i st1
    split at hf
    · rename_i hcond
      cases hf
      refine ⟨⟨rfl, rfl⟩, ?_⟩
      intro p l e R s m args below meth c H locs cells slots Q X A w0 ws lsm stm C I hs k
      obtain ⟨hx, hb, hml, hown, hts, hSx, hA, hnm, hfr, hlo, hlk, hfl⟩ := C
      obtain ⟨u1, rfl, hs1⟩ := zSR_i hs
      exact lv_if_eq hx hb hd ht (fun _ => k _ hs1) (fun h => absurd hcond h)
    · rename_i hcond
      cases hf
      refine ⟨⟨rfl, rfl⟩, ?_⟩
      intro p l e R s m args below meth c H locs cells slots Q X A w0 ws lsm stm C I hs k
      obtain ⟨hx, hb, hml, hown, hts, hSx, hA, hnm, hfr, hlo, hlk, hfl⟩ := C
      obtain ⟨u1, rfl, hs1⟩ := zSR_i hs
      exact lv_if_eq hx hb hd ht (fun h => absurd h hcond) (fun _ => k _ hs1)
  · cases hf
theorem ok_iceq {off : Int} {t : Nat} (hd : decode inf.1 pc = .ok (.if_icmp .eq off, 3)) (ht : (pc : Int) + off = (t : Int)) : zOK inf pc (z_iceq t (pc + 3)) := by
  refine zOK_stk (fun ls st z p' ls' st' z' hf => ?_)
  unfold z_iceq at hf
  split at hf
  · rename_i st1
    split at hf
    · rename_i hcond
      cases hf
      refine ⟨⟨rfl, rfl⟩, ?_⟩
      intro p l e R s m args below meth c H locs cells slots Q X A w0 ws lsm stm C I hs k
      obtain ⟨hx, hb, hml, hown, hts, hSx, hA, hnm, hfr, hlo, hlk, hfl⟩ := C
      obtain ⟨u1, rfl, hs1⟩ := zSR_i hs
      obtain ⟨u2, rfl, hs2⟩ := zSR_i hs1
      exact lv_icmp_eq hx hb hd ht (fun _ => k _ hs2) (fun h => absurd hcond h)
    · rename_i hcond
      cases hf
      refine ⟨⟨rfl, rfl⟩, ?_⟩
      intro p l e R s m args below meth c H locs cells slots Q X A w0 ws lsm stm C I hs k
      obtain ⟨hx, hb, hml, hown, hts, hSx, hA, hnm, hfr, hlo, hlk, hfl⟩ := C
      obtain ⟨u1, rfl, hs1⟩ := zSR_i hs
      obtain ⟨u2, rfl, hs2⟩ := zSR_i hs1
      exact lv_icmp_eq hx hb hd ht (fun h => absurd h hcond) (fun _ => k _ hs2)
  · cases hf
theorem ok_ifne {off : Int} {t : Nat} (hd : decode inf.1 pc = .ok (.ifCond .ne off, 3)) (ht : (pc : Int) + off = (t : Int)) : zOK inf pc (z_ifne t (pc + 3)) := by
  refine zOK_stk (fun ls st z p' ls' st' z' hf => ?_)
  unfold z_ifne at hf
  split at hf
  · rename_i st1
    split at hf
    · rename_i hcond
      cases hf
      refine ⟨⟨rfl, rfl⟩, ?_⟩
      intro p l e R s m args below meth c H locs cells slots Q X A w0 ws lsm stm C I hs k
      obtain ⟨hx, hb, hml, hown, hts, hSx, hA, hnm, hfr, hlo, hlk, hfl⟩ := C
      obtain ⟨u1, rfl, hs1⟩ := zSR_i hs
      exact lv_if_ne hx hb hd ht (fun _ => k _ hs1) (fun h => absurd h hcond)
    · rename_i hcond
      cases hf
      refine ⟨⟨rfl, rfl⟩, ?_⟩
      intro p l e R s m args below meth c H locs cells slots Q X A w0 ws lsm stm C I hs k
      obtain ⟨hx, hb, hml, hown, hts, hSx, hA, hnm, hfr, hlo, hlk, hfl⟩ := C
      obtain ⟨u1, rfl, hs1⟩ := zSR_i hs
      exact lv_if_ne hx hb hd ht (fun h => absurd h hcond) (fun _ => k _ hs1)
  · cases hf
theorem ok_icne {off : Int} {t : Nat} (hd : decode inf.1 pc = .ok (.if_icmp .ne off, 3)) (ht : (pc : Int) + off = (t : Int)) : zOK inf pc (z_icne t (pc + 3)) := by
  refine zOK_stk (fun ls st z p' ls' st' z' hf => ?_)
  unfold z_icne at hf
  split at hf
  · rename_i st1
    split at hf
    · rename_i hcond
      cases hf
      refine ⟨⟨rfl, rfl⟩, ?_⟩
      intro p l e R s m args below meth c H locs cells slots Q X A w0 ws lsm stm C I hs k
      obtain ⟨hx, hb, hml, hown, hts, hSx, hA, hnm, hfr, hlo, hlk, hfl⟩ := C
      obtain ⟨u1, rfl, hs1⟩ := zSR_i hs
      obtain ⟨u2, rfl, hs2⟩ := zSR_i hs1
      exact lv_icmp_ne hx hb hd ht (fun _ => k _ hs2) (fun h => absurd h hcond)
    · rename_i hcond
      cases hf
      refine ⟨⟨rfl, rfl⟩, ?_⟩
      intro p l e R s m args below meth c H locs cells slots Q X A w0 ws lsm stm C I hs k
      obtain ⟨hx, hb, hml, hown, hts, hSx, hA, hnm, hfr, hlo, hlk, hfl⟩ := C
      obtain ⟨u1, rfl, hs1⟩ := zSR_i hs
      obtain ⟨u2, rfl, hs2⟩ := zSR_i hs1
      exact lv_icmp_ne hx hb hd ht (fun h => absurd h hcond) (fun _ => k _ hs2)
  · cases hf
theorem ok_iflt {off : Int} {t : Nat} (hd : decode inf.1 pc = .ok (.ifCond .lt off, 3)) (ht : (pc : Int) + off = (t : Int)) : zOK inf pc (z_iflt t (pc + 3)) := by
  refine zOK_stk (fun ls st z p' ls' st' z' hf => ?_)
  unfold z_iflt at hf
  split at hf
  · rename_i st1
    split at hf
    · rename_i hcond
      cases hf
      refine ⟨⟨rfl, rfl⟩, ?_⟩
      intro p l e R s m args below meth c H locs cells slots Q X A w0 ws lsm stm C I hs k
      obtain ⟨hx, hb, hml, hown, hts, hSx, hA, hnm, hfr, hlo, hlk, hfl⟩ := C
      obtain ⟨u1, rfl, hs1⟩ := zSR_i hs
      exact lv_if_lt hx hb hd ht (fun _ => k _ hs1) (fun h => absurd hcond h)
    · rename_i hcond
      cases hf
      refine ⟨⟨rfl, rfl⟩, ?_⟩
      intro p l e R s m args below meth c H locs cells slots Q X A w0 ws lsm stm C I hs k
      obtain ⟨hx, hb, hml, hown, hts, hSx, hA, hnm, hfr, hlo, hlk, hfl⟩ := C
      obtain ⟨u1, rfl, hs1⟩ := zSR_i hs
      exact lv_if_lt hx hb hd ht (fun h => absurd h hcond) (fun _ => k _ hs1)
  · cases hf
theorem ok_iclt {off : Int} {t : Nat} (hd : decode inf.1 pc = .ok (.if_icmp .lt off, 3)) (ht : (pc : Int) + off = (t : Int)) : zOK inf pc (z_iclt t (pc + 3)) := by
  refine zOK_stk (fun ls st z p' ls' st' z' hf => ?_)
  unfold z_iclt at hf
  split at hf
  · rename_i st1
    split at hf
    · rename_i hcond
      cases hf
      refine ⟨⟨rfl, rfl⟩, ?_⟩
      intro p l e R s m args below meth c H locs cells slots Q X A w0 ws lsm stm C I hs k
      obtain ⟨hx, hb, hml, hown, hts, hSx, hA, hnm, hfr, hlo, hlk, hfl⟩ := C
      obtain ⟨u1, rfl, hs1⟩ := zSR_i hs
      obtain ⟨u2, rfl, hs2⟩ := zSR_i hs1
      exact lv_icmp_lt hx hb hd ht (fun _ => k _ hs2) (fun h => absurd hcond h)
    · rename_i hcond
      cases hf
      refine ⟨⟨rfl, rfl⟩, ?_⟩
      intro p l e R s m args below meth c H locs cells slots Q X A w0 ws lsm stm C I hs k
      obtain ⟨hx, hb, hml, hown, hts, hSx, hA, hnm, hfr, hlo, hlk, hfl⟩ := C
      obtain ⟨u1, rfl, hs1⟩ := zSR_i hs
      obtain ⟨u2, rfl, hs2⟩ := zSR_i hs1
      exact lv_icmp_lt hx hb hd ht (fun h => absurd h hcond) (fun _ => k _ hs2)
  · cases hf
theorem ok_ifge {off : Int} {t : Nat} (hd : decode inf.1 pc = .ok (.ifCond .ge off, 3)) (ht : (pc : Int) + off = (t : Int)) : zOK inf pc (z_ifge t (pc + 3)) := by
  refine zOK_stk (fun ls st z p' ls' st' z' hf => ?_)
  unfold z_ifge at hf
  split at hf
  · rename_i st1
    split at hf
    · rename_i hcond
      cases hf
      refine ⟨⟨rfl, rfl⟩, ?_⟩
      intro p l e R s m args below meth c H locs cells slots Q X A w0 ws lsm stm C I hs k
      obtain ⟨hx, hb, hml, hown, hts, hSx, hA, hnm, hfr, hlo, hlk, hfl⟩ := C
      obtain ⟨u1, rfl, hs1⟩ := zSR_i hs
      exact lv_if_ge hx hb hd ht (fun _ => k _ hs1) (fun h => absurd hcond h)
    · rename_i hcond
      cases hf
      refine ⟨⟨rfl, rfl⟩, ?_⟩
      intro p l e R s m args below meth c H locs cells slots Q X A w0 ws lsm stm C I hs k
      obtain ⟨hx, hb, hml, hown, hts, hSx, hA, hnm, hfr, hlo, hlk, hfl⟩ := C
      obtain ⟨u1, rfl, hs1⟩ := zSR_i hs
      exact lv_if_ge hx hb hd ht (fun h => absurd h hcond) (fun _ => k _ hs1)
  · cases hf
theorem ok_icge {off : Int} {t : Nat} (hd : decode inf.1 pc = .ok (.if_icmp .ge off, 3)) (ht : (pc : Int) + off = (t : Int)) : zOK inf pc (z_icge t (pc + 3)) := by
  refine zOK_stk (fun ls st z p' ls' st' z' hf => ?_)
  unfold z_icge at hf
  split at hf
  · rename_i st1
    split at hf
    · rename_i hcond
      cases hf
      refine ⟨⟨rfl, rfl⟩, ?_⟩
      intro p l e R s m args below meth c H locs cells slots Q X A w0 ws lsm stm C I hs k
      obtain ⟨hx, hb, hml, hown, hts, hSx, hA, hnm, hfr, hlo, hlk, hfl⟩ := C
      obtain ⟨u1, rfl, hs1⟩ := zSR_i hs
      obtain ⟨u2, rfl, hs2⟩ := zSR_i hs1
      exact lv_icmp_ge hx hb hd ht (fun _ => k _ hs2) (fun h => absurd hcond h)
    · rename_i hcond
      cases hf
      refine ⟨⟨rfl, rfl⟩, ?_⟩
      intro p l e R s m args below meth c H locs cells slots Q X A w0 ws lsm stm C I hs k
      obtain ⟨hx, hb, hml, hown, hts, hSx, hA, hnm, hfr, hlo, hlk, hfl⟩ := C
      obtain ⟨u1, rfl, hs1⟩ := zSR_i hs
      obtain ⟨u2, rfl, hs2⟩ := zSR_i hs1
      exact lv_icmp_ge hx hb hd ht (fun h => absurd h hcond) (fun _ => k _ hs2)
  · cases hf
theorem ok_ifgt {off : Int} {t : Nat} (hd : decode inf.1 pc = .ok (.ifCond .gt off, 3)) (ht : (pc : Int) + off = (t : Int)) : zOK inf pc (z_ifgt t (pc + 3)) := by
  refine zOK_stk (fun ls st z p' ls' st' z' hf => ?_)
  unfold z_ifgt at hf
  split at hf
  · rename_i st1
    split at hf
    · rename_i hcond
      cases hf
      refine ⟨⟨rfl, rfl⟩, ?_⟩
      intro p l e R s m args below meth c H locs cells slots Q X A w0 ws lsm stm C I hs k
      obtain ⟨hx, hb, hml, hown, hts, hSx, hA, hnm, hfr, hlo, hlk, hfl⟩ := C
      obtain ⟨u1, rfl, hs1⟩ := zSR_i hs
      exact lv_if_gt hx hb hd ht (fun _ => k _ hs1) (fun h => absurd hcond h)
    · rename_i hcond
      cases hf
      refine ⟨⟨rfl, rfl⟩, ?_⟩
      intro p l e R s m args below meth c H locs cells slots Q X A w0 ws lsm stm C I hs k
      obtain ⟨hx, hb, hml, hown, hts, hSx, hA, hnm, hfr, hlo, hlk, hfl⟩ := C
      obtain ⟨u1, rfl, hs1⟩ := zSR_i hs
      exact lv_if_gt hx hb hd ht (fun h => absurd h hcond) (fun _ => k _ hs1)
  · cases hf
theorem ok_icgt {off : Int} {t : Nat} (hd : decode inf.1 pc = .ok (.if_icmp .gt off, 3)) (ht : (pc : Int) + off = (t : Int)) : zOK inf pc (z_icgt t (pc + 3)) := by
  refine zOK_stk (fun ls st z p' ls' st' z' hf => ?_)
  unfold z_icgt at hf
  split at hf
  · rename_i st1
    split at hf
    · rename_i hcond
      cases hf
      refine ⟨⟨rfl, rfl⟩, ?_⟩
      intro p l e R s m args below meth c H locs cells slots Q X A w0 ws lsm stm C I hs k
      obtain ⟨hx, hb, hml, hown, hts, hSx, hA, hnm, hfr, hlo, hlk, hfl⟩ := C
      obtain ⟨u1, rfl, hs1⟩ := zSR_i hs
      obtain ⟨u2, rfl, hs2⟩ := zSR_i hs1
      exact lv_icmp_gt hx hb hd ht (fun _ => k _ hs2) (fun h => absurd hcond h)
    · rename_i hcond
      cases hf
      refine ⟨⟨rfl, rfl⟩, ?_⟩
      intro p l e R s m args below meth c H locs cells slots Q X A w0 ws lsm stm C I hs k
      obtain ⟨hx, hb, hml, hown, hts, hSx, hA, hnm, hfr, hlo, hlk, hfl⟩ := C
      obtain ⟨u1, rfl, hs1⟩ := zSR_i hs
      obtain ⟨u2, rfl, hs2⟩ := zSR_i hs1
      exact lv_icmp_gt hx hb hd ht (fun h => absurd h hcond) (fun _ => k _ hs2)
  · cases hf
theorem ok_ifle {off : Int} {t : Nat} (hd : decode inf.1 pc = .ok (.ifCond .le off, 3)) (ht : (pc : Int) + off = (t : Int)) : zOK inf pc (z_ifle t (pc + 3)) := by
  refine zOK_stk (fun ls st z p' ls' st' z' hf => ?_)
  unfold z_ifle at hf
  split at hf
  · rename_i st1
    split at hf
    · rename_i hcond
      cases hf
      refine ⟨⟨rfl, rfl⟩, ?_⟩
      intro p l e R s m args below meth c H locs cells slots Q X A w0 ws lsm stm C I hs k
      obtain ⟨hx, hb, hml, hown, hts, hSx, hA, hnm, hfr, hlo, hlk, hfl⟩ := C
      obtain ⟨u1, rfl, hs1⟩ := zSR_i hs
      exact lv_if_le hx hb hd ht (fun _ => k _ hs1) (fun h => absurd hcond h)
    · rename_i hcond
      cases hf
      refine ⟨⟨rfl, rfl⟩, ?_⟩
      intro p l e R s m args below meth c H locs cells slots Q X A w0 ws lsm stm C I hs k
      obtain ⟨hx, hb, hml, hown, hts, hSx, hA, hnm, hfr, hlo, hlk, hfl⟩ := C
      obtain ⟨u1, rfl, hs1⟩ := zSR_i hs
      exact lv_if_le hx hb hd ht (fun h => absurd h hcond) (fun _ => k _ hs1)
  · cases hf
theorem ok_icle {off : Int} {t : Nat} (hd : decode inf.1 pc = .ok (.if_icmp .le off, 3)) (ht : (pc : Int) + off = (t : Int)) : zOK inf pc (z_icle t (pc + 3)) := by
  refine zOK_stk (fun ls st z p' ls' st' z' hf => ?_)
  unfold z_icle at hf
  split at hf
  · rename_i st1
    split at hf
    · rename_i hcond
      cases hf
      refine ⟨⟨rfl, rfl⟩, ?_⟩
      intro p l e R s m args below meth c H locs cells slots Q X A w0 ws lsm stm C I hs k
      obtain ⟨hx, hb, hml, hown, hts, hSx, hA, hnm, hfr, hlo, hlk, hfl⟩ := C
      obtain ⟨u1, rfl, hs1⟩ := zSR_i hs
      obtain ⟨u2, rfl, hs2⟩ := zSR_i hs1
      exact lv_icmp_le hx hb hd ht (fun _ => k _ hs2) (fun h => absurd hcond h)
    · rename_i hcond
      cases hf
      refine ⟨⟨rfl, rfl⟩, ?_⟩
      intro p l e R s m args below meth c H locs cells slots Q X A w0 ws lsm stm C I hs k
      obtain ⟨hx, hb, hml, hown, hts, hSx, hA, hnm, hfr, hlo, hlk, hfl⟩ := C
      obtain ⟨u1, rfl, hs1⟩ := zSR_i hs
      obtain ⟨u2, rfl, hs2⟩ := zSR_i hs1
      exact lv_icmp_le hx hb hd ht (fun h => absurd h hcond) (fun _ => k _ hs2)
  · cases hf
theorem ok_ifnull {off : Int} {t : Nat} (hd : decode inf.1 pc = .ok (.ifnull off, 3)) (ht : (pc : Int) + off = (t : Int)) : zOK inf pc (z_ifnull t (pc + 3)) := by
  refine zOK_stk (fun ls st z p' ls' st' z' hf => ?_)
  unfold z_ifnull at hf
  split at hf
  · cases hf
    refine ⟨⟨rfl, rfl⟩, ?_⟩
    intro p l e R s m args below meth c H locs cells slots Q X A w0 ws lsm stm C I hs k
    obtain ⟨hx, hb, hml, hown, hts, hSx, hA, hnm, hfr, hlo, hlk, hfl⟩ := C
    obtain ⟨u1, rfl, hs1⟩ := zSR_n hs
    exact lv_ifnullN hx hb hd ht (k _ hs1)
  · cases hf
    refine ⟨⟨rfl, rfl⟩, ?_⟩
    intro p l e R s m args below meth c H locs cells slots Q X A w0 ws lsm stm C I hs k
    obtain ⟨hx, hb, hml, hown, hts, hSx, hA, hnm, hfr, hlo, hlk, hfl⟩ := C
    obtain ⟨a0, u1, rfl, h0, hs1⟩ := zSR_r hs
    exact lv_ifnull hx hb hd (k _ hs1)
  · cases hf
theorem ok_ifnon {off : Int} {t : Nat} (hd : decode inf.1 pc = .ok (.ifnonnull off, 3)) (ht : (pc : Int) + off = (t : Int)) : zOK inf pc (z_ifnon t (pc + 3)) := by
  refine zOK_stk (fun ls st z p' ls' st' z' hf => ?_)
  unfold z_ifnon at hf
  split at hf
  · cases hf
    refine ⟨⟨rfl, rfl⟩, ?_⟩
    intro p l e R s m args below meth c H locs cells slots Q X A w0 ws lsm stm C I hs k
    obtain ⟨hx, hb, hml, hown, hts, hSx, hA, hnm, hfr, hlo, hlk, hfl⟩ := C
    obtain ⟨u1, rfl, hs1⟩ := zSR_n hs
    exact lv_ifnonnullN hx hb hd (k _ hs1)
  · cases hf
    refine ⟨⟨rfl, rfl⟩, ?_⟩
    intro p l e R s m args below meth c H locs cells slots Q X A w0 ws lsm stm C I hs k
    obtain ⟨hx, hb, hml, hown, hts, hSx, hA, hnm, hfr, hlo, hlk, hfl⟩ := C
    obtain ⟨a0, u1, rfl, h0, hs1⟩ := zSR_r hs
    exact lv_ifnonnull hx hb hd ht (k _ hs1)
  · cases hf
theorem ok_tsw {df : Int} {hi : Nat} {offs : Array Int} {len : Nat} {ts : List Nat} {dt : Nat} (hd : decode inf.1 pc = .ok (.tableswitch df 0 (hi : Int) offs, len)) (hlen : ts.length = hi + 1) (hdf : (pc : Int) + df = (dt : Int)) (hts1 : ∀ j, j < hi + 1 → ∃ off, offs[j]? = some off ∧ (pc : Int) + off = (ts.getD j dt : Nat)) : zOK inf pc (z_tsw ts dt) := by
  refine zOK_stk (fun ls st z p' ls' st' z' hf => ?_)
  unfold z_tsw at hf
  split at hf
  · rename_i a st1
    cases hf
    refine ⟨⟨rfl, rfl⟩, ?_⟩
    intro p l e R s m args below meth c H locs cells slots Q X A w0 ws lsm stm C I hs k
    obtain ⟨hx, hb, hml, hown, hts, hSx, hA, hnm, hfr, hlo, hlk, hfl⟩ := C
    obtain ⟨u1, rfl, hs1⟩ := zSR_i hs
    have e0 : (a < 0) ↔ a.toInt < 0 := by rw [Int32.lt_iff_toInt_lt]; rfl
    unfold ztsw at k
    by_cases h0 : a < 0
    · rw [if_pos h0] at k
      exact lv_tableOut hx hb hd (Or.inl (e0.mp h0)) hdf (k _ hs1)
    · rw [if_neg h0] at k
      have hge : 0 ≤ a.toInt := by
        have := mt e0.mpr h0
        omega
      have hcl : a.toNatClampNeg = a.toInt.toNat := rfl
      by_cases hh : (hi : Int) < a.toInt
      · have : ts.getD a.toNatClampNeg dt = dt := by
          rw [List.getD_eq_getElem?_getD, List.getElem?_eq_none (by rw [hlen, hcl]; omega)]
          rfl
        rw [this] at k
        exact lv_tableOut hx hb hd (Or.inr hh) hdf (k _ hs1)
      · obtain ⟨off, h1, h2⟩ := hts1 a.toNatClampNeg (by rw [hcl]; omega)
        refine lv_tableIn hx hb hd (by omega) hh (off := off) (tgt := ts.getD a.toNatClampNeg dt) ?_ h2 (k _ hs1)
        rw [show (a.toInt - 0).toNat = a.toNatClampNeg from by rw [hcl, Int.sub_zero]]
        exact h1
  · cases hf
end ZOKP
