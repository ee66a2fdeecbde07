set_option maxRecDepth 100000
section ZOKL
variable {inf : ZInf} {pc : Nat}
/-- all that the locals hold -/
def zfull (lsm : Array Slot) : List (Nat × Value) := (List.range lsm.size).filterMap (fun j : Nat => match lsm[j]? with | some (Slot.val u) => some (j, u) | _ => none)
theorem zfull_mem {lsm : Array Slot} {j : Nat} {u : Value} (h : lsm[j]? = some (.val u)) : (j, u) ∈ zfull lsm := by
  refine List.mem_filterMap.mpr ⟨j, List.mem_range.mpr (Array.getElem?_eq_some_iff.mp h).1, ?_⟩
  rw [h]
theorem zfull_has {lsm : Array Slot} {nL : Nat} (h1 : lsm.size = nL) (h2 : lv_wf lsm) : lv_has lsm nL (zfull lsm) := by
  refine ⟨h1, h2, fun q hq => ?_⟩
  obtain ⟨j, -, hj⟩ := List.mem_filterMap.mp hq
  split at hj
  · rename_i u hu
    cases hj
    exact hu
  · cases hj
theorem zst1_at (ls : List Value) (i : Nat) (v : Value) (j : Nat) : (zst1 ls i v)[j]? = if j = i then (if i < ls.length then some v else none) else if j + 1 = i then (ls[j]?).map zclr else ls[j]? := by
  cases i with
  | zero =>
    show (ls.set 0 v)[j]? = _
    rw [List.getElem?_set]
    by_cases h : j = 0
    · subst h; rw [if_pos rfl, if_pos rfl]
    · rw [if_neg (fun e => h e.symm), if_neg h, if_neg (by omega)]
  | succ i =>
    show ((ls.modify i zclr).set (i + 1) v)[j]? = _
    rw [List.getElem?_set, List.length_modify]
    by_cases h : j = i + 1
    · subst h; rw [if_pos rfl, if_pos rfl]
    · rw [if_neg (fun e => h e.symm), if_neg h, List.getElem?_modify]
      by_cases h2 : j = i
      · subst h2
        rw [if_pos rfl]
        cases ls[j]? with
        | none => rfl
        | some x => show some (if j = j then zclr x else x) = some (zclr x); rw [if_pos rfl]
      · rw [if_neg (by omega)]
        cases ls[j]? with
        | none => rfl
        | some x => show some (if i = j then zclr x else x) = some x; rw [if_neg (fun e => h2 e.symm)]
theorem zst1_len (ls : List Value) (i : Nat) (v : Value) : (zst1 ls i v).length = ls.length := by
  cases i with
  | zero => show (ls.set 0 v).length = _; rw [List.length_set]
  | succ i => show ((ls.modify i zclr).set (i + 1) v).length = _; rw [List.length_set, List.length_modify]
theorem zclr_cat {X : ZX} {ws : va_W} {v w : Value} (h : zVR X ws v w) : zclr v = zdum ∨ (zclr v = v ∧ w.category = 1) := by
  cases v with
  | int x => exact Or.inr ⟨rfl, by rw [h.cat]; rfl⟩
  | long x => exact Or.inl rfl
  | null => exact Or.inr ⟨rfl, by rw [h.cat]; rfl⟩
  | ref r => exact Or.inr ⟨rfl, by rw [h.cat]; rfl⟩
  | float x => exact Or.inr ⟨rfl, by rw [h.cat]; rfl⟩
  | double x => exact h.elim
  | retAddr x => exact h.elim
theorem zLR.st1 {X : ZX} {ws : va_W} {nL : Nat} {ls : List Value} {lsm ls' : Array Slot} {i : Nat} {v w : Value} (h : zLR X ws nL ls lsm) (hi : i < nL) (hv : zVR X ws v w) (hh : lv_has ls' nL ((i, w) :: (zfull lsm).filter (fun q => !(q.1 == i) && !(q.1 + 1 == i && q.2.category == 2)))) : zLR X ws nL (zst1 ls i v) ls' := by
  refine ⟨⟨hh.1, hh.2.1, by rw [zst1_len]; exact h.1.2.2⟩, fun j u hj => ?_⟩
  rw [zst1_at] at hj
  by_cases hji : j = i
  · subst hji
    rw [if_pos rfl, if_pos (by rw [h.1.2.2]; exact hi)] at hj
    cases hj
    exact Or.inr ⟨w, hv, hh.2.2 (j, w) List.mem_cons_self⟩
  rw [if_neg hji] at hj
  by_cases hj1 : j + 1 = i
  · rw [if_pos hj1] at hj
    cases hu : ls[j]? with
    | none => rw [hu] at hj; cases hj
    | some x =>
      rw [hu] at hj
      have hj : zclr x = u := Option.some.inj hj
      rcases h.2 j x hu with e | ⟨y, h1, h2⟩
      · left; rw [← hj, e]; rfl
      · rcases zclr_cat h1 with e | ⟨e, hcat⟩
        · left; rw [← hj, e]
        · right
          refine ⟨y, by rw [← hj, e]; exact h1, hh.2.2 (j, y) (List.mem_cons_of_mem _ (List.mem_filter.mpr ⟨zfull_mem h2, ?_⟩))⟩
          simp [hji, hcat]
  · rw [if_neg hj1] at hj
    rcases h.2 j u hj with e | ⟨y, h1, h2⟩
    · exact Or.inl e
    · refine Or.inr ⟨y, h1, hh.2.2 (j, y) (List.mem_cons_of_mem _ (List.mem_filter.mpr ⟨zfull_mem h2, ?_⟩))⟩
      simp [hji, hj1]
theorem zLR.st2 {X : ZX} {ws : va_W} {nL : Nat} {ls : List Value} {lsm ls' : Array Slot} {i : Nat} {v w : Value} (h : zLR X ws nL ls lsm) (hi : i + 1 < nL) (hv : zVR X ws v w) (hh : lv_has ls' nL ((i, w) :: (zfull lsm).filter (fun q => !(q.1 == i) && (!(q.1 == i + 1) && !(q.1 + 1 == i && q.2.category == 2))))) : zLR X ws nL ((zst1 ls i v).set (i + 1) zdum) ls' := by
  refine ⟨⟨hh.1, hh.2.1, by rw [List.length_set, zst1_len]; exact h.1.2.2⟩, fun j u hj => ?_⟩
  rw [List.getElem?_set] at hj
  by_cases hj2 : i + 1 = j
  · rw [if_pos hj2] at hj
    split at hj
    · cases hj; exact Or.inl rfl
    · cases hj
  rw [if_neg hj2, zst1_at] at hj
  by_cases hji : j = i
  · subst hji
    rw [if_pos rfl, if_pos (by rw [h.1.2.2]; omega)] at hj
    cases hj
    exact Or.inr ⟨w, hv, hh.2.2 (j, w) List.mem_cons_self⟩
  rw [if_neg hji] at hj
  by_cases hj1 : j + 1 = i
  · rw [if_pos hj1] at hj
    cases hu : ls[j]? with
    | none => rw [hu] at hj; cases hj
    | some x =>
      rw [hu] at hj
      have hj : zclr x = u := Option.some.inj hj
      rcases h.2 j x hu with e | ⟨y, h1, h2⟩
      · left; rw [← hj, e]; rfl
      · rcases zclr_cat h1 with e | ⟨e, hcat⟩
        · left; rw [← hj, e]
        · right
          refine ⟨y, by rw [← hj, e]; exact h1, hh.2.2 (j, y) (List.mem_cons_of_mem _ (List.mem_filter.mpr ⟨zfull_mem h2, ?_⟩))⟩
          simp [hji, hcat, show ¬ j = i + 1 from fun e => hj2 e.symm]
  · rw [if_neg hj1] at hj
    rcases h.2 j u hj with e | ⟨y, h1, h2⟩
    · exact Or.inl e
    · refine Or.inr ⟨y, h1, hh.2.2 (j, y) (List.mem_cons_of_mem _ (List.mem_filter.mpr ⟨zfull_mem h2, ?_⟩))⟩
      simp [hji, hj1, show ¬ j = i + 1 from fun e => hj2 e.symm]
theorem zLR.get {X : ZX} {ws : va_W} {nL : Nat} {ls : List Value} {lsm : Array Slot} (h : zLR X ws nL ls lsm) {i : Nat} {v : Value} (hi : ls[i]? = some v) (hd : v ≠ zdum) : ∃ w, zVR X ws v w ∧ lsm[i]? = some (.val w) := by
  rcases h.2 i v hi with e | e
  · exact absurd e hd
  · exact e
theorem ok_iload_n {j : Fin 4} {i : Nat} (hd : decode inf.1 pc = .ok (.iload_n j, 1)) (hj : (j : Nat) = i) : zOK inf pc (z_iload i (pc + 1)) := by
  refine zOK_pure (fun ls st z p' ls' st' z' hf => ?_)
  unfold z_iload at hf
  split at hf
  · rename_i a ha
    cases hf
    refine ⟨rfl, ?_⟩
    intro p l e R s m args below meth c H locs cells slots Q X A w0 ws lsm stm C I k
    obtain ⟨hx, hb, hml, hown, hts, hSx, hA, hnm, hfr, hlo, hlk, hfl⟩ := C
    obtain ⟨hH, hP, hD, hS, hE, hL, hs⟩ := I
    obtain ⟨w, hw, hl⟩ := hL.get ha (fun q => by cases q)
    have hw : w = .int a := hw
    subst hw
    exact lv_iload_n hx hb hd hj hl (k _ _ hL ⟨rfl, hs⟩)
  · cases hf
theorem ok_iload {i : Nat} (hd : decode inf.1 pc = .ok (.iload i, 2)) : zOK inf pc (z_iload i (pc + 2)) := by
  refine zOK_pure (fun ls st z p' ls' st' z' hf => ?_)
  unfold z_iload at hf
  split at hf
  · rename_i a ha
    cases hf
    refine ⟨rfl, ?_⟩
    intro p l e R s m args below meth c H locs cells slots Q X A w0 ws lsm stm C I k
    obtain ⟨hx, hb, hml, hown, hts, hSx, hA, hnm, hfr, hlo, hlk, hfl⟩ := C
    obtain ⟨hH, hP, hD, hS, hE, hL, hs⟩ := I
    obtain ⟨w, hw, hl⟩ := hL.get ha (fun q => by cases q)
    have hw : w = .int a := hw
    subst hw
    exact lv_iload hx hb hd hl (k _ _ hL ⟨rfl, hs⟩)
  · cases hf
theorem ok_lload_n {j : Fin 4} {i : Nat} (hd : decode inf.1 pc = .ok (.lload_n j, 1)) (hj : (j : Nat) = i) : zOK inf pc (z_lload i (pc + 1)) := by
  refine zOK_pure (fun ls st z p' ls' st' z' hf => ?_)
  unfold z_lload at hf
  split at hf
  · rename_i a ha
    cases hf
    refine ⟨rfl, ?_⟩
    intro p l e R s m args below meth c H locs cells slots Q X A w0 ws lsm stm C I k
    obtain ⟨hx, hb, hml, hown, hts, hSx, hA, hnm, hfr, hlo, hlk, hfl⟩ := C
    obtain ⟨hH, hP, hD, hS, hE, hL, hs⟩ := I
    obtain ⟨w, hw, hl⟩ := hL.get ha (fun q => by cases q)
    have hw : w = .long a := hw
    subst hw
    exact lv_lload_n hx hb hd hj hl (k _ _ hL ⟨rfl, hs⟩)
  · cases hf
theorem ok_lload {i : Nat} (hd : decode inf.1 pc = .ok (.lload i, 2)) : zOK inf pc (z_lload i (pc + 2)) := by
  refine zOK_pure (fun ls st z p' ls' st' z' hf => ?_)
  unfold z_lload at hf
  split at hf
  · rename_i a ha
    cases hf
    refine ⟨rfl, ?_⟩
    intro p l e R s m args below meth c H locs cells slots Q X A w0 ws lsm stm C I k
    obtain ⟨hx, hb, hml, hown, hts, hSx, hA, hnm, hfr, hlo, hlk, hfl⟩ := C
    obtain ⟨hH, hP, hD, hS, hE, hL, hs⟩ := I
    obtain ⟨w, hw, hl⟩ := hL.get ha (fun q => by cases q)
    have hw : w = .long a := hw
    subst hw
    exact lv_lload hx hb hd hl (k _ _ hL ⟨rfl, hs⟩)
  · cases hf
theorem ok_aload_n {j : Fin 4} {i : Nat} (hd : decode inf.1 pc = .ok (.aload_n j, 1)) (hj : (j : Nat) = i) : zOK inf pc (z_aload i (pc + 1)) := by
  refine zOK_pure (fun ls st z p' ls' st' z' hf => ?_)
  unfold z_aload at hf
  split at hf
  · rename_i v ha
    split at hf
    · rename_i hv
      cases hf
      refine ⟨rfl, ?_⟩
      intro p l e R s m args below meth c H locs cells slots Q X A w0 ws lsm stm C I k
      obtain ⟨hx, hb, hml, hown, hts, hSx, hA, hnm, hfr, hlo, hlk, hfl⟩ := C
      obtain ⟨hH, hP, hD, hS, hE, hL, hs⟩ := I
      obtain ⟨w, hw, hl⟩ := hL.get ha (fun q => by rw [q] at hv; cases hv)
      cases v with
      | null =>
        have hw : w = .null := hw
        subst hw
        exact lv_aload_nN hx hb hd hj hl (k _ _ hL ⟨rfl, hs⟩)
      | ref r =>
        obtain ⟨a, rfl, hr⟩ := hw
        exact lv_aload_n hx hb hd hj hl (k _ _ hL ⟨⟨a, rfl, hr⟩, hs⟩)
      | int x => cases hv
      | long x => cases hv
      | float x => cases hv
      | double x => cases hv
      | retAddr x => cases hv
    · cases hf
  · cases hf
theorem ok_aload {i : Nat} (hd : decode inf.1 pc = .ok (.aload i, 2)) : zOK inf pc (z_aload i (pc + 2)) := by
  refine zOK_pure (fun ls st z p' ls' st' z' hf => ?_)
  unfold z_aload at hf
  split at hf
  · rename_i v ha
    split at hf
    · rename_i hv
      cases hf
      refine ⟨rfl, ?_⟩
      intro p l e R s m args below meth c H locs cells slots Q X A w0 ws lsm stm C I k
      obtain ⟨hx, hb, hml, hown, hts, hSx, hA, hnm, hfr, hlo, hlk, hfl⟩ := C
      obtain ⟨hH, hP, hD, hS, hE, hL, hs⟩ := I
      obtain ⟨w, hw, hl⟩ := hL.get ha (fun q => by rw [q] at hv; cases hv)
      cases v with
      | null =>
        have hw : w = .null := hw
        subst hw
        exact lv_aloadN hx hb hd hl (k _ _ hL ⟨rfl, hs⟩)
      | ref r =>
        obtain ⟨a, rfl, hr⟩ := hw
        exact lv_aload hx hb hd hl (k _ _ hL ⟨⟨a, rfl, hr⟩, hs⟩)
      | int x => cases hv
      | long x => cases hv
      | float x => cases hv
      | double x => cases hv
      | retAddr x => cases hv
    · cases hf
  · cases hf
theorem ok_istore_n {j : Fin 4} {i : Nat} (hd : decode inf.1 pc = .ok (.istore_n j, 1)) (hj : (j : Nat) = i) : zOK inf pc (z_istore i (pc + 1)) := by
  refine zOK_pure (fun ls st z p' ls' st' z' hf => ?_)
  unfold z_istore at hf
  split at hf
  · split at hf
    · rename_i hi
      cases hf
      refine ⟨rfl, ?_⟩
      intro p l e R s m args below meth c H locs cells slots Q X A w0 ws lsm stm C I k
      obtain ⟨hx, hb, hml, hown, hts, hSx, hA, hnm, hfr, hlo, hlk, hfl⟩ := C
      obtain ⟨hH, hP, hD, hS, hE, hL, hs⟩ := I
      obtain ⟨u1, rfl, hs1⟩ := zSR_i hs
      have hi : i < inf.2.2.1 := by rw [← hL.1.2.2]; exact hi
      exact lv_istore_n hx hb hd hj (zfull_has hL.1.1 hL.1.2.1) hi rfl (fun ls' h' => k _ _ (hL.st1 hi rfl h') hs1)
    · cases hf
  · cases hf
theorem ok_lstore_n {j : Fin 4} {i : Nat} (hd : decode inf.1 pc = .ok (.lstore_n j, 1)) (hj : (j : Nat) = i) : zOK inf pc (z_lstore i (pc + 1)) := by
  refine zOK_pure (fun ls st z p' ls' st' z' hf => ?_)
  unfold z_lstore at hf
  split at hf
  · split at hf
    · rename_i hi
      cases hf
      refine ⟨rfl, ?_⟩
      intro p l e R s m args below meth c H locs cells slots Q X A w0 ws lsm stm C I k
      obtain ⟨hx, hb, hml, hown, hts, hSx, hA, hnm, hfr, hlo, hlk, hfl⟩ := C
      obtain ⟨hH, hP, hD, hS, hE, hL, hs⟩ := I
      obtain ⟨u1, rfl, hs1⟩ := zSR_l hs
      have hi : i + 1 < inf.2.2.1 := by rw [← hL.1.2.2]; exact hi
      exact lv_lstore_n hx hb hd hj (zfull_has hL.1.1 hL.1.2.1) hi rfl (fun ls' h' => k _ _ (hL.st2 hi rfl h') hs1)
    · cases hf
  · cases hf
theorem ok_astore_n {j : Fin 4} {i : Nat} (hd : decode inf.1 pc = .ok (.astore_n j, 1)) (hj : (j : Nat) = i) : zOK inf pc (z_astore i (pc + 1)) := by
  refine zOK_pure (fun ls st z p' ls' st' z' hf => ?_)
  unfold z_astore at hf
  split at hf
  · rename_i v st1
    split at hf
    · rename_i hvi
      obtain ⟨hv, hi⟩ := hvi
      cases hf
      refine ⟨rfl, ?_⟩
      intro p l e R s m args below meth c H locs cells slots Q X A w0 ws lsm stm C I k
      obtain ⟨hx, hb, hml, hown, hts, hSx, hA, hnm, hfr, hlo, hlk, hfl⟩ := C
      obtain ⟨hH, hP, hD, hS, hE, hL, hs⟩ := I
      obtain ⟨w, u1, rfl, hw, hs1⟩ := zSR_v hs
      have hi : i < inf.2.2.1 := by rw [← hL.1.2.2]; exact hi
      cases v with
      | null =>
        have hw : w = .null := hw
        subst hw
        exact lv_astore_nN hx hb hd hj (zfull_has hL.1.1 hL.1.2.1) hi rfl (fun ls' h' => k _ _ (hL.st1 hi rfl h') hs1)
      | ref r =>
        obtain ⟨a, rfl, hr⟩ := hw
        exact lv_astore_n hx hb hd hj (zfull_has hL.1.1 hL.1.2.1) hi rfl (fun ls' h' => k _ _ (hL.st1 hi ⟨a, rfl, hr⟩ h') hs1)
      | int x => cases hv
      | long x => cases hv
      | float x => cases hv
      | double x => cases hv
      | retAddr x => cases hv
    · cases hf
  · cases hf
theorem ok_istore {i : Nat} (hd : decode inf.1 pc = .ok (.istore i, 2)) : zOK inf pc (z_istore i (pc + 2)) := by
  refine zOK_pure (fun ls st z p' ls' st' z' hf => ?_)
  unfold z_istore at hf
  split at hf
  · split at hf
    · rename_i hi
      cases hf
      refine ⟨rfl, ?_⟩
      intro p l e R s m args below meth c H locs cells slots Q X A w0 ws lsm stm C I k
      obtain ⟨hx, hb, hml, hown, hts, hSx, hA, hnm, hfr, hlo, hlk, hfl⟩ := C
      obtain ⟨hH, hP, hD, hS, hE, hL, hs⟩ := I
      obtain ⟨u1, rfl, hs1⟩ := zSR_i hs
      have hi : i < inf.2.2.1 := by rw [← hL.1.2.2]; exact hi
      exact lv_istore hx hb hd (zfull_has hL.1.1 hL.1.2.1) hi rfl (fun ls' h' => k _ _ (hL.st1 hi rfl h') hs1)
    · cases hf
  · cases hf
theorem ok_lstore {i : Nat} (hd : decode inf.1 pc = .ok (.lstore i, 2)) : zOK inf pc (z_lstore i (pc + 2)) := by
  refine zOK_pure (fun ls st z p' ls' st' z' hf => ?_)
  unfold z_lstore at hf
  split at hf
  · split at hf
    · rename_i hi
      cases hf
      refine ⟨rfl, ?_⟩
      intro p l e R s m args below meth c H locs cells slots Q X A w0 ws lsm stm C I k
      obtain ⟨hx, hb, hml, hown, hts, hSx, hA, hnm, hfr, hlo, hlk, hfl⟩ := C
      obtain ⟨hH, hP, hD, hS, hE, hL, hs⟩ := I
      obtain ⟨u1, rfl, hs1⟩ := zSR_l hs
      have hi : i + 1 < inf.2.2.1 := by rw [← hL.1.2.2]; exact hi
      exact lv_lstore hx hb hd (zfull_has hL.1.1 hL.1.2.1) hi rfl (fun ls' h' => k _ _ (hL.st2 hi rfl h') hs1)
    · cases hf
  · cases hf
theorem ok_astore {i : Nat} (hd : decode inf.1 pc = .ok (.astore i, 2)) : zOK inf pc (z_astore i (pc + 2)) := by
  refine zOK_pure (fun ls st z p' ls' st' z' hf => ?_)
  unfold z_astore at hf
  split at hf
  · rename_i v st1
    split at hf
    · rename_i hvi
      obtain ⟨hv, hi⟩ := hvi
      cases hf
      refine ⟨rfl, ?_⟩
      intro p l e R s m args below meth c H locs cells slots Q X A w0 ws lsm stm C I k
      obtain ⟨hx, hb, hml, hown, hts, hSx, hA, hnm, hfr, hlo, hlk, hfl⟩ := C
      obtain ⟨hH, hP, hD, hS, hE, hL, hs⟩ := I
      obtain ⟨w, u1, rfl, hw, hs1⟩ := zSR_v hs
      have hi : i < inf.2.2.1 := by rw [← hL.1.2.2]; exact hi
      cases v with
      | null =>
        have hw : w = .null := hw
        subst hw
        exact lv_astoreN hx hb hd (zfull_has hL.1.1 hL.1.2.1) hi rfl (fun ls' h' => k _ _ (hL.st1 hi rfl h') hs1)
      | ref r =>
        obtain ⟨a, rfl, hr⟩ := hw
        exact lv_astore hx hb hd (zfull_has hL.1.1 hL.1.2.1) hi rfl (fun ls' h' => k _ _ (hL.st1 hi ⟨a, rfl, hr⟩ h') hs1)
      | int x => cases hv
      | long x => cases hv
      | float x => cases hv
      | double x => cases hv
      | retAddr x => cases hv
    · cases hf
  · cases hf
theorem ok_iinc {i : Nat} {n : Int} {v : Int32} (hd : decode inf.1 pc = .ok (.iinc i n, 3)) (hv : Int32.ofInt n = v) : zOK inf pc (z_iinc i v (pc + 3)) := by
  refine zOK_pure (fun ls st z p' ls' st' z' hf => ?_)
  unfold z_iinc at hf
  split at hf
  · rename_i a ha
    cases hf
    refine ⟨rfl, ?_⟩
    intro p l e R s m args below meth c H locs cells slots Q X A w0 ws lsm stm C I k
    obtain ⟨hx, hb, hml, hown, hts, hSx, hA, hnm, hfr, hlo, hlk, hfl⟩ := C
    obtain ⟨hH, hP, hD, hS, hE, hL, hs⟩ := I
    obtain ⟨w, hw, hl⟩ := hL.get ha (fun q => by cases q)
    have hw : w = .int a := hw
    subst hw
    obtain ⟨j, hj⟩ := List.getElem?_of_mem (zfull_mem hl)
    have hi : i < inf.2.2.1 := by rw [← hL.1.2.2]; exact (List.getElem?_eq_some_iff.mp ha).1
    exact lv_iinc hx hb hd (zfull_has hL.1.1 hL.1.2.1) hj (by rw [hv]) hi rfl (fun ls' h' => k _ _ (hL.st1 hi rfl h') hs)
  · cases hf
end ZOKL
