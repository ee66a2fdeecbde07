set_option maxRecDepth 100000
section ZOKN
variable {inf : ZInf} {pc : Nat}
theorem zHR.lt {X : ZX} {ws : va_W} {z : ZH} (h : zHR X ws z) : 100 ≤ zn z ∧ zn z - 100 = ws.length := by have := h.1.1; omega
/-- an object's fields at the start -/
def zDef (c : Nat) : List Value := (List.range (zNf c)).map (fun k => if zRf c k then .null else .int 0)
theorem zDef_at {c k : Nat} (h : k < zNf c) : (zDef c)[k]? = some (if zRf c k then .null else .int 0) := by
  unfold zDef
  rw [List.getElem?_map, List.getElem?_range h]
  rfl
theorem zSame_new {z : ZH} {c N q : Nat} (h : q < zn z) : zSame z (snew z c N) q := by
  have hne : q ≠ zn z := by omega
  exact ⟨zu1_n _ _ _ hne, rfl, rfl, zu1_n _ _ _ hne, zu1_n _ _ _ hne, rfl, rfl, rfl, rfl⟩
theorem zSame_arr {z : ZH} {c N q : Nat} (h : q < zn z) : zSame z (sarr z c N) q := by
  have hne : q ≠ zn z := by omega
  exact ⟨zu1_n _ _ _ hne, zu1_n _ _ _ hne, rfl, rfl, rfl, zu1_n _ _ _ hne, zu1_n _ _ _ hne, zu1_n _ _ _ hne, rfl⟩
theorem zAR_last {X : ZX} {ws : va_W} {z : ZH} (h : zHR X ws z) {q : Nat} {e : va_E} : zAR X (ws ++ [(q, e)]) (zn z) q := by
  refine Or.inr ⟨h.lt.1, e, ?_⟩
  rw [h.lt.2]
  simp
set_option maxHeartbeats 800000 in
theorem ok_new {c N idx : Nat} {C : String} {T : u_T} {ty : Nat → FieldType} (hd : decode inf.1 pc = .ok (.new idx, 3)) (hc : zcl[c]? = some (C, T, N)) (hc25 : c < 25) (hN : zNf c = N) (hin : ∀ w ∈ u_ws C T N, w ∈ lw_all) (hty : ∀ k, k < N → parseFieldDescriptor (T k).2.2.1 = some (ty k)) (hdf : ∀ j, j < N → defaultValue (ty j) = vp_V (zDef c) j) (hq1 : Cond.classLink inf.2.1.cls idx C ∈ lw_all) (hq2 : Cond.instantiable C N ∈ lw_all) (hq3 : Cond.initialized C ∈ lw_all) : zOK inf pc (z_new c N (pc + 3)) := by
  intro ls st z p' ls' st' z' hf0
  unfold z_new at hf0
  cases hf0
  refine ⟨⟨Nat.le_succ _, Nat.le_add_right _ _⟩, ?_⟩
  intro p l e R s m args below meth c0 H locs cells slots Q X A w0 ws lsm stm C I hcl hsl k
  simp only [uc_snew, us_snew, Nat.add_sub_cancel_left] at hcl hsl k
  obtain ⟨hx, hb, hml, hown, hts, hSx, hA, hnm, hfr, hlo, hlk, hfl⟩ := C
  obtain ⟨hH, hP, hD, hS, hE, hL, hs⟩ := I
  refine va_new hx hb hts hin ty hty hown (hts _ hq1) (hts _ hq2) (hts _ hq3) hSx.1 hP hD hS hA hc (fs := zDef c) hdf hcl hsl hd (fun q H1 hP1 hD1 hS1 => ?_)
  refine k H1 locs _ _ _ ⟨hH.push rfl (fun y hy => zSame_new hy) (zER_obj' (zu1_s _ _ _) hc25 (by unfold zDef; simp) (fun j hj => ?_)), hP1, hD1, hS1, hE.trans zExt.push, hL.ext zExt.push, ⟨⟨q, rfl, zAR_last hH⟩, hs.ext zExt.push⟩⟩
  refine ⟨_, zDef_at hj, ?_⟩
  by_cases hz : zRf c j = true
  · rw [if_pos hz, if_pos hz, fr_snew, zu1_s]
    rfl
  · rw [if_neg hz, if_neg hz, fi_snew, zu1_s]
set_option maxHeartbeats 800000 in
theorem ok_newa50 (hd : decode inf.1 pc = .ok (.newarray .int, 2)) (hq : Cond.arrayClass .int ∈ lw_all) : zOK inf pc (z_newa 50 (pc + 2)) := by
  intro ls st z p' ls' st' z' hf0
  unfold z_newa at hf0
  split at hf0
  · rename_i a st1
    split at hf0
    · rename_i hir
      cases hf0
      refine ⟨⟨Nat.le_succ _, Nat.le_add_right _ _⟩, ?_⟩
      intro p l e R s m args below meth c0 H locs cells slots Q X A w0 ws lsm stm C I hcl hsl k
      simp only [uc_sarr, us_sarr, Nat.add_sub_cancel_left] at hcl hsl k
      obtain ⟨hx, hb, hml, hown, hts, hSx, hA, hnm, hfr, hlo, hlk, hfl⟩ := C
      obtain ⟨hH, hP, hD, hS, hE, hL, hs⟩ := I
      obtain ⟨u1, rfl, hs1⟩ := zSR_i hs
      have hv := zin_vp hir
      have hbig : zx a < 1000000 := Nat.not_le.mp fun q => hv (Or.inr q)
      have hby : zx a * componentBytes .int ≤ 536870912 := by
        have h8 : componentBytes .int ≤ 8 := by decide
        have := Nat.mul_le_mul (Nat.le_of_lt hbig) h8
        omega
      refine va_newa (atype := .int) (ty := .int) (N' := zx a) (a0 := (zx a, .inl (fun _ => 0))) hx hb (hts _ hq) rfl hSx.1 hP hD hS hA (fun cA => by rw [vp_cell_i]; rfl) (fun q => hv (Or.inl q)) rfl hby hcl hsl hd (fun q cA H1 hK1 hP1 hD1 hS1 => ?_)
      have e1 : s.vm.findClass ("[" ++ (.int : FieldType).toString) = some cA := (hK1.2 10 (cA, .int) rfl).2
      have e2 : s.vm.findClass ("[" ++ (.int : FieldType).toString) = some (xT X 50) := (hSx.1.2 0 (xT X 50, .int) rfl).2
      cases Option.some.inj (e1.symm.trans e2)
      refine k H1 locs _ _ _ ⟨hH.push rfl (fun y hy => zSame_arr hy) ?_, hP1, hD1, hS1, hE.trans zExt.push, hL.ext zExt.push, ⟨⟨q, rfl, zAR_last hH⟩, hs1.ext zExt.push⟩⟩
      rw [zER_int (z := sarr z 50 (zx a)) (zu1_s _ _ _) (by omega) (by omega) (by omega), ia_sarr, len_sarr, zu1_s, zu1_s]
    · cases hf0
  · cases hf0
set_option maxHeartbeats 800000 in
theorem ok_newa51 (hd : decode inf.1 pc = .ok (.newarray .long, 2)) (hq : Cond.arrayClass .long ∈ lw_all) : zOK inf pc (z_newa 51 (pc + 2)) := by
  intro ls st z p' ls' st' z' hf0
  unfold z_newa at hf0
  split at hf0
  · rename_i a st1
    split at hf0
    · rename_i hir
      cases hf0
      refine ⟨⟨Nat.le_succ _, Nat.le_add_right _ _⟩, ?_⟩
      intro p l e R s m args below meth c0 H locs cells slots Q X A w0 ws lsm stm C I hcl hsl k
      simp only [uc_sarr, us_sarr, Nat.add_sub_cancel_left] at hcl hsl k
      obtain ⟨hx, hb, hml, hown, hts, hSx, hA, hnm, hfr, hlo, hlk, hfl⟩ := C
      obtain ⟨hH, hP, hD, hS, hE, hL, hs⟩ := I
      obtain ⟨u1, rfl, hs1⟩ := zSR_i hs
      have hv := zin_vp hir
      have hbig : zx a < 1000000 := Nat.not_le.mp fun q => hv (Or.inr q)
      have hby : zx a * componentBytes .long ≤ 536870912 := by
        have h8 : componentBytes .long ≤ 8 := by decide
        have := Nat.mul_le_mul (Nat.le_of_lt hbig) h8
        omega
      refine va_newa (atype := .long) (ty := .long) (N' := zx a) (a0 := (zx a, vl (fun _ => 0))) hx hb (hts _ hq) rfl hSx.1 hP hD hS hA (fun cA => by rw [vp_cell_l]; rfl) (fun q => hv (Or.inl q)) rfl hby hcl hsl hd (fun q cA H1 hK1 hP1 hD1 hS1 => ?_)
      have e1 : s.vm.findClass ("[" ++ (.long : FieldType).toString) = some cA := (hK1.2 10 (cA, .long) rfl).2
      have e2 : s.vm.findClass ("[" ++ (.long : FieldType).toString) = some (xT X 51) := (hSx.1.2 1 (xT X 51, .long) rfl).2
      cases Option.some.inj (e1.symm.trans e2)
      refine k H1 locs _ _ _ ⟨hH.push rfl (fun y hy => zSame_arr hy) ?_, hP1, hD1, hS1, hE.trans zExt.push, hL.ext zExt.push, ⟨⟨q, rfl, zAR_last hH⟩, hs1.ext zExt.push⟩⟩
      rw [zER_long (z := sarr z 51 (zx a)) (zu1_s _ _ _), la_sarr, len_sarr, zu1_s, zu1_s]
    · cases hf0
  · cases hf0
set_option maxHeartbeats 800000 in
theorem ok_newa52 (hd : decode inf.1 pc = .ok (.newarray .byte, 2)) (hq : Cond.arrayClass .byte ∈ lw_all) : zOK inf pc (z_newa 52 (pc + 2)) := by
  intro ls st z p' ls' st' z' hf0
  unfold z_newa at hf0
  split at hf0
  · rename_i a st1
    split at hf0
    · rename_i hir
      cases hf0
      refine ⟨⟨Nat.le_succ _, Nat.le_add_right _ _⟩, ?_⟩
      intro p l e R s m args below meth c0 H locs cells slots Q X A w0 ws lsm stm C I hcl hsl k
      simp only [uc_sarr, us_sarr, Nat.add_sub_cancel_left] at hcl hsl k
      obtain ⟨hx, hb, hml, hown, hts, hSx, hA, hnm, hfr, hlo, hlk, hfl⟩ := C
      obtain ⟨hH, hP, hD, hS, hE, hL, hs⟩ := I
      obtain ⟨u1, rfl, hs1⟩ := zSR_i hs
      have hv := zin_vp hir
      have hbig : zx a < 1000000 := Nat.not_le.mp fun q => hv (Or.inr q)
      have hby : zx a * componentBytes .byte ≤ 536870912 := by
        have h8 : componentBytes .byte ≤ 8 := by decide
        have := Nat.mul_le_mul (Nat.le_of_lt hbig) h8
        omega
      refine va_newa (atype := .byte) (ty := .byte) (N' := zx a) (a0 := (zx a, .inl (fun _ => 0))) hx hb (hts _ hq) rfl hSx.1 hP hD hS hA (fun cA => by rw [vp_cell_i]; rfl) (fun q => hv (Or.inl q)) rfl hby hcl hsl hd (fun q cA H1 hK1 hP1 hD1 hS1 => ?_)
      have e1 : s.vm.findClass ("[" ++ (.byte : FieldType).toString) = some cA := (hK1.2 10 (cA, .byte) rfl).2
      have e2 : s.vm.findClass ("[" ++ (.byte : FieldType).toString) = some (xT X 52) := (hSx.1.2 2 (xT X 52, .byte) rfl).2
      cases Option.some.inj (e1.symm.trans e2)
      refine k H1 locs _ _ _ ⟨hH.push rfl (fun y hy => zSame_arr hy) ?_, hP1, hD1, hS1, hE.trans zExt.push, hL.ext zExt.push, ⟨⟨q, rfl, zAR_last hH⟩, hs1.ext zExt.push⟩⟩
      rw [zER_int (z := sarr z 52 (zx a)) (zu1_s _ _ _) (by omega) (by omega) (by omega), ia_sarr, len_sarr, zu1_s, zu1_s]
    · cases hf0
  · cases hf0
set_option maxHeartbeats 800000 in
theorem ok_newa53 (hd : decode inf.1 pc = .ok (.newarray .short, 2)) (hq : Cond.arrayClass .short ∈ lw_all) : zOK inf pc (z_newa 53 (pc + 2)) := by
  intro ls st z p' ls' st' z' hf0
  unfold z_newa at hf0
  split at hf0
  · rename_i a st1
    split at hf0
    · rename_i hir
      cases hf0
      refine ⟨⟨Nat.le_succ _, Nat.le_add_right _ _⟩, ?_⟩
      intro p l e R s m args below meth c0 H locs cells slots Q X A w0 ws lsm stm C I hcl hsl k
      simp only [uc_sarr, us_sarr, Nat.add_sub_cancel_left] at hcl hsl k
      obtain ⟨hx, hb, hml, hown, hts, hSx, hA, hnm, hfr, hlo, hlk, hfl⟩ := C
      obtain ⟨hH, hP, hD, hS, hE, hL, hs⟩ := I
      obtain ⟨u1, rfl, hs1⟩ := zSR_i hs
      have hv := zin_vp hir
      have hbig : zx a < 1000000 := Nat.not_le.mp fun q => hv (Or.inr q)
      have hby : zx a * componentBytes .short ≤ 536870912 := by
        have h8 : componentBytes .short ≤ 8 := by decide
        have := Nat.mul_le_mul (Nat.le_of_lt hbig) h8
        omega
      refine va_newa (atype := .short) (ty := .short) (N' := zx a) (a0 := (zx a, .inl (fun _ => 0))) hx hb (hts _ hq) rfl hSx.1 hP hD hS hA (fun cA => by rw [vp_cell_i]; rfl) (fun q => hv (Or.inl q)) rfl hby hcl hsl hd (fun q cA H1 hK1 hP1 hD1 hS1 => ?_)
      have e1 : s.vm.findClass ("[" ++ (.short : FieldType).toString) = some cA := (hK1.2 10 (cA, .short) rfl).2
      have e2 : s.vm.findClass ("[" ++ (.short : FieldType).toString) = some (xT X 53) := (hSx.1.2 3 (xT X 53, .short) rfl).2
      cases Option.some.inj (e1.symm.trans e2)
      refine k H1 locs _ _ _ ⟨hH.push rfl (fun y hy => zSame_arr hy) ?_, hP1, hD1, hS1, hE.trans zExt.push, hL.ext zExt.push, ⟨⟨q, rfl, zAR_last hH⟩, hs1.ext zExt.push⟩⟩
      rw [zER_int (z := sarr z 53 (zx a)) (zu1_s _ _ _) (by omega) (by omega) (by omega), ia_sarr, len_sarr, zu1_s, zu1_s]
    · cases hf0
  · cases hf0
set_option maxHeartbeats 800000 in
theorem ok_newa54 (hd : decode inf.1 pc = .ok (.newarray .boolean, 2)) (hq : Cond.arrayClass .boolean ∈ lw_all) : zOK inf pc (z_newa 54 (pc + 2)) := by
  intro ls st z p' ls' st' z' hf0
  unfold z_newa at hf0
  split at hf0
  · rename_i a st1
    split at hf0
    · rename_i hir
      cases hf0
      refine ⟨⟨Nat.le_succ _, Nat.le_add_right _ _⟩, ?_⟩
      intro p l e R s m args below meth c0 H locs cells slots Q X A w0 ws lsm stm C I hcl hsl k
      simp only [uc_sarr, us_sarr, Nat.add_sub_cancel_left] at hcl hsl k
      obtain ⟨hx, hb, hml, hown, hts, hSx, hA, hnm, hfr, hlo, hlk, hfl⟩ := C
      obtain ⟨hH, hP, hD, hS, hE, hL, hs⟩ := I
      obtain ⟨u1, rfl, hs1⟩ := zSR_i hs
      have hv := zin_vp hir
      have hbig : zx a < 1000000 := Nat.not_le.mp fun q => hv (Or.inr q)
      have hby : zx a * componentBytes .boolean ≤ 536870912 := by
        have h8 : componentBytes .boolean ≤ 8 := by decide
        have := Nat.mul_le_mul (Nat.le_of_lt hbig) h8
        omega
      refine va_newa (atype := .boolean) (ty := .boolean) (N' := zx a) (a0 := (zx a, .inl (fun _ => 0))) hx hb (hts _ hq) rfl hSx.1 hP hD hS hA (fun cA => by rw [vp_cell_i]; rfl) (fun q => hv (Or.inl q)) rfl hby hcl hsl hd (fun q cA H1 hK1 hP1 hD1 hS1 => ?_)
      have e1 : s.vm.findClass ("[" ++ (.boolean : FieldType).toString) = some cA := (hK1.2 10 (cA, .boolean) rfl).2
      have e2 : s.vm.findClass ("[" ++ (.boolean : FieldType).toString) = some (xT X 54) := (hSx.1.2 4 (xT X 54, .boolean) rfl).2
      cases Option.some.inj (e1.symm.trans e2)
      refine k H1 locs _ _ _ ⟨hH.push rfl (fun y hy => zSame_arr hy) ?_, hP1, hD1, hS1, hE.trans zExt.push, hL.ext zExt.push, ⟨⟨q, rfl, zAR_last hH⟩, hs1.ext zExt.push⟩⟩
      rw [zER_int (z := sarr z 54 (zx a)) (zu1_s _ _ _) (by omega) (by omega) (by omega), ia_sarr, len_sarr, zu1_s, zu1_s]
    · cases hf0
  · cases hf0
set_option maxHeartbeats 800000 in
theorem ok_newa60 {idx : Nat} (hd : decode inf.1 pc = .ok (.anewarray idx, 3)) (hq : Cond.classLink inf.2.1.cls idx "CardBowl$Slot" ∈ lw_all) : zOK inf pc (z_newa 60 (pc + 3)) := by
  intro ls st z p' ls' st' z' hf0
  unfold z_newa at hf0
  split at hf0
  · rename_i a st1
    split at hf0
    · rename_i hir
      cases hf0
      refine ⟨⟨Nat.le_succ _, Nat.le_add_right _ _⟩, ?_⟩
      intro p l e R s m args below meth c0 H locs cells slots Q X A w0 ws lsm stm C I hcl hsl k
      simp only [uc_sarr, us_sarr, Nat.add_sub_cancel_left] at hcl hsl k
      obtain ⟨hx, hb, hml, hown, hts, hSx, hA, hnm, hfr, hlo, hlk, hfl⟩ := C
      obtain ⟨hH, hP, hD, hS, hE, hL, hs⟩ := I
      obtain ⟨u1, rfl, hs1⟩ := zSR_i hs
      have hv := zin_vp hir
      have hbig : zx a < 1000000 := Nat.not_le.mp fun q => hv (Or.inr q)
      refine va_newq (N' := zx a) hx hb hown (hts _ hq) (hSx.2.2.2.1 _ (by decide)) hSx.1 hP hD hS hA (fun q => hv (Or.inl q)) rfl (by omega) hcl hsl hd (fun q cA H1 hK1 hP1 hD1 hS1 => ?_)
      obtain ⟨_, _, _, _, _, e1⟩ := (hK1.2 10 (cA, .object "CardBowl$Slot") rfl).2
      obtain ⟨_, _, _, _, _, e2⟩ := (hSx.1.2 5 (xT X 60, .object "CardBowl$Slot") rfl).2
      cases Option.some.inj (e1.symm.trans e2)
      refine k H1 locs _ _ _ ⟨hH.push rfl (fun y hy => zSame_arr hy) ?_, hP1, hD1, hS1, hE.trans zExt.push, hL.ext zExt.push, ⟨⟨q, rfl, zAR_last hH⟩, hs1.ext zExt.push⟩⟩
      rw [zER_ref (z := sarr z 60 (zx a)) (zu1_s _ _ _) (by omega) (by omega), len_sarr, zu1_s]
      refine ⟨_, rfl, fun i => ?_⟩
      rw [ra_sarr, zu1_s]
      rfl
    · cases hf0
  · cases hf0
set_option maxHeartbeats 800000 in
theorem ok_newa61 {idx : Nat} (hd : decode inf.1 pc = .ok (.anewarray idx, 3)) (hq : Cond.classLink inf.2.1.cls idx "CardBowl$State" ∈ lw_all) : zOK inf pc (z_newa 61 (pc + 3)) := by
  intro ls st z p' ls' st' z' hf0
  unfold z_newa at hf0
  split at hf0
  · rename_i a st1
    split at hf0
    · rename_i hir
      cases hf0
      refine ⟨⟨Nat.le_succ _, Nat.le_add_right _ _⟩, ?_⟩
      intro p l e R s m args below meth c0 H locs cells slots Q X A w0 ws lsm stm C I hcl hsl k
      simp only [uc_sarr, us_sarr, Nat.add_sub_cancel_left] at hcl hsl k
      obtain ⟨hx, hb, hml, hown, hts, hSx, hA, hnm, hfr, hlo, hlk, hfl⟩ := C
      obtain ⟨hH, hP, hD, hS, hE, hL, hs⟩ := I
      obtain ⟨u1, rfl, hs1⟩ := zSR_i hs
      have hv := zin_vp hir
      have hbig : zx a < 1000000 := Nat.not_le.mp fun q => hv (Or.inr q)
      refine va_newq (N' := zx a) hx hb hown (hts _ hq) (hSx.2.2.2.1 _ (by decide)) hSx.1 hP hD hS hA (fun q => hv (Or.inl q)) rfl (by omega) hcl hsl hd (fun q cA H1 hK1 hP1 hD1 hS1 => ?_)
      obtain ⟨_, _, _, _, _, e1⟩ := (hK1.2 10 (cA, .object "CardBowl$State") rfl).2
      obtain ⟨_, _, _, _, _, e2⟩ := (hSx.1.2 6 (xT X 61, .object "CardBowl$State") rfl).2
      cases Option.some.inj (e1.symm.trans e2)
      refine k H1 locs _ _ _ ⟨hH.push rfl (fun y hy => zSame_arr hy) ?_, hP1, hD1, hS1, hE.trans zExt.push, hL.ext zExt.push, ⟨⟨q, rfl, zAR_last hH⟩, hs1.ext zExt.push⟩⟩
      rw [zER_ref (z := sarr z 61 (zx a)) (zu1_s _ _ _) (by omega) (by omega), len_sarr, zu1_s]
      refine ⟨_, rfl, fun i => ?_⟩
      rw [ra_sarr, zu1_s]
      rfl
    · cases hf0
  · cases hf0
set_option maxHeartbeats 800000 in
theorem ok_newa62 {idx : Nat} (hd : decode inf.1 pc = .ok (.anewarray idx, 3)) (hq : Cond.classLink inf.2.1.cls idx "CardBowl$Paying" ∈ lw_all) : zOK inf pc (z_newa 62 (pc + 3)) := by
  intro ls st z p' ls' st' z' hf0
  unfold z_newa at hf0
  split at hf0
  · rename_i a st1
    split at hf0
    · rename_i hir
      cases hf0
      refine ⟨⟨Nat.le_succ _, Nat.le_add_right _ _⟩, ?_⟩
      intro p l e R s m args below meth c0 H locs cells slots Q X A w0 ws lsm stm C I hcl hsl k
      simp only [uc_sarr, us_sarr, Nat.add_sub_cancel_left] at hcl hsl k
      obtain ⟨hx, hb, hml, hown, hts, hSx, hA, hnm, hfr, hlo, hlk, hfl⟩ := C
      obtain ⟨hH, hP, hD, hS, hE, hL, hs⟩ := I
      obtain ⟨u1, rfl, hs1⟩ := zSR_i hs
      have hv := zin_vp hir
      have hbig : zx a < 1000000 := Nat.not_le.mp fun q => hv (Or.inr q)
      refine va_newq (N' := zx a) hx hb hown (hts _ hq) (hSx.2.2.2.1 _ (by decide)) hSx.1 hP hD hS hA (fun q => hv (Or.inl q)) rfl (by omega) hcl hsl hd (fun q cA H1 hK1 hP1 hD1 hS1 => ?_)
      obtain ⟨_, _, _, _, _, e1⟩ := (hK1.2 10 (cA, .object "CardBowl$Paying") rfl).2
      obtain ⟨_, _, _, _, _, e2⟩ := (hSx.1.2 7 (xT X 62, .object "CardBowl$Paying") rfl).2
      cases Option.some.inj (e1.symm.trans e2)
      refine k H1 locs _ _ _ ⟨hH.push rfl (fun y hy => zSame_arr hy) ?_, hP1, hD1, hS1, hE.trans zExt.push, hL.ext zExt.push, ⟨⟨q, rfl, zAR_last hH⟩, hs1.ext zExt.push⟩⟩
      rw [zER_ref (z := sarr z 62 (zx a)) (zu1_s _ _ _) (by omega) (by omega), len_sarr, zu1_s]
      refine ⟨_, rfl, fun i => ?_⟩
      rw [ra_sarr, zu1_s]
      rfl
    · cases hf0
  · cases hf0
set_option maxHeartbeats 800000 in
theorem ok_newa63 {idx : Nat} (hd : decode inf.1 pc = .ok (.anewarray idx, 3)) (hq : Cond.classLink inf.2.1.cls idx "java/lang/String" ∈ lw_all) : zOK inf pc (z_newa 63 (pc + 3)) := by
  intro ls st z p' ls' st' z' hf0
  unfold z_newa at hf0
  split at hf0
  · rename_i a st1
    split at hf0
    · rename_i hir
      cases hf0
      refine ⟨⟨Nat.le_succ _, Nat.le_add_right _ _⟩, ?_⟩
      intro p l e R s m args below meth c0 H locs cells slots Q X A w0 ws lsm stm C I hcl hsl k
      simp only [uc_sarr, us_sarr, Nat.add_sub_cancel_left] at hcl hsl k
      obtain ⟨hx, hb, hml, hown, hts, hSx, hA, hnm, hfr, hlo, hlk, hfl⟩ := C
      obtain ⟨hH, hP, hD, hS, hE, hL, hs⟩ := I
      obtain ⟨u1, rfl, hs1⟩ := zSR_i hs
      have hv := zin_vp hir
      have hbig : zx a < 1000000 := Nat.not_le.mp fun q => hv (Or.inr q)
      refine va_newq (N' := zx a) hx hb hown (hts _ hq) (hSx.2.2.2.1 _ (by decide)) hSx.1 hP hD hS hA (fun q => hv (Or.inl q)) rfl (by omega) hcl hsl hd (fun q cA H1 hK1 hP1 hD1 hS1 => ?_)
      obtain ⟨_, _, _, _, _, e1⟩ := (hK1.2 10 (cA, .object "java/lang/String") rfl).2
      obtain ⟨_, _, _, _, _, e2⟩ := (hSx.1.2 8 (xT X 63, .object "java/lang/String") rfl).2
      cases Option.some.inj (e1.symm.trans e2)
      refine k H1 locs _ _ _ ⟨hH.push rfl (fun y hy => zSame_arr hy) ?_, hP1, hD1, hS1, hE.trans zExt.push, hL.ext zExt.push, ⟨⟨q, rfl, zAR_last hH⟩, hs1.ext zExt.push⟩⟩
      rw [zER_ref (z := sarr z 63 (zx a)) (zu1_s _ _ _) (by omega) (by omega), len_sarr, zu1_s]
      refine ⟨_, rfl, fun i => ?_⟩
      rw [ra_sarr, zu1_s]
      rfl
    · cases hf0
  · cases hf0
set_option maxHeartbeats 800000 in
theorem ok_newa64 {idx : Nat} (hd : decode inf.1 pc = .ok (.anewarray idx, 3)) (hq : Cond.classLink inf.2.1.cls idx "java/lang/Object" ∈ lw_all) : zOK inf pc (z_newa 64 (pc + 3)) := by
  intro ls st z p' ls' st' z' hf0
  unfold z_newa at hf0
  split at hf0
  · rename_i a st1
    split at hf0
    · rename_i hir
      cases hf0
      refine ⟨⟨Nat.le_succ _, Nat.le_add_right _ _⟩, ?_⟩
      intro p l e R s m args below meth c0 H locs cells slots Q X A w0 ws lsm stm C I hcl hsl k
      simp only [uc_sarr, us_sarr, Nat.add_sub_cancel_left] at hcl hsl k
      obtain ⟨hx, hb, hml, hown, hts, hSx, hA, hnm, hfr, hlo, hlk, hfl⟩ := C
      obtain ⟨hH, hP, hD, hS, hE, hL, hs⟩ := I
      obtain ⟨u1, rfl, hs1⟩ := zSR_i hs
      have hv := zin_vp hir
      have hbig : zx a < 1000000 := Nat.not_le.mp fun q => hv (Or.inr q)
      refine va_newq (N' := zx a) hx hb hown (hts _ hq) (hSx.2.2.2.1 _ (by decide)) hSx.1 hP hD hS hA (fun q => hv (Or.inl q)) rfl (by omega) hcl hsl hd (fun q cA H1 hK1 hP1 hD1 hS1 => ?_)
      obtain ⟨_, _, _, _, _, e1⟩ := (hK1.2 10 (cA, .object "java/lang/Object") rfl).2
      obtain ⟨_, _, _, _, _, e2⟩ := (hSx.1.2 9 (xT X 64, .object "java/lang/Object") rfl).2
      cases Option.some.inj (e1.symm.trans e2)
      refine k H1 locs _ _ _ ⟨hH.push rfl (fun y hy => zSame_arr hy) ?_, hP1, hD1, hS1, hE.trans zExt.push, hL.ext zExt.push, ⟨⟨q, rfl, zAR_last hH⟩, hs1.ext zExt.push⟩⟩
      rw [zER_ref (z := sarr z 64 (zx a)) (zu1_s _ _ _) (by omega) (by omega), len_sarr, zu1_s]
      refine ⟨_, rfl, fun i => ?_⟩
      rw [ra_sarr, zu1_s]
      rfl
    · cases hf0
  · cases hf0
theorem ok_cast {c idx N : Nat} {C : String} {T : u_T} (hd : decode inf.1 pc = .ok (.checkcast idx, 3)) (hc : zcl[c]? = some (C, T, N)) (hc25 : c < 25) (hq : Cond.classLink inf.2.1.cls idx C ∈ lw_all) : zOK inf pc (z_cast c (pc + 3)) := by
  refine zOK_pure (fun ls st z p' ls' st' z' hf0 => ?_)
  unfold z_cast at hf0
  split at hf0
  · rename_i r st1
    split at hf0
    · rename_i hcr
      cases hf0
      refine ⟨rfl, ?_⟩
      intro p l e R s m args below meth c0 H locs cells slots Q X A w0 ws lsm stm C I k
      obtain ⟨hx, hb, hml, hown, hts, hSx, hA, hnm, hfr, hlo, hlk, hfl⟩ := C
      obtain ⟨hH, hP, hD, hS, hE, hL, hs⟩ := I
      obtain ⟨a0, u1, rfl, h0, hs1⟩ := zSR_r hs
      obtain ⟨hr1, e0, he0, hE0⟩ := hH.at (by omega) (by omega) h0
      obtain ⟨fs, rfl, hl1, hfs⟩ := zER_obj hE0 hcr hc25
      exact va_castS hx hb hown (hts _ hq) (hSx.1.1 c _ hc).2 (va_recv hSx.1 hP hc he0) hd (k _ _ hL ⟨⟨a0, rfl, h0⟩, hs1⟩)
    · cases hf0
  · cases hf0
theorem ok_cast50 {idx : Nat} (hd : decode inf.1 pc = .ok (.checkcast idx, 3)) (hq : Cond.classLink inf.2.1.cls idx "[I" ∈ lw_all) : zOK inf pc (z_cast 50 (pc + 3)) := by
  refine zOK_pure (fun ls st z p' ls' st' z' hf0 => ?_)
  unfold z_cast at hf0
  split at hf0
  · rename_i r st1
    split at hf0
    · rename_i hcr
      cases hf0
      refine ⟨rfl, ?_⟩
      intro p l e R s m args below meth c0 H locs cells slots Q X A w0 ws lsm stm C I k
      obtain ⟨hx, hb, hml, hown, hts, hSx, hA, hnm, hfr, hlo, hlk, hfl⟩ := C
      obtain ⟨hH, hP, hD, hS, hE, hL, hs⟩ := I
      obtain ⟨a0, u1, rfl, h0, hs1⟩ := zSR_r hs
      obtain ⟨hr1, e0, he0, hE0⟩ := hH.at (by omega) (by omega) h0
      rw [zER_int hcr (by omega) (by omega) (by omega)] at hE0
      subst hE0
      have e2 : s.vm.findClass "[I" = some (xT X 50) := (hSx.1.2 0 (xT X 50, .int) rfl).2
      exact va_castA hx hb hown (hts _ hq) hP (r - 100) he0 e2 hd (k _ _ hL ⟨⟨a0, rfl, h0⟩, hs1⟩)
    · cases hf0
  · cases hf0
theorem ok_cast51 {idx : Nat} (hd : decode inf.1 pc = .ok (.checkcast idx, 3)) (hq : Cond.classLink inf.2.1.cls idx "[J" ∈ lw_all) : zOK inf pc (z_cast 51 (pc + 3)) := by
  refine zOK_pure (fun ls st z p' ls' st' z' hf0 => ?_)
  unfold z_cast at hf0
  split at hf0
  · rename_i r st1
    split at hf0
    · rename_i hcr
      cases hf0
      refine ⟨rfl, ?_⟩
      intro p l e R s m args below meth c0 H locs cells slots Q X A w0 ws lsm stm C I k
      obtain ⟨hx, hb, hml, hown, hts, hSx, hA, hnm, hfr, hlo, hlk, hfl⟩ := C
      obtain ⟨hH, hP, hD, hS, hE, hL, hs⟩ := I
      obtain ⟨a0, u1, rfl, h0, hs1⟩ := zSR_r hs
      obtain ⟨hr1, e0, he0, hE0⟩ := hH.at (by omega) (by omega) h0
      rw [zER_long hcr] at hE0
      subst hE0
      have e2 : s.vm.findClass "[J" = some (xT X 51) := (hSx.1.2 1 (xT X 51, .long) rfl).2
      exact va_castA hx hb hown (hts _ hq) hP (r - 100) he0 e2 hd (k _ _ hL ⟨⟨a0, rfl, h0⟩, hs1⟩)
    · cases hf0
  · cases hf0
theorem ok_cast52 {idx : Nat} (hd : decode inf.1 pc = .ok (.checkcast idx, 3)) (hq : Cond.classLink inf.2.1.cls idx "[B" ∈ lw_all) : zOK inf pc (z_cast 52 (pc + 3)) := by
  refine zOK_pure (fun ls st z p' ls' st' z' hf0 => ?_)
  unfold z_cast at hf0
  split at hf0
  · rename_i r st1
    split at hf0
    · rename_i hcr
      cases hf0
      refine ⟨rfl, ?_⟩
      intro p l e R s m args below meth c0 H locs cells slots Q X A w0 ws lsm stm C I k
      obtain ⟨hx, hb, hml, hown, hts, hSx, hA, hnm, hfr, hlo, hlk, hfl⟩ := C
      obtain ⟨hH, hP, hD, hS, hE, hL, hs⟩ := I
      obtain ⟨a0, u1, rfl, h0, hs1⟩ := zSR_r hs
      obtain ⟨hr1, e0, he0, hE0⟩ := hH.at (by omega) (by omega) h0
      rw [zER_int hcr (by omega) (by omega) (by omega)] at hE0
      subst hE0
      have e2 : s.vm.findClass "[B" = some (xT X 52) := (hSx.1.2 2 (xT X 52, .byte) rfl).2
      exact va_castA hx hb hown (hts _ hq) hP (r - 100) he0 e2 hd (k _ _ hL ⟨⟨a0, rfl, h0⟩, hs1⟩)
    · cases hf0
  · cases hf0
theorem ok_cast53 {idx : Nat} (hd : decode inf.1 pc = .ok (.checkcast idx, 3)) (hq : Cond.classLink inf.2.1.cls idx "[S" ∈ lw_all) : zOK inf pc (z_cast 53 (pc + 3)) := by
  refine zOK_pure (fun ls st z p' ls' st' z' hf0 => ?_)
  unfold z_cast at hf0
  split at hf0
  · rename_i r st1
    split at hf0
    · rename_i hcr
      cases hf0
      refine ⟨rfl, ?_⟩
      intro p l e R s m args below meth c0 H locs cells slots Q X A w0 ws lsm stm C I k
      obtain ⟨hx, hb, hml, hown, hts, hSx, hA, hnm, hfr, hlo, hlk, hfl⟩ := C
      obtain ⟨hH, hP, hD, hS, hE, hL, hs⟩ := I
      obtain ⟨a0, u1, rfl, h0, hs1⟩ := zSR_r hs
      obtain ⟨hr1, e0, he0, hE0⟩ := hH.at (by omega) (by omega) h0
      rw [zER_int hcr (by omega) (by omega) (by omega)] at hE0
      subst hE0
      have e2 : s.vm.findClass "[S" = some (xT X 53) := (hSx.1.2 3 (xT X 53, .short) rfl).2
      exact va_castA hx hb hown (hts _ hq) hP (r - 100) he0 e2 hd (k _ _ hL ⟨⟨a0, rfl, h0⟩, hs1⟩)
    · cases hf0
  · cases hf0
theorem zarr_cell {X : ZX} {ws : va_W} {z : ZH} {s : State} {H : Heap} {r a : Nat} {e : va_E} {t : Nat} (hK : va_K (xD X) zcl (ztys (xT X)) s) (hP : va_P (xD X) zcl ws H) (he : ws[r - 100]? = some (a, e)) (hE : zER X ws z r e) (hc : zcls z r = t) (ht : 50 ≤ t ∧ t < 54) : ∃ cell : Cell, H[a]? = some cell ∧ cell.vm.isStatics = false ∧ s.vm.findClass (if t = 50 then "[I" else if t = 51 then "[J" else if t = 52 then "[B" else "[S") = some cell.cls := by
  have f0 : s.vm.findClass "[I" = some (xT X 50) := (hK.2 0 (xT X 50, .int) rfl).2
  have f1 : s.vm.findClass "[J" = some (xT X 51) := (hK.2 1 (xT X 51, .long) rfl).2
  have f2 : s.vm.findClass "[B" = some (xT X 52) := (hK.2 2 (xT X 52, .byte) rfl).2
  have f3 : s.vm.findClass "[S" = some (xT X 53) := (hK.2 3 (xT X 53, .short) rfl).2
  by_cases h51 : t = 51
  · subst h51
    rw [zER_long hc] at hE
    subst hE
    refine ⟨_, hP _ _ he, ?_, ?_⟩
    · rw [vp_cell_l]; rfl
    · rw [vp_cell_l]; exact f1
  · rw [zER_int hc ht.1 (by omega) h51] at hE
    subst hE
    refine ⟨_, hP _ _ he, ?_, ?_⟩
    · rw [vp_cell_i]; rfl
    · rw [vp_cell_i]
      rcases (show t = 50 ∨ t = 52 ∨ t = 53 by omega) with q | q | q
      · subst q; exact f0
      · subst q; exact f2
      · subst q; exact f3
theorem ok_inst50 {idx : Nat} (hd : decode inf.1 pc = .ok (.instanceof idx, 3)) (hq : Cond.classLink inf.2.1.cls idx "[I" ∈ lw_all) : zOK inf pc (z_inst 50 (pc + 3)) := by
  refine zOK_pure (fun ls st z p' ls' st' z' hf0 => ?_)
  unfold z_inst at hf0
  split at hf0
  · cases hf0
    refine ⟨rfl, ?_⟩
    intro p l e R s m args below meth c0 H locs cells slots Q X A w0 ws lsm stm C I k
    obtain ⟨hx, hb, hml, hown, hts, hSx, hA, hnm, hfr, hlo, hlk, hfl⟩ := C
    obtain ⟨hH, hP, hD, hS, hE, hL, hs⟩ := I
    obtain ⟨u1, rfl, hs1⟩ := zSR_n hs
    exact lv_instN hx hb hd (k _ _ hL ⟨rfl, hs1⟩)
  · rename_i r st1
    split at hf0
    · rename_i hcr
      cases hf0
      refine ⟨rfl, ?_⟩
      intro p l e R s m args below meth c0 H locs cells slots Q X A w0 ws lsm stm C I k
      obtain ⟨hx, hb, hml, hown, hts, hSx, hA, hnm, hfr, hlo, hlk, hfl⟩ := C
      obtain ⟨hH, hP, hD, hS, hE, hL, hs⟩ := I
      obtain ⟨a0, u1, rfl, h0, hs1⟩ := zSR_r hs
      obtain ⟨hr1, e0, he0, hE0⟩ := hH.at (by omega) (by omega) h0
      have hcell := zarr_cell hSx.1 hP he0 hE0 rfl hcr
      by_cases hct : zcls z r = 50
      · rw [if_pos hct] at k
        rw [hct] at hcell
        exact va_instE hx hb hown (hts _ hq) hcell hd (k _ _ hL ⟨rfl, hs1⟩)
      · rw [if_neg hct] at k
        generalize zcls z r = cz at hcell hct hcr
        rcases (show cz = 51 ∨ cz = 52 ∨ cz = 53 by omega) with q | q | q
        · subst q
          exact va_instNo (C := "[J") hx hb hown (hts _ hq) (hSx.2.2.2.2.2.1 ("[J", "[I") (by decide)) hcell hd (k _ _ hL ⟨rfl, hs1⟩)
        · subst q
          exact va_instNo (C := "[B") hx hb hown (hts _ hq) (hSx.2.2.2.2.2.1 ("[B", "[I") (by decide)) hcell hd (k _ _ hL ⟨rfl, hs1⟩)
        · subst q
          exact va_instNo (C := "[S") hx hb hown (hts _ hq) (hSx.2.2.2.2.2.1 ("[S", "[I") (by decide)) hcell hd (k _ _ hL ⟨rfl, hs1⟩)
    · cases hf0
  · cases hf0
theorem ok_inst52 {idx : Nat} (hd : decode inf.1 pc = .ok (.instanceof idx, 3)) (hq : Cond.classLink inf.2.1.cls idx "[B" ∈ lw_all) : zOK inf pc (z_inst 52 (pc + 3)) := by
  refine zOK_pure (fun ls st z p' ls' st' z' hf0 => ?_)
  unfold z_inst at hf0
  split at hf0
  · cases hf0
    refine ⟨rfl, ?_⟩
    intro p l e R s m args below meth c0 H locs cells slots Q X A w0 ws lsm stm C I k
    obtain ⟨hx, hb, hml, hown, hts, hSx, hA, hnm, hfr, hlo, hlk, hfl⟩ := C
    obtain ⟨hH, hP, hD, hS, hE, hL, hs⟩ := I
    obtain ⟨u1, rfl, hs1⟩ := zSR_n hs
    exact lv_instN hx hb hd (k _ _ hL ⟨rfl, hs1⟩)
  · rename_i r st1
    split at hf0
    · rename_i hcr
      cases hf0
      refine ⟨rfl, ?_⟩
      intro p l e R s m args below meth c0 H locs cells slots Q X A w0 ws lsm stm C I k
      obtain ⟨hx, hb, hml, hown, hts, hSx, hA, hnm, hfr, hlo, hlk, hfl⟩ := C
      obtain ⟨hH, hP, hD, hS, hE, hL, hs⟩ := I
      obtain ⟨a0, u1, rfl, h0, hs1⟩ := zSR_r hs
      obtain ⟨hr1, e0, he0, hE0⟩ := hH.at (by omega) (by omega) h0
      have hcell := zarr_cell hSx.1 hP he0 hE0 rfl hcr
      by_cases hct : zcls z r = 52
      · rw [if_pos hct] at k
        rw [hct] at hcell
        exact va_instE hx hb hown (hts _ hq) hcell hd (k _ _ hL ⟨rfl, hs1⟩)
      · rw [if_neg hct] at k
        generalize zcls z r = cz at hcell hct hcr
        rcases (show cz = 50 ∨ cz = 51 ∨ cz = 53 by omega) with q | q | q
        · subst q
          exact va_instNo (C := "[I") hx hb hown (hts _ hq) (hSx.2.2.2.2.2.1 ("[I", "[B") (by decide)) hcell hd (k _ _ hL ⟨rfl, hs1⟩)
        · subst q
          exact va_instNo (C := "[J") hx hb hown (hts _ hq) (hSx.2.2.2.2.2.1 ("[J", "[B") (by decide)) hcell hd (k _ _ hL ⟨rfl, hs1⟩)
        · subst q
          exact va_instNo (C := "[S") hx hb hown (hts _ hq) (hSx.2.2.2.2.2.1 ("[S", "[B") (by decide)) hcell hd (k _ _ hL ⟨rfl, hs1⟩)
    · cases hf0
  · cases hf0
theorem ok_inst53 {idx : Nat} (hd : decode inf.1 pc = .ok (.instanceof idx, 3)) (hq : Cond.classLink inf.2.1.cls idx "[S" ∈ lw_all) : zOK inf pc (z_inst 53 (pc + 3)) := by
  refine zOK_pure (fun ls st z p' ls' st' z' hf0 => ?_)
  unfold z_inst at hf0
  split at hf0
  · cases hf0
    refine ⟨rfl, ?_⟩
    intro p l e R s m args below meth c0 H locs cells slots Q X A w0 ws lsm stm C I k
    obtain ⟨hx, hb, hml, hown, hts, hSx, hA, hnm, hfr, hlo, hlk, hfl⟩ := C
    obtain ⟨hH, hP, hD, hS, hE, hL, hs⟩ := I
    obtain ⟨u1, rfl, hs1⟩ := zSR_n hs
    exact lv_instN hx hb hd (k _ _ hL ⟨rfl, hs1⟩)
  · rename_i r st1
    split at hf0
    · rename_i hcr
      cases hf0
      refine ⟨rfl, ?_⟩
      intro p l e R s m args below meth c0 H locs cells slots Q X A w0 ws lsm stm C I k
      obtain ⟨hx, hb, hml, hown, hts, hSx, hA, hnm, hfr, hlo, hlk, hfl⟩ := C
      obtain ⟨hH, hP, hD, hS, hE, hL, hs⟩ := I
      obtain ⟨a0, u1, rfl, h0, hs1⟩ := zSR_r hs
      obtain ⟨hr1, e0, he0, hE0⟩ := hH.at (by omega) (by omega) h0
      have hcell := zarr_cell hSx.1 hP he0 hE0 rfl hcr
      by_cases hct : zcls z r = 53
      · rw [if_pos hct] at k
        rw [hct] at hcell
        exact va_instE hx hb hown (hts _ hq) hcell hd (k _ _ hL ⟨rfl, hs1⟩)
      · rw [if_neg hct] at k
        generalize zcls z r = cz at hcell hct hcr
        rcases (show cz = 50 ∨ cz = 51 ∨ cz = 52 by omega) with q | q | q
        · subst q
          exact va_instNo (C := "[I") hx hb hown (hts _ hq) (hSx.2.2.2.2.2.1 ("[I", "[S") (by decide)) hcell hd (k _ _ hL ⟨rfl, hs1⟩)
        · subst q
          exact va_instNo (C := "[J") hx hb hown (hts _ hq) (hSx.2.2.2.2.2.1 ("[J", "[S") (by decide)) hcell hd (k _ _ hL ⟨rfl, hs1⟩)
        · subst q
          exact va_instNo (C := "[B") hx hb hown (hts _ hq) (hSx.2.2.2.2.2.1 ("[B", "[S") (by decide)) hcell hd (k _ _ hL ⟨rfl, hs1⟩)
    · cases hf0
  · cases hf0
theorem ok_oinit {idx : Nat} (hd : decode inf.1 pc = .ok (.invokespecial idx, 3)) (hq1 : Cond.methodLink inf.2.1.cls idx Lib.objectInit ∈ lw_all) (hq2 : Cond.instanceMethod Lib.objectInit ∈ lw_all) (hq3 : Cond.code Lib.objectInit ⟨#[0xb1]⟩ 1 none ∈ lw_all) : zOK inf pc (z_oinit (pc + 3)) := by
  refine zOK_pure (fun ls st z p' ls' st' z' hf0 => ?_)
  unfold z_oinit at hf0
  split at hf0
  · rename_i r st1
    split at hf0
    · rename_i hcr
      cases hf0
      refine ⟨rfl, ?_⟩
      intro p l e R s m args below meth c0 H locs cells slots Q X A w0 ws lsm stm C I k
      obtain ⟨hx, hb, hml, hown, hts, hSx, hA, hnm, hfr, hlo, hlk, hfl⟩ := C
      obtain ⟨hH, hP, hD, hS, hE, hL, hs⟩ := I
      obtain ⟨a0, u1, rfl, h0, hs1⟩ := zSR_r hs
      refine W.objInit hx hb hown (hts _ hq1) (hts _ hq2) (hts _ hq3) rfl (by rw [hml]; exact hL.1.1) rfl hd (by omega) ?_ (k _ _ hL hs1)
      have h8 := zcs_le hcr
      have h9 := hs1.cat
      show 2 * 0 + (u1.map fun v => v.category).sum + 12 ≤ R.locals
      omega
    · cases hf0
  · cases hf0
end ZOKN
