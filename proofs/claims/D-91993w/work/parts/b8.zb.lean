set_option maxRecDepth 100000
/-! the primitives: a list added to, a list taken from -/
section JA
variable {X : ZX} {ws : va_W} {z y : ZH} {r q : Nat}
theorem zlel_op {v : Value} (h : zlel z v = true) (hi : isL z r q) (hz : zOp z y r q) : zlel y v = true := by
  have hc := hi.1
  have hq := hi.2.2.1.2.2.1
  cases v with
  | ref p =>
    have h2 : p ≠ r := fun e => by
      subst e
      simp [zlel, hc] at h
    have h3 : p ≠ q := fun e => by
      subst e
      simp [zlel, hq] at h
    have e : zcls y p = zcls z p := by rw [hz.1.1, zu1_n _ _ _ h2, zu1_n _ _ _ h3]
    simp only [zlel, e] at h ⊢
    exact h
  | null => cases h
  | int x => cases h
  | long x => cases h
  | float x => cases h
  | double x => cases h
  | retAddr x => cases h
theorem zlel_ref {v : Value} (h : zlel z v = true) : ∃ p : Nat, v = .ref p := by
  cases v with
  | ref p => exact ⟨p, rfl⟩
  | null => cases h
  | int x => cases h
  | long x => cases h
  | float x => cases h
  | double x => cases h
  | retAddr x => cases h
theorem all_at {l : List Value} {f : Value → Bool} (h : l.all f = true) {i : Nat} {v : Value} (hi : l[i]? = some v) : f v = true := List.all_eq_true.mp h v (List.mem_of_getElem? hi)
/-- the places from a on, b of them, may be copied -/
theorem zlels_op {mc : Int32} (hi : isL z r q) (hz : zOp z y r q) (hra : zra y q = zra (opn z r q mc) q) (hall : (zls z r).all (zlel z) = true) (a b : Nat) : zlels y q a b = true := by
  unfold zlels
  rw [List.all_eq_true]
  intro j _
  rw [hra, opn_ra]
  cases e : (zls z r)[a + j]? with
  | none =>
    rw [getD_none (List.getElem?_eq_none_iff.mp e)]
    rfl
  | some v =>
    rw [getD_some e, zlel_op (all_at hall e) hi hz, Bool.or_true]
theorem cost_sladd {v : Value} : zuc z ≤ zuc (sladd z r v) ∧ zus z ≤ zus (sladd z r v) := by
  unfold sladd
  split
  · exact ⟨Nat.le_add_right _ _, Nat.le_add_right _ _⟩
  · exact ⟨Nat.le_refl _, Nat.le_refl _⟩
theorem zdat_of (hi : isL z r q) : zdat z r = q := by
  unfold zdat
  rw [hi.2.1]
/-- the list grown, laid back -/
theorem jgrow {mc x : Int32} {v N M : Nat} {l : List Value} (hM : M = N + max 1 (N / 2)) (h : zHR X ws (aH (gH (sfi (opn z r q mc) r 0 x) r q N) r (zn z) N v)) (hi : isL z r q) (hr : 100 ≤ r) (hrn : r < zn z) (hl : l = zls z r) (hN : l.length = N) (hN2 : N < 100000) (hq : zlen z q = N) (he : ∀ (i : Nat) (v : Value), l[i]? = some v → zir v = true) : zHR X ws (sls (sgro z r M) r (l ++ [.ref v])) := by
  have hrq := hi.ne
  obtain ⟨hc, hf, ⟨q1, q2, q3, q4⟩, hl0, hl1, hl2⟩ := hi
  have hrz : ¬ r = zn z := by omega
  have hqz : ¬ q = zn z := by omega
  subst hM
  generalize hy : aH (gH (sfi (opn z r q mc) r 0 x) r q N) r (zn z) N v = y at h
  have ycls : zcls y = zu1 (zu1 (zu1 (zcls z) q 64) r 24) (zn z) 64 := by rw [← hy]; rfl
  have yfi : zfi y = zu2 (zu2 (zfi (opn z r q mc)) r 0 x) r 2 (nI (N + 1)) := by rw [← hy]; rfl
  have yfr : zfr y = zu2 (zu1 (zfr z) r (fun _ => .ref q)) r 1 (.ref (zn z)) := by rw [← hy]; rfl
  have yia : zia y = zu1 (zia z) (zn z) (fun _ => 0) := by rw [← hy]; rfl
  have yla : zla y = zu1 (zla z) (zn z) (fun _ => 0) := by rw [← hy]; rfl
  have yra : zra y = zu2 (zu1 (zu1 (zra (opn z r q mc)) (zn z) (fun _ => .null)) (zn z) (va_cpy (zu1 (zra (opn z r q mc)) (zn z) (fun _ => .null) q) (zu1 (zra (opn z r q mc)) (zn z) (fun _ => .null) (zn z)) 0 0 N)) (zn z) N (.ref v) := by rw [← hy]; rfl
  have ylen : zlen y = zu1 (zlen z) (zn z) (N + max 1 (N / 2)) := by rw [← hy]; rfl
  have yls : zls y = zls z := by rw [← hy]; rfl
  have yown : zown y = zown z := by rw [← hy]; rfl
  have yn : zn y = zn z + 1 := by rw [← hy]; rfl
  clear hy
  have ra1 : ∀ i, i < N → zra y (zn z) i = l.getD i .null := fun i hlt => by
    rw [yra, zu2_k _ _ _ _ (by omega), zu1_s]
    unfold va_cpy
    rw [if_pos (by omega), zu1_n _ _ _ hqz, opn_ra, hl]
    congr 1
    omega
  have ra2 : zra y (zn z) N = .ref v := by rw [yra, zu2_s]
  have ra3 : ∀ i, N + 1 ≤ i → zra y (zn z) i = .null := fun i hle => by
    rw [yra, zu2_k _ _ _ _ (by omega), zu1_s]
    unfold va_cpy
    rw [if_neg (by omega), zu1_s]
  have el : zls (sls (sgro z r (N + max 1 (N / 2))) r (l ++ [.ref v])) r = l ++ [.ref v] := zu1_s _ _ _
  have ea : ∀ i, i < N + 1 → (l ++ [.ref v])[i]? = some (zra y (zn z) i) := fun i hlt => by
    by_cases c : i = N
    · rw [c, ra2, List.getElem?_append_right (by omega), hN, Nat.sub_self]; rfl
    · have hlt2 : i < l.length := by omega
      rw [ra1 i (by omega), List.getElem?_append_left hlt2, getD_some (List.getElem?_eq_getElem hlt2)]
      exact List.getElem?_eq_getElem hlt2
  refine zHR_cls (y := y) (q := zn z) (q0 := q) (N := N + max 1 (N / 2)) (len := N + 1) h hr (by omega) ⟨⟨?_, ?_, ?_⟩, ⟨?_, ?_⟩, by omega, by omega⟩ (by omega) (by omega) ra3 (fun i hlt => ?_) hrz ⟨q1, fun e => hrq e.symm⟩ ?_ (by rw [yn]; rfl) (fun p hp p1 p2 p3 => ?_) ?_ ?_ (zu1_s _ _ _) (zu1_s _ _ _) (zu1_s _ _ _) (by rw [el, List.length_append, hN]; rfl) (fun i hlt => by rw [el]; exact ea i hlt) ?_
  · rw [ycls, zu1_n _ _ _ hrz, zu1_s]
  · rw [yfr, zu2_s]
  · rw [yfi, zu2_s]
  · rw [ycls, zu1_s]
  · rw [ylen, zu1_s]
  · by_cases c : i = N
    · rw [c, ra2]; rfl
    · have hlt2 : i < l.length := by omega
      rw [ra1 i (by omega), getD_some (List.getElem?_eq_getElem hlt2)]
      exact he i _ (List.getElem?_eq_getElem hlt2)
  · rw [ycls, zu1_n _ _ _ hqz, zu1_n _ _ _ (fun e => hrq e.symm), zu1_s]
  · refine ⟨?_, ?_, ?_, ?_, ?_, ?_, ?_, ?_, ?_⟩
    · rw [ycls, zu1_n _ _ _ p2, zu1_n _ _ _ p1, zu1_n _ _ _ p3]
      exact zu1_n _ _ _ p2
    · rw [ylen]; rfl
    · rw [yown]; exact zu1_n _ _ _ p2
    · rw [yfi]
      funext j
      rw [zu2_n _ _ _ _ p1, zu2_n _ _ _ _ p1]
      exact (congrFun (zu1_n _ _ _ p1) j).symm
    · rw [yfr]
      funext j
      rw [zu2_n _ _ _ _ p1, zu1_n _ _ _ p1]
      exact zu2_n _ _ _ _ p1
    · rw [yia]; exact (zu1_n _ _ _ p2).symm
    · rw [yla]; exact (zu1_n _ _ _ p2).symm
    · rw [yra]
      funext j
      rw [zu2_n _ _ _ _ p2, zu1_n _ _ _ p2, zu1_n _ _ _ p2]
      exact (congrFun (zu1_n _ _ _ p3) j).symm
    · rw [yls]; exact zu1_n _ _ _ p1
  · show zu1 (zcls z) (zn z) 91 r = 90
    rw [zu1_n _ _ _ hrz, hc]
  · exact zu2_s _ _ _ _
  · show zu1 (zcls z) (zn z) 91 q = 91
    rw [zu1_n _ _ _ hqz, q3]
theorem jadd {y2 : ZH} {vv : Nat} (h : zHR X ws y2) (hz2 : zOp z y2 r q) (hfi : zfi y2 r 2 = nI ((zls z r).length + 1)) (era : ∀ i, zra y2 q i = if i = (zls z r).length then .ref vv else (zls z r).getD i .null) (hi : isL z r q) (hr1 : 100 ≤ r) (hr2 : r < zn z) (hlt : (zls z r).length < zlen z q) (hel : ∀ (i : Nat) (v : Value), (zls z r)[i]? = some v → zir v = true) : zHR X ws (sls z r (zls z r ++ [.ref vv])) := by
  have hle : (zls z r ++ [Value.ref vv]).length = (zls z r).length + 1 := List.length_append
  refine jback h hz2 hi hr1 hr2 (by rw [hfi, hle]) (by omega) (fun i v9 e9 => ?_) (fun i hge => ?_)
  · rw [era]
    by_cases c9 : i = (zls z r).length
    · rw [if_pos c9]
      rw [c9, List.getElem?_append_right (Nat.le_refl _), Nat.sub_self] at e9
      cases e9
      exact ⟨rfl, rfl⟩
    · rw [if_neg c9]
      have hlt9 : i < (zls z r ++ [Value.ref vv]).length := (List.getElem?_eq_some_iff.mp e9).1
      rw [hle] at hlt9
      rw [List.getElem?_append_left (by omega)] at e9
      exact ⟨getD_some e9, hel i _ e9⟩
  · rw [hle] at hge
    rw [era, if_neg (by omega)]
    exact getD_none (by omega)
end JA
section JAR
variable {inf : ZInf} {pc idx cnt : Nat}
set_option maxHeartbeats 2000000 in
theorem p_ladd1 (hd : decode inf.1 pc = .ok (.invokeinterface idx cnt, 5)) (hq : Cond.methodLink inf.2.1.cls idx ⟨"java/util/List", "add", "(Ljava/lang/Object;)Z"⟩ ∈ lw_all) : zOK inf pc (z_ladd1 (pc + 5)) := by
  intro ls st z p' ls' st' z' hf0
  unfold z_ladd1 at hf0
  split at hf0
  · rename_i v r st1
    split at hf0
    · rename_i hb
      obtain ⟨hzc, hc, hv, hall, hlen⟩ := hb
      cases hf0
      refine ⟨cost_sladd, ?_⟩
      intro p l e R s m args below meth c H locs cells slots Q X A w0 ws lsm stm C I hcl hsl k
      obtain ⟨vv, rfl⟩ := zlel_ref hv
      obtain ⟨hr1, hr2, q, mc, hi, hO, hel⟩ := jopen (as := [.ref vv]) (st := st1) I hc
      have hjl : jL (opn z r q mc) r q (zlen z q) (zls z r).length := zOp_opn.jL hi (by rw [opn_fi0]; rfl) hi.2.2.2.1
      have hv2 := zlel_op hv hi (zOp_opn (mc := mc))
      have hvn : vv < zn z := by
        obtain ⟨hH, hP, hD, hS, hE, hL, hs⟩ := I
        obtain ⟨a9, u1, rfl, h9, hs1⟩ := zSR_r hs
        simp only [zlel, Bool.and_eq_true, decide_eq_true_eq] at hv
        rcases h9 with ⟨w, _⟩ | ⟨_, e9, w⟩
        · omega
        · have := (List.getElem?_eq_some_iff.mp w).1
          have := hH.1.1
          omega
      by_cases hg : (zls z r).length = zlen z q
      · have ez : sladd z r (.ref vv) = sls (sgro z r (zlen z q + max 1 (zlen z q / 2))) r (zls z r ++ [.ref vv]) := by
          unfold sladd
          rw [zdat_of hi, if_pos hg]
        rw [ez] at hcl hsl k
        have hN := hi.2.2.2.2.1
        have hel2 : zlels (opn z r q mc) q 0 (zlen z q) = true := zlels_op hi zOp_opn rfl hall _ _
        have hjl2 : jL (opn z r q mc) r q (zlen z q) (zlen z q) := by rw [hg] at hjl; exact hjl
        have hrun : ZC zJ 5 5 [.ref r, .ref vv] (opn z r q mc) (fun o w => o = .inl (some (.int (nI 1))) ∧ w = aH (gH (sfi (opn z r q mc) r 0 (zfi (opn z r q mc) r 0 + nI 1)) r q (zlen z q)) r (zn z) (zlen z q) vv) :=
          Eq.mpr (jc5g (d := 0) hjl2 hN (by omega) hr2 hi.2.2.1.2.1 hel2 (fun i w hw => by
            rw [opn_ra] at hw
            cases e9 : (zls z r)[i]? with
            | none => rw [getD_none (List.getElem?_eq_none_iff.mp e9)] at hw; cases hw
            | some v9 =>
              rw [getD_some e9] at hw
              rcases hel i _ e9 with e | ⟨p9, e, w9⟩
              · rw [e] at hw; cases hw
              · rw [e] at hw
                cases hw
                show w < zn z
                omega) hvn hv2) ⟨rfl, rfl⟩
        have hgr := fun (ws' : va_W) (h : zHR X ws' (aH (gH (sfi (opn z r q mc) r 0 (zfi (opn z r q mc) r 0 + nI 1)) r q (zlen z q)) r (zn z) (zlen z q) vv)) => jgrow (N := zlen z q) (l := zls z r) (M := zlen z q + max 1 (zlen z q / 2)) rfl h hi hr1 hr2 rfl hg (by omega) rfl (zir_of hel)
        generalize hy : aH (gH (sfi (opn z r q mc) r 0 (zfi (opn z r q mc) r 0 + nI 1)) r q (zlen z q)) r (zn z) (zlen z q) vv = y2 at hrun hgr
        have u1 : zuc y2 - zuc (opn z r q mc) = 1 := by
          have e9 : zuc y2 = zuc z + 1 := by rw [← hy]; rfl
          rw [e9]; exact Nat.add_sub_cancel_left _ _
        have u2 : zus y2 - zus (opn z r q mc) = zlen z q + max 1 (zlen z q / 2) := by
          have e9 : zus y2 = zus z + (zlen z q + max 1 (zlen z q / 2)) := by rw [← hy]; rfl
          rw [e9]; exact Nat.add_sub_cancel_left _ _
        have v1 : zuc (sls (sgro z r (zlen z q + max 1 (zlen z q / 2))) r (zls z r ++ [.ref vv])) - zuc z = 1 := Nat.add_sub_cancel_left _ _
        have v2 : zus (sls (sgro z r (zlen z q + max 1 (zlen z q / 2))) r (zls z r ++ [.ref vv])) - zus z = zlen z q + max 1 (zlen z q / 2) := Nat.add_sub_cancel_left _ _
        rw [v1] at hcl k
        rw [v2] at hsl k
        clear hy v1 v2
        generalize sls (sgro z r (zlen z q + max 1 (zlen z q / 2))) r (zls z r ++ [.ref vv]) = z3 at hgr k
        refine jListF (k := 5) (n := 1) (d := 5) (as := [.ref vv]) (st1 := st1) (y1 := opn z r q mc) (y2 := y2) (z' := z3) hd rfl (jIOK (k := 5) (pc := 0) rfl) (by decide +kernel) hq q997 q999 q115 q1001 rfl ⟨by decide, by decide, by decide +kernel⟩ (by decide) (by decide) C I hzc hO (zu1_s _ _ _) rfl (by show (2 : Nat) ≤ _; decide +kernel) hrun (by rw [u1]; exact hcl) (by rw [u2]; exact hsl) hgr (fun H' locs' ws' stm' I' => ?_)
        rw [u1, u2]
        exact k H' locs' ws' lsm stm' I'
      · have ez : sladd z r (.ref vv) = sls z r (zls z r ++ [.ref vv]) := by
          unfold sladd
          rw [zdat_of hi, if_neg hg]
        rw [ez] at hcl hsl k
        have hlt : (zls z r).length < zlen z q := by have := hi.2.2.2.1; omega
        have hrun : ZC zJ 5 5 [.ref r, .ref vv] (opn z r q mc) (fun o w => o = .inl (some (.int (nI 1))) ∧ w = aH (sfi (opn z r q mc) r 0 (zfi (opn z r q mc) r 0 + nI 1)) r q (zls z r).length vv) := Eq.mpr (jc5 (d := 0) hjl hlt hv2) ⟨rfl, rfl⟩
        have u1 : zuc (aH (sfi (opn z r q mc) r 0 (zfi (opn z r q mc) r 0 + nI 1)) r q (zls z r).length vv) - zuc (opn z r q mc) = 0 := Nat.sub_self _
        have u2 : zus (aH (sfi (opn z r q mc) r 0 (zfi (opn z r q mc) r 0 + nI 1)) r q (zls z r).length vv) - zus (opn z r q mc) = 0 := Nat.sub_self _
        have era : ∀ i, zra (aH (sfi (opn z r q mc) r 0 (zfi (opn z r q mc) r 0 + nI 1)) r q (zls z r).length vv) q i = if i = (zls z r).length then .ref vv else (zls z r).getD i .null := fun i => by
          unfold aH
          rw [ra_sfi, ra_sra, ra_sfi]
          by_cases c9 : i = (zls z r).length
          · rw [if_pos c9, c9, zu2_s]
          · rw [if_neg c9, zu2_k _ _ _ _ c9, opn_ra]
        have hz2 : zOp z (aH (sfi (opn z r q mc) r 0 (zfi (opn z r q mc) r 0 + nI 1)) r q (zls z r).length vv) r q := by
          unfold aH
          exact zOp_sfi (zOp_sra (zOp_sfi zOp_opn))
        have hfi : zfi (aH (sfi (opn z r q mc) r 0 (zfi (opn z r q mc) r 0 + nI 1)) r q (zls z r).length vv) r 2 = nI ((zls z r).length + 1) := by
          unfold aH
          rw [fi_sfi, zu2_s]
        have hcv := fun (ws' : va_W) (h : zHR X ws' (aH (sfi (opn z r q mc) r 0 (zfi (opn z r q mc) r 0 + nI 1)) r q (zls z r).length vv)) => jadd h hz2 hfi era hi hr1 hr2 hlt (zir_of hel)
        clear hz2 hfi era
        generalize aH (sfi (opn z r q mc) r 0 (zfi (opn z r q mc) r 0 + nI 1)) r q (zls z r).length vv = y2 at hrun hcv u1 u2
        have v1 : zuc (sls z r (zls z r ++ [.ref vv])) - zuc z = 0 := Nat.sub_self _
        have v2 : zus (sls z r (zls z r ++ [.ref vv])) - zus z = 0 := Nat.sub_self _
        rw [v1] at hcl k
        rw [v2] at hsl k
        clear v1 v2
        generalize sls z r (zls z r ++ [.ref vv]) = z3 at hcv k
        refine jListF (k := 5) (n := 1) (d := 5) (as := [.ref vv]) (st1 := st1) (y1 := opn z r q mc) (y2 := y2) (z' := z3) hd rfl (jIOK (k := 5) (pc := 0) rfl) (by decide +kernel) hq q997 q999 q115 q1001 rfl ⟨by decide, by decide, by decide +kernel⟩ (by decide) (by decide) C I hzc hO (zu1_s _ _ _) rfl (by show (2 : Nat) ≤ _; decide +kernel) hrun (by rw [u1]; exact hcl) (by rw [u2]; exact hsl) hcv (fun H' locs' ws' stm' I' => ?_)
        rw [u1, u2]
        exact k H' locs' ws' lsm stm' I'
    · cases hf0
  · cases hf0
set_option maxHeartbeats 2000000 in
theorem p_lrem (hd : decode inf.1 pc = .ok (.invokeinterface idx cnt, 5)) (hq : Cond.methodLink inf.2.1.cls idx ⟨"java/util/List", "remove", "(I)Ljava/lang/Object;"⟩ ∈ lw_all) : zOK inf pc (z_lrem (pc + 5)) := by
  intro ls st z p' ls' st' z' hf0
  unfold z_lrem at hf0
  split at hf0
  · rename_i a r st1
    split at hf0
    · rename_i hb
      obtain ⟨hzc, hc, hin, hall⟩ := hb
      cases hf0
      refine ⟨⟨Nat.le_refl _, Nat.le_refl _⟩, ?_⟩
      intro p l e R s m args below meth c H locs cells slots Q X A w0 ws lsm stm C I hcl hsl k
      simp only [uc_sls, us_sls, Nat.sub_self, Nat.add_zero] at hcl hsl k
      obtain ⟨i, hi1, hi2, rfl⟩ := zin_of hin
      rw [zx_nI hi2] at k
      obtain ⟨hr1, hr2, q, mc, hi, hO, hel⟩ := jopen (as := [.int (nI i)]) (st := st1) I hc
      have hjl : jL (opn z r q mc) r q (zlen z q) (zls z r).length := zOp_opn.jL hi (by rw [opn_fi0]; rfl) hi.2.2.2.1
      have e9 := List.getElem?_eq_getElem hi1
      have hg : (zls z r).getD i .null = (zls z r)[i] := getD_some e9
      obtain ⟨vv, hvv⟩ := zlel_ref (all_at hall e9)
      have hrun : ZC zJ 2 11 [.ref r, .int (nI i)] (opn z r q mc) (fun o w => o = .inl (some ((zls z r).getD i .null)) ∧ w = if i + 1 = (zls z r).length then rH0 (opn z r q mc) r q (zls z r).length else rH1 (opn z r q mc) r q (zls z r).length i) := by
        rw [hg, hvv]
        exact Eq.mpr (jc11 (d := 0) hjl hi1 (by rw [opn_ra, hg, hvv]) (fun a b _ => zlels_op hi zOp_opn rfl hall a b)) ⟨rfl, rfl⟩
      have hz0 : zOp z (rH0 (opn z r q mc) r q (zls z r).length) r q := zOp_sra (zOp_sfi (zOp_sfi zOp_opn))
      have hz1 : zOp z (rH1 (opn z r q mc) r q (zls z r).length i) r q := zOp_sra (zOp_sfi (zOp_sRA (zOp_sfi zOp_opn)))
      have hz2 : zOp z (if i + 1 = (zls z r).length then rH0 (opn z r q mc) r q (zls z r).length else rH1 (opn z r q mc) r q (zls z r).length i) r q := by
        split
        · exact hz0
        · exact hz1
      have fi2 : zfi (if i + 1 = (zls z r).length then rH0 (opn z r q mc) r q (zls z r).length else rH1 (opn z r q mc) r q (zls z r).length i) r 2 = nI ((zls z r).length - 1) := by
        split
        · unfold rH0
          rw [fi_sra, fi_sfi, zu2_s]
        · unfold rH1
          rw [fi_sra, fi_sfi, zu2_s]
      have ra2 : ∀ j, zra (if i + 1 = (zls z r).length then rH0 (opn z r q mc) r q (zls z r).length else rH1 (opn z r q mc) r q (zls z r).length i) q j = if (zls z r).length - 1 ≤ j then .null else if i ≤ j then (zls z r).getD (j + 1) .null else (zls z r).getD j .null := fun j => by
        split
        · rename_i c8
          unfold rH0
          rw [ra_sra]
          by_cases c7 : j = (zls z r).length - 1
          · rw [c7, zu2_s, if_pos (Nat.le_refl _)]
          · rw [zu2_k _ _ _ _ c7, ra_sfi, ra_sfi, opn_ra]
            by_cases c6 : (zls z r).length - 1 ≤ j
            · rw [if_pos c6]; exact getD_none (by omega)
            · rw [if_neg c6, if_neg (by omega)]
        · rename_i c8
          unfold rH1
          rw [ra_sra]
          by_cases c7 : j = (zls z r).length - 1
          · rw [c7, zu2_s, if_pos (Nat.le_refl _)]
          · rw [zu2_k _ _ _ _ c7, ra_sfi, ra_sRA, zu1_s]
            unfold va_cpy
            by_cases c6 : (zls z r).length - 1 ≤ j
            · rw [if_pos c6, if_neg (by omega), opn_ra]; exact getD_none (by omega)
            · rw [if_neg c6]
              by_cases c5 : i ≤ j
              · rw [if_pos c5, if_pos (by omega), opn_ra]
                congr 1
                omega
              · rw [if_neg c5, if_neg (by omega), opn_ra]
      generalize (if i + 1 = (zls z r).length then rH0 (opn z r q mc) r q (zls z r).length else rH1 (opn z r q mc) r q (zls z r).length i) = y2 at *
      have u1 : zuc y2 = zuc (opn z r q mc) := hz2.2.1.1
      have u2 : zus y2 = zus (opn z r q mc) := hz2.2.1.2
      have hlen2 : ((zls z r).eraseIdx i).length = (zls z r).length - 1 := List.length_eraseIdx_of_lt hi1
      refine jListF (k := 11) (n := 1) (d := 2) (as := [.int (nI i)]) (st1 := st1) (y1 := opn z r q mc) (y2 := y2) (z' := sls z r ((zls z r).eraseIdx i)) hd rfl (jIOK (k := 11) (pc := 0) rfl) (by decide +kernel) hq q1297 q1299 q115 q1301 rfl ⟨by decide, by decide, by decide +kernel⟩ (by decide) (by decide) C I hzc hO (zu1_s _ _ _) rfl (by show (2 : Nat) ≤ _; decide +kernel) hrun (by omega) (by omega) (fun ws' h => ?_) (fun H' locs' ws' stm' I' => ?_)
      · refine jback (l := (zls z r).eraseIdx i) h hz2 hi hr1 hr2 (by rw [fi2, hlen2]) (by have := hi.2.2.2.1; omega) (fun j v8 e8 => ?_) (fun j hle => ?_)
        · have hlt8 := (List.getElem?_eq_some_iff.mp e8).1
          rw [hlen2] at hlt8
          rw [ra2, if_neg (by omega)]
          rw [List.getElem?_eraseIdx] at e8
          by_cases c5 : j < i
          · rw [if_pos c5] at e8
            rw [if_neg (by omega)]
            exact ⟨getD_some e8, zir_of hel _ _ e8⟩
          · rw [if_neg c5] at e8
            rw [if_pos (by omega)]
            exact ⟨getD_some e8, zir_of hel _ _ e8⟩
        · rw [hlen2] at hle
          rw [ra2, if_pos hle]
      · rw [u1, u2]
        simp only [Nat.sub_self, Nat.add_zero]
        exact k H' locs' ws' lsm stm' I'
    · cases hf0
  · cases hf0
end JAR
