set_option maxRecDepth 100000
/-! the primitives: a list made, an exception made, texts -/
section JI
variable {X : ZX} {ws : va_W} {z y : ZH} {r q : Nat}
theorem jinit {n : Nat} (h : zHR X ws (iH z r n)) (hr : 100 ≤ r) (hrn : r < zn z) (hc : zcls z r = 24) (hf : zfi z r 2 = 0) (h0 : 0 < n) (hn : n < 1000) : zHR X ws (slin z r n) := by
  have hrz : ¬ r = zn z := by omega
  generalize hy : iH z r n = y at h
  have ycls : zcls y = zu1 (zcls z) (zn z) 64 := by rw [← hy]; rfl
  have yfi : zfi y = zu2 (zfi z) r 0 (nI 0) := by rw [← hy]; rfl
  have yfr : zfr y = zu2 (zfr z) r 1 (.ref (zn z)) := by rw [← hy]; rfl
  have yia : zia y = zu1 (zia z) (zn z) (fun _ => 0) := by rw [← hy]; rfl
  have yla : zla y = zu1 (zla z) (zn z) (fun _ => 0) := by rw [← hy]; rfl
  have yra : zra y = zu1 (zra z) (zn z) (fun _ => .null) := by rw [← hy]; rfl
  have ylen : zlen y = zu1 (zlen z) (zn z) n := by rw [← hy]; rfl
  have yls : zls y = zls z := by rw [← hy]; rfl
  have yown : zown y = zown z := by rw [← hy]; rfl
  have yn : zn y = zn z + 1 := by rw [← hy]; rfl
  clear hy
  have el : zls (slin z r n) r = [] := zu1_s _ _ _
  refine zHR_cls (y := y) (q := zn z) (q0 := zn z) (N := n) (len := 0) h hr (by omega) ⟨⟨?_, ?_, ?_⟩, ⟨?_, ?_⟩, by omega, by omega⟩ (by omega) (by omega) (fun i _ => ?_) (fun i hlt => absurd hlt (Nat.not_lt_zero i)) hrz ⟨by omega, fun e => hrz e.symm⟩ ?_ (by rw [yn]; rfl) (fun p hp p1 p2 _ => ?_) ?_ ?_ (zu1_s _ _ _) (zu1_s _ _ _) (zu1_s _ _ _) (by rw [el]; rfl) (fun i hlt => absurd hlt (Nat.not_lt_zero i)) (zu1_s _ _ _)
  · rw [ycls, zu1_n _ _ _ hrz, hc]
  · rw [yfr, zu2_s]
  · rw [yfi, zu2_k _ _ _ _ (by omega), hf]; rfl
  · rw [ycls, zu1_s]
  · rw [ylen, zu1_s]
  · rw [yra, zu1_s]
  · rw [ycls, zu1_s]
  · refine ⟨?_, ?_, ?_, ?_, ?_, ?_, ?_, ?_, ?_⟩
    · rw [ycls, zu1_n _ _ _ p2]
      show zu1 (zu1 (zcls z) r 90) (zn z) 91 p = _
      rw [zu1_n _ _ _ p2, zu1_n _ _ _ p1]
    · rw [ylen]; rfl
    · rw [yown]; exact zu1_n _ _ _ p2
    · rw [yfi]
      funext j
      rw [zu2_n _ _ _ _ p1]
      rfl
    · rw [yfr]
      funext j
      rw [zu2_n _ _ _ _ p1]
      exact zu2_n _ _ _ _ p1
    · rw [yia]; exact (zu1_n _ _ _ p2).symm
    · rw [yla]; exact (zu1_n _ _ _ p2).symm
    · rw [yra]; exact (zu1_n _ _ _ p2).symm
    · rw [yls]; exact zu1_n _ _ _ p1
  · show zu1 (zu1 (zcls z) r 90) (zn z) 91 r = 90
    rw [zu1_n _ _ _ hrz, zu1_s]
  · exact zu2_s _ _ _ _
theorem znul_e {v : Value} (h : znul v = true) : v = .null := by
  cases v with
  | null => rfl
  | ref p => cases h
  | int x => cases h
  | long x => cases h
  | float x => cases h
  | double x => cases h
  | retAddr x => cases h
theorem xH_fr (h0 : zfr z r 0 = .null) (h1 : zfr z r 1 = .null) (h2 : zfr z r 2 = .null) (h3 : zfr z r 3 = .null) : zfr (xH z r) = zfr z := by
  unfold xH
  simp only [fr_sfr]
  funext p j
  by_cases hp : p = r
  · subst hp
    by_cases c0 : j = 0
    · subst c0; rw [h0, zu2_k _ _ _ _ (by omega), zu2_s]
    by_cases c1 : j = 1
    · subst c1; rw [h1, zu2_k _ _ _ _ (by omega), zu2_k _ _ _ _ (by omega), zu2_k _ _ _ _ (by omega), zu2_s]
    by_cases c2 : j = 2
    · subst c2; rw [h2, zu2_s]
    by_cases c3 : j = 3
    · subst c3; rw [h3, zu2_k _ _ _ _ (by omega), zu2_k _ _ _ _ (by omega), zu2_s]
    rw [zu2_k _ _ _ _ c2, zu2_k _ _ _ _ c0, zu2_k _ _ _ _ c3, zu2_k _ _ _ _ c1, zu2_k _ _ _ _ c2, zu2_k _ _ _ _ c1, zu2_k _ _ _ _ c0]
  · rw [zu2_n _ _ _ _ hp, zu2_n _ _ _ _ hp, zu2_n _ _ _ _ hp, zu2_n _ _ _ _ hp, zu2_n _ _ _ _ hp, zu2_n _ _ _ _ hp, zu2_n _ _ _ _ hp]
theorem jexc (h : zHR X ws (xH z r)) (e : zfr (xH z r) = zfr z) : zHR X ws z :=
  zHR_mv (fun _ => False) h rfl (fun _ _ w => w) (fun p _ _ => ⟨rfl, rfl, rfl, rfl, by rw [e], rfl, rfl, rfl, rfl⟩) (fun _ w _ => w.elim) (fun _ _ _ w _ _ _ _ => w.elim)
end JI
section JIR
variable {inf : ZInf} {pc idx : Nat}
set_option maxHeartbeats 2000000 in
theorem p_linit (hd : decode inf.1 pc = .ok (.invokespecial idx, 3)) (hq : Cond.methodLink inf.2.1.cls idx ⟨"java/util/ArrayList", "<init>", "(I)V"⟩ ∈ lw_all) : zOK inf pc (z_linit (pc + 3)) := by
  intro ls st z p' ls' st' z' hf0
  unfold z_linit at hf0
  split at hf0
  · rename_i a r st1
    split at hf0
    · rename_i hb
      obtain ⟨hzc, hc, ⟨hin, ha0⟩, hf⟩ := hb
      cases hf0
      refine ⟨⟨Nat.le_add_right _ _, Nat.le_add_right _ _⟩, ?_⟩
      intro p l e R s m args below meth c H locs cells slots Q X A w0 ws lsm stm C I hcl hsl k
      obtain ⟨i, hi1, hi2, rfl⟩ := zin_of hin
      rw [zx_nI hi2] at hcl hsl k
      have hi0 : 0 < i := by
        rcases Nat.eq_zero_or_pos i with e | e
        · subst e; exact absurd rfl ha0
        · exact e
      obtain ⟨hr1, hr2⟩ := jrefn (as := [.int (nI i)]) (st := st') I hc (by decide) (by decide)
      have hrun : ZC zJ 2 2 [.ref r, .int (nI i)] z (fun o w => o = .inl none ∧ w = iH z r i) := Eq.mpr (jc2 (d := 0) hc hr2 hi0 hi1) ⟨rfl, rfl⟩
      exact jCall (cok_I (zI := jInfo) (k1 := 2) (n := 1) hd rfl selI1 hq q379 q115 q380 rfl ⟨by decide, by decide, by decide +kernel⟩) (k := 2) (d := 2) (jIOK (k := 2) (pc := 0) rfl) (jmain hq rfl) (by decide) (by decide) C I rfl hzc I.1 (by show (2 : Nat) ≤ _; decide +kernel) hrun hcl hsl (fun ws' h => jinit h hr1 hr2 hc hf hi0 hi1) (fun H' locs' ws' stm' I' => k H' locs' ws' lsm stm' I')
    · cases hf0
  · cases hf0
set_option maxHeartbeats 2000000 in
theorem p_excinit (hd : decode inf.1 pc = .ok (.invokespecial idx, 3)) (hq : Cond.methodLink inf.2.1.cls idx ⟨"java/lang/Exception", "<init>", "(Ljava/lang/String;Ljava/lang/Throwable;ZZ)V"⟩ ∈ lw_all) : zOK inf pc (z_excinit (pc + 3)) := by
  intro ls st z p' ls' st' z' hf0
  unfold z_excinit at hf0
  split at hf0
  · rename_i b a r st1
    split at hf0
    · rename_i hb
      obtain ⟨hzc, hc, ⟨ha, hb0⟩, n0, n1, n2, n3⟩ := hb
      subst ha
      subst hb0
      cases hf0
      refine ⟨⟨Nat.le_refl _, Nat.le_refl _⟩, ?_⟩
      intro p l e R s m args below meth c H locs cells slots Q X A w0 ws lsm stm C I hcl hsl k
      simp only [Nat.sub_self, Nat.add_zero] at hcl hsl k
      have hfr := xH_fr (znul_e n0) (znul_e n1) (znul_e n2) (znul_e n3)
      have hrun : ZC zJ 1 21 [.ref r, .null, .null, .int 0, .int 0] z (fun o w => o = .inl none ∧ w = xH z r) := Eq.mpr (jc21 (d := 0) hc) ⟨rfl, rfl⟩
      refine jCall (cok_I (zI := jInfo) (k1 := 21) (n := 4) hd rfl selI4 hq q855 q134 q856 rfl ⟨by decide, by decide, by decide +kernel⟩) (k := 21) (d := 1) (y2 := xH z r) (z' := z) (jIOK (k := 21) (pc := 0) rfl) (jmain hq rfl) (by decide) (by decide) C I rfl hzc I.1 (by show (5 : Nat) ≤ _; decide +kernel) hrun (by show cells + (zuc z - zuc z) ≤ _; omega) (by show slots + (zus z - zus z) ≤ _; omega) (fun ws' h => jexc h hfr) (fun H' locs' ws' stm' I' => ?_)
      show W p l e R s m args below meth c H' locs' (cells + (zuc z - zuc z)) (slots + (zus z - zus z)) Q _
      simp only [Nat.sub_self, Nat.add_zero]
      exact k H' locs' ws' lsm stm' I'
    · cases hf0
  · cases hf0
set_option maxHeartbeats 2000000 in
theorem p_slen (hd : decode inf.1 pc = .ok (.invokevirtual idx, 3)) (hq : Cond.methodLink inf.2.1.cls idx ⟨"java/lang/String", "length", "()I"⟩ ∈ lw_all) : zOK inf pc (z_slen (pc + 3)) := by
  intro ls st z p' ls' st' z' hf0
  unfold z_slen at hf0
  split at hf0
  · rename_i r st1
    split at hf0
    · rename_i hb
      obtain ⟨hzc, hr⟩ := hb
      cases hf0
      refine ⟨⟨Nat.le_refl _, Nat.le_refl _⟩, ?_⟩
      intro p l e R s m args below meth c H locs cells slots Q X A w0 ws lsm stm C I hcl hsl k
      simp only [Nat.sub_self, Nat.add_zero] at hcl hsl k
      have hrun : ZC zJ 1 23 [.ref r] z (fun o w => o = .inl (some (.int (nI (ztx r).length))) ∧ w = z) := Eq.mpr (jc23 (d := 0) hr) ⟨rfl, rfl⟩
      refine jCall (sel := sT0 23) (cok_T (zI := jInfo) (k1 := 23) (n := 0) hd rfl selT0 hq q775 q776 q129 q777 rfl ⟨by decide, by decide, by decide +kernel⟩) (k := 23) (d := 1) (st1 := st1) (as := [.ref r]) (y2 := z) (z' := z) (jIOK (k := 23) (pc := 0) rfl) (jmain hq rfl) (by decide) (by decide) C I (if_pos hr) hzc I.1 (by show (1 : Nat) ≤ _; decide +kernel) hrun (by omega) (by omega) (fun ws' h => h) (fun H' locs' ws' stm' I' => ?_)
      simp only [Nat.sub_self, Nat.add_zero]
      exact k H' locs' ws' lsm stm' I'
    · cases hf0
  · cases hf0
set_option maxHeartbeats 2000000 in
theorem p_schar (hd : decode inf.1 pc = .ok (.invokevirtual idx, 3)) (hq : Cond.methodLink inf.2.1.cls idx ⟨"java/lang/String", "charAt", "(I)C"⟩ ∈ lw_all) : zOK inf pc (z_schar (pc + 3)) := by
  intro ls st z p' ls' st' z' hf0
  unfold z_schar at hf0
  split at hf0
  · rename_i a r st1
    split at hf0
    · rename_i hb
      obtain ⟨hzc, hr, hin⟩ := hb
      cases hf0
      refine ⟨⟨Nat.le_refl _, Nat.le_refl _⟩, ?_⟩
      intro p l e R s m args below meth c H locs cells slots Q X A w0 ws lsm stm C I hcl hsl k
      simp only [Nat.sub_self, Nat.add_zero] at hcl hsl k
      obtain ⟨i, hi1, hi2, rfl⟩ := zin_of hin
      rw [zx_nI hi2] at k
      have hrun : ZC zJ 3 25 [.ref r, .int (nI i)] z (fun o w => o = .inl (some (.int (nI ((ztx r).getD i 0)))) ∧ w = z) := Eq.mpr (jc25 (d := 0) hr hi1) ⟨rfl, rfl⟩
      refine jCall (sel := sT1 25) (cok_T (zI := jInfo) (k1 := 25) (n := 1) hd rfl selT1 hq q785 q786 q129 q787 rfl ⟨by decide, by decide, by decide +kernel⟩) (k := 25) (d := 3) (st1 := st1) (as := [.ref r, .int (nI i)]) (y2 := z) (z' := z) (jIOK (k := 25) (pc := 0) rfl) (jmain hq rfl) (by decide) (by decide) C I (if_pos hr) hzc I.1 (by show (2 : Nat) ≤ _; decide +kernel) hrun (by omega) (by omega) (fun ws' h => h) (fun H' locs' ws' stm' I' => ?_)
      simp only [Nat.sub_self, Nat.add_zero]
      exact k H' locs' ws' lsm stm' I'
    · cases hf0
  · cases hf0
end JIR
