set_option maxRecDepth 100000
/-! the call of put inside puts, what it throws caught there -/
section XR
theorem pMet {k d : Nat} {as : List Value} {y y' : ZH} {v : Option Value} {l : Launch} (hfl : l.flags = flags0) (hk : zIOK zP 29 pInfo k) (hrun : ZC zP d k as y (fun o w => o = .inl v ∧ w = y')) (hfit : (zent as).length ≤ pMl k) (X : ZX) (ws : va_W) (sz : Nat) (as' : List Value) (hH : zHR X ws y) (has : zSR X ws as as') (hD : va_D (fun _ => True) ws) : Met l (pInfo k).2.1 (zws (pInfo k)) (zRm 29 d (zuc y' - zuc y) (zus y' - zus y)) (zPc X ws sz as') (zQr X ws sz y' v) (zuc y' - zuc y) (zus y' - zus y) (va_A ws sz) := by
  obtain ⟨n, ⟨o, z1⟩, hev, ho, hz⟩ := hrun
  dsimp only at ho hz
  subst ho
  subst hz
  exact zEnter (zSP n) hfl hk hev hfit X ws sz as' hH has hD
theorem held_cases {z : ZH} {r : Nat} (h : zheldB z r = true) : zcls z r = 11 ∧ (zfr z r 0 = .null ∨ ∃ q : Nat, zfr z r 0 = .ref q ∧ 100 ≤ q ∧ (50 ≤ zcls z q ∧ zcls z q < 54) ∧ zlen z q ≤ 1000) := by
  unfold zheldB at h
  rw [Bool.and_eq_true] at h
  refine ⟨of_decide_eq_true h.1, ?_⟩
  have h2 := h.2
  cases e : zfr z r 0 with
  | null => exact Or.inl rfl
  | ref q =>
    rw [e] at h2
    simp only [Bool.and_eq_true, decide_eq_true_eq] at h2
    exact Or.inr ⟨q, rfl, h2.1, ⟨h2.2.1, h2.2.2.1⟩, h2.2.2.2⟩
  | int x => rw [e] at h2; cases h2
  | long x => rw [e] at h2; cases h2
  | float x => rw [e] at h2; cases h2
  | double x => rw [e] at h2; cases h2
  | retAddr x => rw [e] at h2; cases h2
variable {p : Program} {l : Launch} {e : Env} {R : Room} {s : State} {m : MethodId} {args : Array Value} {below : List Frame} {meth : Method} {c : Code} {H : Heap} {locs : List Loc} {cells slots : Nat} {Q : State → Prop}
variable {X : ZX} {A : Nat → Prop} {w0 ws : va_W} {z : ZH} {ls st1 : List Value} {lsm : Array Slot} {stm : List Value} {inf : ZInf} {pc idx : Nat} {r : Nat} {i : Int32} {x : Int64}
/-- put called, where it throws E: caught at x9 -/
theorem putT {E : String} (hd : decode inf.1 pc = .ok (.invokevirtual idx, 3)) (hq : Cond.methodLink inf.2.1.cls idx yX11_put ∈ lw_all) (hR : 31 ≤ R.frames ∧ 12400 ≤ R.locals)
    (C : zCtx X A p l s m args meth c R inf) (I : zInv X A s inf.2.2.1 w0 H locs ws z ls (.long x :: .int i :: .ref r :: st1) lsm stm) (hz : zcs st1 = true) (h11 : zcls z r = 11) (hM : ∀ l : Launch, l.flags = flags0 → xMet l pI0 29 0 [.ref r, .int i, .long x] z (spay z 40 800) E) (hc1 : cells + 40 ≤ R.cells) (hc2 : slots + 800 ≤ R.slots)
    (kk : ∀ (H' : Heap) (locs' : List Loc) (ws' : va_W) (restm : List Value) (q : Addr) (ce : Cell), zInv X A s inf.2.2.1 w0 H' locs' ws' (spay z 40 800) ls [.float 0] lsm [.ref q] → H'[q]? = some ce → ce.vm = .none → s.vm.findClass E = some ce.cls → vx_W p l e R s m args below meth c H' locs' (cells + 40) (slots + 800) Q (F0 m pc lsm restm) q) : W p l e R s m args below meth c H locs cells slots Q (F0 m pc lsm stm) := by
  have I0 := I
  obtain ⟨hx, hb, hml, hown, hts, hSx, hA, hnm, hfr, hlo, hlk, hfl, -, -, htab⟩ := C
  obtain ⟨hH, hP, hD, hS, hE, hL, hsr⟩ := I
  obtain ⟨as2, restm, e3, has, hrest⟩ : ∃ as' restm, stm = as'.reverse ++ restm ∧ zSR X ws [.ref r, .int i, .long x] as' ∧ zSR X ws st1 restm := zSR_split (as := [.ref r, .int i, .long x]) (rest := st1) hsr
  have u1 : zuc (spay z 40 800) - zuc z = 40 := Nat.add_sub_cancel_left _ _
  have u2 : zus (spay z 40 800) - zus z = 800 := Nat.add_sub_cancel_left _ _
  have hMl := hM l hfl X ws H.size as2 hH has (hD.weaken (fun _ _ _ _ => trivial))
  rw [u1, u2] at hMl
  have hMl : vx_Met l yX11_put (ws_ yX11_put _ 5 _) (zRm 29 0 40 800) (zPc X ws H.size as2) xNoQ (XCE E X ws H.size (spay z 40 800)) 40 800 (va_A ws H.size) := hMl
  obtain ⟨a, As, rfl, har, hvs⟩ := zSR_r has
  obtain ⟨hr1, e0, he0, hE0⟩ := hH.at (by omega) (by omega) har
  obtain ⟨fs, rfl, hl1, hfs⟩ := zER_obj hE0 h11 (by omega)
  have hFr := zFree hA I0
  have hpc : ∀ U : State, U.heap = H → s.WarmedH U.vm → zPc X ws H.size (.ref a :: As) (Value.ref a :: As).toArray U := fun U hU hW => ⟨rfl, by rw [hU], by rw [hU]; exact hP, hSx.to hW (by rw [hU]; exact hS) hFr⟩
  exact xRun_go (vx_runV (As := As) (rest := restm) (C := RX11) ⟨hx, hb, hml, hown, hts⟩ hMl (cwV 2 hts (lw_V hq q315 qs2 q125 q317) rfl rfl rfl ⟨rfl, by decide +kernel⟩ (zrm_ok (by omega) (by omega))) ⟨zPc_blind, va_recv hSx.1 hP rfl he0, hpc⟩ rfl (by rw [← hvs.len]; rfl) hL.1.1 (by rw [e3]; simp) (lv_room (zstk_ok hrest hz)) hd ⟨hc1, hc2⟩) hA I0 (fun H' locs' ws' q ce I' g1 g2 g3 => kk H' locs' ws' restm q ce I' g1 g2 g3)
/-- .. where it does not -/
theorem putN {y z' : ZH} (hd : decode inf.1 pc = .ok (.invokevirtual idx, 3)) (hq : Cond.methodLink inf.2.1.cls idx yX11_put ∈ lw_all) (hR : 31 ≤ R.frames ∧ 12400 ≤ R.locals)
    (C : zCtx X A p l s m args meth c R inf) (I : zInv X A s inf.2.2.1 w0 H locs ws z ls (.long x :: .int i :: .ref r :: st1) lsm stm) (hz : zcs st1 = true) (h11 : zcls z r = 11) (hrun : ZC zP 1 0 [.ref r, .int i, .long x] z (fun o w => o = .inl none ∧ w = y)) (hu : zuc y ≤ zuc z + 40 ∧ zus y ≤ zus z + 800) (conv : ∀ ws', zHR X ws' y → zHR X ws' z') (hc1 : cells + 40 ≤ R.cells) (hc2 : slots + 800 ≤ R.slots)
    (kk : ∀ (H' : Heap) (locs' : List Loc) (ws' : va_W) (stm' : List Value), zInv X A s inf.2.2.1 w0 H' locs' ws' z' ls st1 lsm stm' → W p l e R s m args below meth c H' locs' (cells + 40) (slots + 800) Q (F0 m (pc + 3) lsm stm')) : W p l e R s m args below meth c H locs cells slots Q (F0 m pc lsm stm) := by
  have I0 := I
  obtain ⟨hx, hb, hml, hown, hts, hSx, hA, hnm, hfr, hlo, hlk, hfl, -, -, htab⟩ := C
  obtain ⟨hH, hP, hD, hS, hE, hL, hsr⟩ := I
  obtain ⟨as2, restm, e3, has, hrest⟩ : ∃ as' restm, stm = as'.reverse ++ restm ∧ zSR X ws [.ref r, .int i, .long x] as' ∧ zSR X ws st1 restm := zSR_split (as := [.ref r, .int i, .long x]) (rest := st1) hsr
  have hMl := pMet (k := 0) (d := 1) hfl (pIOK (k := 0) (pc := 0) rfl) hrun (by show (4 : Nat) ≤ _; decide +kernel) X ws H.size as2 hH has (hD.weaken (fun _ _ _ _ => trivial))
  have hMl : Met l yX11_put (ws_ yX11_put _ 5 _) (zRm 29 1 (zuc y - zuc z) (zus y - zus z)) (zPc X ws H.size as2) (zQr X ws H.size y none) (zuc y - zuc z) (zus y - zus z) (va_A ws H.size) := hMl
  obtain ⟨a, As, rfl, har, hvs⟩ := zSR_r has
  obtain ⟨hr1, e0, he0, hE0⟩ := hH.at (by omega) (by omega) har
  obtain ⟨fs, rfl, hl1, hfs⟩ := zER_obj hE0 h11 (by omega)
  have hFr := zFree hA I0
  have hpc : ∀ U : State, U.heap = H → s.WarmedH U.vm → zPc X ws H.size (.ref a :: As) (Value.ref a :: As).toArray U := fun U hU hW => ⟨rfl, by rw [hU], by rw [hU]; exact hP, hSx.to hW (by rw [hU]; exact hS) hFr⟩
  exact jgo3 (va_runV (As := As) (rest := restm) (C := RX11) ⟨hx, hb, hml, hown, hts⟩ hMl (cwV 2 hts (lw_V hq q315 qs2 q125 q317) rfl rfl rfl ⟨rfl, by decide +kernel⟩ (zrm_ok (by omega) (by omega))) ⟨zPc_blind, va_recv hSx.1 hP rfl he0, hpc⟩ rfl (by rw [← hvs.len]; rfl) hL.1.1 (by rw [e3]; simp) (lv_room (zstk_ok hrest hz)) hd ⟨by omega, by omega⟩) hA I0 hrest conv (fun H' locs' ws' stm' I' => W_widen (by omega) (by omega) (kk H' locs' ws' stm' I'))
end XR
section XS
variable {inf : ZInf} {idx : Nat}
theorem ok_putX (hd : decode inf.1 3 = .ok (.invokevirtual idx, 3)) (hsl : zSlot inf = true) (hlev : zLev inf = 4) (htb : inf.2.2.2.2 = [(0, 6, 9, 29), (0, 6, 14, 31)]) (hq : Cond.methodLink inf.2.1.cls idx yX11_put ∈ lw_all) (hl1 : Cond.classLink inf.2.1.cls 29 "java/lang/NullPointerException" ∈ lw_all) (hl2 : Cond.classLink inf.2.1.cls 31 "java/lang/ArrayIndexOutOfBoundsException" ∈ lw_all) : zOK inf 3 (z_putX 9 14 6) := by
  intro ls st z p' ls' st' z' hf0
  unfold z_putX at hf0
  split at hf0
  · rename_i x i r st1
    split at hf0
    · rename_i hb
      obtain ⟨hz, hh⟩ := hb
      obtain ⟨h11, hh⟩ := held_cases hh
      have u1 : zuc (spay z 40 800) - zuc z = 40 := Nat.add_sub_cancel_left _ _
      have u2 : zus (spay z 40 800) - zus z = 800 := Nat.add_sub_cancel_left _ _
      rcases hh with hn | ⟨q, hr, q100, hk, hl⟩
      · have hp : zputs z r i x = (-6, spay z 40 800) := by unfold zputs; rw [hn]
        rw [hp, if_neg (show ¬ (-6 : Int32) = 0 by decide), if_pos rfl] at hf0
        cases hf0
        refine ⟨⟨Nat.le_add_right _ _, Nat.le_add_right _ _⟩, ?_⟩
        intro p l e R s m args below meth c H locs cells slots Q X A w0 ws lsm stm C I hcl hs2 k
        dsimp only at hcl hs2 k
        rw [u1] at hcl k
        rw [u2] at hs2 k
        have hR := C.2.2.2.2.2.2.2.2.2.2.2.2.2.1 hsl
        rw [hlev] at hR
        exact putT hd hq hR C I hz h11 (put_null h11 hn) hcl hs2 (fun H' locs' ws' restm q9 ce I' g1 g2 g3 => xCatch C [] ⟨0, 6, 9, 29⟩ [⟨0, 6, 14, 31⟩] (by rw [htb]; rfl) (fun y hy => nomatch hy) (by decide) (by decide) hl1 q291 g1 g2 g3 (k H' locs' ws' lsm _ I'))
      · by_cases hi : zin i (zlen z q) = true
        · have hp : zputs z r i x = (0, sput (spay z 40 800) q (zx i) x) := by
            unfold zputs
            rw [hr]
            exact if_pos hi
          rw [hp, if_pos rfl] at hf0
          cases hf0
          have v1 : zuc (sput (spay z 40 800) q (zx i) x) - zuc z = 40 := by
            have e9 : zuc (sput (spay z 40 800) q (zx i) x) = zuc z + 40 := by unfold sput; split <;> rfl
            rw [e9]; exact Nat.add_sub_cancel_left _ _
          have v2 : zus (sput (spay z 40 800) q (zx i) x) - zus z = 800 := by
            have e9 : zus (sput (spay z 40 800) q (zx i) x) = zus z + 800 := by unfold sput; split <;> rfl
            rw [e9]; exact Nat.add_sub_cancel_left _ _
          refine ⟨⟨by dsimp only; omega, by dsimp only; omega⟩, ?_⟩
          intro p l e R s m args below meth c H locs cells slots Q X A w0 ws lsm stm C I hcl hs2 k
          dsimp only at hcl hs2 k
          rw [v1] at hcl k
          rw [v2] at hs2 k
          have hR := C.2.2.2.2.2.2.2.2.2.2.2.2.2.1 hsl
          rw [hlev] at hR
          obtain ⟨y, hy1, hy2, hy3⟩ := c_put (x := x) h11 hr hk hi
          exact putN hd hq hR C I hz h11 hy1 hy2 (fun ws' h => hy3 X ws' h) hcl hs2 (fun H' locs' ws' stm' I' => k H' locs' ws' lsm stm' I')
        · have hp : zputs z r i x = (-7, spay z 40 800) := by
            unfold zputs
            rw [hr]
            exact if_neg hi
          rw [hp, if_neg (show ¬ (-7 : Int32) = 0 by decide), if_neg (show ¬ (-7 : Int32) = -6 by decide)] at hf0
          cases hf0
          refine ⟨⟨Nat.le_add_right _ _, Nat.le_add_right _ _⟩, ?_⟩
          intro p l e R s m args below meth c H locs cells slots Q X A w0 ws lsm stm C I hcl hs2 k
          dsimp only at hcl hs2 k
          rw [u1] at hcl k
          rw [u2] at hs2 k
          have hR := C.2.2.2.2.2.2.2.2.2.2.2.2.2.1 hsl
          rw [hlev] at hR
          exact putT hd hq hR C I hz h11 (put_out h11 hr hk hi hl) hcl hs2 (fun H' locs' ws' restm q9 ce I' g1 g2 g3 => xCatch C [⟨0, 6, 9, 29⟩] ⟨0, 6, 14, 31⟩ [] (by rw [htb]; rfl) (fun y hy => by
            have hy : y = ⟨0, 6, 9, 29⟩ := List.mem_singleton.mp hy
            subst hy
            exact Or.inr ⟨by decide, _, hl1, by decide +kernel⟩) (by decide) (by decide) hl2 q309 g1 g2 g3 (k H' locs' ws' lsm _ I'))
    · cases hf0
  · cases hf0
end XS
