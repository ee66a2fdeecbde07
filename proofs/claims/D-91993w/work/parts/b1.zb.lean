/-! operations of the JDK's own methods -/
set_option maxRecDepth 100000
section ZOPJ
variable {G : ZP} {d k pc p q : Nat} {ls st : List Value} {z : ZH} {Q : ZQ}
def z_dxi  (p : Nat) : ZF := fun ls st z => match st with | .int a :: .ref r :: st => some (p, ls, .int a :: .ref r :: .int a :: st, z) | _ => none
theorem zw_dxi  {a : Int32} {r : Nat} (hG : G.1 k pc = some (.inl (z_dxi  p))) : ZW G d k pc ls (.int a :: .ref r :: st) z Q = ZW G d k p ls (.int a :: .ref r :: .int a :: st) z Q := zw_next hG rfl
def z_dxr  (p : Nat) : ZF := fun ls st z => match st with | .ref s :: .ref r :: st => some (p, ls, .ref s :: .ref r :: .ref s :: st, z) | _ => none
theorem zw_dxr  {s : Nat} {r : Nat} (hG : G.1 k pc = some (.inl (z_dxr  p))) : ZW G d k pc ls (.ref s :: .ref r :: st) z Q = ZW G d k p ls (.ref s :: .ref r :: .ref s :: st) z Q := zw_next hG rfl
def z_acne  (p : Nat) : ZF := fun ls st z => match st with | .ref s :: .ref r :: st => if r = s then some (p, ls, st, z) else none | _ => none
theorem zw_acne  {s : Nat} {r : Nat} (hG : G.1 k pc = some (.inl (z_acne  p))) : ZW G d k pc ls (.ref s :: .ref r :: st) z Q = ((r = s) ∧ ZW G d k p ls (st) (z) Q) := zw_cond hG rfl
def z_gcls  (p : Nat) : ZF := fun ls st z => match st with | .ref r :: st => if zcs st = true ∧ zcls z r = 64 then some (p, ls, .ref 98 :: st, z) else none | _ => none
theorem zw_gcls  {r : Nat} (hG : G.1 k pc = some (.inl (z_gcls  p))) : ZW G d k pc ls (.ref r :: st) z Q = ((zcs st = true ∧ zcls z r = 64) ∧ ZW G d k p ls (.ref 98 :: st) (z) Q) := zw_cond hG rfl
def z_sval  (p : Nat) : ZF := fun ls st z => match st with | .ref r :: st => if r < 35 then some (p, ls, .ref (35 + r) :: st, z) else none | _ => none
theorem zw_sval  {r : Nat} (hG : G.1 k pc = some (.inl (z_sval  p))) : ZW G d k pc ls (.ref r :: st) z Q = ((r < 35) ∧ ZW G d k p ls (.ref (35 + r) :: st) (z) Q) := zw_cond hG rfl
def z_scod  (p : Nat) : ZF := fun ls st z => match st with | .ref r :: st => if r < 35 then some (p, ls, .int 0 :: st, z) else none | _ => none
theorem zw_scod  {r : Nat} (hG : G.1 k pc = some (.inl (z_scod  p))) : ZW G d k pc ls (.ref r :: st) z Q = ((r < 35) ∧ ZW G d k p ls (.int 0 :: st) (z) Q) := zw_cond hG rfl
def z_tlen  (p : Nat) : ZF := fun ls st z => match st with | .ref r :: st => if 35 ≤ r ∧ r < 70 then some (p, ls, .int (nI (ztx (r - 35)).length) :: st, z) else none | _ => none
theorem zw_tlen  {r : Nat} (hG : G.1 k pc = some (.inl (z_tlen  p))) : ZW G d k pc ls (.ref r :: st) z Q = ((35 ≤ r ∧ r < 70) ∧ ZW G d k p ls (.int (nI (ztx (r - 35)).length) :: st) (z) Q) := zw_cond hG rfl
def z_tald  (p : Nat) : ZF := fun ls st z => match st with | .int a :: .ref r :: st => if (35 ≤ r ∧ r < 70) ∧ zin a (ztx (r - 35)).length = true then some (p, ls, .int (nI ((ztx (r - 35)).getD (zx a) 0)) :: st, z) else none | _ => none
theorem zw_tald  {a : Int32} {r : Nat} (hG : G.1 k pc = some (.inl (z_tald  p))) : ZW G d k pc ls (.int a :: .ref r :: st) z Q = (((35 ≤ r ∧ r < 70) ∧ zin a (ztx (r - 35)).length = true) ∧ ZW G d k p ls (.int (nI ((ztx (r - 35)).getD (zx a) 0)) :: st) (z) Q) := zw_cond hG rfl
def z_aasto  (p : Nat) : ZF := fun ls st z => match st with | v :: .int a :: .ref r :: st => if zcls z r = 64 ∧ zin a (zlen z r) = true ∧ zlel z v = true then some (p, ls, st, sra z r (zx a) v) else none | _ => none
theorem zw_aasto  {v : Value} {a : Int32} {r : Nat} (hG : G.1 k pc = some (.inl (z_aasto  p))) : ZW G d k pc ls (v :: .int a :: .ref r :: st) z Q = ((zcls z r = 64 ∧ zin a (zlen z r) = true ∧ zlel z v = true) ∧ ZW G d k p ls (st) (sra z r (zx a) v) Q) := zw_cond hG rfl
def z_aastn  (p : Nat) : ZF := fun ls st z => match st with | .null :: .int a :: .ref r :: st => if zcls z r = 64 ∧ zin a (zlen z r) = true then some (p, ls, st, sra z r (zx a) .null) else none | _ => none
theorem zw_aastn  {a : Int32} {r : Nat} (hG : G.1 k pc = some (.inl (z_aastn  p))) : ZW G d k pc ls (.null :: .int a :: .ref r :: st) z Q = ((zcls z r = 64 ∧ zin a (zlen z r) = true) ∧ ZW G d k p ls (st) (sra z r (zx a) .null) Q) := zw_cond hG rfl
/-- references that may lie in a list, or null, in a stretch of an array -/
def zlels (z : ZH) (r i n : Nat) : Bool := (List.range n).all fun j => znul (zra z r (i + j)) || zlel z (zra z r (i + j))
/-- a whole array of references -/
def sRA (z : ZH) (r : Nat) (f : Nat → Value) : ZH := zmk (zcls z) (zfi z) (zfr z) (zia z) (zla z) (zu1 (zra z) r f) (zlen z) (zls z) (zown z) (zn z) (zuc z) (zus z)
theorem cls_sRA (z : ZH) (r : Nat) (f : Nat → Value) : zcls (sRA z r f) = zcls z := rfl
theorem fi_sRA (z : ZH) (r : Nat) (f : Nat → Value) : zfi (sRA z r f) = zfi z := rfl
theorem fr_sRA (z : ZH) (r : Nat) (f : Nat → Value) : zfr (sRA z r f) = zfr z := rfl
theorem ia_sRA (z : ZH) (r : Nat) (f : Nat → Value) : zia (sRA z r f) = zia z := rfl
theorem la_sRA (z : ZH) (r : Nat) (f : Nat → Value) : zla (sRA z r f) = zla z := rfl
theorem len_sRA (z : ZH) (r : Nat) (f : Nat → Value) : zlen (sRA z r f) = zlen z := rfl
theorem ls_sRA (z : ZH) (r : Nat) (f : Nat → Value) : zls (sRA z r f) = zls z := rfl
theorem own_sRA (z : ZH) (r : Nat) (f : Nat → Value) : zown (sRA z r f) = zown z := rfl
theorem n_sRA (z : ZH) (r : Nat) (f : Nat → Value) : zn (sRA z r f) = zn z := rfl
theorem uc_sRA (z : ZH) (r : Nat) (f : Nat → Value) : zuc (sRA z r f) = zuc z := rfl
theorem us_sRA (z : ZH) (r : Nat) (f : Nat → Value) : zus (sRA z r f) = zus z := rfl
theorem ra_sRA (z : ZH) (r : Nat) (f : Nat → Value) : zra (sRA z r f) = zu1 (zra z) r f := rfl
def z_acpyq  (p : Nat) : ZF := fun ls st z => match st with | .int n1 :: .int b :: .ref s :: .int a :: .ref r :: st => if (zcs st = true ∧ zcls z r = 64 ∧ zcls z s = 64) ∧ (zin a (zlen z r + 1) = true ∧ zin b (zlen z s + 1) = true ∧ zin n1 1000000 = true) ∧ (zx a + zx n1 ≤ zlen z r ∧ zx b + zx n1 ≤ zlen z s) ∧ zlels z r (zx a) (zx n1) = true then some (p, ls, st, sRA z s (va_cpy (zra z r) (zra z s) (zx a) (zx b) (zx n1))) else none | _ => none
theorem zw_acpyq  {n1 : Int32} {b : Int32} {s : Nat} {a : Int32} {r : Nat} (hG : G.1 k pc = some (.inl (z_acpyq  p))) : ZW G d k pc ls (.int n1 :: .int b :: .ref s :: .int a :: .ref r :: st) z Q = (((zcs st = true ∧ zcls z r = 64 ∧ zcls z s = 64) ∧ (zin a (zlen z r + 1) = true ∧ zin b (zlen z s + 1) = true ∧ zin n1 1000000 = true) ∧ (zx a + zx n1 ≤ zlen z r ∧ zx b + zx n1 ≤ zlen z s) ∧ zlels z r (zx a) (zx n1) = true) ∧ ZW G d k p ls (st) (sRA z s (va_cpy (zra z r) (zra z s) (zx a) (zx b) (zx n1))) Q) := zw_cond hG rfl
def z_putU (f : Nat) (p : Nat) : ZF := fun ls st z => match st with | .float x :: .ref r :: st => if zcls z r = 14 then some (p, ls, st, sfr z r f (.float x)) else none | _ => none
theorem zw_putU {f : Nat} {x : UInt32} {r : Nat} (hG : G.1 k pc = some (.inl (z_putU f p))) : ZW G d k pc ls (.float x :: .ref r :: st) z Q = ((zcls z r = 14) ∧ ZW G d k p ls (st) (sfr z r f (.float x)) Q) := zw_cond hG rfl
end ZOPJ
section ZOKJ
variable {inf : ZInf} {pc : Nat}
theorem zAR_fun {X : ZX} {ws : va_W} {r a b : Nat} (h : zAR X ws r a) (k : zAR X ws r b) : a = b := by
  rcases h with ⟨h1, h2⟩ | ⟨h1, e, h2⟩
  · rcases k with ⟨k1, k2⟩ | ⟨k1, e', k2⟩
    · exact h2.symm.trans k2
    · omega
  · rcases k with ⟨k1, k2⟩ | ⟨k1, e', k2⟩
    · omega
    · rw [h2] at k2; cases k2; rfl
theorem zAR_low {X : ZX} {ws : va_W} {r a : Nat} (h : zAR X ws r a) (hr : r < 100) : xK X r = a := by
  rcases h with ⟨-, h⟩ | ⟨h, -⟩
  · exact h
  · omega
theorem zLen_at : ∀ i, i < 35 → zLen.getD i 0 = (ztx i).length := by decide +kernel
theorem zByt_at : ∀ i, i < 35 → ∀ j, j < (ztx i).length → (zByt.getD i []).getD j 0 = nI ((ztx i).getD j 0) := by decide +kernel
theorem ok_dxi (hd : decode inf.1 pc = .ok (.dup_x1, 1)) : zOK inf pc (z_dxi (pc + 1)) := by
  refine zOK_stk (fun ls st z p' ls' st' z' hf => ?_)
  unfold z_dxi at hf
  split at hf
  · cases hf
    refine ⟨⟨rfl, rfl⟩, ?_⟩
    intro p l e R s m args below meth c H locs cells slots Q X A w0 ws lsm stm C I hs k
    obtain ⟨hx, hb, hml, hown, hts, hSx, hA, hnm, hfr, hlo, hlk, hfl⟩ := C
    obtain ⟨u1, rfl, hs1⟩ := zSR_i hs
    obtain ⟨a0, u2, rfl, h0, hs2⟩ := zSR_r hs1
    exact lv_dup_x1 hx hb hd rfl rfl (k _ ⟨rfl, ⟨a0, rfl, h0⟩, rfl, hs2⟩)
  · cases hf
theorem ok_dxr (hd : decode inf.1 pc = .ok (.dup_x1, 1)) : zOK inf pc (z_dxr (pc + 1)) := by
  refine zOK_stk (fun ls st z p' ls' st' z' hf => ?_)
  unfold z_dxr at hf
  split at hf
  · cases hf
    refine ⟨⟨rfl, rfl⟩, ?_⟩
    intro p l e R s m args below meth c H locs cells slots Q X A w0 ws lsm stm C I hs k
    obtain ⟨hx, hb, hml, hown, hts, hSx, hA, hnm, hfr, hlo, hlk, hfl⟩ := C
    obtain ⟨a1, u1, rfl, h1, hs1⟩ := zSR_r hs
    obtain ⟨a0, u2, rfl, h0, hs2⟩ := zSR_r hs1
    exact lv_dup_x1 hx hb hd rfl rfl (k _ ⟨⟨a1, rfl, h1⟩, ⟨a0, rfl, h0⟩, ⟨a1, rfl, h1⟩, hs2⟩)
  · cases hf
theorem ok_acne {off : Int} {tgt : Nat} (hd : decode inf.1 pc = .ok (.if_acmp .ne off, 3)) (ht : (pc : Int) + off = (tgt : Int)) : zOK inf pc (z_acne (pc + 3)) := by
  refine zOK_pure (fun ls st z p' ls' st' z' hf0 => ?_)
  unfold z_acne at hf0
  split at hf0
  · rename_i s9 r st1
    split at hf0
    · rename_i hcr
      cases hf0
      refine ⟨rfl, ?_⟩
      intro p l e R s m args below meth c0 H locs cells slots Q X A w0 ws lsm stm C I k
      obtain ⟨hx, hb, hml, hown, hts, hSx, hA, hnm, hfr, hlo, hlk, hfl, -⟩ := C
      obtain ⟨hH, hP, hD, hS, hE, hL, hs⟩ := I
      obtain ⟨a1, u1, rfl, h1, hs1⟩ := zSR_r hs
      obtain ⟨a0, u2, rfl, h0, hs2⟩ := zSR_r hs1
      rw [hcr] at h0
      exact lv_acmp_ne (rx := some a0) (ry := some a1) hx hb hd ht (fun h => absurd (congrArg some (zAR_fun h0 h1)) h) (fun _ => k _ _ hL hs2)
    · cases hf0
  · cases hf0
theorem ok_gcls {idx : Nat} (hd : decode inf.1 pc = .ok (.invokevirtual idx, 3)) (hq : Cond.methodLink inf.2.1.cls idx ⟨"java/lang/Object", "getClass", "()Ljava/lang/Class;"⟩ ∈ lw_all) : zOK inf pc (z_gcls (pc + 3)) := by
  refine zOK_pure (fun ls st z p' ls' st' z' hf0 => ?_)
  unfold z_gcls at hf0
  split at hf0
  · rename_i r st1
    split at hf0
    · rename_i hcr
      cases hf0
      refine ⟨rfl, ?_⟩
      intro p l e R s m args below meth c0 H locs cells slots Q X A w0 ws lsm stm C I k
      obtain ⟨hx, hb, hml, hown, hts, hSx, hA, hnm, hfr, hlo, hlk, hfl, -⟩ := C
      obtain ⟨hH, hP, hD, hS, hE, hL, hs⟩ := I
      obtain ⟨hz, hcr⟩ := hcr
      obtain ⟨a0, u1, rfl, h0, hs1⟩ := zSR_r hs
      obtain ⟨hr1, e0, he0, hE0⟩ := hH.at (by omega) (by omega) h0
      rw [zER_ref hcr (by omega) (by omega)] at hE0
      obtain ⟨g, rfl, hg⟩ := hE0
      have h8 := zstk_ok hs1 hz
      have hJ := hSx.2.2.2.2.2.2.2.2.2.2
      obtain ⟨_, _, _, _, _, e2⟩ := (hSx.1.2 9 (xT X 64, .object "java/lang/Object") rfl).2
      have hcell := hP (r - 100) _ he0
      exact va_getC (C := "[Ljava/lang/Object;") hx hb (by rw [hml]; exact hL.1.1.symm) hown (hts _ hq) (hJ.2.2.2.2.2.1.use) (hts _ q2307) (hts _ q1030) (hts _ q1059) hJ.2.2.2.2.1 ⟨_, hcell, rfl, e2⟩ (by omega) (by omega) hd (k _ _ hL ⟨⟨_, rfl, Or.inl ⟨by omega, rfl⟩⟩, hs1⟩)
    · cases hf0
  · cases hf0
theorem ok_sval {idx : Nat} (hd : decode inf.1 pc = .ok (.getfield idx, 3)) (hq : Cond.fieldLink inf.2.1.cls idx "java/lang/String" "value" "[B" ∈ lw_all) : zOK inf pc (z_sval (pc + 3)) := by
  refine zOK_pure (fun ls st z p' ls' st' z' hf0 => ?_)
  unfold z_sval at hf0
  split at hf0
  · rename_i r st1
    split at hf0
    · rename_i hcr
      cases hf0
      refine ⟨rfl, ?_⟩
      intro p l e R s m args below meth c0 H locs cells slots Q X A w0 ws lsm stm C I k
      obtain ⟨hx, hb, hml, hown, hts, hSx, hA, hnm, hfr, hlo, hlk, hfl, -⟩ := C
      obtain ⟨hH, hP, hD, hS, hE, hL, hs⟩ := I
      replace hcr : @LT.lt Nat _ r 35 := hcr
      obtain ⟨a0, u1, rfl, h0, hs1⟩ := zSR_r hs
      have hS9 := (hSx.2.2.2.2.2.2.1.1 r hcr)
      cases zAR_low h0 (by omega)
      exact vk_getf hx hb hS9.2.2.1 hS hown (hts _ hq) (fun x h9 => h9) hd (k _ _ hL ⟨⟨_, rfl, Or.inl ⟨by omega, hSx.2.2.2.2.2.2.2.2.2.2.2.2.2.2.2.2.1 r hcr⟩⟩, hs1⟩)
    · cases hf0
  · cases hf0
theorem ok_scod {idx : Nat} (hd : decode inf.1 pc = .ok (.getfield idx, 3)) (hq : Cond.fieldLink inf.2.1.cls idx "java/lang/String" "coder" "B" ∈ lw_all) : zOK inf pc (z_scod (pc + 3)) := by
  refine zOK_pure (fun ls st z p' ls' st' z' hf0 => ?_)
  unfold z_scod at hf0
  split at hf0
  · rename_i r st1
    split at hf0
    · rename_i hcr
      cases hf0
      refine ⟨rfl, ?_⟩
      intro p l e R s m args below meth c0 H locs cells slots Q X A w0 ws lsm stm C I k
      obtain ⟨hx, hb, hml, hown, hts, hSx, hA, hnm, hfr, hlo, hlk, hfl, -⟩ := C
      obtain ⟨hH, hP, hD, hS, hE, hL, hs⟩ := I
      replace hcr : @LT.lt Nat _ r 35 := hcr
      obtain ⟨a0, u1, rfl, h0, hs1⟩ := zSR_r hs
      have hS9 := (hSx.2.2.2.2.2.2.1.1 r hcr)
      cases zAR_low h0 (by omega)
      exact vk_getf hx hb hS9.2.1 hS hown (hts _ hq) (fun x h9 => h9) hd (k _ _ hL ⟨rfl, hs1⟩)
    · cases hf0
  · cases hf0
theorem ok_tlen (hd : decode inf.1 pc = .ok (.arraylength, 1)) : zOK inf pc (z_tlen (pc + 1)) := by
  refine zOK_pure (fun ls st z p' ls' st' z' hf0 => ?_)
  unfold z_tlen at hf0
  split at hf0
  · rename_i r st1
    split at hf0
    · rename_i hcr
      cases hf0
      refine ⟨rfl, ?_⟩
      intro p l e R s m args below meth c0 H locs cells slots Q X A w0 ws lsm stm C I k
      obtain ⟨hx, hb, hml, hown, hts, hSx, hA, hnm, hfr, hlo, hlk, hfl, -⟩ := C
      obtain ⟨hH, hP, hD, hS, hE, hL, hs⟩ := I
      replace hcr : @LE.le Nat _ 35 r ∧ @LT.lt Nat _ r 70 := hcr
      obtain ⟨a0, u1, rfl, h0, hs1⟩ := zSR_r hs
      have hS9 := (hSx.2.2.2.2.2.2.1.1 (r - 35) (by omega)).2.2.2
      have hK9 := hSx.2.2.2.2.2.2.2.2.2.2.2.2.2.2.2.2.1 (r - 35) (by omega)
      rw [Nat.add_sub_cancel' hcr.1] at hK9
      have ha9 := zAR_low h0 (by omega)
      rw [hK9] at ha9
      subst ha9
      exact va_tlen hx hb hS9 hS rfl hd (k _ _ hL ⟨by rw [zLen_at _ (by omega)]; rfl, hs1⟩)
    · cases hf0
  · cases hf0
theorem ok_tald (hd : decode inf.1 pc = .ok (.baload, 1)) : zOK inf pc (z_tald (pc + 1)) := by
  refine zOK_pure (fun ls st z p' ls' st' z' hf0 => ?_)
  unfold z_tald at hf0
  split at hf0
  · rename_i a r st1
    split at hf0
    · rename_i hcr
      cases hf0
      refine ⟨rfl, ?_⟩
      intro p l e R s m args below meth c0 H locs cells slots Q X A w0 ws lsm stm C I k
      obtain ⟨hx, hb, hml, hown, hts, hSx, hA, hnm, hfr, hlo, hlk, hfl, -⟩ := C
      obtain ⟨hH, hP, hD, hS, hE, hL, hs⟩ := I
      obtain ⟨hcr, hin⟩ := hcr
      replace hcr : @LE.le Nat _ 35 r ∧ @LT.lt Nat _ r 70 := hcr
      obtain ⟨u0, rfl, hs0⟩ := zSR_i hs
      obtain ⟨a0, u1, rfl, h0, hs1⟩ := zSR_r hs0
      have hS9 := (hSx.2.2.2.2.2.2.1.1 (r - 35) (by omega)).2.2.2
      have hK9 := hSx.2.2.2.2.2.2.2.2.2.2.2.2.2.2.2.2.1 (r - 35) (by omega)
      rw [Nat.add_sub_cancel' hcr.1] at hK9
      have ha9 := zAR_low h0 (by omega)
      rw [hK9] at ha9
      subst ha9
      have hv := zin_vp hin
      have hlt : a.toNatClampNeg < (ztx (r - 35)).length := Nat.not_le.mp fun q => hv (Or.inr q)
      exact va_tb hx hb hS9 hS (by rw [zLen_at _ (by omega)]; exact hv) rfl hd (k _ _ hL ⟨by rw [zByt_at _ (by omega) _ hlt]; rfl, hs1⟩)
    · cases hf0
  · cases hf0
theorem zlel_any {X : ZX} {A : Nat → Prop} {s : State} {H : Heap} {ws : va_W} {z : ZH} {v1 a1 : Nat} (hSx : zSx X A s) (hH : zHR X ws z) (hP : va_P (xD X) zcl ws H) (hv : zlel z (.ref v1) = true) (hav : zAR X ws v1 a1) : va_Any "java/lang/Object" s H a1 := by
  obtain ⟨h100, hk⟩ : 100 ≤ v1 ∧ (zcls z v1 = 15 ∨ (20 ≤ zcls z v1 ∧ zcls z v1 ≤ 23)) := by
    simp only [zlel] at hv
    simpa using hv
  obtain ⟨hv1, e1, he1, hE1⟩ := hH.at (by omega) (by omega) hav
  rcases (show zcls z v1 = 15 ∨ zcls z v1 = 20 ∨ zcls z v1 = 21 ∨ zcls z v1 = 22 ∨ zcls z v1 = 23 by omega) with q | q | q | q | q
  · obtain ⟨fs, rfl, -, -⟩ := zER_obj hE1 q (by omega)
    exact va_rAny (r := (RX15, TX15, 4)) hSx.1 hP he1 rfl (fun comp c9 g1 g2 => vb_asgC (hSx.2.1 _ q2289 rfl) comp c9 g1 g2)
  · obtain ⟨fs, rfl, -, -⟩ := zER_obj hE1 q (by omega)
    exact va_rAny (r := (RX20, TX20, 3)) hSx.1 hP he1 rfl (fun comp c9 g1 g2 => vb_asgC (hSx.2.1 _ q2293 rfl) comp c9 g1 g2)
  · obtain ⟨fs, rfl, -, -⟩ := zER_obj hE1 q (by omega)
    exact va_rAny (r := (RX21, TX21, 8)) hSx.1 hP he1 rfl (fun comp c9 g1 g2 => vb_asgC (hSx.2.1 _ q2294 rfl) comp c9 g1 g2)
  · obtain ⟨fs, rfl, -, -⟩ := zER_obj hE1 q (by omega)
    exact va_rAny (r := (RX22, TX22, 4)) hSx.1 hP he1 rfl (fun comp c9 g1 g2 => vb_asgC (hSx.2.1 _ q2295 rfl) comp c9 g1 g2)
  · obtain ⟨fs, rfl, -, -⟩ := zER_obj hE1 q (by omega)
    exact va_rAny (r := (RX23, TX23, 5)) hSx.1 hP he1 rfl (fun comp c9 g1 g2 => vb_asgC (hSx.2.1 _ q2296 rfl) comp c9 g1 g2)
set_option maxHeartbeats 800000 in
theorem ok_aasto (hd : decode inf.1 pc = .ok (.aastore, 1)) : zOK inf pc (z_aasto (pc + 1)) := by
  intro ls st z p' ls' st' z' hf0
  unfold z_aasto at hf0
  split at hf0
  · rename_i v a r st1
    split at hf0
    · rename_i hcr
      obtain ⟨hcr, hir, hv⟩ := hcr
      cases hf0
      refine ⟨⟨Nat.le_refl _, Nat.le_refl _⟩, ?_⟩
      intro p l e R s m args below meth c0 H locs cells slots Q X A w0 ws lsm stm C I hcl hsl k
      simp only [uc_sra, us_sra, Nat.sub_self, Nat.add_zero] at k
      obtain ⟨hx, hb, hml, hown, hts, hSx, hA, hnm, hfr, hlo, hlk, hfl, -⟩ := C
      obtain ⟨hH, hP, hD, hS, hE, hL, hs⟩ := I
      obtain ⟨w, u1, rfl, hw, hs1⟩ := zSR_v hs
      obtain ⟨u2, rfl, hs2⟩ := zSR_i hs1
      obtain ⟨a0, u3, rfl, h0, hs3⟩ := zSR_r hs2
      obtain ⟨hr1, e0, he0, hE0⟩ := hH.at (by omega) (by omega) h0
      rw [zER_ref hcr (by omega) (by omega)] at hE0
      obtain ⟨g, rfl, hg⟩ := hE0
      obtain ⟨v1, rfl⟩ : ∃ v1 : Nat, v = .ref v1 := by
        cases v with
        | ref q => exact ⟨q, rfl⟩
        | _ => exact absurd hv (by simp [zlel])
      obtain ⟨a1, rfl, hav⟩ := hw
      have hany := zlel_any hSx hH hP hv hav
      refine va_astqM hx hb hSx.1 hP hD hS (r - 100) 9 he0 rfl hany (zin_vp hir) hd (fun H1 locs1 hP1 hD1 hS1 => ?_)
      have hX := zExt.set (e' := (.inl (xT X 64, zlen z r, vq (va_up g a.toNatClampNeg (some a1))) : va_E)) he0
      refine k H1 locs1 _ _ _ ⟨hH.set hr1 he0 (by omega) rfl rfl rfl rfl (fun q hq => ⟨rfl, rfl, rfl, rfl, rfl, rfl, rfl, zu2_off _ _ _ _ hq, rfl⟩) ?_, hP1, hD1, hS1, hE.trans hX, hL.ext hX, hs3.ext hX⟩
      rw [zER_ref (z := sra z r (zx a) (.ref v1)) hcr (by omega) (by omega)]
      refine ⟨_, rfl, fun i => ?_⟩
      rw [ra_sra]
      by_cases hi : i = zx a
      · subst hi
        rw [zu2_s]
        have e9 : va_up g a.toNatClampNeg (some a1) (zx a) = (some a1) := va_up_self _ _ _
        rw [e9]
        exact ⟨a1, rfl, hav.ext hX⟩
      · rw [zu2_k _ _ _ _ hi]
        have e9 : va_up g a.toNatClampNeg (some a1) i = g i := va_up_ne _ _ hi
        rw [e9]
        exact (hg i).ext hX
    · cases hf0
  · cases hf0
set_option maxHeartbeats 800000 in
theorem ok_aastn (hd : decode inf.1 pc = .ok (.aastore, 1)) : zOK inf pc (z_aastn (pc + 1)) := by
  intro ls st z p' ls' st' z' hf0
  unfold z_aastn at hf0
  split at hf0
  · rename_i a r st1
    split at hf0
    · rename_i hcr
      obtain ⟨hcr, hir⟩ := hcr
      cases hf0
      refine ⟨⟨Nat.le_refl _, Nat.le_refl _⟩, ?_⟩
      intro p l e R s m args below meth c0 H locs cells slots Q X A w0 ws lsm stm C I hcl hsl k
      simp only [uc_sra, us_sra, Nat.sub_self, Nat.add_zero] at k
      obtain ⟨hx, hb, hml, hown, hts, hSx, hA, hnm, hfr, hlo, hlk, hfl, -⟩ := C
      obtain ⟨hH, hP, hD, hS, hE, hL, hs⟩ := I
      obtain ⟨u1, rfl, hs1⟩ := zSR_n hs
      obtain ⟨u2, rfl, hs2⟩ := zSR_i hs1
      obtain ⟨a0, u3, rfl, h0, hs3⟩ := zSR_r hs2
      obtain ⟨hr1, e0, he0, hE0⟩ := hH.at (by omega) (by omega) h0
      rw [zER_ref hcr (by omega) (by omega)] at hE0
      obtain ⟨g, rfl, hg⟩ := hE0
      skip
      refine va_astqN hx hb hSx.1 hP hD hS (r - 100) 9 he0 rfl (zin_vp hir) hd (fun H1 locs1 hP1 hD1 hS1 => ?_)
      have hX := zExt.set (e' := (.inl (xT X 64, zlen z r, vq (va_up g a.toNatClampNeg none)) : va_E)) he0
      refine k H1 locs1 _ _ _ ⟨hH.set hr1 he0 (by omega) rfl rfl rfl rfl (fun q hq => ⟨rfl, rfl, rfl, rfl, rfl, rfl, rfl, zu2_off _ _ _ _ hq, rfl⟩) ?_, hP1, hD1, hS1, hE.trans hX, hL.ext hX, hs3.ext hX⟩
      rw [zER_ref (z := sra z r (zx a) .null) hcr (by omega) (by omega)]
      refine ⟨_, rfl, fun i => ?_⟩
      rw [ra_sra]
      by_cases hi : i = zx a
      · subst hi
        rw [zu2_s]
        have e9 : va_up g a.toNatClampNeg none (zx a) = none := va_up_self _ _ _
        rw [e9]
        rfl
      · rw [zu2_k _ _ _ _ hi]
        have e9 : va_up g a.toNatClampNeg none i = g i := va_up_ne _ _ hi
        rw [e9]
        exact (hg i).ext hX
    · cases hf0
  · cases hf0
set_option maxHeartbeats 800000 in
theorem ok_acpyq {idx : Nat} (hd : decode inf.1 pc = .ok (.invokestatic idx, 3)) (hq : Cond.methodLink inf.2.1.cls idx arraycopyName ∈ lw_all) : zOK inf pc (z_acpyq (pc + 3)) := by
  intro ls st z p' ls' st' z' hf0
  unfold z_acpyq at hf0
  split at hf0
  · rename_i n1 b s9 a r st1
    split at hf0
    · rename_i hcr
      obtain ⟨⟨hz, hcr, hcs⟩, ⟨hi1, hi2, hi3⟩, ⟨hb1, hb2⟩, hel⟩ := hcr
      cases hf0
      refine ⟨⟨Nat.le_refl _, Nat.le_refl _⟩, ?_⟩
      intro p l e R s m args below meth c0 H locs cells slots Q X A w0 ws lsm stm C I hcl hsl k
      simp only [uc_sRA, us_sRA, Nat.sub_self, Nat.add_zero] at k
      obtain ⟨hx, hb, hml, hown, hts, hSx, hA, hnm, hfr, hlo, hlk, hfl, -⟩ := C
      obtain ⟨hH, hP, hD, hS, hE, hL, hs⟩ := I
      obtain ⟨u1, rfl, hs1⟩ := zSR_i hs
      obtain ⟨u2, rfl, hs2⟩ := zSR_i hs1
      obtain ⟨a1, u3, rfl, h1, hs3⟩ := zSR_r hs2
      obtain ⟨u4, rfl, hs4⟩ := zSR_i hs3
      obtain ⟨a0, u5, rfl, h0, hs5⟩ := zSR_r hs4
      have h8 := zstk_ok hs5 hz
      obtain ⟨hr1, e0, he0, hE0⟩ := hH.at (by omega) (by omega) h0
      obtain ⟨hr2, e1, he1, hE1⟩ := hH.at (by omega) (by omega) h1
      rw [zER_ref hcr (by omega) (by omega)] at hE0
      rw [zER_ref hcs (by omega) (by omega)] at hE1
      obtain ⟨g, rfl, hg⟩ := hE0
      obtain ⟨g', rfl, hg'⟩ := hE1
      refine va_copyM (E0 := "java/lang/Object") (E1 := "java/lang/Object") hx hb (by rw [hml]; exact hL.1.1.symm) hown (hts _ hq) (hts _ q355) (hts _ q354) (hts _ q118) hSx.1 hP hD hS (r - 100) (s9 - 100) 9 9 he0 he1 rfl rfl (fun q => zin_vp hi1 (Or.inl q)) (fun q => zin_vp hi2 (Or.inl q)) (fun q => zin_vp hi3 (Or.inl q)) hb1 hb2 (fun i hi y hy => ?_) (by omega) (Nat.le_trans (Nat.add_le_add h8 (by decide : nativeFrameWords "java/lang/System" "arraycopy" 5 + 11 ≤ 300)) (by omega)) hd (fun H1 locs1 hP1 hD1 hS1 => ?_)
      · have h9 := hg (zx a + i)
        rw [show g (zx a + i) = some y from hy] at h9
        have h7 : (znul (zra z r (zx a + i)) || zlel z (zra z r (zx a + i))) = true := by
          unfold zlels at hel
          exact List.all_eq_true.mp hel i (List.mem_range.mpr hi)
        cases hv : zra z r (zx a + i) with
        | ref v1 =>
          rw [hv] at h9 h7
          obtain ⟨a9, e9, h9⟩ := h9
          cases e9
          exact zlel_any hSx hH hP (by simpa [znul] using h7) h9
        | null => rw [hv] at h9; exact absurd h9 (by intro h; cases h)
        | int x => rw [hv] at h7; simp [znul, zlel] at h7
        | long x => rw [hv] at h7; simp [znul, zlel] at h7
        | float x => rw [hv] at h7; simp [znul, zlel] at h7
        | double x => rw [hv] at h7; simp [znul, zlel] at h7
        | retAddr x => rw [hv] at h7; simp [znul, zlel] at h7
      · have hX := zExt.set (e' := (.inl (xT X 64, zlen z s9, vq (va_cpy g g' (zx a) (zx b) (zx n1))) : va_E)) he1
        refine k H1 locs1 _ _ _ ⟨hH.set hr2 he1 (by omega) rfl rfl rfl rfl (fun q hq => ⟨rfl, rfl, rfl, rfl, rfl, rfl, rfl, zu1_n _ _ _ hq, rfl⟩) ?_, hP1, hD1, hS1, hE.trans hX, hL.ext hX, hs5.ext hX⟩
        rw [zER_ref (z := sRA z s9 (va_cpy (zra z r) (zra z s9) (zx a) (zx b) (zx n1))) hcs (by omega) (by omega)]
        refine ⟨va_cpy g g' (zx a) (zx b) (zx n1), rfl, fun i => ?_⟩
        rw [ra_sRA, zu1_s]
        unfold va_cpy
        by_cases hc : zx b ≤ i ∧ i < zx b + zx n1
        · rw [if_pos hc, if_pos hc]; exact (hg _).ext hX
        · rw [if_neg hc, if_neg hc]; exact (hg' _).ext hX
    · cases hf0
  · cases hf0
theorem ok_getIS {c f idx : Nat} {ref C : String} {T : u_T} {N : Nat} (hd : decode inf.1 pc = .ok (.getfield idx, 3)) (hc : zcl[c]? = some (C, T, N)) (hc25 : c < 25) (hin : ∀ w ∈ u_ws C T N, w ∈ lw_all) (hf : f < N) (hN : zNf c = N) (hr : zRf c f = false) (hq : Cond.fieldLink inf.2.1.cls idx ref (T f).2.1 (T f).2.2.1 ∈ lw_all) (hq2 : Cond.sameField ref (T f).1 (T f).2.1 (T f).2.2.1 ∈ lw_all) : zOK inf pc (z_getI c f (pc + 3)) := by
  refine zOK_pure (fun ls st z p' ls' st' z' hf0 => ?_)
  unfold z_getI at hf0
  split at hf0
  · rename_i r st1
    split at hf0
    · rename_i hcr
      cases hf0
      refine ⟨rfl, ?_⟩
      intro p l e R s m args below meth c0 H locs cells slots Q X A w0 ws lsm stm C I k
      obtain ⟨hx, hb, hml, hown, hts, hSx, hA, hnm, hfr, hlo, hlk, hfl, -⟩ := C
      obtain ⟨hH, hP, hD, hS, hE, hL, hs⟩ := I
      obtain ⟨a0, u1, rfl, h0, hs1⟩ := zSR_r hs
      obtain ⟨hr1, e0, he0, hE0⟩ := hH.at (by omega) (by omega) h0
      obtain ⟨fs, rfl, hl1, hfs⟩ := zER_obj hE0 hcr hc25
      obtain ⟨w, hw1, hw2⟩ := hfs f (by omega)
      rw [hr, if_neg (by decide)] at hw2
      subst hw2
      exact va_get (ref := ref) (C := C) (T := T) (N := N) hx hb hts hin hown hSx.1 hP (r - 100) he0 hc f hf (hts _ hq) (fun x hx9 => u_same (hts _ hq2) x hx9) hw1 hd (k _ _ hL ⟨rfl, hs1⟩)
    · cases hf0
  · cases hf0
set_option maxHeartbeats 800000 in
theorem ok_putIS {c f idx : Nat} {ref C : String} {T : u_T} {N : Nat} (hd : decode inf.1 pc = .ok (.putfield idx, 3)) (hc : zcl[c]? = some (C, T, N)) (hc25 : c < 25) (hin : ∀ w ∈ u_ws C T N, w ∈ lw_all) (hf : f < N) (hN : zNf c = N) (hr : zRf c f = false) (hq : Cond.fieldLink inf.2.1.cls idx ref (T f).2.1 (T f).2.2.1 ∈ lw_all) (hq2 : Cond.sameField ref (T f).1 (T f).2.1 (T f).2.2.1 ∈ lw_all) {ty0 : Nat → FieldType} (hty : ∀ k, k < N → parseFieldDescriptor (T k).2.2.1 = some (ty0 k)) (hnmx : ∀ a, a < N → ∀ b, b < N → a ≠ b → (T a).2.1 ≠ (T b).2.1) (hfin : (T f).2.2.2 = false) (ht1 : parseFieldDescriptor (T f).2.2.1 = some .int) : zOK inf pc (z_putI c f (pc + 3)) := by
  intro ls st z p' ls' st' z' hf0
  unfold z_putI at hf0
  split at hf0
  · rename_i v r st1
    split at hf0
    · rename_i hcr
      cases hf0
      refine ⟨⟨Nat.le_refl _, Nat.le_refl _⟩, ?_⟩
      intro p l e R s m args below meth c0 H locs cells slots Q X A w0 ws lsm stm C I hcl hsl k
      simp only [uc_sfi, us_sfi, uc_sfr, us_sfr, Nat.sub_self, Nat.add_zero] at k
      obtain ⟨hx, hb, hml, hown, hts, hSx, hA, hnm, hfr, hlo, hlk, hfl, -⟩ := C
      obtain ⟨hH, hP, hD, hS, hE, hL, hs⟩ := I
      obtain ⟨u1, rfl, hs1⟩ := zSR_i hs
      obtain ⟨a0, u2, rfl, h0, hs2⟩ := zSR_r hs1
      obtain ⟨hr1, e0, he0, hE0⟩ := hH.at (by omega) (by omega) h0
      obtain ⟨fs, rfl, hl1, hfs⟩ := zER_obj hE0 hcr hc25
      have hnf : narrow .int (.int v) = .int v ∧ fits .int (.int v) = true := ⟨rfl, rfl⟩
      refine va_put (ref := ref) (C := C) (T := T) (N := N) hx hb hts hin ty0 hty hnmx hown hSx.1 hP hD hS (r - 100) he0 hc f hf (hts _ hq) (fun x hx9 => u_same (hts _ hq2) x hx9) hfin (ty := .int) ht1 hnf.1 hnf.2 (by omega) hd (fun H1 locs1 hP1 hD1 hS1 => ?_)
      have hX := zExt.set (e' := (.inr (c, fs.set f (.int v)) : va_E)) he0
      refine k H1 locs1 _ _ _ ⟨hH.set hr1 he0 (by omega) rfl rfl rfl rfl (fun q hq => ?_) (zER_obj' hcr hc25 (by rw [List.length_set]; exact hl1) (fun j hj => ?_)), hP1, hD1, hS1, hE.trans hX, hL.ext hX, hs2.ext hX⟩
      · refine ⟨rfl, rfl, rfl, ?_, ?_, rfl, rfl, rfl, rfl⟩
        · funext j; exact zu2_n _ _ _ _ hq
        · rfl
      · by_cases hjf : j = f
        · subst hjf
          refine ⟨(.int v), by rw [List.getElem?_set_self (by omega)], ?_⟩
          rw [hr, if_neg (by decide)]
          rw [fi_sfi, zu2_s]
        · obtain ⟨w1, hw1, hw2⟩ := hfs j hj
          refine ⟨w1, by rw [List.getElem?_set_ne (fun e => hjf e.symm)]; exact hw1, ?_⟩
          by_cases hz : zRf c j = true
          · rw [if_pos hz] at hw2 ⊢
            exact hw2.ext hX
          · rw [if_neg hz] at hw2 ⊢
            rw [fi_sfi, zu2_k _ _ _ _ hjf]; exact hw2
    · cases hf0
  · cases hf0
set_option maxHeartbeats 800000 in
theorem ok_putU {f idx : Nat} {ref C : String} {T : u_T} {N : Nat} (hd : decode inf.1 pc = .ok (.putfield idx, 3)) (hc : zcl[14]? = some (C, T, N)) (hin : ∀ w ∈ u_ws C T N, w ∈ lw_all) (hf : f < N) (hN : zNf 14 = N) (hr : zRf 14 f = true) (hq : Cond.fieldLink inf.2.1.cls idx ref (T f).2.1 (T f).2.2.1 ∈ lw_all) (hsm : (T f).1 = ref) {ty0 : Nat → FieldType} (hty : ∀ k, k < N → parseFieldDescriptor (T k).2.2.1 = some (ty0 k)) (hnmx : ∀ a, a < N → ∀ b, b < N → a ≠ b → (T a).2.1 ≠ (T b).2.1) (hfin : (T f).2.2.2 = false) {ty : FieldType} (ht1 : parseFieldDescriptor (T f).2.2.1 = some ty) (ht2 : (∃ n, ty = .object n) ∨ ∃ t, ty = .array t) : zOK inf pc (z_putU f (pc + 3)) := by
  intro ls st z p' ls' st' z' hf0
  unfold z_putU at hf0
  split at hf0
  · rename_i v r st1
    split at hf0
    · rename_i hcr
      cases hf0
      refine ⟨⟨Nat.le_refl _, Nat.le_refl _⟩, ?_⟩
      intro p l e R s m args below meth c0 H locs cells slots Q X A w0 ws lsm stm C I hcl hsl k
      simp only [uc_sfi, us_sfi, uc_sfr, us_sfr, Nat.sub_self, Nat.add_zero] at k
      obtain ⟨hx, hb, hml, hown, hts, hSx, hA, hnm, hfr, hlo, hlk, hfl, -⟩ := C
      obtain ⟨hH, hP, hD, hS, hE, hL, hs⟩ := I
      obtain ⟨w, u1, rfl, hw, hs1⟩ := zSR_v hs
      obtain ⟨a0, u2, rfl, h0, hs2⟩ := zSR_r hs1
      obtain ⟨hr1, e0, he0, hE0⟩ := hH.at (by omega) (by omega) h0
      obtain ⟨fs, rfl, hl1, hfs⟩ := zER_obj hE0 hcr (by decide)
      have hnf : narrow ty w = w ∧ fits ty w = true := by
        rcases hw with rfl | ⟨a9, rfl⟩ <;> rcases ht2 with ⟨n, rfl⟩ | ⟨t, rfl⟩ <;> exact ⟨rfl, rfl⟩
      refine va_put (ref := ref) (C := C) (T := T) (N := N) hx hb hts hin ty0 hty hnmx hown hSx.1 hP hD hS (r - 100) he0 hc f hf (hts _ hq) (fun x hx9 => by rw [← hsm]; exact hx9) hfin (ty := ty) ht1 hnf.1 hnf.2 (by omega) hd (fun H1 locs1 hP1 hD1 hS1 => ?_)
      have hX := zExt.set (e' := (.inr (14, fs.set f w) : va_E)) he0
      refine k H1 locs1 _ _ _ ⟨hH.set hr1 he0 (by omega) rfl rfl rfl rfl (fun q hq => ?_) (zER_obj' hcr (by decide) (by rw [List.length_set]; exact hl1) (fun j hj => ?_)), hP1, hD1, hS1, hE.trans hX, hL.ext hX, hs2.ext hX⟩
      · refine ⟨rfl, rfl, rfl, ?_, ?_, rfl, rfl, rfl, rfl⟩
        · rfl
        · funext j; exact zu2_n _ _ _ _ hq
      · by_cases hjf : j = f
        · subst hjf
          refine ⟨w, by rw [List.getElem?_set_self (by omega)], ?_⟩
          rw [hr, if_pos (by decide)]
          rw [fr_sfr, zu2_s]; exact hw
        · obtain ⟨w1, hw1, hw2⟩ := hfs j hj
          refine ⟨w1, by rw [List.getElem?_set_ne (fun e => hjf e.symm)]; exact hw1, ?_⟩
          by_cases hz : zRf 14 j = true
          · rw [if_pos hz] at hw2 ⊢
            rw [fr_sfr, zu2_k _ _ _ _ hjf]; exact hw2.ext hX
          · rw [if_neg hz] at hw2 ⊢
            exact hw2
    · cases hf0
  · cases hf0
theorem ok_ldcM {idx : Nat} (hd : decode inf.1 pc = .ok (.ldc idx, 2)) (hq : Cond.classLink inf.2.1.cls idx "[Ljava/lang/Object;" ∈ lw_all) : zOK inf pc (z_push (.ref 98) (pc + 2)) := by
  refine zOK_pure (fun ls st z p' ls' st' z' hf0 => ?_)
  unfold z_push at hf0
  cases hf0
  refine ⟨rfl, ?_⟩
  intro p l e R s m args below meth c0 H locs cells slots Q X A w0 ws lsm stm C I k
  obtain ⟨hx, hb, hml, hown, hts, hSx, hA, hnm, hfr, hlo, hlk, hfl, -⟩ := C
  obtain ⟨hH, hP, hD, hS, hE, hL, hs⟩ := I
  have hJ := hSx.2.2.2.2.2.2.2.2.2.2
  exact va_ldcM hx hb hown (hts _ hq) hJ.2.2.2.2.1 hd (k _ _ hL ⟨⟨_, rfl, Or.inl ⟨by omega, rfl⟩⟩, hs⟩)
theorem ok_gsC {idx : Nat} (hd : decode inf.1 pc = .ok (.getstatic idx, 3)) (hq : Cond.fieldLink inf.2.1.cls idx "java/lang/String" "COMPACT_STRINGS" "Z" ∈ lw_all) : zOK inf pc (z_push (.int 1) (pc + 3)) := by
  refine zOK_pure (fun ls st z p' ls' st' z' hf0 => ?_)
  unfold z_push at hf0
  cases hf0
  refine ⟨rfl, ?_⟩
  intro p l e R s m args below meth c0 H locs cells slots Q X A w0 ws lsm stm C I k
  obtain ⟨hx, hb, hml, hown, hts, hSx, hA, hnm, hfr, hlo, hlk, hfl, -⟩ := C
  obtain ⟨hH, hP, hD, hS, hE, hL, hs⟩ := I
  have hJ := hSx.2.2.2.2.2.2.2.2.2.2
  exact va_gets hx hb hJ.1 hS hown (hts _ hq) (fun x h9 => h9) hd (k _ _ hL ⟨rfl, hs⟩)
theorem ok_gsF {idx : Nat} (hd : decode inf.1 pc = .ok (.getstatic idx, 3)) (hq : Cond.fieldLink inf.2.1.cls idx "jdk/internal/util/Preconditions" "SIOOBE_FORMATTER" "Ljava/util/function/BiFunction;" ∈ lw_all) : zOK inf pc (z_push (.float 0) (pc + 3)) := by
  refine zOK_pure (fun ls st z p' ls' st' z' hf0 => ?_)
  unfold z_push at hf0
  cases hf0
  refine ⟨rfl, ?_⟩
  intro p l e R s m args below meth c0 H locs cells slots Q X A w0 ws lsm stm C I k
  obtain ⟨hx, hb, hml, hown, hts, hSx, hA, hnm, hfr, hlo, hlk, hfl, -⟩ := C
  obtain ⟨hH, hP, hD, hS, hE, hL, hs⟩ := I
  have hJ := hSx.2.2.2.2.2.2.2.2.2.2
  rcases hJ.2.1 with h9 | ⟨t9, h9⟩
  · exact va_gets hx hb h9 hS hown (hts _ hq) (fun x h9 => h9) hd (k _ _ hL ⟨Or.inl rfl, hs⟩)
  · exact va_gets hx hb h9 hS hown (hts _ hq) (fun x h9 => h9) hd (k _ _ hL ⟨Or.inr ⟨_, rfl⟩, hs⟩)
theorem ok_gsU {idx : Nat} (hd : decode inf.1 pc = .ok (.getstatic idx, 3)) (hq : Cond.fieldLink inf.2.1.cls idx "java/lang/Throwable" "UNASSIGNED_STACK" "[Ljava/lang/StackTraceElement;" ∈ lw_all) : zOK inf pc (z_push (.float 0) (pc + 3)) := by
  refine zOK_pure (fun ls st z p' ls' st' z' hf0 => ?_)
  unfold z_push at hf0
  cases hf0
  refine ⟨rfl, ?_⟩
  intro p l e R s m args below meth c0 H locs cells slots Q X A w0 ws lsm stm C I k
  obtain ⟨hx, hb, hml, hown, hts, hSx, hA, hnm, hfr, hlo, hlk, hfl, -⟩ := C
  obtain ⟨hH, hP, hD, hS, hE, hL, hs⟩ := I
  have hJ := hSx.2.2.2.2.2.2.2.2.2.2
  rcases hJ.2.2.1.1 with h9 | ⟨t9, h9⟩
  · exact va_gets hx hb h9 hS hown (hts _ hq) (fun x h9 => h9) hd (k _ _ hL ⟨Or.inl rfl, hs⟩)
  · exact va_gets hx hb h9 hS hown (hts _ hq) (fun x h9 => h9) hd (k _ _ hL ⟨Or.inr ⟨_, rfl⟩, hs⟩)
theorem ok_gsN {idx : Nat} (hd : decode inf.1 pc = .ok (.getstatic idx, 3)) (hq : Cond.fieldLink inf.2.1.cls idx "java/lang/Throwable" "SUPPRESSED_SENTINEL" "Ljava/util/List;" ∈ lw_all) : zOK inf pc (z_push (.float 0) (pc + 3)) := by
  refine zOK_pure (fun ls st z p' ls' st' z' hf0 => ?_)
  unfold z_push at hf0
  cases hf0
  refine ⟨rfl, ?_⟩
  intro p l e R s m args below meth c0 H locs cells slots Q X A w0 ws lsm stm C I k
  obtain ⟨hx, hb, hml, hown, hts, hSx, hA, hnm, hfr, hlo, hlk, hfl, -⟩ := C
  obtain ⟨hH, hP, hD, hS, hE, hL, hs⟩ := I
  have hJ := hSx.2.2.2.2.2.2.2.2.2.2
  rcases hJ.2.2.2.1.1 with h9 | ⟨t9, h9⟩
  · exact va_gets hx hb h9 hS hown (hts _ hq) (fun x h9 => h9) hd (k _ _ hL ⟨Or.inl rfl, hs⟩)
  · exact va_gets hx hb h9 hS hown (hts _ hq) (fun x h9 => h9) hd (k _ _ hL ⟨Or.inr ⟨_, rfl⟩, hs⟩)
end ZOKJ

