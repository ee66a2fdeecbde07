/-! Z and the machine: the relation -/
set_option maxRecDepth 100000
def uT0 : u_T := fun _ => ("", "", "", false)
abbrev zcl : List vw_C := [(RX0, TX0, 12), (RX1, TX1, 4), (RX2, TX2, 5), (RX3, TX3, 6), (RX4, TX4, 6), (RX6, uT0, 0), (RX6, uT0, 0), (RX7, uT0, 0), (RX8, uT0, 0), (RX9, uT0, 0), (RX10, TX10, 12), (RX11, TX11, 1), (RX12, TX12, 41), (RX13, TX13, 12), (RX14, TX14, 8), (RX15, TX15, 4), (RX6, uT0, 0), (RX17, TX17, 1), (RX18, TX18, 1), (RX19, TX19, 3), (RX20, TX20, 3), (RX21, TX21, 8), (RX22, TX22, 4), (RX23, TX23, 5), (RJ2, TJ2, 3)]
def zNf (c : Nat) : Nat := [12, 4, 5, 6, 6, 0, 0, 0, 0, 0, 12, 1, 41, 12, 8, 4, 0, 1, 1, 3, 3, 8, 4, 5, 3].getD c 0
def zRf (c k : Nat) : Bool := ([[true, true, true, true, true, true, false, false, false, true, true, true], [true, true, true, false], [true, true, true, false, false], [true, true, true, true, true, false], [false, false, false, false, false, false], [], [], [], [], [], [true, true, true, true, false, false, false, false, false, true, false, true], [true], [false, true, true, true, true, false, true, false, false, false, false, false, false, false, true, true, true, false, true, true, true, false, false, false, true, true, false, true, true, true, true, true, true, true, false, true, true, true, true, true, true], [true, true, true, true, true, false, true, false, false, false, false, false], [true, true, true, true, true, false, false, false], [false, false, false, true], [], [false], [false], [true, true, false], [true, true, false], [false, false, false, false, false, false, false, false], [false, false, false, false], [false, false, false, false, false], [false, true, false]].getD c []).getD k false
def ztys (t : Nat → ClassId) : List (ClassId × FieldType) := [(t 50, .int), (t 51, .long), (t 52, .byte), (t 53, .short), (t 54, .boolean), (t 60, .object "CardBowl$Slot"), (t 61, .object "CardBowl$State"), (t 62, .object "CardBowl$Paying"), (t 63, .object "java/lang/String"), (t 64, .object "java/lang/Object")]
/-- what is fixed in a run: classes, array classes, where the texts and their bytes lie (place 99: the script), the script -/
abbrev ZX : Type := va_G × (Nat → ClassId) × (Nat → Nat) × (Nat → Nat) × Nat × (Nat → Int32)
def xD (X : ZX) : va_G := X.1
def xT (X : ZX) : Nat → ClassId := X.2.1
def xK (X : ZX) : Nat → Nat := X.2.2.1
def xV (X : ZX) : Nat → Nat := X.2.2.2.1
def xL (X : ZX) : Nat := X.2.2.2.2.1
def xS (X : ZX) : Nat → Int32 := X.2.2.2.2.2
abbrev vq (g : Nat → Option Nat) : (Nat → Int32) ⊕ (Nat → Int64) ⊕ (Nat → UInt32) ⊕ (Nat → UInt64) ⊕ (Nat → Option Nat) := .inr (.inr (.inr (.inr g)))
abbrev vl (g : Nat → Int64) : (Nat → Int32) ⊕ (Nat → Int64) ⊕ (Nat → UInt32) ⊕ (Nat → UInt64) ⊕ (Nat → Option Nat) := .inr (.inl g)
def zAR (X : ZX) (ws : va_W) (r a : Nat) : Prop := (r < 100 ∧ xK X r = a) ∨ (100 ≤ r ∧ ∃ e, ws[r - 100]? = some (a, e))
def zVR (X : ZX) (ws : va_W) (v w : Value) : Prop := match v with
  | .int x => w = .int x
  | .long x => w = .long x
  | .null => w = .null
  | .float _ => w = .null ∨ ∃ a : Nat, w = .ref a
  | .ref r => ∃ a, w = .ref a ∧ zAR X ws r a
  | _ => False
def zExt (ws ws' : va_W) : Prop := ∀ (i a : Nat) (e : va_E), ws[i]? = some (a, e) → ∃ e' : va_E, ws'[i]? = some (a, e')
theorem zExt.rf {ws : va_W} : zExt ws ws := fun _ _ e h => ⟨e, h⟩
theorem zExt.trans {a b c : va_W} (h : zExt a b) (k : zExt b c) : zExt a c := fun i x e q => by
  obtain ⟨e1, q1⟩ := h i x e q
  exact k i x e1 q1
theorem zExt.push {ws : va_W} {q : Nat × va_E} : zExt ws (ws ++ [q]) := fun i a e h => ⟨e, by
  rw [List.getElem?_append_left (List.getElem?_eq_some_iff.mp h).1]; exact h⟩
theorem zExt.set {ws : va_W} {i a : Nat} {e e' : va_E} (h : ws[i]? = some (a, e)) : zExt ws (ws.set i (a, e')) := by
  intro j b f hj
  by_cases hij : i = j
  · subst hij
    rw [h] at hj
    cases hj
    exact ⟨e', by rw [List.getElem?_set_self (List.getElem?_eq_some_iff.mp h).1]⟩
  · exact ⟨f, by rw [List.getElem?_set_ne hij]; exact hj⟩
theorem zAR.ext {X : ZX} {ws ws' : va_W} {r a : Nat} (k : zExt ws ws') (h : zAR X ws r a) : zAR X ws' r a := by
  rcases h with h | ⟨h, e, he⟩
  · exact Or.inl h
  · exact Or.inr ⟨h, k _ _ _ he⟩
theorem zVR.ext {X : ZX} {ws ws' : va_W} {v w : Value} (k : zExt ws ws') (h : zVR X ws v w) : zVR X ws' v w := by
  cases v with
  | ref r => obtain ⟨a, e, h⟩ := h; exact ⟨a, e, h.ext k⟩
  | _ => exact h
def zSR (X : ZX) (ws : va_W) : List Value → List Value → Prop
  | [], [] => True
  | v :: vs, w :: us => zVR X ws v w ∧ zSR X ws vs us
  | _, _ => False
theorem zSR.ext {X : ZX} {ws ws' : va_W} (k : zExt ws ws') : ∀ {a b : List Value}, zSR X ws a b → zSR X ws' a b
  | [], [], _ => trivial
  | _ :: _, _ :: _, h => ⟨h.1.ext k, zSR.ext k h.2⟩
  | [], _ :: _, h => h.elim
  | _ :: _, [], h => h.elim
theorem zSR_v {X : ZX} {ws : va_W} {v : Value} {st stm : List Value} (h : zSR X ws (v :: st) stm) : ∃ w u, stm = w :: u ∧ zVR X ws v w ∧ zSR X ws st u := by
  cases stm with
  | nil => exact h.elim
  | cons w u => exact ⟨w, u, rfl, h.1, h.2⟩
theorem zSR_i {X : ZX} {ws : va_W} {a : Int32} {st stm : List Value} (h : zSR X ws (.int a :: st) stm) : ∃ u, stm = .int a :: u ∧ zSR X ws st u := by
  obtain ⟨w, u, e, h1, h2⟩ := zSR_v h
  have h1 : w = .int a := h1
  subst h1
  exact ⟨u, e, h2⟩
theorem zSR_l {X : ZX} {ws : va_W} {a : Int64} {st stm : List Value} (h : zSR X ws (.long a :: st) stm) : ∃ u, stm = .long a :: u ∧ zSR X ws st u := by
  obtain ⟨w, u, e, h1, h2⟩ := zSR_v h
  have h1 : w = .long a := h1
  subst h1
  exact ⟨u, e, h2⟩
theorem zSR_n {X : ZX} {ws : va_W} {st stm : List Value} (h : zSR X ws (.null :: st) stm) : ∃ u, stm = .null :: u ∧ zSR X ws st u := by
  obtain ⟨w, u, e, h1, h2⟩ := zSR_v h
  have h1 : w = .null := h1
  subst h1
  exact ⟨u, e, h2⟩
theorem zSR_r {X : ZX} {ws : va_W} {r : Nat} {st stm : List Value} (h : zSR X ws (.ref r :: st) stm) : ∃ a u, stm = .ref a :: u ∧ zAR X ws r a ∧ zSR X ws st u := by
  obtain ⟨w, u, e, h1, h2⟩ := zSR_v h
  obtain ⟨a, rfl, h1⟩ := h1
  exact ⟨a, u, e, h1, h2⟩
theorem zSR.len {X : ZX} {ws : va_W} : ∀ {a b : List Value}, zSR X ws a b → a.length = b.length
  | [], [], _ => rfl
  | _ :: _, _ :: _, h => congrArg (· + 1) h.2.len
  | [], _ :: _, h => h.elim
  | _ :: _, [], h => h.elim
theorem zVR.cat {X : ZX} {ws : va_W} {v w : Value} (h : zVR X ws v w) : w.category = v.category := by
  cases v with
  | int x => have h : w = .int x := h; rw [h]
  | long x => have h : w = .long x := h; rw [h]
  | null => have h : w = .null := h; rw [h]
  | ref r => obtain ⟨a, rfl, -⟩ := h; rfl
  | float x => rcases h with rfl | ⟨a, rfl⟩ <;> rfl
  | double x => exact h.elim
  | retAddr x => exact h.elim
theorem zSR.cat {X : ZX} {ws : va_W} : ∀ {a b : List Value}, zSR X ws a b → (b.map fun v => v.category).sum = (a.map fun v => v.category).sum
  | [], [], _ => rfl
  | _ :: _, _ :: _, h => by
    simp only [List.map_cons, List.sum_cons]
    rw [h.1.cat, h.2.cat]
  | [], _ :: _, h => h.elim
  | _ :: _, [], h => h.elim
theorem zSR.app {X : ZX} {ws : va_W} : ∀ {a b c d : List Value}, zSR X ws a b → zSR X ws c d → zSR X ws (a ++ c) (b ++ d)
  | [], [], _, _, _, k => k
  | _ :: _, _ :: _, _, _, h, k => ⟨h.1, h.2.app k⟩
  | [], _ :: _, _, _, h, _ => h.elim
  | _ :: _, [], _, _, h, _ => h.elim
/-- a cell of Z and a cell of the machine -/
def zER (X : ZX) (ws : va_W) (z : ZH) (r : Nat) (e : va_E) : Prop :=
  if zcls z r < 25 then ∃ fs : List Value, e = .inr (zcls z r, fs) ∧ fs.length = zNf (zcls z r) ∧ ∀ k, k < zNf (zcls z r) → ∃ w, fs[k]? = some w ∧ (if zRf (zcls z r) k = true then zVR X ws (zfr z r k) w else w = .int (zfi z r k))
  else if zcls z r < 50 then False
  else if zcls z r = 51 then e = .inl (xT X 51, zlen z r, vl (zla z r))
  else if zcls z r < 55 then e = .inl (xT X (zcls z r), zlen z r, .inl (zia z r))
  else if zcls z r < 65 then ∃ g, e = .inl (xT X (zcls z r), zlen z r, vq g) ∧ ∀ i, zVR X ws (zra z r i) (va_rf (g i))
  else if zcls z r = 90 then ∃ (q a : Nat) (mc : Int32) (g : Nat → Option Nat), zfr z r 0 = .ref q ∧ 100 ≤ q ∧ zcls z q = 91 ∧ zown z q = r ∧ e = .inr (24, [.int mc, .ref a, .int (nI (zls z r).length)]) ∧ ws[q - 100]? = some (a, .inl (xT X 64, zlen z q, vq g)) ∧ (zls z r).length ≤ zlen z q ∧ (0 < zlen z q ∧ zlen z q < 200000) ∧ (∀ (i : Nat) (v : Value), (zls z r)[i]? = some v → zir v = true ∧ zVR X ws v (va_rf (g i))) ∧ ∀ i, (zls z r).length ≤ i → g i = none
  else True
def zHR (X : ZX) (ws : va_W) (z : ZH) : Prop :=
  (ws.length + 100 = zn z ∧ (∀ r, r < 100 → zcls z r = if r = 99 then 49 else 99) ∧ zlen z 99 = xL X ∧ zia z 99 = xS X) ∧ ∀ r, 100 ≤ r → r < zn z → ∃ a e, ws[r - 100]? = some (a, e) ∧ zER X ws z r e
/-- the cell r is the same in both -/
def zSame (z z' : ZH) (r : Nat) : Prop := zcls z' r = zcls z r ∧ zlen z' r = zlen z r ∧ zown z' r = zown z r ∧ zfi z' r = zfi z r ∧ zfr z' r = zfr z r ∧ zia z' r = zia z r ∧ zla z' r = zla z r ∧ zra z' r = zra z r ∧ zls z' r = zls z r
theorem zER.same {X : ZX} {ws ws' : va_W} {z z' : ZH} {r : Nat} {e : va_E} (k : zExt ws ws') (hs : zSame z z' r) (hq : ∀ q, zcls z q = 91 → q < zn z → (zcls z' q = 91 ∧ zown z' q = zown z q ∧ zlen z' q = zlen z q) ∧ ws'[q - 100]? = ws[q - 100]?) (hn : ws.length + 100 = zn z) (h : zER X ws z r e) : zER X ws' z' r e := by
  obtain ⟨s1, s2, s3, s4, s5, s6, s7, s8, s9⟩ := hs
  unfold zER at h ⊢
  rw [s1, s2, s4, s5, s6, s7, s8, s9]
  by_cases c1 : zcls z r < 25
  · rw [if_pos c1] at h ⊢
    obtain ⟨fs, e1, e2, e3⟩ := h
    refine ⟨fs, e1, e2, fun j hj => ?_⟩
    obtain ⟨w, w1, w2⟩ := e3 j hj
    refine ⟨w, w1, ?_⟩
    by_cases c : zRf (zcls z r) j = true
    · rw [if_pos c] at w2 ⊢; exact w2.ext k
    · rw [if_neg c] at w2 ⊢; exact w2
  rw [if_neg c1] at h ⊢
  by_cases c0 : zcls z r < 50
  · rw [if_pos c0] at h; exact h.elim
  rw [if_neg c0] at h ⊢
  by_cases c2 : zcls z r = 51
  · rw [if_pos c2] at h ⊢; exact h
  rw [if_neg c2] at h ⊢
  by_cases c3 : zcls z r < 55
  · rw [if_pos c3] at h ⊢; exact h
  rw [if_neg c3] at h ⊢
  by_cases c4 : zcls z r < 65
  · rw [if_pos c4] at h ⊢
    obtain ⟨g, e1, e2⟩ := h
    exact ⟨g, e1, fun i => (e2 i).ext k⟩
  rw [if_neg c4] at h ⊢
  by_cases c5 : zcls z r = 90
  · rw [if_pos c5] at h ⊢
    obtain ⟨q, a, mc, g, h1, h2, h3, h4, h5, h6, h7, h8, h9, h10⟩ := h
    have hlt : q < zn z := by
      have := (List.getElem?_eq_some_iff.mp h6).1
      omega
    obtain ⟨⟨k1, k2, k3⟩, k4⟩ := hq q h3 hlt
    exact ⟨q, a, mc, g, h1, h2, k1, by rw [k2]; exact h4, h5, by rw [k4, k3]; exact h6, by rw [k3]; exact h7, by rw [k3]; exact h8, fun i v hv => ⟨(h9 i v hv).1, (h9 i v hv).2.ext k⟩, h10⟩
  · rw [if_neg c5] at h ⊢; trivial
theorem zHR.at {X : ZX} {ws : va_W} {z : ZH} (h : zHR X ws z) {r a : Nat} (hc : zcls z r ≠ 99) (hc2 : zcls z r ≠ 49) (ha : zAR X ws r a) : 100 ≤ r ∧ ∃ e, ws[r - 100]? = some (a, e) ∧ zER X ws z r e := by
  rcases ha with ⟨h1, -⟩ | ⟨h1, e, he⟩
  · have := h.1.2.1 r h1
    by_cases h9 : r = 99
    · rw [if_pos h9] at this; exact absurd this hc2
    · rw [if_neg h9] at this; exact absurd this hc
  · have hlt := (List.getElem?_eq_some_iff.mp he).1
    obtain ⟨a', e', h2, h3⟩ := h.2 r h1 (by have := h.1.1; omega)
    rw [he] at h2
    cases h2
    exact ⟨h1, e, he, h3⟩
/-- one cell changes -/
theorem zHR.set {X : ZX} {ws : va_W} {z z' : ZH} (h : zHR X ws z) {r a : Nat} {e e' : va_E} (hr : 100 ≤ r) (he : ws[r - 100]? = some (a, e)) (hc : zcls z r ≠ 91) (hcl : zcls z' = zcls z) (hl : zlen z' = zlen z) (ho : zown z' = zown z) (hn : zn z' = zn z) (hsame : ∀ q, q ≠ r → zSame z z' q) (hE : zER X (ws.set (r - 100) (a, e')) z' r e') : zHR X (ws.set (r - 100) (a, e')) z' := by
  refine ⟨⟨by rw [List.length_set, hn]; exact h.1.1, by rw [hcl]; exact h.1.2.1, by rw [hl]; exact h.1.2.2.1, by rw [(hsame 99 (by omega)).2.2.2.2.2.1]; exact h.1.2.2.2⟩, fun q hq hlt => ?_⟩
  by_cases hqr : q = r
  · subst hqr
    exact ⟨a, e', by rw [List.getElem?_set_self (List.getElem?_eq_some_iff.mp he).1], hE⟩
  · rw [hn] at hlt
    obtain ⟨a1, e1, h1, h2⟩ := h.2 q hq hlt
    refine ⟨a1, e1, by rw [List.getElem?_set_ne (by omega)]; exact h1, h2.same (zExt.set he) (hsame q hqr) (fun y hy hyn => ⟨⟨by rw [hcl]; exact hy, by rw [ho], by rw [hl]⟩, ?_⟩) h.1.1⟩
    by_cases hyr : y = r
    · subst hyr; exact absurd hy hc
    · by_cases hy1 : 100 ≤ y
      · rw [List.getElem?_set_ne (by omega)]
      · have := h.1.2.1 y (by omega)
        rw [hy] at this
        split at this <;> omega
/-- a cell is new -/
theorem zHR.push {X : ZX} {ws : va_W} {z z' : ZH} (h : zHR X ws z) {a : Nat} {e : va_E} (hn : zn z' = zn z + 1) (hsame : ∀ q, q < zn z → zSame z z' q) (hE : zER X (ws ++ [(a, e)]) z' (zn z) e) : zHR X (ws ++ [(a, e)]) z' := by
  have h100 : 100 ≤ zn z := by have := h.1.1; omega
  refine ⟨⟨by rw [List.length_append, hn, ← h.1.1]; (have h9 : ([(a, e)] : va_W).length = 1 := rfl); omega, fun r hr => ?_, ?_, ?_⟩, fun q hq hlt => ?_⟩
  · rw [(hsame r (by omega)).1]; exact h.1.2.1 r hr
  · rw [(hsame 99 (by omega)).2.1]; exact h.1.2.2.1
  · rw [(hsame 99 (by omega)).2.2.2.2.2.1]; exact h.1.2.2.2
  · by_cases hqn : q = zn z
    · subst hqn
      refine ⟨a, e, ?_, hE⟩
      rw [show zn z - 100 = ws.length from by have := h.1.1; omega]
      simp
    · have hlt2 : q < zn z := by omega
      obtain ⟨a1, e1, h1, h2⟩ := h.2 q hq hlt2
      have hin : q - 100 < ws.length := (List.getElem?_eq_some_iff.mp h1).1
      refine ⟨a1, e1, by rw [List.getElem?_append_left hin]; exact h1, h2.same zExt.push (hsame q hlt2) (fun y hy hyn => ⟨⟨by rw [(hsame y hyn).1]; exact hy, (hsame y hyn).2.2.1, (hsame y hyn).2.1⟩, ?_⟩) h.1.1⟩
      rw [List.getElem?_append_left (by have := h.1.1; omega)]
def zLR (X : ZX) (ws : va_W) (nL : Nat) (ls : List Value) (lsm : Array Slot) : Prop := (lsm.size = nL ∧ lv_wf lsm ∧ ls.length = nL) ∧ ∀ (i : Nat) (v : Value), ls[i]? = some v → v = zdum ∨ ∃ w, zVR X ws v w ∧ lsm[i]? = some (.val w)
theorem zLR.ext {X : ZX} {ws ws' : va_W} {nL : Nat} {ls : List Value} {lsm : Array Slot} (k : zExt ws ws') (h : zLR X ws nL ls lsm) : zLR X ws' nL ls lsm := by
  refine ⟨h.1, fun i v hi => ?_⟩
  rcases h.2 i v hi with h1 | ⟨w, h1, h2⟩
  · exact Or.inl h1
  · exact Or.inr ⟨w, h1.ext k, h2⟩
