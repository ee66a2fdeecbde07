/-! Z: an abstract machine for the claim's bytecode. A heap by functions of a cell's number: kind, int fields, reference fields, int arrays, long arrays, reference arrays, length, list, owner; the next number; cells and slots used so far -/
abbrev ZH : Type := (Nat → Nat) × (Nat → Nat → Int32) × (Nat → Nat → Value) × (Nat → Nat → Int32) × (Nat → Nat → Int64) × (Nat → Nat → Value) × (Nat → Nat) × (Nat → List Value) × (Nat → Nat) × Nat × Nat × Nat
def zcls (z : ZH) : Nat → Nat := z.1
def zfi (z : ZH) : Nat → Nat → Int32 := z.2.1
def zfr (z : ZH) : Nat → Nat → Value := z.2.2.1
def zia (z : ZH) : Nat → Nat → Int32 := z.2.2.2.1
def zla (z : ZH) : Nat → Nat → Int64 := z.2.2.2.2.1
def zra (z : ZH) : Nat → Nat → Value := z.2.2.2.2.2.1
def zlen (z : ZH) : Nat → Nat := z.2.2.2.2.2.2.1
def zls (z : ZH) : Nat → List Value := z.2.2.2.2.2.2.2.1
def zown (z : ZH) : Nat → Nat := z.2.2.2.2.2.2.2.2.1
def zn (z : ZH) : Nat := z.2.2.2.2.2.2.2.2.2.1
def zuc (z : ZH) : Nat := z.2.2.2.2.2.2.2.2.2.2.1
def zus (z : ZH) : Nat := z.2.2.2.2.2.2.2.2.2.2.2
def zmk (a1 : Nat → Nat) (a2 : Nat → Nat → Int32) (a3 : Nat → Nat → Value) (a4 : Nat → Nat → Int32) (a5 : Nat → Nat → Int64) (a6 : Nat → Nat → Value) (a7 : Nat → Nat) (a8 : Nat → List Value) (a9 : Nat → Nat) (b1 b2 b3 : Nat) : ZH := (a1, a2, a3, a4, a5, a6, a7, a8, a9, b1, b2, b3)
def zu1 {α : Type} (f : Nat → α) (r : Nat) (v : α) : Nat → α := fun q => if q = r then v else f q
def zu2 {α : Type} (f : Nat → Nat → α) (r k : Nat) (v : α) : Nat → Nat → α := fun q j => if q = r ∧ j = k then v else f q j
theorem zu1_s {α : Type} (f : Nat → α) (r : Nat) (v : α) : zu1 f r v r = v := if_pos rfl
theorem zu1_n {α : Type} (f : Nat → α) (r : Nat) (v : α) {q : Nat} (h : q ≠ r) : zu1 f r v q = f q := if_neg h
theorem zu2_s {α : Type} (f : Nat → Nat → α) (r k : Nat) (v : α) : zu2 f r k v r k = v := if_pos ⟨rfl, rfl⟩
theorem zu2_n {α : Type} (f : Nat → Nat → α) (r k : Nat) (v : α) {q j : Nat} (h : q ≠ r) : zu2 f r k v q j = f q j := if_neg (fun a => h a.1)
theorem zu2_k {α : Type} (f : Nat → Nat → α) (r k : Nat) (v : α) {q j : Nat} (h : j ≠ k) : zu2 f r k v q j = f q j := if_neg (fun a => h a.2)
/-- writes -/
def sfi (z : ZH) (r k : Nat) (v : Int32) : ZH := zmk (zcls z) (zu2 (zfi z) r k v) (zfr z) (zia z) (zla z) (zra z) (zlen z) (zls z) (zown z) (zn z) (zuc z) (zus z)
def sfr (z : ZH) (r k : Nat) (v : Value) : ZH := zmk (zcls z) (zfi z) (zu2 (zfr z) r k v) (zia z) (zla z) (zra z) (zlen z) (zls z) (zown z) (zn z) (zuc z) (zus z)
def sia (z : ZH) (r k : Nat) (v : Int32) : ZH := zmk (zcls z) (zfi z) (zfr z) (zu2 (zia z) r k v) (zla z) (zra z) (zlen z) (zls z) (zown z) (zn z) (zuc z) (zus z)
def sla (z : ZH) (r k : Nat) (v : Int64) : ZH := zmk (zcls z) (zfi z) (zfr z) (zia z) (zu2 (zla z) r k v) (zra z) (zlen z) (zls z) (zown z) (zn z) (zuc z) (zus z)
def sra (z : ZH) (r k : Nat) (v : Value) : ZH := zmk (zcls z) (zfi z) (zfr z) (zia z) (zla z) (zu2 (zra z) r k v) (zlen z) (zls z) (zown z) (zn z) (zuc z) (zus z)
/-- a whole array of ints, of longs; a list -/
def sIA (z : ZH) (r : Nat) (f : Nat → Int32) : ZH := zmk (zcls z) (zfi z) (zfr z) (zu1 (zia z) r f) (zla z) (zra z) (zlen z) (zls z) (zown z) (zn z) (zuc z) (zus z)
def sLA (z : ZH) (r : Nat) (f : Nat → Int64) : ZH := zmk (zcls z) (zfi z) (zfr z) (zia z) (zu1 (zla z) r f) (zra z) (zlen z) (zls z) (zown z) (zn z) (zuc z) (zus z)
def sls (z : ZH) (r : Nat) (l : List Value) : ZH := zmk (zcls z) (zfi z) (zfr z) (zia z) (zla z) (zra z) (zlen z) (zu1 (zls z) r l) (zown z) (zn z) (zuc z) (zus z)
/-- a new object of the class c with N fields, a new array of the kind t with N places: the cell zn z -/
def snew (z : ZH) (c N : Nat) : ZH := zmk (zu1 (zcls z) (zn z) c) (zu1 (zfi z) (zn z) (fun _ => 0)) (zu1 (zfr z) (zn z) (fun _ => .null)) (zia z) (zla z) (zra z) (zlen z) (zls z) (zown z) (zn z + 1) (zuc z + 1) (zus z + N)
def sarr (z : ZH) (t N : Nat) : ZH := zmk (zu1 (zcls z) (zn z) t) (zfi z) (zfr z) (zu1 (zia z) (zn z) (fun _ => 0)) (zu1 (zla z) (zn z) (fun _ => 0)) (zu1 (zra z) (zn z) (fun _ => .null)) (zu1 (zlen z) (zn z) N) (zls z) (zown z) (zn z + 1) (zuc z + 1) (zus z + N)
/-- the cell r is a list from now on, with its places in the new cell zn z -/
def slin (z : ZH) (r N : Nat) : ZH := zmk (zu1 (zu1 (zcls z) r 90) (zn z) 91) (zfi z) (zu2 (zfr z) r 0 (.ref (zn z))) (zia z) (zla z) (zra z) (zu1 (zlen z) (zn z) N) (zu1 (zls z) r []) (zu1 (zown z) (zn z) r) (zn z + 1) (zuc z + 1) (zus z + N)
/-- the list r has its places in the new cell zn z -/
def sgro (z : ZH) (r N : Nat) : ZH := zmk (zu1 (zcls z) (zn z) 91) (zfi z) (zu2 (zfr z) r 0 (.ref (zn z))) (zia z) (zla z) (zra z) (zu1 (zlen z) (zn z) N) (zls z) (zu1 (zown z) (zn z) r) (zn z + 1) (zuc z + 1) (zus z + N)
/-- cells and slots that are only paid for -/
def spay (z : ZH) (a b : Nat) : ZH := zmk (zcls z) (zfi z) (zfr z) (zia z) (zla z) (zra z) (zlen z) (zls z) (zown z) (zn z) (zuc z + a) (zus z + b)
theorem cls_sfi (z : ZH) (r k : Nat) (v : Int32) : zcls (sfi z r k v) = zcls z := rfl
theorem fi_sfi (z : ZH) (r k : Nat) (v : Int32) : zfi (sfi z r k v) = zu2 (zfi z) r k v := rfl
theorem fr_sfi (z : ZH) (r k : Nat) (v : Int32) : zfr (sfi z r k v) = zfr z := rfl
theorem ia_sfi (z : ZH) (r k : Nat) (v : Int32) : zia (sfi z r k v) = zia z := rfl
theorem la_sfi (z : ZH) (r k : Nat) (v : Int32) : zla (sfi z r k v) = zla z := rfl
theorem ra_sfi (z : ZH) (r k : Nat) (v : Int32) : zra (sfi z r k v) = zra z := rfl
theorem len_sfi (z : ZH) (r k : Nat) (v : Int32) : zlen (sfi z r k v) = zlen z := rfl
theorem ls_sfi (z : ZH) (r k : Nat) (v : Int32) : zls (sfi z r k v) = zls z := rfl
theorem own_sfi (z : ZH) (r k : Nat) (v : Int32) : zown (sfi z r k v) = zown z := rfl
theorem n_sfi (z : ZH) (r k : Nat) (v : Int32) : zn (sfi z r k v) = zn z := rfl
theorem uc_sfi (z : ZH) (r k : Nat) (v : Int32) : zuc (sfi z r k v) = zuc z := rfl
theorem us_sfi (z : ZH) (r k : Nat) (v : Int32) : zus (sfi z r k v) = zus z := rfl
theorem cls_sfr (z : ZH) (r k : Nat) (v : Value) : zcls (sfr z r k v) = zcls z := rfl
theorem fi_sfr (z : ZH) (r k : Nat) (v : Value) : zfi (sfr z r k v) = zfi z := rfl
theorem fr_sfr (z : ZH) (r k : Nat) (v : Value) : zfr (sfr z r k v) = zu2 (zfr z) r k v := rfl
theorem ia_sfr (z : ZH) (r k : Nat) (v : Value) : zia (sfr z r k v) = zia z := rfl
theorem la_sfr (z : ZH) (r k : Nat) (v : Value) : zla (sfr z r k v) = zla z := rfl
theorem ra_sfr (z : ZH) (r k : Nat) (v : Value) : zra (sfr z r k v) = zra z := rfl
theorem len_sfr (z : ZH) (r k : Nat) (v : Value) : zlen (sfr z r k v) = zlen z := rfl
theorem ls_sfr (z : ZH) (r k : Nat) (v : Value) : zls (sfr z r k v) = zls z := rfl
theorem own_sfr (z : ZH) (r k : Nat) (v : Value) : zown (sfr z r k v) = zown z := rfl
theorem n_sfr (z : ZH) (r k : Nat) (v : Value) : zn (sfr z r k v) = zn z := rfl
theorem uc_sfr (z : ZH) (r k : Nat) (v : Value) : zuc (sfr z r k v) = zuc z := rfl
theorem us_sfr (z : ZH) (r k : Nat) (v : Value) : zus (sfr z r k v) = zus z := rfl
theorem cls_sia (z : ZH) (r k : Nat) (v : Int32) : zcls (sia z r k v) = zcls z := rfl
theorem fi_sia (z : ZH) (r k : Nat) (v : Int32) : zfi (sia z r k v) = zfi z := rfl
theorem fr_sia (z : ZH) (r k : Nat) (v : Int32) : zfr (sia z r k v) = zfr z := rfl
theorem ia_sia (z : ZH) (r k : Nat) (v : Int32) : zia (sia z r k v) = zu2 (zia z) r k v := rfl
theorem la_sia (z : ZH) (r k : Nat) (v : Int32) : zla (sia z r k v) = zla z := rfl
theorem ra_sia (z : ZH) (r k : Nat) (v : Int32) : zra (sia z r k v) = zra z := rfl
theorem len_sia (z : ZH) (r k : Nat) (v : Int32) : zlen (sia z r k v) = zlen z := rfl
theorem ls_sia (z : ZH) (r k : Nat) (v : Int32) : zls (sia z r k v) = zls z := rfl
theorem own_sia (z : ZH) (r k : Nat) (v : Int32) : zown (sia z r k v) = zown z := rfl
theorem n_sia (z : ZH) (r k : Nat) (v : Int32) : zn (sia z r k v) = zn z := rfl
theorem uc_sia (z : ZH) (r k : Nat) (v : Int32) : zuc (sia z r k v) = zuc z := rfl
theorem us_sia (z : ZH) (r k : Nat) (v : Int32) : zus (sia z r k v) = zus z := rfl
theorem cls_sla (z : ZH) (r k : Nat) (v : Int64) : zcls (sla z r k v) = zcls z := rfl
theorem fi_sla (z : ZH) (r k : Nat) (v : Int64) : zfi (sla z r k v) = zfi z := rfl
theorem fr_sla (z : ZH) (r k : Nat) (v : Int64) : zfr (sla z r k v) = zfr z := rfl
theorem ia_sla (z : ZH) (r k : Nat) (v : Int64) : zia (sla z r k v) = zia z := rfl
theorem la_sla (z : ZH) (r k : Nat) (v : Int64) : zla (sla z r k v) = zu2 (zla z) r k v := rfl
theorem ra_sla (z : ZH) (r k : Nat) (v : Int64) : zra (sla z r k v) = zra z := rfl
theorem len_sla (z : ZH) (r k : Nat) (v : Int64) : zlen (sla z r k v) = zlen z := rfl
theorem ls_sla (z : ZH) (r k : Nat) (v : Int64) : zls (sla z r k v) = zls z := rfl
theorem own_sla (z : ZH) (r k : Nat) (v : Int64) : zown (sla z r k v) = zown z := rfl
theorem n_sla (z : ZH) (r k : Nat) (v : Int64) : zn (sla z r k v) = zn z := rfl
theorem uc_sla (z : ZH) (r k : Nat) (v : Int64) : zuc (sla z r k v) = zuc z := rfl
theorem us_sla (z : ZH) (r k : Nat) (v : Int64) : zus (sla z r k v) = zus z := rfl
theorem cls_sra (z : ZH) (r k : Nat) (v : Value) : zcls (sra z r k v) = zcls z := rfl
theorem fi_sra (z : ZH) (r k : Nat) (v : Value) : zfi (sra z r k v) = zfi z := rfl
theorem fr_sra (z : ZH) (r k : Nat) (v : Value) : zfr (sra z r k v) = zfr z := rfl
theorem ia_sra (z : ZH) (r k : Nat) (v : Value) : zia (sra z r k v) = zia z := rfl
theorem la_sra (z : ZH) (r k : Nat) (v : Value) : zla (sra z r k v) = zla z := rfl
theorem ra_sra (z : ZH) (r k : Nat) (v : Value) : zra (sra z r k v) = zu2 (zra z) r k v := rfl
theorem len_sra (z : ZH) (r k : Nat) (v : Value) : zlen (sra z r k v) = zlen z := rfl
theorem ls_sra (z : ZH) (r k : Nat) (v : Value) : zls (sra z r k v) = zls z := rfl
theorem own_sra (z : ZH) (r k : Nat) (v : Value) : zown (sra z r k v) = zown z := rfl
theorem n_sra (z : ZH) (r k : Nat) (v : Value) : zn (sra z r k v) = zn z := rfl
theorem uc_sra (z : ZH) (r k : Nat) (v : Value) : zuc (sra z r k v) = zuc z := rfl
theorem us_sra (z : ZH) (r k : Nat) (v : Value) : zus (sra z r k v) = zus z := rfl
theorem cls_sIA (z : ZH) (r : Nat) (f : Nat → Int32) : zcls (sIA z r f) = zcls z := rfl
theorem fi_sIA (z : ZH) (r : Nat) (f : Nat → Int32) : zfi (sIA z r f) = zfi z := rfl
theorem fr_sIA (z : ZH) (r : Nat) (f : Nat → Int32) : zfr (sIA z r f) = zfr z := rfl
theorem ia_sIA (z : ZH) (r : Nat) (f : Nat → Int32) : zia (sIA z r f) = zu1 (zia z) r f := rfl
theorem la_sIA (z : ZH) (r : Nat) (f : Nat → Int32) : zla (sIA z r f) = zla z := rfl
theorem ra_sIA (z : ZH) (r : Nat) (f : Nat → Int32) : zra (sIA z r f) = zra z := rfl
theorem len_sIA (z : ZH) (r : Nat) (f : Nat → Int32) : zlen (sIA z r f) = zlen z := rfl
theorem ls_sIA (z : ZH) (r : Nat) (f : Nat → Int32) : zls (sIA z r f) = zls z := rfl
theorem own_sIA (z : ZH) (r : Nat) (f : Nat → Int32) : zown (sIA z r f) = zown z := rfl
theorem n_sIA (z : ZH) (r : Nat) (f : Nat → Int32) : zn (sIA z r f) = zn z := rfl
theorem uc_sIA (z : ZH) (r : Nat) (f : Nat → Int32) : zuc (sIA z r f) = zuc z := rfl
theorem us_sIA (z : ZH) (r : Nat) (f : Nat → Int32) : zus (sIA z r f) = zus z := rfl
theorem cls_sLA (z : ZH) (r : Nat) (f : Nat → Int64) : zcls (sLA z r f) = zcls z := rfl
theorem fi_sLA (z : ZH) (r : Nat) (f : Nat → Int64) : zfi (sLA z r f) = zfi z := rfl
theorem fr_sLA (z : ZH) (r : Nat) (f : Nat → Int64) : zfr (sLA z r f) = zfr z := rfl
theorem ia_sLA (z : ZH) (r : Nat) (f : Nat → Int64) : zia (sLA z r f) = zia z := rfl
theorem la_sLA (z : ZH) (r : Nat) (f : Nat → Int64) : zla (sLA z r f) = zu1 (zla z) r f := rfl
theorem ra_sLA (z : ZH) (r : Nat) (f : Nat → Int64) : zra (sLA z r f) = zra z := rfl
theorem len_sLA (z : ZH) (r : Nat) (f : Nat → Int64) : zlen (sLA z r f) = zlen z := rfl
theorem ls_sLA (z : ZH) (r : Nat) (f : Nat → Int64) : zls (sLA z r f) = zls z := rfl
theorem own_sLA (z : ZH) (r : Nat) (f : Nat → Int64) : zown (sLA z r f) = zown z := rfl
theorem n_sLA (z : ZH) (r : Nat) (f : Nat → Int64) : zn (sLA z r f) = zn z := rfl
theorem uc_sLA (z : ZH) (r : Nat) (f : Nat → Int64) : zuc (sLA z r f) = zuc z := rfl
theorem us_sLA (z : ZH) (r : Nat) (f : Nat → Int64) : zus (sLA z r f) = zus z := rfl
theorem cls_sls (z : ZH) (r : Nat) (l : List Value) : zcls (sls z r l) = zcls z := rfl
theorem fi_sls (z : ZH) (r : Nat) (l : List Value) : zfi (sls z r l) = zfi z := rfl
theorem fr_sls (z : ZH) (r : Nat) (l : List Value) : zfr (sls z r l) = zfr z := rfl
theorem ia_sls (z : ZH) (r : Nat) (l : List Value) : zia (sls z r l) = zia z := rfl
theorem la_sls (z : ZH) (r : Nat) (l : List Value) : zla (sls z r l) = zla z := rfl
theorem ra_sls (z : ZH) (r : Nat) (l : List Value) : zra (sls z r l) = zra z := rfl
theorem len_sls (z : ZH) (r : Nat) (l : List Value) : zlen (sls z r l) = zlen z := rfl
theorem ls_sls (z : ZH) (r : Nat) (l : List Value) : zls (sls z r l) = zu1 (zls z) r l := rfl
theorem own_sls (z : ZH) (r : Nat) (l : List Value) : zown (sls z r l) = zown z := rfl
theorem n_sls (z : ZH) (r : Nat) (l : List Value) : zn (sls z r l) = zn z := rfl
theorem uc_sls (z : ZH) (r : Nat) (l : List Value) : zuc (sls z r l) = zuc z := rfl
theorem us_sls (z : ZH) (r : Nat) (l : List Value) : zus (sls z r l) = zus z := rfl
theorem cls_snew (z : ZH) (c N : Nat) : zcls (snew z c N) = zu1 (zcls z) (zn z) c := rfl
theorem fi_snew (z : ZH) (c N : Nat) : zfi (snew z c N) = zu1 (zfi z) (zn z) (fun _ => 0) := rfl
theorem fr_snew (z : ZH) (c N : Nat) : zfr (snew z c N) = zu1 (zfr z) (zn z) (fun _ => .null) := rfl
theorem ia_snew (z : ZH) (c N : Nat) : zia (snew z c N) = zia z := rfl
theorem la_snew (z : ZH) (c N : Nat) : zla (snew z c N) = zla z := rfl
theorem ra_snew (z : ZH) (c N : Nat) : zra (snew z c N) = zra z := rfl
theorem len_snew (z : ZH) (c N : Nat) : zlen (snew z c N) = zlen z := rfl
theorem ls_snew (z : ZH) (c N : Nat) : zls (snew z c N) = zls z := rfl
theorem own_snew (z : ZH) (c N : Nat) : zown (snew z c N) = zown z := rfl
theorem n_snew (z : ZH) (c N : Nat) : zn (snew z c N) = zn z + 1 := rfl
theorem uc_snew (z : ZH) (c N : Nat) : zuc (snew z c N) = zuc z + 1 := rfl
theorem us_snew (z : ZH) (c N : Nat) : zus (snew z c N) = zus z + N := rfl
theorem cls_sarr (z : ZH) (t N : Nat) : zcls (sarr z t N) = zu1 (zcls z) (zn z) t := rfl
theorem fi_sarr (z : ZH) (t N : Nat) : zfi (sarr z t N) = zfi z := rfl
theorem fr_sarr (z : ZH) (t N : Nat) : zfr (sarr z t N) = zfr z := rfl
theorem ia_sarr (z : ZH) (t N : Nat) : zia (sarr z t N) = zu1 (zia z) (zn z) (fun _ => 0) := rfl
theorem la_sarr (z : ZH) (t N : Nat) : zla (sarr z t N) = zu1 (zla z) (zn z) (fun _ => 0) := rfl
theorem ra_sarr (z : ZH) (t N : Nat) : zra (sarr z t N) = zu1 (zra z) (zn z) (fun _ => .null) := rfl
theorem len_sarr (z : ZH) (t N : Nat) : zlen (sarr z t N) = zu1 (zlen z) (zn z) N := rfl
theorem ls_sarr (z : ZH) (t N : Nat) : zls (sarr z t N) = zls z := rfl
theorem own_sarr (z : ZH) (t N : Nat) : zown (sarr z t N) = zown z := rfl
theorem n_sarr (z : ZH) (t N : Nat) : zn (sarr z t N) = zn z + 1 := rfl
theorem uc_sarr (z : ZH) (t N : Nat) : zuc (sarr z t N) = zuc z + 1 := rfl
theorem us_sarr (z : ZH) (t N : Nat) : zus (sarr z t N) = zus z + N := rfl
theorem cls_slin (z : ZH) (r N : Nat) : zcls (slin z r N) = zu1 (zu1 (zcls z) r 90) (zn z) 91 := rfl
theorem fi_slin (z : ZH) (r N : Nat) : zfi (slin z r N) = zfi z := rfl
theorem fr_slin (z : ZH) (r N : Nat) : zfr (slin z r N) = zu2 (zfr z) r 0 (.ref (zn z)) := rfl
theorem ia_slin (z : ZH) (r N : Nat) : zia (slin z r N) = zia z := rfl
theorem la_slin (z : ZH) (r N : Nat) : zla (slin z r N) = zla z := rfl
theorem ra_slin (z : ZH) (r N : Nat) : zra (slin z r N) = zra z := rfl
theorem len_slin (z : ZH) (r N : Nat) : zlen (slin z r N) = zu1 (zlen z) (zn z) N := rfl
theorem ls_slin (z : ZH) (r N : Nat) : zls (slin z r N) = zu1 (zls z) r [] := rfl
theorem own_slin (z : ZH) (r N : Nat) : zown (slin z r N) = zu1 (zown z) (zn z) r := rfl
theorem n_slin (z : ZH) (r N : Nat) : zn (slin z r N) = zn z + 1 := rfl
theorem uc_slin (z : ZH) (r N : Nat) : zuc (slin z r N) = zuc z + 1 := rfl
theorem us_slin (z : ZH) (r N : Nat) : zus (slin z r N) = zus z + N := rfl
theorem cls_sgro (z : ZH) (r N : Nat) : zcls (sgro z r N) = zu1 (zcls z) (zn z) 91 := rfl
theorem fi_sgro (z : ZH) (r N : Nat) : zfi (sgro z r N) = zfi z := rfl
theorem fr_sgro (z : ZH) (r N : Nat) : zfr (sgro z r N) = zu2 (zfr z) r 0 (.ref (zn z)) := rfl
theorem ia_sgro (z : ZH) (r N : Nat) : zia (sgro z r N) = zia z := rfl
theorem la_sgro (z : ZH) (r N : Nat) : zla (sgro z r N) = zla z := rfl
theorem ra_sgro (z : ZH) (r N : Nat) : zra (sgro z r N) = zra z := rfl
theorem len_sgro (z : ZH) (r N : Nat) : zlen (sgro z r N) = zu1 (zlen z) (zn z) N := rfl
theorem ls_sgro (z : ZH) (r N : Nat) : zls (sgro z r N) = zls z := rfl
theorem own_sgro (z : ZH) (r N : Nat) : zown (sgro z r N) = zu1 (zown z) (zn z) r := rfl
theorem n_sgro (z : ZH) (r N : Nat) : zn (sgro z r N) = zn z + 1 := rfl
theorem uc_sgro (z : ZH) (r N : Nat) : zuc (sgro z r N) = zuc z + 1 := rfl
theorem us_sgro (z : ZH) (r N : Nat) : zus (sgro z r N) = zus z + N := rfl
theorem cls_spay (z : ZH) (a b : Nat) : zcls (spay z a b) = zcls z := rfl
theorem fi_spay (z : ZH) (a b : Nat) : zfi (spay z a b) = zfi z := rfl
theorem fr_spay (z : ZH) (a b : Nat) : zfr (spay z a b) = zfr z := rfl
theorem ia_spay (z : ZH) (a b : Nat) : zia (spay z a b) = zia z := rfl
theorem la_spay (z : ZH) (a b : Nat) : zla (spay z a b) = zla z := rfl
theorem ra_spay (z : ZH) (a b : Nat) : zra (spay z a b) = zra z := rfl
theorem len_spay (z : ZH) (a b : Nat) : zlen (spay z a b) = zlen z := rfl
theorem ls_spay (z : ZH) (a b : Nat) : zls (spay z a b) = zls z := rfl
theorem own_spay (z : ZH) (a b : Nat) : zown (spay z a b) = zown z := rfl
theorem n_spay (z : ZH) (a b : Nat) : zn (spay z a b) = zn z := rfl
theorem uc_spay (z : ZH) (a b : Nat) : zuc (spay z a b) = zuc z + a := rfl
theorem us_spay (z : ZH) (a b : Nat) : zus (spay z a b) = zus z + b := rfl
/-! the machine -/
abbrev ZF : Type := List Value → List Value → ZH → Option (Nat × List Value × List Value × ZH)
abbrev ZS : Type := ZH → List Value → Option (Nat × List Value × List Value)
abbrev ZI : Type := ZF ⊕ ((Nat × ZS) ⊕ Nat)
/-- a program: what stands at a method's place; its locals; where a thrown one is caught -/
abbrev ZP : Type := (Nat → Nat → Option ZI) × (Nat → Nat) × (Nat → Nat → Option Nat)
abbrev ZR : Type := (Option Value ⊕ Value) × ZH
abbrev ZGo : Type := Nat → Nat → Nat → List Value → List Value → ZH → Option ZR
def zdum : Value := .retAddr 0
def zent : List Value → List Value
  | [] => []
  | .long x :: vs => .long x :: zdum :: zent vs
  | v :: vs => v :: zent vs
def zpad (l : List Value) (n : Nat) : List Value := l ++ List.replicate (n - l.length) zdum
def zgo (h : Option Nat) (r : ZR) (go : Nat → List Value → List Value → ZH → Option ZR) (p : Nat) (ls rest : List Value) : Option ZR := match r with
  | (.inl (some v), z) => go p ls (v :: rest) z
  | (.inl none, z) => go p ls rest z
  | (.inr x, z) => match h with
    | some 0 => some (.inr x, z)
    | some (q + 1) => go q ls [x] z
    | none => none
/-- what lies below a call's arguments isn't much -/
def zcs (st : List Value) : Bool := decide (st.length ≤ 4) || (decide (st.length ≤ 8) && st.all (fun v => match v with | .long _ => false | .double _ => false | _ => true))
theorem zcs_0 : zcs [] = true := rfl
theorem zcs_1 {a : Value} : zcs [a] = true := rfl
theorem zcs_2 {a b : Value} : zcs [a, b] = true := rfl
theorem zcs_3 {a b c : Value} : zcs [a, b, c] = true := rfl
theorem zcs_4 {a b c d : Value} : zcs [a, b, c, d] = true := rfl
theorem zcat_le (v : Value) : v.category ≤ 2 := by cases v <;> simp [Value.category]
theorem zcat_sum : ∀ l : List Value, (l.map fun v => v.category).sum ≤ 2 * l.length
  | [] => Nat.le_refl 0
  | v :: l => by
    have := zcat_sum l
    have h := zcat_le v
    simp only [List.map_cons, List.sum_cons, List.length_cons]
    omega
theorem zcat_sum1 : ∀ l : List Value, l.all (fun v => match v with | .long _ => false | .double _ => false | _ => true) = true → (l.map fun v => v.category).sum ≤ l.length
  | [], _ => Nat.le_refl 0
  | v :: l, h => by
    rw [List.all_cons, Bool.and_eq_true] at h
    have h2 := zcat_sum1 l h.2
    have h1 : v.category ≤ 1 := by
      have := h.1
      cases v <;> first | (simp [Value.category]; done) | (cases this; done)
    simp only [List.map_cons, List.sum_cons, List.length_cons]
    omega
theorem zcs_le {st : List Value} (h : zcs st = true) : (st.map fun v => v.category).sum ≤ 8 := by
  unfold zcs at h
  rw [Bool.or_eq_true, Bool.and_eq_true] at h
  rcases h with h | ⟨h, h2⟩
  · have := zcat_sum st
    have h := of_decide_eq_true h
    omega
  · have := zcat_sum1 st h2
    have h := of_decide_eq_true h
    omega
def evS (G : ZP) (go : ZGo) : ZGo := fun d k pc ls st z => match G.1 k pc with
  | none => none
  | some (.inl f) => match f ls st z with
    | none => none
    | some (p, ls', st', z') => go d k p ls' st' z'
  | some (.inr (.inl (p, sel))) => match sel z st, d with
    | some (k', as, rest), d' + 1 => if zcs rest = true ∧ (zent as).length ≤ G.2.1 k' then (match go d' k' 0 (zpad (zent as) (G.2.1 k')) [] z with
      | none => none
      | some r => zgo (G.2.2 k pc) r (go (d' + 1) k) p ls rest) else none
    | _, _ => none
  | some (.inr (.inr 0)) => match st with
    | [.int a] => some (.inl (some (.int a)), z)
    | _ => none
  | some (.inr (.inr 1)) => match st with
    | [] => some (.inl none, z)
    | _ => none
  | some (.inr (.inr 2)) => match st with
    | .ref r :: _ => if zcls z r = 14 then some (.inr (.ref r), z) else none
    | _ => none
  | some (.inr (.inr 3)) => match st with
    | [.int a] => if a = 0 ∨ a = 1 then some (.inl (some (.int a)), z) else none
    | _ => none
  | some (.inr (.inr 4)) => match st with
    | [.long a] => some (.inl (some (.long a)), z)
    | _ => none
  | some (.inr (.inr 6)) => match st with
    | [.int a] => if 0 ≤ a ∧ a.toNatClampNeg < 128 then some (.inl (some (.int a)), z) else none
    | _ => none
  | some (.inr (.inr (_ + 5))) => match st with
    | [.ref r] => some (.inl (some (.ref r)), z)
    | [.null] => some (.inl (some .null), z)
    | _ => none
def ev (G : ZP) : Nat → ZGo
  | 0 => fun _ _ _ _ _ _ => none
  | n + 1 => evS G (ev G n)
def ZLe (a b : ZGo) : Prop := ∀ d k pc ls st z r, a d k pc ls st z = some r → b d k pc ls st z = some r
theorem zgo_mono {h : Option Nat} {r r' : ZR} {a b : Nat → List Value → List Value → ZH → Option ZR} {p : Nat} {ls rest : List Value} (hab : ∀ q l s z x, a q l s z = some x → b q l s z = some x) (e : zgo h r a p ls rest = some r') : zgo h r b p ls rest = some r' := by
  obtain ⟨o, z⟩ := r
  cases o with
  | inl v => cases v with
    | none => exact hab _ _ _ _ _ e
    | some v => exact hab _ _ _ _ _ e
  | inr x => match h, e with
    | none, e => exact e
    | some 0, e => exact e
    | some (q + 1), e => exact hab _ _ _ _ _ e
theorem evS_mono {G : ZP} {a b : ZGo} (hab : ZLe a b) : ZLe (evS G a) (evS G b) := by
  intro d k pc ls st z r e
  unfold evS at e ⊢
  cases hg : G.1 k pc with
  | none => rw [hg] at e; cases e
  | some i =>
    rw [hg] at e
    cases i with
    | inl f =>
      dsimp only at e ⊢
      cases hf : f ls st z with
      | none => rw [hf] at e; cases e
      | some o => rw [hf] at e; exact hab _ _ _ _ _ _ _ e
    | inr i => cases i with
      | inl ps =>
        obtain ⟨p, sel⟩ := ps
        dsimp only at e ⊢
        cases hs : sel z st with
        | none => rw [hs] at e; cases e
        | some o =>
          rw [hs] at e
          cases d with
          | zero => cases e
          | succ d' =>
            dsimp only at e ⊢
            by_cases hz : zcs o.2.2 = true ∧ (zent o.2.1).length ≤ G.2.1 o.1
            rotate_left
            · rw [if_neg hz] at e; cases e
            rw [if_pos hz] at e ⊢
            cases hc : a d' o.1 0 (zpad (zent o.2.1) (G.2.1 o.1)) [] z with
            | none => rw [hc] at e; cases e
            | some r1 =>
              rw [hc] at e
              rw [hab _ _ _ _ _ _ _ hc]
              exact zgo_mono (fun q l s z x h => hab _ _ _ _ _ _ _ h) e
      | inr t => match t, e with
        | 0, e => exact e
        | 1, e => exact e
        | 2, e => exact e
        | 3, e => exact e
        | 4, e => exact e
        | 5, e => exact e
        | 6, e => exact e
        | _ + 7, e => exact e
theorem ev_mono (G : ZP) : ∀ n, ZLe (ev G n) (ev G (n + 1))
  | 0 => fun d k pc ls st z r e => by cases e
  | n + 1 => evS_mono (ev_mono G n)
theorem ev_le (G : ZP) {n : Nat} : ∀ m, ZLe (ev G n) (ev G (n + m))
  | 0 => fun _ _ _ _ _ _ _ e => e
  | m + 1 => fun d k pc ls st z r e => ev_mono G (n + m) _ _ _ _ _ _ _ (ev_le G m _ _ _ _ _ _ _ e)
abbrev ZQ : Type := (Option Value ⊕ Value) → ZH → Prop
def ZW (G : ZP) (d k pc : Nat) (ls st : List Value) (z : ZH) (Q : ZQ) : Prop := ∃ n r, ev G n d k pc ls st z = some r ∧ Q r.1 r.2
def ZC (G : ZP) (d k : Nat) (as : List Value) (z : ZH) (Q : ZQ) : Prop := ZW G d k 0 (zpad (zent as) (G.2.1 k)) [] z Q
section ZWL
variable {G : ZP} {d k pc p q : Nat} {ls ls' st st' rest as : List Value} {z z' : ZH} {Q : ZQ} {f : ZF}
theorem zw_next (hG : G.1 k pc = some (.inl f)) (hf : f ls st z = some (p, ls', st', z')) : ZW G d k pc ls st z Q = ZW G d k p ls' st' z' Q := by
  apply propext
  constructor
  · rintro ⟨n, r, e, h⟩
    cases n with
    | zero => cases e
    | succ n =>
      refine ⟨n, r, ?_, h⟩
      have e1 : evS G (ev G n) d k pc ls st z = some r := e
      unfold evS at e1
      rw [hG] at e1
      dsimp only at e1
      rw [hf] at e1
      exact e1
  · rintro ⟨n, r, e, h⟩
    refine ⟨n + 1, r, ?_, h⟩
    show evS G (ev G n) d k pc ls st z = some r
    unfold evS
    rw [hG]
    dsimp only
    rw [hf]
    exact e
theorem zw_none (hG : G.1 k pc = some (.inl f)) (hf : f ls st z = none) : ZW G d k pc ls st z Q = False := by
  apply propext
  constructor
  · rintro ⟨n, r, e, h⟩
    cases n with
    | zero => cases e
    | succ n =>
      have e1 : evS G (ev G n) d k pc ls st z = some r := e
      unfold evS at e1
      rw [hG] at e1
      dsimp only at e1
      rw [hf] at e1
      cases e1
  · exact False.elim
theorem zw_cond {c : Prop} [Decidable c] (hG : G.1 k pc = some (.inl f)) (hf : f ls st z = if c then some (p, ls', st', z') else none) : ZW G d k pc ls st z Q = (c ∧ ZW G d k p ls' st' z' Q) := by
  by_cases h : c
  · rw [if_pos h] at hf
    rw [zw_next hG hf]
    exact propext ⟨fun w => ⟨h, w⟩, fun w => w.2⟩
  · rw [if_neg h] at hf
    rw [zw_none hG hf]
    exact propext ⟨False.elim, fun w => h w.1⟩
theorem zw_ite {c : Prop} [Decidable c] {ls1 ls2 st1 st2 : List Value} {z1 z2 : ZH} (hG : G.1 k pc = some (.inl f)) (hf : f ls st z = if c then some (p, ls1, st1, z1) else some (q, ls2, st2, z2)) : ZW G d k pc ls st z Q = if c then ZW G d k p ls1 st1 z1 Q else ZW G d k q ls2 st2 z2 Q := by
  by_cases h : c
  · rw [if_pos h] at hf ⊢
    exact zw_next hG hf
  · rw [if_neg h] at hf ⊢
    exact zw_next hG hf
/-- what goes on behind a call -/
def zk (G : ZP) (d k : Nat) (h : Option Nat) (p : Nat) (ls rest : List Value) (Q : ZQ) : ZQ := fun o z => match o with
  | .inl (some v) => ZW G d k p ls (v :: rest) z Q
  | .inl none => ZW G d k p ls rest z Q
  | .inr x => match h with
    | some 0 => Q (.inr x) z
    | some (q + 1) => ZW G d k q ls [x] z Q
    | none => False
theorem zk_v {h : Option Nat} {v : Value} : zk G d k h p ls rest Q (.inl (some v)) z = ZW G d k p ls (v :: rest) z Q := rfl
theorem zk_n {h : Option Nat} : zk G d k h p ls rest Q (.inl none) z = ZW G d k p ls rest z Q := rfl
theorem zk_x {v : Value} : zk G d k (some 0) p ls rest Q (.inr v) z = Q (.inr v) z := rfl
theorem zk_h {v : Value} : zk G d k (some (q + 1)) p ls rest Q (.inr v) z = ZW G d k q ls [v] z Q := rfl
theorem zk_0 {v : Value} : zk G d k none p ls rest Q (.inr v) z = False := rfl
theorem zgo_ex {h : Option Nat} {r : ZR} {n : Nat} : (∃ r', zgo h r (ev G n d k) p ls rest = some r' ∧ Q r'.1 r'.2) → zk G d k h p ls rest Q r.1 r.2 := by
  rintro ⟨r', e, hq⟩
  obtain ⟨o, z⟩ := r
  cases o with
  | inl v => cases v with
    | none => exact ⟨n, r', e, hq⟩
    | some v => exact ⟨n, r', e, hq⟩
  | inr x => match h, e with
    | none, e => cases e
    | some 0, e =>
      have e1 : (some (.inr x, z) : Option ZR) = some r' := e
      cases e1
      exact hq
    | some (q + 1), e => exact ⟨n, r', e, hq⟩
theorem zgo_of {h : Option Nat} {r : ZR} (hk : zk G d k h p ls rest Q r.1 r.2) : ∃ n, ∀ m, n ≤ m → ∃ r', zgo h r (ev G m d k) p ls rest = some r' ∧ Q r'.1 r'.2 := by
  obtain ⟨o, z⟩ := r
  have key : ∀ {q : Nat} {s : List Value}, ZW G d k q ls s z Q → ∃ n, ∀ m, n ≤ m → ∃ r', ev G m d k q ls s z = some r' ∧ Q r'.1 r'.2 := by
    rintro q s ⟨n, r', e, hq⟩
    refine ⟨n, fun m hm => ⟨r', ?_, hq⟩⟩
    obtain ⟨j, rfl⟩ := Nat.exists_eq_add_of_le hm
    exact ev_le G j _ _ _ _ _ _ _ e
  cases o with
  | inl v => cases v with
    | none => exact key hk
    | some v => exact key hk
  | inr x => match h, hk with
    | none, hk => exact hk.elim
    | some 0, hk => exact ⟨0, fun m _ => ⟨(.inr x, z), rfl, hk⟩⟩
    | some (q + 1), hk => exact key hk
theorem zw_call {sel : ZS} {k' : Nat} (hG : G.1 k pc = some (.inr (.inl (p, sel)))) (hs : sel z st = some (k', as, rest)) (hfit : (zent as).length ≤ G.2.1 k') : ZW G (d + 1) k pc ls st z Q = (zcs rest = true ∧ ZC G d k' as z (zk G (d + 1) k (G.2.2 k pc) p ls rest Q)) := by
  apply propext
  constructor
  · rintro ⟨n, r, e, h⟩
    cases n with
    | zero => cases e
    | succ n =>
      have e1 : evS G (ev G n) (d + 1) k pc ls st z = some r := e
      unfold evS at e1
      rw [hG] at e1
      dsimp only at e1
      rw [hs] at e1
      dsimp only at e1
      by_cases hz : zcs rest = true ∧ (zent as).length ≤ G.2.1 k'
      rotate_left
      · rw [if_neg hz] at e1; cases e1
      rw [if_pos hz] at e1
      refine ⟨hz.1, ?_⟩
      cases hc : ev G n d k' 0 (zpad (zent as) (G.2.1 k')) [] z with
      | none => rw [hc] at e1; cases e1
      | some r1 =>
        rw [hc] at e1
        exact ⟨n, r1, hc, zgo_ex ⟨r, e1, h⟩⟩
  · rintro ⟨hz, n, r1, hc, hk⟩
    obtain ⟨n2, h2⟩ := zgo_of hk
    obtain ⟨r', e, hq⟩ := h2 (n + n2) (Nat.le_add_left _ _)
    refine ⟨n + n2 + 1, r', ?_, hq⟩
    show evS G (ev G (n + n2)) (d + 1) k pc ls st z = some r'
    unfold evS
    rw [hG]
    dsimp only
    rw [hs]
    dsimp only
    rw [if_pos ⟨hz, hfit⟩]
    rw [ev_le G n2 _ _ _ _ _ _ _ hc]
    exact e
theorem zw_callc {sel : ZS} {k' : Nat} {c : Prop} [Decidable c] (hG : G.1 k pc = some (.inr (.inl (p, sel)))) (hs : sel z st = if c then some (k', as, rest) else none) (hfit : (zent as).length ≤ G.2.1 k') : ZW G (d + 1) k pc ls st z Q = (c ∧ zcs rest = true ∧ ZC G d k' as z (zk G (d + 1) k (G.2.2 k pc) p ls rest Q)) := by
  by_cases h : c
  · rw [if_pos h] at hs
    rw [zw_call hG hs hfit]
    exact propext ⟨fun w => ⟨h, w⟩, fun w => w.2⟩
  · rw [if_neg h] at hs
    apply propext
    constructor
    · rintro ⟨n, r, e, _⟩
      cases n with
      | zero => cases e
      | succ n =>
        have e1 : evS G (ev G n) (d + 1) k pc ls st z = some r := e
        unfold evS at e1
        rw [hG] at e1
        dsimp only at e1
        rw [hs] at e1
        cases e1
    · exact fun w => absurd w.1 h
theorem zw_reti {a : Int32} (hG : G.1 k pc = some (.inr (.inr 0))) : ZW G d k pc ls [.int a] z Q = Q (.inl (some (.int a))) z := by
  apply propext
  constructor
  · rintro ⟨n, r, e, h⟩
    cases n with
    | zero => cases e
    | succ n =>
      have e1 : evS G (ev G n) d k pc ls [.int a] z = some r := e
      unfold evS at e1
      rw [hG] at e1
      dsimp only at e1
      cases e1
      exact h
  · intro h
    refine ⟨1, (.inl (some (.int a)), z), ?_, h⟩
    show evS G (ev G 0) d k pc ls [.int a] z = _
    unfold evS
    rw [hG]
theorem zw_ret  (hG : G.1 k pc = some (.inr (.inr 1))) : ZW G d k pc ls [] z Q = Q (.inl none) z := by
  apply propext
  constructor
  · rintro ⟨n, r, e, h⟩
    cases n with
    | zero => cases e
    | succ n =>
      have e1 : evS G (ev G n) d k pc ls [] z = some r := e
      unfold evS at e1
      rw [hG] at e1
      dsimp only at e1
      cases e1
      exact h
  · intro h
    refine ⟨1, (.inl none, z), ?_, h⟩
    show evS G (ev G 0) d k pc ls [] z = _
    unfold evS
    rw [hG]
theorem zw_thr {q : Nat} (hG : G.1 k pc = some (.inr (.inr 2))) : ZW G d k pc ls (.ref q :: st) z Q = (zcls z q = 14 ∧ Q (.inr (.ref q)) z) := by
  apply propext
  constructor
  · rintro ⟨n, r, e, h⟩
    cases n with
    | zero => cases e
    | succ n =>
      have e1 : evS G (ev G n) d k pc ls (.ref q :: st) z = some r := e
      unfold evS at e1
      rw [hG] at e1
      dsimp only at e1
      by_cases hc : zcls z q = 14
      · rw [if_pos hc] at e1
        cases e1
        exact ⟨hc, h⟩
      · rw [if_neg hc] at e1
        cases e1
  · rintro ⟨hc, h⟩
    refine ⟨1, (.inr (.ref q), z), ?_, h⟩
    show evS G (ev G 0) d k pc ls (.ref q :: st) z = _
    unfold evS
    rw [hG]
    dsimp only
    rw [if_pos hc]
theorem zw_retz {a : Int32} (hG : G.1 k pc = some (.inr (.inr 3))) : ZW G d k pc ls [.int a] z Q = ((a = 0 ∨ a = 1) ∧ Q (.inl (some (.int a))) z) := by
  apply propext
  constructor
  · rintro ⟨n, r, e, h⟩
    cases n with
    | zero => cases e
    | succ n =>
      have e1 : evS G (ev G n) d k pc ls [.int a] z = some r := e
      unfold evS at e1
      rw [hG] at e1
      dsimp only at e1
      by_cases hc : (a = 0 ∨ a = 1)
      · rw [if_pos hc] at e1
        cases e1
        exact ⟨hc, h⟩
      · rw [if_neg hc] at e1
        cases e1
  · rintro ⟨hc, h⟩
    refine ⟨1, (.inl (some (.int a)), z), ?_, h⟩
    show evS G (ev G 0) d k pc ls [.int a] z = _
    unfold evS
    rw [hG]
    dsimp only
    rw [if_pos hc]
theorem zw_retl {a : Int64} (hG : G.1 k pc = some (.inr (.inr 4))) : ZW G d k pc ls [.long a] z Q = Q (.inl (some (.long a))) z := by
  apply propext
  constructor
  · rintro ⟨n, r, e, h⟩
    cases n with
    | zero => cases e
    | succ n =>
      have e1 : evS G (ev G n) d k pc ls [.long a] z = some r := e
      unfold evS at e1
      rw [hG] at e1
      dsimp only at e1
      cases e1
      exact h
  · intro h
    refine ⟨1, (.inl (some (.long a)), z), ?_, h⟩
    show evS G (ev G 0) d k pc ls [.long a] z = _
    unfold evS
    rw [hG]
theorem zw_reta {q : Nat} (hG : G.1 k pc = some (.inr (.inr 5))) : ZW G d k pc ls [.ref q] z Q = Q (.inl (some (.ref q))) z := by
  apply propext
  constructor
  · rintro ⟨n, r, e, h⟩
    cases n with
    | zero => cases e
    | succ n =>
      have e1 : evS G (ev G n) d k pc ls [.ref q] z = some r := e
      unfold evS at e1
      rw [hG] at e1
      dsimp only at e1
      cases e1
      exact h
  · intro h
    refine ⟨1, (.inl (some (.ref q)), z), ?_, h⟩
    show evS G (ev G 0) d k pc ls [.ref q] z = _
    unfold evS
    rw [hG]
    rfl
theorem zw_retn  (hG : G.1 k pc = some (.inr (.inr 5))) : ZW G d k pc ls [.null] z Q = Q (.inl (some .null)) z := by
  apply propext
  constructor
  · rintro ⟨n, r, e, h⟩
    cases n with
    | zero => cases e
    | succ n =>
      have e1 : evS G (ev G n) d k pc ls [.null] z = some r := e
      unfold evS at e1
      rw [hG] at e1
      dsimp only at e1
      cases e1
      exact h
  · intro h
    refine ⟨1, (.inl (some .null), z), ?_, h⟩
    show evS G (ev G 0) d k pc ls [.null] z = _
    unfold evS
    rw [hG]
    rfl
theorem zw_retc {a : Int32} (hG : G.1 k pc = some (.inr (.inr 6))) : ZW G d k pc ls [.int a] z Q = ((0 ≤ a ∧ a.toNatClampNeg < 128) ∧ Q (.inl (some (.int a))) z) := by
  apply propext
  constructor
  · rintro ⟨n, r, e, h⟩
    cases n with
    | zero => cases e
    | succ n =>
      have e1 : evS G (ev G n) d k pc ls [.int a] z = some r := e
      unfold evS at e1
      rw [hG] at e1
      dsimp only at e1
      by_cases hc : (0 ≤ a ∧ a.toNatClampNeg < 128)
      · rw [if_pos hc] at e1
        cases e1
        exact ⟨hc, h⟩
      · rw [if_neg hc] at e1
        cases e1
  · rintro ⟨hc, h⟩
    refine ⟨1, (.inl (some (.int a)), z), ?_, h⟩
    show evS G (ev G 0) d k pc ls [.int a] z = _
    unfold evS
    rw [hG]
    dsimp only
    rw [if_pos hc]
    rfl
theorem zw_imp {Q' : ZQ} (h : ZW G d k pc ls st z Q) (hq : ∀ o z', Q o z' → Q' o z') : ZW G d k pc ls st z Q' := by
  obtain ⟨n, r, e, h⟩ := h
  exact ⟨n, r, e, hq _ _ h⟩
theorem zc_imp {Q' : ZQ} (h : ZC G d k as z Q) (hq : ∀ o z', Q o z' → Q' o z') : ZC G d k as z Q' := zw_imp h hq
end ZWL
