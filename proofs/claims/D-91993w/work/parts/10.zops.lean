section ZOPS
variable {G : ZP} {d k pc p q : Nat} {ls st : List Value} {z : ZH} {Q : ZQ}
def z_push (v : Value) (p : Nat) : ZF := fun ls st z => some (p, ls, v :: st, z)
theorem zw_push {v : Value} (hG : G.1 k pc = some (.inl (z_push v p))) : ZW G d k pc ls st z Q = ZW G d k p ls (v :: st) z Q := zw_next hG rfl
def z_goto  (p : Nat) : ZF := fun ls st z => some (p, ls, st, z)
theorem zw_goto  (hG : G.1 k pc = some (.inl (z_goto  p))) : ZW G d k pc ls st z Q = ZW G d k p ls (st) z Q := zw_next hG rfl
def z_iadd  (p : Nat) : ZF := fun ls st z => match st with | .int b :: .int a :: st => some (p, ls, .int (a + b) :: st, z) | _ => none
theorem zw_iadd  {b : Int32} {a : Int32} (hG : G.1 k pc = some (.inl (z_iadd  p))) : ZW G d k pc ls (.int b :: .int a :: st) z Q = ZW G d k p ls (.int (a + b) :: st) z Q := zw_next hG rfl
def z_isub  (p : Nat) : ZF := fun ls st z => match st with | .int b :: .int a :: st => some (p, ls, .int (a - b) :: st, z) | _ => none
theorem zw_isub  {b : Int32} {a : Int32} (hG : G.1 k pc = some (.inl (z_isub  p))) : ZW G d k pc ls (.int b :: .int a :: st) z Q = ZW G d k p ls (.int (a - b) :: st) z Q := zw_next hG rfl
def z_imul  (p : Nat) : ZF := fun ls st z => match st with | .int b :: .int a :: st => some (p, ls, .int (a * b) :: st, z) | _ => none
theorem zw_imul  {b : Int32} {a : Int32} (hG : G.1 k pc = some (.inl (z_imul  p))) : ZW G d k pc ls (.int b :: .int a :: st) z Q = ZW G d k p ls (.int (a * b) :: st) z Q := zw_next hG rfl
def z_iand  (p : Nat) : ZF := fun ls st z => match st with | .int b :: .int a :: st => some (p, ls, .int (a &&& b) :: st, z) | _ => none
theorem zw_iand  {b : Int32} {a : Int32} (hG : G.1 k pc = some (.inl (z_iand  p))) : ZW G d k pc ls (.int b :: .int a :: st) z Q = ZW G d k p ls (.int (a &&& b) :: st) z Q := zw_next hG rfl
def z_ior  (p : Nat) : ZF := fun ls st z => match st with | .int b :: .int a :: st => some (p, ls, .int (a ||| b) :: st, z) | _ => none
theorem zw_ior  {b : Int32} {a : Int32} (hG : G.1 k pc = some (.inl (z_ior  p))) : ZW G d k pc ls (.int b :: .int a :: st) z Q = ZW G d k p ls (.int (a ||| b) :: st) z Q := zw_next hG rfl
def z_ixor  (p : Nat) : ZF := fun ls st z => match st with | .int b :: .int a :: st => some (p, ls, .int (a ^^^ b) :: st, z) | _ => none
theorem zw_ixor  {b : Int32} {a : Int32} (hG : G.1 k pc = some (.inl (z_ixor  p))) : ZW G d k pc ls (.int b :: .int a :: st) z Q = ZW G d k p ls (.int (a ^^^ b) :: st) z Q := zw_next hG rfl
def z_ishl  (p : Nat) : ZF := fun ls st z => match st with | .int b :: .int a :: st => some (p, ls, .int (a <<< (b &&& 31)) :: st, z) | _ => none
theorem zw_ishl  {b : Int32} {a : Int32} (hG : G.1 k pc = some (.inl (z_ishl  p))) : ZW G d k pc ls (.int b :: .int a :: st) z Q = ZW G d k p ls (.int (a <<< (b &&& 31)) :: st) z Q := zw_next hG rfl
def z_ishr  (p : Nat) : ZF := fun ls st z => match st with | .int b :: .int a :: st => some (p, ls, .int (a >>> (b &&& 31)) :: st, z) | _ => none
theorem zw_ishr  {b : Int32} {a : Int32} (hG : G.1 k pc = some (.inl (z_ishr  p))) : ZW G d k pc ls (.int b :: .int a :: st) z Q = ZW G d k p ls (.int (a >>> (b &&& 31)) :: st) z Q := zw_next hG rfl
def z_iushr  (p : Nat) : ZF := fun ls st z => match st with | .int b :: .int a :: st => some (p, ls, .int ((a.toUInt32 >>> (b.toUInt32 &&& Int32.toUInt32 31)).toInt32) :: st, z) | _ => none
theorem zw_iushr  {b : Int32} {a : Int32} (hG : G.1 k pc = some (.inl (z_iushr  p))) : ZW G d k pc ls (.int b :: .int a :: st) z Q = ZW G d k p ls (.int ((a.toUInt32 >>> (b.toUInt32 &&& Int32.toUInt32 31)).toInt32) :: st) z Q := zw_next hG rfl
def z_ladd  (p : Nat) : ZF := fun ls st z => match st with | .long y :: .long x :: st => some (p, ls, .long (x + y) :: st, z) | _ => none
theorem zw_ladd  {y : Int64} {x : Int64} (hG : G.1 k pc = some (.inl (z_ladd  p))) : ZW G d k pc ls (.long y :: .long x :: st) z Q = ZW G d k p ls (.long (x + y) :: st) z Q := zw_next hG rfl
def z_lsub  (p : Nat) : ZF := fun ls st z => match st with | .long y :: .long x :: st => some (p, ls, .long (x - y) :: st, z) | _ => none
theorem zw_lsub  {y : Int64} {x : Int64} (hG : G.1 k pc = some (.inl (z_lsub  p))) : ZW G d k pc ls (.long y :: .long x :: st) z Q = ZW G d k p ls (.long (x - y) :: st) z Q := zw_next hG rfl
def z_lmul  (p : Nat) : ZF := fun ls st z => match st with | .long y :: .long x :: st => some (p, ls, .long (x * y) :: st, z) | _ => none
theorem zw_lmul  {y : Int64} {x : Int64} (hG : G.1 k pc = some (.inl (z_lmul  p))) : ZW G d k pc ls (.long y :: .long x :: st) z Q = ZW G d k p ls (.long (x * y) :: st) z Q := zw_next hG rfl
def z_land  (p : Nat) : ZF := fun ls st z => match st with | .long y :: .long x :: st => some (p, ls, .long (x &&& y) :: st, z) | _ => none
theorem zw_land  {y : Int64} {x : Int64} (hG : G.1 k pc = some (.inl (z_land  p))) : ZW G d k pc ls (.long y :: .long x :: st) z Q = ZW G d k p ls (.long (x &&& y) :: st) z Q := zw_next hG rfl
def z_lor  (p : Nat) : ZF := fun ls st z => match st with | .long y :: .long x :: st => some (p, ls, .long (x ||| y) :: st, z) | _ => none
theorem zw_lor  {y : Int64} {x : Int64} (hG : G.1 k pc = some (.inl (z_lor  p))) : ZW G d k pc ls (.long y :: .long x :: st) z Q = ZW G d k p ls (.long (x ||| y) :: st) z Q := zw_next hG rfl
def z_lcmp  (p : Nat) : ZF := fun ls st z => match st with | .long y :: .long x :: st => some (p, ls, .int (lg_cmp x y) :: st, z) | _ => none
theorem zw_lcmp  {y : Int64} {x : Int64} (hG : G.1 k pc = some (.inl (z_lcmp  p))) : ZW G d k pc ls (.long y :: .long x :: st) z Q = ZW G d k p ls (.int (lg_cmp x y) :: st) z Q := zw_next hG rfl
def z_lshl  (p : Nat) : ZF := fun ls st z => match st with | .int b :: .long x :: st => some (p, ls, .long (x <<< (b.toInt64 &&& 63)) :: st, z) | _ => none
theorem zw_lshl  {b : Int32} {x : Int64} (hG : G.1 k pc = some (.inl (z_lshl  p))) : ZW G d k pc ls (.int b :: .long x :: st) z Q = ZW G d k p ls (.long (x <<< (b.toInt64 &&& 63)) :: st) z Q := zw_next hG rfl
def z_lshr  (p : Nat) : ZF := fun ls st z => match st with | .int b :: .long x :: st => some (p, ls, .long (x >>> (b.toInt64 &&& 63)) :: st, z) | _ => none
theorem zw_lshr  {b : Int32} {x : Int64} (hG : G.1 k pc = some (.inl (z_lshr  p))) : ZW G d k pc ls (.int b :: .long x :: st) z Q = ZW G d k p ls (.long (x >>> (b.toInt64 &&& 63)) :: st) z Q := zw_next hG rfl
def z_ineg  (p : Nat) : ZF := fun ls st z => match st with | .int a :: st => some (p, ls, .int (-a) :: st, z) | _ => none
theorem zw_ineg  {a : Int32} (hG : G.1 k pc = some (.inl (z_ineg  p))) : ZW G d k pc ls (.int a :: st) z Q = ZW G d k p ls (.int (-a) :: st) z Q := zw_next hG rfl
def z_i2l  (p : Nat) : ZF := fun ls st z => match st with | .int a :: st => some (p, ls, .long a.toInt64 :: st, z) | _ => none
theorem zw_i2l  {a : Int32} (hG : G.1 k pc = some (.inl (z_i2l  p))) : ZW G d k pc ls (.int a :: st) z Q = ZW G d k p ls (.long a.toInt64 :: st) z Q := zw_next hG rfl
def z_l2i  (p : Nat) : ZF := fun ls st z => match st with | .long x :: st => some (p, ls, .int x.toInt32 :: st, z) | _ => none
theorem zw_l2i  {x : Int64} (hG : G.1 k pc = some (.inl (z_l2i  p))) : ZW G d k pc ls (.long x :: st) z Q = ZW G d k p ls (.int x.toInt32 :: st) z Q := zw_next hG rfl
def z_i2b  (p : Nat) : ZF := fun ls st z => match st with | .int a :: st => some (p, ls, .int a.toInt8.toInt32 :: st, z) | _ => none
theorem zw_i2b  {a : Int32} (hG : G.1 k pc = some (.inl (z_i2b  p))) : ZW G d k pc ls (.int a :: st) z Q = ZW G d k p ls (.int a.toInt8.toInt32 :: st) z Q := zw_next hG rfl
def z_i2s  (p : Nat) : ZF := fun ls st z => match st with | .int a :: st => some (p, ls, .int a.toInt16.toInt32 :: st, z) | _ => none
theorem zw_i2s  {a : Int32} (hG : G.1 k pc = some (.inl (z_i2s  p))) : ZW G d k pc ls (.int a :: st) z Q = ZW G d k p ls (.int a.toInt16.toInt32 :: st) z Q := zw_next hG rfl
def z_i2c  (p : Nat) : ZF := fun ls st z => match st with | .int a :: st => some (p, ls, .int (a.toUInt32 % 65536).toInt32 :: st, z) | _ => none
theorem zw_i2c  {a : Int32} (hG : G.1 k pc = some (.inl (z_i2c  p))) : ZW G d k pc ls (.int a :: st) z Q = ZW G d k p ls (.int (a.toUInt32 % 65536).toInt32 :: st) z Q := zw_next hG rfl
def z_popi  (p : Nat) : ZF := fun ls st z => match st with | .int a :: st => some (p, ls, st, z) | _ => none
theorem zw_popi  {a : Int32} (hG : G.1 k pc = some (.inl (z_popi  p))) : ZW G d k pc ls (.int a :: st) z Q = ZW G d k p ls (st) z Q := zw_next hG rfl
def z_popr  (p : Nat) : ZF := fun ls st z => match st with | .ref r :: st => some (p, ls, st, z) | _ => none
theorem zw_popr  {r : Nat} (hG : G.1 k pc = some (.inl (z_popr  p))) : ZW G d k pc ls (.ref r :: st) z Q = ZW G d k p ls (st) z Q := zw_next hG rfl
def z_dupr  (p : Nat) : ZF := fun ls st z => match st with | .ref r :: st => some (p, ls, .ref r :: .ref r :: st, z) | _ => none
theorem zw_dupr  {r : Nat} (hG : G.1 k pc = some (.inl (z_dupr  p))) : ZW G d k pc ls (.ref r :: st) z Q = ZW G d k p ls (.ref r :: .ref r :: st) z Q := zw_next hG rfl
def z_dupi  (p : Nat) : ZF := fun ls st z => match st with | .int a :: st => some (p, ls, .int a :: .int a :: st, z) | _ => none
theorem zw_dupi  {a : Int32} (hG : G.1 k pc = some (.inl (z_dupi  p))) : ZW G d k pc ls (.int a :: st) z Q = ZW G d k p ls (.int a :: .int a :: st) z Q := zw_next hG rfl
def z_dup2  (p : Nat) : ZF := fun ls st z => match st with | .int a :: .ref r :: st => some (p, ls, .int a :: .ref r :: .int a :: .ref r :: st, z) | _ => none
theorem zw_dup2  {a : Int32} {r : Nat} (hG : G.1 k pc = some (.inl (z_dup2  p))) : ZW G d k pc ls (.int a :: .ref r :: st) z Q = ZW G d k p ls (.int a :: .ref r :: .int a :: .ref r :: st) z Q := zw_next hG rfl
def z_oinit  (p : Nat) : ZF := fun ls st z => match st with | .ref r :: st => if zcs st = true then some (p, ls, st, z) else none | _ => none
theorem zw_oinit  {r : Nat} (hG : G.1 k pc = some (.inl (z_oinit  p))) : ZW G d k pc ls (.ref r :: st) z Q = ((zcs st = true) ∧ ZW G d k p ls (st) (z) Q) := zw_cond hG rfl
def z_idiv  (p : Nat) : ZF := fun ls st z => match st with | .int b :: .int a :: st => if ¬ b = 0 then some (p, ls, .int (a / b) :: st, z) else none | _ => none
theorem zw_idiv  {b : Int32} {a : Int32} (hG : G.1 k pc = some (.inl (z_idiv  p))) : ZW G d k pc ls (.int b :: .int a :: st) z Q = ((¬ b = 0) ∧ ZW G d k p ls (.int (a / b) :: st) (z) Q) := zw_cond hG rfl
def z_irem  (p : Nat) : ZF := fun ls st z => match st with | .int b :: .int a :: st => if ¬ b = 0 then some (p, ls, .int (a - a / b * b) :: st, z) else none | _ => none
theorem zw_irem  {b : Int32} {a : Int32} (hG : G.1 k pc = some (.inl (z_irem  p))) : ZW G d k pc ls (.int b :: .int a :: st) z Q = ((¬ b = 0) ∧ ZW G d k p ls (.int (a - a / b * b) :: st) (z) Q) := zw_cond hG rfl
def z_ifeq (q p : Nat) : ZF := fun ls st z => match st with | .int a :: st => if a = 0 then some (q, ls, st, z) else some (p, ls, st, z) | _ => none
theorem zw_ifeq {a : Int32} (hG : G.1 k pc = some (.inl (z_ifeq q p))) : ZW G d k pc ls (.int a :: st) z Q = if a = 0 then ZW G d k q ls st z Q else ZW G d k p ls st z Q := zw_ite hG rfl
def z_ifne (q p : Nat) : ZF := fun ls st z => match st with | .int a :: st => if ¬ a = 0 then some (q, ls, st, z) else some (p, ls, st, z) | _ => none
theorem zw_ifne {a : Int32} (hG : G.1 k pc = some (.inl (z_ifne q p))) : ZW G d k pc ls (.int a :: st) z Q = if ¬ a = 0 then ZW G d k q ls st z Q else ZW G d k p ls st z Q := zw_ite hG rfl
def z_iflt (q p : Nat) : ZF := fun ls st z => match st with | .int a :: st => if a < 0 then some (q, ls, st, z) else some (p, ls, st, z) | _ => none
theorem zw_iflt {a : Int32} (hG : G.1 k pc = some (.inl (z_iflt q p))) : ZW G d k pc ls (.int a :: st) z Q = if a < 0 then ZW G d k q ls st z Q else ZW G d k p ls st z Q := zw_ite hG rfl
def z_ifge (q p : Nat) : ZF := fun ls st z => match st with | .int a :: st => if 0 ≤ a then some (q, ls, st, z) else some (p, ls, st, z) | _ => none
theorem zw_ifge {a : Int32} (hG : G.1 k pc = some (.inl (z_ifge q p))) : ZW G d k pc ls (.int a :: st) z Q = if 0 ≤ a then ZW G d k q ls st z Q else ZW G d k p ls st z Q := zw_ite hG rfl
def z_ifgt (q p : Nat) : ZF := fun ls st z => match st with | .int a :: st => if 0 < a then some (q, ls, st, z) else some (p, ls, st, z) | _ => none
theorem zw_ifgt {a : Int32} (hG : G.1 k pc = some (.inl (z_ifgt q p))) : ZW G d k pc ls (.int a :: st) z Q = if 0 < a then ZW G d k q ls st z Q else ZW G d k p ls st z Q := zw_ite hG rfl
def z_ifle (q p : Nat) : ZF := fun ls st z => match st with | .int a :: st => if a ≤ 0 then some (q, ls, st, z) else some (p, ls, st, z) | _ => none
theorem zw_ifle {a : Int32} (hG : G.1 k pc = some (.inl (z_ifle q p))) : ZW G d k pc ls (.int a :: st) z Q = if a ≤ 0 then ZW G d k q ls st z Q else ZW G d k p ls st z Q := zw_ite hG rfl
def z_iceq (q p : Nat) : ZF := fun ls st z => match st with | .int b :: .int a :: st => if a = b then some (q, ls, st, z) else some (p, ls, st, z) | _ => none
theorem zw_iceq {b : Int32} {a : Int32} (hG : G.1 k pc = some (.inl (z_iceq q p))) : ZW G d k pc ls (.int b :: .int a :: st) z Q = if a = b then ZW G d k q ls st z Q else ZW G d k p ls st z Q := zw_ite hG rfl
def z_icne (q p : Nat) : ZF := fun ls st z => match st with | .int b :: .int a :: st => if ¬ a = b then some (q, ls, st, z) else some (p, ls, st, z) | _ => none
theorem zw_icne {b : Int32} {a : Int32} (hG : G.1 k pc = some (.inl (z_icne q p))) : ZW G d k pc ls (.int b :: .int a :: st) z Q = if ¬ a = b then ZW G d k q ls st z Q else ZW G d k p ls st z Q := zw_ite hG rfl
def z_iclt (q p : Nat) : ZF := fun ls st z => match st with | .int b :: .int a :: st => if a < b then some (q, ls, st, z) else some (p, ls, st, z) | _ => none
theorem zw_iclt {b : Int32} {a : Int32} (hG : G.1 k pc = some (.inl (z_iclt q p))) : ZW G d k pc ls (.int b :: .int a :: st) z Q = if a < b then ZW G d k q ls st z Q else ZW G d k p ls st z Q := zw_ite hG rfl
def z_icge (q p : Nat) : ZF := fun ls st z => match st with | .int b :: .int a :: st => if b ≤ a then some (q, ls, st, z) else some (p, ls, st, z) | _ => none
theorem zw_icge {b : Int32} {a : Int32} (hG : G.1 k pc = some (.inl (z_icge q p))) : ZW G d k pc ls (.int b :: .int a :: st) z Q = if b ≤ a then ZW G d k q ls st z Q else ZW G d k p ls st z Q := zw_ite hG rfl
def z_icgt (q p : Nat) : ZF := fun ls st z => match st with | .int b :: .int a :: st => if b < a then some (q, ls, st, z) else some (p, ls, st, z) | _ => none
theorem zw_icgt {b : Int32} {a : Int32} (hG : G.1 k pc = some (.inl (z_icgt q p))) : ZW G d k pc ls (.int b :: .int a :: st) z Q = if b < a then ZW G d k q ls st z Q else ZW G d k p ls st z Q := zw_ite hG rfl
def z_icle (q p : Nat) : ZF := fun ls st z => match st with | .int b :: .int a :: st => if a ≤ b then some (q, ls, st, z) else some (p, ls, st, z) | _ => none
theorem zw_icle {b : Int32} {a : Int32} (hG : G.1 k pc = some (.inl (z_icle q p))) : ZW G d k pc ls (.int b :: .int a :: st) z Q = if a ≤ b then ZW G d k q ls st z Q else ZW G d k p ls st z Q := zw_ite hG rfl
def z_ifnull (q p : Nat) : ZF := fun ls st z => match st with | .null :: st => some (q, ls, st, z) | .ref _ :: st => some (p, ls, st, z) | _ => none
theorem zw_ifnull0 (hG : G.1 k pc = some (.inl (z_ifnull q p))) : ZW G d k pc ls (.null :: st) z Q = ZW G d k q ls st z Q := zw_next hG rfl
theorem zw_ifnull1 {r : Nat} (hG : G.1 k pc = some (.inl (z_ifnull q p))) : ZW G d k pc ls (.ref r :: st) z Q = ZW G d k p ls st z Q := zw_next hG rfl
def z_ifnon (q p : Nat) : ZF := fun ls st z => match st with | .null :: st => some (p, ls, st, z) | .ref _ :: st => some (q, ls, st, z) | _ => none
theorem zw_ifnon0 (hG : G.1 k pc = some (.inl (z_ifnon q p))) : ZW G d k pc ls (.null :: st) z Q = ZW G d k p ls st z Q := zw_next hG rfl
theorem zw_ifnon1 {r : Nat} (hG : G.1 k pc = some (.inl (z_ifnon q p))) : ZW G d k pc ls (.ref r :: st) z Q = ZW G d k q ls st z Q := zw_next hG rfl
/-- a switch over 0, 1 ..: where it goes -/
def ztsw (ts : List Nat) (df : Nat) (a : Int32) : Nat := if a < 0 then df else ts.getD a.toNatClampNeg df
def z_tsw (ts : List Nat) (df : Nat) : ZF := fun ls st z => match st with | .int a :: st => some (ztsw ts df a, ls, st, z) | _ => none
theorem zw_tsw {ts : List Nat} {df : Nat} {a : Int32} (hG : G.1 k pc = some (.inl (z_tsw ts df))) : ZW G d k pc ls (.int a :: st) z Q = ZW G d k (ztsw ts df a) ls st z Q := zw_next hG rfl
/-- locals -/
def zclr (v : Value) : Value := match v with | .long _ => zdum | .double _ => zdum | v => v
/-- a value of one place put at i: a long that begins just below is gone -/
def zst1 (ls : List Value) (i : Nat) (v : Value) : List Value := match i with
  | 0 => ls.set 0 v
  | j + 1 => (ls.modify j zclr).set (j + 1) v
def zir (v : Value) : Bool := match v with | .ref _ => true | .null => true | _ => false
theorem zir_r {r : Nat} : zir (.ref r) = true := rfl
theorem zir_n : zir .null = true := rfl
theorem zclr_i {a : Int32} : zclr (.int a) = .int a := rfl
theorem zclr_r {r : Nat} : zclr (.ref r) = .ref r := rfl
theorem zclr_n : zclr .null = .null := rfl
theorem zclr_d : zclr zdum = zdum := rfl
theorem zclr_l {x : Int64} : zclr (.long x) = zdum := rfl
def z_iload (i p : Nat) : ZF := fun ls st z => match ls[i]? with | some (.int a) => some (p, ls, .int a :: st, z) | _ => none
def z_lload (i p : Nat) : ZF := fun ls st z => match ls[i]? with | some (.long a) => some (p, ls, .long a :: st, z) | _ => none
def z_aload (i p : Nat) : ZF := fun ls st z => match ls[i]? with | some v => if zir v = true then some (p, ls, v :: st, z) else none | _ => none
def z_istore (i p : Nat) : ZF := fun ls st z => match st with | .int a :: st => if i < ls.length then some (p, zst1 ls i (.int a), st, z) else none | _ => none
def z_lstore (i p : Nat) : ZF := fun ls st z => match st with | .long a :: st => if i + 1 < ls.length then some (p, (zst1 ls i (.long a)).set (i + 1) zdum, st, z) else none | _ => none
def z_astore (i p : Nat) : ZF := fun ls st z => match st with | v :: st => if zir v = true ∧ i < ls.length then some (p, zst1 ls i v, st, z) else none | _ => none
def z_iinc (i : Nat) (c : Int32) (p : Nat) : ZF := fun ls st z => match ls[i]? with | some (.int a) => some (p, zst1 ls i (.int (a + c)), st, z) | _ => none
def znul (v : Value) : Bool := match v with | .null => true | _ => false
theorem znul_n : znul .null = true := rfl
def z_excinit (p : Nat) : ZF := fun ls st z => match st with | .int b :: .int a :: .null :: .null :: .ref r :: st => if zcs st = true ∧ zcls z r = 14 ∧ (a = 0 ∧ b = 0) ∧ (znul (zfr z r 0) = true ∧ znul (zfr z r 1) = true ∧ znul (zfr z r 2) = true ∧ znul (zfr z r 3) = true) then some (p, ls, st, z) else none | _ => none
theorem zw_excinit {a b : Int32} {r : Nat} (hG : G.1 k pc = some (.inl (z_excinit p))) : ZW G d k pc ls (.int b :: .int a :: .null :: .null :: .ref r :: st) z Q = ((zcs st = true ∧ zcls z r = 14 ∧ (a = 0 ∧ b = 0) ∧ (znul (zfr z r 0) = true ∧ znul (zfr z r 1) = true ∧ znul (zfr z r 2) = true ∧ znul (zfr z r 3) = true)) ∧ ZW G d k p ls st z Q) := zw_cond hG rfl

def z_getI (c f : Nat) (p : Nat) : ZF := fun ls st z => match st with | .ref r :: st => if zcls z r = c then some (p, ls, .int (zfi z r f) :: st, z) else none | _ => none
theorem zw_getI {c f : Nat} {r : Nat} (hG : G.1 k pc = some (.inl (z_getI c f p))) : ZW G d k pc ls (.ref r :: st) z Q = ((zcls z r = c) ∧ ZW G d k p ls (.int (zfi z r f) :: st) (z) Q) := zw_cond hG rfl
def z_getR (c f : Nat) (p : Nat) : ZF := fun ls st z => match st with | .ref r :: st => if zcls z r = c ∧ zir (zfr z r f) = true then some (p, ls, zfr z r f :: st, z) else none | _ => none
theorem zw_getR {c f : Nat} {r : Nat} (hG : G.1 k pc = some (.inl (z_getR c f p))) : ZW G d k pc ls (.ref r :: st) z Q = ((zcls z r = c ∧ zir (zfr z r f) = true) ∧ ZW G d k p ls (zfr z r f :: st) (z) Q) := zw_cond hG rfl
def z_putI (c f : Nat) (p : Nat) : ZF := fun ls st z => match st with | .int a :: .ref r :: st => if zcls z r = c then some (p, ls, st, sfi z r f a) else none | _ => none
theorem zw_putI {c f : Nat} {a : Int32} {r : Nat} (hG : G.1 k pc = some (.inl (z_putI c f p))) : ZW G d k pc ls (.int a :: .ref r :: st) z Q = ((zcls z r = c) ∧ ZW G d k p ls (st) (sfi z r f a) Q) := zw_cond hG rfl
def z_putZ (c f : Nat) (p : Nat) : ZF := fun ls st z => match st with | .int a :: .ref r :: st => if zcls z r = c ∧ (a = 0 ∨ a = 1) then some (p, ls, st, sfi z r f a) else none | _ => none
theorem zw_putZ {c f : Nat} {a : Int32} {r : Nat} (hG : G.1 k pc = some (.inl (z_putZ c f p))) : ZW G d k pc ls (.int a :: .ref r :: st) z Q = ((zcls z r = c ∧ (a = 0 ∨ a = 1)) ∧ ZW G d k p ls (st) (sfi z r f a) Q) := zw_cond hG rfl
def z_putR (c f : Nat) (p : Nat) : ZF := fun ls st z => match st with | v :: .ref r :: st => if zcls z r = c ∧ zir v = true then some (p, ls, st, sfr z r f v) else none | _ => none
theorem zw_putR {c f : Nat} {v : Value} {r : Nat} (hG : G.1 k pc = some (.inl (z_putR c f p))) : ZW G d k pc ls (v :: .ref r :: st) z Q = ((zcls z r = c ∧ zir v = true) ∧ ZW G d k p ls (st) (sfr z r f v) Q) := zw_cond hG rfl
/-- a place within an array of n; its number -/
def zin (i : Int32) (n : Nat) : Bool := !decide (i < 0) && decide (i.toNatClampNeg < n)
def zx (i : Int32) : Nat := i.toNatClampNeg
def z_iald (t : Nat) (p : Nat) : ZF := fun ls st z => match st with | .int a :: .ref r :: st => if zcls z r = t ∧ zin a (zlen z r) = true then some (p, ls, .int (zia z r (zx a)) :: st, z) else none | _ => none
theorem zw_iald {t : Nat} {a : Int32} {r : Nat} (hG : G.1 k pc = some (.inl (z_iald t p))) : ZW G d k pc ls (.int a :: .ref r :: st) z Q = ((zcls z r = t ∧ zin a (zlen z r) = true) ∧ ZW G d k p ls (.int (zia z r (zx a)) :: st) (z) Q) := zw_cond hG rfl
def z_lald  (p : Nat) : ZF := fun ls st z => match st with | .int a :: .ref r :: st => if zcls z r = 51 ∧ zin a (zlen z r) = true then some (p, ls, .long (zla z r (zx a)) :: st, z) else none | _ => none
theorem zw_lald  {a : Int32} {r : Nat} (hG : G.1 k pc = some (.inl (z_lald  p))) : ZW G d k pc ls (.int a :: .ref r :: st) z Q = ((zcls z r = 51 ∧ zin a (zlen z r) = true) ∧ ZW G d k p ls (.long (zla z r (zx a)) :: st) (z) Q) := zw_cond hG rfl
def z_aald (t : Nat) (p : Nat) : ZF := fun ls st z => match st with | .int a :: .ref r :: st => if zcls z r = t ∧ zin a (zlen z r) = true ∧ zir (zra z r (zx a)) = true then some (p, ls, zra z r (zx a) :: st, z) else none | _ => none
theorem zw_aald {t : Nat} {a : Int32} {r : Nat} (hG : G.1 k pc = some (.inl (z_aald t p))) : ZW G d k pc ls (.int a :: .ref r :: st) z Q = ((zcls z r = t ∧ zin a (zlen z r) = true ∧ zir (zra z r (zx a)) = true) ∧ ZW G d k p ls (zra z r (zx a) :: st) (z) Q) := zw_cond hG rfl
/-- what a store into an array of the kind t makes of an int -/
def znar (t : Nat) (a : Int32) : Int32 := if t = 52 then a.toInt8.toInt32 else if t = 53 then a.toInt16.toInt32 else if t = 54 then a &&& 1 else a
def z_iast (t : Nat) (p : Nat) : ZF := fun ls st z => match st with | .int b :: .int a :: .ref r :: st => if zcls z r = t ∧ zin a (zlen z r) = true then some (p, ls, st, sia z r (zx a) (znar t b)) else none | _ => none
theorem zw_iast {t : Nat} {b : Int32} {a : Int32} {r : Nat} (hG : G.1 k pc = some (.inl (z_iast t p))) : ZW G d k pc ls (.int b :: .int a :: .ref r :: st) z Q = ((zcls z r = t ∧ zin a (zlen z r) = true) ∧ ZW G d k p ls (st) (sia z r (zx a) (znar t b)) Q) := zw_cond hG rfl
def z_last  (p : Nat) : ZF := fun ls st z => match st with | .long x :: .int a :: .ref r :: st => if zcls z r = 51 ∧ zin a (zlen z r) = true then some (p, ls, st, sla z r (zx a) x) else none | _ => none
theorem zw_last  {x : Int64} {a : Int32} {r : Nat} (hG : G.1 k pc = some (.inl (z_last  p))) : ZW G d k pc ls (.long x :: .int a :: .ref r :: st) z Q = ((zcls z r = 51 ∧ zin a (zlen z r) = true) ∧ ZW G d k p ls (st) (sla z r (zx a) x) Q) := zw_cond hG rfl
/-- what may lie in an array of references of the kind t -/
def zael (z : ZH) (t : Nat) (v : Value) : Bool := match v with
  | .ref q => if t = 63 then decide (q < 35) else decide (100 ≤ q) && (if t = 60 then decide (zcls z q = 11) else if t = 61 then decide (zcls z q = 1) else decide (6 ≤ zcls z q) && decide (zcls z q ≤ 9))
  | _ => false
def z_aast (t : Nat) (p : Nat) : ZF := fun ls st z => match st with | v :: .int a :: .ref r :: st => if zcls z r = t ∧ zin a (zlen z r) = true ∧ zael z t v = true then some (p, ls, st, sra z r (zx a) v) else none | _ => none
theorem zw_aast {t : Nat} {v : Value} {a : Int32} {r : Nat} (hG : G.1 k pc = some (.inl (z_aast t p))) : ZW G d k pc ls (v :: .int a :: .ref r :: st) z Q = ((zcls z r = t ∧ zin a (zlen z r) = true ∧ zael z t v = true) ∧ ZW G d k p ls (st) (sra z r (zx a) v) Q) := zw_cond hG rfl
def z_alen (t : Nat) (p : Nat) : ZF := fun ls st z => match st with | .ref r :: st => if zcls z r = t then some (p, ls, .int (nI (zlen z r)) :: st, z) else none | _ => none
theorem zw_alen {t : Nat} {r : Nat} (hG : G.1 k pc = some (.inl (z_alen t p))) : ZW G d k pc ls (.ref r :: st) z Q = ((zcls z r = t) ∧ ZW G d k p ls (.int (nI (zlen z r)) :: st) (z) Q) := zw_cond hG rfl
def z_newa (t : Nat) (p : Nat) : ZF := fun ls st z => match st with | .int a :: st => if zin a 1000000 = true then some (p, ls, .ref (zn z) :: st, sarr z t (zx a)) else none | _ => none
theorem zw_newa {t : Nat} {a : Int32} (hG : G.1 k pc = some (.inl (z_newa t p))) : ZW G d k pc ls (.int a :: st) z Q = ((zin a 1000000 = true) ∧ ZW G d k p ls (.ref (zn z) :: st) (sarr z t (zx a)) Q) := zw_cond hG rfl
def z_new (c N p : Nat) : ZF := fun ls st z => some (p, ls, .ref (zn z) :: st, snew z c N)
theorem zw_new {c N : Nat} (hG : G.1 k pc = some (.inl (z_new c N p))) : ZW G d k pc ls st z Q = ZW G d k p ls (.ref (zn z) :: st) (snew z c N) Q := zw_next hG rfl
/-- an array of the kind t? -/
def z_inst (t p : Nat) : ZF := fun ls st z => match st with | .null :: st => some (p, ls, .int 0 :: st, z) | .ref r :: st => if 50 ≤ zcls z r ∧ zcls z r < 54 then some (p, ls, .int (if zcls z r = t then 1 else 0) :: st, z) else none | _ => none
theorem zw_inst0 {t : Nat} (hG : G.1 k pc = some (.inl (z_inst t p))) : ZW G d k pc ls (.null :: st) z Q = ZW G d k p ls (.int 0 :: st) z Q := zw_next hG rfl
theorem zw_inst1 {t r : Nat} (hG : G.1 k pc = some (.inl (z_inst t p))) : ZW G d k pc ls (.ref r :: st) z Q = ((50 ≤ zcls z r ∧ zcls z r < 54) ∧ ZW G d k p ls (.int (if zcls z r = t then 1 else 0) :: st) z Q) := zw_cond hG rfl
def z_cast (c : Nat) (p : Nat) : ZF := fun ls st z => match st with | .ref r :: st => if zcls z r = c then some (p, ls, .ref r :: st, z) else none | _ => none
theorem zw_cast {c : Nat} {r : Nat} (hG : G.1 k pc = some (.inl (z_cast c p))) : ZW G d k pc ls (.ref r :: st) z Q = ((zcls z r = c) ∧ ZW G d k p ls (.ref r :: st) (z) Q) := zw_cond hG rfl
def zmin (a b : Int32) : Int32 := if b < a then b else a
def zmax (a b : Int32) : Int32 := if a < b then b else a
def zabs (a : Int32) : Int32 := if 0 ≤ a then a else 0 - a
def z_mmin  (p : Nat) : ZF := fun ls st z => match st with | .int b :: .int a :: st => if zcs st = true then some (p, ls, .int (zmin a b) :: st, z) else none | _ => none
theorem zw_mmin  {b : Int32} {a : Int32} (hG : G.1 k pc = some (.inl (z_mmin  p))) : ZW G d k pc ls (.int b :: .int a :: st) z Q = ((zcs st = true) ∧ ZW G d k p ls (.int (zmin a b) :: st) (z) Q) := zw_cond hG rfl
def z_mmax  (p : Nat) : ZF := fun ls st z => match st with | .int b :: .int a :: st => if zcs st = true then some (p, ls, .int (zmax a b) :: st, z) else none | _ => none
theorem zw_mmax  {b : Int32} {a : Int32} (hG : G.1 k pc = some (.inl (z_mmax  p))) : ZW G d k pc ls (.int b :: .int a :: st) z Q = ((zcs st = true) ∧ ZW G d k p ls (.int (zmax a b) :: st) (z) Q) := zw_cond hG rfl
def z_mabs  (p : Nat) : ZF := fun ls st z => match st with | .int a :: st => if zcs st = true then some (p, ls, .int (zabs a) :: st, z) else none | _ => none
theorem zw_mabs  {a : Int32} (hG : G.1 k pc = some (.inl (z_mabs  p))) : ZW G d k pc ls (.int a :: st) z Q = ((zcs st = true) ∧ ZW G d k p ls (.int (zabs a) :: st) (z) Q) := zw_cond hG rfl
def z_lsize  (p : Nat) : ZF := fun ls st z => match st with | .ref r :: st => if zcs st = true ∧ zcls z r = 90 then some (p, ls, .int (nI (zls z r).length) :: st, z) else none | _ => none
theorem zw_lsize  {r : Nat} (hG : G.1 k pc = some (.inl (z_lsize  p))) : ZW G d k pc ls (.ref r :: st) z Q = ((zcs st = true ∧ zcls z r = 90) ∧ ZW G d k p ls (.int (nI (zls z r).length) :: st) (z) Q) := zw_cond hG rfl
def z_lget  (p : Nat) : ZF := fun ls st z => match st with | .int a :: .ref r :: st => if zcs st = true ∧ zcls z r = 90 ∧ zin a (zls z r).length = true then some (p, ls, (zls z r).getD (zx a) .null :: st, z) else none | _ => none
theorem zw_lget  {a : Int32} {r : Nat} (hG : G.1 k pc = some (.inl (z_lget  p))) : ZW G d k pc ls (.int a :: .ref r :: st) z Q = ((zcs st = true ∧ zcls z r = 90 ∧ zin a (zls z r).length = true) ∧ ZW G d k p ls ((zls z r).getD (zx a) .null :: st) (z) Q) := zw_cond hG rfl
/-- what may lie in a list -/
def zlel (z : ZH) (v : Value) : Bool := match v with
  | .ref q => decide (100 ≤ q) && (decide (zcls z q = 15) || (decide (20 ≤ zcls z q) && decide (zcls z q ≤ 23)))
  | _ => false
/-- the cell with a list's places -/
def zdat (z : ZH) (r : Nat) : Nat := match zfr z r 0 with | .ref q => q | _ => 0
def sladd (z : ZH) (r : Nat) (v : Value) : ZH := if (zls z r).length = zlen z (zdat z r) then sls (sgro z r (zlen z (zdat z r) + max 1 (zlen z (zdat z r) / 2))) r (zls z r ++ [v]) else sls z r (zls z r ++ [v])
def z_ladd1  (p : Nat) : ZF := fun ls st z => match st with | v :: .ref r :: st => if zcs st = true ∧ zcls z r = 90 ∧ (zlel z v = true ∧ (zls z r).all (zlel z) = true ∧ (zls z r).length < 100000) then some (p, ls, .int 1 :: st, sladd z r v) else none | _ => none
theorem zw_ladd1  {v : Value} {r : Nat} (hG : G.1 k pc = some (.inl (z_ladd1  p))) : ZW G d k pc ls (v :: .ref r :: st) z Q = ((zcs st = true ∧ zcls z r = 90 ∧ (zlel z v = true ∧ (zls z r).all (zlel z) = true ∧ (zls z r).length < 100000)) ∧ ZW G d k p ls (.int 1 :: st) (sladd z r v) Q) := zw_cond hG rfl
def z_lrem  (p : Nat) : ZF := fun ls st z => match st with | .int a :: .ref r :: st => if zcs st = true ∧ zcls z r = 90 ∧ zin a (zls z r).length = true ∧ (zls z r).all (zlel z) = true then some (p, ls, (zls z r).getD (zx a) .null :: st, sls z r ((zls z r).eraseIdx (zx a))) else none | _ => none
theorem zw_lrem  {a : Int32} {r : Nat} (hG : G.1 k pc = some (.inl (z_lrem  p))) : ZW G d k pc ls (.int a :: .ref r :: st) z Q = ((zcs st = true ∧ zcls z r = 90 ∧ zin a (zls z r).length = true ∧ (zls z r).all (zlel z) = true) ∧ ZW G d k p ls ((zls z r).getD (zx a) .null :: st) (sls z r ((zls z r).eraseIdx (zx a))) Q) := zw_cond hG rfl
def z_lclr  (p : Nat) : ZF := fun ls st z => match st with | .ref r :: st => if zcs st = true ∧ zcls z r = 90 then some (p, ls, st, sls z r []) else none | _ => none
theorem zw_lclr  {r : Nat} (hG : G.1 k pc = some (.inl (z_lclr  p))) : ZW G d k pc ls (.ref r :: st) z Q = ((zcs st = true ∧ zcls z r = 90) ∧ ZW G d k p ls (st) (sls z r []) Q) := zw_cond hG rfl
def z_linit  (p : Nat) : ZF := fun ls st z => match st with | .int a :: .ref r :: st => if zcs st = true ∧ zcls z r = 24 ∧ (zin a 1000 = true ∧ ¬ a = 0) ∧ zfi z r 2 = 0 then some (p, ls, st, slin z r (zx a)) else none | _ => none
theorem zw_linit  {a : Int32} {r : Nat} (hG : G.1 k pc = some (.inl (z_linit  p))) : ZW G d k pc ls (.int a :: .ref r :: st) z Q = ((zcs st = true ∧ zcls z r = 24 ∧ (zin a 1000 = true ∧ ¬ a = 0) ∧ zfi z r 2 = 0) ∧ ZW G d k p ls (st) (slin z r (zx a)) Q) := zw_cond hG rfl
/-- the texts: 0 and, 1 at, 2 bride, 3 call, 4 came, 5 card, 6 day, 7 debts, 8 dinner, 9 fri, 10 home, 11 house, 12 if, 13 introduce, 14 know, 15 known, 16 less, 17 mine, 18 minus, 19 mon, 20 more, 21 new, 22 owes, 23 plus, 24 rank, 25 same, 26 sat, 27 sent, 28 sun, 29 theirs, 30 thu, 31 times, 32 tue, 33 wed, 34 within -/
def ztxs : List (List Nat) := [[97, 110, 100], [97, 116], [98, 114, 105, 100, 101], [99, 97, 108, 108], [99, 97, 109, 101], [99, 97, 114, 100], [100, 97, 121], [100, 101, 98, 116, 115], [100, 105, 110, 110, 101, 114], [102, 114, 105], [104, 111, 109, 101], [104, 111, 117, 115, 101], [105, 102], [105, 110, 116, 114, 111, 100, 117, 99, 101], [107, 110, 111, 119], [107, 110, 111, 119, 110], [108, 101, 115, 115], [109, 105, 110, 101], [109, 105, 110, 117, 115], [109, 111, 110], [109, 111, 114, 101], [110, 101, 119], [111, 119, 101, 115], [112, 108, 117, 115], [114, 97, 110, 107], [115, 97, 109, 101], [115, 97, 116], [115, 101, 110, 116], [115, 117, 110], [116, 104, 101, 105, 114, 115], [116, 104, 117], [116, 105, 109, 101, 115], [116, 117, 101], [119, 101, 100], [119, 105, 116, 104, 105, 110]]
def ztx (r : Nat) : List Nat := ztxs.getD r []
def z_slen  (p : Nat) : ZF := fun ls st z => match st with | .ref r :: st => if zcs st = true ∧ r < 35 then some (p, ls, .int (nI (ztx r).length) :: st, z) else none | _ => none
theorem zw_slen  {r : Nat} (hG : G.1 k pc = some (.inl (z_slen  p))) : ZW G d k pc ls (.ref r :: st) z Q = ((zcs st = true ∧ r < 35) ∧ ZW G d k p ls (.int (nI (ztx r).length) :: st) (z) Q) := zw_cond hG rfl
def z_schar  (p : Nat) : ZF := fun ls st z => match st with | .int a :: .ref r :: st => if zcs st = true ∧ r < 35 ∧ zin a (ztx r).length = true then some (p, ls, .int (nI ((ztx r).getD (zx a) 0)) :: st, z) else none | _ => none
theorem zw_schar  {a : Int32} {r : Nat} (hG : G.1 k pc = some (.inl (z_schar  p))) : ZW G d k pc ls (.int a :: .ref r :: st) z Q = ((zcs st = true ∧ r < 35 ∧ zin a (ztx r).length = true) ∧ ZW G d k p ls (.int (nI ((ztx r).getD (zx a) 0)) :: st) (z) Q) := zw_cond hG rfl
def z_acpy  (p : Nat) : ZF := fun ls st z => match st with | .int n1 :: .int b :: .ref s :: .int a :: .ref r :: st => if (zcs st = true ∧ zcls z r = 50 ∧ zcls z s = 50 ∧ ¬ r = s) ∧ (zin a (zlen z r + 1) = true ∧ zin b (zlen z s + 1) = true ∧ zin n1 1000000 = true) ∧ zx a + zx n1 ≤ zlen z r ∧ zx b + zx n1 ≤ zlen z s then some (p, ls, st, sIA z s (va_cpy (zia z r) (zia z s) (zx a) (zx b) (zx n1))) else none | _ => none
theorem zw_acpy  {n1 : Int32} {b : Int32} {s : Nat} {a : Int32} {r : Nat} (hG : G.1 k pc = some (.inl (z_acpy  p))) : ZW G d k pc ls (.int n1 :: .int b :: .ref s :: .int a :: .ref r :: st) z Q = (((zcs st = true ∧ zcls z r = 50 ∧ zcls z s = 50 ∧ ¬ r = s) ∧ (zin a (zlen z r + 1) = true ∧ zin b (zlen z s + 1) = true ∧ zin n1 1000000 = true) ∧ zx a + zx n1 ≤ zlen z r ∧ zx b + zx n1 ≤ zlen z s) ∧ ZW G d k p ls (st) (sIA z s (va_cpy (zia z r) (zia z s) (zx a) (zx b) (zx n1))) Q) := zw_cond hG rfl
/-- the kind of a row by its width -/
def zwk (a : Int32) : Nat := if a = 0 then 52 else if a = 1 then 53 else if a = 2 then 50 else 51
def z_begins (p : Nat) : ZF := fun ls st z => match st with | .int b :: .int a :: .ref r :: st => if zcs st = true ∧ zcls z r = 11 ∧ b ≤ 1000 then (if b < 0 then some (p, ls, .int 0 :: st, spay z 20 400) else some (p, ls, .int 1 :: st, sfr (sarr z (zwk a) (zx b)) r 0 (.ref (zn z)))) else none | _ => none
theorem zw_begins {r : Nat} {a b : Int32} (hG : G.1 k pc = some (.inl (z_begins p))) (hs : zcs st = true) (hb : b ≤ 1000) (hc : zcls z r = 11) : ZW G d k pc ls (.int b :: .int a :: .ref r :: st) z Q = if b < 0 then ZW G d k p ls (.int 0 :: st) (spay z 20 400) Q else ZW G d k p ls (.int 1 :: st) (sfr (sarr z (zwk a) (zx b)) r 0 (.ref (zn z))) Q := zw_ite hG (if_pos ⟨hs, hc, hb⟩)
/-- a number written into a row -/
def sput (z : ZH) (q : Nat) (i : Nat) (x : Int64) : ZH := if zcls z q = 51 then sla z q i x else sia z q i (znar (zcls z q) x.toInt32)
def zputs (z : ZH) (r : Nat) (a : Int32) (x : Int64) : Int32 × ZH := match zfr z r 0 with
  | .ref q => if zin a (zlen z q) = true then (0, sput (spay z 40 800) q (zx a) x) else (-7, spay z 40 800)
  | _ => (-6, spay z 40 800)
/-- a slot holds nothing, or a row -/
def zheld (z : ZH) (r : Nat) : Prop := zcls z r = 11 ∧ (zfr z r 0 = .null ∨ ∃ q, zfr z r 0 = .ref q ∧ 100 ≤ q ∧ 50 ≤ zcls z q ∧ zcls z q < 54)
def zheldB (z : ZH) (r : Nat) : Bool := decide (zcls z r = 11) && (match zfr z r 0 with | .null => true | .ref q => decide (100 ≤ q) && (decide (50 ≤ zcls z q) && (decide (zcls z q < 54) && decide (zlen z q ≤ 1000))) | _ => false)
def z_puts  (p : Nat) : ZF := fun ls st z => match st with | .long x :: .int a :: .ref r :: st => if zcs st = true ∧ zheldB z r = true then some (p, ls, .int (zputs z r a x).1 :: st, (zputs z r a x).2) else none | _ => none
theorem zw_puts  {x : Int64} {a : Int32} {r : Nat} (hG : G.1 k pc = some (.inl (z_puts  p))) : ZW G d k pc ls (.long x :: .int a :: .ref r :: st) z Q = ((zcs st = true ∧ zheldB z r = true) ∧ ZW G d k p ls (.int (zputs z r a x).1 :: st) ((zputs z r a x).2) Q) := zw_cond hG rfl
/-- a row of small numbers holds small numbers -/
def zfitA (z : ZH) (q : Nat) : Bool := (List.range (zlen z q)).all fun j => decide (znar (zcls z q) (zia z q j) = zia z q j)
def zfitB (z : ZH) (r : Nat) : Bool := match zfr z r 0 with | .ref q => zfitA z q | _ => true
/-- numbers copied from row to row -/
def scpy (z : ZH) (u w : Nat) (i j n : Nat) : ZH := if zcls z w = 51 then sLA z w (va_cpy (zla z u) (zla z w) i j n) else sIA z w (va_cpy (zia z u) (zia z w) i j n)
def zpastes (z : ZH) (r : Nat) (a : Int32) (s : Nat) (b n1 : Int32) : Int32 × ZH := match zfr z r 0, zfr z s 0 with
  | .ref u, .ref w => if zcls z u = zcls z w then (if (¬ a < 0 ∧ ¬ b < 0 ∧ ¬ n1 < 0) ∧ zx a + zx n1 ≤ zlen z u ∧ zx b + zx n1 ≤ zlen z w then (0, scpy z u w (zx a) (zx b) (zx n1)) else (-7, spay z 40 800)) else (-8, z)
  | _, _ => (-6, z)
def z_pastes  (p : Nat) : ZF := fun ls st z => match st with | .int n1 :: .int b :: .ref s :: .int a :: .ref r :: st => if zcs st = true ∧ zheldB z r = true ∧ zheldB z s = true ∧ zfitB z r = true then some (p, ls, .int (zpastes z r a s b n1).1 :: st, (zpastes z r a s b n1).2) else none | _ => none
theorem zw_pastes  {n1 : Int32} {b : Int32} {s : Nat} {a : Int32} {r : Nat} (hG : G.1 k pc = some (.inl (z_pastes  p))) : ZW G d k pc ls (.int n1 :: .int b :: .ref s :: .int a :: .ref r :: st) z Q = ((zcs st = true ∧ zheldB z r = true ∧ zheldB z s = true ∧ zfitB z r = true) ∧ ZW G d k p ls (.int (zpastes z r a s b n1).1 :: st) ((zpastes z r a s b n1).2) Q) := zw_cond hG rfl
def sS0 (k : Nat) : ZS := fun _ st => match st with | st => some (k, [], st)
theorem zc_S0 {k1 : Nat}  (hG : G.1 k pc = some (.inr (.inl (p, sS0 k1)))) (hfit : (zent []).length ≤ G.2.1 k1) : ZW G (d + 1) k pc ls (st) z Q = (zcs st = true ∧ ZC G d k1 [] z (zk G (d + 1) k (G.2.2 k pc) p ls st Q)) := zw_call hG rfl hfit
def sS1 (k : Nat) : ZS := fun _ st => match st with | v0 :: st => some (k, [v0], st) | _ => none
theorem zc_S1 {k1 : Nat} {v0 : Value} (hG : G.1 k pc = some (.inr (.inl (p, sS1 k1)))) (hfit : (zent [v0]).length ≤ G.2.1 k1) : ZW G (d + 1) k pc ls (v0 :: st) z Q = (zcs st = true ∧ ZC G d k1 [v0] z (zk G (d + 1) k (G.2.2 k pc) p ls st Q)) := zw_call hG rfl hfit
def sS2 (k : Nat) : ZS := fun _ st => match st with | v1 :: v0 :: st => some (k, [v0, v1], st) | _ => none
theorem zc_S2 {k1 : Nat} {v0 v1 : Value} (hG : G.1 k pc = some (.inr (.inl (p, sS2 k1)))) (hfit : (zent [v0, v1]).length ≤ G.2.1 k1) : ZW G (d + 1) k pc ls (v1 :: v0 :: st) z Q = (zcs st = true ∧ ZC G d k1 [v0, v1] z (zk G (d + 1) k (G.2.2 k pc) p ls st Q)) := zw_call hG rfl hfit
def sS3 (k : Nat) : ZS := fun _ st => match st with | v2 :: v1 :: v0 :: st => some (k, [v0, v1, v2], st) | _ => none
theorem zc_S3 {k1 : Nat} {v0 v1 v2 : Value} (hG : G.1 k pc = some (.inr (.inl (p, sS3 k1)))) (hfit : (zent [v0, v1, v2]).length ≤ G.2.1 k1) : ZW G (d + 1) k pc ls (v2 :: v1 :: v0 :: st) z Q = (zcs st = true ∧ ZC G d k1 [v0, v1, v2] z (zk G (d + 1) k (G.2.2 k pc) p ls st Q)) := zw_call hG rfl hfit
def sS4 (k : Nat) : ZS := fun _ st => match st with | v3 :: v2 :: v1 :: v0 :: st => some (k, [v0, v1, v2, v3], st) | _ => none
theorem zc_S4 {k1 : Nat} {v0 v1 v2 v3 : Value} (hG : G.1 k pc = some (.inr (.inl (p, sS4 k1)))) (hfit : (zent [v0, v1, v2, v3]).length ≤ G.2.1 k1) : ZW G (d + 1) k pc ls (v3 :: v2 :: v1 :: v0 :: st) z Q = (zcs st = true ∧ ZC G d k1 [v0, v1, v2, v3] z (zk G (d + 1) k (G.2.2 k pc) p ls st Q)) := zw_call hG rfl hfit
def sS5 (k : Nat) : ZS := fun _ st => match st with | v4 :: v3 :: v2 :: v1 :: v0 :: st => some (k, [v0, v1, v2, v3, v4], st) | _ => none
theorem zc_S5 {k1 : Nat} {v0 v1 v2 v3 v4 : Value} (hG : G.1 k pc = some (.inr (.inl (p, sS5 k1)))) (hfit : (zent [v0, v1, v2, v3, v4]).length ≤ G.2.1 k1) : ZW G (d + 1) k pc ls (v4 :: v3 :: v2 :: v1 :: v0 :: st) z Q = (zcs st = true ∧ ZC G d k1 [v0, v1, v2, v3, v4] z (zk G (d + 1) k (G.2.2 k pc) p ls st Q)) := zw_call hG rfl hfit
def sS6 (k : Nat) : ZS := fun _ st => match st with | v5 :: v4 :: v3 :: v2 :: v1 :: v0 :: st => some (k, [v0, v1, v2, v3, v4, v5], st) | _ => none
theorem zc_S6 {k1 : Nat} {v0 v1 v2 v3 v4 v5 : Value} (hG : G.1 k pc = some (.inr (.inl (p, sS6 k1)))) (hfit : (zent [v0, v1, v2, v3, v4, v5]).length ≤ G.2.1 k1) : ZW G (d + 1) k pc ls (v5 :: v4 :: v3 :: v2 :: v1 :: v0 :: st) z Q = (zcs st = true ∧ ZC G d k1 [v0, v1, v2, v3, v4, v5] z (zk G (d + 1) k (G.2.2 k pc) p ls st Q)) := zw_call hG rfl hfit
def sS7 (k : Nat) : ZS := fun _ st => match st with | v6 :: v5 :: v4 :: v3 :: v2 :: v1 :: v0 :: st => some (k, [v0, v1, v2, v3, v4, v5, v6], st) | _ => none
theorem zc_S7 {k1 : Nat} {v0 v1 v2 v3 v4 v5 v6 : Value} (hG : G.1 k pc = some (.inr (.inl (p, sS7 k1)))) (hfit : (zent [v0, v1, v2, v3, v4, v5, v6]).length ≤ G.2.1 k1) : ZW G (d + 1) k pc ls (v6 :: v5 :: v4 :: v3 :: v2 :: v1 :: v0 :: st) z Q = (zcs st = true ∧ ZC G d k1 [v0, v1, v2, v3, v4, v5, v6] z (zk G (d + 1) k (G.2.2 k pc) p ls st Q)) := zw_call hG rfl hfit
def sV0 (c k : Nat) : ZS := fun z st => match st with | .ref r :: st => if zcls z r = c then some (k, [.ref r], st) else none | _ => none
theorem zc_V0 {c k1 r : Nat}  (hG : G.1 k pc = some (.inr (.inl (p, sV0 c k1)))) (hfit : (zent [.ref r]).length ≤ G.2.1 k1) : ZW G (d + 1) k pc ls (.ref r :: st) z Q = (zcls z r = c ∧ zcs st = true ∧ ZC G d k1 [.ref r] z (zk G (d + 1) k (G.2.2 k pc) p ls st Q)) := zw_callc hG rfl hfit
def sV1 (c k : Nat) : ZS := fun z st => match st with | v0 :: .ref r :: st => if zcls z r = c then some (k, [.ref r, v0], st) else none | _ => none
theorem zc_V1 {c k1 r : Nat} {v0 : Value} (hG : G.1 k pc = some (.inr (.inl (p, sV1 c k1)))) (hfit : (zent [.ref r, v0]).length ≤ G.2.1 k1) : ZW G (d + 1) k pc ls (v0 :: .ref r :: st) z Q = (zcls z r = c ∧ zcs st = true ∧ ZC G d k1 [.ref r, v0] z (zk G (d + 1) k (G.2.2 k pc) p ls st Q)) := zw_callc hG rfl hfit
def sV2 (c k : Nat) : ZS := fun z st => match st with | v1 :: v0 :: .ref r :: st => if zcls z r = c then some (k, [.ref r, v0, v1], st) else none | _ => none
theorem zc_V2 {c k1 r : Nat} {v0 v1 : Value} (hG : G.1 k pc = some (.inr (.inl (p, sV2 c k1)))) (hfit : (zent [.ref r, v0, v1]).length ≤ G.2.1 k1) : ZW G (d + 1) k pc ls (v1 :: v0 :: .ref r :: st) z Q = (zcls z r = c ∧ zcs st = true ∧ ZC G d k1 [.ref r, v0, v1] z (zk G (d + 1) k (G.2.2 k pc) p ls st Q)) := zw_callc hG rfl hfit
def sV3 (c k : Nat) : ZS := fun z st => match st with | v2 :: v1 :: v0 :: .ref r :: st => if zcls z r = c then some (k, [.ref r, v0, v1, v2], st) else none | _ => none
theorem zc_V3 {c k1 r : Nat} {v0 v1 v2 : Value} (hG : G.1 k pc = some (.inr (.inl (p, sV3 c k1)))) (hfit : (zent [.ref r, v0, v1, v2]).length ≤ G.2.1 k1) : ZW G (d + 1) k pc ls (v2 :: v1 :: v0 :: .ref r :: st) z Q = (zcls z r = c ∧ zcs st = true ∧ ZC G d k1 [.ref r, v0, v1, v2] z (zk G (d + 1) k (G.2.2 k pc) p ls st Q)) := zw_callc hG rfl hfit
def sV4 (c k : Nat) : ZS := fun z st => match st with | v3 :: v2 :: v1 :: v0 :: .ref r :: st => if zcls z r = c then some (k, [.ref r, v0, v1, v2, v3], st) else none | _ => none
theorem zc_V4 {c k1 r : Nat} {v0 v1 v2 v3 : Value} (hG : G.1 k pc = some (.inr (.inl (p, sV4 c k1)))) (hfit : (zent [.ref r, v0, v1, v2, v3]).length ≤ G.2.1 k1) : ZW G (d + 1) k pc ls (v3 :: v2 :: v1 :: v0 :: .ref r :: st) z Q = (zcls z r = c ∧ zcs st = true ∧ ZC G d k1 [.ref r, v0, v1, v2, v3] z (zk G (d + 1) k (G.2.2 k pc) p ls st Q)) := zw_callc hG rfl hfit
def sV5 (c k : Nat) : ZS := fun z st => match st with | v4 :: v3 :: v2 :: v1 :: v0 :: .ref r :: st => if zcls z r = c then some (k, [.ref r, v0, v1, v2, v3, v4], st) else none | _ => none
theorem zc_V5 {c k1 r : Nat} {v0 v1 v2 v3 v4 : Value} (hG : G.1 k pc = some (.inr (.inl (p, sV5 c k1)))) (hfit : (zent [.ref r, v0, v1, v2, v3, v4]).length ≤ G.2.1 k1) : ZW G (d + 1) k pc ls (v4 :: v3 :: v2 :: v1 :: v0 :: .ref r :: st) z Q = (zcls z r = c ∧ zcs st = true ∧ ZC G d k1 [.ref r, v0, v1, v2, v3, v4] z (zk G (d + 1) k (G.2.2 k pc) p ls st Q)) := zw_callc hG rfl hfit
def sI0 (k : Nat) : ZS := fun _ st => match st with | .ref r :: st => some (k, [.ref r], st) | _ => none
theorem zc_I0 {k1 r : Nat}  (hG : G.1 k pc = some (.inr (.inl (p, sI0 k1)))) (hfit : (zent [.ref r]).length ≤ G.2.1 k1) : ZW G (d + 1) k pc ls (.ref r :: st) z Q = (zcs st = true ∧ ZC G d k1 [.ref r] z (zk G (d + 1) k (G.2.2 k pc) p ls st Q)) := zw_call hG rfl hfit
def sI1 (k : Nat) : ZS := fun _ st => match st with | v0 :: .ref r :: st => some (k, [.ref r, v0], st) | _ => none
theorem zc_I1 {k1 r : Nat} {v0 : Value} (hG : G.1 k pc = some (.inr (.inl (p, sI1 k1)))) (hfit : (zent [.ref r, v0]).length ≤ G.2.1 k1) : ZW G (d + 1) k pc ls (v0 :: .ref r :: st) z Q = (zcs st = true ∧ ZC G d k1 [.ref r, v0] z (zk G (d + 1) k (G.2.2 k pc) p ls st Q)) := zw_call hG rfl hfit
def sI2 (k : Nat) : ZS := fun _ st => match st with | v1 :: v0 :: .ref r :: st => some (k, [.ref r, v0, v1], st) | _ => none
theorem zc_I2 {k1 r : Nat} {v0 v1 : Value} (hG : G.1 k pc = some (.inr (.inl (p, sI2 k1)))) (hfit : (zent [.ref r, v0, v1]).length ≤ G.2.1 k1) : ZW G (d + 1) k pc ls (v1 :: v0 :: .ref r :: st) z Q = (zcs st = true ∧ ZC G d k1 [.ref r, v0, v1] z (zk G (d + 1) k (G.2.2 k pc) p ls st Q)) := zw_call hG rfl hfit
def sI3 (k : Nat) : ZS := fun _ st => match st with | v2 :: v1 :: v0 :: .ref r :: st => some (k, [.ref r, v0, v1, v2], st) | _ => none
theorem zc_I3 {k1 r : Nat} {v0 v1 v2 : Value} (hG : G.1 k pc = some (.inr (.inl (p, sI3 k1)))) (hfit : (zent [.ref r, v0, v1, v2]).length ≤ G.2.1 k1) : ZW G (d + 1) k pc ls (v2 :: v1 :: v0 :: .ref r :: st) z Q = (zcs st = true ∧ ZC G d k1 [.ref r, v0, v1, v2] z (zk G (d + 1) k (G.2.2 k pc) p ls st Q)) := zw_call hG rfl hfit
def sI4 (k : Nat) : ZS := fun _ st => match st with | v3 :: v2 :: v1 :: v0 :: .ref r :: st => some (k, [.ref r, v0, v1, v2, v3], st) | _ => none
theorem zc_I4 {k1 r : Nat} {v0 v1 v2 v3 : Value} (hG : G.1 k pc = some (.inr (.inl (p, sI4 k1)))) (hfit : (zent [.ref r, v0, v1, v2, v3]).length ≤ G.2.1 k1) : ZW G (d + 1) k pc ls (v3 :: v2 :: v1 :: v0 :: .ref r :: st) z Q = (zcs st = true ∧ ZC G d k1 [.ref r, v0, v1, v2, v3] z (zk G (d + 1) k (G.2.2 k pc) p ls st Q)) := zw_call hG rfl hfit
def sI5 (k : Nat) : ZS := fun _ st => match st with | v4 :: v3 :: v2 :: v1 :: v0 :: .ref r :: st => some (k, [.ref r, v0, v1, v2, v3, v4], st) | _ => none
theorem zc_I5 {k1 r : Nat} {v0 v1 v2 v3 v4 : Value} (hG : G.1 k pc = some (.inr (.inl (p, sI5 k1)))) (hfit : (zent [.ref r, v0, v1, v2, v3, v4]).length ≤ G.2.1 k1) : ZW G (d + 1) k pc ls (v4 :: v3 :: v2 :: v1 :: v0 :: .ref r :: st) z Q = (zcs st = true ∧ ZC G d k1 [.ref r, v0, v1, v2, v3, v4] z (zk G (d + 1) k (G.2.2 k pc) p ls st Q)) := zw_call hG rfl hfit
/-- chosen by the receiver's class -/
def sU0 (t : List (Nat × Nat)) : ZS := fun z st => match st with | .ref r :: st => (t.lookup (zcls z r)).map (fun k => (k, [.ref r], st)) | _ => none
theorem zc_U0 {t : List (Nat × Nat)} {k1 r : Nat}  (hG : G.1 k pc = some (.inr (.inl (p, sU0 t)))) (hk : t.lookup (zcls z r) = some k1) (hfit : (zent [.ref r]).length ≤ G.2.1 k1) : ZW G (d + 1) k pc ls (.ref r :: st) z Q = (zcs st = true ∧ ZC G d k1 [.ref r] z (zk G (d + 1) k (G.2.2 k pc) p ls st Q)) := zw_call hG (by show Option.map _ (t.lookup (zcls z r)) = _; rw [hk]; rfl) hfit
/-- chosen by the receiver's class -/
def sU1 (t : List (Nat × Nat)) : ZS := fun z st => match st with | v0 :: .ref r :: st => (t.lookup (zcls z r)).map (fun k => (k, [.ref r, v0], st)) | _ => none
theorem zc_U1 {t : List (Nat × Nat)} {k1 r : Nat} {v0 : Value} (hG : G.1 k pc = some (.inr (.inl (p, sU1 t)))) (hk : t.lookup (zcls z r) = some k1) (hfit : (zent [.ref r, v0]).length ≤ G.2.1 k1) : ZW G (d + 1) k pc ls (v0 :: .ref r :: st) z Q = (zcs st = true ∧ ZC G d k1 [.ref r, v0] z (zk G (d + 1) k (G.2.2 k pc) p ls st Q)) := zw_call hG (by show Option.map _ (t.lookup (zcls z r)) = _; rw [hk]; rfl) hfit
/-- chosen by the receiver's class -/
def sU2 (t : List (Nat × Nat)) : ZS := fun z st => match st with | v1 :: v0 :: .ref r :: st => (t.lookup (zcls z r)).map (fun k => (k, [.ref r, v0, v1], st)) | _ => none
theorem zc_U2 {t : List (Nat × Nat)} {k1 r : Nat} {v0 v1 : Value} (hG : G.1 k pc = some (.inr (.inl (p, sU2 t)))) (hk : t.lookup (zcls z r) = some k1) (hfit : (zent [.ref r, v0, v1]).length ≤ G.2.1 k1) : ZW G (d + 1) k pc ls (v1 :: v0 :: .ref r :: st) z Q = (zcs st = true ∧ ZC G d k1 [.ref r, v0, v1] z (zk G (d + 1) k (G.2.2 k pc) p ls st Q)) := zw_call hG (by show Option.map _ (t.lookup (zcls z r)) = _; rw [hk]; rfl) hfit
/-- chosen by the receiver's class -/
def sU3 (t : List (Nat × Nat)) : ZS := fun z st => match st with | v2 :: v1 :: v0 :: .ref r :: st => (t.lookup (zcls z r)).map (fun k => (k, [.ref r, v0, v1, v2], st)) | _ => none
theorem zc_U3 {t : List (Nat × Nat)} {k1 r : Nat} {v0 v1 v2 : Value} (hG : G.1 k pc = some (.inr (.inl (p, sU3 t)))) (hk : t.lookup (zcls z r) = some k1) (hfit : (zent [.ref r, v0, v1, v2]).length ≤ G.2.1 k1) : ZW G (d + 1) k pc ls (v2 :: v1 :: v0 :: .ref r :: st) z Q = (zcs st = true ∧ ZC G d k1 [.ref r, v0, v1, v2] z (zk G (d + 1) k (G.2.2 k pc) p ls st Q)) := zw_call hG (by show Option.map _ (t.lookup (zcls z r)) = _; rw [hk]; rfl) hfit
end ZOPS
