/-! ===== THE ABSTRACT MACHINE: values, heap, one step, runs (ints as Int; the heap: kinds, ints, longs, references) ===== -/
set_option maxRecDepth 100000
/-- the heap: ((cells known, cells made, slots made), kinds, ints, longs, references) -/
abbrev zHp : Type := (Nat × Nat × Nat) × (Nat → Nat × Nat) × (Nat → Int → Int) × (Nat → Int → Int) × (Nat → Int → Option Nat)
def gN (h : zHp) : Nat := h.1.1
def gC (h : zHp) : Nat := h.1.2.1
def gS (h : zHp) : Nat := h.1.2.2
def gK (h : zHp) : Nat → Nat × Nat := h.2.1
def gI (h : zHp) : Nat → Int → Int := h.2.2.1
def gJ (h : zHp) : Nat → Int → Int := h.2.2.2.1
def gR (h : zHp) : Nat → Int → Option Nat := h.2.2.2.2
def sIA (h : zHp) (a : Nat) (f : Int → Int) : zHp := (h.1, h.2.1, fun b => if b = a then f else h.2.2.1 b, h.2.2.2.1, h.2.2.2.2)
def sJA (h : zHp) (a : Nat) (f : Int → Int) : zHp := (h.1, h.2.1, h.2.2.1, fun b => if b = a then f else h.2.2.2.1 b, h.2.2.2.2)
def sRA (h : zHp) (a : Nat) (f : Int → Option Nat) : zHp := (h.1, h.2.1, h.2.2.1, h.2.2.2.1, fun b => if b = a then f else h.2.2.2.2 b)
def zU {α : Type} (f : Int → α) (j : Int) (v : α) : Int → α := fun k => if k = j then v else f k
def sI (h : zHp) (a : Nat) (j v : Int) : zHp := sIA h a (zU (gI h a) j v)
def sJ (h : zHp) (a : Nat) (j v : Int) : zHp := sJA h a (zU (gJ h a) j v)
def sR (h : zHp) (a : Nat) (j : Int) (v : Option Nat) : zHp := sRA h a (zU (gR h a) j v)
/-- a new cell of the kind k with z slots -/
def gNew (h : zHp) (k : Nat × Nat) (z : Nat) : zHp := ((h.1.1 + 1, h.1.2.1 + 1, h.1.2.2 + z), (fun b => if b = h.1.1 then k else h.2.1 b), (fun b => if b = h.1.1 then (fun _ => 0) else h.2.2.1 b), (fun b => if b = h.1.1 then (fun _ => 0) else h.2.2.2.1 b), (fun b => if b = h.1.1 then (fun _ => none) else h.2.2.2.2 b))
/-- cells that the machine made beside -/
def gTick (h : zHp) (c z : Nat) : zHp := ((h.1.1, h.1.2.1 + c, h.1.2.2 + z), h.2)
/-- the first cell that may be written -/
abbrev zkc : Nat := 65
/-- an exception's number where the machine throws it -/
abbrev zNASE : Nat := 30
abbrev zAIOO : Nat := 31
abbrev mName (M : zMi) : MethodName := M.1
abbrev mCode (M : zMi) : ByteArray := M.2.1
abbrev mLoc (M : zMi) : Nat := M.2.2.1
abbrev mRet (M : zMi) : Option FieldType := M.2.2.2.1
abbrev mCls (M : zMi) : Nat := M.2.2.2.2.1
abbrev mHnd (M : zMi) : List (Nat × Nat × Nat × Nat) := M.2.2.2.2.2.1
abbrev mRk (M : zMi) : Nat := M.2.2.2.2.2.2.1
abbrev mIni (M : zMi) : Bool := M.2.2.2.2.2.2.2
abbrev zRank (M : zMi) (d : Nat) : Nat := mRk M + 64 * d
abbrev zRs : Type := (Option zAv ⊕ (Nat × Option Nat)) × zHp
abbrev zRv (v : zAv) (h : zHp) : zRs := (Sum.inl (some v), h)
abbrev zRn (h : zHp) : zRs := (Sum.inl none, h)
abbrev zRt (E : Nat) (a : Option Nat) (h : zHp) : zRs := (Sum.inr (E, a), h)
/-! numbers -/
def wI (x : Int) : Int := (x + 2147483648) % 4294967296 - 2147483648
def wL (x : Int) : Int := (x + 9223372036854775808) % 18446744073709551616 - 9223372036854775808
def inI (x : Int) : Prop := -2147483648 ≤ x ∧ x ≤ 2147483647
def inL (x : Int) : Prop := -9223372036854775808 ≤ x ∧ x ≤ 9223372036854775807
def zDiv (x y : Int) : Int := (Int32.ofInt x / Int32.ofInt y).toInt
def zRem (x y : Int) : Int := (Int32.ofInt x - Int32.ofInt x / Int32.ofInt y * Int32.ofInt y).toInt
def zAnd (x y : Int) : Int := (Int32.ofInt x &&& Int32.ofInt y).toInt
def zOr (x y : Int) : Int := (Int32.ofInt x ||| Int32.ofInt y).toInt
def zXor (x y : Int) : Int := (Int32.ofInt x ^^^ Int32.ofInt y).toInt
def zShl (x y : Int) : Int := (Int32.ofInt x <<< (Int32.ofInt y &&& 31)).toInt
def zShr (x y : Int) : Int := (Int32.ofInt x >>> (Int32.ofInt y &&& 31)).toInt
def zUsh (x y : Int) : Int := ((Int32.ofInt x).toUInt32 >>> ((Int32.ofInt y).toUInt32 &&& Int32.toUInt32 31)).toInt32.toInt
def zDivL (x y : Int) : Int := (Int64.ofInt x / Int64.ofInt y).toInt
def zRemL (x y : Int) : Int := (Int64.ofInt x - Int64.ofInt x / Int64.ofInt y * Int64.ofInt y).toInt
def zAndL (x y : Int) : Int := (Int64.ofInt x &&& Int64.ofInt y).toInt
def zOrL (x y : Int) : Int := (Int64.ofInt x ||| Int64.ofInt y).toInt
def zXorL (x y : Int) : Int := (Int64.ofInt x ^^^ Int64.ofInt y).toInt
def zShlL (x y : Int) : Int := (Int64.ofInt x <<< ((Int32.ofInt y).toInt64 &&& 63)).toInt
def zShrL (x y : Int) : Int := (Int64.ofInt x >>> ((Int32.ofInt y).toInt64 &&& 63)).toInt
def zUshL (x y : Int) : Int := ((Int64.ofInt x).toUInt64 >>> ((Int32.ofInt y).toInt64.toUInt64 &&& Int64.toUInt64 63)).toInt64.toInt
def zB (x : Int) : Int := (Int32.ofInt x).toInt8.toInt32.toInt
def zSh (x : Int) : Int := (Int32.ofInt x).toInt16.toInt32.toInt
def zCh (x : Int) : Int := ((Int32.ofInt x).toUInt32 % 65536).toInt32.toInt
def zL2I (x : Int) : Int := (Int64.ofInt x).toInt32.toInt
def zLcmp (x y : Int) : Int := if x < y then -1 else if y < x then 1 else 0
/-! locals -/
def zGet : List (Option zAv) → Nat → Option zAv
  | [], _ => none
  | o :: _, 0 => o
  | _ :: r, k + 1 => zGet r k
def zPut : List (Option zAv) → Nat → Option zAv → List (Option zAv)
  | [], _, _ => []
  | _ :: r, 0, v => v :: r
  | o :: r, k + 1, v => o :: zPut r k v
/-- what stands ahead of a local that is written: not the first half of a long -/
def zKl (o : Option zAv) : Option zAv := match o with
  | some (.inr (.inl _)) => none
  | o => o
def zKill (ls : List (Option zAv)) (k : Nat) : List (Option zAv) := match k with
  | 0 => ls
  | j + 1 => zPut ls j (zKl (zGet ls j))
def zSet1 (ls : List (Option zAv)) (k : Nat) (v : Option zAv) : List (Option zAv) := zPut (zKill ls k) k v
def zSet2 (ls : List (Option zAv)) (k : Nat) (v : Option zAv) : List (Option zAv) := zPut (zPut (zKill ls k) k v) (k + 1) none
abbrev zFr : Type := List (Option zAv) × List zAv
def zLdI (ls : List (Option zAv)) (k : Nat) (st : List zAv) : Option zFr := match zGet ls k with
  | some (.inl x) => some (ls, .inl x :: st)
  | _ => none
def zLdL (ls : List (Option zAv)) (k : Nat) (st : List zAv) : Option zFr := match zGet ls k with
  | some (.inr (.inl x)) => some (ls, .inr (.inl x) :: st)
  | _ => none
def zLdR (ls : List (Option zAv)) (k : Nat) (st : List zAv) : Option zFr := match zGet ls k with
  | some (.inr (.inr x)) => some (ls, .inr (.inr x) :: st)
  | _ => none
def zStI (ls : List (Option zAv)) (k : Nat) (st : List zAv) : Option zFr := match st with
  | .inl x :: r => if k < ls.length then some (zSet1 ls k (some (.inl x)), r) else none
  | _ => none
def zStL (ls : List (Option zAv)) (k : Nat) (st : List zAv) : Option zFr := match st with
  | .inr (.inl x) :: r => if k + 1 < ls.length then some (zSet2 ls k (some (.inr (.inl x))), r) else none
  | _ => none
def zStR (ls : List (Option zAv)) (k : Nat) (st : List zAv) : Option zFr := match st with
  | .inr (.inr x) :: r => if k < ls.length then some (zSet1 ls k (some (.inr (.inr x))), r) else none
  | _ => none
def zBinI (f : Int → Int → Int) (ls : List (Option zAv)) (st : List zAv) : Option zFr := match st with
  | .inl y :: .inl x :: r => some (ls, .inl (f x y) :: r)
  | _ => none
def zBinL (f : Int → Int → Int) (ls : List (Option zAv)) (st : List zAv) : Option zFr := match st with
  | .inr (.inl y) :: .inr (.inl x) :: r => some (ls, .inr (.inl (f x y)) :: r)
  | _ => none
def zShfL (f : Int → Int → Int) (ls : List (Option zAv)) (st : List zAv) : Option zFr := match st with
  | .inl y :: .inr (.inl x) :: r => some (ls, .inr (.inl (f x y)) :: r)
  | _ => none
def zUnI (f : Int → Int) (ls : List (Option zAv)) (st : List zAv) : Option zFr := match st with
  | .inl x :: r => some (ls, .inl (f x) :: r)
  | _ => none
def zUnL (f : Int → Int) (ls : List (Option zAv)) (st : List zAv) : Option zFr := match st with
  | .inr (.inl x) :: r => some (ls, .inr (.inl (f x)) :: r)
  | _ => none
/-- category 1 -/
def zC1 (v : zAv) : Bool := match v with
  | .inr (.inl _) => false
  | _ => true
/-- instructions on the locals and the stack alone -/
def zLS (i : Instr) (ls : List (Option zAv)) (st : List zAv) : Option zFr := match i with
  | .iconst n => if -1 ≤ n ∧ n ≤ 5 then some (ls, .inl n :: st) else none
  | .bipush n => if -128 ≤ n ∧ n ≤ 127 then some (ls, .inl n :: st) else none
  | .sipush n => if -32768 ≤ n ∧ n ≤ 32767 then some (ls, .inl n :: st) else none
  | .lconst n => some (ls, .inr (.inl (n.val : Int)) :: st)
  | .aconst_null => some (ls, .inr (.inr none) :: st)
  | .iload_n k => zLdI ls k.val st
  | .iload k => zLdI ls k st
  | .lload_n k => zLdL ls k.val st
  | .lload k => zLdL ls k st
  | .aload_n k => zLdR ls k.val st
  | .aload k => zLdR ls k st
  | .istore_n k => zStI ls k.val st
  | .istore k => zStI ls k st
  | .lstore_n k => zStL ls k.val st
  | .lstore k => zStL ls k st
  | .astore_n k => zStR ls k.val st
  | .astore k => zStR ls k st
  | .iinc k c => match zGet ls k with
    | some (.inl x) => if k < ls.length then some (zPut ls k (some (.inl (wI (x + c)))), st) else none
    | _ => none
  | .iadd => zBinI (fun x y => wI (x + y)) ls st
  | .isub => zBinI (fun x y => wI (x - y)) ls st
  | .imul => zBinI (fun x y => wI (x * y)) ls st
  | .idiv => match st with
    | .inl y :: .inl x :: r => if y ≠ 0 then some (ls, .inl (zDiv x y) :: r) else none
    | _ => none
  | .irem => match st with
    | .inl y :: .inl x :: r => if y ≠ 0 then some (ls, .inl (zRem x y) :: r) else none
    | _ => none
  | .ineg => zUnI (fun x => wI (-x)) ls st
  | .iand => zBinI zAnd ls st
  | .ior => zBinI zOr ls st
  | .ixor => zBinI zXor ls st
  | .ishl => zBinI zShl ls st
  | .ishr => zBinI zShr ls st
  | .iushr => zBinI zUsh ls st
  | .ladd => zBinL (fun x y => wL (x + y)) ls st
  | .lsub => zBinL (fun x y => wL (x - y)) ls st
  | .lmul => zBinL (fun x y => wL (x * y)) ls st
  | .ldiv => match st with
    | .inr (.inl y) :: .inr (.inl x) :: r => if y ≠ 0 then some (ls, .inr (.inl (zDivL x y)) :: r) else none
    | _ => none
  | .lrem => match st with
    | .inr (.inl y) :: .inr (.inl x) :: r => if y ≠ 0 then some (ls, .inr (.inl (zRemL x y)) :: r) else none
    | _ => none
  | .lneg => zUnL (fun x => wL (-x)) ls st
  | .land => zBinL zAndL ls st
  | .lor => zBinL zOrL ls st
  | .lxor => zBinL zXorL ls st
  | .lshl => zShfL zShlL ls st
  | .lshr => zShfL zShrL ls st
  | .lushr => zShfL zUshL ls st
  | .i2l => match st with
    | .inl x :: r => some (ls, .inr (.inl x) :: r)
    | _ => none
  | .l2i => match st with
    | .inr (.inl x) :: r => some (ls, .inl (zL2I x) :: r)
    | _ => none
  | .i2b => zUnI zB ls st
  | .i2s => zUnI zSh ls st
  | .i2c => zUnI zCh ls st
  | .lcmp => match st with
    | .inr (.inl y) :: .inr (.inl x) :: r => some (ls, .inl (zLcmp x y) :: r)
    | _ => none
  | .dup => match st with
    | v :: r => if zC1 v = true then some (ls, v :: v :: r) else none
    | _ => none
  | .dup2 => match st with
    | v :: w :: r => if zC1 v = true ∧ zC1 w = true then some (ls, v :: w :: v :: w :: r) else none
    | _ => none
  | .pop => match st with
    | v :: r => if zC1 v = true then some (ls, r) else none
    | _ => none
  | _ => none
/-! branches -/
def zTgt (pc : Nat) (off : Int) : Option Nat := if 0 ≤ (pc : Int) + off then some ((pc : Int) + off).toNat else none
def zCnd (c : ClassFile.Cond) (x y : Int) : Bool := match c with
  | .eq => decide (x = y)
  | .ne => !decide (x = y)
  | .lt => decide (x < y)
  | .ge => decide (y ≤ x)
  | .gt => decide (y < x)
  | .le => decide (x ≤ y)
def zBr (i : Instr) (pc : Nat) (st : List zAv) : Option (Nat × List zAv) := match i with
  | .goto off => match zTgt pc off with
    | some t => some (t, st)
    | none => none
  | .ifCond c off => match zTgt pc off, st with
    | some t, .inl x :: r => some (if zCnd c x 0 = true then t else pc + 3, r)
    | _, _ => none
  | .if_icmp c off => match zTgt pc off, st with
    | some t, .inl y :: .inl x :: r => some (if zCnd c x y = true then t else pc + 3, r)
    | _, _ => none
  | .ifnull off => match zTgt pc off, st with
    | some t, .inr (.inr o) :: r => some (if o.isNone = true then t else pc + 3, r)
    | _, _ => none
  | .ifnonnull off => match zTgt pc off, st with
    | some t, .inr (.inr o) :: r => some (if o.isNone = true then pc + 3 else t, r)
    | _, _ => none
  | .tableswitch dflt lo hi offs => match st with
    | .inl x :: r => if x < lo ∨ hi < x then (match zTgt pc dflt with
        | some t => some (t, r)
        | none => none) else (match offs[(x - lo).toNat]? with
        | some off => (match zTgt pc off with
          | some t => some (t, r)
          | none => none)
        | none => none)
    | _ => none
  | _ => none
/-! the heap -/
def zFVal (ty : Nat) (h : zHp) (a j : Nat) : zAv := match ty with
  | 1 => .inr (.inl (gJ h a j))
  | 11 => .inr (.inl (gJ h a j))
  | 2 => .inr (.inr (gR h a j))
  | 12 => .inr (.inr (gR h a j))
  | _ => .inl (gI h a j)
def zPutF (ty : Nat) (h : zHp) (a j : Nat) (v : zAv) : Option zHp := match ty, v with
  | 0, .inl x => some (sI h a j x)
  | 4, .inl x => if x = 0 ∨ x = 1 then some (sI h a j x) else none
  | 1, .inr (.inl x) => some (sJ h a j x)
  | 2, .inr (.inr o) => some (sR h a j o)
  | _, _ => none
/-- the index lies within the array a of the kind t -/
abbrev zIn (h : zHp) (t a : Nat) (i : Int) : Prop := (gK h a).1 = t ∧ 0 ≤ i ∧ i < ((gK h a).2 : Int)
def zAT (t : ArrayType) : Option Nat := match t with
  | .int => some 1
  | .byte => some 2
  | .short => some 3
  | .long => some 4
  | _ => none
/-- the ranges of a copy -/
abbrev zCpIn (h : zHp) (a : Nat) (sp : Int) (b : Nat) (dp n : Int) : Prop := sp + n ≤ ((gK h a).2 : Int) ∧ dp + n ≤ ((gK h b).2 : Int)
abbrev zCpOk (h : zHp) (a : Nat) (sp : Int) (b : Nat) (dp n : Int) : Prop := zkc ≤ a ∧ zkc ≤ b ∧ 1 ≤ (gK h a).1 ∧ (gK h a).1 = (gK h b).1 ∧ 0 ≤ sp ∧ 0 ≤ dp ∧ 0 ≤ n
def zCpF {α : Type} (f g : Int → α) (sp dp n : Int) : Int → α := fun k => if dp ≤ k ∧ k < dp + n then f (sp + (k - dp)) else g k
def zCpy (h : zHp) (a : Nat) (sp : Int) (b : Nat) (dp n : Int) : zHp :=
  if (gK h a).1 ≤ 3 then sIA h b (zCpF (gI h a) (gI h b) sp dp n) else if (gK h a).1 = 4 then sJA h b (zCpF (gJ h a) (gJ h b) sp dp n) else sRA h b (zCpF (gR h a) (gR h b) sp dp n)
def zWt : List zAv → Nat
  | [] => 0
  | .inr (.inl _) :: r => 2 + zWt r
  | _ :: r => 1 + zWt r
abbrev zSh2 : Type := List zAv × zHp
def zHeap (C : Nat) (ini : Bool) (i : Instr) (st : List zAv) (h : zHp) : Option zSh2 := match i with
  | .getfield x => match st with
    | .inr (.inr (some a)) :: r => if (gK h a).1 = 0 then (match zFld C x (gK h a).2 with
        | some q => some (zFVal q.2.1 h a q.1 :: r, h)
        | none => none) else none
    | _ => none
  | .putfield x => match st with
    | v :: .inr (.inr (some a)) :: r => if (gK h a).1 = 0 ∧ zkc ≤ a then (match zFld C x (gK h a).2 with
        | some q => if q.2.2 = true → ini = true then (match zPutF q.2.1 h a q.1 v with
          | some h' => some (r, h')
          | none => none) else none
        | none => none) else none
    | _ => none
  | .getstatic x => match zSta C x with
    | some v => some (.inl v :: st, h)
    | none => none
  | .ldc x => match zLdc C x with
    | some v => some (v :: st, h)
    | none => none
  | .ldc_w x => match zLdc C x with
    | some (.inl v) => some (.inl v :: st, h)
    | _ => none
  | .ldc2_w x => match zLdc2 C x with
    | some v => some (.inr (.inl v) :: st, h)
    | none => none
  | .arraylength => match st with
    | .inr (.inr (some a)) :: r => if 1 ≤ (gK h a).1 then some (.inl ((gK h a).2 : Int) :: r, h) else none
    | _ => none
  | .iaload => match st with
    | .inl i :: .inr (.inr (some a)) :: r => if zIn h 1 a i then some (.inl (gI h a i) :: r, h) else none
    | _ => none
  | .baload => match st with
    | .inl i :: .inr (.inr (some a)) :: r => if zIn h 2 a i then some (.inl (gI h a i) :: r, h) else none
    | _ => none
  | .saload => match st with
    | .inl i :: .inr (.inr (some a)) :: r => if zIn h 3 a i then some (.inl (gI h a i) :: r, h) else none
    | _ => none
  | .laload => match st with
    | .inl i :: .inr (.inr (some a)) :: r => if zIn h 4 a i then some (.inr (.inl (gJ h a i)) :: r, h) else none
    | _ => none
  | .aaload => match st with
    | .inl i :: .inr (.inr (some a)) :: r => if 5 ≤ (gK h a).1 ∧ 0 ≤ i ∧ i < ((gK h a).2 : Int) then some (.inr (.inr (gR h a i)) :: r, h) else none
    | _ => none
  | .iastore => match st with
    | .inl v :: .inl i :: .inr (.inr (some a)) :: r => if zIn h 1 a i ∧ zkc ≤ a then some (r, sI h a i v) else none
    | _ => none
  | .bastore => match st with
    | .inl v :: .inl i :: .inr (.inr (some a)) :: r => if zIn h 2 a i ∧ zkc ≤ a then some (r, sI h a i (zB v)) else none
    | _ => none
  | .sastore => match st with
    | .inl v :: .inl i :: .inr (.inr (some a)) :: r => if zIn h 3 a i ∧ zkc ≤ a then some (r, sI h a i (zSh v)) else none
    | _ => none
  | .lastore => match st with
    | .inr (.inl v) :: .inl i :: .inr (.inr (some a)) :: r => if zIn h 4 a i ∧ zkc ≤ a then some (r, sJ h a i v) else none
    | _ => none
  | .aastore => match st with
    | .inr (.inr (some b)) :: .inl i :: .inr (.inr (some a)) :: r => if 5 ≤ (gK h a).1 ∧ 0 ≤ i ∧ i < ((gK h a).2 : Int) ∧ zkc ≤ a ∧ zkc ≤ b ∧ (gK h b).1 = 0 ∧ zAsg (gK h a).1 (gK h b).2 = true then some (r, sR h a i (some b)) else none
    | _ => none
  | .new x => match zNew C x with
    | some q => some (.inr (.inr (some h.1.1)) :: st, gNew h (0, q.1) q.2)
    | none => none
  | .newarray t => match st with
    | .inl n :: r => if 0 ≤ n ∧ n ≤ 100000 then (match zAT t with
        | some k => some (.inr (.inr (some h.1.1)) :: r, gNew h (k, n.toNat) n.toNat)
        | none => none) else none
    | _ => none
  | .anewarray x => match st with
    | .inl n :: r => if 0 ≤ n ∧ n ≤ 100000 then (match zANew C x with
        | some k => some (.inr (.inr (some h.1.1)) :: r, gNew h (k, n.toNat) n.toNat)
        | none => none) else none
    | _ => none
  | .instanceof x => match st with
    | .inr (.inr (some a)) :: r => if zkc ≤ a ∧ 1 ≤ (gK h a).1 ∧ (gK h a).1 ≤ 4 then (match zTyp C x with
        | some t => if t ≤ 3 then some (.inl (if (gK h a).1 = t then 1 else 0) :: r, h) else none
        | none => none) else none
    | _ => none
  | .checkcast x => match st with
    | .inr (.inr (some a)) :: r => if zkc ≤ a then (match zTyp C x with
        | some t => if (gK h a).1 = t then some (.inr (.inr (some a)) :: r, h) else none
        | none => none) else none
    | _ => none
  | .invokestatic x => match zNat C x with
    | some 2 => match st with
      | .inl n :: .inl dp :: .inr (.inr (some b)) :: .inl sp :: .inr (.inr (some a)) :: r => if zWt r ≤ 8 ∧ zCpOk h a sp b dp n ∧ zCpIn h a sp b dp n then some (r, zCpy h a sp b dp n) else none
      | _ => none
    | some 3 => match st with
      | .inl n :: .inl i :: r => if zWt r ≤ 8 ∧ 0 ≤ i ∧ i < n then some (r, h) else none
      | _ => none
    | some 4 => match st with
      | .inl y :: .inl x :: r => if zWt r ≤ 8 then some (.inl (if x < y then y else x) :: r, h) else none
      | _ => none
    | some 5 => match st with
      | .inl y :: .inl x :: r => if zWt r ≤ 8 then some (.inl (if y < x then y else x) :: r, h) else none
      | _ => none
    | some 6 => match st with
      | .inr (.inl x) :: r => if zWt r ≤ 8 then some (.inr (.inl (if 0 < x then x else wL (-x))) :: r, h) else none
      | _ => none
    | _ => none
  | .invokespecial x => match zNat C x with
    | some 0 => match st with
      | .inr (.inr (some a)) :: r => if zWt r ≤ 8 ∧ zkc ≤ a ∧ (gK h a).1 = 0 then some (r, h) else none
      | _ => none
    | some 1 => match st with
      | .inl x :: .inl y :: .inr (.inr none) :: .inr (.inr none) :: .inr (.inr (some a)) :: r => if zWt r ≤ 8 ∧ x = 0 ∧ y = 0 ∧ zkc ≤ a ∧ (gK h a).1 = 0 ∧ zExc (gK h a).2 = true then some (r, h) else none
      | _ => none
    | _ => none
  | _ => none
/-- where the machine throws: the exception's number, and what is made beside -/
def zVm (C : Nat) (i : Instr) (st : List zAv) (h : zHp) : Option Nat := match i with
  | .iaload => match st with
    | .inl i :: .inr (.inr (some a)) :: r => if zWt r ≤ 8 ∧ (gK h a).1 = 1 ∧ zkc ≤ a ∧ ¬ (0 ≤ i ∧ i < ((gK h a).2 : Int)) then some zAIOO else none
    | _ => none
  | .baload => match st with
    | .inl i :: .inr (.inr (some a)) :: r => if zWt r ≤ 8 ∧ (gK h a).1 = 2 ∧ zkc ≤ a ∧ ¬ (0 ≤ i ∧ i < ((gK h a).2 : Int)) then some zAIOO else none
    | _ => none
  | .saload => match st with
    | .inl i :: .inr (.inr (some a)) :: r => if zWt r ≤ 8 ∧ (gK h a).1 = 3 ∧ zkc ≤ a ∧ ¬ (0 ≤ i ∧ i < ((gK h a).2 : Int)) then some zAIOO else none
    | _ => none
  | .laload => match st with
    | .inl i :: .inr (.inr (some a)) :: r => if zWt r ≤ 8 ∧ (gK h a).1 = 4 ∧ zkc ≤ a ∧ ¬ (0 ≤ i ∧ i < ((gK h a).2 : Int)) then some zAIOO else none
    | _ => none
  | .iastore => match st with
    | .inl _ :: .inl i :: .inr (.inr (some a)) :: r => if zWt r ≤ 8 ∧ (gK h a).1 = 1 ∧ zkc ≤ a ∧ ¬ (0 ≤ i ∧ i < ((gK h a).2 : Int)) then some zAIOO else none
    | _ => none
  | .bastore => match st with
    | .inl _ :: .inl i :: .inr (.inr (some a)) :: r => if zWt r ≤ 8 ∧ (gK h a).1 = 2 ∧ zkc ≤ a ∧ ¬ (0 ≤ i ∧ i < ((gK h a).2 : Int)) then some zAIOO else none
    | _ => none
  | .sastore => match st with
    | .inl _ :: .inl i :: .inr (.inr (some a)) :: r => if zWt r ≤ 8 ∧ (gK h a).1 = 3 ∧ zkc ≤ a ∧ ¬ (0 ≤ i ∧ i < ((gK h a).2 : Int)) then some zAIOO else none
    | _ => none
  | .lastore => match st with
    | .inr (.inl _) :: .inl i :: .inr (.inr (some a)) :: r => if zWt r ≤ 8 ∧ (gK h a).1 = 4 ∧ zkc ≤ a ∧ ¬ (0 ≤ i ∧ i < ((gK h a).2 : Int)) then some zAIOO else none
    | _ => none
  | .newarray t => match st with
    | .inl n :: r => if zWt r ≤ 8 ∧ n < 0 then some zNASE else none
    | _ => none
  | .invokestatic x => match zNat C x with
    | some 2 => match st with
      | .inl n :: .inl dp :: .inr (.inr (some b)) :: .inl sp :: .inr (.inr (some a)) :: r => if zWt r ≤ 8 ∧ zCpOk h a sp b dp n ∧ (gK h a).1 ≤ 4 ∧ ¬ zCpIn h a sp b dp n then some zAIOO else none
      | _ => none
    | _ => none
  | _ => none
/-! calls -/
def zEnt : List zAv → List (Option zAv)
  | [] => []
  | .inl x :: r => some (.inl x) :: zEnt r
  | .inr (.inl x) :: r => some (.inr (.inl x)) :: none :: zEnt r
  | .inr (.inr x) :: r => some (.inr (.inr x)) :: zEnt r
def zPad : Nat → List (Option zAv) → List (Option zAv)
  | 0, _ => []
  | n + 1, [] => none :: zPad n []
  | n + 1, o :: r => o :: zPad n r
abbrev zCl : Type := zMi × Nat × List zAv × List zAv
/-- the first n of a stack, turned round, ahead of 'acc'; and the rest -/
def zTake : Nat → List zAv → List zAv → Option (List zAv × List zAv)
  | 0, st, acc => some (acc, st)
  | n + 1, v :: r, acc => zTake n r (v :: acc)
  | _ + 1, [], _ => none
/-- which method is called at which depth, with which arguments; what stays on the stack -/
def zCallee (C d : Nat) (i : Instr) (st : List zAv) (h : zHp) : Option zCl := match i with
  | .invokestatic x => match zInvS C x with
    | some q => match zTake q.1 st [] with
      | some u => some (q.2, d, u.1, u.2)
      | none => none
    | none => none
  | .invokespecial x => match zInvI C x with
    | some q => match zTake q.1 st [] with
      | some (as, .inr (.inr (some a)) :: r) => if zkc ≤ a ∧ (gK h a).1 = 0 then some (q.2, d, .inr (.inr (some a)) :: as, r) else none
      | _ => none
    | none => none
  | .invokevirtual x => match zInvA C x with
    | some n => match zTake n st [] with
      | some (as, .inr (.inr (some a)) :: r) => if (gK h a).1 = 0 then (match zInvV C x (gK h a).2 with
          | some q => if q.2 ≤ d then some (q.1, d - q.2, .inr (.inr (some a)) :: as, r) else none
          | none => none) else none
      | _ => none
    | none => none
  | _ => none
/-- the handler of an exception -/
def zHand (C : Nat) (pc E : Nat) : List (Nat × Nat × Nat × Nat) → Option Nat
  | [] => none
  | q :: r => if q.1 ≤ pc ∧ pc < q.2.1 ∧ zCat C q.2.2.2 E = true then some q.2.2.1 else zHand C pc E r
abbrev zK : Type := zMi → Nat → Nat → List (Option zAv) → List zAv → zHp → Option zRs
/-- an exception is thrown here -/
def zThrow (k : zK) (M : zMi) (d pc : Nat) (ls : List (Option zAv)) (h : zHp) (E : Nat) (a : Option Nat) : Option zRs := match zHand (mCls M) pc E (mHnd M) with
  | none => some (zRt E a h)
  | some t => match decode (mCode M) t with
    | .ok (.astore_n x, len) => if x.val < ls.length ∧ len = 1 then k M d (t + len) (zSet1 ls x.val (a.map fun b => .inr (.inr (some b)))) [] h else none
    | .ok (.astore x, len) => if x < ls.length ∧ len = 2 then k M d (t + len) (zSet1 ls x (a.map fun b => .inr (.inr (some b)))) [] h else none
    | _ => none
def zAfter (k : zK) (M : zMi) (d pc : Nat) (ls : List (Option zAv)) (r : List zAv) (q : zRs) : Option zRs := match q with
  | (.inl (some v), h) => k M d (pc + 3) ls (v :: r) h
  | (.inl none, h) => k M d (pc + 3) ls r h
  | (.inr (E, a), h) => zThrow k M d pc ls h E a
def zFam (C : Nat) (i : Instr) : Nat := match i with
  | .getfield _ | .putfield _ | .getstatic _ | .ldc _ | .ldc_w _ | .ldc2_w _ | .arraylength | .iaload | .baload | .saload | .laload | .aaload | .iastore | .bastore | .sastore | .lastore | .aastore | .new _ | .newarray _ | .anewarray _ | .instanceof _ | .checkcast _ => 2
  | .goto _ | .ifCond _ _ | .if_icmp _ _ | .ifnull _ | .ifnonnull _ | .tableswitch _ _ _ _ => 1
  | .invokestatic x => if (zNat C x).isSome = true then 2 else 3
  | .invokespecial x => if (zNat C x).isSome = true then 2 else 3
  | .invokevirtual _ => 3
  | .ireturn | .lreturn | .areturn | .return_ => 4
  | .athrow => 5
  | _ => 0
def zRet (M : zMi) (i : Instr) (st : List zAv) : Option (Option zAv) := match i, st with
  | .ireturn, [.inl x] => match mRet M with
    | some .int => some (some (.inl x))
    | some .boolean => if x = 0 ∨ x = 1 then some (some (.inl x)) else none
    | some .byte => if zB x = x then some (some (.inl x)) else none
    | some .char => if zCh x = x then some (some (.inl x)) else none
    | _ => none
  | .lreturn, [.inr (.inl x)] => match mRet M with
    | some .long => some (some (.inr (.inl x)))
    | _ => none
  | .areturn, [.inr (.inr x)] => match mRet M with
    | some (.object _) => some (some (.inr (.inr x)))
    | some (.array _) => some (some (.inr (.inr x)))
    | _ => none
  | .return_, [] => match mRet M with
    | none => some none
    | _ => none
  | _, _ => none
def zStep (k : zK) (M : zMi) (d pc : Nat) (ls : List (Option zAv)) (st : List zAv) (h : zHp) (i : Instr) (len : Nat) : Option zRs := match zFam (mCls M) i with
  | 0 => match zLS i ls st with
    | some q => k M d (pc + len) q.1 q.2 h
    | none => none
  | 1 => match zBr i pc st with
    | some q => k M d q.1 ls q.2 h
    | none => none
  | 2 => match zHeap (mCls M) (mIni M) i st h with
    | some q => k M d (pc + len) ls q.1 q.2
    | none => match zVm (mCls M) i st h with
      | some E => zThrow k M d pc ls (gTick h 3 400) E none
      | none => none
  | 3 => match zCallee (mCls M) d i st h with
    | some q => if zRank q.1 q.2.1 < zRank M d ∧ zWt q.2.2.2 ≤ 8 ∧ (zEnt q.2.2.1).length ≤ mLoc q.1 then (match k q.1 q.2.1 0 (zPad (mLoc q.1) (zEnt q.2.2.1)) [] h with
        | some r => zAfter k M d pc ls q.2.2.2 r
        | none => none) else none
    | none => none
  | 4 => match zRet M i st with
    | some v => some (.inl v, h)
    | none => none
  | 5 => match st with
    | .inr (.inr (some a)) :: _ => if zkc ≤ a ∧ (gK h a).1 = 0 ∧ zExc (gK h a).2 = true then zThrow k M d pc ls h (gK h a).2 (some a) else none
    | _ => none
  | _ => none
/-- how long an instruction is -/
def zLen (i : Instr) : Nat := match i with
  | .bipush _ | .iload _ | .lload _ | .aload _ | .istore _ | .lstore _ | .astore _ | .ldc _ | .newarray _ => 2
  | .sipush _ | .iinc _ _ | .getfield _ | .putfield _ | .getstatic _ | .ldc_w _ | .ldc2_w _ | .new _ | .anewarray _ | .instanceof _ | .checkcast _ | .goto _ | .ifCond _ _ | .if_icmp _ _ | .ifnull _ | .ifnonnull _ | .invokestatic _ | .invokespecial _ | .invokevirtual _ => 3
  | _ => 1
def zLenOk (i : Instr) (len : Nat) : Bool := match i with
  | .tableswitch _ _ _ _ => true
  | i => Nat.beq len (zLen i)
def zRun : Nat → zK
  | 0 => fun _ _ _ _ _ _ => none
  | n + 1 => fun M d pc ls st h => match decode (mCode M) pc with
    | .ok (i, len) => if zLenOk i len = true then zStep (zRun n) M d pc ls st h i len else none
    | .error _ => none
/-- the family and the length of an instruction -/
def zChk (C : Nat) (i : Instr) (len f : Nat) : Bool := Nat.beq (zFam C i) f && zLenOk i len
theorem zChk_f {C : Nat} {i : Instr} {len f : Nat} (h : zChk C i len f = true) : zFam C i = f := by
  unfold zChk at h
  rw [Bool.and_eq_true] at h
  exact Nat.eq_of_beq_eq_true h.1
theorem zChk_l {C : Nat} {i : Instr} {len f : Nat} (h : zChk C i len f = true) : zLenOk i len = true := by
  unfold zChk at h
  rw [Bool.and_eq_true] at h
  exact h.2
/-! runs end alike with more steps -/
def zLe (k k' : zK) : Prop := ∀ M d pc ls st h r, k M d pc ls st h = some r → k' M d pc ls st h = some r
theorem zThrow_le {k k' : zK} (hk : zLe k k') {M : zMi} {d pc : Nat} {ls : List (Option zAv)} {h : zHp} {E : Nat} {a : Option Nat} {r : zRs} (e : zThrow k M d pc ls h E a = some r) : zThrow k' M d pc ls h E a = some r := by
  unfold zThrow at e ⊢
  split at e
  · exact e
  · split at e
    · split at e
      · rename_i hx
        rw [if_pos hx]
        exact hk _ _ _ _ _ _ _ e
      · cases e
    · split at e
      · rename_i hx
        rw [if_pos hx]
        exact hk _ _ _ _ _ _ _ e
      · cases e
    · cases e
theorem zAfter_le {k k' : zK} (hk : zLe k k') {M : zMi} {d pc : Nat} {ls : List (Option zAv)} {r : List zAv} {q r' : zRs} (e : zAfter k M d pc ls r q = some r') : zAfter k' M d pc ls r q = some r' := by
  unfold zAfter at e ⊢
  split at e
  · exact hk _ _ _ _ _ _ _ e
  · exact hk _ _ _ _ _ _ _ e
  · exact zThrow_le hk e
theorem zStep_le {k k' : zK} (hk : zLe k k') {M : zMi} {d pc : Nat} {ls : List (Option zAv)} {st : List zAv} {h : zHp} {i : Instr} {len : Nat} {r : zRs} (e : zStep k M d pc ls st h i len = some r) : zStep k' M d pc ls st h i len = some r := by
  unfold zStep at e ⊢
  split at e
  · split at e
    · exact hk _ _ _ _ _ _ _ e
    · cases e
  · split at e
    · exact hk _ _ _ _ _ _ _ e
    · cases e
  · split at e
    · exact hk _ _ _ _ _ _ _ e
    · split at e
      · exact zThrow_le hk e
      · cases e
  · split at e
    · rename_i q hq
      by_cases hc : zRank q.1 q.2.1 < zRank M d ∧ zWt q.2.2.2 ≤ 8 ∧ (zEnt q.2.2.1).length ≤ mLoc q.1
      · rw [if_pos hc] at e ⊢
        cases e9 : k q.1 q.2.1 0 (zPad (mLoc q.1) (zEnt q.2.2.1)) [] h with
        | none => rw [e9] at e; cases e
        | some r9 =>
          rw [e9] at e
          rw [hk _ _ _ _ _ _ _ e9]
          exact zAfter_le hk e
      · rw [if_neg hc] at e
        cases e
    · cases e
  · exact e
  · split at e
    · split at e
      · rename_i hc
        rw [if_pos hc]
        exact zThrow_le hk e
      · cases e
    · cases e
  · cases e
theorem zRun_succ : ∀ n, zLe (zRun n) (zRun (n + 1))
  | 0 => fun _ _ _ _ _ _ _ e => by cases e
  | n + 1 => fun M d pc ls st h r e => by
    unfold zRun at e ⊢
    cases hd : decode (mCode M) pc with
    | error x => rw [hd] at e; cases e
    | ok q =>
      rw [hd] at e
      by_cases hl : zLenOk q.1 q.2 = true
      · have e : (if zLenOk q.1 q.2 = true then zStep (zRun n) M d pc ls st h q.1 q.2 else none) = some r := e
        show (if zLenOk q.1 q.2 = true then zStep (zRun (n + 1)) M d pc ls st h q.1 q.2 else none) = some r
        rw [if_pos hl] at e ⊢
        exact zStep_le (zRun_succ n) e
      · have e : (if zLenOk q.1 q.2 = true then zStep (zRun n) M d pc ls st h q.1 q.2 else none) = some r := e
        rw [if_neg hl] at e
        cases e
theorem zRun_le {n m : Nat} (h : n ≤ m) : zLe (zRun n) (zRun m) := by
  induction h with
  | refl => exact fun _ _ _ _ _ _ _ e => e
  | step h ih => exact fun M d pc ls st hp r e => zRun_succ _ _ _ _ _ _ _ _ (ih _ _ _ _ _ _ _ e)
/-! ===== the judgement: from here the method ends, and its end is in Q ===== -/
def zEv (M : zMi) (d pc : Nat) (ls : List (Option zAv)) (st : List zAv) (h : zHp) (Q : zRs → Prop) : Prop := ∃ n r, zRun n M d pc ls st h = some r ∧ Q r
/-- a method is called -/
def zCm (M : zMi) (d : Nat) (as : List zAv) (h : zHp) (Q : zRs → Prop) : Prop := zEv M d 0 (zPad (mLoc M) (zEnt as)) [] h Q
/-- an exception is thrown at pc -/
def zTh (M : zMi) (d pc : Nat) (ls : List (Option zAv)) (h : zHp) (E : Nat) (a : Option Nat) (Q : zRs → Prop) : Prop := ∃ n r, zThrow (zRun n) M d pc ls h E a = some r ∧ Q r
/-- behind a call at pc, n: the next -/
def zPo (M : zMi) (d pc n : Nat) (ls : List (Option zAv)) (st : List zAv) (Q : zRs → Prop) (q : zRs) : Prop := match q with
  | (.inl (some v), h) => zEv M d n ls (v :: st) h Q
  | (.inl none, h) => zEv M d n ls st h Q
  | (.inr (E, a), h) => zTh M d pc ls h E a Q
theorem zPo_v {M : zMi} {d pc n : Nat} {ls : List (Option zAv)} {st : List zAv} {Q : zRs → Prop} {v : zAv} {h : zHp} : zPo M d pc n ls st Q (Sum.inl (some v), h) = zEv M d n ls (v :: st) h Q := rfl
theorem zPo_n {M : zMi} {d pc n : Nat} {ls : List (Option zAv)} {st : List zAv} {Q : zRs → Prop} {h : zHp} : zPo M d pc n ls st Q (Sum.inl none, h) = zEv M d n ls st h Q := rfl
theorem zPo_t {M : zMi} {d pc n : Nat} {ls : List (Option zAv)} {st : List zAv} {Q : zRs → Prop} {E : Nat} {a : Option Nat} {h : zHp} : zPo M d pc n ls st Q (Sum.inr (E, a), h) = zTh M d pc ls h E a Q := rfl
theorem zEv_mono {M : zMi} {d pc : Nat} {ls : List (Option zAv)} {st : List zAv} {h : zHp} {Q Q' : zRs → Prop} (e : zEv M d pc ls st h Q) (hq : ∀ r, Q r → Q' r) : zEv M d pc ls st h Q' := by
  obtain ⟨n, r, a, b⟩ := e
  exact ⟨n, r, a, hq r b⟩
theorem zCm_mono {M : zMi} {d : Nat} {as : List zAv} {h : zHp} {Q Q' : zRs → Prop} (e : zCm M d as h Q) (hq : ∀ r, Q r → Q' r) : zCm M d as h Q' := zEv_mono e hq
section ZE
variable {M : zMi} {d pc : Nat} {ls : List (Option zAv)} {st : List zAv} {h : zHp} {Q : zRs → Prop} {i : Instr} {len : Nat}
theorem zEv_step (hd : decode (mCode M) pc = .ok (i, len)) (hl : zLenOk i len = true) : zEv M d pc ls st h Q ↔ ∃ n r, zStep (zRun n) M d pc ls st h i len = some r ∧ Q r := by
  have e : ∀ n, zRun (n + 1) M d pc ls st h = zStep (zRun n) M d pc ls st h i len := fun n => by
    show (match decode (mCode M) pc with
      | .ok (i, len) => if zLenOk i len = true then zStep (zRun n) M d pc ls st h i len else none
      | .error _ => none) = _
    rw [hd]
    exact if_pos hl
  constructor
  · rintro ⟨n, r, a, b⟩
    cases n with
    | zero => cases a
    | succ n => exact ⟨n, r, (e n) ▸ a, b⟩
  · rintro ⟨n, r, a, b⟩
    exact ⟨n + 1, r, (e n).trans a, b⟩
theorem zEv_ls {pc' : Nat} (hd : decode (mCode M) pc = .ok (i, len)) (hf : zChk (mCls M) i len 0 = true) (hn : pc + len = pc') {ls' : List (Option zAv)} {st' : List zAv} (hp : zLS i ls st = some (ls', st')) : zEv M d pc ls st h Q ↔ zEv M d pc' ls' st' h Q := by
  subst hn
  rw [zEv_step hd (zChk_l hf)]
  have e : ∀ n, zStep (zRun n) M d pc ls st h i len = zRun n M d (pc + len) ls' st' h := fun n => by
    unfold zStep
    rw [zChk_f hf, hp]
    rfl
  simp only [e]
  exact Iff.rfl
theorem zEv_br (hd : decode (mCode M) pc = .ok (i, len)) (hf : zChk (mCls M) i len 1 = true) {pc' : Nat} {st' : List zAv} (hp : zBr i pc st = some (pc', st')) : zEv M d pc ls st h Q ↔ zEv M d pc' ls st' h Q := by
  rw [zEv_step hd (zChk_l hf)]
  have e : ∀ n, zStep (zRun n) M d pc ls st h i len = zRun n M d pc' ls st' h := fun n => by
    unfold zStep
    rw [zChk_f hf, hp]
    rfl
  simp only [e]
  exact Iff.rfl
theorem zEv_hp {pc' : Nat} (hd : decode (mCode M) pc = .ok (i, len)) (hf : zChk (mCls M) i len 2 = true) (hn : pc + len = pc') {h' : zHp} {st' : List zAv} (hp : zHeap (mCls M) (mIni M) i st h = some (st', h')) : zEv M d pc ls st h Q ↔ zEv M d pc' ls st' h' Q := by
  subst hn
  rw [zEv_step hd (zChk_l hf)]
  have e : ∀ n, zStep (zRun n) M d pc ls st h i len = zRun n M d (pc + len) ls st' h' := fun n => by
    unfold zStep
    rw [zChk_f hf, hp]
    rfl
  simp only [e]
  exact Iff.rfl
theorem zEv_vm (hd : decode (mCode M) pc = .ok (i, len)) (hf : zChk (mCls M) i len 2 = true) {E : Nat} (hp : zHeap (mCls M) (mIni M) i st h = none) (hv : zVm (mCls M) i st h = some E) : zEv M d pc ls st h Q ↔ zTh M d pc ls (gTick h 3 400) E none Q := by
  rw [zEv_step hd (zChk_l hf)]
  have e : ∀ n, zStep (zRun n) M d pc ls st h i len = zThrow (zRun n) M d pc ls (gTick h 3 400) E none := fun n => by
    unfold zStep
    rw [zChk_f hf, hp, hv]
    rfl
  simp only [e]
  exact Iff.rfl
theorem zEv_ret (hd : decode (mCode M) pc = .ok (i, len)) (hf : zChk (mCls M) i len 4 = true) {v : Option zAv} (hp : zRet M i st = some v) : zEv M d pc ls st h Q ↔ Q (.inl v, h) := by
  rw [zEv_step hd (zChk_l hf)]
  have e : ∀ n, zStep (zRun n) M d pc ls st h i len = some (.inl v, h) := fun n => by
    unfold zStep
    rw [zChk_f hf, hp]
    rfl
  simp only [e]
  constructor
  · rintro ⟨n, r, a, b⟩
    cases a
    exact b
  · intro b
    exact ⟨0, _, rfl, b⟩
theorem zEv_athrow (hd : decode (mCode M) pc = .ok (.athrow, len)) (hl : zLenOk .athrow len = true) {a : Nat} {r : List zAv} (h1 : zkc ≤ a) (h2 : (gK h a).1 = 0) (h3 : zExc (gK h a).2 = true) : zEv M d pc ls (.inr (.inr (some a)) :: r) h Q ↔ zTh M d pc ls h (gK h a).2 (some a) Q := by
  rw [zEv_step hd hl]
  have e : ∀ n, zStep (zRun n) M d pc ls (.inr (.inr (some a)) :: r) h .athrow len = zThrow (zRun n) M d pc ls h (gK h a).2 (some a) := fun n => by
    unfold zStep
    exact if_pos ⟨h1, h2, h3⟩
  simp only [e]
  exact Iff.rfl
theorem zEv_call {pc' : Nat} (hd : decode (mCode M) pc = .ok (i, len)) (hf : zChk (mCls M) i len 3 = true) {N : zMi} {d' : Nat} {as r : List zAv} (hc : zCallee (mCls M) d i st h = some (N, d', as, r)) (hr : zRank N d' < zRank M d) (hw : zWt r ≤ 8) (ha : (zEnt as).length ≤ mLoc N) (hn : pc + 3 = pc') : zEv M d pc ls st h Q ↔ zCm N d' as h (zPo M d pc pc' ls r Q) := by
  subst hn
  rw [zEv_step hd (zChk_l hf)]
  have e : ∀ n, zStep (zRun n) M d pc ls st h i len = (match zRun n N d' 0 (zPad (mLoc N) (zEnt as)) [] h with
      | some q => zAfter (zRun n) M d pc ls r q
      | none => none) := fun n => by
    unfold zStep
    rw [zChk_f hf, hc]
    exact if_pos ⟨hr, hw, ha⟩
  simp only [e]
  constructor
  · rintro ⟨n, q, a, b⟩
    cases e9 : zRun n N d' 0 (zPad (mLoc N) (zEnt as)) [] h with
    | none => rw [e9] at a; cases a
    | some q9 =>
      rw [e9] at a
      refine ⟨n, q9, e9, ?_⟩
      obtain ⟨o, h9⟩ := q9
      rcases o with (_ | v) | ⟨E, x⟩
      · exact ⟨n, q, a, b⟩
      · exact ⟨n, q, a, b⟩
      · exact ⟨n, q, a, b⟩
  · rintro ⟨n, q9, e9, b⟩
    have key : ∃ m q, zAfter (zRun m) M d pc ls r q9 = some q ∧ Q q := by
      obtain ⟨o, h9⟩ := q9
      rcases o with (_ | v) | ⟨E, x⟩
      · exact b
      · exact b
      · exact b
    obtain ⟨m, q, a, b⟩ := key
    refine ⟨max n m, q, ?_, b⟩
    rw [zRun_le (Nat.le_max_left n m) _ _ _ _ _ _ _ e9]
    exact zAfter_le (zRun_le (Nat.le_max_right n m)) a
/-- no handler: out -/
theorem zTh_out {E : Nat} {a : Option Nat} (hn : zHand (mCls M) pc E (mHnd M) = none) : zTh M d pc ls h E a Q ↔ Q (zRt E a h) := by
  have e : ∀ n, zThrow (zRun n) M d pc ls h E a = some (zRt E a h) := fun n => by
    unfold zThrow
    rw [hn]
  unfold zTh
  simp only [e]
  constructor
  · rintro ⟨n, r, a, b⟩
    cases a
    exact b
  · intro b
    exact ⟨0, _, rfl, b⟩
/-- a handler that begins with astore -/
theorem zTh_in {E t x len : Nat} {a : Option Nat} (hn : zHand (mCls M) pc E (mHnd M) = some t) (hd : decode (mCode M) t = .ok (.astore x, len)) (hx : x < ls.length ∧ len = 2) : zTh M d pc ls h E a Q ↔ zEv M d (t + len) (zSet1 ls x (a.map fun b => .inr (.inr (some b)))) [] h Q := by
  have e : ∀ n, zThrow (zRun n) M d pc ls h E a = zRun n M d (t + len) (zSet1 ls x (a.map fun b => .inr (.inr (some b)))) [] h := fun n => by
    unfold zThrow
    rw [hn]
    show (match decode (mCode M) t with
      | .ok (.astore_n x, len) => _
      | .ok (.astore x, len) => _
      | _ => _) = _
    rw [hd]
    exact if_pos hx
  unfold zTh
  simp only [e]
  exact Iff.rfl
theorem zTh_inN {E t len : Nat} {x : Fin 4} {a : Option Nat} (hn : zHand (mCls M) pc E (mHnd M) = some t) (hd : decode (mCode M) t = .ok (.astore_n x, len)) (hx : x.val < ls.length ∧ len = 1) : zTh M d pc ls h E a Q ↔ zEv M d (t + len) (zSet1 ls x.val (a.map fun b => .inr (.inr (some b)))) [] h Q := by
  have e : ∀ n, zThrow (zRun n) M d pc ls h E a = zRun n M d (t + len) (zSet1 ls x.val (a.map fun b => .inr (.inr (some b)))) [] h := fun n => by
    unfold zThrow
    rw [hn]
    show (match decode (mCode M) t with
      | .ok (.astore_n x, len) => _
      | .ok (.astore x, len) => _
      | _ => _) = _
    rw [hd]
    exact if_pos hx
  unfold zTh
  simp only [e]
  exact Iff.rfl
/-! rows for the printed lemmas -/
theorem zEv_ifc {c : ClassFile.Cond} {off : Int} {t : Nat} {x : Int} (hd : decode (mCode M) pc = .ok (.ifCond c off, 3)) (ht : zTgt pc off = some t) : zEv M d pc ls (.inl x :: st) h Q ↔ zEv M d (if zCnd c x 0 = true then t else pc + 3) ls st h Q :=
  zEv_br hd rfl (by show (match zTgt pc off, Sum.inl x :: st with
    | some t, .inl x :: r => some (if zCnd c x 0 = true then t else pc + 3, r)
    | _, _ => none) = _; rw [ht])
theorem zEv_icc {c : ClassFile.Cond} {off : Int} {t : Nat} {x y : Int} (hd : decode (mCode M) pc = .ok (.if_icmp c off, 3)) (ht : zTgt pc off = some t) : zEv M d pc ls (.inl y :: .inl x :: st) h Q ↔ zEv M d (if zCnd c x y = true then t else pc + 3) ls st h Q :=
  zEv_br hd rfl (by show (match zTgt pc off, Sum.inl y :: Sum.inl x :: st with
    | some t, .inl y :: .inl x :: r => some (if zCnd c x y = true then t else pc + 3, r)
    | _, _ => none) = _; rw [ht])
theorem zIf_t {c : Prop} [Decidable c] {b : Bool} {t n : Nat} (e : b = decide c) : zEv M d (if b = true then t else n) ls st h Q ↔ if c then zEv M d t ls st h Q else zEv M d n ls st h Q := by
  subst e
  by_cases hc : c <;> simp [hc]
theorem zEv_if_eq {off : Int} {t n : Nat} {x : Int} (hd : decode (mCode M) pc = .ok (.ifCond .eq off, 3)) (ht : zTgt pc off = some t) (hn : pc + 3 = n) : zEv M d pc ls (.inl x :: st) h Q ↔ if x = 0 then zEv M d t ls st h Q else zEv M d n ls st h Q := by
  subst hn
  exact (zEv_ifc hd ht).trans (zIf_t rfl)
theorem zEv_ic_eq {off : Int} {t n : Nat} {x y : Int} (hd : decode (mCode M) pc = .ok (.if_icmp .eq off, 3)) (ht : zTgt pc off = some t) (hn : pc + 3 = n) : zEv M d pc ls (.inl y :: .inl x :: st) h Q ↔ if x = y then zEv M d t ls st h Q else zEv M d n ls st h Q := by
  subst hn
  exact (zEv_icc hd ht).trans (zIf_t rfl)
theorem zEv_if_ne {off : Int} {t n : Nat} {x : Int} (hd : decode (mCode M) pc = .ok (.ifCond .ne off, 3)) (ht : zTgt pc off = some t) (hn : pc + 3 = n) : zEv M d pc ls (.inl x :: st) h Q ↔ if ¬ x = 0 then zEv M d t ls st h Q else zEv M d n ls st h Q := by
  subst hn
  exact (zEv_ifc hd ht).trans (zIf_t (by simp [zCnd]))
theorem zEv_ic_ne {off : Int} {t n : Nat} {x y : Int} (hd : decode (mCode M) pc = .ok (.if_icmp .ne off, 3)) (ht : zTgt pc off = some t) (hn : pc + 3 = n) : zEv M d pc ls (.inl y :: .inl x :: st) h Q ↔ if ¬ x = y then zEv M d t ls st h Q else zEv M d n ls st h Q := by
  subst hn
  exact (zEv_icc hd ht).trans (zIf_t (by simp [zCnd]))
theorem zEv_if_lt {off : Int} {t n : Nat} {x : Int} (hd : decode (mCode M) pc = .ok (.ifCond .lt off, 3)) (ht : zTgt pc off = some t) (hn : pc + 3 = n) : zEv M d pc ls (.inl x :: st) h Q ↔ if x < 0 then zEv M d t ls st h Q else zEv M d n ls st h Q := by
  subst hn
  exact (zEv_ifc hd ht).trans (zIf_t rfl)
theorem zEv_ic_lt {off : Int} {t n : Nat} {x y : Int} (hd : decode (mCode M) pc = .ok (.if_icmp .lt off, 3)) (ht : zTgt pc off = some t) (hn : pc + 3 = n) : zEv M d pc ls (.inl y :: .inl x :: st) h Q ↔ if x < y then zEv M d t ls st h Q else zEv M d n ls st h Q := by
  subst hn
  exact (zEv_icc hd ht).trans (zIf_t rfl)
theorem zEv_if_ge {off : Int} {t n : Nat} {x : Int} (hd : decode (mCode M) pc = .ok (.ifCond .ge off, 3)) (ht : zTgt pc off = some t) (hn : pc + 3 = n) : zEv M d pc ls (.inl x :: st) h Q ↔ if 0 ≤ x then zEv M d t ls st h Q else zEv M d n ls st h Q := by
  subst hn
  exact (zEv_ifc hd ht).trans (zIf_t rfl)
theorem zEv_ic_ge {off : Int} {t n : Nat} {x y : Int} (hd : decode (mCode M) pc = .ok (.if_icmp .ge off, 3)) (ht : zTgt pc off = some t) (hn : pc + 3 = n) : zEv M d pc ls (.inl y :: .inl x :: st) h Q ↔ if y ≤ x then zEv M d t ls st h Q else zEv M d n ls st h Q := by
  subst hn
  exact (zEv_icc hd ht).trans (zIf_t rfl)
theorem zEv_if_gt {off : Int} {t n : Nat} {x : Int} (hd : decode (mCode M) pc = .ok (.ifCond .gt off, 3)) (ht : zTgt pc off = some t) (hn : pc + 3 = n) : zEv M d pc ls (.inl x :: st) h Q ↔ if 0 < x then zEv M d t ls st h Q else zEv M d n ls st h Q := by
  subst hn
  exact (zEv_ifc hd ht).trans (zIf_t rfl)
theorem zEv_ic_gt {off : Int} {t n : Nat} {x y : Int} (hd : decode (mCode M) pc = .ok (.if_icmp .gt off, 3)) (ht : zTgt pc off = some t) (hn : pc + 3 = n) : zEv M d pc ls (.inl y :: .inl x :: st) h Q ↔ if y < x then zEv M d t ls st h Q else zEv M d n ls st h Q := by
  subst hn
  exact (zEv_icc hd ht).trans (zIf_t rfl)
theorem zEv_if_le {off : Int} {t n : Nat} {x : Int} (hd : decode (mCode M) pc = .ok (.ifCond .le off, 3)) (ht : zTgt pc off = some t) (hn : pc + 3 = n) : zEv M d pc ls (.inl x :: st) h Q ↔ if x ≤ 0 then zEv M d t ls st h Q else zEv M d n ls st h Q := by
  subst hn
  exact (zEv_ifc hd ht).trans (zIf_t rfl)
theorem zEv_ic_le {off : Int} {t n : Nat} {x y : Int} (hd : decode (mCode M) pc = .ok (.if_icmp .le off, 3)) (ht : zTgt pc off = some t) (hn : pc + 3 = n) : zEv M d pc ls (.inl y :: .inl x :: st) h Q ↔ if x ≤ y then zEv M d t ls st h Q else zEv M d n ls st h Q := by
  subst hn
  exact (zEv_icc hd ht).trans (zIf_t rfl)
theorem zHp_get {C x a j ty c : Nat} {fin ini : Bool} {r : List zAv} (hk : gK h a = (0, c)) (hf : zFld C x c = some (j, ty, fin)) : zHeap C ini (.getfield x) (.inr (.inr (some a)) :: r) h = some (zFVal ty h a j :: r, h) := by
  show (if (gK h a).1 = 0 then (match zFld C x (gK h a).2 with
        | some q => some (zFVal q.2.1 h a q.1 :: r, h)
        | none => none) else none) = _
  rw [hk]
  show (match zFld C x c with
        | some q => some (zFVal q.2.1 h a q.1 :: r, h)
        | none => none) = _
  rw [hf]
theorem zHp_put {C x a j ty c : Nat} {fin ini : Bool} {r : List zAv} {v : zAv} {h' : zHp} (hk : gK h a = (0, c)) (hm : 65 ≤ a) (hf : zFld C x c = some (j, ty, fin)) (hi : fin = true → ini = true) (hp : zPutF ty h a j v = some h') : zHeap C ini (.putfield x) (v :: .inr (.inr (some a)) :: r) h = some (r, h') := by
  show (if (gK h a).1 = 0 ∧ zkc ≤ a then (match zFld C x (gK h a).2 with
        | some q => if q.2.2 = true → ini = true then (match zPutF q.2.1 h a q.1 v with
          | some h' => some (r, h')
          | none => none) else none
        | none => none) else none) = _
  rw [hk, if_pos ⟨rfl, hm⟩]
  show (match zFld C x c with
        | some q => if q.2.2 = true → ini = true then (match zPutF q.2.1 h a q.1 v with
          | some h' => some (r, h')
          | none => none) else none
        | none => none) = _
  rw [hf]
  show (if fin = true → ini = true then (match zPutF ty h a j v with
          | some h' => some (r, h')
          | none => none) else none) = _
  rw [if_pos hi, hp]
theorem zHp_cast {C x a t : Nat} {ini : Bool} {r : List zAv} (hm : 65 ≤ a) (ht : zTyp C x = some t) (hk : (gK h a).1 = t) : zHeap C ini (.checkcast x) (.inr (.inr (some a)) :: r) h = some (.inr (.inr (some a)) :: r, h) := by
  show (if zkc ≤ a then (match zTyp C x with
        | some t => if (gK h a).1 = t then some (.inr (.inr (some a)) :: r, h) else none
        | none => none) else none) = _
  rw [if_pos hm, ht]
  exact if_pos hk
theorem zCallV {C x n c w : Nat} {s0 as r : List zAv} {a : Nat} {N : zMi} (hA : zInvA C x = some n) (ht : zTake n s0 [] = some (as, .inr (.inr (some a)) :: r)) (hk : gK h a = (0, c)) (hv : zInvV C x c = some (N, w)) (hd : w ≤ d) : zCallee C d (.invokevirtual x) s0 h = some (N, d - w, .inr (.inr (some a)) :: as, r) := by
  show (match zInvA C x with
    | some n => match zTake n s0 [] with
      | some (as, .inr (.inr (some a)) :: r) => if (gK h a).1 = 0 then (match zInvV C x (gK h a).2 with
          | some q => if q.2 ≤ d then some (q.1, d - q.2, zr (some a) :: as, r) else none
          | none => none) else none
      | _ => none
    | none => none) = _
  rw [hA]
  show (match zTake n s0 [] with
      | some (as, .inr (.inr (some a)) :: r) => if (gK h a).1 = 0 then (match zInvV C x (gK h a).2 with
          | some q => if q.2 ≤ d then some (q.1, d - q.2, zr (some a) :: as, r) else none
          | none => none) else none
      | _ => none) = _
  rw [ht]
  show (if (gK h a).1 = 0 then (match zInvV C x (gK h a).2 with
          | some q => if q.2 ≤ d then some (q.1, d - q.2, zr (some a) :: as, r) else none
          | none => none) else none) = _
  rw [hk]
  show (match zInvV C x c with
          | some q => if q.2 ≤ d then some (q.1, d - q.2, zr (some a) :: as, r) else none
          | none => none) = _
  rw [hv]
  exact if_pos hd
theorem zRk_lt {a b d : Nat} (h : Nat.blt a b = true) : a + 64 * d < b + 64 * d := Nat.add_lt_add_right (Nat.le_of_ble_eq_true h) _
theorem zRk_rec {a b d : Nat} (h : Nat.blt a 64 = true) : a + 64 * d < b + 64 * (d + 1) := by
  have : a < 64 := Nat.le_of_ble_eq_true h
  omega
end ZE
