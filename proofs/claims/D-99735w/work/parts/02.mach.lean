/-! A MACHINE OF CONDITIONS: what must hold for a method's walk over a world of known shape to come to its end with a wanted answer; its soundness over W is proved once -/
/-- abstract values: an int, a long, a reference to a cell by its place (none: null) -/
abbrev AV : Type := Int ⊕ Int ⊕ Option Nat
abbrev ai (x : Int) : AV := .inl x
abbrev al (x : Int) : AV := .inr (.inl x)
abbrev ar (k : Nat) : AV := .inr (.inr (some k))
abbrev an : AV := .inr (.inr none)
/-- memory: by cell and place; scalars, elements, references (as cells, -1: null) -/
abbrev Mm : Type := Nat → Nat → Int
abbrev LV : Type := List (Nat × AV)
abbrev i32 (x : Int) : Prop := -2147483648 ≤ x ∧ x ≤ 2147483647
abbrev i64 (x : Int) : Prop := -9223372036854775808 ≤ x ∧ x ≤ 9223372036854775807
def up2 (M : Mm) (k j : Nat) (x : Int) : Mm := fun k' j' => if k' = k ∧ j' = j then x else M k' j'
def isL : AV → Bool
  | .inr (.inl _) => true
  | _ => false
def lk (k : Nat) : LV → Option AV
  | [] => none
  | (j, v) :: r => if j = k then some v else lk k r
def rm1 (k : Nat) : LV → LV
  | [] => []
  | (j, v) :: r => if j = k ∨ (j + 1 = k ∧ isL v = true) then rm1 k r else (j, v) :: rm1 k r
def rm2 (k : Nat) : LV → LV
  | [] => []
  | (j, v) :: r => if j = k ∨ j = k + 1 ∨ (j + 1 = k ∧ isL v = true) then rm2 k r else (j, v) :: rm2 k r
def pj : List Nat → LV → Option (List AV)
  | [], _ => some []
  | k :: ks, l => match lk k l, pj ks l with
    | some v, some vs => some (v :: vs)
    | _, _ => none
/-- shapes: an object (its class, its fields' kinds: 0 int, 1 long, 2 reference by memory, c+3 the cell c), an array (its type's place, its length) -/
abbrev SC : Type := (Nat × List Nat) ⊕ (Nat × Nat)
def fval (kind : Nat) (x : Int) : AV := match kind with
  | 0 => .inl x
  | 1 => .inr (.inl x)
  | 2 => if x < 0 then .inr (.inr none) else .inr (.inr (some x.toNat))
  | c + 3 => .inr (.inr (some c))
abbrev K0 : Type := LV → List AV → Mm → Prop
abbrev Spec : Type := List AV → Mm → (Option AV → Mm → Prop) → Prop
def cnd : Jvm.ClassFile.Cond → Int → Int → Prop
  | .eq, x, y => x = y
  | .ne, x, y => x ≠ y
  | .lt, x, y => x < y
  | .ge, x, y => y ≤ x
  | .gt, x, y => y < x
  | .le, x, y => x ≤ y
def lcm3 (x y : Int) : Int := if x < y then -1 else if x = y then 0 else 1
def bshl (x y : Int) : Int := (Int32.ofInt x <<< (Int32.ofInt y &&& 31)).toInt
def bshr (x y : Int) : Int := (Int32.ofInt x >>> (Int32.ofInt y &&& 31)).toInt
def bushr (x y : Int) : Int := ((Int32.ofInt x).toUInt32 >>> ((Int32.ofInt y).toUInt32 &&& Int32.toUInt32 31)).toInt32.toInt
def bor (x y : Int) : Int := (Int32.ofInt x ||| Int32.ofInt y).toInt
def band (x y : Int) : Int := (Int32.ofInt x &&& Int32.ofInt y).toInt
def bxor (x y : Int) : Int := (Int32.ofInt x ^^^ Int32.ofInt y).toInt
/-- a class's tables: fields by pool index (class, place), writable ones, ints, longs, calls by pool index (values taken, what they do) -/
abbrev TB : Type := (Nat → Option (Nat × Nat)) × (Nat → Option (Nat × Nat)) × (Nat → Option Int) × (Nat → Option Int) × (Nat → Option (Nat × Nat × Spec))
def allJ (x : Int) (jmp : Int → Prop) : Int → List Int → Prop
  | _, [] => True
  | lo, o :: r => (x = lo → jmp o) ∧ allJ x jmp (lo + 1) r
def aread (sh : List SC) (k : Nat) (t : Nat) (i : Int) (kk : Prop) : Prop := match sh[k]? with
  | some (.inr (t', n)) => if t' = t then (0 ≤ i ∧ i < n) ∧ kk else False
  | _ => False
/-- one instruction -/
def sem (tb : TB) (sh : List SC) (nL : Nat) (rt : Nat) (i : Instr) (nxt : K0) (jmp : Int → K0) (ret : Option AV → Mm → Prop) : K0 := fun lv st M => match i, st with
  | .iconst n, st => if -128 ≤ n ∧ n ≤ 127 then nxt lv (.inl n :: st) M else False
  | .bipush n, st => if -128 ≤ n ∧ n ≤ 127 then nxt lv (.inl n :: st) M else False
  | .sipush n, st => if -32768 ≤ n ∧ n ≤ 32767 then nxt lv (.inl n :: st) M else False
  | .lconst n, st => nxt lv (.inr (.inl (n.val : Int)) :: st) M
  | .ldc x, st => match tb.2.2.1 x with
    | some v => nxt lv (.inl v :: st) M
    | none => False
  | .ldc_w x, st => match tb.2.2.1 x with
    | some v => nxt lv (.inl v :: st) M
    | none => False
  | .ldc2_w x, st => match tb.2.2.2.1 x with
    | some v => nxt lv (.inr (.inl v) :: st) M
    | none => False
  | .iload_n k, st => match lk k.val lv with
    | some (.inl x) => nxt lv (.inl x :: st) M
    | _ => False
  | .iload k, st => match lk k lv with
    | some (.inl x) => nxt lv (.inl x :: st) M
    | _ => False
  | .lload_n k, st => match lk k.val lv with
    | some (.inr (.inl x)) => nxt lv (.inr (.inl x) :: st) M
    | _ => False
  | .lload k, st => match lk k lv with
    | some (.inr (.inl x)) => nxt lv (.inr (.inl x) :: st) M
    | _ => False
  | .aload_n k, st => match lk k.val lv with
    | some (.inr (.inr (some x))) => nxt lv (.inr (.inr (some x)) :: st) M
    | _ => False
  | .aload k, st => match lk k lv with
    | some (.inr (.inr (some x))) => nxt lv (.inr (.inr (some x)) :: st) M
    | _ => False
  | .istore_n k, .inl x :: st => if k.val < nL then nxt ((k.val, .inl x) :: rm1 k.val lv) st M else False
  | .istore k, .inl x :: st => if k < nL then nxt ((k, .inl x) :: rm1 k lv) st M else False
  | .astore_n k, .inr (.inr (some x)) :: st => if k.val < nL then nxt ((k.val, .inr (.inr (some x))) :: rm1 k.val lv) st M else False
  | .astore k, .inr (.inr (some x)) :: st => if k < nL then nxt ((k, .inr (.inr (some x))) :: rm1 k lv) st M else False
  | .lstore_n k, .inr (.inl x) :: st => if k.val + 1 < nL then nxt ((k.val, .inr (.inl x)) :: rm2 k.val lv) st M else False
  | .lstore k, .inr (.inl x) :: st => if k + 1 < nL then nxt ((k, .inr (.inl x)) :: rm2 k lv) st M else False
  | .iinc k n, st => match lk k lv with
    | some (.inl x) => if k < nL then i32 (x + n) ∧ nxt ((k, .inl (x + n)) :: rm1 k lv) st M else False
    | _ => False
  | .iadd, .inl y :: .inl x :: st => i32 (x + y) ∧ nxt lv (.inl (x + y) :: st) M
  | .isub, .inl y :: .inl x :: st => i32 (x - y) ∧ nxt lv (.inl (x - y) :: st) M
  | .imul, .inl y :: .inl x :: st => i32 (x * y) ∧ nxt lv (.inl (x * y) :: st) M
  | .idiv, .inl y :: .inl x :: st => (y ≠ 0 ∧ i32 (x.tdiv y)) ∧ nxt lv (.inl (x.tdiv y) :: st) M
  | .irem, .inl y :: .inl x :: st => (y ≠ 0 ∧ i32 (x.tdiv y)) ∧ nxt lv (.inl (x.tmod y) :: st) M
  | .ineg, .inl x :: st => i32 (-x) ∧ nxt lv (.inl (-x) :: st) M
  | .iand, .inl y :: .inl x :: st => nxt lv (.inl (band x y) :: st) M
  | .ior, .inl y :: .inl x :: st => nxt lv (.inl (bor x y) :: st) M
  | .ixor, .inl y :: .inl x :: st => nxt lv (.inl (bxor x y) :: st) M
  | .ishl, .inl y :: .inl x :: st => nxt lv (.inl (bshl x y) :: st) M
  | .ishr, .inl y :: .inl x :: st => nxt lv (.inl (bshr x y) :: st) M
  | .iushr, .inl y :: .inl x :: st => nxt lv (.inl (bushr x y) :: st) M
  | .ladd, .inr (.inl y) :: .inr (.inl x) :: st => i64 (x + y) ∧ nxt lv (.inr (.inl (x + y)) :: st) M
  | .lsub, .inr (.inl y) :: .inr (.inl x) :: st => i64 (x - y) ∧ nxt lv (.inr (.inl (x - y)) :: st) M
  | .lmul, .inr (.inl y) :: .inr (.inl x) :: st => i64 (x * y) ∧ nxt lv (.inr (.inl (x * y)) :: st) M
  | .ldiv, .inr (.inl y) :: .inr (.inl x) :: st => (y ≠ 0 ∧ i64 (x.tdiv y)) ∧ nxt lv (.inr (.inl (x.tdiv y)) :: st) M
  | .lrem, .inr (.inl y) :: .inr (.inl x) :: st => (y ≠ 0 ∧ i64 (x.tdiv y)) ∧ nxt lv (.inr (.inl (x.tmod y)) :: st) M
  | .lneg, .inr (.inl x) :: st => i64 (-x) ∧ nxt lv (.inr (.inl (-x)) :: st) M
  | .lcmp, .inr (.inl y) :: .inr (.inl x) :: st => nxt lv (.inl (lcm3 x y) :: st) M
  | .i2l, .inl x :: st => nxt lv (.inr (.inl x) :: st) M
  | .l2i, .inr (.inl x) :: st => nxt lv (.inl (x.bmod 4294967296) :: st) M
  | .i2b, .inl x :: st => nxt lv (.inl (x.bmod 256) :: st) M
  | .i2s, .inl x :: st => nxt lv (.inl (x.bmod 65536) :: st) M
  | .dup, v :: st => if isL v = false then nxt lv (v :: v :: st) M else False
  | .pop, v :: st => if isL v = false then nxt lv st M else False
  | .dup2, v :: st => if isL v = true then nxt lv (v :: v :: st) M else match st with
    | w :: st => if isL w = false then nxt lv (v :: w :: v :: w :: st) M else False
    | _ => False
  | .ifCond cd off, .inl x :: st => (cnd cd x 0 → jmp off lv st M) ∧ (¬ cnd cd x 0 → nxt lv st M)
  | .if_icmp cd off, .inl y :: .inl x :: st => (cnd cd x y → jmp off lv st M) ∧ (¬ cnd cd x y → nxt lv st M)
  | .goto off, st => jmp off lv st M
  | .tableswitch d lo hi offs, .inl x :: st => ((x < lo ∨ hi < x) → jmp d lv st M) ∧ allJ x (fun o => jmp o lv st M) lo offs.toList
  | .getfield x, .inr (.inr (some k)) :: st => match tb.1 x, sh[k]? with
    | some (ci, f), some (.inl (ci', fks)) => if ci' = ci then (match fks[f]? with
      | some kd => nxt lv (fval kd (M k f) :: st) M
      | none => False) else False
    | _, _ => False
  | .putfield x, v :: .inr (.inr (some k)) :: st => match tb.2.1 x, sh[k]? with
    | some (ci, f), some (.inl (ci', fks)) => if ci' = ci then (match fks[f]?, v with
      | some 0, .inl x => nxt lv st (up2 M k f x)
      | some 1, .inr (.inl x) => nxt lv st (up2 M k f x)
      | some 2, .inr (.inr (some c)) => nxt lv st (up2 M k f c)
      | _, _ => False) else False
    | _, _ => False
  | .iaload, .inl i :: .inr (.inr (some k)) :: st => aread sh k 0 i (nxt lv (.inl (M k i.toNat) :: st) M)
  | .laload, .inl i :: .inr (.inr (some k)) :: st => aread sh k 1 i (nxt lv (.inr (.inl (M k i.toNat)) :: st) M)
  | .baload, .inl i :: .inr (.inr (some k)) :: st => match sh[k]? with
    | some (.inr (2, n)) => (0 ≤ i ∧ i < n) ∧ nxt lv (.inl (M k i.toNat) :: st) M
    | some (.inr (3, n)) => (0 ≤ i ∧ i < n) ∧ nxt lv (.inl (M k i.toNat) :: st) M
    | _ => False
  | .aaload, .inl i :: .inr (.inr (some k)) :: st => match sh[k]? with
    | some (.inr (t + 5, n)) => (0 ≤ i ∧ i < n) ∧ nxt lv (fval 2 (M k i.toNat) :: st) M
    | _ => False
  | .iastore, .inl x :: .inl i :: .inr (.inr (some k)) :: st => aread sh k 0 i (nxt lv st (up2 M k i.toNat x))
  | .lastore, .inr (.inl x) :: .inl i :: .inr (.inr (some k)) :: st => aread sh k 1 i (nxt lv st (up2 M k i.toNat x))
  | .bastore, .inl x :: .inl i :: .inr (.inr (some k)) :: st => match sh[k]? with
    | some (.inr (2, n)) => (0 ≤ i ∧ i < n) ∧ (-128 ≤ x ∧ x ≤ 127) ∧ nxt lv st (up2 M k i.toNat x)
    | some (.inr (3, n)) => (0 ≤ i ∧ i < n) ∧ (0 ≤ x ∧ x ≤ 1) ∧ nxt lv st (up2 M k i.toNat x)
    | _ => False
  | .arraylength, .inr (.inr (some k)) :: st => match sh[k]? with
    | some (.inr (_, n)) => if n ≤ 65536 then nxt lv (.inl (n : Int) :: st) M else False
    | _ => False
  | .invokevirtual x, st => match tb.2.2.2.2 x with
    | some (vt, n, sp) => if vt = 1 then (if (st.drop n).length ≤ 4 then sp (st.take n).reverse M (fun r M' => nxt lv (r.toList ++ st.drop n) M') else False) else False
    | none => False
  | .invokestatic x, st => match tb.2.2.2.2 x with
    | some (vt, n, sp) => if vt = 0 then (if (st.drop n).length ≤ 4 then sp (st.take n).reverse M (fun r M' => nxt lv (r.toList ++ st.drop n) M') else False) else False
    | none => False
  | .invokespecial x, st => match tb.2.2.2.2 x with
    | some (vt, n, sp) => if vt = 2 then (if (st.drop n).length ≤ 4 then sp (st.take n).reverse M (fun r M' => nxt lv (r.toList ++ st.drop n) M') else False) else False
    | none => False
  | .ireturn, [.inl x] => match rt with
    | 1 => ret (some (.inl x)) M
    | 2 => (x = 0 ∨ x = 1) ∧ ret (some (.inl x)) M
    | _ => False
  | .lreturn, [.inr (.inl x)] => if rt = 3 then ret (some (.inr (.inl x))) M else False
  | .return_, [] => if rt = 0 then ret none M else False
  | _, _ => False
/-- places where a walk stops: pc, the locals that live there, what must hold of them -/
abbrev CUT : Type := List (Nat × List Nat × (List AV → Mm → Prop))
def ctP (o : Option (List AV)) (I : List AV → Mm → Prop) (M : Mm) : Prop := match o with
  | some vs => I vs M
  | none => False
def ctS (ks : List Nat) (I : List AV → Mm → Prop) (lv : LV) (st : List AV) (M : Mm) : Prop := match st with
  | [] => ctP (pj ks lv) I M
  | _ => False
def mgo (cut : CUT) (w : Nat → K0) (pc : Nat) : K0 := fun lv st M => match cut with
  | [] => w pc lv st M
  | (p, ks, I) :: r => if pc = p then ctS ks I lv st M else mgo r w pc lv st M
/-- an instruction's length, where it is one of the machine's; its jumps stay within the code's numbers -/
def iok (pc : Nat) (i : Instr) (len : Nat) : Bool := match i with
  | .bipush _ | .ldc _ | .iload _ | .lload _ | .aload _ | .istore _ | .lstore _ | .astore _ => len == 2
  | .sipush _ | .ldc_w _ | .ldc2_w _ | .iinc _ _ | .getfield _ | .putfield _ | .invokevirtual _ | .invokestatic _ | .invokespecial _ => len == 3
  | .ifCond _ off | .if_icmp _ off | .goto off => len == 3 && decide (0 ≤ (pc : Int) + off)
  | .tableswitch d lo hi offs => decide ((offs.size : Int) = hi - lo + 1) && (decide (0 ≤ (pc : Int) + d) && offs.toList.all (fun o => decide (0 ≤ (pc : Int) + o)))
  | _ => len == 1
def wp (tb : TB) (sh : List SC) (nL rt : Nat) (cc : ByteArray) (cut : CUT) (ret : Option AV → Mm → Prop) : Nat → Nat → K0
  | 0, _ => fun _ _ _ => False
  | n + 1, pc => fun lv st M => match decode cc pc with
    | .ok (i, len) => if iok pc i len = true then sem tb sh nL rt i (mgo cut (wp tb sh nL rt cc cut ret n) (pc + len)) (fun off => mgo cut (wp tb sh nL rt cc cut ret n) ((pc : Int) + off).toNat) ret lv st M else False
    | .error _ => False
