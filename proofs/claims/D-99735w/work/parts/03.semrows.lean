def ldI (o : Option AV) (f : Int → Prop) : Prop := match o with
  | some (.inl x) => f x
  | _ => False
def ldL (o : Option AV) (f : Int → Prop) : Prop := match o with
  | some (.inr (.inl x)) => f x
  | _ => False
def ldR (o : Option AV) (f : Nat → Prop) : Prop := match o with
  | some (.inr (.inr (some x))) => f x
  | _ => False
def clO (o : Option (Nat × Nat × Spec)) (b : Nat) (st : List AV) (f : Nat → Spec → Prop) : Prop := match o with
  | some (vt, n, sp) => if vt = b then (if (st.drop n).length ≤ 4 then f n sp else False) else False
  | none => False
theorem ldI_s {x : Int} {f : Int → Prop} : ldI (some (ai x)) f = f x := rfl
theorem ldL_s {x : Int} {f : Int → Prop} : ldL (some (al x)) f = f x := rfl
theorem ldR_s {x : Nat} {f : Nat → Prop} : ldR (some (ar x)) f = f x := rfl
theorem clO_s {n : Nat} {b : Nat} {sp : Spec} {st : List AV} {f : Nat → Spec → Prop} : clO (some (b, n, sp)) b st f = if (st.drop n).length ≤ 4 then f n sp else False := by simp only [clO, if_true]
theorem ctP_s {vs : List AV} {I : List AV → Mm → Prop} {M : Mm} : ctP (some vs) I M = I vs M := rfl
theorem ctS_s {ks : List Nat} {I : List AV → Mm → Prop} {lv : LV} {M : Mm} : ctS ks I lv [] M = ctP (pj ks lv) I M := rfl
theorem mgo_0 {w : Nat → K0} {pc : Nat} {lv : LV} {st : List AV} {M : Mm} : mgo [] w pc lv st M = w pc lv st M := rfl
theorem mgo_s {cut : CUT} {w : Nat → K0} {pc p : Nat} {ks : List Nat} {I : List AV → Mm → Prop} {lv : LV} {st : List AV} {M : Mm} : mgo ((p, ks, I) :: cut) w pc lv st M = if pc = p then ctS ks I lv st M else mgo cut w pc lv st M := rfl
def pjc (o : Option AV) (q : Option (List AV)) : Option (List AV) := match o, q with
  | some v, some vs => some (v :: vs)
  | _, _ => none
theorem pjc_s {v : AV} {vs : List AV} : pjc (some v) (some vs) = some (v :: vs) := rfl
theorem pj_0 {l : LV} : pj [] l = some [] := rfl
theorem pj_s {k : Nat} {ks : List Nat} {l : LV} : pj (k :: ks) l = pjc (lk k l) (pj ks l) := by
  show (match lk k l, pj ks l with
    | some v, some vs => some (v :: vs)
    | _, _ => none) = _
  unfold pjc
  rfl
theorem lk_s {k j : Nat} {v : AV} {r : LV} : lk k ((j, v) :: r) = if j = k then some v else lk k r := rfl
theorem rm1_0 {k : Nat} : rm1 k [] = [] := rfl
theorem rm1_i {k j : Nat} {x : Int} {r : LV} : rm1 k ((j, ai x) :: r) = if j = k then rm1 k r else (j, ai x) :: rm1 k r := by
  simp [rm1, isL]
theorem rm1_r {k j : Nat} {x : Option Nat} {r : LV} : rm1 k ((j, .inr (.inr x)) :: r) = if j = k then rm1 k r else (j, .inr (.inr x)) :: rm1 k r := by
  simp [rm1, isL]
theorem rm1_l {k j : Nat} {x : Int} {r : LV} : rm1 k ((j, al x) :: r) = if j = k ∨ j + 1 = k then rm1 k r else (j, al x) :: rm1 k r := by
  simp [rm1, isL]
theorem rm2_0 {k : Nat} : rm2 k [] = [] := rfl
theorem rm2_i {k j : Nat} {x : Int} {r : LV} : rm2 k ((j, ai x) :: r) = if j = k ∨ j = k + 1 then rm2 k r else (j, ai x) :: rm2 k r := by
  simp [rm2, isL]
theorem rm2_r {k j : Nat} {x : Option Nat} {r : LV} : rm2 k ((j, .inr (.inr x)) :: r) = if j = k ∨ j = k + 1 then rm2 k r else (j, .inr (.inr x)) :: rm2 k r := by
  simp [rm2, isL]
theorem rm2_l {k j : Nat} {x : Int} {r : LV} : rm2 k ((j, al x) :: r) = if j = k ∨ j = k + 1 ∨ j + 1 = k then rm2 k r else (j, al x) :: rm2 k r := by
  simp [rm2, isL]
section
variable {tb : TB} {sh : List SC} {nL rt : Nat} {nxt : K0} {jmp : Int → K0} {ret : Option AV → Mm → Prop} {lv : LV} {st : List AV} {M : Mm} {x y : Int} {v : AV}
theorem e_iconst {n : Int} : sem tb sh nL rt (.iconst n) nxt jmp ret lv st M = if -128 ≤ n ∧ n ≤ 127 then nxt lv (ai n :: st) M else False := rfl
theorem e_bipush {n : Int} : sem tb sh nL rt (.bipush n) nxt jmp ret lv st M = if -128 ≤ n ∧ n ≤ 127 then nxt lv (ai n :: st) M else False := rfl
theorem e_sipush {n : Int} : sem tb sh nL rt (.sipush n) nxt jmp ret lv st M = if -32768 ≤ n ∧ n ≤ 32767 then nxt lv (ai n :: st) M else False := rfl
theorem e_lconst_0 : sem tb sh nL rt (.lconst 0) nxt jmp ret lv st M = nxt lv (al 0 :: st) M := rfl
theorem e_lconst_1 : sem tb sh nL rt (.lconst 1) nxt jmp ret lv st M = nxt lv (al 1 :: st) M := rfl
theorem e_iload {k : Nat} : sem tb sh nL rt (.iload k) nxt jmp ret lv st M = ldI (lk k lv) (fun z => nxt lv (ai z :: st) M) := by simp only [sem]; unfold ldI; rfl
theorem e_iload_0 : sem tb sh nL rt (.iload_n 0) nxt jmp ret lv st M = ldI (lk 0 lv) (fun z => nxt lv (ai z :: st) M) := e_iload (tb := tb) (sh := sh) (nL := nL) (rt := rt) (jmp := jmp) (ret := ret) (k := 0)
theorem e_iload_1 : sem tb sh nL rt (.iload_n 1) nxt jmp ret lv st M = ldI (lk 1 lv) (fun z => nxt lv (ai z :: st) M) := e_iload (tb := tb) (sh := sh) (nL := nL) (rt := rt) (jmp := jmp) (ret := ret) (k := 1)
theorem e_iload_2 : sem tb sh nL rt (.iload_n 2) nxt jmp ret lv st M = ldI (lk 2 lv) (fun z => nxt lv (ai z :: st) M) := e_iload (tb := tb) (sh := sh) (nL := nL) (rt := rt) (jmp := jmp) (ret := ret) (k := 2)
theorem e_iload_3 : sem tb sh nL rt (.iload_n 3) nxt jmp ret lv st M = ldI (lk 3 lv) (fun z => nxt lv (ai z :: st) M) := e_iload (tb := tb) (sh := sh) (nL := nL) (rt := rt) (jmp := jmp) (ret := ret) (k := 3)
theorem e_lload {k : Nat} : sem tb sh nL rt (.lload k) nxt jmp ret lv st M = ldL (lk k lv) (fun z => nxt lv (al z :: st) M) := by simp only [sem]; unfold ldL; rfl
theorem e_lload_0 : sem tb sh nL rt (.lload_n 0) nxt jmp ret lv st M = ldL (lk 0 lv) (fun z => nxt lv (al z :: st) M) := e_lload (tb := tb) (sh := sh) (nL := nL) (rt := rt) (jmp := jmp) (ret := ret) (k := 0)
theorem e_lload_1 : sem tb sh nL rt (.lload_n 1) nxt jmp ret lv st M = ldL (lk 1 lv) (fun z => nxt lv (al z :: st) M) := e_lload (tb := tb) (sh := sh) (nL := nL) (rt := rt) (jmp := jmp) (ret := ret) (k := 1)
theorem e_lload_2 : sem tb sh nL rt (.lload_n 2) nxt jmp ret lv st M = ldL (lk 2 lv) (fun z => nxt lv (al z :: st) M) := e_lload (tb := tb) (sh := sh) (nL := nL) (rt := rt) (jmp := jmp) (ret := ret) (k := 2)
theorem e_lload_3 : sem tb sh nL rt (.lload_n 3) nxt jmp ret lv st M = ldL (lk 3 lv) (fun z => nxt lv (al z :: st) M) := e_lload (tb := tb) (sh := sh) (nL := nL) (rt := rt) (jmp := jmp) (ret := ret) (k := 3)
theorem e_aload {k : Nat} : sem tb sh nL rt (.aload k) nxt jmp ret lv st M = ldR (lk k lv) (fun z => nxt lv (ar z :: st) M) := by simp only [sem]; unfold ldR; rfl
theorem e_aload_0 : sem tb sh nL rt (.aload_n 0) nxt jmp ret lv st M = ldR (lk 0 lv) (fun z => nxt lv (ar z :: st) M) := e_aload (tb := tb) (sh := sh) (nL := nL) (rt := rt) (jmp := jmp) (ret := ret) (k := 0)
theorem e_aload_1 : sem tb sh nL rt (.aload_n 1) nxt jmp ret lv st M = ldR (lk 1 lv) (fun z => nxt lv (ar z :: st) M) := e_aload (tb := tb) (sh := sh) (nL := nL) (rt := rt) (jmp := jmp) (ret := ret) (k := 1)
theorem e_aload_2 : sem tb sh nL rt (.aload_n 2) nxt jmp ret lv st M = ldR (lk 2 lv) (fun z => nxt lv (ar z :: st) M) := e_aload (tb := tb) (sh := sh) (nL := nL) (rt := rt) (jmp := jmp) (ret := ret) (k := 2)
theorem e_aload_3 : sem tb sh nL rt (.aload_n 3) nxt jmp ret lv st M = ldR (lk 3 lv) (fun z => nxt lv (ar z :: st) M) := e_aload (tb := tb) (sh := sh) (nL := nL) (rt := rt) (jmp := jmp) (ret := ret) (k := 3)
theorem e_istore {k : Nat} : sem tb sh nL rt (.istore k) nxt jmp ret lv (ai x :: st) M = if k < nL then nxt ((k, ai x) :: rm1 k lv) st M else False := rfl
theorem e_istore_0 : sem tb sh nL rt (.istore_n 0) nxt jmp ret lv (ai x :: st) M = if 0 < nL then nxt ((0, ai x) :: rm1 0 lv) st M else False := rfl
theorem e_istore_1 : sem tb sh nL rt (.istore_n 1) nxt jmp ret lv (ai x :: st) M = if 1 < nL then nxt ((1, ai x) :: rm1 1 lv) st M else False := rfl
theorem e_istore_2 : sem tb sh nL rt (.istore_n 2) nxt jmp ret lv (ai x :: st) M = if 2 < nL then nxt ((2, ai x) :: rm1 2 lv) st M else False := rfl
theorem e_istore_3 : sem tb sh nL rt (.istore_n 3) nxt jmp ret lv (ai x :: st) M = if 3 < nL then nxt ((3, ai x) :: rm1 3 lv) st M else False := rfl
theorem e_astore {k : Nat} {z : Nat} : sem tb sh nL rt (.astore k) nxt jmp ret lv (ar z :: st) M = if k < nL then nxt ((k, ar z) :: rm1 k lv) st M else False := rfl
theorem e_astore_0 {z : Nat} : sem tb sh nL rt (.astore_n 0) nxt jmp ret lv (ar z :: st) M = if 0 < nL then nxt ((0, ar z) :: rm1 0 lv) st M else False := rfl
theorem e_astore_1 {z : Nat} : sem tb sh nL rt (.astore_n 1) nxt jmp ret lv (ar z :: st) M = if 1 < nL then nxt ((1, ar z) :: rm1 1 lv) st M else False := rfl
theorem e_astore_2 {z : Nat} : sem tb sh nL rt (.astore_n 2) nxt jmp ret lv (ar z :: st) M = if 2 < nL then nxt ((2, ar z) :: rm1 2 lv) st M else False := rfl
theorem e_astore_3 {z : Nat} : sem tb sh nL rt (.astore_n 3) nxt jmp ret lv (ar z :: st) M = if 3 < nL then nxt ((3, ar z) :: rm1 3 lv) st M else False := rfl
theorem e_lstore {k : Nat} : sem tb sh nL rt (.lstore k) nxt jmp ret lv (al x :: st) M = if k + 1 < nL then nxt ((k, al x) :: rm2 k lv) st M else False := rfl
theorem e_lstore_0 : sem tb sh nL rt (.lstore_n 0) nxt jmp ret lv (al x :: st) M = if 0 + 1 < nL then nxt ((0, al x) :: rm2 0 lv) st M else False := rfl
theorem e_lstore_1 : sem tb sh nL rt (.lstore_n 1) nxt jmp ret lv (al x :: st) M = if 1 + 1 < nL then nxt ((1, al x) :: rm2 1 lv) st M else False := rfl
theorem e_lstore_2 : sem tb sh nL rt (.lstore_n 2) nxt jmp ret lv (al x :: st) M = if 2 + 1 < nL then nxt ((2, al x) :: rm2 2 lv) st M else False := rfl
theorem e_lstore_3 : sem tb sh nL rt (.lstore_n 3) nxt jmp ret lv (al x :: st) M = if 3 + 1 < nL then nxt ((3, al x) :: rm2 3 lv) st M else False := rfl
theorem e_iinc {k : Nat} {n : Int} : sem tb sh nL rt (.iinc k n) nxt jmp ret lv st M = ldI (lk k lv) (fun x => if k < nL then i32 (x + n) ∧ nxt ((k, ai (x + n)) :: rm1 k lv) st M else False) := by simp only [sem]; unfold ldI; rfl
theorem e_iadd : sem tb sh nL rt .iadd nxt jmp ret lv (ai y :: ai x :: st) M = (i32 (x + y) ∧ nxt lv (ai (x + y) :: st) M) := rfl
theorem e_isub : sem tb sh nL rt .isub nxt jmp ret lv (ai y :: ai x :: st) M = (i32 (x - y) ∧ nxt lv (ai (x - y) :: st) M) := rfl
theorem e_imul : sem tb sh nL rt .imul nxt jmp ret lv (ai y :: ai x :: st) M = (i32 (x * y) ∧ nxt lv (ai (x * y) :: st) M) := rfl
theorem e_ladd : sem tb sh nL rt .ladd nxt jmp ret lv (al y :: al x :: st) M = (i64 (x + y) ∧ nxt lv (al (x + y) :: st) M) := rfl
theorem e_lsub : sem tb sh nL rt .lsub nxt jmp ret lv (al y :: al x :: st) M = (i64 (x - y) ∧ nxt lv (al (x - y) :: st) M) := rfl
theorem e_lmul : sem tb sh nL rt .lmul nxt jmp ret lv (al y :: al x :: st) M = (i64 (x * y) ∧ nxt lv (al (x * y) :: st) M) := rfl
theorem e_idiv : sem tb sh nL rt .idiv nxt jmp ret lv (ai y :: ai x :: st) M = ((y ≠ 0 ∧ i32 (x.tdiv y)) ∧ nxt lv (ai (x.tdiv y) :: st) M) := rfl
theorem e_irem : sem tb sh nL rt .irem nxt jmp ret lv (ai y :: ai x :: st) M = ((y ≠ 0 ∧ i32 (x.tdiv y)) ∧ nxt lv (ai (x.tmod y) :: st) M) := rfl
theorem e_ldiv : sem tb sh nL rt .ldiv nxt jmp ret lv (al y :: al x :: st) M = ((y ≠ 0 ∧ i64 (x.tdiv y)) ∧ nxt lv (al (x.tdiv y) :: st) M) := rfl
theorem e_lrem : sem tb sh nL rt .lrem nxt jmp ret lv (al y :: al x :: st) M = ((y ≠ 0 ∧ i64 (x.tdiv y)) ∧ nxt lv (al (x.tmod y) :: st) M) := rfl
theorem e_ineg : sem tb sh nL rt .ineg nxt jmp ret lv (ai x :: st) M = (i32 (-x) ∧ nxt lv (ai (-x) :: st) M) := rfl
theorem e_lneg : sem tb sh nL rt .lneg nxt jmp ret lv (al x :: st) M = (i64 (-x) ∧ nxt lv (al (-x) :: st) M) := rfl
theorem e_iand : sem tb sh nL rt .iand nxt jmp ret lv (ai y :: ai x :: st) M = nxt lv (ai (band x y) :: st) M := rfl
theorem e_ior : sem tb sh nL rt .ior nxt jmp ret lv (ai y :: ai x :: st) M = nxt lv (ai (bor x y) :: st) M := rfl
theorem e_ixor : sem tb sh nL rt .ixor nxt jmp ret lv (ai y :: ai x :: st) M = nxt lv (ai (bxor x y) :: st) M := rfl
theorem e_ishl : sem tb sh nL rt .ishl nxt jmp ret lv (ai y :: ai x :: st) M = nxt lv (ai (bshl x y) :: st) M := rfl
theorem e_ishr : sem tb sh nL rt .ishr nxt jmp ret lv (ai y :: ai x :: st) M = nxt lv (ai (bshr x y) :: st) M := rfl
theorem e_iushr : sem tb sh nL rt .iushr nxt jmp ret lv (ai y :: ai x :: st) M = nxt lv (ai (bushr x y) :: st) M := rfl
theorem e_lcmp : sem tb sh nL rt .lcmp nxt jmp ret lv (al y :: al x :: st) M = nxt lv (ai (lcm3 x y) :: st) M := rfl
theorem e_i2l : sem tb sh nL rt .i2l nxt jmp ret lv (ai x :: st) M = nxt lv (al x :: st) M := rfl
theorem e_l2i : sem tb sh nL rt .l2i nxt jmp ret lv (al x :: st) M = nxt lv (ai (x.bmod 4294967296) :: st) M := rfl
theorem e_i2b : sem tb sh nL rt .i2b nxt jmp ret lv (ai x :: st) M = nxt lv (ai (x.bmod 256) :: st) M := rfl
theorem e_i2s : sem tb sh nL rt .i2s nxt jmp ret lv (ai x :: st) M = nxt lv (ai (x.bmod 65536) :: st) M := rfl
theorem e_dup_i : sem tb sh nL rt .dup nxt jmp ret lv (ai x :: st) M = nxt lv (ai x :: ai x :: st) M := rfl
theorem e_dup_r {z : Option Nat} : sem tb sh nL rt .dup nxt jmp ret lv (.inr (.inr z) :: st) M = nxt lv (.inr (.inr z) :: .inr (.inr z) :: st) M := rfl
theorem e_pop_i : sem tb sh nL rt .pop nxt jmp ret lv (ai x :: st) M = nxt lv st M := rfl
theorem e_pop_r {z : Option Nat} : sem tb sh nL rt .pop nxt jmp ret lv (.inr (.inr z) :: st) M = nxt lv st M := rfl
theorem e_dup2_l : sem tb sh nL rt .dup2 nxt jmp ret lv (al x :: st) M = nxt lv (al x :: al x :: st) M := rfl
theorem e_dup2_ir {z : Option Nat} : sem tb sh nL rt .dup2 nxt jmp ret lv (ai x :: .inr (.inr z) :: st) M = nxt lv (ai x :: .inr (.inr z) :: ai x :: .inr (.inr z) :: st) M := rfl
theorem e_dup2_ii : sem tb sh nL rt .dup2 nxt jmp ret lv (ai x :: ai y :: st) M = nxt lv (ai x :: ai y :: ai x :: ai y :: st) M := rfl
theorem e_ifeq {off : Int} : sem tb sh nL rt (.ifCond .eq off) nxt jmp ret lv (ai x :: st) M = ((x = 0 → jmp off lv st M) ∧ (¬ x = 0 → nxt lv st M)) := by simp only [sem, cnd, ne_eq, Int.not_lt, Int.not_le, Classical.not_not]
theorem e_ifne {off : Int} : sem tb sh nL rt (.ifCond .ne off) nxt jmp ret lv (ai x :: st) M = ((¬ x = 0 → jmp off lv st M) ∧ (x = 0 → nxt lv st M)) := by simp only [sem, cnd, ne_eq, Int.not_lt, Int.not_le, Classical.not_not]
theorem e_iflt {off : Int} : sem tb sh nL rt (.ifCond .lt off) nxt jmp ret lv (ai x :: st) M = ((x < 0 → jmp off lv st M) ∧ (0 ≤ x → nxt lv st M)) := by simp only [sem, cnd, ne_eq, Int.not_lt, Int.not_le, Classical.not_not]
theorem e_ifge {off : Int} : sem tb sh nL rt (.ifCond .ge off) nxt jmp ret lv (ai x :: st) M = ((0 ≤ x → jmp off lv st M) ∧ (x < 0 → nxt lv st M)) := by simp only [sem, cnd, ne_eq, Int.not_lt, Int.not_le, Classical.not_not]
theorem e_ifgt {off : Int} : sem tb sh nL rt (.ifCond .gt off) nxt jmp ret lv (ai x :: st) M = ((0 < x → jmp off lv st M) ∧ (x ≤ 0 → nxt lv st M)) := by simp only [sem, cnd, ne_eq, Int.not_lt, Int.not_le, Classical.not_not]
theorem e_ifle {off : Int} : sem tb sh nL rt (.ifCond .le off) nxt jmp ret lv (ai x :: st) M = ((x ≤ 0 → jmp off lv st M) ∧ (0 < x → nxt lv st M)) := by simp only [sem, cnd, ne_eq, Int.not_lt, Int.not_le, Classical.not_not]
theorem e_iceq {off : Int} : sem tb sh nL rt (.if_icmp .eq off) nxt jmp ret lv (ai y :: ai x :: st) M = ((x = y → jmp off lv st M) ∧ (¬ x = y → nxt lv st M)) := by simp only [sem, cnd, ne_eq, Int.not_lt, Int.not_le, Classical.not_not]
theorem e_icne {off : Int} : sem tb sh nL rt (.if_icmp .ne off) nxt jmp ret lv (ai y :: ai x :: st) M = ((¬ x = y → jmp off lv st M) ∧ (x = y → nxt lv st M)) := by simp only [sem, cnd, ne_eq, Int.not_lt, Int.not_le, Classical.not_not]
theorem e_iclt {off : Int} : sem tb sh nL rt (.if_icmp .lt off) nxt jmp ret lv (ai y :: ai x :: st) M = ((x < y → jmp off lv st M) ∧ (y ≤ x → nxt lv st M)) := by simp only [sem, cnd, ne_eq, Int.not_lt, Int.not_le, Classical.not_not]
theorem e_icge {off : Int} : sem tb sh nL rt (.if_icmp .ge off) nxt jmp ret lv (ai y :: ai x :: st) M = ((y ≤ x → jmp off lv st M) ∧ (x < y → nxt lv st M)) := by simp only [sem, cnd, ne_eq, Int.not_lt, Int.not_le, Classical.not_not]
theorem e_icgt {off : Int} : sem tb sh nL rt (.if_icmp .gt off) nxt jmp ret lv (ai y :: ai x :: st) M = ((y < x → jmp off lv st M) ∧ (x ≤ y → nxt lv st M)) := by simp only [sem, cnd, ne_eq, Int.not_lt, Int.not_le, Classical.not_not]
theorem e_icle {off : Int} : sem tb sh nL rt (.if_icmp .le off) nxt jmp ret lv (ai y :: ai x :: st) M = ((x ≤ y → jmp off lv st M) ∧ (y < x → nxt lv st M)) := by simp only [sem, cnd, ne_eq, Int.not_lt, Int.not_le, Classical.not_not]
theorem e_goto {off : Int} : sem tb sh nL rt (.goto off) nxt jmp ret lv st M = jmp off lv st M := rfl
theorem e_switch {d lo hi : Int} {offs : Array Int} : sem tb sh nL rt (.tableswitch d lo hi offs) nxt jmp ret lv (ai x :: st) M = (((x < lo ∨ hi < x) → jmp d lv st M) ∧ allJ x (fun o => jmp o lv st M) lo offs.toList) := rfl
theorem e_invokevirtual {i : Nat} : sem tb sh nL rt (.invokevirtual i) nxt jmp ret lv st M = clO (tb.2.2.2.2 i) 1 st (fun n sp => sp (st.take n).reverse M (fun r M' => nxt lv (r.toList ++ st.drop n) M')) := by simp only [sem]; unfold clO; rfl
theorem e_invokestatic {i : Nat} : sem tb sh nL rt (.invokestatic i) nxt jmp ret lv st M = clO (tb.2.2.2.2 i) 0 st (fun n sp => sp (st.take n).reverse M (fun r M' => nxt lv (r.toList ++ st.drop n) M')) := by simp only [sem]; unfold clO; rfl
theorem e_invokespecial {i : Nat} : sem tb sh nL rt (.invokespecial i) nxt jmp ret lv st M = clO (tb.2.2.2.2 i) 2 st (fun n sp => sp (st.take n).reverse M (fun r M' => nxt lv (r.toList ++ st.drop n) M')) := by simp only [sem]; unfold clO; rfl
theorem e_ret1 : sem tb sh nL 1 .ireturn nxt jmp ret lv [ai x] M = ret (some (ai x)) M := rfl
theorem e_ret2 : sem tb sh nL 2 .ireturn nxt jmp ret lv [ai x] M = ((x = 0 ∨ x = 1) ∧ ret (some (ai x)) M) := rfl
theorem e_ret3 : sem tb sh nL 3 .lreturn nxt jmp ret lv [al x] M = ret (some (al x)) M := rfl
theorem e_ret0 : sem tb sh nL 0 .return_ nxt jmp ret lv [] M = ret none M := rfl
end
theorem e_wp {tb : TB} {sh : List SC} {nL rt : Nat} {cc : ByteArray} {cut : CUT} {ret : Option AV → Mm → Prop} {n pc len : Nat} {i : Instr} {lv : LV} {st : List AV} {M : Mm} (h : decode cc pc = .ok (i, len)) (h2 : iok pc i len = true) : wp tb sh nL rt cc cut ret (n + 1) pc lv st M = sem tb sh nL rt i (mgo cut (wp tb sh nL rt cc cut ret n) (pc + len)) (fun off => mgo cut (wp tb sh nL rt cc cut ret n) ((pc : Int) + off).toNat) ret lv st M := by simp only [wp, h, h2, if_true]
