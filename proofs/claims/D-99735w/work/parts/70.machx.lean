/-! THE MACHINE WITH MORE: tests for null, rows of shorts, and any instruction that a table of its own has; two levels of room: ahead of and behind what makes new cells -/
/-- an instruction's key -/
def xk (i : Instr) : Nat := match i with
  | .getstatic x => 10 * x
  | .instanceof x => 10 * x + 1
  | .checkcast x => 10 * x + 2
  | .ldc x => 10 * x + 3
  | .if_acmp .eq _ => 4
  | .if_acmp .ne _ => 14
  | .invokevirtual x => 10 * x + 5
  | .invokestatic x => 10 * x + 6
  | .invokespecial x => 10 * x + 7
  | .arraylength => 18
  | .baload => 28
  | .bastore => 38
  | .iaload => 48
  | .iastore => 58
  | .laload => 68
  | .lastore => 78
  | .saload => 88
  | .sastore => 98
  | .newarray .byte => 108
  | .newarray .short => 118
  | .newarray .int => 128
  | .newarray .long => 138
  | _ => 9
def xoff (i : Instr) : Int := match i with
  | .if_acmp _ off => off
  | _ => 0
abbrev XT : Type := Nat → Option (Nat × Nat × Spec)
/-- what follows: 0 a value; 1 a value, or it has thrown; 2 a value, behind new cells; 3 a jump or none; 4 it throws; 5 a value behind new cells, or it has thrown -/
def xgo (kd : Nat) (off : Int) (nxt nxa : K0) (jmp : Int → K0) (thx : Mm → Prop) (lv : LV) (rest : List AV) (r : Option AV) (M : Mm) : Prop := match kd with
  | 0 => nxt lv (r.toList ++ rest) M
  | 1 => match r with
    | some (.inr (.inr none)) => thx M
    | r => nxt lv (r.toList ++ rest) M
  | 2 => nxa lv (r.toList ++ rest) M
  | 3 => match r with
    | some (.inl b) => (b = 1 → jmp off lv rest M) ∧ (b ≠ 1 → nxt lv rest M)
    | _ => False
  | 4 => thx M
  | 5 => match r with
    | some (.inr (.inr none)) => thx M
    | r => nxa lv (r.toList ++ rest) M
  | _ => False
def xel (o : Option (Nat × Nat × Spec)) (gd : Nat → Prop) (off : Int) (nxt nxa : K0) (jmp : Int → K0) (thx : Mm → Prop) (lv : LV) (st : List AV) (M : Mm) (d : Prop) : Prop := match o with
  | some (kd, n, sp) => if (st.drop n).length ≤ 4 then gd kd ∧ sp (st.take n).reverse M (xgo kd off nxt nxa jmp thx lv (st.drop n)) else False
  | none => d
def semx (tb : TB) (xt : XT) (sh : List SC) (nL : Nat) (rt : Nat) (gd : Nat → Prop) (i : Instr) (nxt nxa : K0) (jmp : Int → K0) (ret : Option AV → Mm → Prop) (thx : Mm → Prop) : K0 := fun lv st M => match i, st with
  | .ifnull off, .inr (.inr none) :: st => jmp off lv st M
  | .ifnull _, .inr (.inr (some _)) :: st => nxt lv st M
  | .ifnonnull _, .inr (.inr none) :: st => nxt lv st M
  | .ifnonnull off, .inr (.inr (some _)) :: st => jmp off lv st M
  | .saload, .inl i :: .inr (.inr (some k)) :: st => xel (xt 88) gd 0 nxt nxa jmp thx lv (.inl i :: .inr (.inr (some k)) :: st) M (aread sh k 4 i (nxt lv (.inl (M k i.toNat) :: st) M))
  | .sastore, .inl x :: .inl i :: .inr (.inr (some k)) :: st => xel (xt 98) gd 0 nxt nxa jmp thx lv (.inl x :: .inl i :: .inr (.inr (some k)) :: st) M (aread sh k 4 i ((-32768 ≤ x ∧ x ≤ 32767) ∧ nxt lv st (up2 M k i.toNat x)))
  | .areturn, [.inr (.inr (some k))] => if rt = 4 then ret (some (.inr (.inr (some k)))) M else False
  | i, st => xel (xt (xk i)) gd (xoff i) nxt nxa jmp thx lv st M (sem tb sh nL rt i nxt jmp ret lv st M)
def iokx (pc : Nat) (i : Instr) (len : Nat) : Bool := match i with
  | .ifnull off | .ifnonnull off | .if_acmp _ off => len == 3 && decide (0 ≤ (pc : Int) + off)
  | .getstatic _ | .instanceof _ | .checkcast _ => len == 3
  | .newarray _ => len == 2
  | _ => iok pc i len
/-- what an entry asks of its place -/
def xgd (b : Bool) (o : Bool) (kd : Nat) : Prop := match kd with
  | 0 => True
  | 3 => True
  | 4 => b = false ∧ o = true
  | _ => b = false
def isAth {ε : Type} (o : Except ε (Instr × Nat)) : Bool := match o with
  | .ok (.athrow, 1) => true
  | _ => false
def xct (b : Bool) (cut : CUT) : CUT := match b with
  | true => []
  | false => cut
def xna (b : Bool) (k : K0) : K0 := match b with
  | true => fun _ _ _ => False
  | false => k
def wpx (tb : TB) (xt : XT) (sh : List SC) (nL rt : Nat) (cc : ByteArray) (cut : CUT) (ret : Option AV → Mm → Prop) (thx : Nat → Mm → Prop) : Nat → Bool → Nat → K0
  | 0, _, _ => fun _ _ _ => False
  | n + 1, b, pc => fun lv st M => match decode cc pc with
    | .ok (i, len) => if iokx pc i len = true then semx tb xt sh nL rt (xgd b (isAth (decode cc (pc + len)))) i (mgo (xct b cut) (wpx tb xt sh nL rt cc cut ret thx n b) (pc + len)) (xna b (mgo [] (wpx tb xt sh nL rt cc cut ret thx n true) (pc + len))) (fun off => mgo (xct b cut) (wpx tb xt sh nL rt cc cut ret thx n b) ((pc : Int) + off).toNat) ret (thx pc) lv st M else False
    | .error _ => False
/-! its rewriting rows -/
section XROWS
variable {tb : TB} {xt : XT} {sh : List SC} {nL rt : Nat} {gd : Nat → Prop} {nxt nxa : K0} {jmp : Int → K0} {ret : Option AV → Mm → Prop} {thx : Mm → Prop} {lv : LV} {st : List AV} {M : Mm} {b : Bool} {cut : CUT}
/-- not one of the few of its own -/
def xn (i : Instr) : Bool := match i with
  | .ifnull _ | .ifnonnull _ | .saload | .sastore | .areturn => false
  | _ => true
theorem ex_s {i : Instr} (h : xn i = true) : semx tb xt sh nL rt gd i nxt nxa jmp ret thx lv st M = xel (xt (xk i)) gd (xoff i) nxt nxa jmp thx lv st M (sem tb sh nL rt i nxt jmp ret lv st M) := by
  cases i <;> first | rfl | cases h
theorem ex_null_n {off : Int} : semx tb xt sh nL rt gd (.ifnull off) nxt nxa jmp ret thx lv (an :: st) M = jmp off lv st M := id rfl
theorem ex_null_r {off : Int} {k : Nat} : semx tb xt sh nL rt gd (.ifnull off) nxt nxa jmp ret thx lv (ar k :: st) M = nxt lv st M := id rfl
theorem ex_nonn_n {off : Int} : semx tb xt sh nL rt gd (.ifnonnull off) nxt nxa jmp ret thx lv (an :: st) M = nxt lv st M := id rfl
theorem ex_nonn_r {off : Int} {k : Nat} : semx tb xt sh nL rt gd (.ifnonnull off) nxt nxa jmp ret thx lv (ar k :: st) M = jmp off lv st M := id rfl
theorem ex_sald {i : Int} {k : Nat} (h : xt 88 = none) : semx tb xt sh nL rt gd .saload nxt nxa jmp ret thx lv (ai i :: ar k :: st) M = aread sh k 4 i (nxt lv (ai (M k i.toNat) :: st) M) := by
  show xel (xt 88) _ _ _ _ _ _ _ _ _ _ = _
  rw [h]; rfl
theorem ex_sast {x i : Int} {k : Nat} (h : xt 98 = none) : semx tb xt sh nL rt gd .sastore nxt nxa jmp ret thx lv (ai x :: ai i :: ar k :: st) M = aread sh k 4 i ((-32768 ≤ x ∧ x ≤ 32767) ∧ nxt lv st (up2 M k i.toNat x)) := by
  show xel (xt 98) _ _ _ _ _ _ _ _ _ _ = _
  rw [h]; rfl
theorem ex_saldX {i : Int} {k : Nat} {q : Nat × Nat × Spec} (h : xt 88 = some q) : semx tb xt sh nL rt gd .saload nxt nxa jmp ret thx lv (ai i :: ar k :: st) M = xel (some q) gd 0 nxt nxa jmp thx lv (ai i :: ar k :: st) M False := by
  show xel (xt 88) _ _ _ _ _ _ _ _ _ _ = _
  rw [h]; rfl
theorem ex_sastX {x i : Int} {k : Nat} {q : Nat × Nat × Spec} (h : xt 98 = some q) : semx tb xt sh nL rt gd .sastore nxt nxa jmp ret thx lv (ai x :: ai i :: ar k :: st) M = xel (some q) gd 0 nxt nxa jmp thx lv (ai x :: ai i :: ar k :: st) M False := by
  show xel (xt 98) _ _ _ _ _ _ _ _ _ _ = _
  rw [h]; rfl
theorem ex_aret {k : Nat} : semx tb xt sh nL 4 gd .areturn nxt nxa jmp ret thx lv [ar k] M = ret (some (ar k)) M := id rfl
theorem xel_n {off : Int} {d : Prop} : xel none gd off nxt nxa jmp thx lv st M d = d := id rfl
theorem xel_s {off : Int} {d : Prop} {kd n : Nat} {sp : Spec} : xel (some (kd, n, sp)) gd off nxt nxa jmp thx lv st M d = if (st.drop n).length ≤ 4 then gd kd ∧ sp (st.take n).reverse M (xgo kd off nxt nxa jmp thx lv (st.drop n)) else False := id rfl
theorem xgo_0 {off : Int} {r : Option AV} : xgo 0 off nxt nxa jmp thx lv st r M = nxt lv (r.toList ++ st) M := id rfl
theorem xgo_1x {off : Int} : xgo 1 off nxt nxa jmp thx lv st (some an) M = thx M := id rfl
theorem xgo_1v {off : Int} : xgo 1 off nxt nxa jmp thx lv st none M = nxt lv st M := id rfl
theorem xgo_1i {off x : Int} : xgo 1 off nxt nxa jmp thx lv st (some (ai x)) M = nxt lv (ai x :: st) M := id rfl
theorem xgo_1l {off x : Int} : xgo 1 off nxt nxa jmp thx lv st (some (al x)) M = nxt lv (al x :: st) M := id rfl
theorem xgo_1r {off : Int} {k : Nat} : xgo 1 off nxt nxa jmp thx lv st (some (ar k)) M = nxt lv (ar k :: st) M := id rfl
theorem xgo_2 {off : Int} {r : Option AV} : xgo 2 off nxt nxa jmp thx lv st r M = nxa lv (r.toList ++ st) M := id rfl
theorem xgo_3 {off x : Int} : xgo 3 off nxt nxa jmp thx lv st (some (ai x)) M = ((x = 1 → jmp off lv st M) ∧ (x ≠ 1 → nxt lv st M)) := id rfl
theorem xgo_4 {off : Int} {r : Option AV} : xgo 4 off nxt nxa jmp thx lv st r M = thx M := id rfl
theorem xgo_5x {off : Int} : xgo 5 off nxt nxa jmp thx lv st (some an) M = thx M := id rfl
theorem xgo_5v {off : Int} : xgo 5 off nxt nxa jmp thx lv st none M = nxa lv st M := id rfl
theorem xgo_5i {off x : Int} : xgo 5 off nxt nxa jmp thx lv st (some (ai x)) M = nxa lv (ai x :: st) M := id rfl
theorem xgo_5l {off x : Int} : xgo 5 off nxt nxa jmp thx lv st (some (al x)) M = nxa lv (al x :: st) M := id rfl
theorem xgd_5 {o : Bool} : xgd false o 5 = True := by simp [xgd]
theorem xgd_0 {o : Bool} : xgd b o 0 = True := id rfl
theorem xgd_1 {o : Bool} : xgd false o 1 = True := by simp [xgd]
theorem xgd_2 {o : Bool} : xgd false o 2 = True := by simp [xgd]
theorem xgd_3 {o : Bool} : xgd b o 3 = True := id rfl
theorem xgd_4 : xgd false true 4 = True := by simp [xgd]
theorem ath_y {ε : Type} : isAth (ε := ε) (.ok (.athrow, 1)) = true := id rfl
theorem xct_f : xct false cut = cut := id rfl
theorem xct_t : xct true cut = [] := id rfl
theorem xna_f {k : K0} : xna false k = k := id rfl
theorem e_wpx {thp : Nat → Mm → Prop} {cc : ByteArray} {n pc len : Nat} {i : Instr} (h : decode cc pc = .ok (i, len)) (h2 : iokx pc i len = true) : wpx tb xt sh nL rt cc cut ret thp (n + 1) b pc lv st M = semx tb xt sh nL rt (xgd b (isAth (decode cc (pc + len)))) i (mgo (xct b cut) (wpx tb xt sh nL rt cc cut ret thp n b) (pc + len)) (xna b (mgo [] (wpx tb xt sh nL rt cc cut ret thp n true) (pc + len))) (fun off => mgo (xct b cut) (wpx tb xt sh nL rt cc cut ret thp n b) ((pc : Int) + off).toNat) ret (thp pc) lv st M := by simp only [wpx, h, h2, if_true]
/-- of an instruction with the key k -/
theorem e_wpy {thp : Nat → Mm → Prop} {cc : ByteArray} {n pc len k : Nat} {i : Instr} (h : decode cc pc = .ok (i, len)) (h2 : iokx pc i len = true) (h3 : xn i = true) (h4 : xk i = k) : wpx tb xt sh nL rt cc cut ret thp (n + 1) b pc lv st M = xel (xt k) (xgd b (isAth (decode cc (pc + len)))) (xoff i) (mgo (xct b cut) (wpx tb xt sh nL rt cc cut ret thp n b) (pc + len)) (xna b (mgo [] (wpx tb xt sh nL rt cc cut ret thp n true) (pc + len))) (fun off => mgo (xct b cut) (wpx tb xt sh nL rt cc cut ret thp n b) ((pc : Int) + off).toNat) (thp pc) lv st M (sem tb sh nL rt i (mgo (xct b cut) (wpx tb xt sh nL rt cc cut ret thp n b) (pc + len)) (fun off => mgo (xct b cut) (wpx tb xt sh nL rt cc cut ret thp n b) ((pc : Int) + off).toNat) ret lv st M) := by rw [e_wpx h h2, ex_s h3, h4]
theorem xoff_a {cd : ACond} {off : Int} : xoff (.if_acmp cd off) = off := id rfl
end XROWS
/-! its soundness -/
section XSND
variable {p : Program} {l : Launch} {e : Env} {R : Room} {s : State} {m : MethodId} {args : Array Value} {below : List Frame} {meth : Method} {c : Code}
variable {cc : ByteArray} {D : va_G} {cl : List vw_C} {A : Nat → Prop} {ad : Nat → Nat} {ca : Nat → ClassId} {tyl : List (Nat × FieldType)} {sh : List SC} {own : String} {Nws : List Cond} {nL rt c0 s0 c1 s1 : Nat} {tb : TB} {xt : XT}
/-- an entry keeps its word -/
def xOK (p : Program) (l : Launch) (e : Env) (R : Room) (s : State) (m : MethodId) (args : Array Value) (below : List Frame) (meth : Method) (c : Code) (Q : State → Prop) (D : va_G) (cl : List vw_C) (A : Nat → Prop) (ad : Nat → Nat) (ca : Nat → ClassId) (sh : List SC) (nL c0 s0 c1 s1 : Nat) (cc : ByteArray) (THX : Nat → Mm → Prop) (key kd n : Nat) (sp : Spec) : Prop :=
  ∀ (pc len : Nat) (i : Instr) (lv : LV) (st : List AV) (M : Mm), decode cc pc = .ok (i, len) → xk i = key → iokx pc i len = true → (kd = 4 → isAth (decode cc (pc + len)) = true) → (st.drop n).length ≤ 4 →
    sp (st.take n).reverse M (xgo kd (xoff i) (snW p l e R s m args below meth c Q D cl A ad ca sh nL c0 s0 (pc + len)) (snW p l e R s m args below meth c Q D cl A ad ca sh nL c1 s1 (pc + len)) (fun off => snW p l e R s m args below meth c Q D cl A ad ca sh nL c0 s0 ((pc : Int) + off).toNat) (THX pc) lv (st.drop n)) →
    snW p l e R s m args below meth c Q D cl A ad ca sh nL c0 s0 pc lv st M
theorem xgo_mono {kd : Nat} {off : Int} {nxt nxa nxt' nxa' : K0} {jmp jmp' : Int → K0} {thx thx' : Mm → Prop} {lv : LV} {rest : List AV} {r : Option AV} {M : Mm} (h1 : ∀ lv st M, nxt lv st M → nxt' lv st M) (h2 : kd = 2 ∨ kd = 5 → ∀ lv st M, nxa lv st M → nxa' lv st M) (h3 : ∀ off lv st M, jmp off lv st M → jmp' off lv st M) (h4 : ∀ M, thx M → thx' M) :
    xgo kd off nxt nxa jmp thx lv rest r M → xgo kd off nxt' nxa' jmp' thx' lv rest r M := by
  intro h
  unfold xgo at h ⊢
  split at h
  · exact h1 _ _ _ h
  · split at h
    · exact h4 _ h
    · exact h1 _ _ _ h
  · exact h2 (Or.inl rfl) _ _ _ h
  · split at h
    · exact ⟨fun q => h3 _ _ _ _ (h.1 q), fun q => h1 _ _ _ (h.2 q)⟩
    · exact h.elim
  · exact h4 _ h
  · split at h
    · exact h4 _ h
    · exact h2 (Or.inr rfl) _ _ _ h
  · exact h.elim
theorem okC_s {n : Nat} {r : Nat → Int} (h : okC (.inr (4, n)) r) (j : Nat) : i32 (r j) := by
  have h1 : -32768 ≤ r j ∧ r j ≤ 32767 := h j
  unfold i32
  omega
theorem nar_s {x : Int} (h : -32768 ≤ x ∧ x ≤ 32767) : vp_nar .short (Int32.ofInt x) = Int32.ofInt x := by
  rw [vp_nar_short, n_i2s, Int.bmod_eq_of_le (by omega) (by omega)]
theorem tgt_of {pc : Nat} {off : Int} (h : 0 ≤ (pc : Int) + off) : (pc : Int) + off = (((pc : Int) + off).toNat : Int) := by omega
theorem iokx_old {pc len : Nat} {i : Instr} {nxt : K0} {jmp : Int → K0} {ret : Option AV → Mm → Prop} {lv : LV} {st : List AV} {M : Mm} (h : iokx pc i len = true) (hs : sem tb sh nL rt i nxt jmp ret lv st M) : iok pc i len = true := by
  cases i <;> first | exact h | exact False.elim hs
set_option maxHeartbeats 4000000 in
theorem stepx_snd {pc len : Nat} {i : Instr} {gd : Nat → Prop} {nxt nxa : K0} {jmp : Int → K0} {ret : Option AV → Mm → Prop} {thx : Mm → Prop} {THX : Nat → Mm → Prop} {Q : State → Prop} (hR : ∀ (H : Heap) (locs : List Loc) (g : JFrame), W p l e R s m args below meth c H locs c0 s0 (MQ below (vq D cl tyl ad ca sh A ret) args s c0 s0 A) g → W p l e R s m args below meth c H locs c0 s0 Q g) (F : fx p s m args c cc D cl ca tyl own Nws) (hT : tbOK own Nws cl sh tyl tb) (hrt : rtOK rt meth.sig.returnType) (hlocks : meth.locks = false)
    (hd : decode cc pc = .ok (i, len)) (hi : iokx pc i len = true) (hg4 : gd 4 → isAth (decode cc (pc + len)) = true)
    (hn : ∀ lv st M, nxt lv st M → snW p l e R s m args below meth c Q D cl A ad ca sh nL c0 s0 (pc + len) lv st M)
    {BB : Prop} (hgB : ∀ kd, gd kd → kd = 0 ∨ kd = 3 ∨ BB) (ha : BB → ∀ lv st M, nxa lv st M → snW p l e R s m args below meth c Q D cl A ad ca sh nL c1 s1 (pc + len) lv st M)
    (hj : ∀ off lv st M, jmp off lv st M → snW p l e R s m args below meth c Q D cl A ad ca sh nL c0 s0 ((pc : Int) + off).toNat lv st M)
    (hth : ∀ M, thx M → THX pc M)
    (hc : ∀ x vt n sp, tb.2.2.2.2 x = some (vt, n, sp) → mono sp ∧ cOK p l e R s m args below meth c Q D cl A ad ca sh nL c0 s0 cc vt x n sp)
    (hx : ∀ key kd n sp, xt key = some (kd, n, sp) → mono sp ∧ (kd = 0 ∨ kd = 3 ∨ BB → xOK p l e R s m args below meth c Q D cl A ad ca sh nL c0 s0 c1 s1 cc THX key kd n sp))
    (lv : LV) (st : List AV) (M : Mm) (h : semx tb xt sh nL rt gd i nxt nxa jmp ret thx lv st M) : snW p l e R s m args below meth c Q D cl A ad ca sh nL c0 s0 pc lv st M := by
  have hxx := F.1
  have hb := F.2.1
  have hK := F.2.2.2.2.2
  have gen : ∀ st, xel (xt (xk i)) gd (xoff i) nxt nxa jmp thx lv st M (sem tb sh nL rt i nxt jmp ret lv st M) → snW p l e R s m args below meth c Q D cl A ad ca sh nL c0 s0 pc lv st M := by
    intro st h
    cases hxt : xt (xk i) with
    | none =>
      rw [hxt] at h
      have h : sem tb sh nL rt i nxt jmp ret lv st M := h
      have hi' := iokx_old hi h
      exact step_snd hR F hT hrt hlocks hd hi' hn hj hc lv st M h
    | some q =>
      obtain ⟨kd, n, sp⟩ := q
      rw [hxt, xel_s] at h
      split at h
      · rename_i hle
        obtain ⟨hg, h⟩ := h
        obtain ⟨hm, hk⟩ := hx _ _ _ _ hxt
        have hg2 := hgB kd hg
        have hg3 : kd = 2 ∨ kd = 5 → BB := fun q => hg2.elim (fun z => by omega) (fun z => z.elim (fun z => by omega) id)
        refine hk hg2 pc len i lv st M hd rfl hi (fun q => hg4 (q ▸ hg)) hle (hm _ _ _ _ (fun r M' => ?_) h)
        exact xgo_mono hn (fun q => ha (hg3 q)) hj hth
      · exact h.elim
  unfold semx at h
  split at h
  · rename_i off st
    have hi : (len == 3 && decide (0 ≤ (pc : Int) + off)) = true := hi
    simp only [Bool.and_eq_true, beq_iff_eq, decide_eq_true_eq] at hi
    obtain ⟨rfl, h0⟩ := hi
    intro ls H locs hr
    exact lv_ifnullN hxx hb hd (tgt_of h0) (hj _ _ _ _ h ls H locs (rel_st hr (ok_t hr.2.2.2.2.2.2)))
  · rename_i off k st
    have hi : (len == 3 && decide (0 ≤ (pc : Int) + off)) = true := hi
    simp only [Bool.and_eq_true, beq_iff_eq, decide_eq_true_eq] at hi
    obtain ⟨rfl, h0⟩ := hi
    intro ls H locs hr
    exact lv_ifnull hxx hb hd (hn _ _ _ h ls H locs (rel_st hr (ok_t hr.2.2.2.2.2.2)))
  · rename_i off st
    have hi : (len == 3 && decide (0 ≤ (pc : Int) + off)) = true := hi
    simp only [Bool.and_eq_true, beq_iff_eq, decide_eq_true_eq] at hi
    obtain ⟨rfl, h0⟩ := hi
    intro ls H locs hr
    exact lv_ifnonnullN hxx hb hd (hn _ _ _ h ls H locs (rel_st hr (ok_t hr.2.2.2.2.2.2)))
  · rename_i off k st
    have hi : (len == 3 && decide (0 ≤ (pc : Int) + off)) = true := hi
    simp only [Bool.and_eq_true, beq_iff_eq, decide_eq_true_eq] at hi
    obtain ⟨rfl, h0⟩ := hi
    intro ls H locs hr
    exact lv_ifnonnull hxx hb hd (tgt_of h0) (hj _ _ _ _ h ls H locs (rel_st hr (ok_t hr.2.2.2.2.2.2)))
  · rename_i i k st
    cases hxt : xt 88 with
    | some q => exact gen _ (by show xel (xt 88) gd 0 nxt nxa jmp thx lv _ M _; rw [hxt] at h ⊢; exact h)
    | none =>
    rw [hxt, xel_n] at h
    obtain rfl : len = 1 := by simpa [iokx, iok] using hi
    unfold aread at h
    split at h
    · rename_i t' n heq
      by_cases q : t' = 4
      · rw [if_pos q] at h
        subst q
        obtain ⟨h1, h⟩ := h
        intro ls H locs hr
        have hv := hr.2.2.2.2.2.2
        have oi : i32 i := ok_h hv
        obtain ⟨ty, t1, t2⟩ := hT.2.2.2.2 _ _ _ heq
        obtain rfl : ty = .short := t2
        obtain ⟨t0, ht0⟩ := ty_at (ca := ca) t1
        have e1 := wl_get (ca := ca) (ad := ad) (M := M) heq
        rw [wc_i (by omega) (by omega)] at e1
        have k1 := hn _ _ _ h ls H locs (rel_st hr (ok_c (okC_s (hr.2.2.2.2.1 k _ heq) i.toNat) (ok_t (ok_t hv))))
        rw [← n_cl oi] at k1
        exact va_sald hxx hb hK hr.2.1 k t0 e1 ht0 (n_in oi h1) hd k1
      · rw [if_neg q] at h; exact h.elim
    · exact h.elim
  · rename_i x i k st
    cases hxt : xt 98 with
    | some q => exact gen _ (by show xel (xt 98) gd 0 nxt nxa jmp thx lv _ M _; rw [hxt] at h ⊢; exact h)
    | none =>
    rw [hxt, xel_n] at h
    obtain rfl : len = 1 := by simpa [iokx, iok] using hi
    unfold aread at h
    split at h
    · rename_i t' n heq
      by_cases q : t' = 4
      · rw [if_pos q] at h
        subst q
        obtain ⟨h1, h2, h⟩ := h
        intro ls H locs hr
        obtain ⟨r1, r2, r3, r4, r5, r6, hv⟩ := hr
        have oi : i32 i := ok_h (ok_t hv)
        obtain ⟨ty, t1, t2⟩ := hT.2.2.2.2 _ _ _ heq
        obtain rfl : ty = .short := t2
        obtain ⟨t0, ht0⟩ := ty_at (ca := ca) t1
        have e1 := wl_get (ca := ca) (ad := ad) (M := M) heq
        rw [wc_i (by omega) (by omega)] at e1
        have e2 := wl_up (ca := ca) (ad := ad) (M := M) (j := i.toNat) (x := x) heq
        rw [wc_i (by omega) (by omega), ← upd_f oi, ← nar_s h2] at e2
        refine va_sast hxx hb hK r2 r3 r4 k t0 e1 ht0 (n_in oi h1) hd (fun H1 locs1 a1 a2 a3 => ?_)
        rw [← e2] at a1 a2
        exact hn _ _ _ h ls H1 locs1 ⟨r1, a1, a2, a3, okM_a r5 heq h2, r6, ok_t (ok_t (ok_t hv))⟩
      · rw [if_neg q] at h; exact h.elim
    · exact h.elim
  · rename_i k
    obtain rfl : len = 1 := by simpa [iokx, iok] using hi
    split at h
    · rename_i q
      subst q
      obtain ⟨C, hC⟩ : ∃ C, meth.sig.returnType = some (.object C) := hrt
      intro ls H locs hr
      obtain ⟨r1, r2, r3, r4, r5, r6, hv⟩ := hr
      refine hR _ _ _ ?_
      exact W.aret hxx hb hC (.inl ⟨_, rfl⟩) (.inr ⟨_, rfl⟩) (fun t ht hW => ⟨⟨some (.inr (.inr (some k))), M, rfl, h, (fun v hv0 => by rcases List.mem_singleton.mp hv0 with rfl; trivial), r5, by rw [ht]; exact r2, va_K.moved hW.alike hK, r3⟩, r4.F ht⟩) r4.2.2 hd hlocks
    · exact h.elim
  · exact gen _ h
def xl (b : Bool) (x y : Nat) : Nat := match b with
  | true => y
  | false => x
theorem wpx_snd {ret : Option AV → Mm → Prop} {thx THX : Nat → Mm → Prop} {Q : State → Prop} {cut : CUT}
    (hR0 : ∀ (H : Heap) (locs : List Loc) (g : JFrame), W p l e R s m args below meth c H locs c0 s0 (MQ below (vq D cl tyl ad ca sh A ret) args s c0 s0 A) g → W p l e R s m args below meth c H locs c0 s0 Q g)
    (hR1 : ∀ (H : Heap) (locs : List Loc) (g : JFrame), W p l e R s m args below meth c H locs c1 s1 (MQ below (vq D cl tyl ad ca sh A ret) args s c1 s1 A) g → W p l e R s m args below meth c H locs c1 s1 Q g)
    (F : fx p s m args c cc D cl ca tyl own Nws) (hT : tbOK own Nws cl sh tyl tb) (hrt : rtOK rt meth.sig.returnType) (hlocks : meth.locks = false) (hth : ∀ pc M, thx pc M → THX pc M)
    (hc0 : ∀ x vt n sp, tb.2.2.2.2 x = some (vt, n, sp) → mono sp ∧ cOK p l e R s m args below meth c Q D cl A ad ca sh nL c0 s0 cc vt x n sp)
    (hc1 : ∀ x vt n sp, tb.2.2.2.2 x = some (vt, n, sp) → mono sp ∧ cOK p l e R s m args below meth c Q D cl A ad ca sh nL c1 s1 cc vt x n sp)
    (hx0 : ∀ key kd n sp, xt key = some (kd, n, sp) → mono sp ∧ xOK p l e R s m args below meth c Q D cl A ad ca sh nL c0 s0 c1 s1 cc THX key kd n sp)
    (hx1 : ∀ key kd n sp, xt key = some (kd, n, sp) → kd = 0 ∨ kd = 3 → xOK p l e R s m args below meth c Q D cl A ad ca sh nL c1 s1 c1 s1 cc THX key kd n sp)
    (hcut : ∀ q ∈ cut, ∀ vs M, q.2.2 vs M → snW p l e R s m args below meth c Q D cl A ad ca sh nL c0 s0 q.1 (q.2.1.zip vs) [] M) :
    ∀ (n : Nat) (b : Bool) (pc : Nat) (lv : LV) (st : List AV) (M : Mm), wpx tb xt sh nL rt cc cut ret thx n b pc lv st M → snW p l e R s m args below meth c Q D cl A ad ca sh nL (xl b c0 c1) (xl b s0 s1) pc lv st M := by
  intro n
  induction n with
  | zero => intro b pc lv st M h; exact h.elim
  | succ n ih =>
    intro b pc lv st M h
    cases hd : decode cc pc with
    | error x => simp only [wpx, hd] at h
    | ok r =>
      obtain ⟨i, len⟩ := r
      by_cases hi : iokx pc i len = true
      · rw [e_wpx hd hi] at h
        cases b with
        | true =>
          exact stepx_snd (c0 := c1) (s0 := s1) (c1 := c1) (s1 := s1) (BB := False) hR1 F hT hrt hlocks hd hi (fun h => h.2) (fun lv st M h => mgo_snd (ih true _ _ _ _) (fun q hq => by cases hq) h) (fun kd h => by
            unfold xgd at h
            split at h
            · exact Or.inl rfl
            · exact Or.inr (Or.inl rfl)
            · cases h.1
            · cases h) (fun h => h.elim) (fun off lv st M h => mgo_snd (ih true _ _ _ _) (fun q hq => by cases hq) h) (hth pc) hc1 (fun key kd n sp hk => ⟨(hx0 key kd n sp hk).1, fun h2 => hx1 key kd n sp hk (h2.elim Or.inl (fun z => z.elim Or.inr False.elim))⟩) lv st M h
        | false =>
          exact stepx_snd (c0 := c0) (s0 := s0) (c1 := c1) (s1 := s1) (BB := True) hR0 F hT hrt hlocks hd hi (fun h => h.2) (fun lv st M h => mgo_snd (ih false _ _ _ _) hcut h) (fun kd _ => Or.inr (Or.inr trivial)) (fun _ lv st M h => mgo_snd (ih true _ _ _ _) (fun q hq => by cases hq) h) (fun off lv st M h => mgo_snd (ih false _ _ _ _) hcut h) (hth pc) hc0 (fun key kd n sp hk => ⟨(hx0 key kd n sp hk).1, fun _ => (hx0 key kd n sp hk).2⟩) lv st M h
      · simp only [wpx, hd, hi, if_false, Bool.false_eq_true] at h
theorem floydx {ret : Option AV → Mm → Prop} {thx THX : Nat → Mm → Prop} {Q : State → Prop} {inv : INV} {fuel : Nat}
    (hR0 : ∀ (H : Heap) (locs : List Loc) (g : JFrame), W p l e R s m args below meth c H locs c0 s0 (MQ below (vq D cl tyl ad ca sh A ret) args s c0 s0 A) g → W p l e R s m args below meth c H locs c0 s0 Q g)
    (hR1 : ∀ (H : Heap) (locs : List Loc) (g : JFrame), W p l e R s m args below meth c H locs c1 s1 (MQ below (vq D cl tyl ad ca sh A ret) args s c1 s1 A) g → W p l e R s m args below meth c H locs c1 s1 Q g)
    (F : fx p s m args c cc D cl ca tyl own Nws) (hT : tbOK own Nws cl sh tyl tb) (hrt : rtOK rt meth.sig.returnType) (hlocks : meth.locks = false) (hth : ∀ pc M, thx pc M → THX pc M)
    (hc0 : ∀ x vt n sp, tb.2.2.2.2 x = some (vt, n, sp) → mono sp ∧ cOK p l e R s m args below meth c Q D cl A ad ca sh nL c0 s0 cc vt x n sp)
    (hc1 : ∀ x vt n sp, tb.2.2.2.2 x = some (vt, n, sp) → mono sp ∧ cOK p l e R s m args below meth c Q D cl A ad ca sh nL c1 s1 cc vt x n sp)
    (hx0 : ∀ key kd n sp, xt key = some (kd, n, sp) → mono sp ∧ xOK p l e R s m args below meth c Q D cl A ad ca sh nL c0 s0 c1 s1 cc THX key kd n sp)
    (hx1 : ∀ key kd n sp, xt key = some (kd, n, sp) → kd = 0 ∨ kd = 3 → xOK p l e R s m args below meth c Q D cl A ad ca sh nL c1 s1 c1 s1 cc THX key kd n sp)
    (hinv : ∀ q ∈ inv, ∀ n vs M, okM sh M → (∀ v ∈ q.2.1.zip vs, okV v.2) → q.2.2 n vs M → wpx tb xt sh nL rt cc (cutN inv n) ret thx fuel false q.1 (q.2.1.zip vs) [] M) :
    ∀ (n : Nat), ∀ q ∈ inv, ∀ vs M, q.2.2 n vs M → snW p l e R s m args below meth c Q D cl A ad ca sh nL c0 s0 q.1 (q.2.1.zip vs) [] M := by
  intro n
  induction n using Nat.strongRecOn with
  | ind n ih =>
    intro q hq vs M h ls H locs hr
    refine wpx_snd hR0 hR1 F hT hrt hlocks hth hc0 hc1 hx0 hx1 ?_ fuel false q.1 _ [] M (hinv q hq n vs M hr.2.2.2.2.1 hr.2.2.2.2.2.1 h) ls H locs hr
    intro z hz vs' M' hi
    obtain ⟨r, hr1, rfl⟩ := List.mem_map.mp hz
    obtain ⟨n', h1, h2⟩ := hi
    exact ih n' h1 r hr1 vs' M' h2
theorem floydx_in {ret : Option AV → Mm → Prop} {thx THX : Nat → Mm → Prop} {Q : State → Prop} {inv : INV} {fuel : Nat}
    (hR0 : ∀ (H : Heap) (locs : List Loc) (g : JFrame), W p l e R s m args below meth c H locs c0 s0 (MQ below (vq D cl tyl ad ca sh A ret) args s c0 s0 A) g → W p l e R s m args below meth c H locs c0 s0 Q g)
    (hR1 : ∀ (H : Heap) (locs : List Loc) (g : JFrame), W p l e R s m args below meth c H locs c1 s1 (MQ below (vq D cl tyl ad ca sh A ret) args s c1 s1 A) g → W p l e R s m args below meth c H locs c1 s1 Q g)
    (F : fx p s m args c cc D cl ca tyl own Nws) (hT : tbOK own Nws cl sh tyl tb) (hrt : rtOK rt meth.sig.returnType) (hlocks : meth.locks = false) (hth : ∀ pc M, thx pc M → THX pc M)
    (hc0 : ∀ x vt n sp, tb.2.2.2.2 x = some (vt, n, sp) → mono sp ∧ cOK p l e R s m args below meth c Q D cl A ad ca sh nL c0 s0 cc vt x n sp)
    (hc1 : ∀ x vt n sp, tb.2.2.2.2 x = some (vt, n, sp) → mono sp ∧ cOK p l e R s m args below meth c Q D cl A ad ca sh nL c1 s1 cc vt x n sp)
    (hx0 : ∀ key kd n sp, xt key = some (kd, n, sp) → mono sp ∧ xOK p l e R s m args below meth c Q D cl A ad ca sh nL c0 s0 c1 s1 cc THX key kd n sp)
    (hx1 : ∀ key kd n sp, xt key = some (kd, n, sp) → kd = 0 ∨ kd = 3 → xOK p l e R s m args below meth c Q D cl A ad ca sh nL c1 s1 c1 s1 cc THX key kd n sp)
    (hinv : ∀ q ∈ inv, ∀ n vs M, okM sh M → (∀ v ∈ q.2.1.zip vs, okV v.2) → q.2.2 n vs M → wpx tb xt sh nL rt cc (cutN inv n) ret thx fuel false q.1 (q.2.1.zip vs) [] M)
    {pc : Nat} {lv : LV} {st : List AV} {M : Mm} (h : wpx tb xt sh nL rt cc (cutE inv) ret thx fuel false pc lv st M) : snW p l e R s m args below meth c Q D cl A ad ca sh nL c0 s0 pc lv st M := by
  refine wpx_snd hR0 hR1 F hT hrt hlocks hth hc0 hc1 hx0 hx1 ?_ fuel false pc _ st M h
  intro z hz vs' M' hi
  obtain ⟨r, hr1, rfl⟩ := List.mem_map.mp hz
  obtain ⟨n', h2⟩ := hi
  exact floydx hR0 hR1 F hT hrt hlocks hth hc0 hc1 hx0 hx1 hinv n' r hr1 vs' M' h2
end XSND
/-- an entry that makes no cells and throws nothing keeps its word, from any method of the class at this level -/
def CX (own : String) (cl : List vw_C) (sh : List SC) (tyl : List (Nat × FieldType)) (Nws : List Cond) (lvl : Nat) (key kd n : Nat) (sp : Spec) : Prop :=
  mono sp ∧ ∀ (p : Program) (l : Launch) (e : Env) (R : Room) (s : State) (m : MethodId) (args : Array Value) (below : List Frame) (meth : Method) (c : Code) (Q : State → Prop) (cc : ByteArray) (D : va_G) (A : Nat → Prop) (ad : Nat → Nat) (ca : Nat → ClassId) (nL c0 s0 c1 s1 : Nat) (THX : Nat → Mm → Prop),
    fx p s m args c cc D cl ca tyl own Nws → c.maxLocals = nL → (∀ q, s.heap.size ≤ q → A q) → lvl ≤ R.frames → 64 * lvl ≤ R.locals → c0 ≤ R.cells ∧ s0 ≤ R.slots → xOK p l e R s m args below meth c Q D cl A ad ca sh nL c0 s0 c1 s1 cc THX key kd n sp
set_option maxHeartbeats 4000000 in
/-- a method that makes no cells and throws nothing, by the greater machine -/
theorem mokx_of {cl : List vw_C} {sh : List SC} {tyl : List (Nat × FieldType)} {Nws : List Cond} {own : String} {tb : TB} {xt : XT} {lvl nL rt fuel : Nat} {y : MethodName} {cc : ByteArray} {ret : Option FieldType} {sp : Spec} (inv : List AV → Mm → (Option AV → Mm → Prop) → INV)
    (hy : plainName y.cls = true) (hown : y.cls = own) (hNw : ∀ w ∈ Nws, nwOK w = true) (hT : tbOK own Nws cl sh tyl tb) (hrt : rtOK rt ret)
    (hc : ∀ x vt n sp, tb.2.2.2.2 x = some (vt, n, sp) → CG own cl sh tyl Nws lvl vt x n sp)
    (hx : ∀ key kd n sp, xt key = some (kd, n, sp) → CX own cl sh tyl Nws lvl key kd n sp)
    (hsz : ∀ avs M Q, sp avs M Q → szL avs ≤ nL)
    (hin : ∀ avs M Q, okM sh M → (∀ v ∈ avs, okV v) → sp avs M Q → wpx tb xt sh nL rt cc (cutE (inv avs M Q)) Q (fun _ _ => False) fuel false 0 (entL 0 avs) [] M)
    (hinv : ∀ avs M Q, okM sh M → (∀ v ∈ avs, okV v) → sp avs M Q → ∀ q ∈ inv avs M Q, ∀ n vs M', okM sh M' → (∀ v ∈ q.2.1.zip vs, okV v.2) → q.2.2 n vs M' → wpx tb xt sh nL rt cc (cutN (inv avs M Q) n) Q (fun _ _ => False) fuel false q.1 (q.2.1.zip vs) [] M') :
    MOK cl sh tyl Nws lvl y cc nL ret sp := by
  intro l D ca ad sz avs M Q hM hav hsp
  refine Met.ofW (cc := cc) (maxL := nL) (ret := ret) hy rfl ?_
  intro p e s m args below meth c s₁ B hml hv
  obtain ⟨rfl, hs, hP, hK, hD0, hN⟩ := hv
  subst hs
  have hts := atoms_spec (ws := ws_ y cc nL ret) B.pre
  have hts : ∀ w ∈ lw_all, w.before (avs.map (cz ad)).toArray s = true := fun w h => hts w (List.mem_cons_of_mem _ h)
  have hownC : s.vm.findClass own = some m.cls := hown ▸ findClass_of_methodNamed B.named
  have hD := hD0.self (sz := s.heap.size)
  have F : fx p s m (avs.map (cz ad)).toArray c cc D cl ca tyl own Nws := ⟨B.exec, B.bytes, hownC, hts, fun w hw => nw_use (hNw w hw) (hN w hw), hK⟩
  have hr : rtOK rt meth.sig.returnType := by rw [B.returns]; exact hrt
  have hA : ∀ q, s.heap.size ≤ q → va_A (wl ca ad sh M) s.heap.size q := fun q h => Or.inr h
  have hcc : ∀ (QQ : State → Prop) x vt n sp, tb.2.2.2.2 x = some (vt, n, sp) → mono sp ∧ cOK p l e (headSpec (ws_ y cc nL ret) (rmL lvl)).room s m (avs.map (cz ad)).toArray below meth c QQ D cl (va_A (wl ca ad sh M) s.heap.size) ad ca sh nL 0 0 cc vt x n sp := fun QQ x vt n sp h => ⟨(hc x vt n sp h).1, (hc x vt n sp h).2 _ _ _ _ _ _ _ _ _ _ _ _ _ _ _ _ _ _ _ F hml hA (Nat.le_refl _) (Nat.le_refl _) ⟨Nat.zero_le _, Nat.zero_le _⟩⟩
  have hxx : ∀ (QQ : State → Prop) key kd n sp, xt key = some (kd, n, sp) → mono sp ∧ xOK p l e (headSpec (ws_ y cc nL ret) (rmL lvl)).room s m (avs.map (cz ad)).toArray below meth c QQ D cl (va_A (wl ca ad sh M) s.heap.size) ad ca sh nL 0 0 0 0 cc (fun _ _ => False) key kd n sp := fun QQ key kd n sp h => ⟨(hx key kd n sp h).1, (hx key kd n sp h).2 _ _ _ _ _ _ _ _ _ _ _ _ _ _ _ _ _ _ _ _ _ _ F hml hA (Nat.le_refl _) (Nat.le_refl _) ⟨Nat.zero_le _, Nat.zero_le _⟩⟩
  have k := floydx_in (l := l) (e := e) (R := (headSpec (ws_ y cc nL ret) (rmL lvl)).room) (below := below) (nL := nL) (ad := ad) (c0 := 0) (s0 := 0) (c1 := 0) (s1 := 0) (thx := fun _ _ => False) (THX := fun _ _ => False) (fun _ _ _ h => h) (fun _ _ _ h => h) F hT hr B.notSynchronized (fun _ _ h => h) (hcc _) (hcc _) (hxx _) (fun key kd n sp h _ => (hxx _ key kd n sp h).2) (hinv avs M Q hM hav hsp) (hin avs M Q hM hav hsp)
  have hl := lv_entry (avs.map (cz ad)) (n := nL) (by rw [szL_sl]; exact hsz avs M Q hsp)
  rw [entL_args] at hl
  rw [lg_entry_eq]
  exact k _ s.heap [] ⟨hl, hP, hD, va_S.rf, hM, entL_ok hav 0, fun v hv => by cases hv⟩
theorem csL_n {x : Nat} : csL [] x = none := id rfl
theorem csX_all {own : String} {cl : List vw_C} {sh : List SC} {tyl : List (Nat × FieldType)} {Nws : List Cond} {lvl : Nat} : ∀ {l : List (Nat × Nat × Nat × Spec)}, (∀ q ∈ l, CX own cl sh tyl Nws lvl q.1 q.2.1 q.2.2.1 q.2.2.2) → ∀ key kd n sp, csL l key = some (kd, n, sp) → CX own cl sh tyl Nws lvl key kd n sp := by
  intro l
  induction l with
  | nil => intro _ x vt n sp h; cases h
  | cons q t ih =>
    obtain ⟨k, r⟩ := q
    intro hl x vt n sp h
    rw [csL_s] at h
    by_cases hk : x = k
    · rw [if_pos hk] at h
      cases h
      subst hk
      exact hl _ List.mem_cons_self
    · rw [if_neg hk] at h
      exact ih (fun q hq => hl q (List.mem_cons_of_mem _ hq)) x vt n sp h
