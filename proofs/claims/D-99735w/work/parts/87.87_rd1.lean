/-! The reader by its machine: isIn, min, texts, tokens -/
/-- a spec with a ghost: a place of reading -/
def spXG (vt : Bool) (sg : List Nat) (pre : (Nat → Int) → Nat → Mm → Prop) (post : (Nat → Int) → Nat → Mm → Option AV → Mm → Prop) : Spec := fun avs M Q => oS (unA vt sg avs) fun x => ∃ p : Nat, pre x p M ∧ ∀ r M', post x p M r M' → Q r M'
theorem spXG_mono {vt : Bool} {sg : List Nat} {pre : (Nat → Int) → Nat → Mm → Prop} {post : (Nat → Int) → Nat → Mm → Option AV → Mm → Prop} : mono (spXG vt sg pre post) := fun _ _ _ _ h h1 => oS_mono (fun _ h2 => h2.elim fun p h2 => ⟨p, h2.1, fun r M' h3 => h _ _ (h2.2 r M' h3)⟩) h1
theorem spXG_un {vt : Bool} {sg : List Nat} {pre : (Nat → Int) → Nat → Mm → Prop} {post : (Nat → Int) → Nat → Mm → Option AV → Mm → Prop} : ∀ avs M Q, spXG vt sg pre post avs M Q → ∃ xs, unA vt sg avs = some xs := by
  intro avs M Q h
  unfold spXG at h
  cases hu : unA vt sg avs with
  | none => rw [hu] at h; exact h.elim
  | some xs => exact ⟨xs, rfl⟩
/-- no rows -/
abbrev tbE (cs : Nat → Option (Nat × Nat × Spec)) : TB := (fun _ => none, fun _ => none, fun _ => none, fun _ => none, cs)
theorem tbOKE (cs : Nat → Option (Nat × Nat × Spec)) : tbOK RX0 NwsR clR shR tylR (tbE cs) := ⟨fun _ _ _ h => (by cases h), fun _ _ _ h => (by cases h), fun _ _ h => (by cases h), fun _ _ h => (by cases h), fun _ _ _ h => tyR_ok h⟩
def PRS_isIn (v : Int) (lo : Int) (hi : Int) (M : Mm) : Prop := True
def VRS_isIn (v : Int) (lo : Int) (hi : Int) (M : Mm) : Int := b01 (lo ≤ v ∧ v ≤ hi)
def spRS_isIn : Spec := spF false [1, 1, 1] 1 (fun x M => PRS_isIn (x 0) (x 1) (x 2) M) (fun x M => VRS_isIn (x 0) (x 1) (x 2) M)
theorem cRS_isIn {v lo hi : Int} {M : Mm} {Q : Option AV → Mm → Prop} : spRS_isIn [al v, al lo, al hi] M Q = (PRS_isIn v lo hi M ∧ Q (some (ai (VRS_isIn v lo hi M))) M) := rfl
def csRS_isIn : List (Nat × Nat × Nat × Spec) := []
set_option maxHeartbeats 4000000 in
set_option maxRecDepth 100000 in
theorem inRS_isIn {v lo hi : Int} {M : Mm} {Q : Option AV → Mm → Prop} (hM : okM shR M) (h_v : i64 v) (h_lo : i64 lo) (h_hi : i64 hi) (hP : PRS_isIn v lo hi M) (hQ : Q (some (ai (VRS_isIn v lo hi M))) M) : wp (tbE (csL csRS_isIn)) shR 6 2 cX0_isIn [] Q 400 0 [(0, al v), (2, al lo), (4, al hi)] [] M := by
  simp only [e_wp dX0_isIn_0 rfl, e_wp dX0_isIn_1 rfl, e_wp dX0_isIn_2 rfl, e_wp dX0_isIn_3 rfl, e_wp dX0_isIn_6 rfl, e_wp dX0_isIn_7 rfl, e_wp dX0_isIn_9 rfl, e_wp dX0_isIn_10 rfl, e_wp dX0_isIn_13 rfl, e_wp dX0_isIn_14 rfl, e_wp dX0_isIn_17 rfl, e_wp dX0_isIn_18 rfl, e_iconst, e_bipush, e_sipush, e_lconst_0, e_lconst_1, e_iload, e_iload_0, e_iload_1, e_iload_2, e_iload_3, e_lload, e_lload_0, e_lload_1, e_lload_2, e_lload_3, e_aload, e_aload_0, e_aload_1, e_aload_2, e_aload_3, e_istore, e_istore_0, e_istore_1, e_istore_2, e_istore_3, e_astore, e_astore_0, e_astore_1, e_astore_2, e_astore_3, e_lstore, e_lstore_0, e_lstore_1, e_lstore_2, e_lstore_3, e_iinc, e_iadd, e_isub, e_imul, e_ladd, e_lsub, e_lmul, e_idiv, e_irem, e_ldiv, e_lrem, e_ineg, e_lneg, e_iand, e_ior, e_ixor, e_ishl, e_ishr, e_iushr, e_lcmp, e_i2l, e_l2i, e_i2b, e_i2s, e_dup_i, e_dup_r, e_pop_i, e_pop_r, e_dup2_l, e_dup2_ir, e_dup2_ii, e_ifeq, e_ifne, e_iflt, e_ifge, e_ifgt, e_ifle, e_iceq, e_icne, e_iclt, e_icge, e_icgt, e_icle, e_goto, e_switch, e_invokevirtual, e_invokestatic, e_invokespecial, e_ret0, e_ret1, e_ret2, e_ret3, ldI_s, ldL_s, ldR_s, clO_s, ctP_s, ctS_s, mgo_0, mgo_s, pjc_s, pj_0, pj_s, lk_s, rm1_0, rm1_i, rm1_r, rm1_l, rm2_0, rm2_i, rm2_r, rm2_l, csL_s, lc_lt, lc_ge, lc_gt, lc_le, lc_eq, b01_0, b01_1, b01_01, b01_n, up2_o, up2_s, up2_u, ne_eq, reduceCtorEq, Nat.reduceAdd, Nat.reduceEqDiff, Nat.reduceLT, Nat.reduceLeDiff, Int.reduceLE, Int.reduceLT, Int.reduceAdd, Int.reduceNeg, Int.reduceMul, Int.reduceSub, Int.reduceEq, Int.reduceToNat, Int.reduceNatCast, Int.cast_ofNat_Int, ↓reduceIte, and_self, List.drop_succ_cons, List.drop_zero, List.take_succ_cons, List.take_zero, List.length_cons, List.length_nil, List.reverse_cons, List.reverse_nil, List.nil_append, List.cons_append, Option.toList, true_and, and_true, or_false, false_or, or_true, true_or, forall_const, Classical.not_not, not_false_eq_true, not_true_eq_false, false_implies, true_implies, implies_true, imp_self]
  (try unfold PRS_isIn at hP); (try unfold VRS_isIn at hQ); (repeat' (first | (intro _) | (refine And.intro ?_ ?_))); all_goals (first | omega | exact qeq hQ (b01_t (by omega)) | exact qeq hQ (b01_f (by omega)) | exact qeq hQ (b01_c (by omega)) | exact qeq hQ rfl | exact qeq hQ (by omega) | assumption)
set_option maxHeartbeats 4000000 in
set_option maxRecDepth 100000 in
theorem mRS_isIn : MOK clR shR tylR NwsR 0 yX0_isIn cX0_isIn 6 (some .boolean) spRS_isIn := by
  refine mok_of (own := RX0) (tb := tbE (csL csRS_isIn)) (rt := 2) (fuel := 400) (fun avs M Q => []) (by decide) rfl nwsR_ok (tbOKE _) rfl (csL_all ?_) ?_ ?_ ?_
  · intro q hq; cases hq
  · intro avs M Q hsp
    obtain ⟨xs, hx⟩ := spF_un _ _ _ hsp
    obtain ⟨e, hl⟩ := unA_mk hx
    obtain ⟨v, lo, hi, rfl⟩ := len3 hl
    have e : avs = [al v, al lo, al hi] := e
    subst e
    simp [szL, isL]
  · intro avs M Q hM hav hsp
    obtain ⟨xs, hx⟩ := spF_un _ _ _ hsp
    obtain ⟨e, hl⟩ := unA_mk hx
    obtain ⟨v, lo, hi, rfl⟩ := len3 hl
    have e : avs = [al v, al lo, al hi] := e
    subst e
    exact inRS_isIn hM (hav (al v) (by simp)) (hav (al lo) (by simp)) (hav (al hi) (by simp)) hsp.1 hsp.2
  · intro avs M Q hM hav hsp q hq m_ vs M1 hM1 hv hJ
    obtain ⟨xs, hx⟩ := spF_un _ _ _ hsp
    obtain ⟨e, hl⟩ := unA_mk hx
    obtain ⟨v, lo, hi, rfl⟩ := len3 hl
    have e : avs = [al v, al lo, al hi] := e
    subst e
    cases hq
theorem cgRS_isIn {lvl : Nat} (h : 0 < lvl) : CG RX0 clR shR tylR NwsR lvl 0 128 3 spRS_isIn := cg_S (sg := [1, 1, 1]) nwsR_ok spF_mono spF_un mRS_isIn h rfl (by decide) ⟨by decide, by decide, rfl⟩ q507 q508 q128 q509
/-- a static call of a nest mate's private method -/
theorem cg_SN {cl : List vw_C} {sh : List SC} {tyl : List (Nat × FieldType)} {own : String} {Nws : List Cond} {sg : List Nat} {sp : Spec} {lvl lvl' x maxL n : Nat} {y : MethodName} {host : String} {bytes : ByteArray} {ret : Option FieldType} (hNw : ∀ w ∈ Nws, nwOK w = true) (hm : mono sp) (hsp : ∀ avs M Q, sp avs M Q → ∃ xs, unA false sg avs = some xs) (hM : MOK cl sh tyl Nws lvl' y bytes maxL ret sp) (hl : lvl' < lvl) (hmx : maxL ≤ 45)
    (hd : y.cls ≠ "java/lang/invoke/MethodHandle" ∧ y.cls ≠ "java/lang/invoke/VarHandle" ∧ (parseMethodDescriptor y.desc).map (fun d => d.parameters.length) = some sg.length)
    (h1 : Cond.methodLinkNest own x y host ∈ Nws) (h2 : Cond.static y ∈ lw_all) (h3 : Cond.initialized y.cls ∈ lw_all) (h4 : Cond.code y bytes maxL ret ∈ lw_all) : CG own cl sh tyl Nws lvl 0 x n sp := by
  refine ⟨hm, ?_⟩
  intro p l e R s m args below meth c Q cc D A ad ca nL c0 s0 F hml hA hfr hlo hcs pc lv st M hdg hle hspec ls H locs hr
  obtain ⟨xs, e2⟩ := hsp _ _ _ hspec
  have hlen := (unA_len e2).1
  have est := take_rev (rfl : (st.take n).reverse = (st.take n).reverse)
  have hv := hr.2.2.2.2.2.2
  have hvt : ∀ v ∈ st.take n, okV v := fun v h => hv v (List.mem_of_mem_take h)
  have hvd : ∀ v ∈ st.drop n, okV v := fun v h => hv v (List.mem_of_mem_drop h)
  have hav : ∀ v ∈ (st.take n).reverse, okV v := fun v h => hvt v (List.mem_reverse.mp h)
  have hM0 := hM l D ca ad H.size (st.take n).reverse M _ hr.2.2.2.2.1 hav hspec
  have hrel := rel_st hr hvd
  have hst : st.map (cz ad) = ((st.take n).reverse.map (cz ad)).reverse ++ (st.drop n).map (cz ad) := by
    conv => lhs; rw [est]
    simp
  have hN1 := F.2.2.2.2.1 _ h1
  have hi := F.2.2.2.1 _ h3
  have h2' := F.2.2.2.1 _ h2
  refine run_snW (tyl := tyl) (rest := st.drop n) (Q' := _) (a := ((st.take n).reverse.map (cz ad)).toArray) ?_ hA hrel (fun r M' h => h)
  exact va_runSN (As := (st.take n).reverse.map (cz ad)) (rest := (st.drop n).map (cz ad)) ⟨F.1, F.2.1, hml, F.2.2.1, F.2.2.2.1⟩ hM0 ⟨va_cnB sg.length F.2.2.2.1 (lw_meth h4) rfl rfl rfl (nw_of (hNw _ h1) hN1) hi hd ⟨by show lvl' + 1 ≤ R.frames; omega, by show 8 + (maxL + 11) + 64 * lvl' ≤ R.locals; omega⟩, h2', trivial⟩
    ⟨PB_blind hNw, fun U hU hW => ⟨rfl, PB_of hNw F hr U hU hW⟩⟩ rfl (by rw [List.length_map]; exact hlen) hr.1.1 hst (lv_room (room4 hle)) hdg hcs
abbrev PR_isInN (v lo hi : Int) (M : Mm) : Prop := True
abbrev VR_isInN (v lo hi : Int) (M : Mm) : Int := b01 (lo ≤ v ∧ v ≤ hi)
abbrev spR_isInN : Spec := spRS_isIn
theorem cR_isInN {v lo hi : Int} {M : Mm} {Q : Option AV → Mm → Prop} : spRS_isIn [al v, al lo, al hi] M Q = (PR_isInN v lo hi M ∧ Q (some (ai (VR_isInN v lo hi M))) M) := rfl
theorem cgR_isInN {lvl : Nat} (h : 0 < lvl) : CG RX8 clR shR tylR NwsR lvl 0 48 3 spRS_isIn := cg_SN (sg := [1, 1, 1]) (host := "SagMemory") nwsR_ok spF_mono spF_un mRS_isIn h (by decide) ⟨by decide, by decide, rfl⟩ nR_q533 q508 q128 q509
abbrev PR_mmin (x y : Int) (M : Mm) : Prop := True
abbrev VR_mmin (x y : Int) (M : Mm) : Int := if y < x then y else x
def spR_mmin : Spec := spF false [0, 0] 1 (fun x M => PR_mmin (x 0) (x 1) M) (fun x M => VR_mmin (x 0) (x 1) M)
theorem cR_mmin {x y : Int} {M : Mm} {Q : Option AV → Mm → Prop} : spR_mmin [ai x, ai y] M Q = (PR_mmin x y M ∧ Q (some (ai (VR_mmin x y M))) M) := rfl
theorem cgR_mmin {lvl : Nat} (h : 0 < lvl) : CG RX8 clR shR tylR NwsR lvl 0 66 2 spR_mmin := by
  refine ⟨spF_mono, ?_⟩
  intro p l e R s m args below meth c Q cc D A ad ca nL c0 s0 F hml hA hfr hlo hcs pc lv st M hdg hle hspec ls H locs hr
  obtain ⟨xs, e2⟩ := spF_un _ _ _ hspec
  obtain ⟨e3, hl5⟩ := unA_mk e2
  obtain ⟨x, y, rfl⟩ := len2 hl5
  have est := take_rev e3
  have hsp : spR_mmin [ai x, ai y] M _ := e3 ▸ hspec
  rw [cR_mmin] at hsp
  obtain ⟨-, k⟩ := hsp
  have hst : st = ai y :: ai x :: st.drop 2 := est
  have hv := hr.2.2.2.2.2.2
  rw [hst] at hv
  have hy : i32 y := ok_h hv
  have hx : i32 x := ok_h (ok_t hv)
  have e5 : st.map (cz ad) = .int (Int32.ofInt y) :: .int (Int32.ofInt x) :: (st.drop 2).map (cz ad) := by
    conv => lhs; rw [hst]
    rfl
  rw [e5]
  have e6 : (if Int32.ofInt y < Int32.ofInt x then Int32.ofInt y else Int32.ofInt x) = Int32.ofInt (VR_mmin x y M) := by
    show _ = Int32.ofInt (if y < x then y else x)
    by_cases q : y < x
    · rw [if_pos ((n_lt hy hx).mpr q), if_pos q]
    · rw [if_neg (fun z => q ((n_lt hy hx).mp z)), if_neg q]
  have hrm := room4 (ad := ad) hle
  refine va_mmin F.1 F.2.1 (hml.trans hr.1.1.symm) F.2.2.1 (F.2.2.2.1 _ q537) (F.2.2.2.1 _ q538) (F.2.2.2.1 _ q142) (F.2.2.2.1 _ q539) (by omega) (by omega) hcs.1 hcs.2 hdg ?_
  rw [e6]
  refine k ls H locs (rel_st hr (ok_c ?_ (ok_t (ok_t hv))))
  show i32 (if y < x then y else x)
  split <;> assumption
/-! tokens, texts -/
def spTok (j : Nat) : Spec := fun avs M Q => match avs with
  | [] => Q (some (ar (320 + j))) M
  | _ => False
theorem spTok_mono {j : Nat} : mono (spTok j) := by
  intro a M Q Q' h h1
  unfold spTok at h1 ⊢
  split at h1
  · exact h _ _ h1
  · exact h1.elim
theorem cTok {j : Nat} {M : Mm} {Q : Option AV → Mm → Prop} : spTok j [] M Q = Q (some (ar (320 + j))) M := id rfl
theorem xk_gs {i : Instr} {x : Nat} (h : xk i = 10 * x) : i = .getstatic x := by
  unfold xk at h
  split at h <;> first | (exfalso; omega) | skip
  rename_i y
  rw [show y = x by omega]
theorem xk_ld {i : Instr} {x : Nat} (h : xk i = 10 * x + 3) : i = .ldc x := by
  unfold xk at h
  split at h <;> first | (exfalso; omega) | skip
  rename_i y
  rw [show y = x by omega]
theorem xk_aeq {i : Instr} (h : xk i = 4) : ∃ off, i = .if_acmp .eq off := by
  unfold xk at h
  split at h <;> first | (exfalso; omega) | skip
  exact ⟨_, rfl⟩
theorem xk_ane {i : Instr} (h : xk i = 14) : ∃ off, i = .if_acmp .ne off := by
  unfold xk at h
  split at h <;> first | (exfalso; omega) | skip
  exact ⟨_, rfl⟩
theorem take0 {st : List AV} : (st.take 0).reverse = [] ∧ st.drop 0 = st := ⟨rfl, rfl⟩
theorem cxe_tok {lvl x j : Nat} (hj : j < 5) (hl : Cond.fieldLink RX8 x "SagMemory$Token" (nmK j) "LSagMemory$Token;" ∈ lw_all) : CXE RX8 clR shR tylR NwsR exR flR lvl 1 8 (10 * x) 0 0 (spTok j) := by
  refine ⟨spTok_mono, ?_⟩
  intro p l e R s m args below meth c Q cc D A ad ca nL c0 s0 c1 s1 c9 s9 THX hl0 F hml hA hfr hlo hcs hev hlocks _ _ _ pc len i lv st M hd hk hi _ hle hsp ls H locs hr
  obtain rfl := xk_gs hk
  obtain rfl : len = 3 := by simpa [iokx, iok] using hi
  have hsp : snW p l e R s m args below meth c Q D clR A ad ca shR nL c0 s0 (pc + 3) lv (ar (320 + j) :: st) M := hsp
  refine va_gets F.1 F.2.1 (hev.2.1 j hj) hr.2.2.2.1 F.2.2.1 (F.2.2.2.1 _ hl) (fun _ h => h) hd ?_
  exact hsp ls H locs (rel_st hr (ok_c trivial hr.2.2.2.2.2.2))
def spTxt (i : Nat) : Spec := fun avs M Q => match avs with
  | [] => Q (some (ar (300 + i))) M
  | _ => False
theorem spTxt_mono {i : Nat} : mono (spTxt i) := by
  intro a M Q Q' h h1
  unfold spTxt at h1 ⊢
  split at h1
  · exact h _ _ h1
  · exact h1.elim
theorem cTxt {i : Nat} {M : Mm} {Q : Option AV → Mm → Prop} : spTxt i [] M Q = Q (some (ar (300 + i))) M := id rfl
theorem cxe_txt {lvl i : Nat} (hi : i < 14) : CXE RX8 clR shR tylR NwsR exR flR lvl 1 8 (10 * idxW i + 3) 0 0 (spTxt i) := by
  refine ⟨spTxt_mono, ?_⟩
  intro p l e R s m args below meth c Q cc D A ad ca nL c0 s0 c1 s1 c9 s9 THX hl0 F hml hA hfr hlo hcs hev hlocks _ _ _ pc len i2 lv st M hd hk hi2 _ hle hsp ls H locs hr
  obtain rfl := xk_ld hk
  obtain rfl : len = 2 := by simpa [iokx, iok] using hi2
  have hsp : snW p l e R s m args below meth c Q D clR A ad ca shR nL c0 s0 (pc + 2) lv (ar (300 + i) :: st) M := hsp
  refine va_ldcS F.1 F.2.1 F.2.2.1 (hev.1 i hi).1 hd ?_
  exact hsp ls H locs (rel_st hr (ok_c trivial hr.2.2.2.2.2.2))
/-- length, charAt of a text -/
def spTl : Spec := fun avs M Q => match avs with
  | [.inr (.inr (some k))] => (300 ≤ k ∧ k < 314) ∧ Q (some (ai ((sW (k - 300)).length : Int))) M
  | _ => False
theorem spTl_mono : mono spTl := by
  intro a M Q Q' h h1
  unfold spTl at h1 ⊢
  split at h1
  · exact ⟨h1.1, h _ _ h1.2⟩
  · exact h1.elim
theorem cTl {k : Nat} {M : Mm} {Q : Option AV → Mm → Prop} : spTl [ar k] M Q = ((300 ≤ k ∧ k < 314) ∧ Q (some (ai ((sW (k - 300)).length : Int))) M) := id rfl
def spTc : Spec := fun avs M Q => match avs with
  | [.inr (.inr (some k)), .inl i] => ((300 ≤ k ∧ k < 314) ∧ 0 ≤ i ∧ i < ((sW (k - 300)).length : Int)) ∧ Q (some (ai (chW (k - 300) i.toNat))) M
  | _ => False
theorem spTc_mono : mono spTc := by
  intro a M Q Q' h h1
  unfold spTc at h1 ⊢
  split at h1
  · exact ⟨h1.1, h _ _ h1.2⟩
  · exact h1.elim
theorem cTc {k : Nat} {i : Int} {M : Mm} {Q : Option AV → Mm → Prop} : spTc [ar k, ai i] M Q = (((300 ≤ k ∧ k < 314) ∧ 0 ≤ i ∧ i < ((sW (k - 300)).length : Int)) ∧ Q (some (ai (chW (k - 300) i.toNat))) M) := id rfl
theorem sW_len {i : Nat} (hi : i < 14) : (sW i).length ≤ 7 := (sW_ok ⟨i, hi⟩).1
/-- what a call of a text's method leaves: the same world -/
theorem txt_back {p : Program} {l : Launch} {e : Env} {R : Room} {s : State} {m : MethodId} {args : Array Value} {below : List Frame} {meth : Method} {c : Code} {Q : State → Prop} {D : va_G} {A : Nat → Prop} {ad : Nat → Nat} {ca : Nat → ClassId} {nL c0 s0 pc : Nat} {lv : LV} {st st' : List AV} {M : Mm} {ls : Array Slot} {H H1 : Heap} {locs locs1 : List Loc}
    (hr : rel D clR A ad ca shR nL s.heap lv st M ls H locs) (hv : ∀ v ∈ st', okV v) (hk : ∀ q : Nat, q < H.size → ¬ NF q → H1[q]? = H[q]?) (hS : va_S A s.heap H1 locs1) (k : snW p l e R s m args below meth c Q D clR A ad ca shR nL c0 s0 pc lv st' M) : W p l e R s m args below meth c H1 locs1 c0 s0 Q (F0 m pc ls (st'.map (cz ad))) :=
  k ls H1 locs1 ⟨hr.1, hr.2.1.kept fun j z hz => hk _ (vx_lt hr.2.1 hz) (fun w => w), hr.2.2.1, hS, hr.2.2.2.2.1, hr.2.2.2.2.2.1, hv⟩
theorem cxe_tl {lvl : Nat} (hlv : 5 ≤ lvl) : CXE RX8 clR shR tylR NwsR exR flR lvl 1 8 865 0 1 spTl := by
  refine ⟨spTl_mono, ?_⟩
  intro p l e R s m args below meth c Q cc D A ad ca nL c0 s0 c1 s1 c9 s9 THX hl0 F hml hA hfr hlo hcs hev hlocks _ _ _ pc len i2 lv st M hd hk hi2 _ hle hsp ls H locs hr
  obtain rfl := xk_iv (x := 86) hk
  obtain rfl : len = 3 := by simpa [iokx, iok] using hi2
  unfold spTl at hsp
  split at hsp
  · rename_i k hav
    obtain ⟨r, rfl, er⟩ := take1 hav
    obtain ⟨hk1, hsp⟩ := hsp
    have hsp : snW p l e R s m args below meth c Q D clR A ad ca shR nL c0 s0 (pc + 3) lv (ai ((sW (k - 300)).length : Int) :: r) M := hsp
    have hkk : 300 + (k - 300) = k := by omega
    obtain ⟨v, hst⟩ := (hev.1 (k - 300) (by omega)).2
    rw [hkk] at hst
    have hln := sW_len (i := k - 300) (by omega)
    have hS0 := hr.2.2.2.1
    refine va_calli (S := Unit) (A0 := A) (H0 := s.heap) (va_runV (As := []) (rest := r.map (cz ad)) ⟨F.1, F.2.1, hml, F.2.2.1, F.2.2.2.1⟩ (k_len (a := ad k) (v := v) (N := (sW (k - 300)).length) (f := fun j => .int (Int32.ofInt (chW (k - 300) j))) (by omega) l) (cwV 0 F.2.2.2.1 (lw_V q589 q590 q591 q143 q592) rfl rfl rfl ⟨rfl, by decide, by decide, rfl⟩ ⟨by show 1 + 1 ≤ R.frames; omega, by show 8 + (1 + 11) + 64 * 1 ≤ R.locals; omega⟩) ⟨stF.blind, stF.recv hst hS0, fun U hU hW => ⟨rfl, stF.up hst (by rw [hU]; exact hS0) hW.alike (fun _ z => z.elim)⟩⟩ rfl rfl hr.1.1 rfl (lv_room (room4 (by rw [← er]; exact hle))) hd ⟨by omega, by omega⟩) hS0 (fun _ _ h => h.elim) (fun _ h => h.elim) ?_
    intro r0 u t H1 locs1 ht hv hr1 _ hz hk2 hS
    subst hr1
    exact txt_back hr (ok_c (by show i32 _; unfold i32; omega) (ok_t hr.2.2.2.2.2.2)) hk2 hS hsp
  · exact hsp.elim
theorem cxe_tc {lvl : Nat} (hlv : 5 ≤ lvl) : CXE RX8 clR shR tylR NwsR exR flR lvl 1 8 925 0 2 spTc := by
  refine ⟨spTc_mono, ?_⟩
  intro p l e R s m args below meth c Q cc D A ad ca nL c0 s0 c1 s1 c9 s9 THX hl0 F hml hA hfr hlo hcs hev hlocks _ _ _ pc len i2 lv st M hd hk hi2 _ hle hsp ls H locs hr
  obtain rfl := xk_iv (x := 92) hk
  obtain rfl : len = 3 := by simpa [iokx, iok] using hi2
  unfold spTc at hsp
  split at hsp
  · rename_i k i hav
    obtain ⟨r, rfl, er⟩ := take2 hav
    obtain ⟨⟨hk1, h0, h1⟩, hsp⟩ := hsp
    have hsp : snW p l e R s m args below meth c Q D clR A ad ca shR nL c0 s0 (pc + 3) lv (ai (chW (k - 300) i.toNat) :: r) M := hsp
    have hkk : 300 + (k - 300) = k := by omega
    obtain ⟨v, hst⟩ := (hev.1 (k - 300) (by omega)).2
    rw [hkk] at hst
    have hln := sW_len (i := k - 300) (by omega)
    have hS0 := hr.2.2.2.1
    have hch := sW_rg (i := k - 300) (k := i.toNat) (by omega) (by omega)
    have oi : i32 i := ok_h hr.2.2.2.2.2.2
    have en : (Int32.ofInt i).toNatClampNeg = i.toNat := by
      show (Int32.ofInt i).toInt.toNat = i.toNat
      rw [n_of oi]
    have ec : (Int32.ofInt (chW (k - 300) i.toNat)).toInt = chW (k - 300) i.toNat := n_of (by unfold i32; omega)
    refine va_calli (S := Unit) (A0 := A) (H0 := s.heap) (va_runV (As := [.int (Int32.ofInt i)]) (rest := r.map (cz ad)) ⟨F.1, F.2.1, hml, F.2.2.1, F.2.2.2.1⟩ (k_chr (a := ad k) (v := v) (N := (sW (k - 300)).length) (f := fun j => .int (Int32.ofInt (chW (k - 300) j))) (i := Int32.ofInt i) (n_in oi ⟨h0, h1⟩) (by omega) (x := Int32.ofInt (chW (k - 300) i.toNat)) (by rw [en]) (by rw [ec]; omega) l) (cwV 1 F.2.2.2.1 (lw_V q599 q600 q601 q143 q602) rfl rfl rfl ⟨rfl, by decide, by decide, rfl⟩ ⟨by show 3 + 1 ≤ R.frames; omega, by show 8 + (2 + 11) + 64 * 3 ≤ R.locals; omega⟩) ⟨stF.blind, stF.recv hst hS0, fun U hU hW => ⟨rfl, stF.up hst (by rw [hU]; exact hS0) hW.alike (fun _ z => z.elim)⟩⟩ rfl rfl hr.1.1 rfl (lv_room (room4 (by rw [← er]; exact hle))) hd ⟨by omega, by omega⟩) hS0 (fun _ _ h => h.elim) (fun _ h => h.elim) ?_
    intro r0 u t H1 locs1 ht hv hr1 _ hz hk2 hS
    subst hr1
    exact txt_back hr (ok_c (by show i32 _; unfold i32; omega) (ok_t (ok_t hr.2.2.2.2.2.2))) hk2 hS hsp
  · exact hsp.elim
/-- two tokens are one, or not -/
def spAcmp (b : Bool) : Spec := fun avs M Q => match avs with
  | [.inr (.inr (some x)), .inr (.inr (some y))] => ((320 ≤ x ∧ x < 325) ∧ 320 ≤ y ∧ y < 325) ∧ Q (some (ai (b01 (if b then x = y else ¬ x = y)))) M
  | _ => False
theorem spAcmp_mono {b : Bool} : mono (spAcmp b) := by
  intro a M Q Q' h h1
  unfold spAcmp at h1 ⊢
  split at h1
  · exact ⟨h1.1, h _ _ h1.2⟩
  · exact h1.elim
theorem cAeq {x y : Nat} {M : Mm} {Q : Option AV → Mm → Prop} : spAcmp true [ar x, ar y] M Q = (((320 ≤ x ∧ x < 325) ∧ 320 ≤ y ∧ y < 325) ∧ Q (some (ai (b01 (x = y)))) M) := by
  show (_ ∧ Q (some (ai (b01 (if true = true then x = y else ¬ x = y)))) M) = _
  simp only [if_true]
theorem cAne {x y : Nat} {M : Mm} {Q : Option AV → Mm → Prop} : spAcmp false [ar x, ar y] M Q = (((320 ≤ x ∧ x < 325) ∧ 320 ≤ y ∧ y < 325) ∧ Q (some (ai (b01 (¬ x = y)))) M) := by
  show (_ ∧ Q (some (ai (b01 (if false = true then x = y else ¬ x = y)))) M) = _
  simp only [Bool.false_eq_true, if_false]
theorem cxe_aeq {lvl : Nat} : CXE RX8 clR shR tylR NwsR exR flR lvl 1 8 4 3 2 (spAcmp true) := by
  refine ⟨spAcmp_mono, ?_⟩
  intro p l e R s m args below meth c Q cc D A ad ca nL c0 s0 c1 s1 c9 s9 THX hl0 F hml hA hfr hlo hcs hev hlocks _ _ _ pc len i2 lv st M hd hk hi2 _ hle hsp ls H locs hr
  obtain ⟨off, rfl⟩ := xk_aeq hk
  obtain ⟨rfl, ho⟩ : len = 3 ∧ 0 ≤ (pc : Int) + off := by simpa [iokx] using hi2
  unfold spAcmp at hsp
  split at hsp
  · rename_i x y hav
    obtain ⟨r, rfl, er⟩ := take2 hav
    obtain ⟨⟨hx, hy⟩, hsp⟩ := hsp
    have hsp : (b01 (if true = true then x = y else ¬ x = y) = 1 → snW p l e R s m args below meth c Q D clR A ad ca shR nL c0 s0 ((pc : Int) + off).toNat lv r M) ∧ (b01 (if true = true then x = y else ¬ x = y) ≠ 1 → snW p l e R s m args below meth c Q D clR A ad ca shR nL c0 s0 (pc + 3) lv r M) := hsp
    simp only [if_true] at hsp
    have hrr := rel_st hr (ok_t (ok_t hr.2.2.2.2.2.2))
    refine lv_acmp_eq F.1 F.2.1 (rx := some (ad x)) (ry := some (ad y)) hd (tgt_of ho) (fun q => ?_) (fun q => ?_)
    · have q := Option.some.inj q
      have e := hev.2.2.1 (x - 320) (y - 320) (by omega) (by omega) (by rw [show 320 + (x - 320) = x by omega, show 320 + (y - 320) = y by omega]; exact q)
      exact hsp.1 (b01_1.mpr (by omega)) ls H locs hrr
    · exact hsp.2 (fun z => q (congrArg (fun k => some (ad k)) (b01_1.mp z))) ls H locs hrr
  · exact hsp.elim
theorem cxe_ane {lvl : Nat} : CXE RX8 clR shR tylR NwsR exR flR lvl 1 8 14 3 2 (spAcmp false) := by
  refine ⟨spAcmp_mono, ?_⟩
  intro p l e R s m args below meth c Q cc D A ad ca nL c0 s0 c1 s1 c9 s9 THX hl0 F hml hA hfr hlo hcs hev hlocks _ _ _ pc len i2 lv st M hd hk hi2 _ hle hsp ls H locs hr
  obtain ⟨off, rfl⟩ := xk_ane hk
  obtain ⟨rfl, ho⟩ : len = 3 ∧ 0 ≤ (pc : Int) + off := by simpa [iokx] using hi2
  unfold spAcmp at hsp
  split at hsp
  · rename_i x y hav
    obtain ⟨r, rfl, er⟩ := take2 hav
    obtain ⟨⟨hx, hy⟩, hsp⟩ := hsp
    have hsp : (b01 (if false = true then x = y else ¬ x = y) = 1 → snW p l e R s m args below meth c Q D clR A ad ca shR nL c0 s0 ((pc : Int) + off).toNat lv r M) ∧ (b01 (if false = true then x = y else ¬ x = y) ≠ 1 → snW p l e R s m args below meth c Q D clR A ad ca shR nL c0 s0 (pc + 3) lv r M) := hsp
    simp only [Bool.false_eq_true, if_false] at hsp
    have hrr := rel_st hr (ok_t (ok_t hr.2.2.2.2.2.2))
    refine lv_acmp_ne F.1 F.2.1 (rx := some (ad x)) (ry := some (ad y)) hd (tgt_of ho) (fun q => ?_) (fun q => ?_)
    · exact hsp.1 (b01_1.mpr (fun z => q (congrArg (fun k => some (ad k)) z))) ls H locs hrr
    · have q := Option.some.inj q
      have e := hev.2.2.1 (x - 320) (y - 320) (by omega) (by omega) (by rw [show 320 + (x - 320) = x by omega, show 320 + (y - 320) = y by omega]; exact q)
      exact hsp.2 (fun z => b01_1.mp z (by omega)) ls H locs hrr
  · exact hsp.elim
