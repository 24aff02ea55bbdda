/-! Questions that go over bridges or carts -/
theorem sag_rg {V : Vy} (h : okY V) {n : Nat} (hn : (n : Int) ≤ V 0 4) (b : Nat) : 0 ≤ sagP ((rT V n).1 b) ∧ sagP ((rT V n).1 b) ≤ 792 := by
  have h1 := run_ok (w := whoM (tellP V)) h (okCf_tell h) n hn b
  have h2 := sagP_b h1.1
  have h4 := h.2.2.2.2.1
  have h3 : ((runP (whoM (tellP V)) V (tellP V) n).1 b).length ≤ 7 := by omega
  refine ⟨h2.1, ?_⟩
  have h5 := h2.2
  show sagP ((runP (whoM (tellP V)) V (tellP V) n).1 b) ≤ 792
  omega
def A_all (V : Vy) (t : Int) : Int := if isC V t then sumN (fun b => sagP ((rT V (t.toNat + 1)).1 b)) (V 0 3).toNat else -2
def P7_all (t : Int) (M : Mm) : Prop := okY (vM M)
def R7_all (t : Int) (M : Mm) (v : Int) (M1 : Mm) : Prop := keepM M M1 ∧ v = A_all (vM M) t
def sp7_all : Spec := spR true [0] 1 (fun x M => P7_all (x 0) M) (fun x M v M1 => R7_all (x 0) M v M1)
theorem c7_all {t : Int} {M : Mm} {Q : Option AV → Mm → Prop} : sp7_all [ar 0, ai t] M Q = (P7_all t M ∧ ∀ (v : Int) (M1 : Mm), R7_all t M v M1 → Q (some (ai v)) M1) := rfl
def cs7_all : List (Nat × Nat × Nat × Spec) := [(289, 1, 2, sp7_isCart), (336, 1, 1, sp7_laysNow), (283, 1, 1, sp7_bridges)]
def J7_all_25 (t : Int) (M : Mm) (m : Nat) (t_ : Int) (n : Int) (b : Int) (M1 : Mm) : Prop := t = t_ ∧ isC (vM M) t ∧ keepM M M1 ∧ laidR (vM M) (tellP (vM M)) M1 ∧ ∃ a : Nat, b = a ∧ (a : Int) ≤ M 7 3 ∧ n = sumN (fun b => sagP ((rT (vM M) (t.toNat + 1)).1 b)) a ∧ m = 3 - a
set_option maxHeartbeats 4000000 in
set_option maxRecDepth 100000 in
theorem in7_all {t : Int} {M : Mm} {Q : Option AV → Mm → Prop} (hM : okM sh7 M) (h_t : i32 t) (hP : P7_all t M) (hQ : ∀ (v : Int) (M1 : Mm), R7_all t M v M1 → Q (some (ai v)) M1) (I_25 : List AV → Mm → Prop) (hI_25 : ∀ (m_ : Nat) (y_t_ : Int) (y_n : Int) (y_b : Int) (M2 : Mm), J7_all_25 t M m_ y_t_ y_n y_b M2 → I_25 [ar 0, ai y_t_, ai y_n, ai y_b] M2) : wp (tb7 (csL cs7_all)) sh7 4 1 cX7_all [(25, [0, 1, 2, 3], I_25)] Q 400 0 [(0, ar 0), (1, ai t)] [] M := by
  have h4 : 0 ≤ M 7 4 ∧ M 7 4 ≤ 7 := hP.2.2.2.2.1
  have h3 : 0 ≤ M 7 3 ∧ M 7 3 ≤ 3 := hP.2.2.2.1
  have hk0 : keepM M (up2 M 0 0 0) := keep_u0 keep_rf (by decide)
  have hV : vM (up2 M 0 0 0) = vM M := keep_v hk0 0
  have hP0 : okY (vM (up2 M 0 0 0)) := by rw [hV]; exact hP
  simp only [e_wp dX7_all_0 rfl, e_wp dX7_all_1 rfl, e_wp dX7_all_2 rfl, e_wp dX7_all_5 rfl, e_wp dX7_all_6 rfl, e_wp dX7_all_7 rfl, e_wp dX7_all_8 rfl, e_wp dX7_all_11 rfl, e_wp dX7_all_14 rfl, e_wp dX7_all_16 rfl, e_wp dX7_all_17 rfl, e_wp dX7_all_18 rfl, e_wp dX7_all_21 rfl, e_wp dX7_all_22 rfl, e_wp dX7_all_23 rfl, e_wp dX7_all_24 rfl, e_wp dX7_all_25 rfl, e_wp dX7_all_26 rfl, e_wp dX7_all_27 rfl, e_wp dX7_all_30 rfl, e_wp dX7_all_33 rfl, e_wp dX7_all_34 rfl, e_wp dX7_all_35 rfl, e_wp dX7_all_38 rfl, e_wp dX7_all_39 rfl, e_wp dX7_all_40 rfl, e_wp dX7_all_41 rfl, e_wp dX7_all_42 rfl, e_wp dX7_all_43 rfl, e_wp dX7_all_44 rfl, e_wp dX7_all_45 rfl, e_wp dX7_all_46 rfl, e_wp dX7_all_49 rfl, e_wp dX7_all_52 rfl, e_wp dX7_all_53 rfl, p7_116, c7_isCart, P7_isCart, V7_isCart, cs7_all, c7_laysNow, c7_bridges, P7_bridges, V7_bridges, g7_98, a7_1, w7_1, a7_2, w7_2, a7_3, w7_3, a7_4, w7_4, a7_5, w7_5, a7_6, w7_6, a7_7, w7_7, a7_8, w7_8, a7_9, w7_9, a7_10, w7_10, a7_11, w7_11, a7_12, w7_12, a7_13, w7_13, a7_14, w7_14, a7_15, w7_15, a7_16, w7_16, a7_17, w7_17, a7_18, w7_18, a7_19, w7_19, a7_20, w7_20, a7_21, w7_21, a7_22, w7_22, a7_23, w7_23, a7_24, w7_24, a7_25, w7_25, a7_26, w7_26, a7_27, w7_27, a7_28, w7_28, a7_29, w7_29, a7_30, w7_30, a7_31, w7_31, a7_32, w7_32, a7_33, w7_33, e_iconst, e_bipush, e_sipush, e_lconst_0, e_lconst_1, e_iload, e_iload_0, e_iload_1, e_iload_2, e_iload_3, e_lload, e_lload_0, e_lload_1, e_lload_2, e_lload_3, e_aload, e_aload_0, e_aload_1, e_aload_2, e_aload_3, e_istore, e_istore_0, e_istore_1, e_istore_2, e_istore_3, e_astore, e_astore_0, e_astore_1, e_astore_2, e_astore_3, e_lstore, e_lstore_0, e_lstore_1, e_lstore_2, e_lstore_3, e_iinc, e_iadd, e_isub, e_imul, e_ladd, e_lsub, e_lmul, e_idiv, e_irem, e_ldiv, e_lrem, e_ineg, e_lneg, e_iand, e_ior, e_ixor, e_ishl, e_ishr, e_iushr, e_lcmp, e_i2l, e_l2i, e_i2b, e_i2s, e_dup_i, e_dup_r, e_pop_i, e_pop_r, e_dup2_l, e_dup2_ir, e_dup2_ii, e_ifeq, e_ifne, e_iflt, e_ifge, e_ifgt, e_ifle, e_iceq, e_icne, e_iclt, e_icge, e_icgt, e_icle, e_goto, e_switch, e_invokevirtual, e_invokestatic, e_invokespecial, e_ret0, e_ret1, e_ret2, e_ret3, ldI_s, ldL_s, ldR_s, clO_s, ctP_s, ctS_s, mgo_0, mgo_s, pjc_s, pj_0, pj_s, lk_s, rm1_0, rm1_i, rm1_r, rm1_l, rm2_0, rm2_i, rm2_r, rm2_l, csL_s, lc_lt, lc_ge, lc_gt, lc_le, lc_eq, b01_0, b01_1, b01_01, b01_n, up2_o, up2_s, up2_u, ne_eq, reduceCtorEq, Nat.reduceAdd, Nat.reduceEqDiff, Nat.reduceLT, Nat.reduceLeDiff, Int.reduceLE, Int.reduceLT, Int.reduceAdd, Int.reduceNeg, Int.reduceMul, Int.reduceSub, Int.reduceEq, Int.reduceToNat, Int.reduceNatCast, Int.cast_ofNat_Int, ↓reduceIte, and_self, List.drop_succ_cons, List.drop_zero, List.take_succ_cons, List.take_zero, List.length_cons, List.length_nil, List.reverse_cons, List.reverse_nil, List.nil_append, List.cons_append, Option.toList, true_and, and_true, or_false, false_or, or_true, true_or, forall_const, Classical.not_not, not_false_eq_true, not_true_eq_false, false_implies, true_implies, implies_true, imp_self]
  refine ⟨h4, fun q => ⟨hP0, fun M1 hR => ?_⟩, fun q => hQ _ _ ⟨hk0, (if_neg q).symm⟩⟩
  obtain ⟨k1, k2, -⟩ := lay_use hR
  exact hI_25 _ _ _ _ _ ⟨rfl, q, k1, k2, 0, rfl, h3.1, rfl, rfl⟩
set_option maxHeartbeats 4000000 in
set_option maxRecDepth 100000 in
theorem at7_all_25 {t : Int} {M : Mm} {Q : Option AV → Mm → Prop} (hM : okM sh7 M) (h_t : i32 t) (hP : P7_all t M) (hQ : ∀ (v : Int) (M1 : Mm), R7_all t M v M1 → Q (some (ai v)) M1) {m : Nat} {t_ n b : Int} {M1 : Mm} (hM1 : okM sh7 M1) (h_t_ : i32 t_) (h_n : i32 n) (h_b : i32 b) (hJ : J7_all_25 t M m t_ n b M1) (I_25 : List AV → Mm → Prop) (hI_25 : ∀ (m_ : Nat) (y_t_ : Int) (y_n : Int) (y_b : Int) (M2 : Mm), m_ < m → J7_all_25 t M m_ y_t_ y_n y_b M2 → I_25 [ar 0, ai y_t_, ai y_n, ai y_b] M2) : wp (tb7 (csL cs7_all)) sh7 4 1 cX7_all [(25, [0, 1, 2, 3], I_25)] Q 400 25 [(0, ar 0), (1, ai t_), (2, ai n), (3, ai b)] [] M1 := by
  obtain ⟨rfl, hc, hk, k2, a, rfl, ha, rfl, rfl⟩ := hJ
  have h4 : 0 ≤ M 7 4 ∧ M 7 4 ≤ 7 := hP.2.2.2.2.1
  have h3 : 0 ≤ M 7 3 ∧ M 7 3 ≤ 3 := hP.2.2.2.1
  have e7 : M1 7 = M 7 := keep_has hk
  obtain ⟨u, rfl⟩ := Int.eq_ofNat_of_zero_le hc.1
  have hu : (u : Int) < M 7 4 := hc.2
  rw [Int.toNat_natCast] at *
  have hb : ∀ k : Nat, 0 ≤ sagP ((rT (vM M) (u + 1)).1 k) ∧ sagP ((rT (vM M) (u + 1)).1 k) ≤ 792 := sag_rg hP (by show ((u + 1 : Nat) : Int) ≤ M 7 4; omega)
  have i1 : ((3 : Int) * u + a).toNat = 3 * u + a := by omega
  simp only [e_wp dX7_all_0 rfl, e_wp dX7_all_1 rfl, e_wp dX7_all_2 rfl, e_wp dX7_all_5 rfl, e_wp dX7_all_6 rfl, e_wp dX7_all_7 rfl, e_wp dX7_all_8 rfl, e_wp dX7_all_11 rfl, e_wp dX7_all_14 rfl, e_wp dX7_all_16 rfl, e_wp dX7_all_17 rfl, e_wp dX7_all_18 rfl, e_wp dX7_all_21 rfl, e_wp dX7_all_22 rfl, e_wp dX7_all_23 rfl, e_wp dX7_all_24 rfl, e_wp dX7_all_25 rfl, e_wp dX7_all_26 rfl, e_wp dX7_all_27 rfl, e_wp dX7_all_30 rfl, e_wp dX7_all_33 rfl, e_wp dX7_all_34 rfl, e_wp dX7_all_35 rfl, e_wp dX7_all_38 rfl, e_wp dX7_all_39 rfl, e_wp dX7_all_40 rfl, e_wp dX7_all_41 rfl, e_wp dX7_all_42 rfl, e_wp dX7_all_43 rfl, e_wp dX7_all_44 rfl, e_wp dX7_all_45 rfl, e_wp dX7_all_46 rfl, e_wp dX7_all_49 rfl, e_wp dX7_all_52 rfl, e_wp dX7_all_53 rfl, p7_116, c7_isCart, P7_isCart, V7_isCart, cs7_all, c7_laysNow, c7_bridges, P7_bridges, V7_bridges, g7_98, a7_1, w7_1, a7_2, w7_2, a7_3, w7_3, a7_4, w7_4, a7_5, w7_5, a7_6, w7_6, a7_7, w7_7, a7_8, w7_8, a7_9, w7_9, a7_10, w7_10, a7_11, w7_11, a7_12, w7_12, a7_13, w7_13, a7_14, w7_14, a7_15, w7_15, a7_16, w7_16, a7_17, w7_17, a7_18, w7_18, a7_19, w7_19, a7_20, w7_20, a7_21, w7_21, a7_22, w7_22, a7_23, w7_23, a7_24, w7_24, a7_25, w7_25, a7_26, w7_26, a7_27, w7_27, a7_28, w7_28, a7_29, w7_29, a7_30, w7_30, a7_31, w7_31, a7_32, w7_32, a7_33, w7_33, e_iconst, e_bipush, e_sipush, e_lconst_0, e_lconst_1, e_iload, e_iload_0, e_iload_1, e_iload_2, e_iload_3, e_lload, e_lload_0, e_lload_1, e_lload_2, e_lload_3, e_aload, e_aload_0, e_aload_1, e_aload_2, e_aload_3, e_istore, e_istore_0, e_istore_1, e_istore_2, e_istore_3, e_astore, e_astore_0, e_astore_1, e_astore_2, e_astore_3, e_lstore, e_lstore_0, e_lstore_1, e_lstore_2, e_lstore_3, e_iinc, e_iadd, e_isub, e_imul, e_ladd, e_lsub, e_lmul, e_idiv, e_irem, e_ldiv, e_lrem, e_ineg, e_lneg, e_iand, e_ior, e_ixor, e_ishl, e_ishr, e_iushr, e_lcmp, e_i2l, e_l2i, e_i2b, e_i2s, e_dup_i, e_dup_r, e_pop_i, e_pop_r, e_dup2_l, e_dup2_ir, e_dup2_ii, e_ifeq, e_ifne, e_iflt, e_ifge, e_ifgt, e_ifle, e_iceq, e_icne, e_iclt, e_icge, e_icgt, e_icle, e_goto, e_switch, e_invokevirtual, e_invokestatic, e_invokespecial, e_ret0, e_ret1, e_ret2, e_ret3, ldI_s, ldL_s, ldR_s, clO_s, ctP_s, ctS_s, mgo_0, mgo_s, pjc_s, pj_0, pj_s, lk_s, rm1_0, rm1_i, rm1_r, rm1_l, rm2_0, rm2_i, rm2_r, rm2_l, csL_s, lc_lt, lc_ge, lc_gt, lc_le, lc_eq, b01_0, b01_1, b01_01, b01_n, up2_o, up2_s, up2_u, ne_eq, reduceCtorEq, Nat.reduceAdd, Nat.reduceEqDiff, Nat.reduceLT, Nat.reduceLeDiff, Int.reduceLE, Int.reduceLT, Int.reduceAdd, Int.reduceNeg, Int.reduceMul, Int.reduceSub, Int.reduceEq, Int.reduceToNat, Int.reduceNatCast, Int.cast_ofNat_Int, ↓reduceIte, and_self, List.drop_succ_cons, List.drop_zero, List.take_succ_cons, List.take_zero, List.length_cons, List.length_nil, List.reverse_cons, List.reverse_nil, List.nil_append, List.cons_append, Option.toList, true_and, and_true, or_false, false_or, or_true, true_or, forall_const, Classical.not_not, not_false_eq_true, not_true_eq_false, false_implies, true_implies, implies_true, imp_self, e7, i1]
  refine ⟨fun q => hQ _ _ ⟨hk, ?_⟩, fun q => ?_⟩
  · rw [show A_all (vM M) u = _ from if_pos hc, Int.toNat_natCast, show (vM M 0 3).toNat = a by show (M 7 3).toNat = a; omega]
  · have hs := sumN_b (f := fun b => sagP ((rT (vM M) (u + 1)).1 b)) (n := a) (fun k _ => hb k)
    have hx := hb a
    have ta : M1 28 (3 * u + a) = sagP ((rT (vM M) (u + 1)).1 a) := (tab_out k2 hc.2 q).2.2.2.1
    rw [ta]
    repeat (refine And.intro (by omega) ?_)
    refine hI_25 (3 - (a + 1)) _ _ _ _ ?_ ⟨rfl, hc, hk, k2, a + 1, ?_, ?_, ?_, rfl⟩
    · omega
    · omega
    · omega
    · rw [Int.toNat_natCast]; first | done | rfl
set_option maxHeartbeats 4000000 in
set_option maxRecDepth 100000 in
theorem m7_all : MOK cl7 sh7 tyl7 [] 5 yX7_all cX7_all 4 (some .int) sp7_all := by
  refine mok_of (own := RX7) (tb := tb7 (csL cs7_all)) (rt := 1) (fuel := 400) (fun avs M Q => [(25, [0, 1, 2, 3], fun m_ vs M1 => ∃ y_t_ : Int, ∃ y_n : Int, ∃ y_b : Int, vs = [ar 0, ai y_t_, ai y_n, ai y_b] ∧ J7_all_25 (pa true [0] avs 0) M m_ y_t_ y_n y_b M1)]) (by decide) rfl nil_nw (tbOK7 _) rfl (csL_all ?_) ?_ ?_ ?_
  · intro q hq
    simp only [cs7_all, List.mem_cons, List.not_mem_nil, or_false] at hq
    rcases hq with rfl | rfl | rfl
    · exact cg7_isCart (by decide)
    · exact cg7_laysNow (by decide)
    · exact cg7_bridges (by decide)
  · intro avs M Q hsp
    obtain ⟨xs, hx⟩ := spR_un _ _ _ hsp
    obtain ⟨e, hl⟩ := unA_mkT hx
    obtain ⟨t, rfl⟩ := len1 hl
    have e : avs = [ar 0, ai t] := e
    subst e
    simp [szL, isL]
  · intro avs M Q hM hav hsp
    obtain ⟨xs, hx⟩ := spR_un _ _ _ hsp
    obtain ⟨e, hl⟩ := unA_mkT hx
    obtain ⟨t, rfl⟩ := len1 hl
    have e : avs = [ar 0, ai t] := e
    subst e
    exact in7_all hM (hav (ai t) (by simp)) hsp.1 hsp.2 _ (fun m_ y_t_ y_n y_b M2 hJ => ⟨m_, y_t_, y_n, y_b, rfl, hJ⟩)
  · intro avs M Q hM hav hsp q hq m_ vs M1 hM1 hv hJ
    obtain ⟨xs, hx⟩ := spR_un _ _ _ hsp
    obtain ⟨e, hl⟩ := unA_mkT hx
    obtain ⟨t, rfl⟩ := len1 hl
    have e : avs = [ar 0, ai t] := e
    subst e
    simp only [List.mem_cons, List.not_mem_nil, or_false] at hq
    rcases hq with rfl
    · obtain ⟨y_t_, y_n, y_b, rfl, hJ⟩ := hJ
      exact at7_all_25 hM (hav (ai t) (by simp)) hsp.1 hsp.2 hM1 (hv (1, ai y_t_) (List.mem_of_getElem? (i := 1) rfl)) (hv (2, ai y_n) (List.mem_of_getElem? (i := 2) rfl)) (hv (3, ai y_b) (List.mem_of_getElem? (i := 3) rfl)) hJ _ (fun m2 z_t_ z_n z_b M2 hm hJ2 => ⟨m2, hm, z_t_, z_n, z_b, rfl, hJ2⟩)
/-- the deepest of n: the first of the greatest -/
def dpR (f : Nat → Int) : Nat → Int
  | 0 => -1
  | b + 1 => if dpR f b = -1 ∨ f (dpR f b).toNat < f b then b else dpR f b
theorem dpR_rg (f : Nat → Int) : ∀ n : Nat, -1 ≤ dpR f n ∧ dpR f n < n := by
  intro n
  induction n with
  | zero => show -1 ≤ (-1 : Int) ∧ (-1 : Int) < 0; omega
  | succ n ih =>
    show -1 ≤ (if dpR f n = -1 ∨ f (dpR f n).toNat < f n then (n : Int) else dpR f n) ∧ (if dpR f n = -1 ∨ f (dpR f n).toNat < f n then (n : Int) else dpR f n) < ((n + 1 : Nat) : Int)
    split <;> omega
def A_deepest (V : Vy) (t : Int) : Int := if isC V t then dpR (fun b => sagP ((rT V (t.toNat + 1)).1 b)) (V 0 3).toNat else -2
def P7_deepest (t : Int) (M : Mm) : Prop := okY (vM M)
def R7_deepest (t : Int) (M : Mm) (v : Int) (M1 : Mm) : Prop := keepM M M1 ∧ v = A_deepest (vM M) t
def sp7_deepest : Spec := spR true [0] 1 (fun x M => P7_deepest (x 0) M) (fun x M v M1 => R7_deepest (x 0) M v M1)
theorem c7_deepest {t : Int} {M : Mm} {Q : Option AV → Mm → Prop} : sp7_deepest [ar 0, ai t] M Q = (P7_deepest t M ∧ ∀ (v : Int) (M1 : Mm), R7_deepest t M v M1 → Q (some (ai v)) M1) := rfl
def cs7_deepest : List (Nat × Nat × Nat × Spec) := [(289, 1, 2, sp7_isCart), (336, 1, 1, sp7_laysNow), (283, 1, 1, sp7_bridges)]
def J7_deepest_25 (t : Int) (M : Mm) (m : Nat) (t_ : Int) (n : Int) (b : Int) (M1 : Mm) : Prop := t = t_ ∧ isC (vM M) t ∧ keepM M M1 ∧ laidR (vM M) (tellP (vM M)) M1 ∧ ∃ a : Nat, b = a ∧ (a : Int) ≤ M 7 3 ∧ n = dpR (fun b => sagP ((rT (vM M) (t.toNat + 1)).1 b)) a ∧ m = 3 - a
set_option maxHeartbeats 4000000 in
set_option maxRecDepth 100000 in
theorem in7_deepest {t : Int} {M : Mm} {Q : Option AV → Mm → Prop} (hM : okM sh7 M) (h_t : i32 t) (hP : P7_deepest t M) (hQ : ∀ (v : Int) (M1 : Mm), R7_deepest t M v M1 → Q (some (ai v)) M1) (I_25 : List AV → Mm → Prop) (hI_25 : ∀ (m_ : Nat) (y_t_ : Int) (y_n : Int) (y_b : Int) (M2 : Mm), J7_deepest_25 t M m_ y_t_ y_n y_b M2 → I_25 [ar 0, ai y_t_, ai y_n, ai y_b] M2) : wp (tb7 (csL cs7_deepest)) sh7 4 1 cX7_deepest [(25, [0, 1, 2, 3], I_25)] Q 400 0 [(0, ar 0), (1, ai t)] [] M := by
  have h4 : 0 ≤ M 7 4 ∧ M 7 4 ≤ 7 := hP.2.2.2.2.1
  have h3 : 0 ≤ M 7 3 ∧ M 7 3 ≤ 3 := hP.2.2.2.1
  have hk0 : keepM M (up2 M 0 0 0) := keep_u0 keep_rf (by decide)
  have hV : vM (up2 M 0 0 0) = vM M := keep_v hk0 0
  have hP0 : okY (vM (up2 M 0 0 0)) := by rw [hV]; exact hP
  simp only [e_wp dX7_deepest_0 rfl, e_wp dX7_deepest_1 rfl, e_wp dX7_deepest_2 rfl, e_wp dX7_deepest_5 rfl, e_wp dX7_deepest_6 rfl, e_wp dX7_deepest_7 rfl, e_wp dX7_deepest_8 rfl, e_wp dX7_deepest_11 rfl, e_wp dX7_deepest_14 rfl, e_wp dX7_deepest_16 rfl, e_wp dX7_deepest_17 rfl, e_wp dX7_deepest_18 rfl, e_wp dX7_deepest_21 rfl, e_wp dX7_deepest_22 rfl, e_wp dX7_deepest_23 rfl, e_wp dX7_deepest_24 rfl, e_wp dX7_deepest_25 rfl, e_wp dX7_deepest_26 rfl, e_wp dX7_deepest_27 rfl, e_wp dX7_deepest_30 rfl, e_wp dX7_deepest_33 rfl, e_wp dX7_deepest_34 rfl, e_wp dX7_deepest_35 rfl, e_wp dX7_deepest_38 rfl, e_wp dX7_deepest_39 rfl, e_wp dX7_deepest_42 rfl, e_wp dX7_deepest_43 rfl, e_wp dX7_deepest_44 rfl, e_wp dX7_deepest_45 rfl, e_wp dX7_deepest_46 rfl, e_wp dX7_deepest_47 rfl, e_wp dX7_deepest_48 rfl, e_wp dX7_deepest_49 rfl, e_wp dX7_deepest_52 rfl, e_wp dX7_deepest_53 rfl, e_wp dX7_deepest_54 rfl, e_wp dX7_deepest_55 rfl, e_wp dX7_deepest_56 rfl, e_wp dX7_deepest_57 rfl, e_wp dX7_deepest_58 rfl, e_wp dX7_deepest_61 rfl, e_wp dX7_deepest_62 rfl, e_wp dX7_deepest_63 rfl, e_wp dX7_deepest_66 rfl, e_wp dX7_deepest_69 rfl, e_wp dX7_deepest_70 rfl, p7_116, c7_isCart, P7_isCart, V7_isCart, cs7_deepest, c7_laysNow, c7_bridges, P7_bridges, V7_bridges, g7_98, a7_1, w7_1, a7_2, w7_2, a7_3, w7_3, a7_4, w7_4, a7_5, w7_5, a7_6, w7_6, a7_7, w7_7, a7_8, w7_8, a7_9, w7_9, a7_10, w7_10, a7_11, w7_11, a7_12, w7_12, a7_13, w7_13, a7_14, w7_14, a7_15, w7_15, a7_16, w7_16, a7_17, w7_17, a7_18, w7_18, a7_19, w7_19, a7_20, w7_20, a7_21, w7_21, a7_22, w7_22, a7_23, w7_23, a7_24, w7_24, a7_25, w7_25, a7_26, w7_26, a7_27, w7_27, a7_28, w7_28, a7_29, w7_29, a7_30, w7_30, a7_31, w7_31, a7_32, w7_32, a7_33, w7_33, e_iconst, e_bipush, e_sipush, e_lconst_0, e_lconst_1, e_iload, e_iload_0, e_iload_1, e_iload_2, e_iload_3, e_lload, e_lload_0, e_lload_1, e_lload_2, e_lload_3, e_aload, e_aload_0, e_aload_1, e_aload_2, e_aload_3, e_istore, e_istore_0, e_istore_1, e_istore_2, e_istore_3, e_astore, e_astore_0, e_astore_1, e_astore_2, e_astore_3, e_lstore, e_lstore_0, e_lstore_1, e_lstore_2, e_lstore_3, e_iinc, e_iadd, e_isub, e_imul, e_ladd, e_lsub, e_lmul, e_idiv, e_irem, e_ldiv, e_lrem, e_ineg, e_lneg, e_iand, e_ior, e_ixor, e_ishl, e_ishr, e_iushr, e_lcmp, e_i2l, e_l2i, e_i2b, e_i2s, e_dup_i, e_dup_r, e_pop_i, e_pop_r, e_dup2_l, e_dup2_ir, e_dup2_ii, e_ifeq, e_ifne, e_iflt, e_ifge, e_ifgt, e_ifle, e_iceq, e_icne, e_iclt, e_icge, e_icgt, e_icle, e_goto, e_switch, e_invokevirtual, e_invokestatic, e_invokespecial, e_ret0, e_ret1, e_ret2, e_ret3, ldI_s, ldL_s, ldR_s, clO_s, ctP_s, ctS_s, mgo_0, mgo_s, pjc_s, pj_0, pj_s, lk_s, rm1_0, rm1_i, rm1_r, rm1_l, rm2_0, rm2_i, rm2_r, rm2_l, csL_s, lc_lt, lc_ge, lc_gt, lc_le, lc_eq, b01_0, b01_1, b01_01, b01_n, up2_o, up2_s, up2_u, ne_eq, reduceCtorEq, Nat.reduceAdd, Nat.reduceEqDiff, Nat.reduceLT, Nat.reduceLeDiff, Int.reduceLE, Int.reduceLT, Int.reduceAdd, Int.reduceNeg, Int.reduceMul, Int.reduceSub, Int.reduceEq, Int.reduceToNat, Int.reduceNatCast, Int.cast_ofNat_Int, ↓reduceIte, and_self, List.drop_succ_cons, List.drop_zero, List.take_succ_cons, List.take_zero, List.length_cons, List.length_nil, List.reverse_cons, List.reverse_nil, List.nil_append, List.cons_append, Option.toList, true_and, and_true, or_false, false_or, or_true, true_or, forall_const, Classical.not_not, not_false_eq_true, not_true_eq_false, false_implies, true_implies, implies_true, imp_self]
  refine ⟨h4, fun q => ⟨hP0, fun M1 hR => ?_⟩, fun q => hQ _ _ ⟨hk0, (if_neg q).symm⟩⟩
  obtain ⟨k1, k2, -⟩ := lay_use hR
  exact hI_25 _ _ _ _ _ ⟨rfl, q, k1, k2, 0, rfl, h3.1, rfl, rfl⟩
set_option maxHeartbeats 4000000 in
set_option maxRecDepth 100000 in
theorem at7_deepest_25 {t : Int} {M : Mm} {Q : Option AV → Mm → Prop} (hM : okM sh7 M) (h_t : i32 t) (hP : P7_deepest t M) (hQ : ∀ (v : Int) (M1 : Mm), R7_deepest t M v M1 → Q (some (ai v)) M1) {m : Nat} {t_ n b : Int} {M1 : Mm} (hM1 : okM sh7 M1) (h_t_ : i32 t_) (h_n : i32 n) (h_b : i32 b) (hJ : J7_deepest_25 t M m t_ n b M1) (I_25 : List AV → Mm → Prop) (hI_25 : ∀ (m_ : Nat) (y_t_ : Int) (y_n : Int) (y_b : Int) (M2 : Mm), m_ < m → J7_deepest_25 t M m_ y_t_ y_n y_b M2 → I_25 [ar 0, ai y_t_, ai y_n, ai y_b] M2) : wp (tb7 (csL cs7_deepest)) sh7 4 1 cX7_deepest [(25, [0, 1, 2, 3], I_25)] Q 400 25 [(0, ar 0), (1, ai t_), (2, ai n), (3, ai b)] [] M1 := by
  obtain ⟨rfl, hc, hk, k2, a, rfl, ha, rfl, rfl⟩ := hJ
  have h4 : 0 ≤ M 7 4 ∧ M 7 4 ≤ 7 := hP.2.2.2.2.1
  have h3 : 0 ≤ M 7 3 ∧ M 7 3 ≤ 3 := hP.2.2.2.1
  have e7 : M1 7 = M 7 := keep_has hk
  obtain ⟨u, rfl⟩ := Int.eq_ofNat_of_zero_le hc.1
  have hu : (u : Int) < M 7 4 := hc.2
  rw [Int.toNat_natCast] at *
  have hd := dpR_rg (fun b => sagP ((rT (vM M) (u + 1)).1 b)) a
  generalize hg : dpR (fun b => sagP ((rT (vM M) (u + 1)).1 b)) a = d at *
  have i1 : ((3 : Int) * u + a).toNat = 3 * u + a := by omega
  have i2 : ¬ d = -1 → ((3 : Int) * u + d).toNat = 3 * u + d.toNat := by omega
  have es : dpR (fun b => sagP ((rT (vM M) (u + 1)).1 b)) (a + 1) = if d = -1 ∨ sagP ((rT (vM M) (u + 1)).1 d.toNat) < sagP ((rT (vM M) (u + 1)).1 a) then (a : Int) else d := by rw [← hg]; rfl
  have go : ∀ x, x = (if d = -1 ∨ sagP ((rT (vM M) (u + 1)).1 d.toNat) < sagP ((rT (vM M) (u + 1)).1 a) then (a : Int) else d) → (a : Int) < M 7 3 → I_25 [ar 0, ai u, ai x, ai (a + 1)] M1 := by
    intro x hx hq
    exact hI_25 (3 - (a + 1)) _ _ _ _ (by omega) ⟨rfl, hc, hk, k2, a + 1, by omega, by omega, by rw [hx, Int.toNat_natCast, es], rfl⟩
  simp only [e_wp dX7_deepest_0 rfl, e_wp dX7_deepest_1 rfl, e_wp dX7_deepest_2 rfl, e_wp dX7_deepest_5 rfl, e_wp dX7_deepest_6 rfl, e_wp dX7_deepest_7 rfl, e_wp dX7_deepest_8 rfl, e_wp dX7_deepest_11 rfl, e_wp dX7_deepest_14 rfl, e_wp dX7_deepest_16 rfl, e_wp dX7_deepest_17 rfl, e_wp dX7_deepest_18 rfl, e_wp dX7_deepest_21 rfl, e_wp dX7_deepest_22 rfl, e_wp dX7_deepest_23 rfl, e_wp dX7_deepest_24 rfl, e_wp dX7_deepest_25 rfl, e_wp dX7_deepest_26 rfl, e_wp dX7_deepest_27 rfl, e_wp dX7_deepest_30 rfl, e_wp dX7_deepest_33 rfl, e_wp dX7_deepest_34 rfl, e_wp dX7_deepest_35 rfl, e_wp dX7_deepest_38 rfl, e_wp dX7_deepest_39 rfl, e_wp dX7_deepest_42 rfl, e_wp dX7_deepest_43 rfl, e_wp dX7_deepest_44 rfl, e_wp dX7_deepest_45 rfl, e_wp dX7_deepest_46 rfl, e_wp dX7_deepest_47 rfl, e_wp dX7_deepest_48 rfl, e_wp dX7_deepest_49 rfl, e_wp dX7_deepest_52 rfl, e_wp dX7_deepest_53 rfl, e_wp dX7_deepest_54 rfl, e_wp dX7_deepest_55 rfl, e_wp dX7_deepest_56 rfl, e_wp dX7_deepest_57 rfl, e_wp dX7_deepest_58 rfl, e_wp dX7_deepest_61 rfl, e_wp dX7_deepest_62 rfl, e_wp dX7_deepest_63 rfl, e_wp dX7_deepest_66 rfl, e_wp dX7_deepest_69 rfl, e_wp dX7_deepest_70 rfl, p7_116, c7_isCart, P7_isCart, V7_isCart, cs7_deepest, c7_laysNow, c7_bridges, P7_bridges, V7_bridges, g7_98, a7_1, w7_1, a7_2, w7_2, a7_3, w7_3, a7_4, w7_4, a7_5, w7_5, a7_6, w7_6, a7_7, w7_7, a7_8, w7_8, a7_9, w7_9, a7_10, w7_10, a7_11, w7_11, a7_12, w7_12, a7_13, w7_13, a7_14, w7_14, a7_15, w7_15, a7_16, w7_16, a7_17, w7_17, a7_18, w7_18, a7_19, w7_19, a7_20, w7_20, a7_21, w7_21, a7_22, w7_22, a7_23, w7_23, a7_24, w7_24, a7_25, w7_25, a7_26, w7_26, a7_27, w7_27, a7_28, w7_28, a7_29, w7_29, a7_30, w7_30, a7_31, w7_31, a7_32, w7_32, a7_33, w7_33, e_iconst, e_bipush, e_sipush, e_lconst_0, e_lconst_1, e_iload, e_iload_0, e_iload_1, e_iload_2, e_iload_3, e_lload, e_lload_0, e_lload_1, e_lload_2, e_lload_3, e_aload, e_aload_0, e_aload_1, e_aload_2, e_aload_3, e_istore, e_istore_0, e_istore_1, e_istore_2, e_istore_3, e_astore, e_astore_0, e_astore_1, e_astore_2, e_astore_3, e_lstore, e_lstore_0, e_lstore_1, e_lstore_2, e_lstore_3, e_iinc, e_iadd, e_isub, e_imul, e_ladd, e_lsub, e_lmul, e_idiv, e_irem, e_ldiv, e_lrem, e_ineg, e_lneg, e_iand, e_ior, e_ixor, e_ishl, e_ishr, e_iushr, e_lcmp, e_i2l, e_l2i, e_i2b, e_i2s, e_dup_i, e_dup_r, e_pop_i, e_pop_r, e_dup2_l, e_dup2_ir, e_dup2_ii, e_ifeq, e_ifne, e_iflt, e_ifge, e_ifgt, e_ifle, e_iceq, e_icne, e_iclt, e_icge, e_icgt, e_icle, e_goto, e_switch, e_invokevirtual, e_invokestatic, e_invokespecial, e_ret0, e_ret1, e_ret2, e_ret3, ldI_s, ldL_s, ldR_s, clO_s, ctP_s, ctS_s, mgo_0, mgo_s, pjc_s, pj_0, pj_s, lk_s, rm1_0, rm1_i, rm1_r, rm1_l, rm2_0, rm2_i, rm2_r, rm2_l, csL_s, lc_lt, lc_ge, lc_gt, lc_le, lc_eq, b01_0, b01_1, b01_01, b01_n, up2_o, up2_s, up2_u, ne_eq, reduceCtorEq, Nat.reduceAdd, Nat.reduceEqDiff, Nat.reduceLT, Nat.reduceLeDiff, Int.reduceLE, Int.reduceLT, Int.reduceAdd, Int.reduceNeg, Int.reduceMul, Int.reduceSub, Int.reduceEq, Int.reduceToNat, Int.reduceNatCast, Int.cast_ofNat_Int, ↓reduceIte, and_self, List.drop_succ_cons, List.drop_zero, List.take_succ_cons, List.take_zero, List.length_cons, List.length_nil, List.reverse_cons, List.reverse_nil, List.nil_append, List.cons_append, Option.toList, true_and, and_true, or_false, false_or, or_true, true_or, forall_const, Classical.not_not, not_false_eq_true, not_true_eq_false, false_implies, true_implies, implies_true, imp_self, e7, i1]
  refine ⟨fun q => hQ _ _ ⟨hk, ?_⟩, fun q => ⟨fun z => ?_, fun z => ?_⟩⟩
  · rw [show A_deepest (vM M) u = _ from if_pos hc, Int.toNat_natCast, show (vM M 0 3).toNat = a by show (M 7 3).toNat = a; omega, hg]
  · exact ⟨by omega, go _ (by rw [if_pos (Or.inl z)]) q⟩
  · have q3 : (a : Int) < vM M 0 3 := q
    have qd : ((d.toNat : Nat) : Int) < vM M 0 3 := by show ((d.toNat : Nat) : Int) < M 7 3; omega
    have ta : M1 28 (3 * u + a) = sagP ((rT (vM M) (u + 1)).1 a) := (tab_out k2 hc.2 q3).2.2.2.1
    have td : M1 28 (3 * u + d.toNat) = sagP ((rT (vM M) (u + 1)).1 d.toNat) := (tab_out k2 hc.2 qd).2.2.2.1
    rw [i2 z, ta, td]
    repeat (refine And.intro (by omega) ?_)
    exact ⟨fun w => ⟨by omega, go _ (by rw [if_neg (by omega)]) q⟩, fun w => ⟨by omega, go _ (by rw [if_pos (Or.inr w)]) q⟩⟩
set_option maxHeartbeats 4000000 in
set_option maxRecDepth 100000 in
theorem m7_deepest : MOK cl7 sh7 tyl7 [] 5 yX7_deepest cX7_deepest 4 (some .int) sp7_deepest := by
  refine mok_of (own := RX7) (tb := tb7 (csL cs7_deepest)) (rt := 1) (fuel := 400) (fun avs M Q => [(25, [0, 1, 2, 3], fun m_ vs M1 => ∃ y_t_ : Int, ∃ y_n : Int, ∃ y_b : Int, vs = [ar 0, ai y_t_, ai y_n, ai y_b] ∧ J7_deepest_25 (pa true [0] avs 0) M m_ y_t_ y_n y_b M1)]) (by decide) rfl nil_nw (tbOK7 _) rfl (csL_all ?_) ?_ ?_ ?_
  · intro q hq
    simp only [cs7_deepest, List.mem_cons, List.not_mem_nil, or_false] at hq
    rcases hq with rfl | rfl | rfl
    · exact cg7_isCart (by decide)
    · exact cg7_laysNow (by decide)
    · exact cg7_bridges (by decide)
  · intro avs M Q hsp
    obtain ⟨xs, hx⟩ := spR_un _ _ _ hsp
    obtain ⟨e, hl⟩ := unA_mkT hx
    obtain ⟨t, rfl⟩ := len1 hl
    have e : avs = [ar 0, ai t] := e
    subst e
    simp [szL, isL]
  · intro avs M Q hM hav hsp
    obtain ⟨xs, hx⟩ := spR_un _ _ _ hsp
    obtain ⟨e, hl⟩ := unA_mkT hx
    obtain ⟨t, rfl⟩ := len1 hl
    have e : avs = [ar 0, ai t] := e
    subst e
    exact in7_deepest hM (hav (ai t) (by simp)) hsp.1 hsp.2 _ (fun m_ y_t_ y_n y_b M2 hJ => ⟨m_, y_t_, y_n, y_b, rfl, hJ⟩)
  · intro avs M Q hM hav hsp q hq m_ vs M1 hM1 hv hJ
    obtain ⟨xs, hx⟩ := spR_un _ _ _ hsp
    obtain ⟨e, hl⟩ := unA_mkT hx
    obtain ⟨t, rfl⟩ := len1 hl
    have e : avs = [ar 0, ai t] := e
    subst e
    simp only [List.mem_cons, List.not_mem_nil, or_false] at hq
    rcases hq with rfl
    · obtain ⟨y_t_, y_n, y_b, rfl, hJ⟩ := hJ
      exact at7_deepest_25 hM (hav (ai t) (by simp)) hsp.1 hsp.2 hM1 (hv (1, ai y_t_) (List.mem_of_getElem? (i := 1) rfl)) (hv (2, ai y_n) (List.mem_of_getElem? (i := 2) rfl)) (hv (3, ai y_b) (List.mem_of_getElem? (i := 3) rfl)) hJ _ (fun m2 z_t_ z_n z_b M2 hm hJ2 => ⟨m2, hm, z_t_, z_n, z_b, rfl, hJ2⟩)
/-- the loudest of n: the first of the greatest above none -/
def lrR (f : Nat → Int) : Nat → Int
  | 0 => -1
  | c + 1 => if (if lrR f c = -1 then 0 else f (lrR f c).toNat) < f c then c else lrR f c
theorem lrR_rg (f : Nat → Int) : ∀ n : Nat, -1 ≤ lrR f n ∧ lrR f n < n := by
  intro n
  induction n with
  | zero => show -1 ≤ (-1 : Int) ∧ (-1 : Int) < 0; omega
  | succ n ih =>
    show -1 ≤ (if (if lrR f n = -1 then 0 else f (lrR f n).toNat) < f n then (n : Int) else lrR f n) ∧ (if (if lrR f n = -1 then 0 else f (lrR f n).toNat) < f n then (n : Int) else lrR f n) < ((n + 1 : Nat) : Int)
    by_cases q : (if lrR f n = -1 then 0 else f (lrR f n).toNat) < f n
    · rw [if_pos q]; omega
    · rw [if_neg q]; omega
def A_loudest (V : Vy) : Int := if 0 < V 0 8 then lrR (fun c => creakS V (tellP V) (pT V c) c) (V 0 4).toNat else -2
def P7_loudest (M : Mm) : Prop := okY (vM M)
def R7_loudest (M : Mm) (v : Int) (M1 : Mm) : Prop := keepM M M1 ∧ v = A_loudest (vM M)
def sp7_loudest : Spec := spR true [] 1 (fun x M => P7_loudest M) (fun x M v M1 => R7_loudest M v M1)
theorem c7_loudest {M : Mm} {Q : Option AV → Mm → Prop} : sp7_loudest [ar 0] M Q = (P7_loudest M ∧ ∀ (v : Int) (M1 : Mm), R7_loudest M v M1 → Q (some (ai v)) M1) := rfl
def cs7_loudest : List (Nat × Nat × Nat × Spec) := [(350, 1, 1, sp7_isValley), (336, 1, 1, sp7_laysNow), (286, 1, 1, sp7_carts)]
def J7_loudest_25 (M : Mm) (m : Nat) (n : Int) (k : Int) (c : Int) (M1 : Mm) : Prop := 0 < vM M 0 8 ∧ keepM M M1 ∧ laidR (vM M) (tellP (vM M)) M1 ∧ ∃ a : Nat, c = a ∧ (a : Int) ≤ M 7 4 ∧ n = lrR (fun c => creakS (vM M) (tellP (vM M)) (pT (vM M) c) c) a ∧ k = (if n = -1 then 0 else creakS (vM M) (tellP (vM M)) (pT (vM M) n.toNat) n.toNat) ∧ m = 7 - a
set_option maxHeartbeats 4000000 in
set_option maxRecDepth 100000 in
theorem in7_loudest {M : Mm} {Q : Option AV → Mm → Prop} (hM : okM sh7 M) (hP : P7_loudest M) (hQ : ∀ (v : Int) (M1 : Mm), R7_loudest M v M1 → Q (some (ai v)) M1) (I_25 : List AV → Mm → Prop) (hI_25 : ∀ (m_ : Nat) (y_n : Int) (y_k : Int) (y_c : Int) (M2 : Mm), J7_loudest_25 M m_ y_n y_k y_c M2 → I_25 [ar 0, ai y_n, ai y_k, ai y_c] M2) : wp (tb7 (csL cs7_loudest)) sh7 4 1 cX7_loudest [(25, [0, 1, 2, 3], I_25)] Q 400 0 [(0, ar 0)] [] M := by
  have h4 : 0 ≤ M 7 4 ∧ M 7 4 ≤ 7 := hP.2.2.2.2.1
  have h3 : 0 ≤ M 7 3 ∧ M 7 3 ≤ 3 := hP.2.2.2.1
  have hk0 : keepM M (up2 M 0 0 0) := keep_u0 keep_rf (by decide)
  have hV : vM (up2 M 0 0 0) = vM M := keep_v hk0 0
  have hP0 : okY (vM (up2 M 0 0 0)) := by rw [hV]; exact hP
  simp only [e_wp dX7_loudest_0 rfl, e_wp dX7_loudest_1 rfl, e_wp dX7_loudest_2 rfl, e_wp dX7_loudest_5 rfl, e_wp dX7_loudest_6 rfl, e_wp dX7_loudest_9 rfl, e_wp dX7_loudest_12 rfl, e_wp dX7_loudest_14 rfl, e_wp dX7_loudest_15 rfl, e_wp dX7_loudest_16 rfl, e_wp dX7_loudest_19 rfl, e_wp dX7_loudest_20 rfl, e_wp dX7_loudest_21 rfl, e_wp dX7_loudest_22 rfl, e_wp dX7_loudest_23 rfl, e_wp dX7_loudest_24 rfl, e_wp dX7_loudest_25 rfl, e_wp dX7_loudest_26 rfl, e_wp dX7_loudest_27 rfl, e_wp dX7_loudest_30 rfl, e_wp dX7_loudest_33 rfl, e_wp dX7_loudest_34 rfl, e_wp dX7_loudest_37 rfl, e_wp dX7_loudest_38 rfl, e_wp dX7_loudest_39 rfl, e_wp dX7_loudest_40 rfl, e_wp dX7_loudest_43 rfl, e_wp dX7_loudest_46 rfl, e_wp dX7_loudest_47 rfl, e_wp dX7_loudest_48 rfl, e_wp dX7_loudest_49 rfl, e_wp dX7_loudest_52 rfl, e_wp dX7_loudest_53 rfl, e_wp dX7_loudest_54 rfl, e_wp dX7_loudest_55 rfl, e_wp dX7_loudest_58 rfl, e_wp dX7_loudest_61 rfl, e_wp dX7_loudest_62 rfl, p7_116, c7_isValley, P7_isValley, V7_isValley, cs7_loudest, c7_laysNow, c7_carts, P7_carts, V7_carts, g7_89, a7_1, w7_1, a7_2, w7_2, a7_3, w7_3, a7_4, w7_4, a7_5, w7_5, a7_6, w7_6, a7_7, w7_7, a7_8, w7_8, a7_9, w7_9, a7_10, w7_10, a7_11, w7_11, a7_12, w7_12, a7_13, w7_13, a7_14, w7_14, a7_15, w7_15, a7_16, w7_16, a7_17, w7_17, a7_18, w7_18, a7_19, w7_19, a7_20, w7_20, a7_21, w7_21, a7_22, w7_22, a7_23, w7_23, a7_24, w7_24, a7_25, w7_25, a7_26, w7_26, a7_27, w7_27, a7_28, w7_28, a7_29, w7_29, a7_30, w7_30, a7_31, w7_31, a7_32, w7_32, a7_33, w7_33, e_iconst, e_bipush, e_sipush, e_lconst_0, e_lconst_1, e_iload, e_iload_0, e_iload_1, e_iload_2, e_iload_3, e_lload, e_lload_0, e_lload_1, e_lload_2, e_lload_3, e_aload, e_aload_0, e_aload_1, e_aload_2, e_aload_3, e_istore, e_istore_0, e_istore_1, e_istore_2, e_istore_3, e_astore, e_astore_0, e_astore_1, e_astore_2, e_astore_3, e_lstore, e_lstore_0, e_lstore_1, e_lstore_2, e_lstore_3, e_iinc, e_iadd, e_isub, e_imul, e_ladd, e_lsub, e_lmul, e_idiv, e_irem, e_ldiv, e_lrem, e_ineg, e_lneg, e_iand, e_ior, e_ixor, e_ishl, e_ishr, e_iushr, e_lcmp, e_i2l, e_l2i, e_i2b, e_i2s, e_dup_i, e_dup_r, e_pop_i, e_pop_r, e_dup2_l, e_dup2_ir, e_dup2_ii, e_ifeq, e_ifne, e_iflt, e_ifge, e_ifgt, e_ifle, e_iceq, e_icne, e_iclt, e_icge, e_icgt, e_icle, e_goto, e_switch, e_invokevirtual, e_invokestatic, e_invokespecial, e_ret0, e_ret1, e_ret2, e_ret3, ldI_s, ldL_s, ldR_s, clO_s, ctP_s, ctS_s, mgo_0, mgo_s, pjc_s, pj_0, pj_s, lk_s, rm1_0, rm1_i, rm1_r, rm1_l, rm2_0, rm2_i, rm2_r, rm2_l, csL_s, lc_lt, lc_ge, lc_gt, lc_le, lc_eq, b01_0, b01_1, b01_01, b01_n, up2_o, up2_s, up2_u, ne_eq, reduceCtorEq, Nat.reduceAdd, Nat.reduceEqDiff, Nat.reduceLT, Nat.reduceLeDiff, Int.reduceLE, Int.reduceLT, Int.reduceAdd, Int.reduceNeg, Int.reduceMul, Int.reduceSub, Int.reduceEq, Int.reduceToNat, Int.reduceNatCast, Int.cast_ofNat_Int, ↓reduceIte, and_self, List.drop_succ_cons, List.drop_zero, List.take_succ_cons, List.take_zero, List.length_cons, List.length_nil, List.reverse_cons, List.reverse_nil, List.nil_append, List.cons_append, Option.toList, true_and, and_true, or_false, false_or, or_true, true_or, forall_const, Classical.not_not, not_false_eq_true, not_true_eq_false, false_implies, true_implies, implies_true, imp_self]
  refine ⟨fun q => ⟨hP0, fun M1 hR => ?_⟩, fun q => hQ _ _ ⟨hk0, (if_neg q).symm⟩⟩
  obtain ⟨k1, k2, -⟩ := lay_use hR
  exact hI_25 _ _ _ _ _ ⟨q, k1, k2, 0, rfl, h4.1, rfl, rfl, rfl⟩
set_option maxHeartbeats 4000000 in
set_option maxRecDepth 100000 in
theorem at7_loudest_25 {M : Mm} {Q : Option AV → Mm → Prop} (hM : okM sh7 M) (hP : P7_loudest M) (hQ : ∀ (v : Int) (M1 : Mm), R7_loudest M v M1 → Q (some (ai v)) M1) {m : Nat} {n k c : Int} {M1 : Mm} (hM1 : okM sh7 M1) (h_n : i32 n) (h_k : i32 k) (h_c : i32 c) (hJ : J7_loudest_25 M m n k c M1) (I_25 : List AV → Mm → Prop) (hI_25 : ∀ (m_ : Nat) (y_n : Int) (y_k : Int) (y_c : Int) (M2 : Mm), m_ < m → J7_loudest_25 M m_ y_n y_k y_c M2 → I_25 [ar 0, ai y_n, ai y_k, ai y_c] M2) : wp (tb7 (csL cs7_loudest)) sh7 4 1 cX7_loudest [(25, [0, 1, 2, 3], I_25)] Q 400 25 [(0, ar 0), (1, ai n), (2, ai k), (3, ai c)] [] M1 := by
  obtain ⟨hc, hk, k2, a, rfl, ha, rfl, rfl, rfl⟩ := hJ
  have h4 : 0 ≤ M 7 4 ∧ M 7 4 ≤ 7 := hP.2.2.2.2.1
  have h3 : 0 ≤ M 7 3 ∧ M 7 3 ≤ 3 := hP.2.2.2.1
  have e7 : M1 7 = M 7 := keep_has hk
  simp only [e_wp dX7_loudest_0 rfl, e_wp dX7_loudest_1 rfl, e_wp dX7_loudest_2 rfl, e_wp dX7_loudest_5 rfl, e_wp dX7_loudest_6 rfl, e_wp dX7_loudest_9 rfl, e_wp dX7_loudest_12 rfl, e_wp dX7_loudest_14 rfl, e_wp dX7_loudest_15 rfl, e_wp dX7_loudest_16 rfl, e_wp dX7_loudest_19 rfl, e_wp dX7_loudest_20 rfl, e_wp dX7_loudest_21 rfl, e_wp dX7_loudest_22 rfl, e_wp dX7_loudest_23 rfl, e_wp dX7_loudest_24 rfl, e_wp dX7_loudest_25 rfl, e_wp dX7_loudest_26 rfl, e_wp dX7_loudest_27 rfl, e_wp dX7_loudest_30 rfl, e_wp dX7_loudest_33 rfl, e_wp dX7_loudest_34 rfl, e_wp dX7_loudest_37 rfl, e_wp dX7_loudest_38 rfl, e_wp dX7_loudest_39 rfl, e_wp dX7_loudest_40 rfl, e_wp dX7_loudest_43 rfl, e_wp dX7_loudest_46 rfl, e_wp dX7_loudest_47 rfl, e_wp dX7_loudest_48 rfl, e_wp dX7_loudest_49 rfl, e_wp dX7_loudest_52 rfl, e_wp dX7_loudest_53 rfl, e_wp dX7_loudest_54 rfl, e_wp dX7_loudest_55 rfl, e_wp dX7_loudest_58 rfl, e_wp dX7_loudest_61 rfl, e_wp dX7_loudest_62 rfl, p7_116, c7_isValley, P7_isValley, V7_isValley, cs7_loudest, c7_laysNow, c7_carts, P7_carts, V7_carts, g7_89, a7_1, w7_1, a7_2, w7_2, a7_3, w7_3, a7_4, w7_4, a7_5, w7_5, a7_6, w7_6, a7_7, w7_7, a7_8, w7_8, a7_9, w7_9, a7_10, w7_10, a7_11, w7_11, a7_12, w7_12, a7_13, w7_13, a7_14, w7_14, a7_15, w7_15, a7_16, w7_16, a7_17, w7_17, a7_18, w7_18, a7_19, w7_19, a7_20, w7_20, a7_21, w7_21, a7_22, w7_22, a7_23, w7_23, a7_24, w7_24, a7_25, w7_25, a7_26, w7_26, a7_27, w7_27, a7_28, w7_28, a7_29, w7_29, a7_30, w7_30, a7_31, w7_31, a7_32, w7_32, a7_33, w7_33, e_iconst, e_bipush, e_sipush, e_lconst_0, e_lconst_1, e_iload, e_iload_0, e_iload_1, e_iload_2, e_iload_3, e_lload, e_lload_0, e_lload_1, e_lload_2, e_lload_3, e_aload, e_aload_0, e_aload_1, e_aload_2, e_aload_3, e_istore, e_istore_0, e_istore_1, e_istore_2, e_istore_3, e_astore, e_astore_0, e_astore_1, e_astore_2, e_astore_3, e_lstore, e_lstore_0, e_lstore_1, e_lstore_2, e_lstore_3, e_iinc, e_iadd, e_isub, e_imul, e_ladd, e_lsub, e_lmul, e_idiv, e_irem, e_ldiv, e_lrem, e_ineg, e_lneg, e_iand, e_ior, e_ixor, e_ishl, e_ishr, e_iushr, e_lcmp, e_i2l, e_l2i, e_i2b, e_i2s, e_dup_i, e_dup_r, e_pop_i, e_pop_r, e_dup2_l, e_dup2_ir, e_dup2_ii, e_ifeq, e_ifne, e_iflt, e_ifge, e_ifgt, e_ifle, e_iceq, e_icne, e_iclt, e_icge, e_icgt, e_icle, e_goto, e_switch, e_invokevirtual, e_invokestatic, e_invokespecial, e_ret0, e_ret1, e_ret2, e_ret3, ldI_s, ldL_s, ldR_s, clO_s, ctP_s, ctS_s, mgo_0, mgo_s, pjc_s, pj_0, pj_s, lk_s, rm1_0, rm1_i, rm1_r, rm1_l, rm2_0, rm2_i, rm2_r, rm2_l, csL_s, lc_lt, lc_ge, lc_gt, lc_le, lc_eq, b01_0, b01_1, b01_01, b01_n, up2_o, up2_s, up2_u, ne_eq, reduceCtorEq, Nat.reduceAdd, Nat.reduceEqDiff, Nat.reduceLT, Nat.reduceLeDiff, Int.reduceLE, Int.reduceLT, Int.reduceAdd, Int.reduceNeg, Int.reduceMul, Int.reduceSub, Int.reduceEq, Int.reduceToNat, Int.reduceNatCast, Int.cast_ofNat_Int, ↓reduceIte, and_self, List.drop_succ_cons, List.drop_zero, List.take_succ_cons, List.take_zero, List.length_cons, List.length_nil, List.reverse_cons, List.reverse_nil, List.nil_append, List.cons_append, Option.toList, true_and, and_true, or_false, false_or, or_true, true_or, forall_const, Classical.not_not, not_false_eq_true, not_true_eq_false, false_implies, true_implies, implies_true, imp_self, e7, Int.toNat_natCast]
  refine ⟨fun q => hQ _ _ ⟨hk, ?_⟩, fun q => ?_⟩
  · rw [show A_loudest (vM M) = _ from if_pos hc, show (vM M 0 4).toNat = a by show (M 7 4).toNat = a; omega]
  · rw [(tell_out k2 (t := a) q).2.2.2.1]
    have es : lrR (fun c => creakS (vM M) (tellP (vM M)) (pT (vM M) c) c) (a + 1) = if (if lrR (fun c => creakS (vM M) (tellP (vM M)) (pT (vM M) c) c) a = -1 then 0 else creakS (vM M) (tellP (vM M)) (pT (vM M) (lrR (fun c => creakS (vM M) (tellP (vM M)) (pT (vM M) c) c) a).toNat) (lrR (fun c => creakS (vM M) (tellP (vM M)) (pT (vM M) c) c) a).toNat) < creakS (vM M) (tellP (vM M)) (pT (vM M) a) a then (a : Int) else lrR (fun c => creakS (vM M) (tellP (vM M)) (pT (vM M) c) c) a := rfl
    refine ⟨by omega, fun w => ⟨by omega, by omega, ?_⟩, fun w => ⟨by omega, ?_⟩⟩
    · refine hI_25 (7 - (a + 1)) _ _ _ _ (by omega) ⟨hc, hk, k2, a + 1, by omega, by omega, by rw [es, if_pos w], ?_, rfl⟩
      rw [if_neg (by omega), Int.toNat_natCast]
    · exact hI_25 (7 - (a + 1)) _ _ _ _ (by omega) ⟨hc, hk, k2, a + 1, by omega, by omega, by rw [es, if_neg (by omega)], rfl, rfl⟩
set_option maxHeartbeats 4000000 in
set_option maxRecDepth 100000 in
theorem m7_loudest : MOK cl7 sh7 tyl7 [] 5 yX7_loudest cX7_loudest 4 (some .int) sp7_loudest := by
  refine mok_of (own := RX7) (tb := tb7 (csL cs7_loudest)) (rt := 1) (fuel := 400) (fun avs M Q => [(25, [0, 1, 2, 3], fun m_ vs M1 => ∃ y_n : Int, ∃ y_k : Int, ∃ y_c : Int, vs = [ar 0, ai y_n, ai y_k, ai y_c] ∧ J7_loudest_25 M m_ y_n y_k y_c M1)]) (by decide) rfl nil_nw (tbOK7 _) rfl (csL_all ?_) ?_ ?_ ?_
  · intro q hq
    simp only [cs7_loudest, List.mem_cons, List.not_mem_nil, or_false] at hq
    rcases hq with rfl | rfl | rfl
    · exact cg7_isValley (by decide)
    · exact cg7_laysNow (by decide)
    · exact cg7_carts (by decide)
  · intro avs M Q hsp
    obtain ⟨xs, hx⟩ := spR_un _ _ _ hsp
    obtain ⟨e, hl⟩ := unA_mkT hx
    obtain rfl := len0 hl
    have e : avs = [ar 0] := e
    subst e
    simp [szL, isL]
  · intro avs M Q hM hav hsp
    obtain ⟨xs, hx⟩ := spR_un _ _ _ hsp
    obtain ⟨e, hl⟩ := unA_mkT hx
    obtain rfl := len0 hl
    have e : avs = [ar 0] := e
    subst e
    exact in7_loudest hM hsp.1 hsp.2 _ (fun m_ y_n y_k y_c M2 hJ => ⟨m_, y_n, y_k, y_c, rfl, hJ⟩)
  · intro avs M Q hM hav hsp q hq m_ vs M1 hM1 hv hJ
    obtain ⟨xs, hx⟩ := spR_un _ _ _ hsp
    obtain ⟨e, hl⟩ := unA_mkT hx
    obtain rfl := len0 hl
    have e : avs = [ar 0] := e
    subst e
    simp only [List.mem_cons, List.not_mem_nil, or_false] at hq
    rcases hq with rfl
    · obtain ⟨y_n, y_k, y_c, rfl, hJ⟩ := hJ
      exact at7_loudest_25 hM hsp.1 hsp.2 hM1 (hv (1, ai y_n) (List.mem_of_getElem? (i := 1) rfl)) (hv (2, ai y_k) (List.mem_of_getElem? (i := 2) rfl)) (hv (3, ai y_c) (List.mem_of_getElem? (i := 3) rfl)) hJ _ (fun m2 z_n z_k z_c M2 hm hJ2 => ⟨m2, hm, z_n, z_k, z_c, rfl, hJ2⟩)
def A_tolls (V : Vy) : Int := if 0 < V 0 8 then sumN (fun c => paysV V c) (V 0 4).toNat else -2
def P7_tolls (M : Mm) : Prop := okY (vM M)
def R7_tolls (M : Mm) (v : Int) (M1 : Mm) : Prop := keepM M M1 ∧ v = A_tolls (vM M)
def sp7_tolls : Spec := spR true [] 1 (fun x M => P7_tolls M) (fun x M v M1 => R7_tolls M v M1)
theorem c7_tolls {M : Mm} {Q : Option AV → Mm → Prop} : sp7_tolls [ar 0] M Q = (P7_tolls M ∧ ∀ (v : Int) (M1 : Mm), R7_tolls M v M1 → Q (some (ai v)) M1) := rfl
def cs7_tolls : List (Nat × Nat × Nat × Spec) := [(350, 1, 1, sp7_isValley), (336, 1, 1, sp7_laysNow), (286, 1, 1, sp7_carts), (356, 1, 2, sp7_paysOf)]
def J7_tolls_23 (M : Mm) (m : Nat) (n : Int) (c : Int) (M1 : Mm) : Prop := 0 < vM M 0 8 ∧ keepM M M1 ∧ M1 8 = M 8 ∧ laidR (vM M) (tellP (vM M)) M1 ∧ ∃ a : Nat, c = a ∧ (a : Int) ≤ M 7 4 ∧ n = sumN (fun c => paysV (vM M) c) a ∧ m = 7 - a
set_option maxHeartbeats 4000000 in
set_option maxRecDepth 100000 in
theorem in7_tolls {M : Mm} {Q : Option AV → Mm → Prop} (hM : okM sh7 M) (hP : P7_tolls M) (hQ : ∀ (v : Int) (M1 : Mm), R7_tolls M v M1 → Q (some (ai v)) M1) (I_23 : List AV → Mm → Prop) (hI_23 : ∀ (m_ : Nat) (y_n : Int) (y_c : Int) (M2 : Mm), J7_tolls_23 M m_ y_n y_c M2 → I_23 [ar 0, ai y_n, ai y_c] M2) : wp (tb7 (csL cs7_tolls)) sh7 3 1 cX7_tolls [(23, [0, 1, 2], I_23)] Q 400 0 [(0, ar 0)] [] M := by
  have h4 : 0 ≤ M 7 4 ∧ M 7 4 ≤ 7 := hP.2.2.2.2.1
  have h3 : 0 ≤ M 7 3 ∧ M 7 3 ≤ 3 := hP.2.2.2.1
  have hk0 : keepM M (up2 M 0 0 0) := keep_u0 keep_rf (by decide)
  have hV : vM (up2 M 0 0 0) = vM M := keep_v hk0 0
  have hP0 : okY (vM (up2 M 0 0 0)) := by rw [hV]; exact hP
  simp only [e_wp dX7_tolls_0 rfl, e_wp dX7_tolls_1 rfl, e_wp dX7_tolls_2 rfl, e_wp dX7_tolls_5 rfl, e_wp dX7_tolls_6 rfl, e_wp dX7_tolls_9 rfl, e_wp dX7_tolls_12 rfl, e_wp dX7_tolls_14 rfl, e_wp dX7_tolls_15 rfl, e_wp dX7_tolls_16 rfl, e_wp dX7_tolls_19 rfl, e_wp dX7_tolls_20 rfl, e_wp dX7_tolls_21 rfl, e_wp dX7_tolls_22 rfl, e_wp dX7_tolls_23 rfl, e_wp dX7_tolls_24 rfl, e_wp dX7_tolls_25 rfl, e_wp dX7_tolls_28 rfl, e_wp dX7_tolls_31 rfl, e_wp dX7_tolls_32 rfl, e_wp dX7_tolls_33 rfl, e_wp dX7_tolls_34 rfl, e_wp dX7_tolls_37 rfl, e_wp dX7_tolls_38 rfl, e_wp dX7_tolls_39 rfl, e_wp dX7_tolls_42 rfl, e_wp dX7_tolls_45 rfl, e_wp dX7_tolls_46 rfl, p7_116, c7_isValley, P7_isValley, V7_isValley, cs7_tolls, c7_laysNow, c7_carts, P7_carts, V7_carts, c7_paysOf, P7_paysOf, V7_paysOf, e_iconst, e_bipush, e_sipush, e_lconst_0, e_lconst_1, e_iload, e_iload_0, e_iload_1, e_iload_2, e_iload_3, e_lload, e_lload_0, e_lload_1, e_lload_2, e_lload_3, e_aload, e_aload_0, e_aload_1, e_aload_2, e_aload_3, e_istore, e_istore_0, e_istore_1, e_istore_2, e_istore_3, e_astore, e_astore_0, e_astore_1, e_astore_2, e_astore_3, e_lstore, e_lstore_0, e_lstore_1, e_lstore_2, e_lstore_3, e_iinc, e_iadd, e_isub, e_imul, e_ladd, e_lsub, e_lmul, e_idiv, e_irem, e_ldiv, e_lrem, e_ineg, e_lneg, e_iand, e_ior, e_ixor, e_ishl, e_ishr, e_iushr, e_lcmp, e_i2l, e_l2i, e_i2b, e_i2s, e_dup_i, e_dup_r, e_pop_i, e_pop_r, e_dup2_l, e_dup2_ir, e_dup2_ii, e_ifeq, e_ifne, e_iflt, e_ifge, e_ifgt, e_ifle, e_iceq, e_icne, e_iclt, e_icge, e_icgt, e_icle, e_goto, e_switch, e_invokevirtual, e_invokestatic, e_invokespecial, e_ret0, e_ret1, e_ret2, e_ret3, ldI_s, ldL_s, ldR_s, clO_s, ctP_s, ctS_s, mgo_0, mgo_s, pjc_s, pj_0, pj_s, lk_s, rm1_0, rm1_i, rm1_r, rm1_l, rm2_0, rm2_i, rm2_r, rm2_l, csL_s, lc_lt, lc_ge, lc_gt, lc_le, lc_eq, b01_0, b01_1, b01_01, b01_n, up2_o, up2_s, up2_u, ne_eq, reduceCtorEq, Nat.reduceAdd, Nat.reduceEqDiff, Nat.reduceLT, Nat.reduceLeDiff, Int.reduceLE, Int.reduceLT, Int.reduceAdd, Int.reduceNeg, Int.reduceMul, Int.reduceSub, Int.reduceEq, Int.reduceToNat, Int.reduceNatCast, Int.cast_ofNat_Int, ↓reduceIte, and_self, List.drop_succ_cons, List.drop_zero, List.take_succ_cons, List.take_zero, List.length_cons, List.length_nil, List.reverse_cons, List.reverse_nil, List.nil_append, List.cons_append, Option.toList, true_and, and_true, or_false, false_or, or_true, true_or, forall_const, Classical.not_not, not_false_eq_true, not_true_eq_false, false_implies, true_implies, implies_true, imp_self]
  refine ⟨fun q => ⟨hP0, fun M1 hR => ?_⟩, fun q => hQ _ _ ⟨hk0, (if_neg q).symm⟩⟩
  obtain ⟨k1, k2, k3, k4, -⟩ := lay_use hR
  exact hI_23 _ _ _ _ ⟨q, k1, k4, k2, 0, rfl, h4.1, rfl, rfl⟩
set_option maxHeartbeats 4000000 in
set_option maxRecDepth 100000 in
theorem at7_tolls_23 {M : Mm} {Q : Option AV → Mm → Prop} (hM : okM sh7 M) (hP : P7_tolls M) (hQ : ∀ (v : Int) (M1 : Mm), R7_tolls M v M1 → Q (some (ai v)) M1) {m : Nat} {n c : Int} {M1 : Mm} (hM1 : okM sh7 M1) (h_n : i32 n) (h_c : i32 c) (hJ : J7_tolls_23 M m n c M1) (I_23 : List AV → Mm → Prop) (hI_23 : ∀ (m_ : Nat) (y_n : Int) (y_c : Int) (M2 : Mm), m_ < m → J7_tolls_23 M m_ y_n y_c M2 → I_23 [ar 0, ai y_n, ai y_c] M2) : wp (tb7 (csL cs7_tolls)) sh7 3 1 cX7_tolls [(23, [0, 1, 2], I_23)] Q 400 23 [(0, ar 0), (1, ai n), (2, ai c)] [] M1 := by
  obtain ⟨hc, hk, e8, k2, a, rfl, ha, rfl, rfl⟩ := hJ
  have h4 : 0 ≤ M 7 4 ∧ M 7 4 ≤ 7 := hP.2.2.2.2.1
  have h3 : 0 ≤ M 7 3 ∧ M 7 3 ≤ 3 := hP.2.2.2.1
  have e7 : M1 7 = M 7 := keep_has hk
  have hb : ∀ k : Nat, k < a + 1 → (a : Int) < M 7 4 → 0 ≤ paysV (vM M) k ∧ paysV (vM M) k ≤ 900000 := fun k hk2 hk3 => (pays_use hP k2 e8 (t := k) (by omega)).2.2
  simp only [e_wp dX7_tolls_0 rfl, e_wp dX7_tolls_1 rfl, e_wp dX7_tolls_2 rfl, e_wp dX7_tolls_5 rfl, e_wp dX7_tolls_6 rfl, e_wp dX7_tolls_9 rfl, e_wp dX7_tolls_12 rfl, e_wp dX7_tolls_14 rfl, e_wp dX7_tolls_15 rfl, e_wp dX7_tolls_16 rfl, e_wp dX7_tolls_19 rfl, e_wp dX7_tolls_20 rfl, e_wp dX7_tolls_21 rfl, e_wp dX7_tolls_22 rfl, e_wp dX7_tolls_23 rfl, e_wp dX7_tolls_24 rfl, e_wp dX7_tolls_25 rfl, e_wp dX7_tolls_28 rfl, e_wp dX7_tolls_31 rfl, e_wp dX7_tolls_32 rfl, e_wp dX7_tolls_33 rfl, e_wp dX7_tolls_34 rfl, e_wp dX7_tolls_37 rfl, e_wp dX7_tolls_38 rfl, e_wp dX7_tolls_39 rfl, e_wp dX7_tolls_42 rfl, e_wp dX7_tolls_45 rfl, e_wp dX7_tolls_46 rfl, p7_116, c7_isValley, P7_isValley, V7_isValley, cs7_tolls, c7_laysNow, c7_carts, P7_carts, V7_carts, c7_paysOf, P7_paysOf, V7_paysOf, e_iconst, e_bipush, e_sipush, e_lconst_0, e_lconst_1, e_iload, e_iload_0, e_iload_1, e_iload_2, e_iload_3, e_lload, e_lload_0, e_lload_1, e_lload_2, e_lload_3, e_aload, e_aload_0, e_aload_1, e_aload_2, e_aload_3, e_istore, e_istore_0, e_istore_1, e_istore_2, e_istore_3, e_astore, e_astore_0, e_astore_1, e_astore_2, e_astore_3, e_lstore, e_lstore_0, e_lstore_1, e_lstore_2, e_lstore_3, e_iinc, e_iadd, e_isub, e_imul, e_ladd, e_lsub, e_lmul, e_idiv, e_irem, e_ldiv, e_lrem, e_ineg, e_lneg, e_iand, e_ior, e_ixor, e_ishl, e_ishr, e_iushr, e_lcmp, e_i2l, e_l2i, e_i2b, e_i2s, e_dup_i, e_dup_r, e_pop_i, e_pop_r, e_dup2_l, e_dup2_ir, e_dup2_ii, e_ifeq, e_ifne, e_iflt, e_ifge, e_ifgt, e_ifle, e_iceq, e_icne, e_iclt, e_icge, e_icgt, e_icle, e_goto, e_switch, e_invokevirtual, e_invokestatic, e_invokespecial, e_ret0, e_ret1, e_ret2, e_ret3, ldI_s, ldL_s, ldR_s, clO_s, ctP_s, ctS_s, mgo_0, mgo_s, pjc_s, pj_0, pj_s, lk_s, rm1_0, rm1_i, rm1_r, rm1_l, rm2_0, rm2_i, rm2_r, rm2_l, csL_s, lc_lt, lc_ge, lc_gt, lc_le, lc_eq, b01_0, b01_1, b01_01, b01_n, up2_o, up2_s, up2_u, ne_eq, reduceCtorEq, Nat.reduceAdd, Nat.reduceEqDiff, Nat.reduceLT, Nat.reduceLeDiff, Int.reduceLE, Int.reduceLT, Int.reduceAdd, Int.reduceNeg, Int.reduceMul, Int.reduceSub, Int.reduceEq, Int.reduceToNat, Int.reduceNatCast, Int.cast_ofNat_Int, ↓reduceIte, and_self, List.drop_succ_cons, List.drop_zero, List.take_succ_cons, List.take_zero, List.length_cons, List.length_nil, List.reverse_cons, List.reverse_nil, List.nil_append, List.cons_append, Option.toList, true_and, and_true, or_false, false_or, or_true, true_or, forall_const, Classical.not_not, not_false_eq_true, not_true_eq_false, false_implies, true_implies, implies_true, imp_self, e7, Int.toNat_natCast]
  refine ⟨fun q => hQ _ _ ⟨hk, ?_⟩, fun q => ?_⟩
  · rw [show A_tolls (vM M) = _ from if_pos hc, show (vM M 0 4).toNat = a by show (M 7 4).toNat = a; omega]
  · obtain ⟨p1, p2, p3⟩ := pays_use hP k2 e8 q
    have p2' := p2
    unfold V7_paysOf at p2'
    rw [Int.toNat_natCast] at p2'
    have hs := sumN_b (f := fun c => paysV (vM M) c) (n := a) (fun k hk2 => hb k (by omega) q)
    rw [p2']
    refine ⟨p1, by omega, by omega, ?_⟩
    exact hI_23 (7 - (a + 1)) _ _ _ (by omega) ⟨hc, hk, e8, k2, a + 1, by omega, by omega, rfl, rfl⟩
set_option maxHeartbeats 4000000 in
set_option maxRecDepth 100000 in
theorem m7_tolls : MOK cl7 sh7 tyl7 [] 5 yX7_tolls cX7_tolls 3 (some .int) sp7_tolls := by
  refine mok_of (own := RX7) (tb := tb7 (csL cs7_tolls)) (rt := 1) (fuel := 400) (fun avs M Q => [(23, [0, 1, 2], fun m_ vs M1 => ∃ y_n : Int, ∃ y_c : Int, vs = [ar 0, ai y_n, ai y_c] ∧ J7_tolls_23 M m_ y_n y_c M1)]) (by decide) rfl nil_nw (tbOK7 _) rfl (csL_all ?_) ?_ ?_ ?_
  · intro q hq
    simp only [cs7_tolls, List.mem_cons, List.not_mem_nil, or_false] at hq
    rcases hq with rfl | rfl | rfl | rfl
    · exact cg7_isValley (by decide)
    · exact cg7_laysNow (by decide)
    · exact cg7_carts (by decide)
    · exact cg7_paysOf (by decide)
  · intro avs M Q hsp
    obtain ⟨xs, hx⟩ := spR_un _ _ _ hsp
    obtain ⟨e, hl⟩ := unA_mkT hx
    obtain rfl := len0 hl
    have e : avs = [ar 0] := e
    subst e
    simp [szL, isL]
  · intro avs M Q hM hav hsp
    obtain ⟨xs, hx⟩ := spR_un _ _ _ hsp
    obtain ⟨e, hl⟩ := unA_mkT hx
    obtain rfl := len0 hl
    have e : avs = [ar 0] := e
    subst e
    exact in7_tolls hM hsp.1 hsp.2 _ (fun m_ y_n y_c M2 hJ => ⟨m_, y_n, y_c, rfl, hJ⟩)
  · intro avs M Q hM hav hsp q hq m_ vs M1 hM1 hv hJ
    obtain ⟨xs, hx⟩ := spR_un _ _ _ hsp
    obtain ⟨e, hl⟩ := unA_mkT hx
    obtain rfl := len0 hl
    have e : avs = [ar 0] := e
    subst e
    simp only [List.mem_cons, List.not_mem_nil, or_false] at hq
    rcases hq with rfl
    · obtain ⟨y_n, y_c, rfl, hJ⟩ := hJ
      exact at7_tolls_23 hM hsp.1 hsp.2 hM1 (hv (1, ai y_n) (List.mem_of_getElem? (i := 1) rfl)) (hv (2, ai y_c) (List.mem_of_getElem? (i := 2) rfl)) hJ _ (fun m2 z_n z_c M2 hm hJ2 => ⟨m2, hm, z_n, z_c, rfl, hJ2⟩)
def mnR (f : Nat → Int) : Nat → Int
  | 0 => 100000
  | b + 1 => if f b < mnR f b then f b else mnR f b
def A_fails (V : Vy) : Int := if 0 < V 0 8 then (if mnR (rT V (V 0 4).toNat).2.2 (V 0 3).toNat = 100000 then -1 else mnR (rT V (V 0 4).toNat).2.2 (V 0 3).toNat) else -2
def P7_fails_2 (M : Mm) : Prop := okY (vM M)
def R7_fails_2 (M : Mm) (v : Int) (M1 : Mm) : Prop := keepM M M1 ∧ v = A_fails (vM M)
def sp7_fails_2 : Spec := spR true [] 1 (fun x M => P7_fails_2 M) (fun x M v M1 => R7_fails_2 M v M1)
theorem c7_fails_2 {M : Mm} {Q : Option AV → Mm → Prop} : sp7_fails_2 [ar 0] M Q = (P7_fails_2 M ∧ ∀ (v : Int) (M1 : Mm), R7_fails_2 M v M1 → Q (some (ai v)) M1) := rfl
def cs7_fails_2 : List (Nat × Nat × Nat × Spec) := [(350, 1, 1, sp7_isValley), (336, 1, 1, sp7_laysNow), (283, 1, 1, sp7_bridges)]
def J7_fails_2_24 (M : Mm) (m : Nat) (n : Int) (b : Int) (M1 : Mm) : Prop := 0 < vM M 0 8 ∧ keepM M M1 ∧ laidR (vM M) (tellP (vM M)) M1 ∧ ∃ a : Nat, b = a ∧ (a : Int) ≤ M 7 3 ∧ n = mnR (rT (vM M) (vM M 0 4).toNat).2.2 a ∧ m = 3 - a
set_option maxHeartbeats 4000000 in
set_option maxRecDepth 100000 in
theorem in7_fails_2 {M : Mm} {Q : Option AV → Mm → Prop} (hM : okM sh7 M) (hP : P7_fails_2 M) (hQ : ∀ (v : Int) (M1 : Mm), R7_fails_2 M v M1 → Q (some (ai v)) M1) (I_24 : List AV → Mm → Prop) (hI_24 : ∀ (m_ : Nat) (y_n : Int) (y_b : Int) (M2 : Mm), J7_fails_2_24 M m_ y_n y_b M2 → I_24 [ar 0, ai y_n, ai y_b] M2) : wp (tb7 (csL cs7_fails_2)) sh7 3 1 cX7_fails_2 [(24, [0, 1, 2], I_24)] Q 400 0 [(0, ar 0)] [] M := by
  have h4 : 0 ≤ M 7 4 ∧ M 7 4 ≤ 7 := hP.2.2.2.2.1
  have h3 : 0 ≤ M 7 3 ∧ M 7 3 ≤ 3 := hP.2.2.2.1
  have hk0 : keepM M (up2 M 0 0 0) := keep_u0 keep_rf (by decide)
  have hV : vM (up2 M 0 0 0) = vM M := keep_v hk0 0
  have hP0 : okY (vM (up2 M 0 0 0)) := by rw [hV]; exact hP
  simp only [e_wp dX7_fails_2_0 rfl, e_wp dX7_fails_2_1 rfl, e_wp dX7_fails_2_2 rfl, e_wp dX7_fails_2_5 rfl, e_wp dX7_fails_2_6 rfl, e_wp dX7_fails_2_9 rfl, e_wp dX7_fails_2_12 rfl, e_wp dX7_fails_2_14 rfl, e_wp dX7_fails_2_15 rfl, e_wp dX7_fails_2_16 rfl, e_wp dX7_fails_2_19 rfl, e_wp dX7_fails_2_21 rfl, e_wp dX7_fails_2_22 rfl, e_wp dX7_fails_2_23 rfl, e_wp dX7_fails_2_24 rfl, e_wp dX7_fails_2_25 rfl, e_wp dX7_fails_2_26 rfl, e_wp dX7_fails_2_29 rfl, e_wp dX7_fails_2_32 rfl, e_wp dX7_fails_2_33 rfl, e_wp dX7_fails_2_36 rfl, e_wp dX7_fails_2_37 rfl, e_wp dX7_fails_2_38 rfl, e_wp dX7_fails_2_39 rfl, e_wp dX7_fails_2_42 rfl, e_wp dX7_fails_2_43 rfl, e_wp dX7_fails_2_46 rfl, e_wp dX7_fails_2_47 rfl, e_wp dX7_fails_2_48 rfl, e_wp dX7_fails_2_51 rfl, e_wp dX7_fails_2_52 rfl, e_wp dX7_fails_2_53 rfl, e_wp dX7_fails_2_56 rfl, e_wp dX7_fails_2_59 rfl, e_wp dX7_fails_2_60 rfl, e_wp dX7_fails_2_62 rfl, e_wp dX7_fails_2_65 rfl, e_wp dX7_fails_2_66 rfl, e_wp dX7_fails_2_69 rfl, e_wp dX7_fails_2_70 rfl, p7_116, c7_isValley, P7_isValley, V7_isValley, cs7_fails_2, c7_laysNow, k7_166, c7_bridges, P7_bridges, V7_bridges, g7_77, a7_1, w7_1, a7_2, w7_2, a7_3, w7_3, a7_4, w7_4, a7_5, w7_5, a7_6, w7_6, a7_7, w7_7, a7_8, w7_8, a7_9, w7_9, a7_10, w7_10, a7_11, w7_11, a7_12, w7_12, a7_13, w7_13, a7_14, w7_14, a7_15, w7_15, a7_16, w7_16, a7_17, w7_17, a7_18, w7_18, a7_19, w7_19, a7_20, w7_20, a7_21, w7_21, a7_22, w7_22, a7_23, w7_23, a7_24, w7_24, a7_25, w7_25, a7_26, w7_26, a7_27, w7_27, a7_28, w7_28, a7_29, w7_29, a7_30, w7_30, a7_31, w7_31, a7_32, w7_32, a7_33, w7_33, e_iconst, e_bipush, e_sipush, e_lconst_0, e_lconst_1, e_iload, e_iload_0, e_iload_1, e_iload_2, e_iload_3, e_lload, e_lload_0, e_lload_1, e_lload_2, e_lload_3, e_aload, e_aload_0, e_aload_1, e_aload_2, e_aload_3, e_istore, e_istore_0, e_istore_1, e_istore_2, e_istore_3, e_astore, e_astore_0, e_astore_1, e_astore_2, e_astore_3, e_lstore, e_lstore_0, e_lstore_1, e_lstore_2, e_lstore_3, e_iinc, e_iadd, e_isub, e_imul, e_ladd, e_lsub, e_lmul, e_idiv, e_irem, e_ldiv, e_lrem, e_ineg, e_lneg, e_iand, e_ior, e_ixor, e_ishl, e_ishr, e_iushr, e_lcmp, e_i2l, e_l2i, e_i2b, e_i2s, e_dup_i, e_dup_r, e_pop_i, e_pop_r, e_dup2_l, e_dup2_ir, e_dup2_ii, e_ifeq, e_ifne, e_iflt, e_ifge, e_ifgt, e_ifle, e_iceq, e_icne, e_iclt, e_icge, e_icgt, e_icle, e_goto, e_switch, e_invokevirtual, e_invokestatic, e_invokespecial, e_ret0, e_ret1, e_ret2, e_ret3, ldI_s, ldL_s, ldR_s, clO_s, ctP_s, ctS_s, mgo_0, mgo_s, pjc_s, pj_0, pj_s, lk_s, rm1_0, rm1_i, rm1_r, rm1_l, rm2_0, rm2_i, rm2_r, rm2_l, csL_s, lc_lt, lc_ge, lc_gt, lc_le, lc_eq, b01_0, b01_1, b01_01, b01_n, up2_o, up2_s, up2_u, ne_eq, reduceCtorEq, Nat.reduceAdd, Nat.reduceEqDiff, Nat.reduceLT, Nat.reduceLeDiff, Int.reduceLE, Int.reduceLT, Int.reduceAdd, Int.reduceNeg, Int.reduceMul, Int.reduceSub, Int.reduceEq, Int.reduceToNat, Int.reduceNatCast, Int.cast_ofNat_Int, ↓reduceIte, and_self, List.drop_succ_cons, List.drop_zero, List.take_succ_cons, List.take_zero, List.length_cons, List.length_nil, List.reverse_cons, List.reverse_nil, List.nil_append, List.cons_append, Option.toList, true_and, and_true, or_false, false_or, or_true, true_or, forall_const, Classical.not_not, not_false_eq_true, not_true_eq_false, false_implies, true_implies, implies_true, imp_self]
  refine ⟨fun q => ⟨hP0, fun M1 hR => ?_⟩, fun q => hQ _ _ ⟨hk0, (if_neg q).symm⟩⟩
  obtain ⟨k1, k2, -⟩ := lay_use hR
  exact hI_24 _ _ _ _ ⟨q, k1, k2, 0, rfl, h3.1, rfl, rfl⟩
set_option maxHeartbeats 4000000 in
set_option maxRecDepth 100000 in
theorem at7_fails_2_24 {M : Mm} {Q : Option AV → Mm → Prop} (hM : okM sh7 M) (hP : P7_fails_2 M) (hQ : ∀ (v : Int) (M1 : Mm), R7_fails_2 M v M1 → Q (some (ai v)) M1) {m : Nat} {n b : Int} {M1 : Mm} (hM1 : okM sh7 M1) (h_n : i32 n) (h_b : i32 b) (hJ : J7_fails_2_24 M m n b M1) (I_24 : List AV → Mm → Prop) (hI_24 : ∀ (m_ : Nat) (y_n : Int) (y_b : Int) (M2 : Mm), m_ < m → J7_fails_2_24 M m_ y_n y_b M2 → I_24 [ar 0, ai y_n, ai y_b] M2) : wp (tb7 (csL cs7_fails_2)) sh7 3 1 cX7_fails_2 [(24, [0, 1, 2], I_24)] Q 400 24 [(0, ar 0), (1, ai n), (2, ai b)] [] M1 := by
  obtain ⟨hc, hk, k2, a, rfl, ha, rfl, rfl⟩ := hJ
  have h4 : 0 ≤ M 7 4 ∧ M 7 4 ≤ 7 := hP.2.2.2.2.1
  have h3 : 0 ≤ M 7 3 ∧ M 7 3 ≤ 3 := hP.2.2.2.1
  have e7 : M1 7 = M 7 := keep_has hk
  have eA : A_fails (vM M) = if mnR (rT (vM M) (vM M 0 4).toNat).2.2 (M 7 3).toNat = 100000 then -1 else mnR (rT (vM M) (vM M 0 4).toNat).2.2 (M 7 3).toNat := if_pos hc
  simp only [e_wp dX7_fails_2_0 rfl, e_wp dX7_fails_2_1 rfl, e_wp dX7_fails_2_2 rfl, e_wp dX7_fails_2_5 rfl, e_wp dX7_fails_2_6 rfl, e_wp dX7_fails_2_9 rfl, e_wp dX7_fails_2_12 rfl, e_wp dX7_fails_2_14 rfl, e_wp dX7_fails_2_15 rfl, e_wp dX7_fails_2_16 rfl, e_wp dX7_fails_2_19 rfl, e_wp dX7_fails_2_21 rfl, e_wp dX7_fails_2_22 rfl, e_wp dX7_fails_2_23 rfl, e_wp dX7_fails_2_24 rfl, e_wp dX7_fails_2_25 rfl, e_wp dX7_fails_2_26 rfl, e_wp dX7_fails_2_29 rfl, e_wp dX7_fails_2_32 rfl, e_wp dX7_fails_2_33 rfl, e_wp dX7_fails_2_36 rfl, e_wp dX7_fails_2_37 rfl, e_wp dX7_fails_2_38 rfl, e_wp dX7_fails_2_39 rfl, e_wp dX7_fails_2_42 rfl, e_wp dX7_fails_2_43 rfl, e_wp dX7_fails_2_46 rfl, e_wp dX7_fails_2_47 rfl, e_wp dX7_fails_2_48 rfl, e_wp dX7_fails_2_51 rfl, e_wp dX7_fails_2_52 rfl, e_wp dX7_fails_2_53 rfl, e_wp dX7_fails_2_56 rfl, e_wp dX7_fails_2_59 rfl, e_wp dX7_fails_2_60 rfl, e_wp dX7_fails_2_62 rfl, e_wp dX7_fails_2_65 rfl, e_wp dX7_fails_2_66 rfl, e_wp dX7_fails_2_69 rfl, e_wp dX7_fails_2_70 rfl, p7_116, c7_isValley, P7_isValley, V7_isValley, cs7_fails_2, c7_laysNow, k7_166, c7_bridges, P7_bridges, V7_bridges, g7_77, a7_1, w7_1, a7_2, w7_2, a7_3, w7_3, a7_4, w7_4, a7_5, w7_5, a7_6, w7_6, a7_7, w7_7, a7_8, w7_8, a7_9, w7_9, a7_10, w7_10, a7_11, w7_11, a7_12, w7_12, a7_13, w7_13, a7_14, w7_14, a7_15, w7_15, a7_16, w7_16, a7_17, w7_17, a7_18, w7_18, a7_19, w7_19, a7_20, w7_20, a7_21, w7_21, a7_22, w7_22, a7_23, w7_23, a7_24, w7_24, a7_25, w7_25, a7_26, w7_26, a7_27, w7_27, a7_28, w7_28, a7_29, w7_29, a7_30, w7_30, a7_31, w7_31, a7_32, w7_32, a7_33, w7_33, e_iconst, e_bipush, e_sipush, e_lconst_0, e_lconst_1, e_iload, e_iload_0, e_iload_1, e_iload_2, e_iload_3, e_lload, e_lload_0, e_lload_1, e_lload_2, e_lload_3, e_aload, e_aload_0, e_aload_1, e_aload_2, e_aload_3, e_istore, e_istore_0, e_istore_1, e_istore_2, e_istore_3, e_astore, e_astore_0, e_astore_1, e_astore_2, e_astore_3, e_lstore, e_lstore_0, e_lstore_1, e_lstore_2, e_lstore_3, e_iinc, e_iadd, e_isub, e_imul, e_ladd, e_lsub, e_lmul, e_idiv, e_irem, e_ldiv, e_lrem, e_ineg, e_lneg, e_iand, e_ior, e_ixor, e_ishl, e_ishr, e_iushr, e_lcmp, e_i2l, e_l2i, e_i2b, e_i2s, e_dup_i, e_dup_r, e_pop_i, e_pop_r, e_dup2_l, e_dup2_ir, e_dup2_ii, e_ifeq, e_ifne, e_iflt, e_ifge, e_ifgt, e_ifle, e_iceq, e_icne, e_iclt, e_icge, e_icgt, e_icle, e_goto, e_switch, e_invokevirtual, e_invokestatic, e_invokespecial, e_ret0, e_ret1, e_ret2, e_ret3, ldI_s, ldL_s, ldR_s, clO_s, ctP_s, ctS_s, mgo_0, mgo_s, pjc_s, pj_0, pj_s, lk_s, rm1_0, rm1_i, rm1_r, rm1_l, rm2_0, rm2_i, rm2_r, rm2_l, csL_s, lc_lt, lc_ge, lc_gt, lc_le, lc_eq, b01_0, b01_1, b01_01, b01_n, up2_o, up2_s, up2_u, ne_eq, reduceCtorEq, Nat.reduceAdd, Nat.reduceEqDiff, Nat.reduceLT, Nat.reduceLeDiff, Int.reduceLE, Int.reduceLT, Int.reduceAdd, Int.reduceNeg, Int.reduceMul, Int.reduceSub, Int.reduceEq, Int.reduceToNat, Int.reduceNatCast, Int.cast_ofNat_Int, ↓reduceIte, and_self, List.drop_succ_cons, List.drop_zero, List.take_succ_cons, List.take_zero, List.length_cons, List.length_nil, List.reverse_cons, List.reverse_nil, List.nil_append, List.cons_append, Option.toList, true_and, and_true, or_false, false_or, or_true, true_or, forall_const, Classical.not_not, not_false_eq_true, not_true_eq_false, false_implies, true_implies, implies_true, imp_self, e7, Int.toNat_natCast]
  refine ⟨fun q => ?_, fun q => ?_⟩
  · rw [show (M 7 3).toNat = a by omega] at eA
    (repeat' (first | (intro _) | (refine And.intro ?_ ?_))) <;> refine hQ _ _ ⟨hk, ?_⟩ <;> rw [eA] <;> simp [*]
  · rw [(st_out k2 (b := a) q).2.2]
    have es : mnR (rT (vM M) (vM M 0 4).toNat).2.2 (a + 1) = if (rT (vM M) (vM M 0 4).toNat).2.2 a < mnR (rT (vM M) (vM M 0 4).toNat).2.2 a then (rT (vM M) (vM M 0 4).toNat).2.2 a else mnR (rT (vM M) (vM M 0 4).toNat).2.2 a := rfl
    refine ⟨by omega, fun w => ⟨by omega, ?_⟩, fun w => ⟨by omega, by omega, ?_⟩⟩
    · exact hI_24 (3 - (a + 1)) _ _ _ (by omega) ⟨hc, hk, k2, a + 1, by omega, by omega, by rw [es, if_neg (by omega)], rfl⟩
    · exact hI_24 (3 - (a + 1)) _ _ _ (by omega) ⟨hc, hk, k2, a + 1, by omega, by omega, by rw [es, if_pos w], rfl⟩
set_option maxHeartbeats 4000000 in
set_option maxRecDepth 100000 in
theorem m7_fails_2 : MOK cl7 sh7 tyl7 [] 5 yX7_fails_2 cX7_fails_2 3 (some .int) sp7_fails_2 := by
  refine mok_of (own := RX7) (tb := tb7 (csL cs7_fails_2)) (rt := 1) (fuel := 400) (fun avs M Q => [(24, [0, 1, 2], fun m_ vs M1 => ∃ y_n : Int, ∃ y_b : Int, vs = [ar 0, ai y_n, ai y_b] ∧ J7_fails_2_24 M m_ y_n y_b M1)]) (by decide) rfl nil_nw (tbOK7 _) rfl (csL_all ?_) ?_ ?_ ?_
  · intro q hq
    simp only [cs7_fails_2, List.mem_cons, List.not_mem_nil, or_false] at hq
    rcases hq with rfl | rfl | rfl
    · exact cg7_isValley (by decide)
    · exact cg7_laysNow (by decide)
    · exact cg7_bridges (by decide)
  · intro avs M Q hsp
    obtain ⟨xs, hx⟩ := spR_un _ _ _ hsp
    obtain ⟨e, hl⟩ := unA_mkT hx
    obtain rfl := len0 hl
    have e : avs = [ar 0] := e
    subst e
    simp [szL, isL]
  · intro avs M Q hM hav hsp
    obtain ⟨xs, hx⟩ := spR_un _ _ _ hsp
    obtain ⟨e, hl⟩ := unA_mkT hx
    obtain rfl := len0 hl
    have e : avs = [ar 0] := e
    subst e
    exact in7_fails_2 hM hsp.1 hsp.2 _ (fun m_ y_n y_b M2 hJ => ⟨m_, y_n, y_b, rfl, hJ⟩)
  · intro avs M Q hM hav hsp q hq m_ vs M1 hM1 hv hJ
    obtain ⟨xs, hx⟩ := spR_un _ _ _ hsp
    obtain ⟨e, hl⟩ := unA_mkT hx
    obtain rfl := len0 hl
    have e : avs = [ar 0] := e
    subst e
    simp only [List.mem_cons, List.not_mem_nil, or_false] at hq
    rcases hq with rfl
    · obtain ⟨y_n, y_b, rfl, hJ⟩ := hJ
      exact at7_fails_2_24 hM hsp.1 hsp.2 hM1 (hv (1, ai y_n) (List.mem_of_getElem? (i := 1) rfl)) (hv (2, ai y_b) (List.mem_of_getElem? (i := 2) rfl)) hJ _ (fun m2 z_n z_b M2 hm hJ2 => ⟨m2, hm, z_n, z_b, rfl, hJ2⟩)
def orL : List Pr → Int
  | [] => 0
  | x :: l => bor (orL l) (bshl 1 x.2)
def A_kept (V : Vy) (b : Int) : Int := if isB V b then orL ((rT V (V 0 4).toNat).1 b.toNat) else -2
def P7_kept (b : Int) (M : Mm) : Prop := okY (vM M)
def R7_kept (b : Int) (M : Mm) (v : Int) (M1 : Mm) : Prop := keepM M M1 ∧ v = A_kept (vM M) b
def sp7_kept : Spec := spR true [0] 1 (fun x M => P7_kept (x 0) M) (fun x M v M1 => R7_kept (x 0) M v M1)
theorem c7_kept {b : Int} {M : Mm} {Q : Option AV → Mm → Prop} : sp7_kept [ar 0, ai b] M Q = (P7_kept b M ∧ ∀ (v : Int) (M1 : Mm), R7_kept b M v M1 → Q (some (ai v)) M1) := rfl
def cs7_kept : List (Nat × Nat × Nat × Spec) := [(292, 1, 2, sp7_isBridge), (336, 1, 1, sp7_laysNow)]
def J7_kept_25 (b : Int) (M : Mm) (m : Nat) (b_ : Int) (n : Int) (k : Int) (M1 : Mm) : Prop := b = b_ ∧ isB (vM M) b ∧ keepM M M1 ∧ laidR (vM M) (tellP (vM M)) M1 ∧ ∃ a : Nat, k = a ∧ (a : Int) ≤ M1 19 b.toNat ∧ n = orL (stk (mf M1 b) a) ∧ m = 8 - a
set_option maxHeartbeats 4000000 in
set_option maxRecDepth 100000 in
theorem in7_kept {b : Int} {M : Mm} {Q : Option AV → Mm → Prop} (hM : okM sh7 M) (h_b : i32 b) (hP : P7_kept b M) (hQ : ∀ (v : Int) (M1 : Mm), R7_kept b M v M1 → Q (some (ai v)) M1) (I_25 : List AV → Mm → Prop) (hI_25 : ∀ (m_ : Nat) (y_b_ : Int) (y_n : Int) (y_k : Int) (M2 : Mm), J7_kept_25 b M m_ y_b_ y_n y_k M2 → I_25 [ar 0, ai y_b_, ai y_n, ai y_k] M2) : wp (tb7 (csL cs7_kept)) sh7 4 1 cX7_kept [(25, [0, 1, 2, 3], I_25)] Q 400 0 [(0, ar 0), (1, ai b)] [] M := by
  have h4 : 0 ≤ M 7 4 ∧ M 7 4 ≤ 7 := hP.2.2.2.2.1
  have h3 : 0 ≤ M 7 3 ∧ M 7 3 ≤ 3 := hP.2.2.2.1
  have hk0 : keepM M (up2 M 0 0 0) := keep_u0 keep_rf (by decide)
  have hV : vM (up2 M 0 0 0) = vM M := keep_v hk0 0
  have hP0 : okY (vM (up2 M 0 0 0)) := by rw [hV]; exact hP
  simp only [e_wp dX7_kept_0 rfl, e_wp dX7_kept_1 rfl, e_wp dX7_kept_2 rfl, e_wp dX7_kept_5 rfl, e_wp dX7_kept_6 rfl, e_wp dX7_kept_7 rfl, e_wp dX7_kept_8 rfl, e_wp dX7_kept_11 rfl, e_wp dX7_kept_14 rfl, e_wp dX7_kept_16 rfl, e_wp dX7_kept_17 rfl, e_wp dX7_kept_18 rfl, e_wp dX7_kept_21 rfl, e_wp dX7_kept_22 rfl, e_wp dX7_kept_23 rfl, e_wp dX7_kept_24 rfl, e_wp dX7_kept_25 rfl, e_wp dX7_kept_26 rfl, e_wp dX7_kept_27 rfl, e_wp dX7_kept_30 rfl, e_wp dX7_kept_31 rfl, e_wp dX7_kept_32 rfl, e_wp dX7_kept_35 rfl, e_wp dX7_kept_36 rfl, e_wp dX7_kept_37 rfl, e_wp dX7_kept_38 rfl, e_wp dX7_kept_41 rfl, e_wp dX7_kept_43 rfl, e_wp dX7_kept_44 rfl, e_wp dX7_kept_45 rfl, e_wp dX7_kept_46 rfl, e_wp dX7_kept_47 rfl, e_wp dX7_kept_48 rfl, e_wp dX7_kept_49 rfl, e_wp dX7_kept_50 rfl, e_wp dX7_kept_51 rfl, e_wp dX7_kept_54 rfl, e_wp dX7_kept_57 rfl, e_wp dX7_kept_58 rfl, p7_116, c7_isBridge, P7_isBridge, V7_isBridge, cs7_kept, c7_laysNow, g7_71, g7_68, a7_1, w7_1, a7_2, w7_2, a7_3, w7_3, a7_4, w7_4, a7_5, w7_5, a7_6, w7_6, a7_7, w7_7, a7_8, w7_8, a7_9, w7_9, a7_10, w7_10, a7_11, w7_11, a7_12, w7_12, a7_13, w7_13, a7_14, w7_14, a7_15, w7_15, a7_16, w7_16, a7_17, w7_17, a7_18, w7_18, a7_19, w7_19, a7_20, w7_20, a7_21, w7_21, a7_22, w7_22, a7_23, w7_23, a7_24, w7_24, a7_25, w7_25, a7_26, w7_26, a7_27, w7_27, a7_28, w7_28, a7_29, w7_29, a7_30, w7_30, a7_31, w7_31, a7_32, w7_32, a7_33, w7_33, e_iconst, e_bipush, e_sipush, e_lconst_0, e_lconst_1, e_iload, e_iload_0, e_iload_1, e_iload_2, e_iload_3, e_lload, e_lload_0, e_lload_1, e_lload_2, e_lload_3, e_aload, e_aload_0, e_aload_1, e_aload_2, e_aload_3, e_istore, e_istore_0, e_istore_1, e_istore_2, e_istore_3, e_astore, e_astore_0, e_astore_1, e_astore_2, e_astore_3, e_lstore, e_lstore_0, e_lstore_1, e_lstore_2, e_lstore_3, e_iinc, e_iadd, e_isub, e_imul, e_ladd, e_lsub, e_lmul, e_idiv, e_irem, e_ldiv, e_lrem, e_ineg, e_lneg, e_iand, e_ior, e_ixor, e_ishl, e_ishr, e_iushr, e_lcmp, e_i2l, e_l2i, e_i2b, e_i2s, e_dup_i, e_dup_r, e_pop_i, e_pop_r, e_dup2_l, e_dup2_ir, e_dup2_ii, e_ifeq, e_ifne, e_iflt, e_ifge, e_ifgt, e_ifle, e_iceq, e_icne, e_iclt, e_icge, e_icgt, e_icle, e_goto, e_switch, e_invokevirtual, e_invokestatic, e_invokespecial, e_ret0, e_ret1, e_ret2, e_ret3, ldI_s, ldL_s, ldR_s, clO_s, ctP_s, ctS_s, mgo_0, mgo_s, pjc_s, pj_0, pj_s, lk_s, rm1_0, rm1_i, rm1_r, rm1_l, rm2_0, rm2_i, rm2_r, rm2_l, csL_s, lc_lt, lc_ge, lc_gt, lc_le, lc_eq, b01_0, b01_1, b01_01, b01_n, up2_o, up2_s, up2_u, ne_eq, reduceCtorEq, Nat.reduceAdd, Nat.reduceEqDiff, Nat.reduceLT, Nat.reduceLeDiff, Int.reduceLE, Int.reduceLT, Int.reduceAdd, Int.reduceNeg, Int.reduceMul, Int.reduceSub, Int.reduceEq, Int.reduceToNat, Int.reduceNatCast, Int.cast_ofNat_Int, ↓reduceIte, and_self, List.drop_succ_cons, List.drop_zero, List.take_succ_cons, List.take_zero, List.length_cons, List.length_nil, List.reverse_cons, List.reverse_nil, List.nil_append, List.cons_append, Option.toList, true_and, and_true, or_false, false_or, or_true, true_or, forall_const, Classical.not_not, not_false_eq_true, not_true_eq_false, false_implies, true_implies, implies_true, imp_self]
  refine ⟨h3, fun q => ⟨hP0, fun M1 hR => ?_⟩, fun q => hQ _ _ ⟨hk0, (if_neg q).symm⟩⟩
  obtain ⟨k1, k2, -⟩ := lay_use hR
  have ob := (k2.2.1 b.toNat (by show ((b.toNat : Nat) : Int) < M 7 3; omega)).1.2.1
  rw [Int.toNat_natCast] at ob
  exact hI_25 _ _ _ _ _ ⟨rfl, q, k1, k2, 0, rfl, ob.1, rfl, rfl⟩
set_option maxHeartbeats 4000000 in
set_option maxRecDepth 100000 in
theorem at7_kept_25 {b : Int} {M : Mm} {Q : Option AV → Mm → Prop} (hM : okM sh7 M) (h_b : i32 b) (hP : P7_kept b M) (hQ : ∀ (v : Int) (M1 : Mm), R7_kept b M v M1 → Q (some (ai v)) M1) {m : Nat} {b_ n k : Int} {M1 : Mm} (hM1 : okM sh7 M1) (h_b_ : i32 b_) (h_n : i32 n) (h_k : i32 k) (hJ : J7_kept_25 b M m b_ n k M1) (I_25 : List AV → Mm → Prop) (hI_25 : ∀ (m_ : Nat) (y_b_ : Int) (y_n : Int) (y_k : Int) (M2 : Mm), m_ < m → J7_kept_25 b M m_ y_b_ y_n y_k M2 → I_25 [ar 0, ai y_b_, ai y_n, ai y_k] M2) : wp (tb7 (csL cs7_kept)) sh7 4 1 cX7_kept [(25, [0, 1, 2, 3], I_25)] Q 400 25 [(0, ar 0), (1, ai b_), (2, ai n), (3, ai k)] [] M1 := by
  obtain ⟨rfl, hc, hk, k2, a, rfl, ha, rfl, rfl⟩ := hJ
  have h4 : 0 ≤ M 7 4 ∧ M 7 4 ≤ 7 := hP.2.2.2.2.1
  have h3 : 0 ≤ M 7 3 ∧ M 7 3 ≤ 3 := hP.2.2.2.1
  have e7 : M1 7 = M 7 := keep_has hk
  have hb3 : b < M 7 3 := hc.2
  have hb : ((b.toNat : Nat) : Int) = b := Int.toNat_of_nonneg hc.1
  have ob := (k2.2.1 b.toNat (by show ((b.toNat : Nat) : Int) < M 7 3; omega)).1
  rw [hb] at ob
  have od := ob.2.1
  have hs := (st_out k2 (b := b.toNat) (by show ((b.toNat : Nat) : Int) < M 7 3; omega)).1
  rw [hb] at hs
  simp only [e_wp dX7_kept_0 rfl, e_wp dX7_kept_1 rfl, e_wp dX7_kept_2 rfl, e_wp dX7_kept_5 rfl, e_wp dX7_kept_6 rfl, e_wp dX7_kept_7 rfl, e_wp dX7_kept_8 rfl, e_wp dX7_kept_11 rfl, e_wp dX7_kept_14 rfl, e_wp dX7_kept_16 rfl, e_wp dX7_kept_17 rfl, e_wp dX7_kept_18 rfl, e_wp dX7_kept_21 rfl, e_wp dX7_kept_22 rfl, e_wp dX7_kept_23 rfl, e_wp dX7_kept_24 rfl, e_wp dX7_kept_25 rfl, e_wp dX7_kept_26 rfl, e_wp dX7_kept_27 rfl, e_wp dX7_kept_30 rfl, e_wp dX7_kept_31 rfl, e_wp dX7_kept_32 rfl, e_wp dX7_kept_35 rfl, e_wp dX7_kept_36 rfl, e_wp dX7_kept_37 rfl, e_wp dX7_kept_38 rfl, e_wp dX7_kept_41 rfl, e_wp dX7_kept_43 rfl, e_wp dX7_kept_44 rfl, e_wp dX7_kept_45 rfl, e_wp dX7_kept_46 rfl, e_wp dX7_kept_47 rfl, e_wp dX7_kept_48 rfl, e_wp dX7_kept_49 rfl, e_wp dX7_kept_50 rfl, e_wp dX7_kept_51 rfl, e_wp dX7_kept_54 rfl, e_wp dX7_kept_57 rfl, e_wp dX7_kept_58 rfl, p7_116, c7_isBridge, P7_isBridge, V7_isBridge, cs7_kept, c7_laysNow, g7_71, g7_68, a7_1, w7_1, a7_2, w7_2, a7_3, w7_3, a7_4, w7_4, a7_5, w7_5, a7_6, w7_6, a7_7, w7_7, a7_8, w7_8, a7_9, w7_9, a7_10, w7_10, a7_11, w7_11, a7_12, w7_12, a7_13, w7_13, a7_14, w7_14, a7_15, w7_15, a7_16, w7_16, a7_17, w7_17, a7_18, w7_18, a7_19, w7_19, a7_20, w7_20, a7_21, w7_21, a7_22, w7_22, a7_23, w7_23, a7_24, w7_24, a7_25, w7_25, a7_26, w7_26, a7_27, w7_27, a7_28, w7_28, a7_29, w7_29, a7_30, w7_30, a7_31, w7_31, a7_32, w7_32, a7_33, w7_33, e_iconst, e_bipush, e_sipush, e_lconst_0, e_lconst_1, e_iload, e_iload_0, e_iload_1, e_iload_2, e_iload_3, e_lload, e_lload_0, e_lload_1, e_lload_2, e_lload_3, e_aload, e_aload_0, e_aload_1, e_aload_2, e_aload_3, e_istore, e_istore_0, e_istore_1, e_istore_2, e_istore_3, e_astore, e_astore_0, e_astore_1, e_astore_2, e_astore_3, e_lstore, e_lstore_0, e_lstore_1, e_lstore_2, e_lstore_3, e_iinc, e_iadd, e_isub, e_imul, e_ladd, e_lsub, e_lmul, e_idiv, e_irem, e_ldiv, e_lrem, e_ineg, e_lneg, e_iand, e_ior, e_ixor, e_ishl, e_ishr, e_iushr, e_lcmp, e_i2l, e_l2i, e_i2b, e_i2s, e_dup_i, e_dup_r, e_pop_i, e_pop_r, e_dup2_l, e_dup2_ir, e_dup2_ii, e_ifeq, e_ifne, e_iflt, e_ifge, e_ifgt, e_ifle, e_iceq, e_icne, e_iclt, e_icge, e_icgt, e_icle, e_goto, e_switch, e_invokevirtual, e_invokestatic, e_invokespecial, e_ret0, e_ret1, e_ret2, e_ret3, ldI_s, ldL_s, ldR_s, clO_s, ctP_s, ctS_s, mgo_0, mgo_s, pjc_s, pj_0, pj_s, lk_s, rm1_0, rm1_i, rm1_r, rm1_l, rm2_0, rm2_i, rm2_r, rm2_l, csL_s, lc_lt, lc_ge, lc_gt, lc_le, lc_eq, b01_0, b01_1, b01_01, b01_n, up2_o, up2_s, up2_u, ne_eq, reduceCtorEq, Nat.reduceAdd, Nat.reduceEqDiff, Nat.reduceLT, Nat.reduceLeDiff, Int.reduceLE, Int.reduceLT, Int.reduceAdd, Int.reduceNeg, Int.reduceMul, Int.reduceSub, Int.reduceEq, Int.reduceToNat, Int.reduceNatCast, Int.cast_ofNat_Int, ↓reduceIte, and_self, List.drop_succ_cons, List.drop_zero, List.take_succ_cons, List.take_zero, List.length_cons, List.length_nil, List.reverse_cons, List.reverse_nil, List.nil_append, List.cons_append, Option.toList, true_and, and_true, or_false, false_or, or_true, true_or, forall_const, Classical.not_not, not_false_eq_true, not_true_eq_false, false_implies, true_implies, implies_true, imp_self]
  refine ⟨by omega, fun q => hQ _ _ ⟨hk, ?_⟩, fun q => ?_⟩
  · rw [show A_kept (vM M) b = _ from if_pos hc, ← hs]
    show orL (stk (mf M1 b) a) = orL (stk (mf M1 b) (M1 19 b.toNat).toNat)
    rw [show (M1 19 b.toNat).toNat = a by omega]
  · repeat (refine And.intro (by omega) ?_)
    exact hI_25 (8 - (a + 1)) _ _ _ _ (by omega) ⟨rfl, hc, hk, k2, a + 1, by omega, by omega, rfl, rfl⟩
set_option maxHeartbeats 4000000 in
set_option maxRecDepth 100000 in
theorem m7_kept : MOK cl7 sh7 tyl7 [] 5 yX7_kept cX7_kept 4 (some .int) sp7_kept := by
  refine mok_of (own := RX7) (tb := tb7 (csL cs7_kept)) (rt := 1) (fuel := 400) (fun avs M Q => [(25, [0, 1, 2, 3], fun m_ vs M1 => ∃ y_b_ : Int, ∃ y_n : Int, ∃ y_k : Int, vs = [ar 0, ai y_b_, ai y_n, ai y_k] ∧ J7_kept_25 (pa true [0] avs 0) M m_ y_b_ y_n y_k M1)]) (by decide) rfl nil_nw (tbOK7 _) rfl (csL_all ?_) ?_ ?_ ?_
  · intro q hq
    simp only [cs7_kept, List.mem_cons, List.not_mem_nil, or_false] at hq
    rcases hq with rfl | rfl
    · exact cg7_isBridge (by decide)
    · exact cg7_laysNow (by decide)
  · intro avs M Q hsp
    obtain ⟨xs, hx⟩ := spR_un _ _ _ hsp
    obtain ⟨e, hl⟩ := unA_mkT hx
    obtain ⟨b, rfl⟩ := len1 hl
    have e : avs = [ar 0, ai b] := e
    subst e
    simp [szL, isL]
  · intro avs M Q hM hav hsp
    obtain ⟨xs, hx⟩ := spR_un _ _ _ hsp
    obtain ⟨e, hl⟩ := unA_mkT hx
    obtain ⟨b, rfl⟩ := len1 hl
    have e : avs = [ar 0, ai b] := e
    subst e
    exact in7_kept hM (hav (ai b) (by simp)) hsp.1 hsp.2 _ (fun m_ y_b_ y_n y_k M2 hJ => ⟨m_, y_b_, y_n, y_k, rfl, hJ⟩)
  · intro avs M Q hM hav hsp q hq m_ vs M1 hM1 hv hJ
    obtain ⟨xs, hx⟩ := spR_un _ _ _ hsp
    obtain ⟨e, hl⟩ := unA_mkT hx
    obtain ⟨b, rfl⟩ := len1 hl
    have e : avs = [ar 0, ai b] := e
    subst e
    simp only [List.mem_cons, List.not_mem_nil, or_false] at hq
    rcases hq with rfl
    · obtain ⟨y_b_, y_n, y_k, rfl, hJ⟩ := hJ
      exact at7_kept_25 hM (hav (ai b) (by simp)) hsp.1 hsp.2 hM1 (hv (1, ai y_b_) (List.mem_of_getElem? (i := 1) rfl)) (hv (2, ai y_n) (List.mem_of_getElem? (i := 2) rfl)) (hv (3, ai y_k) (List.mem_of_getElem? (i := 3) rfl)) hJ _ (fun m2 z_b_ z_n z_k M2 hm hJ2 => ⟨m2, hm, z_b_, z_n, z_k, rfl, hJ2⟩)
def A_broken (V : Vy) (t : Int) : Int := if isC V t then orN (fun b => if (rT V (V 0 4).toNat).2.2 b ≤ t then bshl 1 b else 0) (V 0 3).toNat else -2
def P7_broken (t : Int) (M : Mm) : Prop := okY (vM M)
def R7_broken (t : Int) (M : Mm) (v : Int) (M1 : Mm) : Prop := keepM M M1 ∧ v = A_broken (vM M) t
def sp7_broken : Spec := spR true [0] 1 (fun x M => P7_broken (x 0) M) (fun x M v M1 => R7_broken (x 0) M v M1)
theorem c7_broken {t : Int} {M : Mm} {Q : Option AV → Mm → Prop} : sp7_broken [ar 0, ai t] M Q = (P7_broken t M ∧ ∀ (v : Int) (M1 : Mm), R7_broken t M v M1 → Q (some (ai v)) M1) := rfl
def cs7_broken : List (Nat × Nat × Nat × Spec) := [(289, 1, 2, sp7_isCart), (336, 1, 1, sp7_laysNow), (283, 1, 1, sp7_bridges)]
def J7_broken_25 (t : Int) (M : Mm) (m : Nat) (t_ : Int) (n : Int) (b : Int) (M1 : Mm) : Prop := t = t_ ∧ isC (vM M) t ∧ keepM M M1 ∧ laidR (vM M) (tellP (vM M)) M1 ∧ ∃ a : Nat, b = a ∧ (a : Int) ≤ M 7 3 ∧ n = orN (fun b => if (rT (vM M) (vM M 0 4).toNat).2.2 b ≤ t then bshl 1 b else 0) a ∧ m = 3 - a
set_option maxHeartbeats 4000000 in
set_option maxRecDepth 100000 in
theorem in7_broken {t : Int} {M : Mm} {Q : Option AV → Mm → Prop} (hM : okM sh7 M) (h_t : i32 t) (hP : P7_broken t M) (hQ : ∀ (v : Int) (M1 : Mm), R7_broken t M v M1 → Q (some (ai v)) M1) (I_25 : List AV → Mm → Prop) (hI_25 : ∀ (m_ : Nat) (y_t_ : Int) (y_n : Int) (y_b : Int) (M2 : Mm), J7_broken_25 t M m_ y_t_ y_n y_b M2 → I_25 [ar 0, ai y_t_, ai y_n, ai y_b] M2) : wp (tb7 (csL cs7_broken)) sh7 4 1 cX7_broken [(25, [0, 1, 2, 3], I_25)] Q 400 0 [(0, ar 0), (1, ai t)] [] M := by
  have h4 : 0 ≤ M 7 4 ∧ M 7 4 ≤ 7 := hP.2.2.2.2.1
  have h3 : 0 ≤ M 7 3 ∧ M 7 3 ≤ 3 := hP.2.2.2.1
  have hk0 : keepM M (up2 M 0 0 0) := keep_u0 keep_rf (by decide)
  have hV : vM (up2 M 0 0 0) = vM M := keep_v hk0 0
  have hP0 : okY (vM (up2 M 0 0 0)) := by rw [hV]; exact hP
  simp only [e_wp dX7_broken_0 rfl, e_wp dX7_broken_1 rfl, e_wp dX7_broken_2 rfl, e_wp dX7_broken_5 rfl, e_wp dX7_broken_6 rfl, e_wp dX7_broken_7 rfl, e_wp dX7_broken_8 rfl, e_wp dX7_broken_11 rfl, e_wp dX7_broken_14 rfl, e_wp dX7_broken_16 rfl, e_wp dX7_broken_17 rfl, e_wp dX7_broken_18 rfl, e_wp dX7_broken_21 rfl, e_wp dX7_broken_22 rfl, e_wp dX7_broken_23 rfl, e_wp dX7_broken_24 rfl, e_wp dX7_broken_25 rfl, e_wp dX7_broken_26 rfl, e_wp dX7_broken_27 rfl, e_wp dX7_broken_30 rfl, e_wp dX7_broken_33 rfl, e_wp dX7_broken_34 rfl, e_wp dX7_broken_35 rfl, e_wp dX7_broken_38 rfl, e_wp dX7_broken_39 rfl, e_wp dX7_broken_40 rfl, e_wp dX7_broken_41 rfl, e_wp dX7_broken_44 rfl, e_wp dX7_broken_45 rfl, e_wp dX7_broken_46 rfl, e_wp dX7_broken_47 rfl, e_wp dX7_broken_50 rfl, e_wp dX7_broken_51 rfl, e_wp dX7_broken_52 rfl, e_wp dX7_broken_53 rfl, e_wp dX7_broken_56 rfl, e_wp dX7_broken_59 rfl, e_wp dX7_broken_60 rfl, p7_116, c7_isCart, P7_isCart, V7_isCart, cs7_broken, c7_laysNow, c7_bridges, P7_bridges, V7_bridges, g7_77, a7_1, w7_1, a7_2, w7_2, a7_3, w7_3, a7_4, w7_4, a7_5, w7_5, a7_6, w7_6, a7_7, w7_7, a7_8, w7_8, a7_9, w7_9, a7_10, w7_10, a7_11, w7_11, a7_12, w7_12, a7_13, w7_13, a7_14, w7_14, a7_15, w7_15, a7_16, w7_16, a7_17, w7_17, a7_18, w7_18, a7_19, w7_19, a7_20, w7_20, a7_21, w7_21, a7_22, w7_22, a7_23, w7_23, a7_24, w7_24, a7_25, w7_25, a7_26, w7_26, a7_27, w7_27, a7_28, w7_28, a7_29, w7_29, a7_30, w7_30, a7_31, w7_31, a7_32, w7_32, a7_33, w7_33, e_iconst, e_bipush, e_sipush, e_lconst_0, e_lconst_1, e_iload, e_iload_0, e_iload_1, e_iload_2, e_iload_3, e_lload, e_lload_0, e_lload_1, e_lload_2, e_lload_3, e_aload, e_aload_0, e_aload_1, e_aload_2, e_aload_3, e_istore, e_istore_0, e_istore_1, e_istore_2, e_istore_3, e_astore, e_astore_0, e_astore_1, e_astore_2, e_astore_3, e_lstore, e_lstore_0, e_lstore_1, e_lstore_2, e_lstore_3, e_iinc, e_iadd, e_isub, e_imul, e_ladd, e_lsub, e_lmul, e_idiv, e_irem, e_ldiv, e_lrem, e_ineg, e_lneg, e_iand, e_ior, e_ixor, e_ishl, e_ishr, e_iushr, e_lcmp, e_i2l, e_l2i, e_i2b, e_i2s, e_dup_i, e_dup_r, e_pop_i, e_pop_r, e_dup2_l, e_dup2_ir, e_dup2_ii, e_ifeq, e_ifne, e_iflt, e_ifge, e_ifgt, e_ifle, e_iceq, e_icne, e_iclt, e_icge, e_icgt, e_icle, e_goto, e_switch, e_invokevirtual, e_invokestatic, e_invokespecial, e_ret0, e_ret1, e_ret2, e_ret3, ldI_s, ldL_s, ldR_s, clO_s, ctP_s, ctS_s, mgo_0, mgo_s, pjc_s, pj_0, pj_s, lk_s, rm1_0, rm1_i, rm1_r, rm1_l, rm2_0, rm2_i, rm2_r, rm2_l, csL_s, lc_lt, lc_ge, lc_gt, lc_le, lc_eq, b01_0, b01_1, b01_01, b01_n, up2_o, up2_s, up2_u, ne_eq, reduceCtorEq, Nat.reduceAdd, Nat.reduceEqDiff, Nat.reduceLT, Nat.reduceLeDiff, Int.reduceLE, Int.reduceLT, Int.reduceAdd, Int.reduceNeg, Int.reduceMul, Int.reduceSub, Int.reduceEq, Int.reduceToNat, Int.reduceNatCast, Int.cast_ofNat_Int, ↓reduceIte, and_self, List.drop_succ_cons, List.drop_zero, List.take_succ_cons, List.take_zero, List.length_cons, List.length_nil, List.reverse_cons, List.reverse_nil, List.nil_append, List.cons_append, Option.toList, true_and, and_true, or_false, false_or, or_true, true_or, forall_const, Classical.not_not, not_false_eq_true, not_true_eq_false, false_implies, true_implies, implies_true, imp_self]
  refine ⟨h4, fun q => ⟨hP0, fun M1 hR => ?_⟩, fun q => hQ _ _ ⟨hk0, (if_neg q).symm⟩⟩
  obtain ⟨k1, k2, -⟩ := lay_use hR
  exact hI_25 _ _ _ _ _ ⟨rfl, q, k1, k2, 0, rfl, h3.1, rfl, rfl⟩
set_option maxHeartbeats 4000000 in
set_option maxRecDepth 100000 in
theorem at7_broken_25 {t : Int} {M : Mm} {Q : Option AV → Mm → Prop} (hM : okM sh7 M) (h_t : i32 t) (hP : P7_broken t M) (hQ : ∀ (v : Int) (M1 : Mm), R7_broken t M v M1 → Q (some (ai v)) M1) {m : Nat} {t_ n b : Int} {M1 : Mm} (hM1 : okM sh7 M1) (h_t_ : i32 t_) (h_n : i32 n) (h_b : i32 b) (hJ : J7_broken_25 t M m t_ n b M1) (I_25 : List AV → Mm → Prop) (hI_25 : ∀ (m_ : Nat) (y_t_ : Int) (y_n : Int) (y_b : Int) (M2 : Mm), m_ < m → J7_broken_25 t M m_ y_t_ y_n y_b M2 → I_25 [ar 0, ai y_t_, ai y_n, ai y_b] M2) : wp (tb7 (csL cs7_broken)) sh7 4 1 cX7_broken [(25, [0, 1, 2, 3], I_25)] Q 400 25 [(0, ar 0), (1, ai t_), (2, ai n), (3, ai b)] [] M1 := by
  obtain ⟨rfl, hc, hk, k2, a, rfl, ha, rfl, rfl⟩ := hJ
  have h4 : 0 ≤ M 7 4 ∧ M 7 4 ≤ 7 := hP.2.2.2.2.1
  have h3 : 0 ≤ M 7 3 ∧ M 7 3 ≤ 3 := hP.2.2.2.1
  have e7 : M1 7 = M 7 := keep_has hk
  simp only [e_wp dX7_broken_0 rfl, e_wp dX7_broken_1 rfl, e_wp dX7_broken_2 rfl, e_wp dX7_broken_5 rfl, e_wp dX7_broken_6 rfl, e_wp dX7_broken_7 rfl, e_wp dX7_broken_8 rfl, e_wp dX7_broken_11 rfl, e_wp dX7_broken_14 rfl, e_wp dX7_broken_16 rfl, e_wp dX7_broken_17 rfl, e_wp dX7_broken_18 rfl, e_wp dX7_broken_21 rfl, e_wp dX7_broken_22 rfl, e_wp dX7_broken_23 rfl, e_wp dX7_broken_24 rfl, e_wp dX7_broken_25 rfl, e_wp dX7_broken_26 rfl, e_wp dX7_broken_27 rfl, e_wp dX7_broken_30 rfl, e_wp dX7_broken_33 rfl, e_wp dX7_broken_34 rfl, e_wp dX7_broken_35 rfl, e_wp dX7_broken_38 rfl, e_wp dX7_broken_39 rfl, e_wp dX7_broken_40 rfl, e_wp dX7_broken_41 rfl, e_wp dX7_broken_44 rfl, e_wp dX7_broken_45 rfl, e_wp dX7_broken_46 rfl, e_wp dX7_broken_47 rfl, e_wp dX7_broken_50 rfl, e_wp dX7_broken_51 rfl, e_wp dX7_broken_52 rfl, e_wp dX7_broken_53 rfl, e_wp dX7_broken_56 rfl, e_wp dX7_broken_59 rfl, e_wp dX7_broken_60 rfl, p7_116, c7_isCart, P7_isCart, V7_isCart, cs7_broken, c7_laysNow, c7_bridges, P7_bridges, V7_bridges, g7_77, a7_1, w7_1, a7_2, w7_2, a7_3, w7_3, a7_4, w7_4, a7_5, w7_5, a7_6, w7_6, a7_7, w7_7, a7_8, w7_8, a7_9, w7_9, a7_10, w7_10, a7_11, w7_11, a7_12, w7_12, a7_13, w7_13, a7_14, w7_14, a7_15, w7_15, a7_16, w7_16, a7_17, w7_17, a7_18, w7_18, a7_19, w7_19, a7_20, w7_20, a7_21, w7_21, a7_22, w7_22, a7_23, w7_23, a7_24, w7_24, a7_25, w7_25, a7_26, w7_26, a7_27, w7_27, a7_28, w7_28, a7_29, w7_29, a7_30, w7_30, a7_31, w7_31, a7_32, w7_32, a7_33, w7_33, e_iconst, e_bipush, e_sipush, e_lconst_0, e_lconst_1, e_iload, e_iload_0, e_iload_1, e_iload_2, e_iload_3, e_lload, e_lload_0, e_lload_1, e_lload_2, e_lload_3, e_aload, e_aload_0, e_aload_1, e_aload_2, e_aload_3, e_istore, e_istore_0, e_istore_1, e_istore_2, e_istore_3, e_astore, e_astore_0, e_astore_1, e_astore_2, e_astore_3, e_lstore, e_lstore_0, e_lstore_1, e_lstore_2, e_lstore_3, e_iinc, e_iadd, e_isub, e_imul, e_ladd, e_lsub, e_lmul, e_idiv, e_irem, e_ldiv, e_lrem, e_ineg, e_lneg, e_iand, e_ior, e_ixor, e_ishl, e_ishr, e_iushr, e_lcmp, e_i2l, e_l2i, e_i2b, e_i2s, e_dup_i, e_dup_r, e_pop_i, e_pop_r, e_dup2_l, e_dup2_ir, e_dup2_ii, e_ifeq, e_ifne, e_iflt, e_ifge, e_ifgt, e_ifle, e_iceq, e_icne, e_iclt, e_icge, e_icgt, e_icle, e_goto, e_switch, e_invokevirtual, e_invokestatic, e_invokespecial, e_ret0, e_ret1, e_ret2, e_ret3, ldI_s, ldL_s, ldR_s, clO_s, ctP_s, ctS_s, mgo_0, mgo_s, pjc_s, pj_0, pj_s, lk_s, rm1_0, rm1_i, rm1_r, rm1_l, rm2_0, rm2_i, rm2_r, rm2_l, csL_s, lc_lt, lc_ge, lc_gt, lc_le, lc_eq, b01_0, b01_1, b01_01, b01_n, up2_o, up2_s, up2_u, ne_eq, reduceCtorEq, Nat.reduceAdd, Nat.reduceEqDiff, Nat.reduceLT, Nat.reduceLeDiff, Int.reduceLE, Int.reduceLT, Int.reduceAdd, Int.reduceNeg, Int.reduceMul, Int.reduceSub, Int.reduceEq, Int.reduceToNat, Int.reduceNatCast, Int.cast_ofNat_Int, ↓reduceIte, and_self, List.drop_succ_cons, List.drop_zero, List.take_succ_cons, List.take_zero, List.length_cons, List.length_nil, List.reverse_cons, List.reverse_nil, List.nil_append, List.cons_append, Option.toList, true_and, and_true, or_false, false_or, or_true, true_or, forall_const, Classical.not_not, not_false_eq_true, not_true_eq_false, false_implies, true_implies, implies_true, imp_self, e7, Int.toNat_natCast]
  refine ⟨fun q => hQ _ _ ⟨hk, ?_⟩, fun q => ?_⟩
  · rw [show A_broken (vM M) t = _ from if_pos hc, show (vM M 0 3).toNat = a by show (M 7 3).toNat = a; omega]
  · rw [(st_out k2 (b := a) q).2.2]
    have es : ∀ x, x = (if (rT (vM M) (vM M 0 4).toNat).2.2 a ≤ t then bshl 1 a else 0) → I_25 [ar 0, ai t, ai (bor (orN (fun b => if (rT (vM M) (vM M 0 4).toNat).2.2 b ≤ t then bshl 1 b else 0) a) x), ai (a + 1)] M1 := by
      rintro x rfl
      exact hI_25 (3 - (a + 1)) _ _ _ _ (by omega) ⟨rfl, hc, hk, k2, a + 1, by omega, by omega, rfl, rfl⟩
    refine ⟨by omega, fun w => ⟨by omega, es _ (by rw [if_neg (by omega)])⟩, fun w => ⟨by omega, es _ (by rw [if_pos w])⟩⟩
set_option maxHeartbeats 4000000 in
set_option maxRecDepth 100000 in
theorem m7_broken : MOK cl7 sh7 tyl7 [] 5 yX7_broken cX7_broken 4 (some .int) sp7_broken := by
  refine mok_of (own := RX7) (tb := tb7 (csL cs7_broken)) (rt := 1) (fuel := 400) (fun avs M Q => [(25, [0, 1, 2, 3], fun m_ vs M1 => ∃ y_t_ : Int, ∃ y_n : Int, ∃ y_b : Int, vs = [ar 0, ai y_t_, ai y_n, ai y_b] ∧ J7_broken_25 (pa true [0] avs 0) M m_ y_t_ y_n y_b M1)]) (by decide) rfl nil_nw (tbOK7 _) rfl (csL_all ?_) ?_ ?_ ?_
  · intro q hq
    simp only [cs7_broken, List.mem_cons, List.not_mem_nil, or_false] at hq
    rcases hq with rfl | rfl | rfl
    · exact cg7_isCart (by decide)
    · exact cg7_laysNow (by decide)
    · exact cg7_bridges (by decide)
  · intro avs M Q hsp
    obtain ⟨xs, hx⟩ := spR_un _ _ _ hsp
    obtain ⟨e, hl⟩ := unA_mkT hx
    obtain ⟨t, rfl⟩ := len1 hl
    have e : avs = [ar 0, ai t] := e
    subst e
    simp [szL, isL]
  · intro avs M Q hM hav hsp
    obtain ⟨xs, hx⟩ := spR_un _ _ _ hsp
    obtain ⟨e, hl⟩ := unA_mkT hx
    obtain ⟨t, rfl⟩ := len1 hl
    have e : avs = [ar 0, ai t] := e
    subst e
    exact in7_broken hM (hav (ai t) (by simp)) hsp.1 hsp.2 _ (fun m_ y_t_ y_n y_b M2 hJ => ⟨m_, y_t_, y_n, y_b, rfl, hJ⟩)
  · intro avs M Q hM hav hsp q hq m_ vs M1 hM1 hv hJ
    obtain ⟨xs, hx⟩ := spR_un _ _ _ hsp
    obtain ⟨e, hl⟩ := unA_mkT hx
    obtain ⟨t, rfl⟩ := len1 hl
    have e : avs = [ar 0, ai t] := e
    subst e
    simp only [List.mem_cons, List.not_mem_nil, or_false] at hq
    rcases hq with rfl
    · obtain ⟨y_t_, y_n, y_b, rfl, hJ⟩ := hJ
      exact at7_broken_25 hM (hav (ai t) (by simp)) hsp.1 hsp.2 hM1 (hv (1, ai y_t_) (List.mem_of_getElem? (i := 1) rfl)) (hv (2, ai y_n) (List.mem_of_getElem? (i := 2) rfl)) (hv (3, ai y_b) (List.mem_of_getElem? (i := 3) rfl)) hJ _ (fun m2 z_t_ z_n z_b M2 hm hJ2 => ⟨m2, hm, z_t_, z_n, z_b, rfl, hJ2⟩)
/-- the load on a place, counted from the first -/
def elP : List Pr → Nat → Int
  | [], _ => 0
  | x :: l, k => if k = l.length then x.1 else elP l k
theorem elP_of {f : Nat → Int} : ∀ {l : List Pr}, stk f l.length = l.map Prod.fst → ∀ k, k < l.length → f k = elP l k := by
  intro l
  induction l with
  | nil => intro _ k hk; cases hk
  | cons x l ih =>
    intro h k hk
    have h : f l.length :: stk f l.length = x.1 :: l.map Prod.fst := h
    obtain ⟨h1, h2⟩ := List.cons.inj h
    show f k = if k = l.length then x.1 else elP l k
    split
    · rename_i e; rw [e]; exact h1
    · exact ih h2 k (by rw [List.length_cons] at hk; omega)
def A_load (V : Vy) (b t k : Int) : Int := if isB V b ∧ isC V t then (if 0 ≤ k ∧ k < ((rT V (t.toNat + 1)).1 b.toNat).length then elP ((rT V (t.toNat + 1)).1 b.toNat) k.toNat else -1) else -2
def P7_load (b : Int) (t : Int) (k : Int) (M : Mm) : Prop := okY (vM M)
def R7_load (b : Int) (t : Int) (k : Int) (M : Mm) (v : Int) (M1 : Mm) : Prop := keepM M M1 ∧ v = A_load (vM M) b t k
def sp7_load : Spec := spR true [0, 0, 0] 1 (fun x M => P7_load (x 0) (x 1) (x 2) M) (fun x M v M1 => R7_load (x 0) (x 1) (x 2) M v M1)
theorem c7_load {b t k : Int} {M : Mm} {Q : Option AV → Mm → Prop} : sp7_load [ar 0, ai b, ai t, ai k] M Q = (P7_load b t k M ∧ ∀ (v : Int) (M1 : Mm), R7_load b t k M v M1 → Q (some (ai v)) M1) := rfl
def cs7_load : List (Nat × Nat × Nat × Spec) := [(353, 1, 3, sp7_isThen), (336, 1, 1, sp7_laysNow), (121, 0, 3, sp7_in)]
set_option maxHeartbeats 4000000 in
set_option maxRecDepth 100000 in
theorem in7_load {b t k : Int} {M : Mm} {Q : Option AV → Mm → Prop} (hM : okM sh7 M) (h_b : i32 b) (h_t : i32 t) (h_k : i32 k) (hP : P7_load b t k M) (hQ : ∀ (v : Int) (M1 : Mm), R7_load b t k M v M1 → Q (some (ai v)) M1) : wp (tb7 (csL cs7_load)) sh7 4 1 cX7_load [] Q 400 0 [(0, ar 0), (1, ai b), (2, ai t), (3, ai k)] [] M := by
  have h4 : 0 ≤ M 7 4 ∧ M 7 4 ≤ 7 := hP.2.2.2.2.1
  have h3 : 0 ≤ M 7 3 ∧ M 7 3 ≤ 3 := hP.2.2.2.1
  have hk0 : keepM M (up2 M 0 0 0) := keep_u0 keep_rf (by decide)
  have hV : vM (up2 M 0 0 0) = vM M := keep_v hk0 0
  have hP0 : okY (vM (up2 M 0 0 0)) := by rw [hV]; exact hP
  simp only [e_wp dX7_load_0 rfl, e_wp dX7_load_1 rfl, e_wp dX7_load_2 rfl, e_wp dX7_load_5 rfl, e_wp dX7_load_6 rfl, e_wp dX7_load_7 rfl, e_wp dX7_load_8 rfl, e_wp dX7_load_11 rfl, e_wp dX7_load_14 rfl, e_wp dX7_load_16 rfl, e_wp dX7_load_17 rfl, e_wp dX7_load_18 rfl, e_wp dX7_load_21 rfl, e_wp dX7_load_22 rfl, e_wp dX7_load_23 rfl, e_wp dX7_load_24 rfl, e_wp dX7_load_25 rfl, e_wp dX7_load_28 rfl, e_wp dX7_load_29 rfl, e_wp dX7_load_30 rfl, e_wp dX7_load_31 rfl, e_wp dX7_load_32 rfl, e_wp dX7_load_33 rfl, e_wp dX7_load_34 rfl, e_wp dX7_load_35 rfl, e_wp dX7_load_36 rfl, e_wp dX7_load_37 rfl, e_wp dX7_load_40 rfl, e_wp dX7_load_43 rfl, e_wp dX7_load_44 rfl, e_wp dX7_load_47 rfl, e_wp dX7_load_49 rfl, e_wp dX7_load_50 rfl, e_wp dX7_load_51 rfl, e_wp dX7_load_52 rfl, e_wp dX7_load_53 rfl, e_wp dX7_load_54 rfl, e_wp dX7_load_55 rfl, e_wp dX7_load_56 rfl, e_wp dX7_load_57 rfl, e_wp dX7_load_58 rfl, e_wp dX7_load_61 rfl, e_wp dX7_load_62 rfl, p7_116, c7_isThen, P7_isThen, V7_isThen, cs7_load, c7_laysNow, g7_95, c7_in, P7_in, V7_in, g7_101, a7_1, w7_1, a7_2, w7_2, a7_3, w7_3, a7_4, w7_4, a7_5, w7_5, a7_6, w7_6, a7_7, w7_7, a7_8, w7_8, a7_9, w7_9, a7_10, w7_10, a7_11, w7_11, a7_12, w7_12, a7_13, w7_13, a7_14, w7_14, a7_15, w7_15, a7_16, w7_16, a7_17, w7_17, a7_18, w7_18, a7_19, w7_19, a7_20, w7_20, a7_21, w7_21, a7_22, w7_22, a7_23, w7_23, a7_24, w7_24, a7_25, w7_25, a7_26, w7_26, a7_27, w7_27, a7_28, w7_28, a7_29, w7_29, a7_30, w7_30, a7_31, w7_31, a7_32, w7_32, a7_33, w7_33, e_iconst, e_bipush, e_sipush, e_lconst_0, e_lconst_1, e_iload, e_iload_0, e_iload_1, e_iload_2, e_iload_3, e_lload, e_lload_0, e_lload_1, e_lload_2, e_lload_3, e_aload, e_aload_0, e_aload_1, e_aload_2, e_aload_3, e_istore, e_istore_0, e_istore_1, e_istore_2, e_istore_3, e_astore, e_astore_0, e_astore_1, e_astore_2, e_astore_3, e_lstore, e_lstore_0, e_lstore_1, e_lstore_2, e_lstore_3, e_iinc, e_iadd, e_isub, e_imul, e_ladd, e_lsub, e_lmul, e_idiv, e_irem, e_ldiv, e_lrem, e_ineg, e_lneg, e_iand, e_ior, e_ixor, e_ishl, e_ishr, e_iushr, e_lcmp, e_i2l, e_l2i, e_i2b, e_i2s, e_dup_i, e_dup_r, e_pop_i, e_pop_r, e_dup2_l, e_dup2_ir, e_dup2_ii, e_ifeq, e_ifne, e_iflt, e_ifge, e_ifgt, e_ifle, e_iceq, e_icne, e_iclt, e_icge, e_icgt, e_icle, e_goto, e_switch, e_invokevirtual, e_invokestatic, e_invokespecial, e_ret0, e_ret1, e_ret2, e_ret3, ldI_s, ldL_s, ldR_s, clO_s, ctP_s, ctS_s, mgo_0, mgo_s, pjc_s, pj_0, pj_s, lk_s, rm1_0, rm1_i, rm1_r, rm1_l, rm2_0, rm2_i, rm2_r, rm2_l, csL_s, lc_lt, lc_ge, lc_gt, lc_le, lc_eq, b01_0, b01_1, b01_01, b01_n, up2_o, up2_s, up2_u, ne_eq, reduceCtorEq, Nat.reduceAdd, Nat.reduceEqDiff, Nat.reduceLT, Nat.reduceLeDiff, Int.reduceLE, Int.reduceLT, Int.reduceAdd, Int.reduceNeg, Int.reduceMul, Int.reduceSub, Int.reduceEq, Int.reduceToNat, Int.reduceNatCast, Int.cast_ofNat_Int, ↓reduceIte, and_self, List.drop_succ_cons, List.drop_zero, List.take_succ_cons, List.take_zero, List.length_cons, List.length_nil, List.reverse_cons, List.reverse_nil, List.nil_append, List.cons_append, Option.toList, true_and, and_true, or_false, false_or, or_true, true_or, forall_const, Classical.not_not, not_false_eq_true, not_true_eq_false, false_implies, true_implies, implies_true, imp_self]
  refine ⟨⟨h3, h4⟩, fun q => ⟨hP0, fun M1 hR => ?_⟩, fun q => hQ _ _ ⟨hk0, (if_neg q).symm⟩⟩
  obtain ⟨k1, k2, -⟩ := lay_use hR
  obtain ⟨a, rfl⟩ := Int.eq_ofNat_of_zero_le q.1.1
  obtain ⟨n, rfl⟩ := Int.eq_ofNat_of_zero_le q.2.1
  have i1 : ((3 : Int) * n + a).toNat = 3 * n + a := by omega
  obtain ⟨t0, t1, t2, t3, t4⟩ := tab_out k2 q.2.2 q.1.2
  have eA : A_load (vM M) a n k = _ := if_pos q
  rw [Int.toNat_natCast, Int.toNat_natCast] at eA
  have t0' : ((rT (vM M) (n + 1)).1 a).length ≤ 8 := t0
  have t2' : M1 27 (3 * n + a) = ((rT (vM M) (n + 1)).1 a).length := t2
  rw [i1, t2']
  repeat (refine And.intro (by omega) ?_)
  refine ⟨fun z => hQ _ _ ⟨k1, ?_⟩, fun z => ?_⟩
  · rw [eA, if_neg (by omega)]
  · have i2 : ((8 : Int) * (3 * n + a) + k).toNat = 8 * (3 * n + a) + k.toNat := by omega
    rw [i2]
    repeat (refine And.intro (by omega) ?_)
    refine hQ _ _ ⟨k1, ?_⟩
    rw [eA, if_pos (by omega)]
    exact elP_of t4 k.toNat (by omega)
set_option maxHeartbeats 4000000 in
set_option maxRecDepth 100000 in
theorem m7_load : MOK cl7 sh7 tyl7 [] 5 yX7_load cX7_load 4 (some .int) sp7_load := by
  refine mok_of (own := RX7) (tb := tb7 (csL cs7_load)) (rt := 1) (fuel := 400) (fun avs M Q => []) (by decide) rfl nil_nw (tbOK7 _) rfl (csL_all ?_) ?_ ?_ ?_
  · intro q hq
    simp only [cs7_load, List.mem_cons, List.not_mem_nil, or_false] at hq
    rcases hq with rfl | rfl | rfl
    · exact cg7_isThen (by decide)
    · exact cg7_laysNow (by decide)
    · exact cg7_in (by decide)
  · intro avs M Q hsp
    obtain ⟨xs, hx⟩ := spR_un _ _ _ hsp
    obtain ⟨e, hl⟩ := unA_mkT hx
    obtain ⟨b, t, k, rfl⟩ := len3 hl
    have e : avs = [ar 0, ai b, ai t, ai k] := e
    subst e
    simp [szL, isL]
  · intro avs M Q hM hav hsp
    obtain ⟨xs, hx⟩ := spR_un _ _ _ hsp
    obtain ⟨e, hl⟩ := unA_mkT hx
    obtain ⟨b, t, k, rfl⟩ := len3 hl
    have e : avs = [ar 0, ai b, ai t, ai k] := e
    subst e
    exact in7_load hM (hav (ai b) (by simp)) (hav (ai t) (by simp)) (hav (ai k) (by simp)) hsp.1 hsp.2
  · intro avs M Q hM hav hsp q hq m_ vs M1 hM1 hv hJ
    obtain ⟨xs, hx⟩ := spR_un _ _ _ hsp
    obtain ⟨e, hl⟩ := unA_mkT hx
    obtain ⟨b, t, k, rfl⟩ := len3 hl
    have e : avs = [ar 0, ai b, ai t, ai k] := e
    subst e
    cases hq
def A_last (V : Vy) (b t : Int) : Int := if isB V b ∧ isC V t then (if ((rT V (t.toNat + 1)).1 b.toNat).length = 0 then -1 else elP ((rT V (t.toNat + 1)).1 b.toNat) (((rT V (t.toNat + 1)).1 b.toNat).length - 1)) else -2
def P7_last (b : Int) (t : Int) (M : Mm) : Prop := okY (vM M)
def R7_last (b : Int) (t : Int) (M : Mm) (v : Int) (M1 : Mm) : Prop := keepM M M1 ∧ v = A_last (vM M) b t
def sp7_last : Spec := spR true [0, 0] 1 (fun x M => P7_last (x 0) (x 1) M) (fun x M v M1 => R7_last (x 0) (x 1) M v M1)
theorem c7_last {b t : Int} {M : Mm} {Q : Option AV → Mm → Prop} : sp7_last [ar 0, ai b, ai t] M Q = (P7_last b t M ∧ ∀ (v : Int) (M1 : Mm), R7_last b t M v M1 → Q (some (ai v)) M1) := rfl
def cs7_last : List (Nat × Nat × Nat × Spec) := [(353, 1, 3, sp7_isThen), (336, 1, 1, sp7_laysNow)]
set_option maxHeartbeats 4000000 in
set_option maxRecDepth 100000 in
theorem in7_last {b t : Int} {M : Mm} {Q : Option AV → Mm → Prop} (hM : okM sh7 M) (h_b : i32 b) (h_t : i32 t) (hP : P7_last b t M) (hQ : ∀ (v : Int) (M1 : Mm), R7_last b t M v M1 → Q (some (ai v)) M1) : wp (tb7 (csL cs7_last)) sh7 4 1 cX7_last [] Q 400 0 [(0, ar 0), (1, ai b), (2, ai t)] [] M := by
  have h4 : 0 ≤ M 7 4 ∧ M 7 4 ≤ 7 := hP.2.2.2.2.1
  have h3 : 0 ≤ M 7 3 ∧ M 7 3 ≤ 3 := hP.2.2.2.1
  have hk0 : keepM M (up2 M 0 0 0) := keep_u0 keep_rf (by decide)
  have hV : vM (up2 M 0 0 0) = vM M := keep_v hk0 0
  have hP0 : okY (vM (up2 M 0 0 0)) := by rw [hV]; exact hP
  simp only [e_wp dX7_last_0 rfl, e_wp dX7_last_1 rfl, e_wp dX7_last_2 rfl, e_wp dX7_last_5 rfl, e_wp dX7_last_6 rfl, e_wp dX7_last_7 rfl, e_wp dX7_last_8 rfl, e_wp dX7_last_11 rfl, e_wp dX7_last_14 rfl, e_wp dX7_last_16 rfl, e_wp dX7_last_17 rfl, e_wp dX7_last_18 rfl, e_wp dX7_last_21 rfl, e_wp dX7_last_22 rfl, e_wp dX7_last_25 rfl, e_wp dX7_last_26 rfl, e_wp dX7_last_27 rfl, e_wp dX7_last_28 rfl, e_wp dX7_last_29 rfl, e_wp dX7_last_30 rfl, e_wp dX7_last_31 rfl, e_wp dX7_last_32 rfl, e_wp dX7_last_33 rfl, e_wp dX7_last_36 rfl, e_wp dX7_last_37 rfl, e_wp dX7_last_40 rfl, e_wp dX7_last_41 rfl, e_wp dX7_last_44 rfl, e_wp dX7_last_46 rfl, e_wp dX7_last_47 rfl, e_wp dX7_last_48 rfl, e_wp dX7_last_49 rfl, e_wp dX7_last_50 rfl, e_wp dX7_last_51 rfl, e_wp dX7_last_52 rfl, e_wp dX7_last_53 rfl, e_wp dX7_last_54 rfl, e_wp dX7_last_55 rfl, e_wp dX7_last_56 rfl, e_wp dX7_last_57 rfl, p7_116, c7_isThen, P7_isThen, V7_isThen, cs7_last, c7_laysNow, g7_95, g7_101, a7_1, w7_1, a7_2, w7_2, a7_3, w7_3, a7_4, w7_4, a7_5, w7_5, a7_6, w7_6, a7_7, w7_7, a7_8, w7_8, a7_9, w7_9, a7_10, w7_10, a7_11, w7_11, a7_12, w7_12, a7_13, w7_13, a7_14, w7_14, a7_15, w7_15, a7_16, w7_16, a7_17, w7_17, a7_18, w7_18, a7_19, w7_19, a7_20, w7_20, a7_21, w7_21, a7_22, w7_22, a7_23, w7_23, a7_24, w7_24, a7_25, w7_25, a7_26, w7_26, a7_27, w7_27, a7_28, w7_28, a7_29, w7_29, a7_30, w7_30, a7_31, w7_31, a7_32, w7_32, a7_33, w7_33, e_iconst, e_bipush, e_sipush, e_lconst_0, e_lconst_1, e_iload, e_iload_0, e_iload_1, e_iload_2, e_iload_3, e_lload, e_lload_0, e_lload_1, e_lload_2, e_lload_3, e_aload, e_aload_0, e_aload_1, e_aload_2, e_aload_3, e_istore, e_istore_0, e_istore_1, e_istore_2, e_istore_3, e_astore, e_astore_0, e_astore_1, e_astore_2, e_astore_3, e_lstore, e_lstore_0, e_lstore_1, e_lstore_2, e_lstore_3, e_iinc, e_iadd, e_isub, e_imul, e_ladd, e_lsub, e_lmul, e_idiv, e_irem, e_ldiv, e_lrem, e_ineg, e_lneg, e_iand, e_ior, e_ixor, e_ishl, e_ishr, e_iushr, e_lcmp, e_i2l, e_l2i, e_i2b, e_i2s, e_dup_i, e_dup_r, e_pop_i, e_pop_r, e_dup2_l, e_dup2_ir, e_dup2_ii, e_ifeq, e_ifne, e_iflt, e_ifge, e_ifgt, e_ifle, e_iceq, e_icne, e_iclt, e_icge, e_icgt, e_icle, e_goto, e_switch, e_invokevirtual, e_invokestatic, e_invokespecial, e_ret0, e_ret1, e_ret2, e_ret3, ldI_s, ldL_s, ldR_s, clO_s, ctP_s, ctS_s, mgo_0, mgo_s, pjc_s, pj_0, pj_s, lk_s, rm1_0, rm1_i, rm1_r, rm1_l, rm2_0, rm2_i, rm2_r, rm2_l, csL_s, lc_lt, lc_ge, lc_gt, lc_le, lc_eq, b01_0, b01_1, b01_01, b01_n, up2_o, up2_s, up2_u, ne_eq, reduceCtorEq, Nat.reduceAdd, Nat.reduceEqDiff, Nat.reduceLT, Nat.reduceLeDiff, Int.reduceLE, Int.reduceLT, Int.reduceAdd, Int.reduceNeg, Int.reduceMul, Int.reduceSub, Int.reduceEq, Int.reduceToNat, Int.reduceNatCast, Int.cast_ofNat_Int, ↓reduceIte, and_self, List.drop_succ_cons, List.drop_zero, List.take_succ_cons, List.take_zero, List.length_cons, List.length_nil, List.reverse_cons, List.reverse_nil, List.nil_append, List.cons_append, Option.toList, true_and, and_true, or_false, false_or, or_true, true_or, forall_const, Classical.not_not, not_false_eq_true, not_true_eq_false, false_implies, true_implies, implies_true, imp_self]
  refine ⟨⟨h3, h4⟩, fun q => ⟨hP0, fun M1 hR => ?_⟩, fun q => hQ _ _ ⟨hk0, (if_neg q).symm⟩⟩
  obtain ⟨k1, k2, -⟩ := lay_use hR
  obtain ⟨a, rfl⟩ := Int.eq_ofNat_of_zero_le q.1.1
  obtain ⟨n, rfl⟩ := Int.eq_ofNat_of_zero_le q.2.1
  have i1 : ((3 : Int) * n + a).toNat = 3 * n + a := by omega
  obtain ⟨t0, t1, t2, t3, t4⟩ := tab_out k2 q.2.2 q.1.2
  have eA : A_last (vM M) a n = _ := if_pos q
  rw [Int.toNat_natCast, Int.toNat_natCast] at eA
  have t0' : ((rT (vM M) (n + 1)).1 a).length ≤ 8 := t0
  have t2' : M1 27 (3 * n + a) = ((rT (vM M) (n + 1)).1 a).length := t2
  rw [i1, t2']
  repeat (refine And.intro (by omega) ?_)
  refine ⟨fun z => ?_, fun z => hQ _ _ ⟨k1, ?_⟩⟩
  · have i2 : ((8 : Int) * (3 * n + a) + (((rT (vM M) (n + 1)).1 a).length : Int) - 1).toNat = 8 * (3 * n + a) + (((rT (vM M) (n + 1)).1 a).length - 1) := by omega
    rw [i2]
    repeat (refine And.intro (by omega) ?_)
    refine hQ _ _ ⟨k1, ?_⟩
    rw [eA, if_neg (by omega)]
    exact elP_of t4 _ (by omega)
  · rw [eA, if_pos (by omega)]
set_option maxHeartbeats 4000000 in
set_option maxRecDepth 100000 in
theorem m7_last : MOK cl7 sh7 tyl7 [] 5 yX7_last cX7_last 4 (some .int) sp7_last := by
  refine mok_of (own := RX7) (tb := tb7 (csL cs7_last)) (rt := 1) (fuel := 400) (fun avs M Q => []) (by decide) rfl nil_nw (tbOK7 _) rfl (csL_all ?_) ?_ ?_ ?_
  · intro q hq
    simp only [cs7_last, List.mem_cons, List.not_mem_nil, or_false] at hq
    rcases hq with rfl | rfl
    · exact cg7_isThen (by decide)
    · exact cg7_laysNow (by decide)
  · intro avs M Q hsp
    obtain ⟨xs, hx⟩ := spR_un _ _ _ hsp
    obtain ⟨e, hl⟩ := unA_mkT hx
    obtain ⟨b, t, rfl⟩ := len2 hl
    have e : avs = [ar 0, ai b, ai t] := e
    subst e
    simp [szL, isL]
  · intro avs M Q hM hav hsp
    obtain ⟨xs, hx⟩ := spR_un _ _ _ hsp
    obtain ⟨e, hl⟩ := unA_mkT hx
    obtain ⟨b, t, rfl⟩ := len2 hl
    have e : avs = [ar 0, ai b, ai t] := e
    subst e
    exact in7_last hM (hav (ai b) (by simp)) (hav (ai t) (by simp)) hsp.1 hsp.2
  · intro avs M Q hM hav hsp q hq m_ vs M1 hM1 hv hJ
    obtain ⟨xs, hx⟩ := spR_un _ _ _ hsp
    obtain ⟨e, hl⟩ := unA_mkT hx
    obtain ⟨b, t, rfl⟩ := len2 hl
    have e : avs = [ar 0, ai b, ai t] := e
    subst e
    cases hq
