/-! What is answered, plain (for both), and SagMemoryModel's answers -/
/-- a run as it is told, its first n turns -/
abbrev rT (V : Vy) (n : Nat) : Sm := runP (whoM (tellP V)) V (tellP V) n
abbrev pT (V : Vy) (t : Nat) : Sm := preP (whoM (tellP V)) V (tellP V) t
abbrev isC (V : Vy) (c : Int) : Prop := 0 ≤ c ∧ c < V 0 4
abbrev isB (V : Vy) (b : Int) : Prop := 0 ≤ b ∧ b < V 0 3
theorem bit0 (k : Nat) : ¬ bitP 0 k := by
  have h : bshr 0 k = 0 := by
    unfold bshr
    have : Int32.ofInt 0 = (0 : Int32) := rfl
    rw [this]
    simp
  show ¬ band (bshr 0 k) 1 = 1
  rw [h]
  decide
theorem tell_row {V : Vy} {t : Nat} (h : (t : Int) < V 0 4) : tellP V 3 t = t := if_pos h
theorem tell_inj (V : Vy) : injR V (tellP V) := by
  intro t t' h1 h2 h3
  rw [tell_row h1, tell_row h2] at h3
  omega
theorem tell_out {V : Vy} {M1 : Mm} (h : laidR V (tellP V) M1) {t : Nat} (ht : (t : Int) < V 0 4) : M1 22 t = wentS V (tellP V) (pT V t) t ∧ M1 23 t = toP V (tellP V) t ∧ M1 24 t = giveS (whoM (tellP V)) V (tellP V) (pT V t) t ∧ M1 25 t = creakS V (tellP V) (pT V t) t ∧ M1 26 t = wipeS (whoM (tellP V)) V (tellP V) (pT V t) t := by
  obtain ⟨r1, r2, r3, r4, r5⟩ := h.2.2.2.2 (tell_inj V) t ht
  rw [tell_row ht, Int.toNat_natCast] at r1 r2 r3 r4 r5
  refine ⟨r1, ?_, r3, r4, r5⟩
  rw [r2]
  exact if_neg (bit0 t)
theorem lay_use {M M1 : Mm} (hR : R7_laysNow (up2 M 0 0 0) M1) : keepM M M1 ∧ laidR (vM M) (tellP (vM M)) M1 ∧ M1 7 = M 7 ∧ M1 8 = M 8 ∧ M1 6 = M 6 := by
  have hk0 : keepM M (up2 M 0 0 0) := keep_u0 keep_rf (by decide)
  have hV : vM (up2 M 0 0 0) = vM M := keep_v hk0 0
  obtain ⟨h1, h2⟩ := hR
  rw [hV] at h2
  have h3 := keep_tr hk0 h1
  exact ⟨h3, h2, h3.1 _ (by decide), h3.1 _ (by decide), h3.1 _ (by decide)⟩
theorem tab_out {V : Vy} {M1 : Mm} (h : laidR V (tellP V) M1) {t b : Nat} (ht : (t : Int) < V 0 4) (hb : (b : Int) < V 0 3) : tabR V (tellP V) M1 t b := h.2.2.2.1 t b ht hb
theorem st_out {V : Vy} {M1 : Mm} (h : laidR V (tellP V) M1) {b : Nat} (hb : (b : Int) < V 0 3) : mb M1 b = (rT V (V 0 4).toNat).1 b ∧ M1 20 b = (rT V (V 0 4).toNat).2.1 b ∧ M1 21 b = (rT V (V 0 4).toNat).2.2 b := h.2.2.1 b hb
def paysV (V : Vy) (c : Nat) : Int := if wentS V (tellP V) (pT V c) c = -1 ∨ giveS (whoM (tellP V)) V (tellP V) (pT V c) c < 0 then 0 else V 2 (wentS V (tellP V) (pT V c) c).toNat * giveS (whoM (tellP V)) V (tellP V) (pT V c) c
def A_goes (V : Vy) (c : Int) : Int := if isC V c then wentS V (tellP V) (pT V c.toNat) c.toNat else -2
def P7_goes (c : Int) (M : Mm) : Prop := okY (vM M)
def R7_goes (c : Int) (M : Mm) (v : Int) (M1 : Mm) : Prop := keepM M M1 ∧ v = A_goes (vM M) c
def sp7_goes : Spec := spR true [0] 1 (fun x M => P7_goes (x 0) M) (fun x M v M1 => R7_goes (x 0) M v M1)
theorem c7_goes {c : Int} {M : Mm} {Q : Option AV → Mm → Prop} : sp7_goes [ar 0, ai c] M Q = (P7_goes c M ∧ ∀ (v : Int) (M1 : Mm), R7_goes c M v M1 → Q (some (ai v)) M1) := rfl
def cs7_goes : List (Nat × Nat × Nat × Spec) := [(289, 1, 2, sp7_isCart), (336, 1, 1, sp7_laysNow)]
set_option maxHeartbeats 4000000 in
set_option maxRecDepth 100000 in
theorem in7_goes {c : Int} {M : Mm} {Q : Option AV → Mm → Prop} (hM : okM sh7 M) (h_c : i32 c) (hP : P7_goes c M) (hQ : ∀ (v : Int) (M1 : Mm), R7_goes c M v M1 → Q (some (ai v)) M1) : wp (tb7 (csL cs7_goes)) sh7 2 1 cX7_goes [] Q 400 0 [(0, ar 0), (1, ai c)] [] M := by
  have h4 : 0 ≤ M 7 4 ∧ M 7 4 ≤ 7 := hP.2.2.2.2.1
  have h3 : 0 ≤ M 7 3 ∧ M 7 3 ≤ 3 := hP.2.2.2.1
  have hk0 : keepM M (up2 M 0 0 0) := keep_u0 keep_rf (by decide)
  have hV : vM (up2 M 0 0 0) = vM M := keep_v hk0 0
  have hP0 : okY (vM (up2 M 0 0 0)) := by rw [hV]; exact hP
  simp only [e_wp dX7_goes_0 rfl, e_wp dX7_goes_1 rfl, e_wp dX7_goes_2 rfl, e_wp dX7_goes_5 rfl, e_wp dX7_goes_6 rfl, e_wp dX7_goes_7 rfl, e_wp dX7_goes_8 rfl, e_wp dX7_goes_11 rfl, e_wp dX7_goes_14 rfl, e_wp dX7_goes_16 rfl, e_wp dX7_goes_17 rfl, e_wp dX7_goes_18 rfl, e_wp dX7_goes_21 rfl, e_wp dX7_goes_22 rfl, e_wp dX7_goes_25 rfl, e_wp dX7_goes_26 rfl, e_wp dX7_goes_27 rfl, p7_116, c7_isCart, P7_isCart, V7_isCart, cs7_goes, c7_laysNow, g7_80, a7_1, w7_1, a7_2, w7_2, a7_3, w7_3, a7_4, w7_4, a7_5, w7_5, a7_6, w7_6, a7_7, w7_7, a7_8, w7_8, a7_9, w7_9, a7_10, w7_10, a7_11, w7_11, a7_12, w7_12, a7_13, w7_13, a7_14, w7_14, a7_15, w7_15, a7_16, w7_16, a7_17, w7_17, a7_18, w7_18, a7_19, w7_19, a7_20, w7_20, a7_21, w7_21, a7_22, w7_22, a7_23, w7_23, a7_24, w7_24, a7_25, w7_25, a7_26, w7_26, a7_27, w7_27, a7_28, w7_28, a7_29, w7_29, a7_30, w7_30, a7_31, w7_31, a7_32, w7_32, a7_33, w7_33, e_iconst, e_bipush, e_sipush, e_lconst_0, e_lconst_1, e_iload, e_iload_0, e_iload_1, e_iload_2, e_iload_3, e_lload, e_lload_0, e_lload_1, e_lload_2, e_lload_3, e_aload, e_aload_0, e_aload_1, e_aload_2, e_aload_3, e_istore, e_istore_0, e_istore_1, e_istore_2, e_istore_3, e_astore, e_astore_0, e_astore_1, e_astore_2, e_astore_3, e_lstore, e_lstore_0, e_lstore_1, e_lstore_2, e_lstore_3, e_iinc, e_iadd, e_isub, e_imul, e_ladd, e_lsub, e_lmul, e_idiv, e_irem, e_ldiv, e_lrem, e_ineg, e_lneg, e_iand, e_ior, e_ixor, e_ishl, e_ishr, e_iushr, e_lcmp, e_i2l, e_l2i, e_i2b, e_i2s, e_dup_i, e_dup_r, e_pop_i, e_pop_r, e_dup2_l, e_dup2_ir, e_dup2_ii, e_ifeq, e_ifne, e_iflt, e_ifge, e_ifgt, e_ifle, e_iceq, e_icne, e_iclt, e_icge, e_icgt, e_icle, e_goto, e_switch, e_invokevirtual, e_invokestatic, e_invokespecial, e_ret0, e_ret1, e_ret2, e_ret3, ldI_s, ldL_s, ldR_s, clO_s, ctP_s, ctS_s, mgo_0, mgo_s, pjc_s, pj_0, pj_s, lk_s, rm1_0, rm1_i, rm1_r, rm1_l, rm2_0, rm2_i, rm2_r, rm2_l, csL_s, lc_lt, lc_ge, lc_gt, lc_le, lc_eq, b01_0, b01_1, b01_01, b01_n, up2_o, up2_s, up2_u, ne_eq, reduceCtorEq, Nat.reduceAdd, Nat.reduceEqDiff, Nat.reduceLT, Nat.reduceLeDiff, Int.reduceLE, Int.reduceLT, Int.reduceAdd, Int.reduceNeg, Int.reduceMul, Int.reduceSub, Int.reduceEq, Int.reduceToNat, Int.reduceNatCast, Int.cast_ofNat_Int, ↓reduceIte, and_self, List.drop_succ_cons, List.drop_zero, List.take_succ_cons, List.take_zero, List.length_cons, List.length_nil, List.reverse_cons, List.reverse_nil, List.nil_append, List.cons_append, Option.toList, true_and, and_true, or_false, false_or, or_true, true_or, forall_const, Classical.not_not, not_false_eq_true, not_true_eq_false, false_implies, true_implies, implies_true, imp_self]
  refine ⟨h4, fun q => ⟨hP0, fun M1 hR => ?_⟩, fun q => hQ _ _ ⟨hk0, (if_neg q).symm⟩⟩
  obtain ⟨k1, k2, -⟩ := lay_use hR
  refine ⟨by omega, hQ _ _ ⟨k1, ?_⟩⟩
  rw [show A_goes (vM M) c = _ from if_pos q]
  exact (tell_out k2 (t := c.toNat) (by show ((c.toNat : Nat) : Int) < M 7 4; omega)).1
set_option maxHeartbeats 4000000 in
set_option maxRecDepth 100000 in
theorem m7_goes : MOK cl7 sh7 tyl7 [] 5 yX7_goes cX7_goes 2 (some .int) sp7_goes := by
  refine mok_of (own := RX7) (tb := tb7 (csL cs7_goes)) (rt := 1) (fuel := 400) (fun avs M Q => []) (by decide) rfl nil_nw (tbOK7 _) rfl (csL_all ?_) ?_ ?_ ?_
  · intro q hq
    simp only [cs7_goes, List.mem_cons, List.not_mem_nil, or_false] at hq
    rcases hq with rfl | rfl
    · exact cg7_isCart (by decide)
    · exact cg7_laysNow (by decide)
  · intro avs M Q hsp
    obtain ⟨xs, hx⟩ := spR_un _ _ _ hsp
    obtain ⟨e, hl⟩ := unA_mkT hx
    obtain ⟨c, rfl⟩ := len1 hl
    have e : avs = [ar 0, ai c] := e
    subst e
    simp [szL, isL]
  · intro avs M Q hM hav hsp
    obtain ⟨xs, hx⟩ := spR_un _ _ _ hsp
    obtain ⟨e, hl⟩ := unA_mkT hx
    obtain ⟨c, rfl⟩ := len1 hl
    have e : avs = [ar 0, ai c] := e
    subst e
    exact in7_goes hM (hav (ai c) (by simp)) hsp.1 hsp.2
  · intro avs M Q hM hav hsp q hq m_ vs M1 hM1 hv hJ
    obtain ⟨xs, hx⟩ := spR_un _ _ _ hsp
    obtain ⟨e, hl⟩ := unA_mkT hx
    obtain ⟨c, rfl⟩ := len1 hl
    have e : avs = [ar 0, ai c] := e
    subst e
    cases hq
def A_comes (V : Vy) (c : Int) : Int := if isC V c then toP V (tellP V) c.toNat else -2
def P7_comes (c : Int) (M : Mm) : Prop := okY (vM M)
def R7_comes (c : Int) (M : Mm) (v : Int) (M1 : Mm) : Prop := keepM M M1 ∧ v = A_comes (vM M) c
def sp7_comes : Spec := spR true [0] 1 (fun x M => P7_comes (x 0) M) (fun x M v M1 => R7_comes (x 0) M v M1)
theorem c7_comes {c : Int} {M : Mm} {Q : Option AV → Mm → Prop} : sp7_comes [ar 0, ai c] M Q = (P7_comes c M ∧ ∀ (v : Int) (M1 : Mm), R7_comes c M v M1 → Q (some (ai v)) M1) := rfl
def cs7_comes : List (Nat × Nat × Nat × Spec) := [(289, 1, 2, sp7_isCart), (336, 1, 1, sp7_laysNow)]
set_option maxHeartbeats 4000000 in
set_option maxRecDepth 100000 in
theorem in7_comes {c : Int} {M : Mm} {Q : Option AV → Mm → Prop} (hM : okM sh7 M) (h_c : i32 c) (hP : P7_comes c M) (hQ : ∀ (v : Int) (M1 : Mm), R7_comes c M v M1 → Q (some (ai v)) M1) : wp (tb7 (csL cs7_comes)) sh7 2 1 cX7_comes [] Q 400 0 [(0, ar 0), (1, ai c)] [] M := by
  have h4 : 0 ≤ M 7 4 ∧ M 7 4 ≤ 7 := hP.2.2.2.2.1
  have h3 : 0 ≤ M 7 3 ∧ M 7 3 ≤ 3 := hP.2.2.2.1
  have hk0 : keepM M (up2 M 0 0 0) := keep_u0 keep_rf (by decide)
  have hV : vM (up2 M 0 0 0) = vM M := keep_v hk0 0
  have hP0 : okY (vM (up2 M 0 0 0)) := by rw [hV]; exact hP
  simp only [e_wp dX7_comes_0 rfl, e_wp dX7_comes_1 rfl, e_wp dX7_comes_2 rfl, e_wp dX7_comes_5 rfl, e_wp dX7_comes_6 rfl, e_wp dX7_comes_7 rfl, e_wp dX7_comes_8 rfl, e_wp dX7_comes_11 rfl, e_wp dX7_comes_14 rfl, e_wp dX7_comes_16 rfl, e_wp dX7_comes_17 rfl, e_wp dX7_comes_18 rfl, e_wp dX7_comes_21 rfl, e_wp dX7_comes_22 rfl, e_wp dX7_comes_25 rfl, e_wp dX7_comes_26 rfl, e_wp dX7_comes_27 rfl, p7_116, c7_isCart, P7_isCart, V7_isCart, cs7_comes, c7_laysNow, g7_83, a7_1, w7_1, a7_2, w7_2, a7_3, w7_3, a7_4, w7_4, a7_5, w7_5, a7_6, w7_6, a7_7, w7_7, a7_8, w7_8, a7_9, w7_9, a7_10, w7_10, a7_11, w7_11, a7_12, w7_12, a7_13, w7_13, a7_14, w7_14, a7_15, w7_15, a7_16, w7_16, a7_17, w7_17, a7_18, w7_18, a7_19, w7_19, a7_20, w7_20, a7_21, w7_21, a7_22, w7_22, a7_23, w7_23, a7_24, w7_24, a7_25, w7_25, a7_26, w7_26, a7_27, w7_27, a7_28, w7_28, a7_29, w7_29, a7_30, w7_30, a7_31, w7_31, a7_32, w7_32, a7_33, w7_33, e_iconst, e_bipush, e_sipush, e_lconst_0, e_lconst_1, e_iload, e_iload_0, e_iload_1, e_iload_2, e_iload_3, e_lload, e_lload_0, e_lload_1, e_lload_2, e_lload_3, e_aload, e_aload_0, e_aload_1, e_aload_2, e_aload_3, e_istore, e_istore_0, e_istore_1, e_istore_2, e_istore_3, e_astore, e_astore_0, e_astore_1, e_astore_2, e_astore_3, e_lstore, e_lstore_0, e_lstore_1, e_lstore_2, e_lstore_3, e_iinc, e_iadd, e_isub, e_imul, e_ladd, e_lsub, e_lmul, e_idiv, e_irem, e_ldiv, e_lrem, e_ineg, e_lneg, e_iand, e_ior, e_ixor, e_ishl, e_ishr, e_iushr, e_lcmp, e_i2l, e_l2i, e_i2b, e_i2s, e_dup_i, e_dup_r, e_pop_i, e_pop_r, e_dup2_l, e_dup2_ir, e_dup2_ii, e_ifeq, e_ifne, e_iflt, e_ifge, e_ifgt, e_ifle, e_iceq, e_icne, e_iclt, e_icge, e_icgt, e_icle, e_goto, e_switch, e_invokevirtual, e_invokestatic, e_invokespecial, e_ret0, e_ret1, e_ret2, e_ret3, ldI_s, ldL_s, ldR_s, clO_s, ctP_s, ctS_s, mgo_0, mgo_s, pjc_s, pj_0, pj_s, lk_s, rm1_0, rm1_i, rm1_r, rm1_l, rm2_0, rm2_i, rm2_r, rm2_l, csL_s, lc_lt, lc_ge, lc_gt, lc_le, lc_eq, b01_0, b01_1, b01_01, b01_n, up2_o, up2_s, up2_u, ne_eq, reduceCtorEq, Nat.reduceAdd, Nat.reduceEqDiff, Nat.reduceLT, Nat.reduceLeDiff, Int.reduceLE, Int.reduceLT, Int.reduceAdd, Int.reduceNeg, Int.reduceMul, Int.reduceSub, Int.reduceEq, Int.reduceToNat, Int.reduceNatCast, Int.cast_ofNat_Int, ↓reduceIte, and_self, List.drop_succ_cons, List.drop_zero, List.take_succ_cons, List.take_zero, List.length_cons, List.length_nil, List.reverse_cons, List.reverse_nil, List.nil_append, List.cons_append, Option.toList, true_and, and_true, or_false, false_or, or_true, true_or, forall_const, Classical.not_not, not_false_eq_true, not_true_eq_false, false_implies, true_implies, implies_true, imp_self]
  refine ⟨h4, fun q => ⟨hP0, fun M1 hR => ?_⟩, fun q => hQ _ _ ⟨hk0, (if_neg q).symm⟩⟩
  obtain ⟨k1, k2, -⟩ := lay_use hR
  refine ⟨by omega, hQ _ _ ⟨k1, ?_⟩⟩
  rw [show A_comes (vM M) c = _ from if_pos q]
  exact (tell_out k2 (t := c.toNat) (by show ((c.toNat : Nat) : Int) < M 7 4; omega)).2.1
set_option maxHeartbeats 4000000 in
set_option maxRecDepth 100000 in
theorem m7_comes : MOK cl7 sh7 tyl7 [] 5 yX7_comes cX7_comes 2 (some .int) sp7_comes := by
  refine mok_of (own := RX7) (tb := tb7 (csL cs7_comes)) (rt := 1) (fuel := 400) (fun avs M Q => []) (by decide) rfl nil_nw (tbOK7 _) rfl (csL_all ?_) ?_ ?_ ?_
  · intro q hq
    simp only [cs7_comes, List.mem_cons, List.not_mem_nil, or_false] at hq
    rcases hq with rfl | rfl
    · exact cg7_isCart (by decide)
    · exact cg7_laysNow (by decide)
  · intro avs M Q hsp
    obtain ⟨xs, hx⟩ := spR_un _ _ _ hsp
    obtain ⟨e, hl⟩ := unA_mkT hx
    obtain ⟨c, rfl⟩ := len1 hl
    have e : avs = [ar 0, ai c] := e
    subst e
    simp [szL, isL]
  · intro avs M Q hM hav hsp
    obtain ⟨xs, hx⟩ := spR_un _ _ _ hsp
    obtain ⟨e, hl⟩ := unA_mkT hx
    obtain ⟨c, rfl⟩ := len1 hl
    have e : avs = [ar 0, ai c] := e
    subst e
    exact in7_comes hM (hav (ai c) (by simp)) hsp.1 hsp.2
  · intro avs M Q hM hav hsp q hq m_ vs M1 hM1 hv hJ
    obtain ⟨xs, hx⟩ := spR_un _ _ _ hsp
    obtain ⟨e, hl⟩ := unA_mkT hx
    obtain ⟨c, rfl⟩ := len1 hl
    have e : avs = [ar 0, ai c] := e
    subst e
    cases hq
def A_gives (V : Vy) (c : Int) : Int := if isC V c then giveS (whoM (tellP V)) V (tellP V) (pT V c.toNat) c.toNat else -1000
def P7_gives (c : Int) (M : Mm) : Prop := okY (vM M)
def R7_gives (c : Int) (M : Mm) (v : Int) (M1 : Mm) : Prop := keepM M M1 ∧ v = A_gives (vM M) c
def sp7_gives : Spec := spR true [0] 1 (fun x M => P7_gives (x 0) M) (fun x M v M1 => R7_gives (x 0) M v M1)
theorem c7_gives {c : Int} {M : Mm} {Q : Option AV → Mm → Prop} : sp7_gives [ar 0, ai c] M Q = (P7_gives c M ∧ ∀ (v : Int) (M1 : Mm), R7_gives c M v M1 → Q (some (ai v)) M1) := rfl
def cs7_gives : List (Nat × Nat × Nat × Spec) := [(289, 1, 2, sp7_isCart), (336, 1, 1, sp7_laysNow)]
set_option maxHeartbeats 4000000 in
set_option maxRecDepth 100000 in
theorem in7_gives {c : Int} {M : Mm} {Q : Option AV → Mm → Prop} (hM : okM sh7 M) (h_c : i32 c) (hP : P7_gives c M) (hQ : ∀ (v : Int) (M1 : Mm), R7_gives c M v M1 → Q (some (ai v)) M1) : wp (tb7 (csL cs7_gives)) sh7 2 1 cX7_gives [] Q 400 0 [(0, ar 0), (1, ai c)] [] M := by
  have h4 : 0 ≤ M 7 4 ∧ M 7 4 ≤ 7 := hP.2.2.2.2.1
  have h3 : 0 ≤ M 7 3 ∧ M 7 3 ≤ 3 := hP.2.2.2.1
  have hk0 : keepM M (up2 M 0 0 0) := keep_u0 keep_rf (by decide)
  have hV : vM (up2 M 0 0 0) = vM M := keep_v hk0 0
  have hP0 : okY (vM (up2 M 0 0 0)) := by rw [hV]; exact hP
  simp only [e_wp dX7_gives_0 rfl, e_wp dX7_gives_1 rfl, e_wp dX7_gives_2 rfl, e_wp dX7_gives_5 rfl, e_wp dX7_gives_6 rfl, e_wp dX7_gives_7 rfl, e_wp dX7_gives_8 rfl, e_wp dX7_gives_11 rfl, e_wp dX7_gives_14 rfl, e_wp dX7_gives_17 rfl, e_wp dX7_gives_18 rfl, e_wp dX7_gives_19 rfl, e_wp dX7_gives_22 rfl, e_wp dX7_gives_23 rfl, e_wp dX7_gives_26 rfl, e_wp dX7_gives_27 rfl, e_wp dX7_gives_28 rfl, p7_116, c7_isCart, P7_isCart, V7_isCart, cs7_gives, c7_laysNow, g7_86, a7_1, w7_1, a7_2, w7_2, a7_3, w7_3, a7_4, w7_4, a7_5, w7_5, a7_6, w7_6, a7_7, w7_7, a7_8, w7_8, a7_9, w7_9, a7_10, w7_10, a7_11, w7_11, a7_12, w7_12, a7_13, w7_13, a7_14, w7_14, a7_15, w7_15, a7_16, w7_16, a7_17, w7_17, a7_18, w7_18, a7_19, w7_19, a7_20, w7_20, a7_21, w7_21, a7_22, w7_22, a7_23, w7_23, a7_24, w7_24, a7_25, w7_25, a7_26, w7_26, a7_27, w7_27, a7_28, w7_28, a7_29, w7_29, a7_30, w7_30, a7_31, w7_31, a7_32, w7_32, a7_33, w7_33, e_iconst, e_bipush, e_sipush, e_lconst_0, e_lconst_1, e_iload, e_iload_0, e_iload_1, e_iload_2, e_iload_3, e_lload, e_lload_0, e_lload_1, e_lload_2, e_lload_3, e_aload, e_aload_0, e_aload_1, e_aload_2, e_aload_3, e_istore, e_istore_0, e_istore_1, e_istore_2, e_istore_3, e_astore, e_astore_0, e_astore_1, e_astore_2, e_astore_3, e_lstore, e_lstore_0, e_lstore_1, e_lstore_2, e_lstore_3, e_iinc, e_iadd, e_isub, e_imul, e_ladd, e_lsub, e_lmul, e_idiv, e_irem, e_ldiv, e_lrem, e_ineg, e_lneg, e_iand, e_ior, e_ixor, e_ishl, e_ishr, e_iushr, e_lcmp, e_i2l, e_l2i, e_i2b, e_i2s, e_dup_i, e_dup_r, e_pop_i, e_pop_r, e_dup2_l, e_dup2_ir, e_dup2_ii, e_ifeq, e_ifne, e_iflt, e_ifge, e_ifgt, e_ifle, e_iceq, e_icne, e_iclt, e_icge, e_icgt, e_icle, e_goto, e_switch, e_invokevirtual, e_invokestatic, e_invokespecial, e_ret0, e_ret1, e_ret2, e_ret3, ldI_s, ldL_s, ldR_s, clO_s, ctP_s, ctS_s, mgo_0, mgo_s, pjc_s, pj_0, pj_s, lk_s, rm1_0, rm1_i, rm1_r, rm1_l, rm2_0, rm2_i, rm2_r, rm2_l, csL_s, lc_lt, lc_ge, lc_gt, lc_le, lc_eq, b01_0, b01_1, b01_01, b01_n, up2_o, up2_s, up2_u, ne_eq, reduceCtorEq, Nat.reduceAdd, Nat.reduceEqDiff, Nat.reduceLT, Nat.reduceLeDiff, Int.reduceLE, Int.reduceLT, Int.reduceAdd, Int.reduceNeg, Int.reduceMul, Int.reduceSub, Int.reduceEq, Int.reduceToNat, Int.reduceNatCast, Int.cast_ofNat_Int, ↓reduceIte, and_self, List.drop_succ_cons, List.drop_zero, List.take_succ_cons, List.take_zero, List.length_cons, List.length_nil, List.reverse_cons, List.reverse_nil, List.nil_append, List.cons_append, Option.toList, true_and, and_true, or_false, false_or, or_true, true_or, forall_const, Classical.not_not, not_false_eq_true, not_true_eq_false, false_implies, true_implies, implies_true, imp_self]
  refine ⟨h4, fun q => ⟨hP0, fun M1 hR => ?_⟩, fun q => hQ _ _ ⟨hk0, (if_neg q).symm⟩⟩
  obtain ⟨k1, k2, -⟩ := lay_use hR
  refine ⟨by omega, hQ _ _ ⟨k1, ?_⟩⟩
  rw [show A_gives (vM M) c = _ from if_pos q]
  exact (tell_out k2 (t := c.toNat) (by show ((c.toNat : Nat) : Int) < M 7 4; omega)).2.2.1
set_option maxHeartbeats 4000000 in
set_option maxRecDepth 100000 in
theorem m7_gives : MOK cl7 sh7 tyl7 [] 5 yX7_gives cX7_gives 2 (some .int) sp7_gives := by
  refine mok_of (own := RX7) (tb := tb7 (csL cs7_gives)) (rt := 1) (fuel := 400) (fun avs M Q => []) (by decide) rfl nil_nw (tbOK7 _) rfl (csL_all ?_) ?_ ?_ ?_
  · intro q hq
    simp only [cs7_gives, List.mem_cons, List.not_mem_nil, or_false] at hq
    rcases hq with rfl | rfl
    · exact cg7_isCart (by decide)
    · exact cg7_laysNow (by decide)
  · intro avs M Q hsp
    obtain ⟨xs, hx⟩ := spR_un _ _ _ hsp
    obtain ⟨e, hl⟩ := unA_mkT hx
    obtain ⟨c, rfl⟩ := len1 hl
    have e : avs = [ar 0, ai c] := e
    subst e
    simp [szL, isL]
  · intro avs M Q hM hav hsp
    obtain ⟨xs, hx⟩ := spR_un _ _ _ hsp
    obtain ⟨e, hl⟩ := unA_mkT hx
    obtain ⟨c, rfl⟩ := len1 hl
    have e : avs = [ar 0, ai c] := e
    subst e
    exact in7_gives hM (hav (ai c) (by simp)) hsp.1 hsp.2
  · intro avs M Q hM hav hsp q hq m_ vs M1 hM1 hv hJ
    obtain ⟨xs, hx⟩ := spR_un _ _ _ hsp
    obtain ⟨e, hl⟩ := unA_mkT hx
    obtain ⟨c, rfl⟩ := len1 hl
    have e : avs = [ar 0, ai c] := e
    subst e
    cases hq
def A_creak (V : Vy) (c : Int) : Int := if isC V c then creakS V (tellP V) (pT V c.toNat) c.toNat else -2
def P7_creak (c : Int) (M : Mm) : Prop := okY (vM M)
def R7_creak (c : Int) (M : Mm) (v : Int) (M1 : Mm) : Prop := keepM M M1 ∧ v = A_creak (vM M) c
def sp7_creak : Spec := spR true [0] 1 (fun x M => P7_creak (x 0) M) (fun x M v M1 => R7_creak (x 0) M v M1)
theorem c7_creak {c : Int} {M : Mm} {Q : Option AV → Mm → Prop} : sp7_creak [ar 0, ai c] M Q = (P7_creak c M ∧ ∀ (v : Int) (M1 : Mm), R7_creak c M v M1 → Q (some (ai v)) M1) := rfl
def cs7_creak : List (Nat × Nat × Nat × Spec) := [(289, 1, 2, sp7_isCart), (336, 1, 1, sp7_laysNow)]
set_option maxHeartbeats 4000000 in
set_option maxRecDepth 100000 in
theorem in7_creak {c : Int} {M : Mm} {Q : Option AV → Mm → Prop} (hM : okM sh7 M) (h_c : i32 c) (hP : P7_creak c M) (hQ : ∀ (v : Int) (M1 : Mm), R7_creak c M v M1 → Q (some (ai v)) M1) : wp (tb7 (csL cs7_creak)) sh7 2 1 cX7_creak [] Q 400 0 [(0, ar 0), (1, ai c)] [] M := by
  have h4 : 0 ≤ M 7 4 ∧ M 7 4 ≤ 7 := hP.2.2.2.2.1
  have h3 : 0 ≤ M 7 3 ∧ M 7 3 ≤ 3 := hP.2.2.2.1
  have hk0 : keepM M (up2 M 0 0 0) := keep_u0 keep_rf (by decide)
  have hV : vM (up2 M 0 0 0) = vM M := keep_v hk0 0
  have hP0 : okY (vM (up2 M 0 0 0)) := by rw [hV]; exact hP
  simp only [e_wp dX7_creak_0 rfl, e_wp dX7_creak_1 rfl, e_wp dX7_creak_2 rfl, e_wp dX7_creak_5 rfl, e_wp dX7_creak_6 rfl, e_wp dX7_creak_7 rfl, e_wp dX7_creak_8 rfl, e_wp dX7_creak_11 rfl, e_wp dX7_creak_14 rfl, e_wp dX7_creak_16 rfl, e_wp dX7_creak_17 rfl, e_wp dX7_creak_18 rfl, e_wp dX7_creak_21 rfl, e_wp dX7_creak_22 rfl, e_wp dX7_creak_25 rfl, e_wp dX7_creak_26 rfl, e_wp dX7_creak_27 rfl, p7_116, c7_isCart, P7_isCart, V7_isCart, cs7_creak, c7_laysNow, g7_89, a7_1, w7_1, a7_2, w7_2, a7_3, w7_3, a7_4, w7_4, a7_5, w7_5, a7_6, w7_6, a7_7, w7_7, a7_8, w7_8, a7_9, w7_9, a7_10, w7_10, a7_11, w7_11, a7_12, w7_12, a7_13, w7_13, a7_14, w7_14, a7_15, w7_15, a7_16, w7_16, a7_17, w7_17, a7_18, w7_18, a7_19, w7_19, a7_20, w7_20, a7_21, w7_21, a7_22, w7_22, a7_23, w7_23, a7_24, w7_24, a7_25, w7_25, a7_26, w7_26, a7_27, w7_27, a7_28, w7_28, a7_29, w7_29, a7_30, w7_30, a7_31, w7_31, a7_32, w7_32, a7_33, w7_33, e_iconst, e_bipush, e_sipush, e_lconst_0, e_lconst_1, e_iload, e_iload_0, e_iload_1, e_iload_2, e_iload_3, e_lload, e_lload_0, e_lload_1, e_lload_2, e_lload_3, e_aload, e_aload_0, e_aload_1, e_aload_2, e_aload_3, e_istore, e_istore_0, e_istore_1, e_istore_2, e_istore_3, e_astore, e_astore_0, e_astore_1, e_astore_2, e_astore_3, e_lstore, e_lstore_0, e_lstore_1, e_lstore_2, e_lstore_3, e_iinc, e_iadd, e_isub, e_imul, e_ladd, e_lsub, e_lmul, e_idiv, e_irem, e_ldiv, e_lrem, e_ineg, e_lneg, e_iand, e_ior, e_ixor, e_ishl, e_ishr, e_iushr, e_lcmp, e_i2l, e_l2i, e_i2b, e_i2s, e_dup_i, e_dup_r, e_pop_i, e_pop_r, e_dup2_l, e_dup2_ir, e_dup2_ii, e_ifeq, e_ifne, e_iflt, e_ifge, e_ifgt, e_ifle, e_iceq, e_icne, e_iclt, e_icge, e_icgt, e_icle, e_goto, e_switch, e_invokevirtual, e_invokestatic, e_invokespecial, e_ret0, e_ret1, e_ret2, e_ret3, ldI_s, ldL_s, ldR_s, clO_s, ctP_s, ctS_s, mgo_0, mgo_s, pjc_s, pj_0, pj_s, lk_s, rm1_0, rm1_i, rm1_r, rm1_l, rm2_0, rm2_i, rm2_r, rm2_l, csL_s, lc_lt, lc_ge, lc_gt, lc_le, lc_eq, b01_0, b01_1, b01_01, b01_n, up2_o, up2_s, up2_u, ne_eq, reduceCtorEq, Nat.reduceAdd, Nat.reduceEqDiff, Nat.reduceLT, Nat.reduceLeDiff, Int.reduceLE, Int.reduceLT, Int.reduceAdd, Int.reduceNeg, Int.reduceMul, Int.reduceSub, Int.reduceEq, Int.reduceToNat, Int.reduceNatCast, Int.cast_ofNat_Int, ↓reduceIte, and_self, List.drop_succ_cons, List.drop_zero, List.take_succ_cons, List.take_zero, List.length_cons, List.length_nil, List.reverse_cons, List.reverse_nil, List.nil_append, List.cons_append, Option.toList, true_and, and_true, or_false, false_or, or_true, true_or, forall_const, Classical.not_not, not_false_eq_true, not_true_eq_false, false_implies, true_implies, implies_true, imp_self]
  refine ⟨h4, fun q => ⟨hP0, fun M1 hR => ?_⟩, fun q => hQ _ _ ⟨hk0, (if_neg q).symm⟩⟩
  obtain ⟨k1, k2, -⟩ := lay_use hR
  refine ⟨by omega, hQ _ _ ⟨k1, ?_⟩⟩
  rw [show A_creak (vM M) c = _ from if_pos q]
  exact (tell_out k2 (t := c.toNat) (by show ((c.toNat : Nat) : Int) < M 7 4; omega)).2.2.2.1
set_option maxHeartbeats 4000000 in
set_option maxRecDepth 100000 in
theorem m7_creak : MOK cl7 sh7 tyl7 [] 5 yX7_creak cX7_creak 2 (some .int) sp7_creak := by
  refine mok_of (own := RX7) (tb := tb7 (csL cs7_creak)) (rt := 1) (fuel := 400) (fun avs M Q => []) (by decide) rfl nil_nw (tbOK7 _) rfl (csL_all ?_) ?_ ?_ ?_
  · intro q hq
    simp only [cs7_creak, List.mem_cons, List.not_mem_nil, or_false] at hq
    rcases hq with rfl | rfl
    · exact cg7_isCart (by decide)
    · exact cg7_laysNow (by decide)
  · intro avs M Q hsp
    obtain ⟨xs, hx⟩ := spR_un _ _ _ hsp
    obtain ⟨e, hl⟩ := unA_mkT hx
    obtain ⟨c, rfl⟩ := len1 hl
    have e : avs = [ar 0, ai c] := e
    subst e
    simp [szL, isL]
  · intro avs M Q hM hav hsp
    obtain ⟨xs, hx⟩ := spR_un _ _ _ hsp
    obtain ⟨e, hl⟩ := unA_mkT hx
    obtain ⟨c, rfl⟩ := len1 hl
    have e : avs = [ar 0, ai c] := e
    subst e
    exact in7_creak hM (hav (ai c) (by simp)) hsp.1 hsp.2
  · intro avs M Q hM hav hsp q hq m_ vs M1 hM1 hv hJ
    obtain ⟨xs, hx⟩ := spR_un _ _ _ hsp
    obtain ⟨e, hl⟩ := unA_mkT hx
    obtain ⟨c, rfl⟩ := len1 hl
    have e : avs = [ar 0, ai c] := e
    subst e
    cases hq
def A_wipes (V : Vy) (c : Int) : Int := if isC V c then wipeS (whoM (tellP V)) V (tellP V) (pT V c.toNat) c.toNat else -2
def P7_wipes (c : Int) (M : Mm) : Prop := okY (vM M)
def R7_wipes (c : Int) (M : Mm) (v : Int) (M1 : Mm) : Prop := keepM M M1 ∧ v = A_wipes (vM M) c
def sp7_wipes : Spec := spR true [0] 1 (fun x M => P7_wipes (x 0) M) (fun x M v M1 => R7_wipes (x 0) M v M1)
theorem c7_wipes {c : Int} {M : Mm} {Q : Option AV → Mm → Prop} : sp7_wipes [ar 0, ai c] M Q = (P7_wipes c M ∧ ∀ (v : Int) (M1 : Mm), R7_wipes c M v M1 → Q (some (ai v)) M1) := rfl
def cs7_wipes : List (Nat × Nat × Nat × Spec) := [(289, 1, 2, sp7_isCart), (336, 1, 1, sp7_laysNow)]
set_option maxHeartbeats 4000000 in
set_option maxRecDepth 100000 in
theorem in7_wipes {c : Int} {M : Mm} {Q : Option AV → Mm → Prop} (hM : okM sh7 M) (h_c : i32 c) (hP : P7_wipes c M) (hQ : ∀ (v : Int) (M1 : Mm), R7_wipes c M v M1 → Q (some (ai v)) M1) : wp (tb7 (csL cs7_wipes)) sh7 2 1 cX7_wipes [] Q 400 0 [(0, ar 0), (1, ai c)] [] M := by
  have h4 : 0 ≤ M 7 4 ∧ M 7 4 ≤ 7 := hP.2.2.2.2.1
  have h3 : 0 ≤ M 7 3 ∧ M 7 3 ≤ 3 := hP.2.2.2.1
  have hk0 : keepM M (up2 M 0 0 0) := keep_u0 keep_rf (by decide)
  have hV : vM (up2 M 0 0 0) = vM M := keep_v hk0 0
  have hP0 : okY (vM (up2 M 0 0 0)) := by rw [hV]; exact hP
  simp only [e_wp dX7_wipes_0 rfl, e_wp dX7_wipes_1 rfl, e_wp dX7_wipes_2 rfl, e_wp dX7_wipes_5 rfl, e_wp dX7_wipes_6 rfl, e_wp dX7_wipes_7 rfl, e_wp dX7_wipes_8 rfl, e_wp dX7_wipes_11 rfl, e_wp dX7_wipes_14 rfl, e_wp dX7_wipes_16 rfl, e_wp dX7_wipes_17 rfl, e_wp dX7_wipes_18 rfl, e_wp dX7_wipes_21 rfl, e_wp dX7_wipes_22 rfl, e_wp dX7_wipes_25 rfl, e_wp dX7_wipes_26 rfl, e_wp dX7_wipes_27 rfl, p7_116, c7_isCart, P7_isCart, V7_isCart, cs7_wipes, c7_laysNow, g7_92, a7_1, w7_1, a7_2, w7_2, a7_3, w7_3, a7_4, w7_4, a7_5, w7_5, a7_6, w7_6, a7_7, w7_7, a7_8, w7_8, a7_9, w7_9, a7_10, w7_10, a7_11, w7_11, a7_12, w7_12, a7_13, w7_13, a7_14, w7_14, a7_15, w7_15, a7_16, w7_16, a7_17, w7_17, a7_18, w7_18, a7_19, w7_19, a7_20, w7_20, a7_21, w7_21, a7_22, w7_22, a7_23, w7_23, a7_24, w7_24, a7_25, w7_25, a7_26, w7_26, a7_27, w7_27, a7_28, w7_28, a7_29, w7_29, a7_30, w7_30, a7_31, w7_31, a7_32, w7_32, a7_33, w7_33, e_iconst, e_bipush, e_sipush, e_lconst_0, e_lconst_1, e_iload, e_iload_0, e_iload_1, e_iload_2, e_iload_3, e_lload, e_lload_0, e_lload_1, e_lload_2, e_lload_3, e_aload, e_aload_0, e_aload_1, e_aload_2, e_aload_3, e_istore, e_istore_0, e_istore_1, e_istore_2, e_istore_3, e_astore, e_astore_0, e_astore_1, e_astore_2, e_astore_3, e_lstore, e_lstore_0, e_lstore_1, e_lstore_2, e_lstore_3, e_iinc, e_iadd, e_isub, e_imul, e_ladd, e_lsub, e_lmul, e_idiv, e_irem, e_ldiv, e_lrem, e_ineg, e_lneg, e_iand, e_ior, e_ixor, e_ishl, e_ishr, e_iushr, e_lcmp, e_i2l, e_l2i, e_i2b, e_i2s, e_dup_i, e_dup_r, e_pop_i, e_pop_r, e_dup2_l, e_dup2_ir, e_dup2_ii, e_ifeq, e_ifne, e_iflt, e_ifge, e_ifgt, e_ifle, e_iceq, e_icne, e_iclt, e_icge, e_icgt, e_icle, e_goto, e_switch, e_invokevirtual, e_invokestatic, e_invokespecial, e_ret0, e_ret1, e_ret2, e_ret3, ldI_s, ldL_s, ldR_s, clO_s, ctP_s, ctS_s, mgo_0, mgo_s, pjc_s, pj_0, pj_s, lk_s, rm1_0, rm1_i, rm1_r, rm1_l, rm2_0, rm2_i, rm2_r, rm2_l, csL_s, lc_lt, lc_ge, lc_gt, lc_le, lc_eq, b01_0, b01_1, b01_01, b01_n, up2_o, up2_s, up2_u, ne_eq, reduceCtorEq, Nat.reduceAdd, Nat.reduceEqDiff, Nat.reduceLT, Nat.reduceLeDiff, Int.reduceLE, Int.reduceLT, Int.reduceAdd, Int.reduceNeg, Int.reduceMul, Int.reduceSub, Int.reduceEq, Int.reduceToNat, Int.reduceNatCast, Int.cast_ofNat_Int, ↓reduceIte, and_self, List.drop_succ_cons, List.drop_zero, List.take_succ_cons, List.take_zero, List.length_cons, List.length_nil, List.reverse_cons, List.reverse_nil, List.nil_append, List.cons_append, Option.toList, true_and, and_true, or_false, false_or, or_true, true_or, forall_const, Classical.not_not, not_false_eq_true, not_true_eq_false, false_implies, true_implies, implies_true, imp_self]
  refine ⟨h4, fun q => ⟨hP0, fun M1 hR => ?_⟩, fun q => hQ _ _ ⟨hk0, (if_neg q).symm⟩⟩
  obtain ⟨k1, k2, -⟩ := lay_use hR
  refine ⟨by omega, hQ _ _ ⟨k1, ?_⟩⟩
  rw [show A_wipes (vM M) c = _ from if_pos q]
  exact (tell_out k2 (t := c.toNat) (by show ((c.toNat : Nat) : Int) < M 7 4; omega)).2.2.2.2
set_option maxHeartbeats 4000000 in
set_option maxRecDepth 100000 in
theorem m7_wipes : MOK cl7 sh7 tyl7 [] 5 yX7_wipes cX7_wipes 2 (some .int) sp7_wipes := by
  refine mok_of (own := RX7) (tb := tb7 (csL cs7_wipes)) (rt := 1) (fuel := 400) (fun avs M Q => []) (by decide) rfl nil_nw (tbOK7 _) rfl (csL_all ?_) ?_ ?_ ?_
  · intro q hq
    simp only [cs7_wipes, List.mem_cons, List.not_mem_nil, or_false] at hq
    rcases hq with rfl | rfl
    · exact cg7_isCart (by decide)
    · exact cg7_laysNow (by decide)
  · intro avs M Q hsp
    obtain ⟨xs, hx⟩ := spR_un _ _ _ hsp
    obtain ⟨e, hl⟩ := unA_mkT hx
    obtain ⟨c, rfl⟩ := len1 hl
    have e : avs = [ar 0, ai c] := e
    subst e
    simp [szL, isL]
  · intro avs M Q hM hav hsp
    obtain ⟨xs, hx⟩ := spR_un _ _ _ hsp
    obtain ⟨e, hl⟩ := unA_mkT hx
    obtain ⟨c, rfl⟩ := len1 hl
    have e : avs = [ar 0, ai c] := e
    subst e
    exact in7_wipes hM (hav (ai c) (by simp)) hsp.1 hsp.2
  · intro avs M Q hM hav hsp q hq m_ vs M1 hM1 hv hJ
    obtain ⟨xs, hx⟩ := spR_un _ _ _ hsp
    obtain ⟨e, hl⟩ := unA_mkT hx
    obtain ⟨c, rfl⟩ := len1 hl
    have e : avs = [ar 0, ai c] := e
    subst e
    cases hq
def A_pays (V : Vy) (c : Int) : Int := if isC V c then paysV V c.toNat else -2
theorem frzA_ok {V : Vy} {C : Cf} {S : Sm} {t : Nat} {b : Nat} (h : okY V) (h1 : okL (S.1 b)) : okL ((frzA V C S t).1 b) ∧ ((frzA V C S t).1 b).length ≤ (S.1 b).length := by
  unfold frzA
  split
  · exact ⟨okL_frz h1 h.2.1.1, frz_len _ _⟩
  · exact ⟨h1, Nat.le_refl _⟩
theorem run_ok {V : Vy} {C : Cf} {w : Nat → Int} (h : okY V) (hC : okCf V C) : ∀ t : Nat, (t : Int) ≤ V 0 4 → ∀ b, okL ((runP w V C t).1 b) ∧ ((runP w V C t).1 b).length ≤ t := by
  intro t
  induction t with
  | zero => intro _ b; exact ⟨okL_0, Nat.le_refl _⟩
  | succ t ih =>
    intro ht b
    have h1 := ih (by omega)
    have h2 := fun b => frzA_ok (C := C) (t := t) h (h1 b).1
    have hr := (hC.2 t (by omega)).2.2
    have hl := (hC.2 (C 3 t).toNat (by omega)).1
    show okL ((stepP w V C (runP w V C t) t).1 b) ∧ ((stepP w V C (runP w V C t) t).1 b).length ≤ t + 1
    unfold stepP
    split
    · show okL (if b = (toP V C (C 3 t).toNat).toNat then (crP w V C (frzA V C (runP w V C t) t) t).1 else (frzA V C (runP w V C t) t).1 b) ∧ (if b = (toP V C (C 3 t).toNat).toNat then (crP w V C (frzA V C (runP w V C t) t) t).1 else (frzA V C (runP w V C t) t).1 b).length ≤ t + 1
      split
      · have x1 := h2 (toP V C (C 3 t).toNat).toNat
        have x2 := h1 (toP V C (C 3 t).toNat).toNat
        unfold crP
        refine ⟨okL_cross x1.1 hl, ?_⟩
        have x3 := @cross_len (C 0 0) (C 1 (C 3 t).toNat) (w t) ((frzA V C (runP w V C t) t).1 (toP V C (C 3 t).toNat).toNat)
        omega
      · have x1 := h2 b
        have x2 := h1 b
        exact ⟨x1.1, by omega⟩
    · have x1 := h2 b
      have x2 := h1 b
      exact ⟨x1.1, by omega⟩
theorem pre_ok {V : Vy} {C : Cf} {w : Nat → Int} (h : okY V) (hC : okCf V C) {t : Nat} (ht : (t : Int) < V 0 4) (b : Nat) : okL ((preP w V C t).1 b) ∧ ((preP w V C t).1 b).length ≤ t := by
  have h1 := run_ok (w := w) h hC t (by omega) b
  have h2 := frzA_ok (C := C) (t := t) h h1.1
  exact ⟨h2.1, Nat.le_trans h2.2 h1.2⟩
theorem give_rg {V : Vy} {C : Cf} {w : Nat → Int} (h : okY V) (hC : okCf V C) {t : Nat} (ht : (t : Int) < V 0 4) : -100000 ≤ giveS w V C (preP w V C t) t ∧ giveS w V C (preP w V C t) t ≤ 100000 := by
  have hn := okY_n h
  have hr := (hC.2 t ht).2.2
  have hl := (hC.2 (C 3 t).toNat (by omega)).1
  unfold giveS
  split
  · have x1 := pre_ok (w := w) h hC ht (toP V C (C 3 t).toNat).toNat
    have x2 := sagP_b x1.1
    have x3 : okL (crP w V C (preP w V C t) t).1 := okL_cross x1.1 hl
    have x4 := sagP_b x3
    have x5 := @cross_len (C 0 0) (C 1 (C 3 t).toNat) (w t) ((preP w V C t).1 (toP V C (C 3 t).toNat).toNat)
    have x6 : (crP w V C (preP w V C t) t).1.length ≤ ((preP w V C t).1 (toP V C (C 3 t).toNat).toNat).length + 1 := x5
    omega
  · omega
theorem went_rg {V : Vy} {C : Cf} {S : Sm} (h : okY V) (hC : okCf V C) {t : Nat} (ht : (t : Int) < V 0 4) : -1 ≤ wentS V C S t ∧ wentS V C S t < V 0 3 := by
  have hn := okY_n h
  have hr := (hC.2 t ht).2.2
  unfold wentS
  split
  · exact toP_rg h hC (by omega)
  · omega
/-- what paysOf asks, behind a run -/
theorem pays_use {M M1 : Mm} (hP : okY (vM M)) (k2 : laidR (vM M) (tellP (vM M)) M1) (e8 : M1 8 = M 8) {t : Nat} (ht : (t : Int) < M 7 4) : P7_paysOf t M1 ∧ V7_paysOf t M1 = paysV (vM M) t ∧ 0 ≤ paysV (vM M) t ∧ paysV (vM M) t ≤ 900000 := by
  have hC := okCf_tell hP
  have h4 : 0 ≤ M 7 4 ∧ M 7 4 ≤ 7 := hP.2.2.2.2.1
  have h3 : 0 ≤ M 7 3 ∧ M 7 3 ≤ 3 := hP.2.2.2.1
  have o := tell_out k2 ht
  have g1 := went_rg (S := pT (vM M) t) hP hC ht
  have g1' : wentS (vM M) (tellP (vM M)) (pT (vM M) t) t < M 7 3 := g1.2
  have g2 : -100000 ≤ giveS (whoM (tellP (vM M))) (vM M) (tellP (vM M)) (pT (vM M) t) t ∧ giveS (whoM (tellP (vM M))) (vM M) (tellP (vM M)) (pT (vM M) t) t ≤ 100000 := give_rg (w := whoM (tellP (vM M))) hP hC ht
  have g3 : ∀ b : Nat, (b : Int) < M 7 3 → 0 ≤ M 8 (2 * b + 1) ∧ M 8 (2 * b + 1) ≤ 9 := by
    intro b hb
    have := (okY_b hP b hb).2
    rwa [(vM_b M hb).2] at this
  have e : V7_paysOf t M1 = paysV (vM M) t := by
    unfold V7_paysOf paysV
    rw [Int.toNat_natCast, o.1, o.2.2.1, e8]
    split
    · rfl
    · rename_i z
      rw [(vM_b M (b := (wentS (vM M) (tellP (vM M)) (pT (vM M) t) t).toNat) (by omega)).2]
  refine ⟨⟨by omega, ?_, ?_, ?_⟩, e, ?_⟩
  · rw [Int.toNat_natCast, o.1]; omega
  · rw [Int.toNat_natCast, o.2.2.1]; exact g2
  · intro b hb hb2
    rw [Int.toNat_natCast, o.1] at hb2
    rw [e8]
    exact g3 b (by omega)
  · unfold paysV
    split
    · omega
    · rename_i z
      have y1 := g3 (wentS (vM M) (tellP (vM M)) (pT (vM M) t) t).toNat (by omega)
      rw [← (vM_b M (b := (wentS (vM M) (tellP (vM M)) (pT (vM M) t) t).toNat) (by omega)).2] at y1
      have b1 := Int.mul_nonneg y1.1 (show 0 ≤ giveS (whoM (tellP (vM M))) (vM M) (tellP (vM M)) (pT (vM M) t) t by omega)
      have b2 := Int.mul_le_mul y1.2 g2.2 (show 0 ≤ giveS (whoM (tellP (vM M))) (vM M) (tellP (vM M)) (pT (vM M) t) t by omega) (by omega)
      omega
def P7_pays (c : Int) (M : Mm) : Prop := okY (vM M)
def R7_pays (c : Int) (M : Mm) (v : Int) (M1 : Mm) : Prop := keepM M M1 ∧ v = A_pays (vM M) c
def sp7_pays : Spec := spR true [0] 1 (fun x M => P7_pays (x 0) M) (fun x M v M1 => R7_pays (x 0) M v M1)
theorem c7_pays {c : Int} {M : Mm} {Q : Option AV → Mm → Prop} : sp7_pays [ar 0, ai c] M Q = (P7_pays c M ∧ ∀ (v : Int) (M1 : Mm), R7_pays c M v M1 → Q (some (ai v)) M1) := rfl
def cs7_pays : List (Nat × Nat × Nat × Spec) := [(289, 1, 2, sp7_isCart), (336, 1, 1, sp7_laysNow), (356, 1, 2, sp7_paysOf)]
set_option maxHeartbeats 4000000 in
set_option maxRecDepth 100000 in
theorem in7_pays {c : Int} {M : Mm} {Q : Option AV → Mm → Prop} (hM : okM sh7 M) (h_c : i32 c) (hP : P7_pays c M) (hQ : ∀ (v : Int) (M1 : Mm), R7_pays c M v M1 → Q (some (ai v)) M1) : wp (tb7 (csL cs7_pays)) sh7 2 1 cX7_pays [] Q 400 0 [(0, ar 0), (1, ai c)] [] M := by
  have h4 : 0 ≤ M 7 4 ∧ M 7 4 ≤ 7 := hP.2.2.2.2.1
  have h3 : 0 ≤ M 7 3 ∧ M 7 3 ≤ 3 := hP.2.2.2.1
  have hk0 : keepM M (up2 M 0 0 0) := keep_u0 keep_rf (by decide)
  have hV : vM (up2 M 0 0 0) = vM M := keep_v hk0 0
  have hP0 : okY (vM (up2 M 0 0 0)) := by rw [hV]; exact hP
  simp only [e_wp dX7_pays_0 rfl, e_wp dX7_pays_1 rfl, e_wp dX7_pays_2 rfl, e_wp dX7_pays_5 rfl, e_wp dX7_pays_6 rfl, e_wp dX7_pays_7 rfl, e_wp dX7_pays_8 rfl, e_wp dX7_pays_11 rfl, e_wp dX7_pays_14 rfl, e_wp dX7_pays_16 rfl, e_wp dX7_pays_17 rfl, e_wp dX7_pays_18 rfl, e_wp dX7_pays_21 rfl, e_wp dX7_pays_22 rfl, e_wp dX7_pays_23 rfl, e_wp dX7_pays_26 rfl, p7_116, c7_isCart, P7_isCart, V7_isCart, cs7_pays, c7_laysNow, c7_paysOf, P7_paysOf, V7_paysOf, e_iconst, e_bipush, e_sipush, e_lconst_0, e_lconst_1, e_iload, e_iload_0, e_iload_1, e_iload_2, e_iload_3, e_lload, e_lload_0, e_lload_1, e_lload_2, e_lload_3, e_aload, e_aload_0, e_aload_1, e_aload_2, e_aload_3, e_istore, e_istore_0, e_istore_1, e_istore_2, e_istore_3, e_astore, e_astore_0, e_astore_1, e_astore_2, e_astore_3, e_lstore, e_lstore_0, e_lstore_1, e_lstore_2, e_lstore_3, e_iinc, e_iadd, e_isub, e_imul, e_ladd, e_lsub, e_lmul, e_idiv, e_irem, e_ldiv, e_lrem, e_ineg, e_lneg, e_iand, e_ior, e_ixor, e_ishl, e_ishr, e_iushr, e_lcmp, e_i2l, e_l2i, e_i2b, e_i2s, e_dup_i, e_dup_r, e_pop_i, e_pop_r, e_dup2_l, e_dup2_ir, e_dup2_ii, e_ifeq, e_ifne, e_iflt, e_ifge, e_ifgt, e_ifle, e_iceq, e_icne, e_iclt, e_icge, e_icgt, e_icle, e_goto, e_switch, e_invokevirtual, e_invokestatic, e_invokespecial, e_ret0, e_ret1, e_ret2, e_ret3, ldI_s, ldL_s, ldR_s, clO_s, ctP_s, ctS_s, mgo_0, mgo_s, pjc_s, pj_0, pj_s, lk_s, rm1_0, rm1_i, rm1_r, rm1_l, rm2_0, rm2_i, rm2_r, rm2_l, csL_s, lc_lt, lc_ge, lc_gt, lc_le, lc_eq, b01_0, b01_1, b01_01, b01_n, up2_o, up2_s, up2_u, ne_eq, reduceCtorEq, Nat.reduceAdd, Nat.reduceEqDiff, Nat.reduceLT, Nat.reduceLeDiff, Int.reduceLE, Int.reduceLT, Int.reduceAdd, Int.reduceNeg, Int.reduceMul, Int.reduceSub, Int.reduceEq, Int.reduceToNat, Int.reduceNatCast, Int.cast_ofNat_Int, ↓reduceIte, and_self, List.drop_succ_cons, List.drop_zero, List.take_succ_cons, List.take_zero, List.length_cons, List.length_nil, List.reverse_cons, List.reverse_nil, List.nil_append, List.cons_append, Option.toList, true_and, and_true, or_false, false_or, or_true, true_or, forall_const, Classical.not_not, not_false_eq_true, not_true_eq_false, false_implies, true_implies, implies_true, imp_self]
  refine ⟨h4, fun q => ⟨hP0, fun M1 hR => ?_⟩, fun q => hQ _ _ ⟨hk0, (if_neg q).symm⟩⟩
  obtain ⟨k1, k2, k3, k4, -⟩ := lay_use hR
  obtain ⟨n, rfl⟩ := Int.eq_ofNat_of_zero_le q.1
  obtain ⟨p1, p2, -⟩ := pays_use hP k2 k4 q.2
  refine ⟨p1, hQ _ _ ⟨k1, ?_⟩⟩
  rw [show A_pays (vM M) n = _ from if_pos q, Int.toNat_natCast, ← p2]
  unfold V7_paysOf
  rw [Int.toNat_natCast]
set_option maxHeartbeats 4000000 in
set_option maxRecDepth 100000 in
theorem m7_pays : MOK cl7 sh7 tyl7 [] 5 yX7_pays cX7_pays 2 (some .int) sp7_pays := by
  refine mok_of (own := RX7) (tb := tb7 (csL cs7_pays)) (rt := 1) (fuel := 400) (fun avs M Q => []) (by decide) rfl nil_nw (tbOK7 _) rfl (csL_all ?_) ?_ ?_ ?_
  · intro q hq
    simp only [cs7_pays, List.mem_cons, List.not_mem_nil, or_false] at hq
    rcases hq with rfl | rfl | rfl
    · exact cg7_isCart (by decide)
    · exact cg7_laysNow (by decide)
    · exact cg7_paysOf (by decide)
  · intro avs M Q hsp
    obtain ⟨xs, hx⟩ := spR_un _ _ _ hsp
    obtain ⟨e, hl⟩ := unA_mkT hx
    obtain ⟨c, rfl⟩ := len1 hl
    have e : avs = [ar 0, ai c] := e
    subst e
    simp [szL, isL]
  · intro avs M Q hM hav hsp
    obtain ⟨xs, hx⟩ := spR_un _ _ _ hsp
    obtain ⟨e, hl⟩ := unA_mkT hx
    obtain ⟨c, rfl⟩ := len1 hl
    have e : avs = [ar 0, ai c] := e
    subst e
    exact in7_pays hM (hav (ai c) (by simp)) hsp.1 hsp.2
  · intro avs M Q hM hav hsp q hq m_ vs M1 hM1 hv hJ
    obtain ⟨xs, hx⟩ := spR_un _ _ _ hsp
    obtain ⟨e, hl⟩ := unA_mkT hx
    obtain ⟨c, rfl⟩ := len1 hl
    have e : avs = [ar 0, ai c] := e
    subst e
    cases hq
def A_breaks (V : Vy) (b : Int) : Int := if isB V b then (rT V (V 0 4).toNat).2.1 b.toNat else -2
def P7_breaks (b : Int) (M : Mm) : Prop := okY (vM M)
def R7_breaks (b : Int) (M : Mm) (v : Int) (M1 : Mm) : Prop := keepM M M1 ∧ v = A_breaks (vM M) b
def sp7_breaks : Spec := spR true [0] 1 (fun x M => P7_breaks (x 0) M) (fun x M v M1 => R7_breaks (x 0) M v M1)
theorem c7_breaks {b : Int} {M : Mm} {Q : Option AV → Mm → Prop} : sp7_breaks [ar 0, ai b] M Q = (P7_breaks b M ∧ ∀ (v : Int) (M1 : Mm), R7_breaks b M v M1 → Q (some (ai v)) M1) := rfl
def cs7_breaks : List (Nat × Nat × Nat × Spec) := [(292, 1, 2, sp7_isBridge), (336, 1, 1, sp7_laysNow)]
set_option maxHeartbeats 4000000 in
set_option maxRecDepth 100000 in
theorem in7_breaks {b : Int} {M : Mm} {Q : Option AV → Mm → Prop} (hM : okM sh7 M) (h_b : i32 b) (hP : P7_breaks b M) (hQ : ∀ (v : Int) (M1 : Mm), R7_breaks b M v M1 → Q (some (ai v)) M1) : wp (tb7 (csL cs7_breaks)) sh7 2 1 cX7_breaks [] Q 400 0 [(0, ar 0), (1, ai b)] [] M := by
  have h4 : 0 ≤ M 7 4 ∧ M 7 4 ≤ 7 := hP.2.2.2.2.1
  have h3 : 0 ≤ M 7 3 ∧ M 7 3 ≤ 3 := hP.2.2.2.1
  have hk0 : keepM M (up2 M 0 0 0) := keep_u0 keep_rf (by decide)
  have hV : vM (up2 M 0 0 0) = vM M := keep_v hk0 0
  have hP0 : okY (vM (up2 M 0 0 0)) := by rw [hV]; exact hP
  simp only [e_wp dX7_breaks_0 rfl, e_wp dX7_breaks_1 rfl, e_wp dX7_breaks_2 rfl, e_wp dX7_breaks_5 rfl, e_wp dX7_breaks_6 rfl, e_wp dX7_breaks_7 rfl, e_wp dX7_breaks_8 rfl, e_wp dX7_breaks_11 rfl, e_wp dX7_breaks_14 rfl, e_wp dX7_breaks_16 rfl, e_wp dX7_breaks_17 rfl, e_wp dX7_breaks_18 rfl, e_wp dX7_breaks_21 rfl, e_wp dX7_breaks_22 rfl, e_wp dX7_breaks_25 rfl, e_wp dX7_breaks_26 rfl, e_wp dX7_breaks_27 rfl, p7_116, c7_isBridge, P7_isBridge, V7_isBridge, cs7_breaks, c7_laysNow, g7_74, a7_1, w7_1, a7_2, w7_2, a7_3, w7_3, a7_4, w7_4, a7_5, w7_5, a7_6, w7_6, a7_7, w7_7, a7_8, w7_8, a7_9, w7_9, a7_10, w7_10, a7_11, w7_11, a7_12, w7_12, a7_13, w7_13, a7_14, w7_14, a7_15, w7_15, a7_16, w7_16, a7_17, w7_17, a7_18, w7_18, a7_19, w7_19, a7_20, w7_20, a7_21, w7_21, a7_22, w7_22, a7_23, w7_23, a7_24, w7_24, a7_25, w7_25, a7_26, w7_26, a7_27, w7_27, a7_28, w7_28, a7_29, w7_29, a7_30, w7_30, a7_31, w7_31, a7_32, w7_32, a7_33, w7_33, e_iconst, e_bipush, e_sipush, e_lconst_0, e_lconst_1, e_iload, e_iload_0, e_iload_1, e_iload_2, e_iload_3, e_lload, e_lload_0, e_lload_1, e_lload_2, e_lload_3, e_aload, e_aload_0, e_aload_1, e_aload_2, e_aload_3, e_istore, e_istore_0, e_istore_1, e_istore_2, e_istore_3, e_astore, e_astore_0, e_astore_1, e_astore_2, e_astore_3, e_lstore, e_lstore_0, e_lstore_1, e_lstore_2, e_lstore_3, e_iinc, e_iadd, e_isub, e_imul, e_ladd, e_lsub, e_lmul, e_idiv, e_irem, e_ldiv, e_lrem, e_ineg, e_lneg, e_iand, e_ior, e_ixor, e_ishl, e_ishr, e_iushr, e_lcmp, e_i2l, e_l2i, e_i2b, e_i2s, e_dup_i, e_dup_r, e_pop_i, e_pop_r, e_dup2_l, e_dup2_ir, e_dup2_ii, e_ifeq, e_ifne, e_iflt, e_ifge, e_ifgt, e_ifle, e_iceq, e_icne, e_iclt, e_icge, e_icgt, e_icle, e_goto, e_switch, e_invokevirtual, e_invokestatic, e_invokespecial, e_ret0, e_ret1, e_ret2, e_ret3, ldI_s, ldL_s, ldR_s, clO_s, ctP_s, ctS_s, mgo_0, mgo_s, pjc_s, pj_0, pj_s, lk_s, rm1_0, rm1_i, rm1_r, rm1_l, rm2_0, rm2_i, rm2_r, rm2_l, csL_s, lc_lt, lc_ge, lc_gt, lc_le, lc_eq, b01_0, b01_1, b01_01, b01_n, up2_o, up2_s, up2_u, ne_eq, reduceCtorEq, Nat.reduceAdd, Nat.reduceEqDiff, Nat.reduceLT, Nat.reduceLeDiff, Int.reduceLE, Int.reduceLT, Int.reduceAdd, Int.reduceNeg, Int.reduceMul, Int.reduceSub, Int.reduceEq, Int.reduceToNat, Int.reduceNatCast, Int.cast_ofNat_Int, ↓reduceIte, and_self, List.drop_succ_cons, List.drop_zero, List.take_succ_cons, List.take_zero, List.length_cons, List.length_nil, List.reverse_cons, List.reverse_nil, List.nil_append, List.cons_append, Option.toList, true_and, and_true, or_false, false_or, or_true, true_or, forall_const, Classical.not_not, not_false_eq_true, not_true_eq_false, false_implies, true_implies, implies_true, imp_self]
  refine ⟨h3, fun q => ⟨hP0, fun M1 hR => ?_⟩, fun q => hQ _ _ ⟨hk0, (if_neg q).symm⟩⟩
  obtain ⟨k1, k2, k3, k4, -⟩ := lay_use hR
  refine ⟨by omega, hQ _ _ ⟨k1, ?_⟩⟩
  rw [show A_breaks (vM M) b = _ from if_pos q]
  exact (st_out k2 (b := b.toNat) (by show ((b.toNat : Nat) : Int) < M 7 3; omega)).2.1
set_option maxHeartbeats 4000000 in
set_option maxRecDepth 100000 in
theorem m7_breaks : MOK cl7 sh7 tyl7 [] 5 yX7_breaks cX7_breaks 2 (some .int) sp7_breaks := by
  refine mok_of (own := RX7) (tb := tb7 (csL cs7_breaks)) (rt := 1) (fuel := 400) (fun avs M Q => []) (by decide) rfl nil_nw (tbOK7 _) rfl (csL_all ?_) ?_ ?_ ?_
  · intro q hq
    simp only [cs7_breaks, List.mem_cons, List.not_mem_nil, or_false] at hq
    rcases hq with rfl | rfl
    · exact cg7_isBridge (by decide)
    · exact cg7_laysNow (by decide)
  · intro avs M Q hsp
    obtain ⟨xs, hx⟩ := spR_un _ _ _ hsp
    obtain ⟨e, hl⟩ := unA_mkT hx
    obtain ⟨b, rfl⟩ := len1 hl
    have e : avs = [ar 0, ai b] := e
    subst e
    simp [szL, isL]
  · intro avs M Q hM hav hsp
    obtain ⟨xs, hx⟩ := spR_un _ _ _ hsp
    obtain ⟨e, hl⟩ := unA_mkT hx
    obtain ⟨b, rfl⟩ := len1 hl
    have e : avs = [ar 0, ai b] := e
    subst e
    exact in7_breaks hM (hav (ai b) (by simp)) hsp.1 hsp.2
  · intro avs M Q hM hav hsp q hq m_ vs M1 hM1 hv hJ
    obtain ⟨xs, hx⟩ := spR_un _ _ _ hsp
    obtain ⟨e, hl⟩ := unA_mkT hx
    obtain ⟨b, rfl⟩ := len1 hl
    have e : avs = [ar 0, ai b] := e
    subst e
    cases hq
def A_spare (V : Vy) (b : Int) : Int := if isB V b then V 1 b.toNat - sagP ((rT V (V 0 4).toNat).1 b.toNat) else -1000
def P7_spare (b : Int) (M : Mm) : Prop := okY (vM M)
def R7_spare (b : Int) (M : Mm) (v : Int) (M1 : Mm) : Prop := keepM M M1 ∧ v = A_spare (vM M) b
def sp7_spare : Spec := spR true [0] 1 (fun x M => P7_spare (x 0) M) (fun x M v M1 => R7_spare (x 0) M v M1)
theorem c7_spare {b : Int} {M : Mm} {Q : Option AV → Mm → Prop} : sp7_spare [ar 0, ai b] M Q = (P7_spare b M ∧ ∀ (v : Int) (M1 : Mm), R7_spare b M v M1 → Q (some (ai v)) M1) := rfl
def cs7_spare : List (Nat × Nat × Nat × Spec) := [(292, 1, 2, sp7_isBridge), (336, 1, 1, sp7_laysNow), (317, 1, 2, sp7_sagOf)]
set_option maxHeartbeats 4000000 in
set_option maxRecDepth 100000 in
theorem in7_spare {b : Int} {M : Mm} {Q : Option AV → Mm → Prop} (hM : okM sh7 M) (h_b : i32 b) (hP : P7_spare b M) (hQ : ∀ (v : Int) (M1 : Mm), R7_spare b M v M1 → Q (some (ai v)) M1) : wp (tb7 (csL cs7_spare)) sh7 2 1 cX7_spare [] Q 400 0 [(0, ar 0), (1, ai b)] [] M := by
  have h4 : 0 ≤ M 7 4 ∧ M 7 4 ≤ 7 := hP.2.2.2.2.1
  have h3 : 0 ≤ M 7 3 ∧ M 7 3 ≤ 3 := hP.2.2.2.1
  have hk0 : keepM M (up2 M 0 0 0) := keep_u0 keep_rf (by decide)
  have hV : vM (up2 M 0 0 0) = vM M := keep_v hk0 0
  have hP0 : okY (vM (up2 M 0 0 0)) := by rw [hV]; exact hP
  simp only [e_wp dX7_spare_0 rfl, e_wp dX7_spare_1 rfl, e_wp dX7_spare_2 rfl, e_wp dX7_spare_5 rfl, e_wp dX7_spare_6 rfl, e_wp dX7_spare_7 rfl, e_wp dX7_spare_8 rfl, e_wp dX7_spare_11 rfl, e_wp dX7_spare_14 rfl, e_wp dX7_spare_17 rfl, e_wp dX7_spare_18 rfl, e_wp dX7_spare_19 rfl, e_wp dX7_spare_22 rfl, e_wp dX7_spare_23 rfl, e_wp dX7_spare_26 rfl, e_wp dX7_spare_27 rfl, e_wp dX7_spare_28 rfl, e_wp dX7_spare_29 rfl, e_wp dX7_spare_30 rfl, e_wp dX7_spare_31 rfl, e_wp dX7_spare_32 rfl, e_wp dX7_spare_35 rfl, e_wp dX7_spare_36 rfl, p7_116, c7_isBridge, P7_isBridge, V7_isBridge, cs7_spare, c7_laysNow, g7_37, c7_sagOf, P7_sagOf, V7_sagOf, a7_1, w7_1, a7_2, w7_2, a7_3, w7_3, a7_4, w7_4, a7_5, w7_5, a7_6, w7_6, a7_7, w7_7, a7_8, w7_8, a7_9, w7_9, a7_10, w7_10, a7_11, w7_11, a7_12, w7_12, a7_13, w7_13, a7_14, w7_14, a7_15, w7_15, a7_16, w7_16, a7_17, w7_17, a7_18, w7_18, a7_19, w7_19, a7_20, w7_20, a7_21, w7_21, a7_22, w7_22, a7_23, w7_23, a7_24, w7_24, a7_25, w7_25, a7_26, w7_26, a7_27, w7_27, a7_28, w7_28, a7_29, w7_29, a7_30, w7_30, a7_31, w7_31, a7_32, w7_32, a7_33, w7_33, e_iconst, e_bipush, e_sipush, e_lconst_0, e_lconst_1, e_iload, e_iload_0, e_iload_1, e_iload_2, e_iload_3, e_lload, e_lload_0, e_lload_1, e_lload_2, e_lload_3, e_aload, e_aload_0, e_aload_1, e_aload_2, e_aload_3, e_istore, e_istore_0, e_istore_1, e_istore_2, e_istore_3, e_astore, e_astore_0, e_astore_1, e_astore_2, e_astore_3, e_lstore, e_lstore_0, e_lstore_1, e_lstore_2, e_lstore_3, e_iinc, e_iadd, e_isub, e_imul, e_ladd, e_lsub, e_lmul, e_idiv, e_irem, e_ldiv, e_lrem, e_ineg, e_lneg, e_iand, e_ior, e_ixor, e_ishl, e_ishr, e_iushr, e_lcmp, e_i2l, e_l2i, e_i2b, e_i2s, e_dup_i, e_dup_r, e_pop_i, e_pop_r, e_dup2_l, e_dup2_ir, e_dup2_ii, e_ifeq, e_ifne, e_iflt, e_ifge, e_ifgt, e_ifle, e_iceq, e_icne, e_iclt, e_icge, e_icgt, e_icle, e_goto, e_switch, e_invokevirtual, e_invokestatic, e_invokespecial, e_ret0, e_ret1, e_ret2, e_ret3, ldI_s, ldL_s, ldR_s, clO_s, ctP_s, ctS_s, mgo_0, mgo_s, pjc_s, pj_0, pj_s, lk_s, rm1_0, rm1_i, rm1_r, rm1_l, rm2_0, rm2_i, rm2_r, rm2_l, csL_s, lc_lt, lc_ge, lc_gt, lc_le, lc_eq, b01_0, b01_1, b01_01, b01_n, up2_o, up2_s, up2_u, ne_eq, reduceCtorEq, Nat.reduceAdd, Nat.reduceEqDiff, Nat.reduceLT, Nat.reduceLeDiff, Int.reduceLE, Int.reduceLT, Int.reduceAdd, Int.reduceNeg, Int.reduceMul, Int.reduceSub, Int.reduceEq, Int.reduceToNat, Int.reduceNatCast, Int.cast_ofNat_Int, ↓reduceIte, and_self, List.drop_succ_cons, List.drop_zero, List.take_succ_cons, List.take_zero, List.length_cons, List.length_nil, List.reverse_cons, List.reverse_nil, List.nil_append, List.cons_append, Option.toList, true_and, and_true, or_false, false_or, or_true, true_or, forall_const, Classical.not_not, not_false_eq_true, not_true_eq_false, false_implies, true_implies, implies_true, imp_self]
  refine ⟨h3, fun q => ⟨hP0, fun M1 hR => ?_⟩, fun q => hQ _ _ ⟨hk0, (if_neg q).symm⟩⟩
  obtain ⟨k1, k2, k3, k4, -⟩ := lay_use hR
  obtain ⟨n, rfl⟩ := Int.eq_ofNat_of_zero_le q.1
  have ob := (k2.2.1 n q.2).1
  have hs := sagP_b ob.2.2
  have hl := mb_len ob
  have hl2 := ob.2.1
  have hv := vM_b M q.2
  have hy := (okY_b hP n q.2).1
  rw [hv.1] at hy
  have i1 : ((2 : Int) * n).toNat = 2 * n := by omega
  rw [k4, i1]
  refine ⟨by omega, by omega, ob, by omega, hQ _ _ ⟨k1, ?_⟩⟩
  rw [show A_spare (vM M) n = _ from if_pos q, Int.toNat_natCast, ← (st_out k2 q.2).1, hv.1]
set_option maxHeartbeats 4000000 in
set_option maxRecDepth 100000 in
theorem m7_spare : MOK cl7 sh7 tyl7 [] 5 yX7_spare cX7_spare 2 (some .int) sp7_spare := by
  refine mok_of (own := RX7) (tb := tb7 (csL cs7_spare)) (rt := 1) (fuel := 400) (fun avs M Q => []) (by decide) rfl nil_nw (tbOK7 _) rfl (csL_all ?_) ?_ ?_ ?_
  · intro q hq
    simp only [cs7_spare, List.mem_cons, List.not_mem_nil, or_false] at hq
    rcases hq with rfl | rfl | rfl
    · exact cg7_isBridge (by decide)
    · exact cg7_laysNow (by decide)
    · exact cg7_sagOf (by decide)
  · intro avs M Q hsp
    obtain ⟨xs, hx⟩ := spR_un _ _ _ hsp
    obtain ⟨e, hl⟩ := unA_mkT hx
    obtain ⟨b, rfl⟩ := len1 hl
    have e : avs = [ar 0, ai b] := e
    subst e
    simp [szL, isL]
  · intro avs M Q hM hav hsp
    obtain ⟨xs, hx⟩ := spR_un _ _ _ hsp
    obtain ⟨e, hl⟩ := unA_mkT hx
    obtain ⟨b, rfl⟩ := len1 hl
    have e : avs = [ar 0, ai b] := e
    subst e
    exact in7_spare hM (hav (ai b) (by simp)) hsp.1 hsp.2
  · intro avs M Q hM hav hsp q hq m_ vs M1 hM1 hv hJ
    obtain ⟨xs, hx⟩ := spR_un _ _ _ hsp
    obtain ⟨e, hl⟩ := unA_mkT hx
    obtain ⟨b, rfl⟩ := len1 hl
    have e : avs = [ar 0, ai b] := e
    subst e
    cases hq
theorem orN_congr {f g : Nat → Int} : ∀ {n : Nat}, (∀ k, k < n → f k = g k) → orN f n = orN g n := by
  intro n
  induction n with
  | zero => intro _; rfl
  | succ n ih =>
    intro h
    show bor (orN f n) (f n) = bor (orN g n) (g n)
    rw [ih fun k hk => h k (by omega), h n (by omega)]
def A_over (V : Vy) (b : Int) : Int := if isB V b then orN (fun c => if wentS V (tellP V) (pT V c) c = b then bshl 1 c else 0) (V 0 4).toNat else -2
def P7_over (b : Int) (M : Mm) : Prop := okY (vM M)
def R7_over (b : Int) (M : Mm) (v : Int) (M1 : Mm) : Prop := keepM M M1 ∧ v = A_over (vM M) b
def sp7_over : Spec := spR true [0] 1 (fun x M => P7_over (x 0) M) (fun x M v M1 => R7_over (x 0) M v M1)
theorem c7_over {b : Int} {M : Mm} {Q : Option AV → Mm → Prop} : sp7_over [ar 0, ai b] M Q = (P7_over b M ∧ ∀ (v : Int) (M1 : Mm), R7_over b M v M1 → Q (some (ai v)) M1) := rfl
def cs7_over : List (Nat × Nat × Nat × Spec) := [(292, 1, 2, sp7_isBridge), (336, 1, 1, sp7_laysNow), (347, 1, 2, sp7_overOf)]
set_option maxHeartbeats 4000000 in
set_option maxRecDepth 100000 in
theorem in7_over {b : Int} {M : Mm} {Q : Option AV → Mm → Prop} (hM : okM sh7 M) (h_b : i32 b) (hP : P7_over b M) (hQ : ∀ (v : Int) (M1 : Mm), R7_over b M v M1 → Q (some (ai v)) M1) : wp (tb7 (csL cs7_over)) sh7 2 1 cX7_over [] Q 400 0 [(0, ar 0), (1, ai b)] [] M := by
  have h4 : 0 ≤ M 7 4 ∧ M 7 4 ≤ 7 := hP.2.2.2.2.1
  have h3 : 0 ≤ M 7 3 ∧ M 7 3 ≤ 3 := hP.2.2.2.1
  have hk0 : keepM M (up2 M 0 0 0) := keep_u0 keep_rf (by decide)
  have hV : vM (up2 M 0 0 0) = vM M := keep_v hk0 0
  have hP0 : okY (vM (up2 M 0 0 0)) := by rw [hV]; exact hP
  simp only [e_wp dX7_over_0 rfl, e_wp dX7_over_1 rfl, e_wp dX7_over_2 rfl, e_wp dX7_over_5 rfl, e_wp dX7_over_6 rfl, e_wp dX7_over_7 rfl, e_wp dX7_over_8 rfl, e_wp dX7_over_11 rfl, e_wp dX7_over_14 rfl, e_wp dX7_over_16 rfl, e_wp dX7_over_17 rfl, e_wp dX7_over_18 rfl, e_wp dX7_over_21 rfl, e_wp dX7_over_22 rfl, e_wp dX7_over_23 rfl, e_wp dX7_over_26 rfl, p7_116, c7_isBridge, P7_isBridge, V7_isBridge, cs7_over, c7_laysNow, c7_overOf, P7_overOf, V7_overOf, e_iconst, e_bipush, e_sipush, e_lconst_0, e_lconst_1, e_iload, e_iload_0, e_iload_1, e_iload_2, e_iload_3, e_lload, e_lload_0, e_lload_1, e_lload_2, e_lload_3, e_aload, e_aload_0, e_aload_1, e_aload_2, e_aload_3, e_istore, e_istore_0, e_istore_1, e_istore_2, e_istore_3, e_astore, e_astore_0, e_astore_1, e_astore_2, e_astore_3, e_lstore, e_lstore_0, e_lstore_1, e_lstore_2, e_lstore_3, e_iinc, e_iadd, e_isub, e_imul, e_ladd, e_lsub, e_lmul, e_idiv, e_irem, e_ldiv, e_lrem, e_ineg, e_lneg, e_iand, e_ior, e_ixor, e_ishl, e_ishr, e_iushr, e_lcmp, e_i2l, e_l2i, e_i2b, e_i2s, e_dup_i, e_dup_r, e_pop_i, e_pop_r, e_dup2_l, e_dup2_ir, e_dup2_ii, e_ifeq, e_ifne, e_iflt, e_ifge, e_ifgt, e_ifle, e_iceq, e_icne, e_iclt, e_icge, e_icgt, e_icle, e_goto, e_switch, e_invokevirtual, e_invokestatic, e_invokespecial, e_ret0, e_ret1, e_ret2, e_ret3, ldI_s, ldL_s, ldR_s, clO_s, ctP_s, ctS_s, mgo_0, mgo_s, pjc_s, pj_0, pj_s, lk_s, rm1_0, rm1_i, rm1_r, rm1_l, rm2_0, rm2_i, rm2_r, rm2_l, csL_s, lc_lt, lc_ge, lc_gt, lc_le, lc_eq, b01_0, b01_1, b01_01, b01_n, up2_o, up2_s, up2_u, ne_eq, reduceCtorEq, Nat.reduceAdd, Nat.reduceEqDiff, Nat.reduceLT, Nat.reduceLeDiff, Int.reduceLE, Int.reduceLT, Int.reduceAdd, Int.reduceNeg, Int.reduceMul, Int.reduceSub, Int.reduceEq, Int.reduceToNat, Int.reduceNatCast, Int.cast_ofNat_Int, ↓reduceIte, and_self, List.drop_succ_cons, List.drop_zero, List.take_succ_cons, List.take_zero, List.length_cons, List.length_nil, List.reverse_cons, List.reverse_nil, List.nil_append, List.cons_append, Option.toList, true_and, and_true, or_false, false_or, or_true, true_or, forall_const, Classical.not_not, not_false_eq_true, not_true_eq_false, false_implies, true_implies, implies_true, imp_self]
  refine ⟨h3, fun q => ⟨hP0, fun M1 hR => ?_⟩, fun q => hQ _ _ ⟨hk0, (if_neg q).symm⟩⟩
  obtain ⟨k1, k2, k3, k4, -⟩ := lay_use hR
  rw [k3]
  refine ⟨h4, hQ _ _ ⟨k1, ?_⟩⟩
  rw [show A_over (vM M) b = _ from if_pos q]
  exact orN_congr fun k hk => by rw [(tell_out k2 (t := k) (by show (k : Int) < M 7 4; have : k < (M 7 4).toNat := hk; omega)).1]
set_option maxHeartbeats 4000000 in
set_option maxRecDepth 100000 in
theorem m7_over : MOK cl7 sh7 tyl7 [] 5 yX7_over cX7_over 2 (some .int) sp7_over := by
  refine mok_of (own := RX7) (tb := tb7 (csL cs7_over)) (rt := 1) (fuel := 400) (fun avs M Q => []) (by decide) rfl nil_nw (tbOK7 _) rfl (csL_all ?_) ?_ ?_ ?_
  · intro q hq
    simp only [cs7_over, List.mem_cons, List.not_mem_nil, or_false] at hq
    rcases hq with rfl | rfl | rfl
    · exact cg7_isBridge (by decide)
    · exact cg7_laysNow (by decide)
    · exact cg7_overOf (by decide)
  · intro avs M Q hsp
    obtain ⟨xs, hx⟩ := spR_un _ _ _ hsp
    obtain ⟨e, hl⟩ := unA_mkT hx
    obtain ⟨b, rfl⟩ := len1 hl
    have e : avs = [ar 0, ai b] := e
    subst e
    simp [szL, isL]
  · intro avs M Q hM hav hsp
    obtain ⟨xs, hx⟩ := spR_un _ _ _ hsp
    obtain ⟨e, hl⟩ := unA_mkT hx
    obtain ⟨b, rfl⟩ := len1 hl
    have e : avs = [ar 0, ai b] := e
    subst e
    exact in7_over hM (hav (ai b) (by simp)) hsp.1 hsp.2
  · intro avs M Q hM hav hsp q hq m_ vs M1 hM1 hv hJ
    obtain ⟨xs, hx⟩ := spR_un _ _ _ hsp
    obtain ⟨e, hl⟩ := unA_mkT hx
    obtain ⟨b, rfl⟩ := len1 hl
    have e : avs = [ar 0, ai b] := e
    subst e
    cases hq
def A_waits (V : Vy) : Int := if 0 < V 0 8 then orN (fun c => if wentS V (tellP V) (pT V c) c = -1 then bshl 1 c else 0) (V 0 4).toNat else -2
def P7_waits (M : Mm) : Prop := okY (vM M)
def R7_waits (M : Mm) (v : Int) (M1 : Mm) : Prop := keepM M M1 ∧ v = A_waits (vM M)
def sp7_waits : Spec := spR true [] 1 (fun x M => P7_waits M) (fun x M v M1 => R7_waits M v M1)
theorem c7_waits {M : Mm} {Q : Option AV → Mm → Prop} : sp7_waits [ar 0] M Q = (P7_waits M ∧ ∀ (v : Int) (M1 : Mm), R7_waits M v M1 → Q (some (ai v)) M1) := rfl
def cs7_waits : List (Nat × Nat × Nat × Spec) := [(350, 1, 1, sp7_isValley), (336, 1, 1, sp7_laysNow), (347, 1, 2, sp7_overOf)]
set_option maxHeartbeats 4000000 in
set_option maxRecDepth 100000 in
theorem in7_waits {M : Mm} {Q : Option AV → Mm → Prop} (hM : okM sh7 M) (hP : P7_waits M) (hQ : ∀ (v : Int) (M1 : Mm), R7_waits M v M1 → Q (some (ai v)) M1) : wp (tb7 (csL cs7_waits)) sh7 1 1 cX7_waits [] Q 400 0 [(0, ar 0)] [] M := by
  have h4 : 0 ≤ M 7 4 ∧ M 7 4 ≤ 7 := hP.2.2.2.2.1
  have h3 : 0 ≤ M 7 3 ∧ M 7 3 ≤ 3 := hP.2.2.2.1
  have hk0 : keepM M (up2 M 0 0 0) := keep_u0 keep_rf (by decide)
  have hV : vM (up2 M 0 0 0) = vM M := keep_v hk0 0
  have hP0 : okY (vM (up2 M 0 0 0)) := by rw [hV]; exact hP
  simp only [e_wp dX7_waits_0 rfl, e_wp dX7_waits_1 rfl, e_wp dX7_waits_2 rfl, e_wp dX7_waits_5 rfl, e_wp dX7_waits_6 rfl, e_wp dX7_waits_9 rfl, e_wp dX7_waits_12 rfl, e_wp dX7_waits_14 rfl, e_wp dX7_waits_15 rfl, e_wp dX7_waits_16 rfl, e_wp dX7_waits_19 rfl, e_wp dX7_waits_20 rfl, e_wp dX7_waits_21 rfl, e_wp dX7_waits_24 rfl, p7_116, c7_isValley, P7_isValley, V7_isValley, cs7_waits, c7_laysNow, c7_overOf, P7_overOf, V7_overOf, e_iconst, e_bipush, e_sipush, e_lconst_0, e_lconst_1, e_iload, e_iload_0, e_iload_1, e_iload_2, e_iload_3, e_lload, e_lload_0, e_lload_1, e_lload_2, e_lload_3, e_aload, e_aload_0, e_aload_1, e_aload_2, e_aload_3, e_istore, e_istore_0, e_istore_1, e_istore_2, e_istore_3, e_astore, e_astore_0, e_astore_1, e_astore_2, e_astore_3, e_lstore, e_lstore_0, e_lstore_1, e_lstore_2, e_lstore_3, e_iinc, e_iadd, e_isub, e_imul, e_ladd, e_lsub, e_lmul, e_idiv, e_irem, e_ldiv, e_lrem, e_ineg, e_lneg, e_iand, e_ior, e_ixor, e_ishl, e_ishr, e_iushr, e_lcmp, e_i2l, e_l2i, e_i2b, e_i2s, e_dup_i, e_dup_r, e_pop_i, e_pop_r, e_dup2_l, e_dup2_ir, e_dup2_ii, e_ifeq, e_ifne, e_iflt, e_ifge, e_ifgt, e_ifle, e_iceq, e_icne, e_iclt, e_icge, e_icgt, e_icle, e_goto, e_switch, e_invokevirtual, e_invokestatic, e_invokespecial, e_ret0, e_ret1, e_ret2, e_ret3, ldI_s, ldL_s, ldR_s, clO_s, ctP_s, ctS_s, mgo_0, mgo_s, pjc_s, pj_0, pj_s, lk_s, rm1_0, rm1_i, rm1_r, rm1_l, rm2_0, rm2_i, rm2_r, rm2_l, csL_s, lc_lt, lc_ge, lc_gt, lc_le, lc_eq, b01_0, b01_1, b01_01, b01_n, up2_o, up2_s, up2_u, ne_eq, reduceCtorEq, Nat.reduceAdd, Nat.reduceEqDiff, Nat.reduceLT, Nat.reduceLeDiff, Int.reduceLE, Int.reduceLT, Int.reduceAdd, Int.reduceNeg, Int.reduceMul, Int.reduceSub, Int.reduceEq, Int.reduceToNat, Int.reduceNatCast, Int.cast_ofNat_Int, ↓reduceIte, and_self, List.drop_succ_cons, List.drop_zero, List.take_succ_cons, List.take_zero, List.length_cons, List.length_nil, List.reverse_cons, List.reverse_nil, List.nil_append, List.cons_append, Option.toList, true_and, and_true, or_false, false_or, or_true, true_or, forall_const, Classical.not_not, not_false_eq_true, not_true_eq_false, false_implies, true_implies, implies_true, imp_self]
  refine ⟨fun q => ⟨hP0, fun M1 hR => ?_⟩, fun q => hQ _ _ ⟨hk0, (if_neg q).symm⟩⟩
  obtain ⟨k1, k2, k3, k4, -⟩ := lay_use hR
  rw [k3]
  refine ⟨h4, hQ _ _ ⟨k1, ?_⟩⟩
  rw [show A_waits (vM M) = _ from if_pos q]
  exact orN_congr fun k hk => by rw [(tell_out k2 (t := k) (by show (k : Int) < M 7 4; have : k < (M 7 4).toNat := hk; omega)).1]
set_option maxHeartbeats 4000000 in
set_option maxRecDepth 100000 in
theorem m7_waits : MOK cl7 sh7 tyl7 [] 5 yX7_waits cX7_waits 1 (some .int) sp7_waits := by
  refine mok_of (own := RX7) (tb := tb7 (csL cs7_waits)) (rt := 1) (fuel := 400) (fun avs M Q => []) (by decide) rfl nil_nw (tbOK7 _) rfl (csL_all ?_) ?_ ?_ ?_
  · intro q hq
    simp only [cs7_waits, List.mem_cons, List.not_mem_nil, or_false] at hq
    rcases hq with rfl | rfl | rfl
    · exact cg7_isValley (by decide)
    · exact cg7_laysNow (by decide)
    · exact cg7_overOf (by decide)
  · intro avs M Q hsp
    obtain ⟨xs, hx⟩ := spR_un _ _ _ hsp
    obtain ⟨e, hl⟩ := unA_mkT hx
    obtain rfl := len0 hl
    have e : avs = [ar 0] := e
    subst e
    simp [szL, isL]
  · intro avs M Q hM hav hsp
    obtain ⟨xs, hx⟩ := spR_un _ _ _ hsp
    obtain ⟨e, hl⟩ := unA_mkT hx
    obtain rfl := len0 hl
    have e : avs = [ar 0] := e
    subst e
    exact in7_waits hM hsp.1 hsp.2
  · intro avs M Q hM hav hsp q hq m_ vs M1 hM1 hv hJ
    obtain ⟨xs, hx⟩ := spR_un _ _ _ hsp
    obtain ⟨e, hl⟩ := unA_mkT hx
    obtain rfl := len0 hl
    have e : avs = [ar 0] := e
    subst e
    cases hq
def A_deep (V : Vy) (b t : Int) : Int := if isB V b ∧ isC V t then ((rT V (t.toNat + 1)).1 b.toNat).length else -2
def P7_deep (b : Int) (t : Int) (M : Mm) : Prop := okY (vM M)
def R7_deep (b : Int) (t : Int) (M : Mm) (v : Int) (M1 : Mm) : Prop := keepM M M1 ∧ v = A_deep (vM M) b t
def sp7_deep : Spec := spR true [0, 0] 1 (fun x M => P7_deep (x 0) (x 1) M) (fun x M v M1 => R7_deep (x 0) (x 1) M v M1)
theorem c7_deep {b t : Int} {M : Mm} {Q : Option AV → Mm → Prop} : sp7_deep [ar 0, ai b, ai t] M Q = (P7_deep b t M ∧ ∀ (v : Int) (M1 : Mm), R7_deep b t M v M1 → Q (some (ai v)) M1) := rfl
def cs7_deep : List (Nat × Nat × Nat × Spec) := [(353, 1, 3, sp7_isThen), (336, 1, 1, sp7_laysNow)]
set_option maxHeartbeats 4000000 in
set_option maxRecDepth 100000 in
theorem in7_deep {b t : Int} {M : Mm} {Q : Option AV → Mm → Prop} (hM : okM sh7 M) (h_b : i32 b) (h_t : i32 t) (hP : P7_deep b t M) (hQ : ∀ (v : Int) (M1 : Mm), R7_deep b t M v M1 → Q (some (ai v)) M1) : wp (tb7 (csL cs7_deep)) sh7 3 1 cX7_deep [] Q 400 0 [(0, ar 0), (1, ai b), (2, ai t)] [] M := by
  have h4 : 0 ≤ M 7 4 ∧ M 7 4 ≤ 7 := hP.2.2.2.2.1
  have h3 : 0 ≤ M 7 3 ∧ M 7 3 ≤ 3 := hP.2.2.2.1
  have hk0 : keepM M (up2 M 0 0 0) := keep_u0 keep_rf (by decide)
  have hV : vM (up2 M 0 0 0) = vM M := keep_v hk0 0
  have hP0 : okY (vM (up2 M 0 0 0)) := by rw [hV]; exact hP
  simp only [e_wp dX7_deep_0 rfl, e_wp dX7_deep_1 rfl, e_wp dX7_deep_2 rfl, e_wp dX7_deep_5 rfl, e_wp dX7_deep_6 rfl, e_wp dX7_deep_7 rfl, e_wp dX7_deep_8 rfl, e_wp dX7_deep_11 rfl, e_wp dX7_deep_14 rfl, e_wp dX7_deep_16 rfl, e_wp dX7_deep_17 rfl, e_wp dX7_deep_18 rfl, e_wp dX7_deep_21 rfl, e_wp dX7_deep_22 rfl, e_wp dX7_deep_25 rfl, e_wp dX7_deep_26 rfl, e_wp dX7_deep_27 rfl, e_wp dX7_deep_28 rfl, e_wp dX7_deep_29 rfl, e_wp dX7_deep_30 rfl, e_wp dX7_deep_31 rfl, p7_116, c7_isThen, P7_isThen, V7_isThen, cs7_deep, c7_laysNow, g7_95, a7_1, w7_1, a7_2, w7_2, a7_3, w7_3, a7_4, w7_4, a7_5, w7_5, a7_6, w7_6, a7_7, w7_7, a7_8, w7_8, a7_9, w7_9, a7_10, w7_10, a7_11, w7_11, a7_12, w7_12, a7_13, w7_13, a7_14, w7_14, a7_15, w7_15, a7_16, w7_16, a7_17, w7_17, a7_18, w7_18, a7_19, w7_19, a7_20, w7_20, a7_21, w7_21, a7_22, w7_22, a7_23, w7_23, a7_24, w7_24, a7_25, w7_25, a7_26, w7_26, a7_27, w7_27, a7_28, w7_28, a7_29, w7_29, a7_30, w7_30, a7_31, w7_31, a7_32, w7_32, a7_33, w7_33, e_iconst, e_bipush, e_sipush, e_lconst_0, e_lconst_1, e_iload, e_iload_0, e_iload_1, e_iload_2, e_iload_3, e_lload, e_lload_0, e_lload_1, e_lload_2, e_lload_3, e_aload, e_aload_0, e_aload_1, e_aload_2, e_aload_3, e_istore, e_istore_0, e_istore_1, e_istore_2, e_istore_3, e_astore, e_astore_0, e_astore_1, e_astore_2, e_astore_3, e_lstore, e_lstore_0, e_lstore_1, e_lstore_2, e_lstore_3, e_iinc, e_iadd, e_isub, e_imul, e_ladd, e_lsub, e_lmul, e_idiv, e_irem, e_ldiv, e_lrem, e_ineg, e_lneg, e_iand, e_ior, e_ixor, e_ishl, e_ishr, e_iushr, e_lcmp, e_i2l, e_l2i, e_i2b, e_i2s, e_dup_i, e_dup_r, e_pop_i, e_pop_r, e_dup2_l, e_dup2_ir, e_dup2_ii, e_ifeq, e_ifne, e_iflt, e_ifge, e_ifgt, e_ifle, e_iceq, e_icne, e_iclt, e_icge, e_icgt, e_icle, e_goto, e_switch, e_invokevirtual, e_invokestatic, e_invokespecial, e_ret0, e_ret1, e_ret2, e_ret3, ldI_s, ldL_s, ldR_s, clO_s, ctP_s, ctS_s, mgo_0, mgo_s, pjc_s, pj_0, pj_s, lk_s, rm1_0, rm1_i, rm1_r, rm1_l, rm2_0, rm2_i, rm2_r, rm2_l, csL_s, lc_lt, lc_ge, lc_gt, lc_le, lc_eq, b01_0, b01_1, b01_01, b01_n, up2_o, up2_s, up2_u, ne_eq, reduceCtorEq, Nat.reduceAdd, Nat.reduceEqDiff, Nat.reduceLT, Nat.reduceLeDiff, Int.reduceLE, Int.reduceLT, Int.reduceAdd, Int.reduceNeg, Int.reduceMul, Int.reduceSub, Int.reduceEq, Int.reduceToNat, Int.reduceNatCast, Int.cast_ofNat_Int, ↓reduceIte, and_self, List.drop_succ_cons, List.drop_zero, List.take_succ_cons, List.take_zero, List.length_cons, List.length_nil, List.reverse_cons, List.reverse_nil, List.nil_append, List.cons_append, Option.toList, true_and, and_true, or_false, false_or, or_true, true_or, forall_const, Classical.not_not, not_false_eq_true, not_true_eq_false, false_implies, true_implies, implies_true, imp_self]
  refine ⟨⟨h3, h4⟩, fun q => ⟨hP0, fun M1 hR => ?_⟩, fun q => hQ _ _ ⟨hk0, (if_neg q).symm⟩⟩
  obtain ⟨k1, k2, -⟩ := lay_use hR
  repeat (refine And.intro (by omega) ?_)
  refine hQ _ _ ⟨k1, ?_⟩
  obtain ⟨a, rfl⟩ := Int.eq_ofNat_of_zero_le q.1.1
  obtain ⟨n, rfl⟩ := Int.eq_ofNat_of_zero_le q.2.1
  have i1 : ((3 : Int) * n + a).toNat = 3 * n + a := by omega
  rw [show A_deep (vM M) a n = _ from if_pos q, Int.toNat_natCast, Int.toNat_natCast, i1]
  exact (tab_out k2 q.2.2 q.1.2).2.2.1
set_option maxHeartbeats 4000000 in
set_option maxRecDepth 100000 in
theorem m7_deep : MOK cl7 sh7 tyl7 [] 5 yX7_deep cX7_deep 3 (some .int) sp7_deep := by
  refine mok_of (own := RX7) (tb := tb7 (csL cs7_deep)) (rt := 1) (fuel := 400) (fun avs M Q => []) (by decide) rfl nil_nw (tbOK7 _) rfl (csL_all ?_) ?_ ?_ ?_
  · intro q hq
    simp only [cs7_deep, List.mem_cons, List.not_mem_nil, or_false] at hq
    rcases hq with rfl | rfl
    · exact cg7_isThen (by decide)
    · exact cg7_laysNow (by decide)
  · intro avs M Q hsp
    obtain ⟨xs, hx⟩ := spR_un _ _ _ hsp
    obtain ⟨e, hl⟩ := unA_mkT hx
    obtain ⟨b, t, rfl⟩ := len2 hl
    have e : avs = [ar 0, ai b, ai t] := e
    subst e
    simp [szL, isL]
  · intro avs M Q hM hav hsp
    obtain ⟨xs, hx⟩ := spR_un _ _ _ hsp
    obtain ⟨e, hl⟩ := unA_mkT hx
    obtain ⟨b, t, rfl⟩ := len2 hl
    have e : avs = [ar 0, ai b, ai t] := e
    subst e
    exact in7_deep hM (hav (ai b) (by simp)) (hav (ai t) (by simp)) hsp.1 hsp.2
  · intro avs M Q hM hav hsp q hq m_ vs M1 hM1 hv hJ
    obtain ⟨xs, hx⟩ := spR_un _ _ _ hsp
    obtain ⟨e, hl⟩ := unA_mkT hx
    obtain ⟨b, t, rfl⟩ := len2 hl
    have e : avs = [ar 0, ai b, ai t] := e
    subst e
    cases hq
def A_sag (V : Vy) (b t : Int) : Int := if isB V b ∧ isC V t then sagP ((rT V (t.toNat + 1)).1 b.toNat) else -2
def P7_sag (b : Int) (t : Int) (M : Mm) : Prop := okY (vM M)
def R7_sag (b : Int) (t : Int) (M : Mm) (v : Int) (M1 : Mm) : Prop := keepM M M1 ∧ v = A_sag (vM M) b t
def sp7_sag : Spec := spR true [0, 0] 1 (fun x M => P7_sag (x 0) (x 1) M) (fun x M v M1 => R7_sag (x 0) (x 1) M v M1)
theorem c7_sag {b t : Int} {M : Mm} {Q : Option AV → Mm → Prop} : sp7_sag [ar 0, ai b, ai t] M Q = (P7_sag b t M ∧ ∀ (v : Int) (M1 : Mm), R7_sag b t M v M1 → Q (some (ai v)) M1) := rfl
def cs7_sag : List (Nat × Nat × Nat × Spec) := [(353, 1, 3, sp7_isThen), (336, 1, 1, sp7_laysNow)]
set_option maxHeartbeats 4000000 in
set_option maxRecDepth 100000 in
theorem in7_sag {b t : Int} {M : Mm} {Q : Option AV → Mm → Prop} (hM : okM sh7 M) (h_b : i32 b) (h_t : i32 t) (hP : P7_sag b t M) (hQ : ∀ (v : Int) (M1 : Mm), R7_sag b t M v M1 → Q (some (ai v)) M1) : wp (tb7 (csL cs7_sag)) sh7 3 1 cX7_sag [] Q 400 0 [(0, ar 0), (1, ai b), (2, ai t)] [] M := by
  have h4 : 0 ≤ M 7 4 ∧ M 7 4 ≤ 7 := hP.2.2.2.2.1
  have h3 : 0 ≤ M 7 3 ∧ M 7 3 ≤ 3 := hP.2.2.2.1
  have hk0 : keepM M (up2 M 0 0 0) := keep_u0 keep_rf (by decide)
  have hV : vM (up2 M 0 0 0) = vM M := keep_v hk0 0
  have hP0 : okY (vM (up2 M 0 0 0)) := by rw [hV]; exact hP
  simp only [e_wp dX7_sag_0 rfl, e_wp dX7_sag_1 rfl, e_wp dX7_sag_2 rfl, e_wp dX7_sag_5 rfl, e_wp dX7_sag_6 rfl, e_wp dX7_sag_7 rfl, e_wp dX7_sag_8 rfl, e_wp dX7_sag_11 rfl, e_wp dX7_sag_14 rfl, e_wp dX7_sag_16 rfl, e_wp dX7_sag_17 rfl, e_wp dX7_sag_18 rfl, e_wp dX7_sag_21 rfl, e_wp dX7_sag_22 rfl, e_wp dX7_sag_25 rfl, e_wp dX7_sag_26 rfl, e_wp dX7_sag_27 rfl, e_wp dX7_sag_28 rfl, e_wp dX7_sag_29 rfl, e_wp dX7_sag_30 rfl, e_wp dX7_sag_31 rfl, p7_116, c7_isThen, P7_isThen, V7_isThen, cs7_sag, c7_laysNow, g7_98, a7_1, w7_1, a7_2, w7_2, a7_3, w7_3, a7_4, w7_4, a7_5, w7_5, a7_6, w7_6, a7_7, w7_7, a7_8, w7_8, a7_9, w7_9, a7_10, w7_10, a7_11, w7_11, a7_12, w7_12, a7_13, w7_13, a7_14, w7_14, a7_15, w7_15, a7_16, w7_16, a7_17, w7_17, a7_18, w7_18, a7_19, w7_19, a7_20, w7_20, a7_21, w7_21, a7_22, w7_22, a7_23, w7_23, a7_24, w7_24, a7_25, w7_25, a7_26, w7_26, a7_27, w7_27, a7_28, w7_28, a7_29, w7_29, a7_30, w7_30, a7_31, w7_31, a7_32, w7_32, a7_33, w7_33, e_iconst, e_bipush, e_sipush, e_lconst_0, e_lconst_1, e_iload, e_iload_0, e_iload_1, e_iload_2, e_iload_3, e_lload, e_lload_0, e_lload_1, e_lload_2, e_lload_3, e_aload, e_aload_0, e_aload_1, e_aload_2, e_aload_3, e_istore, e_istore_0, e_istore_1, e_istore_2, e_istore_3, e_astore, e_astore_0, e_astore_1, e_astore_2, e_astore_3, e_lstore, e_lstore_0, e_lstore_1, e_lstore_2, e_lstore_3, e_iinc, e_iadd, e_isub, e_imul, e_ladd, e_lsub, e_lmul, e_idiv, e_irem, e_ldiv, e_lrem, e_ineg, e_lneg, e_iand, e_ior, e_ixor, e_ishl, e_ishr, e_iushr, e_lcmp, e_i2l, e_l2i, e_i2b, e_i2s, e_dup_i, e_dup_r, e_pop_i, e_pop_r, e_dup2_l, e_dup2_ir, e_dup2_ii, e_ifeq, e_ifne, e_iflt, e_ifge, e_ifgt, e_ifle, e_iceq, e_icne, e_iclt, e_icge, e_icgt, e_icle, e_goto, e_switch, e_invokevirtual, e_invokestatic, e_invokespecial, e_ret0, e_ret1, e_ret2, e_ret3, ldI_s, ldL_s, ldR_s, clO_s, ctP_s, ctS_s, mgo_0, mgo_s, pjc_s, pj_0, pj_s, lk_s, rm1_0, rm1_i, rm1_r, rm1_l, rm2_0, rm2_i, rm2_r, rm2_l, csL_s, lc_lt, lc_ge, lc_gt, lc_le, lc_eq, b01_0, b01_1, b01_01, b01_n, up2_o, up2_s, up2_u, ne_eq, reduceCtorEq, Nat.reduceAdd, Nat.reduceEqDiff, Nat.reduceLT, Nat.reduceLeDiff, Int.reduceLE, Int.reduceLT, Int.reduceAdd, Int.reduceNeg, Int.reduceMul, Int.reduceSub, Int.reduceEq, Int.reduceToNat, Int.reduceNatCast, Int.cast_ofNat_Int, ↓reduceIte, and_self, List.drop_succ_cons, List.drop_zero, List.take_succ_cons, List.take_zero, List.length_cons, List.length_nil, List.reverse_cons, List.reverse_nil, List.nil_append, List.cons_append, Option.toList, true_and, and_true, or_false, false_or, or_true, true_or, forall_const, Classical.not_not, not_false_eq_true, not_true_eq_false, false_implies, true_implies, implies_true, imp_self]
  refine ⟨⟨h3, h4⟩, fun q => ⟨hP0, fun M1 hR => ?_⟩, fun q => hQ _ _ ⟨hk0, (if_neg q).symm⟩⟩
  obtain ⟨k1, k2, -⟩ := lay_use hR
  repeat (refine And.intro (by omega) ?_)
  refine hQ _ _ ⟨k1, ?_⟩
  obtain ⟨a, rfl⟩ := Int.eq_ofNat_of_zero_le q.1.1
  obtain ⟨n, rfl⟩ := Int.eq_ofNat_of_zero_le q.2.1
  have i1 : ((3 : Int) * n + a).toNat = 3 * n + a := by omega
  rw [show A_sag (vM M) a n = _ from if_pos q, Int.toNat_natCast, Int.toNat_natCast, i1]
  exact (tab_out k2 q.2.2 q.1.2).2.2.2.1
set_option maxHeartbeats 4000000 in
set_option maxRecDepth 100000 in
theorem m7_sag : MOK cl7 sh7 tyl7 [] 5 yX7_sag cX7_sag 3 (some .int) sp7_sag := by
  refine mok_of (own := RX7) (tb := tb7 (csL cs7_sag)) (rt := 1) (fuel := 400) (fun avs M Q => []) (by decide) rfl nil_nw (tbOK7 _) rfl (csL_all ?_) ?_ ?_ ?_
  · intro q hq
    simp only [cs7_sag, List.mem_cons, List.not_mem_nil, or_false] at hq
    rcases hq with rfl | rfl
    · exact cg7_isThen (by decide)
    · exact cg7_laysNow (by decide)
  · intro avs M Q hsp
    obtain ⟨xs, hx⟩ := spR_un _ _ _ hsp
    obtain ⟨e, hl⟩ := unA_mkT hx
    obtain ⟨b, t, rfl⟩ := len2 hl
    have e : avs = [ar 0, ai b, ai t] := e
    subst e
    simp [szL, isL]
  · intro avs M Q hM hav hsp
    obtain ⟨xs, hx⟩ := spR_un _ _ _ hsp
    obtain ⟨e, hl⟩ := unA_mkT hx
    obtain ⟨b, t, rfl⟩ := len2 hl
    have e : avs = [ar 0, ai b, ai t] := e
    subst e
    exact in7_sag hM (hav (ai b) (by simp)) (hav (ai t) (by simp)) hsp.1 hsp.2
  · intro avs M Q hM hav hsp q hq m_ vs M1 hM1 hv hJ
    obtain ⟨xs, hx⟩ := spR_un _ _ _ hsp
    obtain ⟨e, hl⟩ := unA_mkT hx
    obtain ⟨b, t, rfl⟩ := len2 hl
    have e : avs = [ar 0, ai b, ai t] := e
    subst e
    cases hq
