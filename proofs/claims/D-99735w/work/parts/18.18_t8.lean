/-! What is told of a valley -/
def A_bridge (V : Vy) (b w : Int) : Int := if isB V b ∧ 0 ≤ w ∧ w ≤ 1 then (if w = 0 then V 1 b.toNat else V 2 b.toNat) else -2
def P7_bridge (b : Int) (w : Int) (M : Mm) : Prop := okY (vM M)
def R7_bridge (b : Int) (w : Int) (M : Mm) (v : Int) (M1 : Mm) : Prop := keepM M M1 ∧ v = A_bridge (vM M) b w
def sp7_bridge : Spec := spR true [0, 0] 1 (fun x M => P7_bridge (x 0) (x 1) M) (fun x M v M1 => R7_bridge (x 0) (x 1) M v M1)
theorem c7_bridge {b w : Int} {M : Mm} {Q : Option AV → Mm → Prop} : sp7_bridge [ar 0, ai b, ai w] M Q = (P7_bridge b w M ∧ ∀ (v : Int) (M1 : Mm), R7_bridge b w M v M1 → Q (some (ai v)) M1) := rfl
def cs7_bridge : List (Nat × Nat × Nat × Spec) := [(292, 1, 2, sp7_isBridge), (342, 0, 1, sp7_isHalf)]
set_option maxHeartbeats 4000000 in
set_option maxRecDepth 100000 in
theorem in7_bridge {b w : Int} {M : Mm} {Q : Option AV → Mm → Prop} (hM : okM sh7 M) (h_b : i32 b) (h_w : i32 w) (hP : P7_bridge b w M) (hQ : ∀ (v : Int) (M1 : Mm), R7_bridge b w M v M1 → Q (some (ai v)) M1) : wp (tb7 (csL cs7_bridge)) sh7 3 1 cX7_bridge [] Q 400 0 [(0, ar 0), (1, ai b), (2, ai w)] [] M := by
  have h4 : 0 ≤ M 7 4 ∧ M 7 4 ≤ 7 := hP.2.2.2.2.1
  have h3 : 0 ≤ M 7 3 ∧ M 7 3 ≤ 3 := hP.2.2.2.1
  have h5 : 0 ≤ M 7 5 ∧ M 7 5 ≤ 5 := hP.2.2.2.2.2.1
  have hk0 : keepM M (up2 M 0 0 0) := keep_u0 keep_rf (by decide)
  have hV : vM (up2 M 0 0 0) = vM M := keep_v hk0 0
  have hP0 : okY (vM (up2 M 0 0 0)) := by rw [hV]; exact hP
  have e1 : ¬ ((0 ≤ b ∧ b < M 7 3) ∧ 0 ≤ w ∧ w ≤ 1) → A_bridge (vM M) b w = -2 := fun q => if_neg q
  have e2 : (0 ≤ b ∧ b < M 7 3) → (0 ≤ w ∧ w ≤ 1) → A_bridge (vM M) b w = M 8 (2 * b + w).toNat := by
    intro q1 q2
    rw [show A_bridge (vM M) b w = _ from if_pos ⟨q1, q2⟩]
    obtain ⟨v1, v2⟩ := vM_b M (b := b.toNat) (by omega)
    rw [v1, v2]
    by_cases e : w = 0
    · rw [if_pos e, e]
      congr 1
      omega
    · rw [if_neg e]
      congr 1
      omega
  simp only [e_wp dX7_bridge_0 rfl, e_wp dX7_bridge_1 rfl, e_wp dX7_bridge_2 rfl, e_wp dX7_bridge_5 rfl, e_wp dX7_bridge_6 rfl, e_wp dX7_bridge_7 rfl, e_wp dX7_bridge_8 rfl, e_wp dX7_bridge_11 rfl, e_wp dX7_bridge_14 rfl, e_wp dX7_bridge_15 rfl, e_wp dX7_bridge_18 rfl, e_wp dX7_bridge_21 rfl, e_wp dX7_bridge_22 rfl, e_wp dX7_bridge_25 rfl, e_wp dX7_bridge_26 rfl, e_wp dX7_bridge_27 rfl, e_wp dX7_bridge_28 rfl, e_wp dX7_bridge_29 rfl, e_wp dX7_bridge_30 rfl, e_wp dX7_bridge_31 rfl, e_wp dX7_bridge_34 rfl, e_wp dX7_bridge_36 rfl, p7_116, c7_isBridge, P7_isBridge, V7_isBridge, cs7_bridge, c7_isHalf, P7_isHalf, V7_isHalf, g7_37, a7_1, w7_1, a7_2, w7_2, a7_3, w7_3, a7_4, w7_4, a7_5, w7_5, a7_6, w7_6, a7_7, w7_7, a7_8, w7_8, a7_9, w7_9, a7_10, w7_10, a7_11, w7_11, a7_12, w7_12, a7_13, w7_13, a7_14, w7_14, a7_15, w7_15, a7_16, w7_16, a7_17, w7_17, a7_18, w7_18, a7_19, w7_19, a7_20, w7_20, a7_21, w7_21, a7_22, w7_22, a7_23, w7_23, a7_24, w7_24, a7_25, w7_25, a7_26, w7_26, a7_27, w7_27, a7_28, w7_28, a7_29, w7_29, a7_30, w7_30, a7_31, w7_31, a7_32, w7_32, a7_33, w7_33, e_iconst, e_bipush, e_sipush, e_lconst_0, e_lconst_1, e_iload, e_iload_0, e_iload_1, e_iload_2, e_iload_3, e_lload, e_lload_0, e_lload_1, e_lload_2, e_lload_3, e_aload, e_aload_0, e_aload_1, e_aload_2, e_aload_3, e_istore, e_istore_0, e_istore_1, e_istore_2, e_istore_3, e_astore, e_astore_0, e_astore_1, e_astore_2, e_astore_3, e_lstore, e_lstore_0, e_lstore_1, e_lstore_2, e_lstore_3, e_iinc, e_iadd, e_isub, e_imul, e_ladd, e_lsub, e_lmul, e_idiv, e_irem, e_ldiv, e_lrem, e_ineg, e_lneg, e_iand, e_ior, e_ixor, e_ishl, e_ishr, e_iushr, e_lcmp, e_i2l, e_l2i, e_i2b, e_i2s, e_dup_i, e_dup_r, e_pop_i, e_pop_r, e_dup2_l, e_dup2_ir, e_dup2_ii, e_ifeq, e_ifne, e_iflt, e_ifge, e_ifgt, e_ifle, e_iceq, e_icne, e_iclt, e_icge, e_icgt, e_icle, e_goto, e_switch, e_invokevirtual, e_invokestatic, e_invokespecial, e_ret0, e_ret1, e_ret2, e_ret3, ldI_s, ldL_s, ldR_s, clO_s, ctP_s, ctS_s, mgo_0, mgo_s, pjc_s, pj_0, pj_s, lk_s, rm1_0, rm1_i, rm1_r, rm1_l, rm2_0, rm2_i, rm2_r, rm2_l, csL_s, lc_lt, lc_ge, lc_gt, lc_le, lc_eq, b01_0, b01_1, b01_01, b01_n, up2_o, up2_s, up2_u, ne_eq, reduceCtorEq, Nat.reduceAdd, Nat.reduceEqDiff, Nat.reduceLT, Nat.reduceLeDiff, Int.reduceLE, Int.reduceLT, Int.reduceAdd, Int.reduceNeg, Int.reduceMul, Int.reduceSub, Int.reduceEq, Int.reduceToNat, Int.reduceNatCast, Int.cast_ofNat_Int, ↓reduceIte, and_self, List.drop_succ_cons, List.drop_zero, List.take_succ_cons, List.take_zero, List.length_cons, List.length_nil, List.reverse_cons, List.reverse_nil, List.nil_append, List.cons_append, Option.toList, true_and, and_true, or_false, false_or, or_true, true_or, forall_const, Classical.not_not, not_false_eq_true, not_true_eq_false, false_implies, true_implies, implies_true, imp_self]
  refine ⟨h3, ?_⟩
  (repeat' (first | (intro _) | (refine And.intro ?_ ?_))) <;> first | omega | exact hQ _ _ ⟨hk0, (e1 (by omega)).symm⟩ | exact hQ _ _ ⟨hk0, (e2 (by omega) (by omega)).symm⟩
set_option maxHeartbeats 4000000 in
set_option maxRecDepth 100000 in
theorem m7_bridge : MOK cl7 sh7 tyl7 [] 2 yX7_bridge cX7_bridge 3 (some .int) sp7_bridge := by
  refine mok_of (own := RX7) (tb := tb7 (csL cs7_bridge)) (rt := 1) (fuel := 400) (fun avs M Q => []) (by decide) rfl nil_nw (tbOK7 _) rfl (csL_all ?_) ?_ ?_ ?_
  · intro q hq
    simp only [cs7_bridge, List.mem_cons, List.not_mem_nil, or_false] at hq
    rcases hq with rfl | rfl
    · exact cg7_isBridge (by decide)
    · exact cg7_isHalf (by decide)
  · intro avs M Q hsp
    obtain ⟨xs, hx⟩ := spR_un _ _ _ hsp
    obtain ⟨e, hl⟩ := unA_mkT hx
    obtain ⟨b, w, rfl⟩ := len2 hl
    have e : avs = [ar 0, ai b, ai w] := e
    subst e
    simp [szL, isL]
  · intro avs M Q hM hav hsp
    obtain ⟨xs, hx⟩ := spR_un _ _ _ hsp
    obtain ⟨e, hl⟩ := unA_mkT hx
    obtain ⟨b, w, rfl⟩ := len2 hl
    have e : avs = [ar 0, ai b, ai w] := e
    subst e
    exact in7_bridge hM (hav (ai b) (by simp)) (hav (ai w) (by simp)) hsp.1 hsp.2
  · intro avs M Q hM hav hsp q hq m_ vs M1 hM1 hv hJ
    obtain ⟨xs, hx⟩ := spR_un _ _ _ hsp
    obtain ⟨e, hl⟩ := unA_mkT hx
    obtain ⟨b, w, rfl⟩ := len2 hl
    have e : avs = [ar 0, ai b, ai w] := e
    subst e
    cases hq
def A_cart (V : Vy) (c w : Int) : Int := if isC V c ∧ 0 ≤ w ∧ w ≤ 1 then (if w = 0 then V 3 c.toNat else V 4 c.toNat) else -2
def P7_cart (c : Int) (w : Int) (M : Mm) : Prop := okY (vM M)
def R7_cart (c : Int) (w : Int) (M : Mm) (v : Int) (M1 : Mm) : Prop := keepM M M1 ∧ v = A_cart (vM M) c w
def sp7_cart : Spec := spR true [0, 0] 1 (fun x M => P7_cart (x 0) (x 1) M) (fun x M v M1 => R7_cart (x 0) (x 1) M v M1)
theorem c7_cart {c w : Int} {M : Mm} {Q : Option AV → Mm → Prop} : sp7_cart [ar 0, ai c, ai w] M Q = (P7_cart c w M ∧ ∀ (v : Int) (M1 : Mm), R7_cart c w M v M1 → Q (some (ai v)) M1) := rfl
def cs7_cart : List (Nat × Nat × Nat × Spec) := [(289, 1, 2, sp7_isCart), (342, 0, 1, sp7_isHalf)]
set_option maxHeartbeats 4000000 in
set_option maxRecDepth 100000 in
theorem in7_cart {c w : Int} {M : Mm} {Q : Option AV → Mm → Prop} (hM : okM sh7 M) (h_c : i32 c) (h_w : i32 w) (hP : P7_cart c w M) (hQ : ∀ (v : Int) (M1 : Mm), R7_cart c w M v M1 → Q (some (ai v)) M1) : wp (tb7 (csL cs7_cart)) sh7 3 1 cX7_cart [] Q 400 0 [(0, ar 0), (1, ai c), (2, ai w)] [] M := by
  have h4 : 0 ≤ M 7 4 ∧ M 7 4 ≤ 7 := hP.2.2.2.2.1
  have h3 : 0 ≤ M 7 3 ∧ M 7 3 ≤ 3 := hP.2.2.2.1
  have h5 : 0 ≤ M 7 5 ∧ M 7 5 ≤ 5 := hP.2.2.2.2.2.1
  have hk0 : keepM M (up2 M 0 0 0) := keep_u0 keep_rf (by decide)
  have hV : vM (up2 M 0 0 0) = vM M := keep_v hk0 0
  have hP0 : okY (vM (up2 M 0 0 0)) := by rw [hV]; exact hP
  have e1 : ¬ ((0 ≤ c ∧ c < M 7 4) ∧ 0 ≤ w ∧ w ≤ 1) → A_cart (vM M) c w = -2 := fun q => if_neg q
  have e2 : (0 ≤ c ∧ c < M 7 4) → (0 ≤ w ∧ w ≤ 1) → A_cart (vM M) c w = M 9 (2 * c + w).toNat := by
    intro q1 q2
    rw [show A_cart (vM M) c w = _ from if_pos ⟨q1, q2⟩]
    obtain ⟨v1, v2⟩ := vM_c M (c := c.toNat) (by omega)
    rw [v1, v2]
    by_cases e : w = 0
    · rw [if_pos e, e]
      congr 1
      omega
    · rw [if_neg e]
      congr 1
      omega
  simp only [e_wp dX7_cart_0 rfl, e_wp dX7_cart_1 rfl, e_wp dX7_cart_2 rfl, e_wp dX7_cart_5 rfl, e_wp dX7_cart_6 rfl, e_wp dX7_cart_7 rfl, e_wp dX7_cart_8 rfl, e_wp dX7_cart_11 rfl, e_wp dX7_cart_14 rfl, e_wp dX7_cart_15 rfl, e_wp dX7_cart_18 rfl, e_wp dX7_cart_21 rfl, e_wp dX7_cart_22 rfl, e_wp dX7_cart_25 rfl, e_wp dX7_cart_26 rfl, e_wp dX7_cart_27 rfl, e_wp dX7_cart_28 rfl, e_wp dX7_cart_29 rfl, e_wp dX7_cart_30 rfl, e_wp dX7_cart_31 rfl, e_wp dX7_cart_34 rfl, e_wp dX7_cart_36 rfl, p7_116, c7_isCart, P7_isCart, V7_isCart, cs7_cart, c7_isHalf, P7_isHalf, V7_isHalf, g7_40, a7_1, w7_1, a7_2, w7_2, a7_3, w7_3, a7_4, w7_4, a7_5, w7_5, a7_6, w7_6, a7_7, w7_7, a7_8, w7_8, a7_9, w7_9, a7_10, w7_10, a7_11, w7_11, a7_12, w7_12, a7_13, w7_13, a7_14, w7_14, a7_15, w7_15, a7_16, w7_16, a7_17, w7_17, a7_18, w7_18, a7_19, w7_19, a7_20, w7_20, a7_21, w7_21, a7_22, w7_22, a7_23, w7_23, a7_24, w7_24, a7_25, w7_25, a7_26, w7_26, a7_27, w7_27, a7_28, w7_28, a7_29, w7_29, a7_30, w7_30, a7_31, w7_31, a7_32, w7_32, a7_33, w7_33, e_iconst, e_bipush, e_sipush, e_lconst_0, e_lconst_1, e_iload, e_iload_0, e_iload_1, e_iload_2, e_iload_3, e_lload, e_lload_0, e_lload_1, e_lload_2, e_lload_3, e_aload, e_aload_0, e_aload_1, e_aload_2, e_aload_3, e_istore, e_istore_0, e_istore_1, e_istore_2, e_istore_3, e_astore, e_astore_0, e_astore_1, e_astore_2, e_astore_3, e_lstore, e_lstore_0, e_lstore_1, e_lstore_2, e_lstore_3, e_iinc, e_iadd, e_isub, e_imul, e_ladd, e_lsub, e_lmul, e_idiv, e_irem, e_ldiv, e_lrem, e_ineg, e_lneg, e_iand, e_ior, e_ixor, e_ishl, e_ishr, e_iushr, e_lcmp, e_i2l, e_l2i, e_i2b, e_i2s, e_dup_i, e_dup_r, e_pop_i, e_pop_r, e_dup2_l, e_dup2_ir, e_dup2_ii, e_ifeq, e_ifne, e_iflt, e_ifge, e_ifgt, e_ifle, e_iceq, e_icne, e_iclt, e_icge, e_icgt, e_icle, e_goto, e_switch, e_invokevirtual, e_invokestatic, e_invokespecial, e_ret0, e_ret1, e_ret2, e_ret3, ldI_s, ldL_s, ldR_s, clO_s, ctP_s, ctS_s, mgo_0, mgo_s, pjc_s, pj_0, pj_s, lk_s, rm1_0, rm1_i, rm1_r, rm1_l, rm2_0, rm2_i, rm2_r, rm2_l, csL_s, lc_lt, lc_ge, lc_gt, lc_le, lc_eq, b01_0, b01_1, b01_01, b01_n, up2_o, up2_s, up2_u, ne_eq, reduceCtorEq, Nat.reduceAdd, Nat.reduceEqDiff, Nat.reduceLT, Nat.reduceLeDiff, Int.reduceLE, Int.reduceLT, Int.reduceAdd, Int.reduceNeg, Int.reduceMul, Int.reduceSub, Int.reduceEq, Int.reduceToNat, Int.reduceNatCast, Int.cast_ofNat_Int, ↓reduceIte, and_self, List.drop_succ_cons, List.drop_zero, List.take_succ_cons, List.take_zero, List.length_cons, List.length_nil, List.reverse_cons, List.reverse_nil, List.nil_append, List.cons_append, Option.toList, true_and, and_true, or_false, false_or, or_true, true_or, forall_const, Classical.not_not, not_false_eq_true, not_true_eq_false, false_implies, true_implies, implies_true, imp_self]
  refine ⟨h4, ?_⟩
  (repeat' (first | (intro _) | (refine And.intro ?_ ?_))) <;> first | omega | exact hQ _ _ ⟨hk0, (e1 (by omega)).symm⟩ | exact hQ _ _ ⟨hk0, (e2 (by omega) (by omega)).symm⟩
set_option maxHeartbeats 4000000 in
set_option maxRecDepth 100000 in
theorem m7_cart : MOK cl7 sh7 tyl7 [] 2 yX7_cart cX7_cart 3 (some .int) sp7_cart := by
  refine mok_of (own := RX7) (tb := tb7 (csL cs7_cart)) (rt := 1) (fuel := 400) (fun avs M Q => []) (by decide) rfl nil_nw (tbOK7 _) rfl (csL_all ?_) ?_ ?_ ?_
  · intro q hq
    simp only [cs7_cart, List.mem_cons, List.not_mem_nil, or_false] at hq
    rcases hq with rfl | rfl
    · exact cg7_isCart (by decide)
    · exact cg7_isHalf (by decide)
  · intro avs M Q hsp
    obtain ⟨xs, hx⟩ := spR_un _ _ _ hsp
    obtain ⟨e, hl⟩ := unA_mkT hx
    obtain ⟨c, w, rfl⟩ := len2 hl
    have e : avs = [ar 0, ai c, ai w] := e
    subst e
    simp [szL, isL]
  · intro avs M Q hM hav hsp
    obtain ⟨xs, hx⟩ := spR_un _ _ _ hsp
    obtain ⟨e, hl⟩ := unA_mkT hx
    obtain ⟨c, w, rfl⟩ := len2 hl
    have e : avs = [ar 0, ai c, ai w] := e
    subst e
    exact in7_cart hM (hav (ai c) (by simp)) (hav (ai w) (by simp)) hsp.1 hsp.2
  · intro avs M Q hM hav hsp q hq m_ vs M1 hM1 hv hJ
    obtain ⟨xs, hx⟩ := spR_un _ _ _ hsp
    obtain ⟨e, hl⟩ := unA_mkT hx
    obtain ⟨c, w, rfl⟩ := len2 hl
    have e : avs = [ar 0, ai c, ai w] := e
    subst e
    cases hq
def A_ward (V : Vy) (w k : Int) : Int := if (0 ≤ w ∧ w < V 0 5) ∧ 0 ≤ k ∧ k ≤ 2 then (if k = 0 then V 5 w.toNat else if k = 1 then V 6 w.toNat else V 7 w.toNat) else -2
def P7_ward (w : Int) (k : Int) (M : Mm) : Prop := okY (vM M)
def R7_ward (w : Int) (k : Int) (M : Mm) (v : Int) (M1 : Mm) : Prop := keepM M M1 ∧ v = A_ward (vM M) w k
def sp7_ward : Spec := spR true [0, 0] 1 (fun x M => P7_ward (x 0) (x 1) M) (fun x M v M1 => R7_ward (x 0) (x 1) M v M1)
theorem c7_ward {w k : Int} {M : Mm} {Q : Option AV → Mm → Prop} : sp7_ward [ar 0, ai w, ai k] M Q = (P7_ward w k M ∧ ∀ (v : Int) (M1 : Mm), R7_ward w k M v M1 → Q (some (ai v)) M1) := rfl
def cs7_ward : List (Nat × Nat × Nat × Spec) := [(121, 0, 3, sp7_in)]
set_option maxHeartbeats 4000000 in
set_option maxRecDepth 100000 in
theorem in7_ward {w k : Int} {M : Mm} {Q : Option AV → Mm → Prop} (hM : okM sh7 M) (h_w : i32 w) (h_k : i32 k) (hP : P7_ward w k M) (hQ : ∀ (v : Int) (M1 : Mm), R7_ward w k M v M1 → Q (some (ai v)) M1) : wp (tb7 (csL cs7_ward)) sh7 3 1 cX7_ward [] Q 400 0 [(0, ar 0), (1, ai w), (2, ai k)] [] M := by
  have h4 : 0 ≤ M 7 4 ∧ M 7 4 ≤ 7 := hP.2.2.2.2.1
  have h3 : 0 ≤ M 7 3 ∧ M 7 3 ≤ 3 := hP.2.2.2.1
  have h5 : 0 ≤ M 7 5 ∧ M 7 5 ≤ 5 := hP.2.2.2.2.2.1
  have hk0 : keepM M (up2 M 0 0 0) := keep_u0 keep_rf (by decide)
  have hV : vM (up2 M 0 0 0) = vM M := keep_v hk0 0
  have hP0 : okY (vM (up2 M 0 0 0)) := by rw [hV]; exact hP
  have e1 : ¬ ((0 ≤ w ∧ w < M 7 5) ∧ 0 ≤ k ∧ k ≤ 2) → A_ward (vM M) w k = -2 := fun q => if_neg q
  have e2 : (0 ≤ w ∧ w < M 7 5) → (0 ≤ k ∧ k ≤ 2) → A_ward (vM M) w k = M 10 (3 * w + k).toNat := by
    intro q1 q2
    rw [show A_ward (vM M) w k = _ from if_pos ⟨q1, q2⟩]
    obtain ⟨v1, v2, v3⟩ := vM_w M (w := w.toNat) (by omega)
    rw [v1, v2, v3]
    by_cases e : k = 0
    · rw [if_pos e, e]
      congr 1
      omega
    · rw [if_neg e]
      by_cases e' : k = 1
      · rw [if_pos e', e']
        congr 1
        omega
      · rw [if_neg e']
        congr 1
        omega
  simp only [e_wp dX7_ward_0 rfl, e_wp dX7_ward_1 rfl, e_wp dX7_ward_2 rfl, e_wp dX7_ward_5 rfl, e_wp dX7_ward_6 rfl, e_wp dX7_ward_7 rfl, e_wp dX7_ward_8 rfl, e_wp dX7_ward_9 rfl, e_wp dX7_ward_12 rfl, e_wp dX7_ward_13 rfl, e_wp dX7_ward_14 rfl, e_wp dX7_ward_15 rfl, e_wp dX7_ward_16 rfl, e_wp dX7_ward_17 rfl, e_wp dX7_ward_20 rfl, e_wp dX7_ward_23 rfl, e_wp dX7_ward_24 rfl, e_wp dX7_ward_25 rfl, e_wp dX7_ward_26 rfl, e_wp dX7_ward_29 rfl, e_wp dX7_ward_32 rfl, e_wp dX7_ward_35 rfl, e_wp dX7_ward_36 rfl, e_wp dX7_ward_39 rfl, e_wp dX7_ward_40 rfl, e_wp dX7_ward_41 rfl, e_wp dX7_ward_42 rfl, e_wp dX7_ward_43 rfl, e_wp dX7_ward_44 rfl, e_wp dX7_ward_45 rfl, e_wp dX7_ward_48 rfl, e_wp dX7_ward_50 rfl, p7_116, g7_34, c7_in, P7_in, V7_in, cs7_ward, k7_345, g7_43, a7_1, w7_1, a7_2, w7_2, a7_3, w7_3, a7_4, w7_4, a7_5, w7_5, a7_6, w7_6, a7_7, w7_7, a7_8, w7_8, a7_9, w7_9, a7_10, w7_10, a7_11, w7_11, a7_12, w7_12, a7_13, w7_13, a7_14, w7_14, a7_15, w7_15, a7_16, w7_16, a7_17, w7_17, a7_18, w7_18, a7_19, w7_19, a7_20, w7_20, a7_21, w7_21, a7_22, w7_22, a7_23, w7_23, a7_24, w7_24, a7_25, w7_25, a7_26, w7_26, a7_27, w7_27, a7_28, w7_28, a7_29, w7_29, a7_30, w7_30, a7_31, w7_31, a7_32, w7_32, a7_33, w7_33, e_iconst, e_bipush, e_sipush, e_lconst_0, e_lconst_1, e_iload, e_iload_0, e_iload_1, e_iload_2, e_iload_3, e_lload, e_lload_0, e_lload_1, e_lload_2, e_lload_3, e_aload, e_aload_0, e_aload_1, e_aload_2, e_aload_3, e_istore, e_istore_0, e_istore_1, e_istore_2, e_istore_3, e_astore, e_astore_0, e_astore_1, e_astore_2, e_astore_3, e_lstore, e_lstore_0, e_lstore_1, e_lstore_2, e_lstore_3, e_iinc, e_iadd, e_isub, e_imul, e_ladd, e_lsub, e_lmul, e_idiv, e_irem, e_ldiv, e_lrem, e_ineg, e_lneg, e_iand, e_ior, e_ixor, e_ishl, e_ishr, e_iushr, e_lcmp, e_i2l, e_l2i, e_i2b, e_i2s, e_dup_i, e_dup_r, e_pop_i, e_pop_r, e_dup2_l, e_dup2_ir, e_dup2_ii, e_ifeq, e_ifne, e_iflt, e_ifge, e_ifgt, e_ifle, e_iceq, e_icne, e_iclt, e_icge, e_icgt, e_icle, e_goto, e_switch, e_invokevirtual, e_invokestatic, e_invokespecial, e_ret0, e_ret1, e_ret2, e_ret3, ldI_s, ldL_s, ldR_s, clO_s, ctP_s, ctS_s, mgo_0, mgo_s, pjc_s, pj_0, pj_s, lk_s, rm1_0, rm1_i, rm1_r, rm1_l, rm2_0, rm2_i, rm2_r, rm2_l, csL_s, lc_lt, lc_ge, lc_gt, lc_le, lc_eq, b01_0, b01_1, b01_01, b01_n, up2_o, up2_s, up2_u, ne_eq, reduceCtorEq, Nat.reduceAdd, Nat.reduceEqDiff, Nat.reduceLT, Nat.reduceLeDiff, Int.reduceLE, Int.reduceLT, Int.reduceAdd, Int.reduceNeg, Int.reduceMul, Int.reduceSub, Int.reduceEq, Int.reduceToNat, Int.reduceNatCast, Int.cast_ofNat_Int, ↓reduceIte, and_self, List.drop_succ_cons, List.drop_zero, List.take_succ_cons, List.take_zero, List.length_cons, List.length_nil, List.reverse_cons, List.reverse_nil, List.nil_append, List.cons_append, Option.toList, true_and, and_true, or_false, false_or, or_true, true_or, forall_const, Classical.not_not, not_false_eq_true, not_true_eq_false, false_implies, true_implies, implies_true, imp_self]
  (repeat' (first | (intro _) | (refine And.intro ?_ ?_))) <;> first | omega | exact hQ _ _ ⟨hk0, (e1 (by omega)).symm⟩ | exact hQ _ _ ⟨hk0, (e2 (by omega) (by omega)).symm⟩
set_option maxHeartbeats 4000000 in
set_option maxRecDepth 100000 in
theorem m7_ward : MOK cl7 sh7 tyl7 [] 1 yX7_ward cX7_ward 3 (some .int) sp7_ward := by
  refine mok_of (own := RX7) (tb := tb7 (csL cs7_ward)) (rt := 1) (fuel := 400) (fun avs M Q => []) (by decide) rfl nil_nw (tbOK7 _) rfl (csL_all ?_) ?_ ?_ ?_
  · intro q hq
    simp only [cs7_ward, List.mem_cons, List.not_mem_nil, or_false] at hq
    rcases hq with rfl
    · exact cg7_in (by decide)
  · intro avs M Q hsp
    obtain ⟨xs, hx⟩ := spR_un _ _ _ hsp
    obtain ⟨e, hl⟩ := unA_mkT hx
    obtain ⟨w, k, rfl⟩ := len2 hl
    have e : avs = [ar 0, ai w, ai k] := e
    subst e
    simp [szL, isL]
  · intro avs M Q hM hav hsp
    obtain ⟨xs, hx⟩ := spR_un _ _ _ hsp
    obtain ⟨e, hl⟩ := unA_mkT hx
    obtain ⟨w, k, rfl⟩ := len2 hl
    have e : avs = [ar 0, ai w, ai k] := e
    subst e
    exact in7_ward hM (hav (ai w) (by simp)) (hav (ai k) (by simp)) hsp.1 hsp.2
  · intro avs M Q hM hav hsp q hq m_ vs M1 hM1 hv hJ
    obtain ⟨xs, hx⟩ := spR_un _ _ _ hsp
    obtain ⟨e, hl⟩ := unA_mkT hx
    obtain ⟨w, k, rfl⟩ := len2 hl
    have e : avs = [ar 0, ai w, ai k] := e
    subst e
    cases hq
def A_cold (V : Vy) (c : Int) : Int := if isC V c then b01 (bitP (coldF V (V 0 7).toNat) c) else -2
def P7_cold (c : Int) (M : Mm) : Prop := okY (vM M)
def R7_cold (c : Int) (M : Mm) (v : Int) (M1 : Mm) : Prop := keepM M M1 ∧ v = A_cold (vM M) c
def sp7_cold : Spec := spR true [0] 1 (fun x M => P7_cold (x 0) M) (fun x M v M1 => R7_cold (x 0) M v M1)
theorem c7_cold {c : Int} {M : Mm} {Q : Option AV → Mm → Prop} : sp7_cold [ar 0, ai c] M Q = (P7_cold c M ∧ ∀ (v : Int) (M1 : Mm), R7_cold c M v M1 → Q (some (ai v)) M1) := rfl
def cs7_cold : List (Nat × Nat × Nat × Spec) := [(289, 1, 2, sp7_isCart), (330, 1, 1, sp7_lays), (307, 0, 2, sp7_isBit)]
set_option maxHeartbeats 4000000 in
set_option maxRecDepth 100000 in
theorem in7_cold {c : Int} {M : Mm} {Q : Option AV → Mm → Prop} (hM : okM sh7 M) (h_c : i32 c) (hP : P7_cold c M) (hQ : ∀ (v : Int) (M1 : Mm), R7_cold c M v M1 → Q (some (ai v)) M1) : wp (tb7 (csL cs7_cold)) sh7 2 1 cX7_cold [] Q 400 0 [(0, ar 0), (1, ai c)] [] M := by
  have h4 : 0 ≤ M 7 4 ∧ M 7 4 ≤ 7 := hP.2.2.2.2.1
  have h3 : 0 ≤ M 7 3 ∧ M 7 3 ≤ 3 := hP.2.2.2.1
  have h5 : 0 ≤ M 7 5 ∧ M 7 5 ≤ 5 := hP.2.2.2.2.2.1
  have hk0 : keepM M (up2 M 0 0 0) := keep_u0 keep_rf (by decide)
  have hV : vM (up2 M 0 0 0) = vM M := keep_v hk0 0
  have hP0 : okY (vM (up2 M 0 0 0)) := by rw [hV]; exact hP
  simp only [e_wp dX7_cold_0 rfl, e_wp dX7_cold_1 rfl, e_wp dX7_cold_2 rfl, e_wp dX7_cold_5 rfl, e_wp dX7_cold_6 rfl, e_wp dX7_cold_7 rfl, e_wp dX7_cold_8 rfl, e_wp dX7_cold_11 rfl, e_wp dX7_cold_14 rfl, e_wp dX7_cold_16 rfl, e_wp dX7_cold_17 rfl, e_wp dX7_cold_18 rfl, e_wp dX7_cold_21 rfl, e_wp dX7_cold_22 rfl, e_wp dX7_cold_25 rfl, e_wp dX7_cold_26 rfl, e_wp dX7_cold_29 rfl, e_wp dX7_cold_32 rfl, e_wp dX7_cold_33 rfl, e_wp dX7_cold_36 rfl, e_wp dX7_cold_37 rfl, p7_116, c7_isCart, P7_isCart, V7_isCart, cs7_cold, c7_lays, g7_298, c7_isBit, P7_isBit, V7_isBit, e_iconst, e_bipush, e_sipush, e_lconst_0, e_lconst_1, e_iload, e_iload_0, e_iload_1, e_iload_2, e_iload_3, e_lload, e_lload_0, e_lload_1, e_lload_2, e_lload_3, e_aload, e_aload_0, e_aload_1, e_aload_2, e_aload_3, e_istore, e_istore_0, e_istore_1, e_istore_2, e_istore_3, e_astore, e_astore_0, e_astore_1, e_astore_2, e_astore_3, e_lstore, e_lstore_0, e_lstore_1, e_lstore_2, e_lstore_3, e_iinc, e_iadd, e_isub, e_imul, e_ladd, e_lsub, e_lmul, e_idiv, e_irem, e_ldiv, e_lrem, e_ineg, e_lneg, e_iand, e_ior, e_ixor, e_ishl, e_ishr, e_iushr, e_lcmp, e_i2l, e_l2i, e_i2b, e_i2s, e_dup_i, e_dup_r, e_pop_i, e_pop_r, e_dup2_l, e_dup2_ir, e_dup2_ii, e_ifeq, e_ifne, e_iflt, e_ifge, e_ifgt, e_ifle, e_iceq, e_icne, e_iclt, e_icge, e_icgt, e_icle, e_goto, e_switch, e_invokevirtual, e_invokestatic, e_invokespecial, e_ret0, e_ret1, e_ret2, e_ret3, ldI_s, ldL_s, ldR_s, clO_s, ctP_s, ctS_s, mgo_0, mgo_s, pjc_s, pj_0, pj_s, lk_s, rm1_0, rm1_i, rm1_r, rm1_l, rm2_0, rm2_i, rm2_r, rm2_l, csL_s, lc_lt, lc_ge, lc_gt, lc_le, lc_eq, b01_0, b01_1, b01_01, b01_n, up2_o, up2_s, up2_u, ne_eq, reduceCtorEq, Nat.reduceAdd, Nat.reduceEqDiff, Nat.reduceLT, Nat.reduceLeDiff, Int.reduceLE, Int.reduceLT, Int.reduceAdd, Int.reduceNeg, Int.reduceMul, Int.reduceSub, Int.reduceEq, Int.reduceToNat, Int.reduceNatCast, Int.cast_ofNat_Int, ↓reduceIte, and_self, List.drop_succ_cons, List.drop_zero, List.take_succ_cons, List.take_zero, List.length_cons, List.length_nil, List.reverse_cons, List.reverse_nil, List.nil_append, List.cons_append, Option.toList, true_and, and_true, or_false, false_or, or_true, true_or, forall_const, Classical.not_not, not_false_eq_true, not_true_eq_false, false_implies, true_implies, implies_true, imp_self]
  refine ⟨h4, fun q => ⟨hP0, fun M1 hR => ?_⟩, fun q => hQ _ _ ⟨hk0, (if_neg q).symm⟩⟩
  obtain ⟨r1, r2, r3⟩ := hR
  have hk := keep_tr hk0 (keep_tell r1 r2)
  rw [hV] at r3
  have e : M1 0 25 = coldF (vM M) (vM M 0 7).toNat := congrFun (congrFun r3 0) 1
  have eA : A_cold (vM M) c = b01 (bitP (coldF (vM M) (vM M 0 7).toNat) c) := if_pos q
  rw [← e] at eA
  refine ⟨fun z => hQ _ _ ⟨hk, ?_⟩, fun z => hQ _ _ ⟨hk, ?_⟩⟩
  · rw [eA]; first | exact (b01_t z).symm | exact (b01_f z).symm
  · rw [eA]; first | exact (b01_t z).symm | exact (b01_f z).symm
set_option maxHeartbeats 4000000 in
set_option maxRecDepth 100000 in
theorem m7_cold : MOK cl7 sh7 tyl7 [] 2 yX7_cold cX7_cold 2 (some .int) sp7_cold := by
  refine mok_of (own := RX7) (tb := tb7 (csL cs7_cold)) (rt := 1) (fuel := 400) (fun avs M Q => []) (by decide) rfl nil_nw (tbOK7 _) rfl (csL_all ?_) ?_ ?_ ?_
  · intro q hq
    simp only [cs7_cold, List.mem_cons, List.not_mem_nil, or_false] at hq
    rcases hq with rfl | rfl | rfl
    · exact cg7_isCart (by decide)
    · exact cg7_lays (by decide)
    · exact cg7_isBit (by decide)
  · intro avs M Q hsp
    obtain ⟨xs, hx⟩ := spR_un _ _ _ hsp
    obtain ⟨e, hl⟩ := unA_mkT hx
    obtain ⟨c, rfl⟩ := len1 hl
    have e : avs = [ar 0, ai c] := e
    subst e
    simp [szL, isL]
  · intro avs M Q hM hav hsp
    obtain ⟨xs, hx⟩ := spR_un _ _ _ hsp
    obtain ⟨e, hl⟩ := unA_mkT hx
    obtain ⟨c, rfl⟩ := len1 hl
    have e : avs = [ar 0, ai c] := e
    subst e
    exact in7_cold hM (hav (ai c) (by simp)) hsp.1 hsp.2
  · intro avs M Q hM hav hsp q hq m_ vs M1 hM1 hv hJ
    obtain ⟨xs, hx⟩ := spR_un _ _ _ hsp
    obtain ⟨e, hl⟩ := unA_mkT hx
    obtain ⟨c, rfl⟩ := len1 hl
    have e : avs = [ar 0, ai c] := e
    subst e
    cases hq
/-! a load besides -/
theorem last_fst {l l' : List Pr} (h : l.map Prod.fst = l'.map Prod.fst) : lastP l = lastP l' := by
  cases l with
  | nil => cases l' with
    | nil => rfl
    | cons y l' => cases h
  | cons x l => cases l' with
    | nil => cases h
    | cons y l' => exact (List.cons.inj h).1
theorem sag_fst : ∀ {l l' : List Pr}, l.map Prod.fst = l'.map Prod.fst → sagP l = sagP l' := by
  intro l
  induction l with
  | nil => intro l' h; cases l' with
    | nil => rfl
    | cons y l' => cases h
  | cons x l ih =>
    intro l' h
    cases l' with
    | nil => cases h
    | cons y l' =>
      obtain ⟨h1, h2⟩ := List.cons.inj h
      have h3 : l.length = l'.length := by simpa using congrArg List.length h2
      have h1 : x.1 = y.1 := h1
      show sagP l + x.1.tdiv _ = sagP l' + y.1.tdiv _
      rw [ih h2, h1, h3]
theorem pop_fst {ld : Int} : ∀ {l l' : List Pr}, l.map Prod.fst = l'.map Prod.fst → (popP ld l).map Prod.fst = (popP ld l').map Prod.fst := by
  intro l
  induction l with
  | nil => intro l' h; cases l' with
    | nil => rfl
    | cons y l' => cases h
  | cons x l ih =>
    intro l' h
    cases l' with
    | nil => cases h
    | cons y l' =>
      obtain ⟨h1, h2⟩ := List.cons.inj h
      have h1 : x.1 = y.1 := h1
      show (if x.1 ≤ ld then popP ld l else x :: l).map Prod.fst = (if y.1 ≤ ld then popP ld l' else y :: l').map Prod.fst
      rw [h1]
      split
      · exact ih h2
      · exact h
theorem ne_fst {l l' : List Pr} (h : l.map Prod.fst = l'.map Prod.fst) : l ≠ [] ↔ l' ≠ [] := by
  cases l <;> cases l' <;> simp at h ⊢
theorem cross_1 {law ld w : Int} {l : List Pr} (h : law = 2 ∧ l ≠ [] ∧ 2 * ld ≤ lastP l) : crossP law ld w l = (l, 0) := if_pos h
theorem cross_2 {law ld w : Int} {l : List Pr} (h1 : ¬ (law = 2 ∧ l ≠ [] ∧ 2 * ld ≤ lastP l)) (h2 : (law = 1 ∨ (law = 3 ∧ ld.tmod 2 = 1)) ∧ l ≠ [] ∧ 2 * ld < lastP l) : crossP law ld w l = (l.tail, 1) := by
  unfold crossP
  rw [if_neg h1, if_pos h2]
theorem cross_3 {law ld w : Int} {l : List Pr} (h1 : ¬ (law = 2 ∧ l ≠ [] ∧ 2 * ld ≤ lastP l)) (h2 : ¬ ((law = 1 ∨ (law = 3 ∧ ld.tmod 2 = 1)) ∧ l ≠ [] ∧ 2 * ld < lastP l)) : crossP law ld w l = ((ld, w) :: popP ld l, (l.length : Int) - (popP ld l).length) := by
  unfold crossP
  rw [if_neg h1, if_neg h2]
theorem cross_fst {law ld w w' : Int} {l l' : List Pr} (h : l.map Prod.fst = l'.map Prod.fst) : (crossP law ld w l).1.map Prod.fst = (crossP law ld w' l').1.map Prod.fst ∧ (crossP law ld w l).2 = (crossP law ld w' l').2 := by
  have hl : l.length = l'.length := by simpa using congrArg List.length h
  have hp := pop_fst (ld := ld) h
  have hpl : (popP ld l).length = (popP ld l').length := by simpa using congrArg List.length hp
  have hn := ne_fst h
  have hla := last_fst h
  by_cases q1 : law = 2 ∧ l ≠ [] ∧ 2 * ld ≤ lastP l
  · rw [cross_1 q1, cross_1 ⟨q1.1, hn.mp q1.2.1, hla ▸ q1.2.2⟩]
    exact ⟨h, rfl⟩
  · have q1' : ¬ (law = 2 ∧ l' ≠ [] ∧ 2 * ld ≤ lastP l') := fun z => q1 ⟨z.1, hn.mpr z.2.1, hla ▸ z.2.2⟩
    by_cases q2 : (law = 1 ∨ (law = 3 ∧ ld.tmod 2 = 1)) ∧ l ≠ [] ∧ 2 * ld < lastP l
    · rw [cross_2 q1 q2, cross_2 q1' ⟨q2.1, hn.mp q2.2.1, hla ▸ q2.2.2⟩]
      refine ⟨?_, rfl⟩
      show l.tail.map Prod.fst = l'.tail.map Prod.fst
      rw [List.map_tail, List.map_tail, h]
    · rw [cross_3 q1 q2, cross_3 q1' (fun z => q2 ⟨z.1, hn.mpr z.2.1, hla ▸ z.2.2⟩)]
      refine ⟨?_, by rw [hl, hpl]⟩
      show ld :: (popP ld l).map Prod.fst = ld :: (popP ld l').map Prod.fst
      rw [hp]
/-- what a turn's memory holds, by its tables -/
def turnT (M : Mm) (b t : Int) (l : List Pr) : Prop := (l.length ≤ 7 ∧ okL l) ∧ M 27 (3 * t + b).toNat = l.length ∧ M 28 (3 * t + b).toNat = sagP l ∧ stk (fun k => M 29 (8 * (3 * t + b) + k).toNat) l.length = l.map Prod.fst
def P7_sagWith (b : Int) (t : Int) (load : Int) (M : Mm) : Prop := ((0 ≤ b ∧ b < 3) ∧ (0 ≤ t ∧ t < 7) ∧ (1 ≤ load ∧ load ≤ 99) ∧ 0 ≤ M 0 24 ∧ M 0 24 ≤ 3) ∧ ∃ l, turnT M b t l
def R7_sagWith (b : Int) (t : Int) (load : Int) (M : Mm) (v : Int) (M1 : Mm) : Prop := frm [17, 18, 19] M M1 ∧ ∀ l, turnT M b t l → v = sagP (crossP (M 0 24) load 0 l).1
def sp7_sagWith : Spec := spR true [0, 0, 0] 1 (fun x M => P7_sagWith (x 0) (x 1) (x 2) M) (fun x M v M1 => R7_sagWith (x 0) (x 1) (x 2) M v M1)
theorem c7_sagWith {b t load : Int} {M : Mm} {Q : Option AV → Mm → Prop} : sp7_sagWith [ar 0, ai b, ai t, ai load] M Q = (P7_sagWith b t load M ∧ ∀ (v : Int) (M1 : Mm), R7_sagWith b t load M v M1 → Q (some (ai v)) M1) := rfl
def cs7_sagWith : List (Nat × Nat × Nat × Spec) := [(320, 1, 4, sp7_crosses), (317, 1, 2, sp7_sagOf)]
def J7_sagWith_19 (b : Int) (t : Int) (load : Int) (M : Mm) (m : Nat) (b_ : Int) (t_ : Int) (l_ : Int) (k : Int) (M1 : Mm) : Prop := b = b_ ∧ t = t_ ∧ load = l_ ∧ frm [17, 18, 19] M M1 ∧ M1 19 b.toNat = M 27 (3 * t + b).toNat ∧ ∃ a : Nat, k = a ∧ (a : Int) ≤ M 27 (3 * t + b).toNat ∧ (∀ j : Nat, j < a → M1 17 (8 * b + j).toNat = M 29 (8 * (3 * t + b) + j).toNat) ∧ m = 8 - a
set_option maxHeartbeats 4000000 in
set_option maxRecDepth 100000 in
theorem in7_sagWith {b t load : Int} {M : Mm} {Q : Option AV → Mm → Prop} (hM : okM sh7 M) (h_b : i32 b) (h_t : i32 t) (h_load : i32 load) (hP : P7_sagWith b t load M) (hQ : ∀ (v : Int) (M1 : Mm), R7_sagWith b t load M v M1 → Q (some (ai v)) M1) (I_19 : List AV → Mm → Prop) (hI_19 : ∀ (m_ : Nat) (y_b_ : Int) (y_t_ : Int) (y_l_ : Int) (y_k : Int) (M2 : Mm), J7_sagWith_19 b t load M m_ y_b_ y_t_ y_l_ y_k M2 → I_19 [ar 0, ai y_b_, ai y_t_, ai y_l_, ai y_k] M2) : wp (tb7 (csL cs7_sagWith)) sh7 5 1 cX7_sagWith [(19, [0, 1, 2, 3, 4], I_19)] Q 400 0 [(0, ar 0), (1, ai b), (2, ai t), (3, ai load)] [] M := by
  obtain ⟨⟨h1, h2, h3, h4⟩, l, ⟨h5, h6⟩, h7, h8⟩ := id hP
  simp only [e_wp dX7_sagWith_0 rfl, e_wp dX7_sagWith_1 rfl, e_wp dX7_sagWith_4 rfl, e_wp dX7_sagWith_5 rfl, e_wp dX7_sagWith_6 rfl, e_wp dX7_sagWith_9 rfl, e_wp dX7_sagWith_10 rfl, e_wp dX7_sagWith_11 rfl, e_wp dX7_sagWith_12 rfl, e_wp dX7_sagWith_13 rfl, e_wp dX7_sagWith_14 rfl, e_wp dX7_sagWith_15 rfl, e_wp dX7_sagWith_16 rfl, e_wp dX7_sagWith_17 rfl, e_wp dX7_sagWith_19 rfl, e_wp dX7_sagWith_21 rfl, e_wp dX7_sagWith_22 rfl, e_wp dX7_sagWith_25 rfl, e_wp dX7_sagWith_26 rfl, e_wp dX7_sagWith_27 rfl, e_wp dX7_sagWith_30 rfl, e_wp dX7_sagWith_31 rfl, e_wp dX7_sagWith_34 rfl, e_wp dX7_sagWith_36 rfl, e_wp dX7_sagWith_37 rfl, e_wp dX7_sagWith_38 rfl, e_wp dX7_sagWith_40 rfl, e_wp dX7_sagWith_41 rfl, e_wp dX7_sagWith_42 rfl, e_wp dX7_sagWith_45 rfl, e_wp dX7_sagWith_47 rfl, e_wp dX7_sagWith_48 rfl, e_wp dX7_sagWith_49 rfl, e_wp dX7_sagWith_50 rfl, e_wp dX7_sagWith_51 rfl, e_wp dX7_sagWith_52 rfl, e_wp dX7_sagWith_53 rfl, e_wp dX7_sagWith_55 rfl, e_wp dX7_sagWith_56 rfl, e_wp dX7_sagWith_57 rfl, e_wp dX7_sagWith_58 rfl, e_wp dX7_sagWith_61 rfl, e_wp dX7_sagWith_64 rfl, e_wp dX7_sagWith_65 rfl, e_wp dX7_sagWith_66 rfl, e_wp dX7_sagWith_67 rfl, e_wp dX7_sagWith_68 rfl, e_wp dX7_sagWith_71 rfl, e_wp dX7_sagWith_72 rfl, e_wp dX7_sagWith_73 rfl, e_wp dX7_sagWith_74 rfl, e_wp dX7_sagWith_77 rfl, g7_71, g7_95, g7_65, g7_101, c7_crosses, cs7_sagWith, c7_sagOf, P7_sagOf, V7_sagOf, a7_1, w7_1, a7_2, w7_2, a7_3, w7_3, a7_4, w7_4, a7_5, w7_5, a7_6, w7_6, a7_7, w7_7, a7_8, w7_8, a7_9, w7_9, a7_10, w7_10, a7_11, w7_11, a7_12, w7_12, a7_13, w7_13, a7_14, w7_14, a7_15, w7_15, a7_16, w7_16, a7_17, w7_17, a7_18, w7_18, a7_19, w7_19, a7_20, w7_20, a7_21, w7_21, a7_22, w7_22, a7_23, w7_23, a7_24, w7_24, a7_25, w7_25, a7_26, w7_26, a7_27, w7_27, a7_28, w7_28, a7_29, w7_29, a7_30, w7_30, a7_31, w7_31, a7_32, w7_32, a7_33, w7_33, e_iconst, e_bipush, e_sipush, e_lconst_0, e_lconst_1, e_iload, e_iload_0, e_iload_1, e_iload_2, e_iload_3, e_lload, e_lload_0, e_lload_1, e_lload_2, e_lload_3, e_aload, e_aload_0, e_aload_1, e_aload_2, e_aload_3, e_istore, e_istore_0, e_istore_1, e_istore_2, e_istore_3, e_astore, e_astore_0, e_astore_1, e_astore_2, e_astore_3, e_lstore, e_lstore_0, e_lstore_1, e_lstore_2, e_lstore_3, e_iinc, e_iadd, e_isub, e_imul, e_ladd, e_lsub, e_lmul, e_idiv, e_irem, e_ldiv, e_lrem, e_ineg, e_lneg, e_iand, e_ior, e_ixor, e_ishl, e_ishr, e_iushr, e_lcmp, e_i2l, e_l2i, e_i2b, e_i2s, e_dup_i, e_dup_r, e_pop_i, e_pop_r, e_dup2_l, e_dup2_ir, e_dup2_ii, e_ifeq, e_ifne, e_iflt, e_ifge, e_ifgt, e_ifle, e_iceq, e_icne, e_iclt, e_icge, e_icgt, e_icle, e_goto, e_switch, e_invokevirtual, e_invokestatic, e_invokespecial, e_ret0, e_ret1, e_ret2, e_ret3, ldI_s, ldL_s, ldR_s, clO_s, ctP_s, ctS_s, mgo_0, mgo_s, pjc_s, pj_0, pj_s, lk_s, rm1_0, rm1_i, rm1_r, rm1_l, rm2_0, rm2_i, rm2_r, rm2_l, csL_s, lc_lt, lc_ge, lc_gt, lc_le, lc_eq, b01_0, b01_1, b01_01, b01_n, up2_o, up2_s, up2_u, ne_eq, reduceCtorEq, Nat.reduceAdd, Nat.reduceEqDiff, Nat.reduceLT, Nat.reduceLeDiff, Int.reduceLE, Int.reduceLT, Int.reduceAdd, Int.reduceNeg, Int.reduceMul, Int.reduceSub, Int.reduceEq, Int.reduceToNat, Int.reduceNatCast, Int.cast_ofNat_Int, ↓reduceIte, and_self, List.drop_succ_cons, List.drop_zero, List.take_succ_cons, List.take_zero, List.length_cons, List.length_nil, List.reverse_cons, List.reverse_nil, List.nil_append, List.cons_append, Option.toList, true_and, and_true, or_false, false_or, or_true, true_or, forall_const, Classical.not_not, not_false_eq_true, not_true_eq_false, false_implies, true_implies, implies_true, imp_self]
  repeat (refine And.intro (by omega) ?_)
  exact hI_19 _ _ _ _ _ _ ⟨rfl, rfl, rfl, frm_up frm_rf (by decide), up2_s, 0, rfl, by omega, fun j hj => by omega, rfl⟩
set_option maxHeartbeats 4000000 in
set_option maxRecDepth 100000 in
theorem at7_sagWith_19 {b t load : Int} {M : Mm} {Q : Option AV → Mm → Prop} (hM : okM sh7 M) (h_b : i32 b) (h_t : i32 t) (h_load : i32 load) (hP : P7_sagWith b t load M) (hQ : ∀ (v : Int) (M1 : Mm), R7_sagWith b t load M v M1 → Q (some (ai v)) M1) {m : Nat} {b_ t_ l_ k : Int} {M1 : Mm} (hM1 : okM sh7 M1) (h_b_ : i32 b_) (h_t_ : i32 t_) (h_l_ : i32 l_) (h_k : i32 k) (hJ : J7_sagWith_19 b t load M m b_ t_ l_ k M1) (I_19 : List AV → Mm → Prop) (hI_19 : ∀ (m_ : Nat) (y_b_ : Int) (y_t_ : Int) (y_l_ : Int) (y_k : Int) (M2 : Mm), m_ < m → J7_sagWith_19 b t load M m_ y_b_ y_t_ y_l_ y_k M2 → I_19 [ar 0, ai y_b_, ai y_t_, ai y_l_, ai y_k] M2) : wp (tb7 (csL cs7_sagWith)) sh7 5 1 cX7_sagWith [(19, [0, 1, 2, 3, 4], I_19)] Q 400 19 [(0, ar 0), (1, ai b_), (2, ai t_), (3, ai l_), (4, ai k)] [] M1 := by
  obtain ⟨rfl, rfl, rfl, hf, hd, a, rfl, ha, hm, rfl⟩ := hJ
  obtain ⟨⟨h1, h2, h3, h4⟩, l, ⟨h5, h6⟩, h7, h8, h9⟩ := id hP
  have e27 : M1 27 = M 27 := hf _ (by decide)
  have e29 : M1 29 = M 29 := hf _ (by decide)
  have e0 : M1 0 = M 0 := hf _ (by decide)
  simp only [e_wp dX7_sagWith_0 rfl, e_wp dX7_sagWith_1 rfl, e_wp dX7_sagWith_4 rfl, e_wp dX7_sagWith_5 rfl, e_wp dX7_sagWith_6 rfl, e_wp dX7_sagWith_9 rfl, e_wp dX7_sagWith_10 rfl, e_wp dX7_sagWith_11 rfl, e_wp dX7_sagWith_12 rfl, e_wp dX7_sagWith_13 rfl, e_wp dX7_sagWith_14 rfl, e_wp dX7_sagWith_15 rfl, e_wp dX7_sagWith_16 rfl, e_wp dX7_sagWith_17 rfl, e_wp dX7_sagWith_19 rfl, e_wp dX7_sagWith_21 rfl, e_wp dX7_sagWith_22 rfl, e_wp dX7_sagWith_25 rfl, e_wp dX7_sagWith_26 rfl, e_wp dX7_sagWith_27 rfl, e_wp dX7_sagWith_30 rfl, e_wp dX7_sagWith_31 rfl, e_wp dX7_sagWith_34 rfl, e_wp dX7_sagWith_36 rfl, e_wp dX7_sagWith_37 rfl, e_wp dX7_sagWith_38 rfl, e_wp dX7_sagWith_40 rfl, e_wp dX7_sagWith_41 rfl, e_wp dX7_sagWith_42 rfl, e_wp dX7_sagWith_45 rfl, e_wp dX7_sagWith_47 rfl, e_wp dX7_sagWith_48 rfl, e_wp dX7_sagWith_49 rfl, e_wp dX7_sagWith_50 rfl, e_wp dX7_sagWith_51 rfl, e_wp dX7_sagWith_52 rfl, e_wp dX7_sagWith_53 rfl, e_wp dX7_sagWith_55 rfl, e_wp dX7_sagWith_56 rfl, e_wp dX7_sagWith_57 rfl, e_wp dX7_sagWith_58 rfl, e_wp dX7_sagWith_61 rfl, e_wp dX7_sagWith_64 rfl, e_wp dX7_sagWith_65 rfl, e_wp dX7_sagWith_66 rfl, e_wp dX7_sagWith_67 rfl, e_wp dX7_sagWith_68 rfl, e_wp dX7_sagWith_71 rfl, e_wp dX7_sagWith_72 rfl, e_wp dX7_sagWith_73 rfl, e_wp dX7_sagWith_74 rfl, e_wp dX7_sagWith_77 rfl, g7_71, g7_95, g7_65, g7_101, c7_crosses, cs7_sagWith, c7_sagOf, P7_sagOf, V7_sagOf, a7_1, w7_1, a7_2, w7_2, a7_3, w7_3, a7_4, w7_4, a7_5, w7_5, a7_6, w7_6, a7_7, w7_7, a7_8, w7_8, a7_9, w7_9, a7_10, w7_10, a7_11, w7_11, a7_12, w7_12, a7_13, w7_13, a7_14, w7_14, a7_15, w7_15, a7_16, w7_16, a7_17, w7_17, a7_18, w7_18, a7_19, w7_19, a7_20, w7_20, a7_21, w7_21, a7_22, w7_22, a7_23, w7_23, a7_24, w7_24, a7_25, w7_25, a7_26, w7_26, a7_27, w7_27, a7_28, w7_28, a7_29, w7_29, a7_30, w7_30, a7_31, w7_31, a7_32, w7_32, a7_33, w7_33, e_iconst, e_bipush, e_sipush, e_lconst_0, e_lconst_1, e_iload, e_iload_0, e_iload_1, e_iload_2, e_iload_3, e_lload, e_lload_0, e_lload_1, e_lload_2, e_lload_3, e_aload, e_aload_0, e_aload_1, e_aload_2, e_aload_3, e_istore, e_istore_0, e_istore_1, e_istore_2, e_istore_3, e_astore, e_astore_0, e_astore_1, e_astore_2, e_astore_3, e_lstore, e_lstore_0, e_lstore_1, e_lstore_2, e_lstore_3, e_iinc, e_iadd, e_isub, e_imul, e_ladd, e_lsub, e_lmul, e_idiv, e_irem, e_ldiv, e_lrem, e_ineg, e_lneg, e_iand, e_ior, e_ixor, e_ishl, e_ishr, e_iushr, e_lcmp, e_i2l, e_l2i, e_i2b, e_i2s, e_dup_i, e_dup_r, e_pop_i, e_pop_r, e_dup2_l, e_dup2_ir, e_dup2_ii, e_ifeq, e_ifne, e_iflt, e_ifge, e_ifgt, e_ifle, e_iceq, e_icne, e_iclt, e_icge, e_icgt, e_icle, e_goto, e_switch, e_invokevirtual, e_invokestatic, e_invokespecial, e_ret0, e_ret1, e_ret2, e_ret3, ldI_s, ldL_s, ldR_s, clO_s, ctP_s, ctS_s, mgo_0, mgo_s, pjc_s, pj_0, pj_s, lk_s, rm1_0, rm1_i, rm1_r, rm1_l, rm2_0, rm2_i, rm2_r, rm2_l, csL_s, lc_lt, lc_ge, lc_gt, lc_le, lc_eq, b01_0, b01_1, b01_01, b01_n, up2_o, up2_s, up2_u, ne_eq, reduceCtorEq, Nat.reduceAdd, Nat.reduceEqDiff, Nat.reduceLT, Nat.reduceLeDiff, Int.reduceLE, Int.reduceLT, Int.reduceAdd, Int.reduceNeg, Int.reduceMul, Int.reduceSub, Int.reduceEq, Int.reduceToNat, Int.reduceNatCast, Int.cast_ofNat_Int, ↓reduceIte, and_self, List.drop_succ_cons, List.drop_zero, List.take_succ_cons, List.take_zero, List.length_cons, List.length_nil, List.reverse_cons, List.reverse_nil, List.nil_append, List.cons_append, Option.toList, true_and, and_true, or_false, false_or, or_true, true_or, forall_const, Classical.not_not, not_false_eq_true, not_true_eq_false, false_implies, true_implies, implies_true, imp_self, hd, e29]
  refine ⟨by omega, fun q => ?_, fun q => ?_⟩
  · have ea : a = l.length := by omega
    have hmf : (mb M1 b).map Prod.fst = l.map Prod.fst := by
      rw [← h9]
      show (stk (mf M1 b) (M1 19 b.toNat).toNat).map Prod.fst = _
      rw [hd, show (M 27 (3 * t + b).toNat).toNat = a by omega, ← ea]
      have key : ∀ n : Nat, n ≤ a → (stk (mf M1 b) n).map Prod.fst = stk (fun k => M 29 (8 * (3 * t + b) + k).toNat) n := by
        intro n
        induction n with
        | zero => intro _; rfl
        | succ n ih =>
          intro hn
          show (mf M1 b n).1 :: (stk (mf M1 b) n).map Prod.fst = _ :: _
          rw [ih (by omega)]
          congr 1
          exact hm n (by omega)
      exact key a (Nat.le_refl _)
    have ob : okB M1 b := by
      refine ⟨h1, by omega, ?_⟩
      intro x hx
      have : x.1 ∈ (mb M1 b).map Prod.fst := List.mem_map.mpr ⟨x, hx, rfl⟩
      rw [hmf] at this
      obtain ⟨y, hy, e⟩ := List.mem_map.mp this
      rw [← e]
      exact h6 y hy
    refine ⟨⟨ob, by omega, h3, by rw [e0]; exact h4⟩, fun v M2 hR => ?_⟩
    obtain ⟨r1, r2, r3, r4, -⟩ := hR
    refine ⟨r3, hQ _ _ ⟨frm_tr hf r4 (by decide), fun l' hl' => ?_⟩⟩
    obtain ⟨⟨g5, g6⟩, g7, g8, g9⟩ := hl'
    have el : l'.length = l.length := by omega
    have em : l'.map Prod.fst = l.map Prod.fst := by rw [← g9, ← h9, el]
    rw [r2, e0]
    exact sag_fst (cross_fst (hmf.trans em.symm)).1
  · repeat (refine And.intro (by omega) ?_)
    refine hI_19 (8 - (a + 1)) _ _ _ _ _ (by omega) ⟨rfl, rfl, rfl, frm_up hf (by decide), by rw [up2_o (by decide)]; exact hd, a + 1, by omega, by omega, fun j hj => ?_, rfl⟩
    by_cases e : j = a
    · rw [e, up2_s]
    · rw [up2_n (by omega)]
      exact hm j (by omega)
set_option maxHeartbeats 4000000 in
set_option maxRecDepth 100000 in
theorem m7_sagWith : MOK cl7 sh7 tyl7 [] 2 yX7_sagWith cX7_sagWith 5 (some .int) sp7_sagWith := by
  refine mok_of (own := RX7) (tb := tb7 (csL cs7_sagWith)) (rt := 1) (fuel := 400) (fun avs M Q => [(19, [0, 1, 2, 3, 4], fun m_ vs M1 => ∃ y_b_ : Int, ∃ y_t_ : Int, ∃ y_l_ : Int, ∃ y_k : Int, vs = [ar 0, ai y_b_, ai y_t_, ai y_l_, ai y_k] ∧ J7_sagWith_19 (pa true [0, 0, 0] avs 0) (pa true [0, 0, 0] avs 1) (pa true [0, 0, 0] avs 2) M m_ y_b_ y_t_ y_l_ y_k M1)]) (by decide) rfl nil_nw (tbOK7 _) rfl (csL_all ?_) ?_ ?_ ?_
  · intro q hq
    simp only [cs7_sagWith, List.mem_cons, List.not_mem_nil, or_false] at hq
    rcases hq with rfl | rfl
    · exact cg7_crosses (by decide)
    · exact cg7_sagOf (by decide)
  · intro avs M Q hsp
    obtain ⟨xs, hx⟩ := spR_un _ _ _ hsp
    obtain ⟨e, hl⟩ := unA_mkT hx
    obtain ⟨b, t, load, rfl⟩ := len3 hl
    have e : avs = [ar 0, ai b, ai t, ai load] := e
    subst e
    simp [szL, isL]
  · intro avs M Q hM hav hsp
    obtain ⟨xs, hx⟩ := spR_un _ _ _ hsp
    obtain ⟨e, hl⟩ := unA_mkT hx
    obtain ⟨b, t, load, rfl⟩ := len3 hl
    have e : avs = [ar 0, ai b, ai t, ai load] := e
    subst e
    exact in7_sagWith hM (hav (ai b) (by simp)) (hav (ai t) (by simp)) (hav (ai load) (by simp)) hsp.1 hsp.2 _ (fun m_ y_b_ y_t_ y_l_ y_k M2 hJ => ⟨m_, y_b_, y_t_, y_l_, y_k, rfl, hJ⟩)
  · intro avs M Q hM hav hsp q hq m_ vs M1 hM1 hv hJ
    obtain ⟨xs, hx⟩ := spR_un _ _ _ hsp
    obtain ⟨e, hl⟩ := unA_mkT hx
    obtain ⟨b, t, load, rfl⟩ := len3 hl
    have e : avs = [ar 0, ai b, ai t, ai load] := e
    subst e
    simp only [List.mem_cons, List.not_mem_nil, or_false] at hq
    rcases hq with rfl
    · obtain ⟨y_b_, y_t_, y_l_, y_k, rfl, hJ⟩ := hJ
      exact at7_sagWith_19 hM (hav (ai b) (by simp)) (hav (ai t) (by simp)) (hav (ai load) (by simp)) hsp.1 hsp.2 hM1 (hv (1, ai y_b_) (List.mem_of_getElem? (i := 1) rfl)) (hv (2, ai y_t_) (List.mem_of_getElem? (i := 2) rfl)) (hv (3, ai y_l_) (List.mem_of_getElem? (i := 3) rfl)) (hv (4, ai y_k) (List.mem_of_getElem? (i := 4) rfl)) hJ _ (fun m2 z_b_ z_t_ z_l_ z_k M2 hm hJ2 => ⟨m2, hm, z_b_, z_t_, z_l_, z_k, rfl, hJ2⟩)
theorem cg7_sagWith {lvl : Nat} (h : 2 < lvl) : CG RX7 cl7 sh7 tyl7 [] lvl 1 359 4 sp7_sagWith := cg_V (sg := [0, 0, 0]) nil_nw spR_mono spR_un m7_sagWith h rfl (by decide) rfl rfl ⟨rfl, by decide, by decide, rfl⟩ q1998 q2000 qs102 q138 q2001
/-- the greatest load besides, at most n, that doesn't sag more -/
def frR (law s : Int) (l : List Pr) : Nat → Int
  | 0 => 0
  | n + 1 => if s < sagP (crossP law (n + 1) 0 l).1 then frR law s l n else (n + 1 : Int)
def A_free (V : Vy) (b t : Int) : Int := if isB V b ∧ isC V t then frR (V 0 0) (sagP ((rT V (t.toNat + 1)).1 b.toNat)) ((rT V (t.toNat + 1)).1 b.toNat) 99 else -2
theorem turnT_of {M M1 : Mm} {b t : Nat} (hP : okY (vM M)) (k2 : laidR (vM M) (tellP (vM M)) M1) (hb : (b : Int) < M 7 3) (ht : (t : Int) < M 7 4) : turnT M1 b t ((rT (vM M) (t + 1)).1 b) ∧ M1 0 24 = vM M 0 0 := by
  obtain ⟨t0, t1, t2, t3, t4⟩ := tab_out k2 (t := t) (b := b) ht hb
  have h4 : 0 ≤ M 7 4 ∧ M 7 4 ≤ 7 := hP.2.2.2.2.1
  have h5 := (run_ok (w := whoM (tellP (vM M))) hP (okCf_tell hP) (t + 1) (by show ((t + 1 : Nat) : Int) ≤ M 7 4; omega) b).2
  have i1 : ((3 : Int) * t + b).toNat = 3 * t + b := by omega
  refine ⟨⟨⟨by show ((runP (whoM (tellP (vM M))) (vM M) (tellP (vM M)) (t + 1)).1 b).length ≤ 7; omega, t1⟩, by rw [i1]; exact t2, by rw [i1]; exact t3, ?_⟩, ?_⟩
  · rw [← t4]
    exact stk_congr fun k _ => by
      rw [show ((8 : Int) * (3 * t + b) + k).toNat = 8 * (3 * t + b) + k by omega]
  · exact congrFun (congrFun k2.1 0) 0
theorem turnT_k {M M1 : Mm} {b t : Int} {l : List Pr} (h : turnT M b t l) (h1 : M1 27 = M 27) (h2 : M1 28 = M 28) (h3 : M1 29 = M 29) : turnT M1 b t l := by
  unfold turnT
  rw [h1, h2, h3]
  exact h
theorem cross_sag {law ld w : Int} {l : List Pr} (h : l.length ≤ 7 ∧ okL l) (hl : 1 ≤ ld ∧ ld ≤ 99) : 0 ≤ sagP (crossP law ld w l).1 ∧ sagP (crossP law ld w l).1 ≤ 792 := by
  have h1 := sagP_b (okL_cross (law := law) (who := w) h.2 hl)
  have h2 := @cross_len law ld w l
  omega
def P7_free (b : Int) (t : Int) (M : Mm) : Prop := okY (vM M)
def R7_free (b : Int) (t : Int) (M : Mm) (v : Int) (M1 : Mm) : Prop := keepM M M1 ∧ v = A_free (vM M) b t
def sp7_free : Spec := spR true [0, 0] 1 (fun x M => P7_free (x 0) (x 1) M) (fun x M v M1 => R7_free (x 0) (x 1) M v M1)
theorem c7_free {b t : Int} {M : Mm} {Q : Option AV → Mm → Prop} : sp7_free [ar 0, ai b, ai t] M Q = (P7_free b t M ∧ ∀ (v : Int) (M1 : Mm), R7_free b t M v M1 → Q (some (ai v)) M1) := rfl
def cs7_free : List (Nat × Nat × Nat × Spec) := [(353, 1, 3, sp7_isThen), (336, 1, 1, sp7_laysNow), (359, 1, 4, sp7_sagWith)]
def J7_free_24 (b : Int) (t : Int) (M : Mm) (m : Nat) (b_ : Int) (t_ : Int) (n : Int) (M1 : Mm) : Prop := b = b_ ∧ t = t_ ∧ (isB (vM M) b ∧ isC (vM M) t) ∧ keepM M M1 ∧ turnT M1 b t ((rT (vM M) (t.toNat + 1)).1 b.toNat) ∧ M1 0 24 = vM M 0 0 ∧ ∃ a : Nat, n = a ∧ a ≤ 99 ∧ A_free (vM M) b t = frR (vM M 0 0) (sagP ((rT (vM M) (t.toNat + 1)).1 b.toNat)) ((rT (vM M) (t.toNat + 1)).1 b.toNat) a ∧ m = a
set_option maxHeartbeats 4000000 in
set_option maxRecDepth 100000 in
theorem in7_free {b t : Int} {M : Mm} {Q : Option AV → Mm → Prop} (hM : okM sh7 M) (h_b : i32 b) (h_t : i32 t) (hP : P7_free b t M) (hQ : ∀ (v : Int) (M1 : Mm), R7_free b t M v M1 → Q (some (ai v)) M1) (I_24 : List AV → Mm → Prop) (hI_24 : ∀ (m_ : Nat) (y_b_ : Int) (y_t_ : Int) (y_n : Int) (M2 : Mm), J7_free_24 b t M m_ y_b_ y_t_ y_n M2 → I_24 [ar 0, ai y_b_, ai y_t_, ai y_n] M2) : wp (tb7 (csL cs7_free)) sh7 4 1 cX7_free [(24, [0, 1, 2, 3], I_24)] Q 400 0 [(0, ar 0), (1, ai b), (2, ai t)] [] M := by
  have h4 : 0 ≤ M 7 4 ∧ M 7 4 ≤ 7 := hP.2.2.2.2.1
  have h3 : 0 ≤ M 7 3 ∧ M 7 3 ≤ 3 := hP.2.2.2.1
  have h5 : 0 ≤ M 7 5 ∧ M 7 5 ≤ 5 := hP.2.2.2.2.2.1
  have hk0 : keepM M (up2 M 0 0 0) := keep_u0 keep_rf (by decide)
  have hV : vM (up2 M 0 0 0) = vM M := keep_v hk0 0
  have hP0 : okY (vM (up2 M 0 0 0)) := by rw [hV]; exact hP
  simp only [e_wp dX7_free_0 rfl, e_wp dX7_free_1 rfl, e_wp dX7_free_2 rfl, e_wp dX7_free_5 rfl, e_wp dX7_free_6 rfl, e_wp dX7_free_7 rfl, e_wp dX7_free_8 rfl, e_wp dX7_free_11 rfl, e_wp dX7_free_14 rfl, e_wp dX7_free_16 rfl, e_wp dX7_free_17 rfl, e_wp dX7_free_18 rfl, e_wp dX7_free_21 rfl, e_wp dX7_free_23 rfl, e_wp dX7_free_24 rfl, e_wp dX7_free_25 rfl, e_wp dX7_free_28 rfl, e_wp dX7_free_29 rfl, e_wp dX7_free_30 rfl, e_wp dX7_free_31 rfl, e_wp dX7_free_32 rfl, e_wp dX7_free_35 rfl, e_wp dX7_free_36 rfl, e_wp dX7_free_39 rfl, e_wp dX7_free_40 rfl, e_wp dX7_free_41 rfl, e_wp dX7_free_42 rfl, e_wp dX7_free_43 rfl, e_wp dX7_free_44 rfl, e_wp dX7_free_45 rfl, e_wp dX7_free_48 rfl, e_wp dX7_free_51 rfl, e_wp dX7_free_54 rfl, e_wp dX7_free_55 rfl, p7_116, c7_isThen, P7_isThen, V7_isThen, cs7_free, c7_laysNow, c7_sagWith, g7_98, a7_1, w7_1, a7_2, w7_2, a7_3, w7_3, a7_4, w7_4, a7_5, w7_5, a7_6, w7_6, a7_7, w7_7, a7_8, w7_8, a7_9, w7_9, a7_10, w7_10, a7_11, w7_11, a7_12, w7_12, a7_13, w7_13, a7_14, w7_14, a7_15, w7_15, a7_16, w7_16, a7_17, w7_17, a7_18, w7_18, a7_19, w7_19, a7_20, w7_20, a7_21, w7_21, a7_22, w7_22, a7_23, w7_23, a7_24, w7_24, a7_25, w7_25, a7_26, w7_26, a7_27, w7_27, a7_28, w7_28, a7_29, w7_29, a7_30, w7_30, a7_31, w7_31, a7_32, w7_32, a7_33, w7_33, e_iconst, e_bipush, e_sipush, e_lconst_0, e_lconst_1, e_iload, e_iload_0, e_iload_1, e_iload_2, e_iload_3, e_lload, e_lload_0, e_lload_1, e_lload_2, e_lload_3, e_aload, e_aload_0, e_aload_1, e_aload_2, e_aload_3, e_istore, e_istore_0, e_istore_1, e_istore_2, e_istore_3, e_astore, e_astore_0, e_astore_1, e_astore_2, e_astore_3, e_lstore, e_lstore_0, e_lstore_1, e_lstore_2, e_lstore_3, e_iinc, e_iadd, e_isub, e_imul, e_ladd, e_lsub, e_lmul, e_idiv, e_irem, e_ldiv, e_lrem, e_ineg, e_lneg, e_iand, e_ior, e_ixor, e_ishl, e_ishr, e_iushr, e_lcmp, e_i2l, e_l2i, e_i2b, e_i2s, e_dup_i, e_dup_r, e_pop_i, e_pop_r, e_dup2_l, e_dup2_ir, e_dup2_ii, e_ifeq, e_ifne, e_iflt, e_ifge, e_ifgt, e_ifle, e_iceq, e_icne, e_iclt, e_icge, e_icgt, e_icle, e_goto, e_switch, e_invokevirtual, e_invokestatic, e_invokespecial, e_ret0, e_ret1, e_ret2, e_ret3, ldI_s, ldL_s, ldR_s, clO_s, ctP_s, ctS_s, mgo_0, mgo_s, pjc_s, pj_0, pj_s, lk_s, rm1_0, rm1_i, rm1_r, rm1_l, rm2_0, rm2_i, rm2_r, rm2_l, csL_s, lc_lt, lc_ge, lc_gt, lc_le, lc_eq, b01_0, b01_1, b01_01, b01_n, up2_o, up2_s, up2_u, ne_eq, reduceCtorEq, Nat.reduceAdd, Nat.reduceEqDiff, Nat.reduceLT, Nat.reduceLeDiff, Int.reduceLE, Int.reduceLT, Int.reduceAdd, Int.reduceNeg, Int.reduceMul, Int.reduceSub, Int.reduceEq, Int.reduceToNat, Int.reduceNatCast, Int.cast_ofNat_Int, ↓reduceIte, and_self, List.drop_succ_cons, List.drop_zero, List.take_succ_cons, List.take_zero, List.length_cons, List.length_nil, List.reverse_cons, List.reverse_nil, List.nil_append, List.cons_append, Option.toList, true_and, and_true, or_false, false_or, or_true, true_or, forall_const, Classical.not_not, not_false_eq_true, not_true_eq_false, false_implies, true_implies, implies_true, imp_self]
  refine ⟨⟨h3, h4⟩, fun q => ⟨hP0, fun M1 hR => ?_⟩, fun q => hQ _ _ ⟨hk0, (if_neg q).symm⟩⟩
  obtain ⟨k1, k2, -⟩ := lay_use hR
  obtain ⟨a, rfl⟩ := Int.eq_ofNat_of_zero_le q.1.1
  obtain ⟨n, rfl⟩ := Int.eq_ofNat_of_zero_le q.2.1
  obtain ⟨x1, x2⟩ := turnT_of hP k2 q.1.2 q.2.2
  exact hI_24 99 _ _ _ _ ⟨rfl, rfl, q, k1, x1, x2, 99, rfl, by omega, if_pos q, rfl⟩
set_option maxHeartbeats 4000000 in
set_option maxRecDepth 100000 in
theorem at7_free_24 {b t : Int} {M : Mm} {Q : Option AV → Mm → Prop} (hM : okM sh7 M) (h_b : i32 b) (h_t : i32 t) (hP : P7_free b t M) (hQ : ∀ (v : Int) (M1 : Mm), R7_free b t M v M1 → Q (some (ai v)) M1) {m : Nat} {b_ t_ n : Int} {M1 : Mm} (hM1 : okM sh7 M1) (h_b_ : i32 b_) (h_t_ : i32 t_) (h_n : i32 n) (hJ : J7_free_24 b t M m b_ t_ n M1) (I_24 : List AV → Mm → Prop) (hI_24 : ∀ (m_ : Nat) (y_b_ : Int) (y_t_ : Int) (y_n : Int) (M2 : Mm), m_ < m → J7_free_24 b t M m_ y_b_ y_t_ y_n M2 → I_24 [ar 0, ai y_b_, ai y_t_, ai y_n] M2) : wp (tb7 (csL cs7_free)) sh7 4 1 cX7_free [(24, [0, 1, 2, 3], I_24)] Q 400 24 [(0, ar 0), (1, ai b_), (2, ai t_), (3, ai n)] [] M1 := by
  obtain ⟨rfl, rfl, hq, hk, hT, hl, a, rfl, ha, eA, rfl⟩ := hJ
  have hq3 : b < M 7 3 := hq.1.2
  have hq4 : t < M 7 4 := hq.2.2
  have hq1 := hq.1.1
  have hq2 := hq.2.1
  have h4 : 0 ≤ M 7 4 ∧ M 7 4 ≤ 7 := hP.2.2.2.2.1
  have h3 : 0 ≤ M 7 3 ∧ M 7 3 ≤ 3 := hP.2.2.2.1
  have h5 : 0 ≤ M 7 5 ∧ M 7 5 ≤ 5 := hP.2.2.2.2.2.1
  have hk0 : keepM M (up2 M 0 0 0) := keep_u0 keep_rf (by decide)
  have hV : vM (up2 M 0 0 0) = vM M := keep_v hk0 0
  have hP0 : okY (vM (up2 M 0 0 0)) := by rw [hV]; exact hP
  have hlaw : 0 ≤ M1 0 24 ∧ M1 0 24 ≤ 3 := by rw [hl]; exact hP.1
  generalize hL : (rT (vM M) (t.toNat + 1)).1 b.toNat = L at *
  simp only [e_wp dX7_free_0 rfl, e_wp dX7_free_1 rfl, e_wp dX7_free_2 rfl, e_wp dX7_free_5 rfl, e_wp dX7_free_6 rfl, e_wp dX7_free_7 rfl, e_wp dX7_free_8 rfl, e_wp dX7_free_11 rfl, e_wp dX7_free_14 rfl, e_wp dX7_free_16 rfl, e_wp dX7_free_17 rfl, e_wp dX7_free_18 rfl, e_wp dX7_free_21 rfl, e_wp dX7_free_23 rfl, e_wp dX7_free_24 rfl, e_wp dX7_free_25 rfl, e_wp dX7_free_28 rfl, e_wp dX7_free_29 rfl, e_wp dX7_free_30 rfl, e_wp dX7_free_31 rfl, e_wp dX7_free_32 rfl, e_wp dX7_free_35 rfl, e_wp dX7_free_36 rfl, e_wp dX7_free_39 rfl, e_wp dX7_free_40 rfl, e_wp dX7_free_41 rfl, e_wp dX7_free_42 rfl, e_wp dX7_free_43 rfl, e_wp dX7_free_44 rfl, e_wp dX7_free_45 rfl, e_wp dX7_free_48 rfl, e_wp dX7_free_51 rfl, e_wp dX7_free_54 rfl, e_wp dX7_free_55 rfl, p7_116, c7_isThen, P7_isThen, V7_isThen, cs7_free, c7_laysNow, c7_sagWith, g7_98, a7_1, w7_1, a7_2, w7_2, a7_3, w7_3, a7_4, w7_4, a7_5, w7_5, a7_6, w7_6, a7_7, w7_7, a7_8, w7_8, a7_9, w7_9, a7_10, w7_10, a7_11, w7_11, a7_12, w7_12, a7_13, w7_13, a7_14, w7_14, a7_15, w7_15, a7_16, w7_16, a7_17, w7_17, a7_18, w7_18, a7_19, w7_19, a7_20, w7_20, a7_21, w7_21, a7_22, w7_22, a7_23, w7_23, a7_24, w7_24, a7_25, w7_25, a7_26, w7_26, a7_27, w7_27, a7_28, w7_28, a7_29, w7_29, a7_30, w7_30, a7_31, w7_31, a7_32, w7_32, a7_33, w7_33, e_iconst, e_bipush, e_sipush, e_lconst_0, e_lconst_1, e_iload, e_iload_0, e_iload_1, e_iload_2, e_iload_3, e_lload, e_lload_0, e_lload_1, e_lload_2, e_lload_3, e_aload, e_aload_0, e_aload_1, e_aload_2, e_aload_3, e_istore, e_istore_0, e_istore_1, e_istore_2, e_istore_3, e_astore, e_astore_0, e_astore_1, e_astore_2, e_astore_3, e_lstore, e_lstore_0, e_lstore_1, e_lstore_2, e_lstore_3, e_iinc, e_iadd, e_isub, e_imul, e_ladd, e_lsub, e_lmul, e_idiv, e_irem, e_ldiv, e_lrem, e_ineg, e_lneg, e_iand, e_ior, e_ixor, e_ishl, e_ishr, e_iushr, e_lcmp, e_i2l, e_l2i, e_i2b, e_i2s, e_dup_i, e_dup_r, e_pop_i, e_pop_r, e_dup2_l, e_dup2_ir, e_dup2_ii, e_ifeq, e_ifne, e_iflt, e_ifge, e_ifgt, e_ifle, e_iceq, e_icne, e_iclt, e_icge, e_icgt, e_icle, e_goto, e_switch, e_invokevirtual, e_invokestatic, e_invokespecial, e_ret0, e_ret1, e_ret2, e_ret3, ldI_s, ldL_s, ldR_s, clO_s, ctP_s, ctS_s, mgo_0, mgo_s, pjc_s, pj_0, pj_s, lk_s, rm1_0, rm1_i, rm1_r, rm1_l, rm2_0, rm2_i, rm2_r, rm2_l, csL_s, lc_lt, lc_ge, lc_gt, lc_le, lc_eq, b01_0, b01_1, b01_01, b01_n, up2_o, up2_s, up2_u, ne_eq, reduceCtorEq, Nat.reduceAdd, Nat.reduceEqDiff, Nat.reduceLT, Nat.reduceLeDiff, Int.reduceLE, Int.reduceLT, Int.reduceAdd, Int.reduceNeg, Int.reduceMul, Int.reduceSub, Int.reduceEq, Int.reduceToNat, Int.reduceNatCast, Int.cast_ofNat_Int, ↓reduceIte, and_self, List.drop_succ_cons, List.drop_zero, List.take_succ_cons, List.take_zero, List.length_cons, List.length_nil, List.reverse_cons, List.reverse_nil, List.nil_append, List.cons_append, Option.toList, true_and, and_true, or_false, false_or, or_true, true_or, forall_const, Classical.not_not, not_false_eq_true, not_true_eq_false, false_implies, true_implies, implies_true, imp_self]
  refine ⟨fun q => ?_, fun q => ⟨⟨by omega, L, hT⟩, fun v M2 hR => ?_⟩⟩
  · obtain rfl : m = 0 := by omega
    exact hQ _ _ ⟨hk, by rw [eA]; rfl⟩
  · obtain ⟨r1, r2⟩ := hR
    have ev := r2 L hT
    have hT2 := turnT_k hT (r1 _ (by decide)) (r1 _ (by decide)) (r1 _ (by decide))
    have hk2 := keep_tr hk (keep_fr r1 (by decide))
    have es := hT2.2.2.1
    obtain ⟨n, rfl⟩ : ∃ n, m = n + 1 := ⟨m - 1, by omega⟩
    have ef : frR (vM M 0 0) (sagP L) L (n + 1) = if sagP L < v then frR (vM M 0 0) (sagP L) L n else ((n : Int) + 1) := by
      rw [ev, hl]
      rfl
    rw [ef] at eA
    rw [es]
    have hs := sagP_b hT.1.2
    repeat (refine And.intro (by omega) ?_)
    refine ⟨fun z => hQ _ _ ⟨hk2, ?_⟩, fun z => ⟨by omega, ?_⟩⟩
    · rw [eA, if_neg (by omega)]
      omega
    · rw [if_pos z] at eA
      refine hI_24 n _ _ _ _ (by omega) ⟨rfl, rfl, hq, hk2, by rw [hL]; exact hT2, ?_, n, by omega, by omega, by rw [hL]; exact eA, rfl⟩
      rw [r1 _ (by decide)]; exact hl
set_option maxHeartbeats 4000000 in
set_option maxRecDepth 100000 in
theorem m7_free : MOK cl7 sh7 tyl7 [] 5 yX7_free cX7_free 4 (some .int) sp7_free := by
  refine mok_of (own := RX7) (tb := tb7 (csL cs7_free)) (rt := 1) (fuel := 400) (fun avs M Q => [(24, [0, 1, 2, 3], fun m_ vs M1 => ∃ y_b_ : Int, ∃ y_t_ : Int, ∃ y_n : Int, vs = [ar 0, ai y_b_, ai y_t_, ai y_n] ∧ J7_free_24 (pa true [0, 0] avs 0) (pa true [0, 0] avs 1) M m_ y_b_ y_t_ y_n M1)]) (by decide) rfl nil_nw (tbOK7 _) rfl (csL_all ?_) ?_ ?_ ?_
  · intro q hq
    simp only [cs7_free, List.mem_cons, List.not_mem_nil, or_false] at hq
    rcases hq with rfl | rfl | rfl
    · exact cg7_isThen (by decide)
    · exact cg7_laysNow (by decide)
    · exact cg7_sagWith (by decide)
  · intro avs M Q hsp
    obtain ⟨xs, hx⟩ := spR_un _ _ _ hsp
    obtain ⟨e, hl⟩ := unA_mkT hx
    obtain ⟨b, t, rfl⟩ := len2 hl
    have e : avs = [ar 0, ai b, ai t] := e
    subst e
    simp [szL, isL]
  · intro avs M Q hM hav hsp
    obtain ⟨xs, hx⟩ := spR_un _ _ _ hsp
    obtain ⟨e, hl⟩ := unA_mkT hx
    obtain ⟨b, t, rfl⟩ := len2 hl
    have e : avs = [ar 0, ai b, ai t] := e
    subst e
    exact in7_free hM (hav (ai b) (by simp)) (hav (ai t) (by simp)) hsp.1 hsp.2 _ (fun m_ y_b_ y_t_ y_n M2 hJ => ⟨m_, y_b_, y_t_, y_n, rfl, hJ⟩)
  · intro avs M Q hM hav hsp q hq m_ vs M1 hM1 hv hJ
    obtain ⟨xs, hx⟩ := spR_un _ _ _ hsp
    obtain ⟨e, hl⟩ := unA_mkT hx
    obtain ⟨b, t, rfl⟩ := len2 hl
    have e : avs = [ar 0, ai b, ai t] := e
    subst e
    simp only [List.mem_cons, List.not_mem_nil, or_false] at hq
    rcases hq with rfl
    · obtain ⟨y_b_, y_t_, y_n, rfl, hJ⟩ := hJ
      exact at7_free_24 hM (hav (ai b) (by simp)) (hav (ai t) (by simp)) hsp.1 hsp.2 hM1 (hv (1, ai y_b_) (List.mem_of_getElem? (i := 1) rfl)) (hv (2, ai y_t_) (List.mem_of_getElem? (i := 2) rfl)) (hv (3, ai y_n) (List.mem_of_getElem? (i := 3) rfl)) hJ _ (fun m2 z_b_ z_t_ z_n M2 hm hJ2 => ⟨m2, hm, z_b_, z_t_, z_n, rfl, hJ2⟩)
/-- the least load besides, of n from k on, that breaks -/
def moR (law h : Int) (l : List Pr) : Nat → Int → Int
  | 0, _ => -1
  | n + 1, k => if h < sagP (crossP law k 0 l).1 then k else moR law h l n (k + 1)
def A_most (V : Vy) (b t : Int) : Int := if isB V b ∧ isC V t then (if (rT V (V 0 4).toNat).2.2 b.toNat ≤ t then -1 else moR (V 0 0) (V 1 b.toNat) ((rT V (t.toNat + 1)).1 b.toNat) 99 1) else -2
def P7_most (b : Int) (t : Int) (M : Mm) : Prop := okY (vM M)
def R7_most (b : Int) (t : Int) (M : Mm) (v : Int) (M1 : Mm) : Prop := keepM M M1 ∧ v = A_most (vM M) b t
def sp7_most : Spec := spR true [0, 0] 1 (fun x M => P7_most (x 0) (x 1) M) (fun x M v M1 => R7_most (x 0) (x 1) M v M1)
theorem c7_most {b t : Int} {M : Mm} {Q : Option AV → Mm → Prop} : sp7_most [ar 0, ai b, ai t] M Q = (P7_most b t M ∧ ∀ (v : Int) (M1 : Mm), R7_most b t M v M1 → Q (some (ai v)) M1) := rfl
def cs7_most : List (Nat × Nat × Nat × Spec) := [(353, 1, 3, sp7_isThen), (336, 1, 1, sp7_laysNow), (359, 1, 4, sp7_sagWith)]
def J7_most_23 (b : Int) (t : Int) (M : Mm) (m : Nat) (b_ : Int) (t_ : Int) (n : Int) (M1 : Mm) : Prop := b = b_ ∧ t = t_ ∧ (isB (vM M) b ∧ isC (vM M) t) ∧ keepM M M1 ∧ turnT M1 b t ((rT (vM M) (t.toNat + 1)).1 b.toNat) ∧ M1 0 24 = vM M 0 0 ∧ M1 21 b.toNat = (rT (vM M) (vM M 0 4).toNat).2.2 b.toNat ∧ ∃ a : Nat, n = 100 - (a : Int) ∧ a ≤ 99 ∧ (¬ (rT (vM M) (vM M 0 4).toNat).2.2 b.toNat ≤ t → A_most (vM M) b t = moR (vM M 0 0) (vM M 1 b.toNat) ((rT (vM M) (t.toNat + 1)).1 b.toNat) a n) ∧ m = a
set_option maxHeartbeats 4000000 in
set_option maxRecDepth 100000 in
theorem in7_most {b t : Int} {M : Mm} {Q : Option AV → Mm → Prop} (hM : okM sh7 M) (h_b : i32 b) (h_t : i32 t) (hP : P7_most b t M) (hQ : ∀ (v : Int) (M1 : Mm), R7_most b t M v M1 → Q (some (ai v)) M1) (I_23 : List AV → Mm → Prop) (hI_23 : ∀ (m_ : Nat) (y_b_ : Int) (y_t_ : Int) (y_n : Int) (M2 : Mm), J7_most_23 b t M m_ y_b_ y_t_ y_n M2 → I_23 [ar 0, ai y_b_, ai y_t_, ai y_n] M2) : wp (tb7 (csL cs7_most)) sh7 4 1 cX7_most [(23, [0, 1, 2, 3], I_23)] Q 400 0 [(0, ar 0), (1, ai b), (2, ai t)] [] M := by
  have h4 : 0 ≤ M 7 4 ∧ M 7 4 ≤ 7 := hP.2.2.2.2.1
  have h3 : 0 ≤ M 7 3 ∧ M 7 3 ≤ 3 := hP.2.2.2.1
  have h5 : 0 ≤ M 7 5 ∧ M 7 5 ≤ 5 := hP.2.2.2.2.2.1
  have hk0 : keepM M (up2 M 0 0 0) := keep_u0 keep_rf (by decide)
  have hV : vM (up2 M 0 0 0) = vM M := keep_v hk0 0
  have hP0 : okY (vM (up2 M 0 0 0)) := by rw [hV]; exact hP
  simp only [e_wp dX7_most_0 rfl, e_wp dX7_most_1 rfl, e_wp dX7_most_2 rfl, e_wp dX7_most_5 rfl, e_wp dX7_most_6 rfl, e_wp dX7_most_7 rfl, e_wp dX7_most_8 rfl, e_wp dX7_most_11 rfl, e_wp dX7_most_14 rfl, e_wp dX7_most_16 rfl, e_wp dX7_most_17 rfl, e_wp dX7_most_18 rfl, e_wp dX7_most_21 rfl, e_wp dX7_most_22 rfl, e_wp dX7_most_23 rfl, e_wp dX7_most_24 rfl, e_wp dX7_most_26 rfl, e_wp dX7_most_29 rfl, e_wp dX7_most_30 rfl, e_wp dX7_most_33 rfl, e_wp dX7_most_34 rfl, e_wp dX7_most_35 rfl, e_wp dX7_most_36 rfl, e_wp dX7_most_39 rfl, e_wp dX7_most_40 rfl, e_wp dX7_most_41 rfl, e_wp dX7_most_42 rfl, e_wp dX7_most_43 rfl, e_wp dX7_most_46 rfl, e_wp dX7_most_47 rfl, e_wp dX7_most_50 rfl, e_wp dX7_most_51 rfl, e_wp dX7_most_52 rfl, e_wp dX7_most_53 rfl, e_wp dX7_most_54 rfl, e_wp dX7_most_57 rfl, e_wp dX7_most_58 rfl, e_wp dX7_most_59 rfl, e_wp dX7_most_62 rfl, e_wp dX7_most_65 rfl, e_wp dX7_most_66 rfl, p7_116, c7_isThen, P7_isThen, V7_isThen, cs7_most, c7_laysNow, g7_77, c7_sagWith, g7_37, a7_1, w7_1, a7_2, w7_2, a7_3, w7_3, a7_4, w7_4, a7_5, w7_5, a7_6, w7_6, a7_7, w7_7, a7_8, w7_8, a7_9, w7_9, a7_10, w7_10, a7_11, w7_11, a7_12, w7_12, a7_13, w7_13, a7_14, w7_14, a7_15, w7_15, a7_16, w7_16, a7_17, w7_17, a7_18, w7_18, a7_19, w7_19, a7_20, w7_20, a7_21, w7_21, a7_22, w7_22, a7_23, w7_23, a7_24, w7_24, a7_25, w7_25, a7_26, w7_26, a7_27, w7_27, a7_28, w7_28, a7_29, w7_29, a7_30, w7_30, a7_31, w7_31, a7_32, w7_32, a7_33, w7_33, e_iconst, e_bipush, e_sipush, e_lconst_0, e_lconst_1, e_iload, e_iload_0, e_iload_1, e_iload_2, e_iload_3, e_lload, e_lload_0, e_lload_1, e_lload_2, e_lload_3, e_aload, e_aload_0, e_aload_1, e_aload_2, e_aload_3, e_istore, e_istore_0, e_istore_1, e_istore_2, e_istore_3, e_astore, e_astore_0, e_astore_1, e_astore_2, e_astore_3, e_lstore, e_lstore_0, e_lstore_1, e_lstore_2, e_lstore_3, e_iinc, e_iadd, e_isub, e_imul, e_ladd, e_lsub, e_lmul, e_idiv, e_irem, e_ldiv, e_lrem, e_ineg, e_lneg, e_iand, e_ior, e_ixor, e_ishl, e_ishr, e_iushr, e_lcmp, e_i2l, e_l2i, e_i2b, e_i2s, e_dup_i, e_dup_r, e_pop_i, e_pop_r, e_dup2_l, e_dup2_ir, e_dup2_ii, e_ifeq, e_ifne, e_iflt, e_ifge, e_ifgt, e_ifle, e_iceq, e_icne, e_iclt, e_icge, e_icgt, e_icle, e_goto, e_switch, e_invokevirtual, e_invokestatic, e_invokespecial, e_ret0, e_ret1, e_ret2, e_ret3, ldI_s, ldL_s, ldR_s, clO_s, ctP_s, ctS_s, mgo_0, mgo_s, pjc_s, pj_0, pj_s, lk_s, rm1_0, rm1_i, rm1_r, rm1_l, rm2_0, rm2_i, rm2_r, rm2_l, csL_s, lc_lt, lc_ge, lc_gt, lc_le, lc_eq, b01_0, b01_1, b01_01, b01_n, up2_o, up2_s, up2_u, ne_eq, reduceCtorEq, Nat.reduceAdd, Nat.reduceEqDiff, Nat.reduceLT, Nat.reduceLeDiff, Int.reduceLE, Int.reduceLT, Int.reduceAdd, Int.reduceNeg, Int.reduceMul, Int.reduceSub, Int.reduceEq, Int.reduceToNat, Int.reduceNatCast, Int.cast_ofNat_Int, ↓reduceIte, and_self, List.drop_succ_cons, List.drop_zero, List.take_succ_cons, List.take_zero, List.length_cons, List.length_nil, List.reverse_cons, List.reverse_nil, List.nil_append, List.cons_append, Option.toList, true_and, and_true, or_false, false_or, or_true, true_or, forall_const, Classical.not_not, not_false_eq_true, not_true_eq_false, false_implies, true_implies, implies_true, imp_self]
  refine ⟨⟨h3, h4⟩, fun q => ⟨hP0, fun M1 hR => ?_⟩, fun q => hQ _ _ ⟨hk0, (if_neg q).symm⟩⟩
  obtain ⟨k1, k2, -⟩ := lay_use hR
  obtain ⟨a, rfl⟩ := Int.eq_ofNat_of_zero_le q.1.1
  obtain ⟨n, rfl⟩ := Int.eq_ofNat_of_zero_le q.2.1
  obtain ⟨x1, x2⟩ := turnT_of hP k2 q.1.2 q.2.2
  exact hI_23 99 _ _ _ _ ⟨rfl, rfl, q, k1, x1, x2, (st_out k2 q.1.2).2.2, 99, rfl, by omega, fun z => (if_pos q).trans (if_neg z), rfl⟩
set_option maxHeartbeats 4000000 in
set_option maxRecDepth 100000 in
theorem at7_most_23 {b t : Int} {M : Mm} {Q : Option AV → Mm → Prop} (hM : okM sh7 M) (h_b : i32 b) (h_t : i32 t) (hP : P7_most b t M) (hQ : ∀ (v : Int) (M1 : Mm), R7_most b t M v M1 → Q (some (ai v)) M1) {m : Nat} {b_ t_ n : Int} {M1 : Mm} (hM1 : okM sh7 M1) (h_b_ : i32 b_) (h_t_ : i32 t_) (h_n : i32 n) (hJ : J7_most_23 b t M m b_ t_ n M1) (I_23 : List AV → Mm → Prop) (hI_23 : ∀ (m_ : Nat) (y_b_ : Int) (y_t_ : Int) (y_n : Int) (M2 : Mm), m_ < m → J7_most_23 b t M m_ y_b_ y_t_ y_n M2 → I_23 [ar 0, ai y_b_, ai y_t_, ai y_n] M2) : wp (tb7 (csL cs7_most)) sh7 4 1 cX7_most [(23, [0, 1, 2, 3], I_23)] Q 400 23 [(0, ar 0), (1, ai b_), (2, ai t_), (3, ai n)] [] M1 := by
  obtain ⟨rfl, rfl, hq, hk, hT, hl, hb, a, rfl, ha, eA, rfl⟩ := hJ
  have hq3 : b < M 7 3 := hq.1.2
  have hq4 : t < M 7 4 := hq.2.2
  have hq1 := hq.1.1
  have hq2 := hq.2.1
  have h4 : 0 ≤ M 7 4 ∧ M 7 4 ≤ 7 := hP.2.2.2.2.1
  have h3 : 0 ≤ M 7 3 ∧ M 7 3 ≤ 3 := hP.2.2.2.1
  have h5 : 0 ≤ M 7 5 ∧ M 7 5 ≤ 5 := hP.2.2.2.2.2.1
  have hk0 : keepM M (up2 M 0 0 0) := keep_u0 keep_rf (by decide)
  have hV : vM (up2 M 0 0 0) = vM M := keep_v hk0 0
  have hP0 : okY (vM (up2 M 0 0 0)) := by rw [hV]; exact hP
  have hlaw : 0 ≤ M1 0 24 ∧ M1 0 24 ≤ 3 := by rw [hl]; exact hP.1
  have eB : (rT (vM M) (vM M 0 4).toNat).2.2 b.toNat ≤ t → A_most (vM M) b t = -1 := fun z => (if_pos hq).trans (if_pos z)
  have e8 : M1 8 = M 8 := hk.1 _ (by decide)
  obtain ⟨v1, -⟩ := vM_b M (b := b.toNat) (by omega)
  have i1 : (2 * b).toNat = 2 * b.toNat := by omega
  rw [← hb] at eA eB
  generalize hL : (rT (vM M) (t.toNat + 1)).1 b.toNat = L at *
  simp only [e_wp dX7_most_0 rfl, e_wp dX7_most_1 rfl, e_wp dX7_most_2 rfl, e_wp dX7_most_5 rfl, e_wp dX7_most_6 rfl, e_wp dX7_most_7 rfl, e_wp dX7_most_8 rfl, e_wp dX7_most_11 rfl, e_wp dX7_most_14 rfl, e_wp dX7_most_16 rfl, e_wp dX7_most_17 rfl, e_wp dX7_most_18 rfl, e_wp dX7_most_21 rfl, e_wp dX7_most_22 rfl, e_wp dX7_most_23 rfl, e_wp dX7_most_24 rfl, e_wp dX7_most_26 rfl, e_wp dX7_most_29 rfl, e_wp dX7_most_30 rfl, e_wp dX7_most_33 rfl, e_wp dX7_most_34 rfl, e_wp dX7_most_35 rfl, e_wp dX7_most_36 rfl, e_wp dX7_most_39 rfl, e_wp dX7_most_40 rfl, e_wp dX7_most_41 rfl, e_wp dX7_most_42 rfl, e_wp dX7_most_43 rfl, e_wp dX7_most_46 rfl, e_wp dX7_most_47 rfl, e_wp dX7_most_50 rfl, e_wp dX7_most_51 rfl, e_wp dX7_most_52 rfl, e_wp dX7_most_53 rfl, e_wp dX7_most_54 rfl, e_wp dX7_most_57 rfl, e_wp dX7_most_58 rfl, e_wp dX7_most_59 rfl, e_wp dX7_most_62 rfl, e_wp dX7_most_65 rfl, e_wp dX7_most_66 rfl, p7_116, c7_isThen, P7_isThen, V7_isThen, cs7_most, c7_laysNow, g7_77, c7_sagWith, g7_37, a7_1, w7_1, a7_2, w7_2, a7_3, w7_3, a7_4, w7_4, a7_5, w7_5, a7_6, w7_6, a7_7, w7_7, a7_8, w7_8, a7_9, w7_9, a7_10, w7_10, a7_11, w7_11, a7_12, w7_12, a7_13, w7_13, a7_14, w7_14, a7_15, w7_15, a7_16, w7_16, a7_17, w7_17, a7_18, w7_18, a7_19, w7_19, a7_20, w7_20, a7_21, w7_21, a7_22, w7_22, a7_23, w7_23, a7_24, w7_24, a7_25, w7_25, a7_26, w7_26, a7_27, w7_27, a7_28, w7_28, a7_29, w7_29, a7_30, w7_30, a7_31, w7_31, a7_32, w7_32, a7_33, w7_33, e_iconst, e_bipush, e_sipush, e_lconst_0, e_lconst_1, e_iload, e_iload_0, e_iload_1, e_iload_2, e_iload_3, e_lload, e_lload_0, e_lload_1, e_lload_2, e_lload_3, e_aload, e_aload_0, e_aload_1, e_aload_2, e_aload_3, e_istore, e_istore_0, e_istore_1, e_istore_2, e_istore_3, e_astore, e_astore_0, e_astore_1, e_astore_2, e_astore_3, e_lstore, e_lstore_0, e_lstore_1, e_lstore_2, e_lstore_3, e_iinc, e_iadd, e_isub, e_imul, e_ladd, e_lsub, e_lmul, e_idiv, e_irem, e_ldiv, e_lrem, e_ineg, e_lneg, e_iand, e_ior, e_ixor, e_ishl, e_ishr, e_iushr, e_lcmp, e_i2l, e_l2i, e_i2b, e_i2s, e_dup_i, e_dup_r, e_pop_i, e_pop_r, e_dup2_l, e_dup2_ir, e_dup2_ii, e_ifeq, e_ifne, e_iflt, e_ifge, e_ifgt, e_ifle, e_iceq, e_icne, e_iclt, e_icge, e_icgt, e_icle, e_goto, e_switch, e_invokevirtual, e_invokestatic, e_invokespecial, e_ret0, e_ret1, e_ret2, e_ret3, ldI_s, ldL_s, ldR_s, clO_s, ctP_s, ctS_s, mgo_0, mgo_s, pjc_s, pj_0, pj_s, lk_s, rm1_0, rm1_i, rm1_r, rm1_l, rm2_0, rm2_i, rm2_r, rm2_l, csL_s, lc_lt, lc_ge, lc_gt, lc_le, lc_eq, b01_0, b01_1, b01_01, b01_n, up2_o, up2_s, up2_u, ne_eq, reduceCtorEq, Nat.reduceAdd, Nat.reduceEqDiff, Nat.reduceLT, Nat.reduceLeDiff, Int.reduceLE, Int.reduceLT, Int.reduceAdd, Int.reduceNeg, Int.reduceMul, Int.reduceSub, Int.reduceEq, Int.reduceToNat, Int.reduceNatCast, Int.cast_ofNat_Int, ↓reduceIte, and_self, List.drop_succ_cons, List.drop_zero, List.take_succ_cons, List.take_zero, List.length_cons, List.length_nil, List.reverse_cons, List.reverse_nil, List.nil_append, List.cons_append, Option.toList, true_and, and_true, or_false, false_or, or_true, true_or, forall_const, Classical.not_not, not_false_eq_true, not_true_eq_false, false_implies, true_implies, implies_true, imp_self]
  refine ⟨fun q => ?_, fun q => ⟨by omega, fun z => ?_, fun z => ?_⟩⟩
  · obtain rfl : m = 0 := by omega
    refine hQ _ _ ⟨hk, ?_⟩
    by_cases z : M1 21 b.toNat ≤ t
    · rw [eB z]
    · rw [eA z]; rfl
  · exact hQ _ _ ⟨hk, (eB (by omega)).symm⟩
  · refine ⟨⟨by omega, L, hT⟩, fun v M2 hR => ?_⟩
    obtain ⟨r1, r2⟩ := hR
    have ev := r2 L hT
    have hT2 := turnT_k hT (r1 _ (by decide)) (r1 _ (by decide)) (r1 _ (by decide))
    have hk2 := keep_tr hk (keep_fr r1 (by decide))
    have r8 : M2 8 = M 8 := (r1 _ (by decide)).trans e8
    obtain ⟨n, rfl⟩ : ∃ n, m = n + 1 := ⟨m - 1, by omega⟩
    have eA := eA (by omega)
    have ef : moR (vM M 0 0) (vM M 1 b.toNat) L (n + 1) (100 - ((n + 1 : Nat) : Int)) = if M 8 (2 * b.toNat) < v then (100 - ((n + 1 : Nat) : Int)) else moR (vM M 0 0) (vM M 1 b.toNat) L n (100 - ((n + 1 : Nat) : Int) + 1) := by
      rw [ev, hl, ← v1]
      rfl
    rw [ef] at eA
    rw [i1, r8]
    have hs := cross_sag (law := M1 0 24) (w := 0) (ld := 100 - ((n + 1 : Nat) : Int)) hT.1 (by omega)
    repeat (refine And.intro (by omega) ?_)
    refine ⟨fun w => ⟨by omega, ?_⟩, fun w => hQ _ _ ⟨hk2, ?_⟩⟩
    · rw [if_neg (by omega)] at eA
      refine hI_23 n _ _ _ _ (by omega) ⟨rfl, rfl, hq, hk2, by rw [hL]; exact hT2, ?_, ?_, n, by omega, by omega, fun _ => ?_, rfl⟩
      · rw [r1 _ (by decide)]; exact hl
      · rw [r1 _ (by decide)]; exact hb
      · rw [hL]; exact eA
    · rw [eA, if_pos w]
set_option maxHeartbeats 4000000 in
set_option maxRecDepth 100000 in
theorem m7_most : MOK cl7 sh7 tyl7 [] 5 yX7_most cX7_most 4 (some .int) sp7_most := by
  refine mok_of (own := RX7) (tb := tb7 (csL cs7_most)) (rt := 1) (fuel := 400) (fun avs M Q => [(23, [0, 1, 2, 3], fun m_ vs M1 => ∃ y_b_ : Int, ∃ y_t_ : Int, ∃ y_n : Int, vs = [ar 0, ai y_b_, ai y_t_, ai y_n] ∧ J7_most_23 (pa true [0, 0] avs 0) (pa true [0, 0] avs 1) M m_ y_b_ y_t_ y_n M1)]) (by decide) rfl nil_nw (tbOK7 _) rfl (csL_all ?_) ?_ ?_ ?_
  · intro q hq
    simp only [cs7_most, List.mem_cons, List.not_mem_nil, or_false] at hq
    rcases hq with rfl | rfl | rfl
    · exact cg7_isThen (by decide)
    · exact cg7_laysNow (by decide)
    · exact cg7_sagWith (by decide)
  · intro avs M Q hsp
    obtain ⟨xs, hx⟩ := spR_un _ _ _ hsp
    obtain ⟨e, hl⟩ := unA_mkT hx
    obtain ⟨b, t, rfl⟩ := len2 hl
    have e : avs = [ar 0, ai b, ai t] := e
    subst e
    simp [szL, isL]
  · intro avs M Q hM hav hsp
    obtain ⟨xs, hx⟩ := spR_un _ _ _ hsp
    obtain ⟨e, hl⟩ := unA_mkT hx
    obtain ⟨b, t, rfl⟩ := len2 hl
    have e : avs = [ar 0, ai b, ai t] := e
    subst e
    exact in7_most hM (hav (ai b) (by simp)) (hav (ai t) (by simp)) hsp.1 hsp.2 _ (fun m_ y_b_ y_t_ y_n M2 hJ => ⟨m_, y_b_, y_t_, y_n, rfl, hJ⟩)
  · intro avs M Q hM hav hsp q hq m_ vs M1 hM1 hv hJ
    obtain ⟨xs, hx⟩ := spR_un _ _ _ hsp
    obtain ⟨e, hl⟩ := unA_mkT hx
    obtain ⟨b, t, rfl⟩ := len2 hl
    have e : avs = [ar 0, ai b, ai t] := e
    subst e
    simp only [List.mem_cons, List.not_mem_nil, or_false] at hq
    rcases hq with rfl
    · obtain ⟨y_b_, y_t_, y_n, rfl, hJ⟩ := hJ
      exact at7_most_23 hM (hav (ai b) (by simp)) (hav (ai t) (by simp)) hsp.1 hsp.2 hM1 (hv (1, ai y_b_) (List.mem_of_getElem? (i := 1) rfl)) (hv (2, ai y_t_) (List.mem_of_getElem? (i := 2) rfl)) (hv (3, ai y_n) (List.mem_of_getElem? (i := 3) rfl)) hJ _ (fun m2 z_b_ z_t_ z_n M2 hm hJ2 => ⟨m2, hm, z_b_, z_t_, z_n, rfl, hJ2⟩)
