/-! SagMemory: what is told of bridges and carts -/
def P0_bridge (rs : List (Nat × Nat)) (b : Int) (w : Int) (M : Mm) : Prop := okX M
def V0_bridge (rs : List (Nat × Nat)) (b : Int) (w : Int) (M : Mm) : Int := A_bridge (vX M) b w
def sp0_bridge (rs : List (Nat × Nat)) : Spec := spF true [0, 0] 1 (fun x M => P0_bridge rs (x 0) (x 1) M) (fun x M => V0_bridge rs (x 0) (x 1) M)
theorem c0_bridge {rs : List (Nat × Nat)} {b w : Int} {M : Mm} {Q : Option AV → Mm → Prop} : sp0_bridge rs [ar 0, ai b, ai w] M Q = (P0_bridge rs b w M ∧ Q (some (ai (V0_bridge rs b w M))) M) := rfl
def cs0_bridge (rs : List (Nat × Nat)) : List (Nat × Nat × Nat × Spec) := [(167, 1, 2, (sp0_isBridge rs)), (170, 0, 2, (sp0_isOneOf rs))]
set_option maxHeartbeats 4000000 in
set_option maxRecDepth 100000 in
theorem in0_bridge {rs : List (Nat × Nat)} {b w : Int} {M : Mm} {Q : Option AV → Mm → Prop} (hM : okM (sh8 rs) M) (h_b : i32 b) (h_w : i32 w) (hP : P0_bridge rs b w M) (hQ : Q (some (ai (V0_bridge rs b w M))) M) : wp (tb0 (csL (cs0_bridge rs))) (sh8 rs) 3 1 cX0_bridge [] Q 400 0 [(0, ar 0), (1, ai b), (2, ai w)] [] M := by
  obtain ⟨hY, hB⟩ := id hP
  have h3 : 0 ≤ M 1 4 ∧ M 1 4 ≤ 3 := (okY_n hY).1
  have k0 : ¬ ((0 ≤ b ∧ b < M 1 4) ∧ 0 ≤ w ∧ w ≤ 1) → Q (some (ai (-2))) M := fun z => qeq hQ (if_neg z)
  have k1 : ((0 ≤ b ∧ b < M 1 4) ∧ 0 ≤ w ∧ w ≤ 1) → w = 0 → Q (some (ai (M 33 b.toNat))) M := fun z y => qeq hQ (by
    rw [← (vX_b M (b := b.toNat) (by omega)).1]
    exact (if_pos z).trans (if_pos y))
  have k2 : ((0 ≤ b ∧ b < M 1 4) ∧ 0 ≤ w ∧ w ≤ 1) → ¬ w = 0 → Q (some (ai (M 34 b.toNat))) M := fun z y => qeq hQ (by
    rw [← (vX_b M (b := b.toNat) (by omega)).2]
    exact (if_pos z).trans (if_neg y))
  simp only [e_wp dX0_bridge_0 rfl, e_wp dX0_bridge_1 rfl, e_wp dX0_bridge_2 rfl, e_wp dX0_bridge_3 rfl, e_wp dX0_bridge_6 rfl, e_wp dX0_bridge_9 rfl, e_wp dX0_bridge_10 rfl, e_wp dX0_bridge_11 rfl, e_wp dX0_bridge_14 rfl, e_wp dX0_bridge_17 rfl, e_wp dX0_bridge_18 rfl, e_wp dX0_bridge_21 rfl, e_wp dX0_bridge_22 rfl, e_wp dX0_bridge_25 rfl, e_wp dX0_bridge_28 rfl, e_wp dX0_bridge_29 rfl, e_wp dX0_bridge_30 rfl, e_wp dX0_bridge_33 rfl, e_wp dX0_bridge_34 rfl, e_wp dX0_bridge_37 rfl, e_wp dX0_bridge_40 rfl, e_wp dX0_bridge_41 rfl, e_wp dX0_bridge_42 rfl, e_wp dX0_bridge_45 rfl, e_wp dX0_bridge_47 rfl, c0_isBridge, P0_isBridge, V0_isBridge, cs0_bridge, c0_isOneOf, P0_isOneOf, V0_isOneOf, g0_10, g0_174, g0_177, a8_13, w8_13, a8_14, w8_14, a8_15, w8_15, a8_16, w8_16, a8_17, w8_17, a8_18, w8_18, a8_19, w8_19, a8_20, w8_20, a8_21, w8_21, a8_22, w8_22, a8_23, w8_23, a8_24, w8_24, a8_25, w8_25, a8_26, w8_26, a8_27, w8_27, a8_28, w8_28, a8_29, w8_29, a8_30, w8_30, a8_31, w8_31, a8_32, w8_32, a8_33, w8_33, a8_34, w8_34, a8_35, w8_35, a8_36, w8_36, a8_37, w8_37, a8_38, w8_38, a8_39, w8_39, a8_40, w8_40, a8_12, w8_12, a8_6, a8_7, e_iconst, e_bipush, e_sipush, e_lconst_0, e_lconst_1, e_iload, e_iload_0, e_iload_1, e_iload_2, e_iload_3, e_lload, e_lload_0, e_lload_1, e_lload_2, e_lload_3, e_aload, e_aload_0, e_aload_1, e_aload_2, e_aload_3, e_istore, e_istore_0, e_istore_1, e_istore_2, e_istore_3, e_astore, e_astore_0, e_astore_1, e_astore_2, e_astore_3, e_lstore, e_lstore_0, e_lstore_1, e_lstore_2, e_lstore_3, e_iinc, e_iadd, e_isub, e_imul, e_ladd, e_lsub, e_lmul, e_idiv, e_irem, e_ldiv, e_lrem, e_ineg, e_lneg, e_iand, e_ior, e_ixor, e_ishl, e_ishr, e_iushr, e_lcmp, e_i2l, e_l2i, e_i2b, e_i2s, e_dup_i, e_dup_r, e_pop_i, e_pop_r, e_dup2_l, e_dup2_ir, e_dup2_ii, e_ifeq, e_ifne, e_iflt, e_ifge, e_ifgt, e_ifle, e_iceq, e_icne, e_iclt, e_icge, e_icgt, e_icle, e_goto, e_switch, e_invokevirtual, e_invokestatic, e_invokespecial, e_ret0, e_ret1, e_ret2, e_ret3, ldI_s, ldL_s, ldR_s, clO_s, ctP_s, ctS_s, mgo_0, mgo_s, pjc_s, pj_0, pj_s, lk_s, rm1_0, rm1_i, rm1_r, rm1_l, rm2_0, rm2_i, rm2_r, rm2_l, csL_s, lc_lt, lc_ge, lc_gt, lc_le, lc_eq, b01_0, b01_1, b01_01, b01_n, up2_o, up2_s, up2_u, ne_eq, reduceCtorEq, Nat.reduceAdd, Nat.reduceEqDiff, Nat.reduceLT, Nat.reduceLeDiff, Int.reduceLE, Int.reduceLT, Int.reduceAdd, Int.reduceNeg, Int.reduceMul, Int.reduceSub, Int.reduceEq, Int.reduceToNat, Int.reduceNatCast, Int.cast_ofNat_Int, ↓reduceIte, and_self, List.drop_succ_cons, List.drop_zero, List.take_succ_cons, List.take_zero, List.length_cons, List.length_nil, List.reverse_cons, List.reverse_nil, List.nil_append, List.cons_append, Option.toList, true_and, and_true, or_false, false_or, or_true, true_or, forall_const, Classical.not_not, not_false_eq_true, not_true_eq_false, false_implies, true_implies, implies_true, imp_self]
  (repeat' (first | (intro _) | (refine And.intro ?_ ?_))); all_goals (first | omega | exact k0 (by omega) | exact k1 (by omega) (by omega) | exact k2 (by omega) (by omega))
set_option maxHeartbeats 4000000 in
set_option maxRecDepth 100000 in
theorem m0_bridge {rs : List (Nat × Nat)} : MOK cl8 (sh8 rs) tyl8 Nws8 2 yX0_bridge cX0_bridge 3 (some .int) (sp0_bridge rs) := by
  refine mok_of (own := RX0) (tb := tb0 (csL (cs0_bridge rs))) (rt := 1) (fuel := 400) (fun avs M Q => []) (by decide) rfl nws8_ok (tbOK0 _) rfl (csL_all ?_) ?_ ?_ ?_
  · intro q hq
    simp only [cs0_bridge, List.mem_cons, List.not_mem_nil, or_false] at hq
    rcases hq with rfl | rfl
    · exact cg0_isBridge (by decide)
    · exact cg0_isOneOf (by decide)
  · intro avs M Q hsp
    obtain ⟨xs, hx⟩ := spF_un _ _ _ hsp
    obtain ⟨e, hl⟩ := unA_mkT hx
    obtain ⟨b, w, rfl⟩ := len2 hl
    have e : avs = [ar 0, ai b, ai w] := e
    subst e
    simp [szL, isL]
  · intro avs M Q hM hav hsp
    obtain ⟨xs, hx⟩ := spF_un _ _ _ hsp
    obtain ⟨e, hl⟩ := unA_mkT hx
    obtain ⟨b, w, rfl⟩ := len2 hl
    have e : avs = [ar 0, ai b, ai w] := e
    subst e
    exact in0_bridge hM (hav (ai b) (by simp)) (hav (ai w) (by simp)) hsp.1 hsp.2
  · intro avs M Q hM hav hsp q hq m_ vs M1 hM1 hv hJ
    obtain ⟨xs, hx⟩ := spF_un _ _ _ hsp
    obtain ⟨e, hl⟩ := unA_mkT hx
    obtain ⟨b, w, rfl⟩ := len2 hl
    have e : avs = [ar 0, ai b, ai w] := e
    subst e
    cases hq
def P0_cart (rs : List (Nat × Nat)) (b : Int) (w : Int) (M : Mm) : Prop := okX M
def V0_cart (rs : List (Nat × Nat)) (b : Int) (w : Int) (M : Mm) : Int := A_cart (vX M) b w
def sp0_cart (rs : List (Nat × Nat)) : Spec := spF true [0, 0] 1 (fun x M => P0_cart rs (x 0) (x 1) M) (fun x M => V0_cart rs (x 0) (x 1) M)
theorem c0_cart {rs : List (Nat × Nat)} {b w : Int} {M : Mm} {Q : Option AV → Mm → Prop} : sp0_cart rs [ar 0, ai b, ai w] M Q = (P0_cart rs b w M ∧ Q (some (ai (V0_cart rs b w M))) M) := rfl
def cs0_cart (rs : List (Nat × Nat)) : List (Nat × Nat × Nat × Spec) := [(159, 1, 2, (sp0_isCart rs)), (170, 0, 2, (sp0_isOneOf rs))]
set_option maxHeartbeats 4000000 in
set_option maxRecDepth 100000 in
theorem in0_cart {rs : List (Nat × Nat)} {b w : Int} {M : Mm} {Q : Option AV → Mm → Prop} (hM : okM (sh8 rs) M) (h_b : i32 b) (h_w : i32 w) (hP : P0_cart rs b w M) (hQ : Q (some (ai (V0_cart rs b w M))) M) : wp (tb0 (csL (cs0_cart rs))) (sh8 rs) 3 1 cX0_cart [] Q 400 0 [(0, ar 0), (1, ai b), (2, ai w)] [] M := by
  obtain ⟨hY, hB⟩ := id hP
  have h3 : 0 ≤ M 1 5 ∧ M 1 5 ≤ 7 := (okY_n hY).2.1
  have k0 : ¬ ((0 ≤ b ∧ b < M 1 5) ∧ 0 ≤ w ∧ w ≤ 1) → Q (some (ai (-2))) M := fun z => qeq hQ (if_neg z)
  have k1 : ((0 ≤ b ∧ b < M 1 5) ∧ 0 ≤ w ∧ w ≤ 1) → w = 0 → Q (some (ai (M 35 b.toNat))) M := fun z y => qeq hQ (by
    rw [← (vX_c M (c := b.toNat) (by omega)).1]
    exact (if_pos z).trans (if_pos y))
  have k2 : ((0 ≤ b ∧ b < M 1 5) ∧ 0 ≤ w ∧ w ≤ 1) → ¬ w = 0 → Q (some (ai (M 36 b.toNat))) M := fun z y => qeq hQ (by
    rw [← (vX_c M (c := b.toNat) (by omega)).2]
    exact (if_pos z).trans (if_neg y))
  simp only [e_wp dX0_cart_0 rfl, e_wp dX0_cart_1 rfl, e_wp dX0_cart_2 rfl, e_wp dX0_cart_3 rfl, e_wp dX0_cart_6 rfl, e_wp dX0_cart_9 rfl, e_wp dX0_cart_10 rfl, e_wp dX0_cart_11 rfl, e_wp dX0_cart_14 rfl, e_wp dX0_cart_17 rfl, e_wp dX0_cart_18 rfl, e_wp dX0_cart_21 rfl, e_wp dX0_cart_22 rfl, e_wp dX0_cart_25 rfl, e_wp dX0_cart_28 rfl, e_wp dX0_cart_29 rfl, e_wp dX0_cart_30 rfl, e_wp dX0_cart_33 rfl, e_wp dX0_cart_34 rfl, e_wp dX0_cart_37 rfl, e_wp dX0_cart_40 rfl, e_wp dX0_cart_41 rfl, e_wp dX0_cart_42 rfl, e_wp dX0_cart_45 rfl, e_wp dX0_cart_47 rfl, c0_isCart, P0_isCart, V0_isCart, cs0_cart, c0_isOneOf, P0_isOneOf, V0_isOneOf, g0_10, g0_180, g0_181, a8_13, w8_13, a8_14, w8_14, a8_15, w8_15, a8_16, w8_16, a8_17, w8_17, a8_18, w8_18, a8_19, w8_19, a8_20, w8_20, a8_21, w8_21, a8_22, w8_22, a8_23, w8_23, a8_24, w8_24, a8_25, w8_25, a8_26, w8_26, a8_27, w8_27, a8_28, w8_28, a8_29, w8_29, a8_30, w8_30, a8_31, w8_31, a8_32, w8_32, a8_33, w8_33, a8_34, w8_34, a8_35, w8_35, a8_36, w8_36, a8_37, w8_37, a8_38, w8_38, a8_39, w8_39, a8_40, w8_40, a8_12, w8_12, a8_6, a8_7, e_iconst, e_bipush, e_sipush, e_lconst_0, e_lconst_1, e_iload, e_iload_0, e_iload_1, e_iload_2, e_iload_3, e_lload, e_lload_0, e_lload_1, e_lload_2, e_lload_3, e_aload, e_aload_0, e_aload_1, e_aload_2, e_aload_3, e_istore, e_istore_0, e_istore_1, e_istore_2, e_istore_3, e_astore, e_astore_0, e_astore_1, e_astore_2, e_astore_3, e_lstore, e_lstore_0, e_lstore_1, e_lstore_2, e_lstore_3, e_iinc, e_iadd, e_isub, e_imul, e_ladd, e_lsub, e_lmul, e_idiv, e_irem, e_ldiv, e_lrem, e_ineg, e_lneg, e_iand, e_ior, e_ixor, e_ishl, e_ishr, e_iushr, e_lcmp, e_i2l, e_l2i, e_i2b, e_i2s, e_dup_i, e_dup_r, e_pop_i, e_pop_r, e_dup2_l, e_dup2_ir, e_dup2_ii, e_ifeq, e_ifne, e_iflt, e_ifge, e_ifgt, e_ifle, e_iceq, e_icne, e_iclt, e_icge, e_icgt, e_icle, e_goto, e_switch, e_invokevirtual, e_invokestatic, e_invokespecial, e_ret0, e_ret1, e_ret2, e_ret3, ldI_s, ldL_s, ldR_s, clO_s, ctP_s, ctS_s, mgo_0, mgo_s, pjc_s, pj_0, pj_s, lk_s, rm1_0, rm1_i, rm1_r, rm1_l, rm2_0, rm2_i, rm2_r, rm2_l, csL_s, lc_lt, lc_ge, lc_gt, lc_le, lc_eq, b01_0, b01_1, b01_01, b01_n, up2_o, up2_s, up2_u, ne_eq, reduceCtorEq, Nat.reduceAdd, Nat.reduceEqDiff, Nat.reduceLT, Nat.reduceLeDiff, Int.reduceLE, Int.reduceLT, Int.reduceAdd, Int.reduceNeg, Int.reduceMul, Int.reduceSub, Int.reduceEq, Int.reduceToNat, Int.reduceNatCast, Int.cast_ofNat_Int, ↓reduceIte, and_self, List.drop_succ_cons, List.drop_zero, List.take_succ_cons, List.take_zero, List.length_cons, List.length_nil, List.reverse_cons, List.reverse_nil, List.nil_append, List.cons_append, Option.toList, true_and, and_true, or_false, false_or, or_true, true_or, forall_const, Classical.not_not, not_false_eq_true, not_true_eq_false, false_implies, true_implies, implies_true, imp_self]
  (repeat' (first | (intro _) | (refine And.intro ?_ ?_))); all_goals (first | omega | exact k0 (by omega) | exact k1 (by omega) (by omega) | exact k2 (by omega) (by omega))
set_option maxHeartbeats 4000000 in
set_option maxRecDepth 100000 in
theorem m0_cart {rs : List (Nat × Nat)} : MOK cl8 (sh8 rs) tyl8 Nws8 2 yX0_cart cX0_cart 3 (some .int) (sp0_cart rs) := by
  refine mok_of (own := RX0) (tb := tb0 (csL (cs0_cart rs))) (rt := 1) (fuel := 400) (fun avs M Q => []) (by decide) rfl nws8_ok (tbOK0 _) rfl (csL_all ?_) ?_ ?_ ?_
  · intro q hq
    simp only [cs0_cart, List.mem_cons, List.not_mem_nil, or_false] at hq
    rcases hq with rfl | rfl
    · exact cg0_isCart (by decide)
    · exact cg0_isOneOf (by decide)
  · intro avs M Q hsp
    obtain ⟨xs, hx⟩ := spF_un _ _ _ hsp
    obtain ⟨e, hl⟩ := unA_mkT hx
    obtain ⟨b, w, rfl⟩ := len2 hl
    have e : avs = [ar 0, ai b, ai w] := e
    subst e
    simp [szL, isL]
  · intro avs M Q hM hav hsp
    obtain ⟨xs, hx⟩ := spF_un _ _ _ hsp
    obtain ⟨e, hl⟩ := unA_mkT hx
    obtain ⟨b, w, rfl⟩ := len2 hl
    have e : avs = [ar 0, ai b, ai w] := e
    subst e
    exact in0_cart hM (hav (ai b) (by simp)) (hav (ai w) (by simp)) hsp.1 hsp.2
  · intro avs M Q hM hav hsp q hq m_ vs M1 hM1 hv hJ
    obtain ⟨xs, hx⟩ := spF_un _ _ _ hsp
    obtain ⟨e, hl⟩ := unA_mkT hx
    obtain ⟨b, w, rfl⟩ := len2 hl
    have e : avs = [ar 0, ai b, ai w] := e
    subst e
    cases hq
