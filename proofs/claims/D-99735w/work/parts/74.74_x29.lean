/-! SagMemory: the sets that leave a row; which cart to ask for -/
def bkX (M : Mm) : List Int := stk (fun k => M 30 k) (M 0 31).toNat
theorem bk_len {M : Mm} (h : 0 ≤ M 0 31) : ((bkX M).length : Int) = M 0 31 := by
  have : (bkX M).length = (M 0 31).toNat := stk_len _ _
  omega
def P0_askOf (rs : List (Nat × Nat)) (M : Mm) : Prop := (0 ≤ M 0 31 ∧ M 0 31 ≤ 128) ∧ (0 ≤ M 1 5 ∧ M 1 5 ≤ 7) ∧ ∀ x ∈ bkX M, 0 ≤ x ∧ x < 128
def R0_askOf (rs : List (Nat × Nat)) (M : Mm) (v : Int) (M1 : Mm) : Prop := frm [0] M M1 ∧ (∀ j, ¬ j = 32 → M1 0 j = M 0 j) ∧ (v, M1 0 32) = bestN (wrsN (bkX M)) (bkX M).length (M 1 5).toNat
def sp0_askOf (rs : List (Nat × Nat)) : Spec := spR true [] 1 (fun x M => P0_askOf rs M) (fun x M v M1 => R0_askOf rs M v M1)
theorem c0_askOf {rs : List (Nat × Nat)} {M : Mm} {Q : Option AV → Mm → Prop} : sp0_askOf rs [ar 0] M Q = (P0_askOf rs M ∧ ∀ (v : Int) (M1 : Mm), R0_askOf rs M v M1 → Q (some (ai v)) M1) := rfl
def cs0_askOf (rs : List (Nat × Nat)) : List (Nat × Nat × Nat × Spec) := [(225, 0, 2, (sp0_mmax rs))]
def J0_askOf_12 (rs : List (Nat × Nat)) (M : Mm) (m : Nat) (best : Int) (c : Int) (M1 : Mm) : Prop := ∃ a : Nat, c = a ∧ (a : Int) ≤ M 1 5 ∧ frm [0] M M1 ∧ (∀ j, ¬ j = 32 → M1 0 j = M 0 j) ∧ (best, M1 0 32) = bestN (wrsN (bkX M)) (bkX M).length a ∧ m = 1000 * (8 - a)
def J0_askOf_28 (rs : List (Nat × Nat)) (M : Mm) (m : Nat) (best : Int) (c : Int) (n : Int) (k : Int) (M1 : Mm) : Prop := ∃ a i : Nat, c = a ∧ k = i ∧ (a : Int) < M 1 5 ∧ (i : Int) ≤ M 0 31 ∧ frm [0] M M1 ∧ (∀ j, ¬ j = 32 → M1 0 j = M 0 j) ∧ (best, M1 0 32) = bestN (wrsN (bkX M)) (bkX M).length a ∧ n = oftN a (stk (fun k => M 30 k) i) ∧ m = 1000 * (7 - a) + 1 + (128 - i)
set_option maxHeartbeats 4000000 in
set_option maxRecDepth 100000 in
theorem in0_askOf {rs : List (Nat × Nat)} {M : Mm} {Q : Option AV → Mm → Prop} (hM : okM (sh8 rs) M) (hP : P0_askOf rs M) (hQ : ∀ (v : Int) (M1 : Mm), R0_askOf rs M v M1 → Q (some (ai v)) M1) (I_12 : List AV → Mm → Prop) (hI_12 : ∀ (m_ : Nat) (y_best : Int) (y_c : Int) (M2 : Mm), J0_askOf_12 rs M m_ y_best y_c M2 → I_12 [ar 0, ai y_best, ai y_c] M2) (I_28 : List AV → Mm → Prop) (hI_28 : ∀ (m_ : Nat) (y_best : Int) (y_c : Int) (y_n : Int) (y_k : Int) (M2 : Mm), J0_askOf_28 rs M m_ y_best y_c y_n y_k M2 → I_28 [ar 0, ai y_best, ai y_c, ai y_n, ai y_k] M2) : wp (tb0 (csL (cs0_askOf rs))) (sh8 rs) 5 1 cX0_askOf [(12, [0, 1, 2], I_12), (28, [0, 1, 2, 3, 4], I_28)] Q 400 0 [(0, ar 0)] [] M := by
  obtain ⟨hb, h4, hx⟩ := id hP
  simp only [e_wp dX0_askOf_0 rfl, e_wp dX0_askOf_1 rfl, e_wp dX0_askOf_2 rfl, e_wp dX0_askOf_5 rfl, e_wp dX0_askOf_8 rfl, e_wp dX0_askOf_9 rfl, e_wp dX0_askOf_10 rfl, e_wp dX0_askOf_11 rfl, e_wp dX0_askOf_12 rfl, e_wp dX0_askOf_13 rfl, e_wp dX0_askOf_14 rfl, e_wp dX0_askOf_17 rfl, e_wp dX0_askOf_20 rfl, e_wp dX0_askOf_23 rfl, e_wp dX0_askOf_24 rfl, e_wp dX0_askOf_25 rfl, e_wp dX0_askOf_26 rfl, e_wp dX0_askOf_28 rfl, e_wp dX0_askOf_30 rfl, e_wp dX0_askOf_31 rfl, e_wp dX0_askOf_34 rfl, e_wp dX0_askOf_37 rfl, e_wp dX0_askOf_38 rfl, e_wp dX0_askOf_39 rfl, e_wp dX0_askOf_42 rfl, e_wp dX0_askOf_44 rfl, e_wp dX0_askOf_45 rfl, e_wp dX0_askOf_46 rfl, e_wp dX0_askOf_47 rfl, e_wp dX0_askOf_48 rfl, e_wp dX0_askOf_49 rfl, e_wp dX0_askOf_50 rfl, e_wp dX0_askOf_51 rfl, e_wp dX0_askOf_54 rfl, e_wp dX0_askOf_57 rfl, e_wp dX0_askOf_58 rfl, e_wp dX0_askOf_59 rfl, e_wp dX0_askOf_62 rfl, e_wp dX0_askOf_63 rfl, e_wp dX0_askOf_64 rfl, e_wp dX0_askOf_67 rfl, e_wp dX0_askOf_69 rfl, e_wp dX0_askOf_71 rfl, e_wp dX0_askOf_72 rfl, e_wp dX0_askOf_75 rfl, e_wp dX0_askOf_78 rfl, e_wp dX0_askOf_81 rfl, e_wp dX0_askOf_82 rfl, e_wp dX0_askOf_84 rfl, e_wp dX0_askOf_87 rfl, e_wp dX0_askOf_88 rfl, e_wp dX0_askOf_89 rfl, e_wp dX0_askOf_92 rfl, e_wp dX0_askOf_95 rfl, e_wp dX0_askOf_96 rfl, g0_333, p0_350, g0_10, g0_156, g0_98, c0_mmax, P0_mmax, V0_mmax, cs0_askOf, g0_350, a8_13, w8_13, a8_14, w8_14, a8_15, w8_15, a8_16, w8_16, a8_17, w8_17, a8_18, w8_18, a8_19, w8_19, a8_20, w8_20, a8_21, w8_21, a8_22, w8_22, a8_23, w8_23, a8_24, w8_24, a8_25, w8_25, a8_26, w8_26, a8_27, w8_27, a8_28, w8_28, a8_29, w8_29, a8_30, w8_30, a8_31, w8_31, a8_32, w8_32, a8_33, w8_33, a8_34, w8_34, a8_35, w8_35, a8_36, w8_36, a8_37, w8_37, a8_38, w8_38, a8_39, w8_39, a8_40, w8_40, a8_12, w8_12, a8_6, a8_7, e_iconst, e_bipush, e_sipush, e_lconst_0, e_lconst_1, e_iload, e_iload_0, e_iload_1, e_iload_2, e_iload_3, e_lload, e_lload_0, e_lload_1, e_lload_2, e_lload_3, e_aload, e_aload_0, e_aload_1, e_aload_2, e_aload_3, e_istore, e_istore_0, e_istore_1, e_istore_2, e_istore_3, e_astore, e_astore_0, e_astore_1, e_astore_2, e_astore_3, e_lstore, e_lstore_0, e_lstore_1, e_lstore_2, e_lstore_3, e_iinc, e_iadd, e_isub, e_imul, e_ladd, e_lsub, e_lmul, e_idiv, e_irem, e_ldiv, e_lrem, e_ineg, e_lneg, e_iand, e_ior, e_ixor, e_ishl, e_ishr, e_iushr, e_lcmp, e_i2l, e_l2i, e_i2b, e_i2s, e_dup_i, e_dup_r, e_pop_i, e_pop_r, e_dup2_l, e_dup2_ir, e_dup2_ii, e_ifeq, e_ifne, e_iflt, e_ifge, e_ifgt, e_ifle, e_iceq, e_icne, e_iclt, e_icge, e_icgt, e_icle, e_goto, e_switch, e_invokevirtual, e_invokestatic, e_invokespecial, e_ret0, e_ret1, e_ret2, e_ret3, ldI_s, ldL_s, ldR_s, clO_s, ctP_s, ctS_s, mgo_0, mgo_s, pjc_s, pj_0, pj_s, lk_s, rm1_0, rm1_i, rm1_r, rm1_l, rm2_0, rm2_i, rm2_r, rm2_l, csL_s, lc_lt, lc_ge, lc_gt, lc_le, lc_eq, b01_0, b01_1, b01_01, b01_n, up2_o, up2_s, up2_u, ne_eq, reduceCtorEq, Nat.reduceAdd, Nat.reduceEqDiff, Nat.reduceLT, Nat.reduceLeDiff, Int.reduceLE, Int.reduceLT, Int.reduceAdd, Int.reduceNeg, Int.reduceMul, Int.reduceSub, Int.reduceEq, Int.reduceToNat, Int.reduceNatCast, Int.cast_ofNat_Int, ↓reduceIte, and_self, List.drop_succ_cons, List.drop_zero, List.take_succ_cons, List.take_zero, List.length_cons, List.length_nil, List.reverse_cons, List.reverse_nil, List.nil_append, List.cons_append, Option.toList, true_and, and_true, or_false, false_or, or_true, true_or, forall_const, Classical.not_not, not_false_eq_true, not_true_eq_false, false_implies, true_implies, implies_true, imp_self]
  refine hI_12 _ _ _ _ ⟨0, rfl, h4.1, frm_up frm_rf (by decide), fun j hj => up2_n hj, ?_, rfl⟩
  rw [up2_s]
  show _ = (-1, ((bkX M).length : Int))
  rw [bk_len hb.1]
set_option maxHeartbeats 4000000 in
set_option maxRecDepth 100000 in
theorem at0_askOf_12 {rs : List (Nat × Nat)} {M : Mm} {Q : Option AV → Mm → Prop} (hM : okM (sh8 rs) M) (hP : P0_askOf rs M) (hQ : ∀ (v : Int) (M1 : Mm), R0_askOf rs M v M1 → Q (some (ai v)) M1) {m : Nat} {best c : Int} {M1 : Mm} (hM1 : okM (sh8 rs) M1) (h_best : i32 best) (h_c : i32 c) (hJ : J0_askOf_12 rs M m best c M1) (I_12 : List AV → Mm → Prop) (hI_12 : ∀ (m_ : Nat) (y_best : Int) (y_c : Int) (M2 : Mm), m_ < m → J0_askOf_12 rs M m_ y_best y_c M2 → I_12 [ar 0, ai y_best, ai y_c] M2) (I_28 : List AV → Mm → Prop) (hI_28 : ∀ (m_ : Nat) (y_best : Int) (y_c : Int) (y_n : Int) (y_k : Int) (M2 : Mm), m_ < m → J0_askOf_28 rs M m_ y_best y_c y_n y_k M2 → I_28 [ar 0, ai y_best, ai y_c, ai y_n, ai y_k] M2) : wp (tb0 (csL (cs0_askOf rs))) (sh8 rs) 5 1 cX0_askOf [(12, [0, 1, 2], I_12), (28, [0, 1, 2, 3, 4], I_28)] Q 400 12 [(0, ar 0), (1, ai best), (2, ai c)] [] M1 := by
  obtain ⟨a, rfl, ha, hf, h0, hB, rfl⟩ := hJ
  obtain ⟨hb, h4, hx⟩ := id hP
  have e1 : M1 1 = M 1 := hf _ (by decide)
  simp only [e_wp dX0_askOf_0 rfl, e_wp dX0_askOf_1 rfl, e_wp dX0_askOf_2 rfl, e_wp dX0_askOf_5 rfl, e_wp dX0_askOf_8 rfl, e_wp dX0_askOf_9 rfl, e_wp dX0_askOf_10 rfl, e_wp dX0_askOf_11 rfl, e_wp dX0_askOf_12 rfl, e_wp dX0_askOf_13 rfl, e_wp dX0_askOf_14 rfl, e_wp dX0_askOf_17 rfl, e_wp dX0_askOf_20 rfl, e_wp dX0_askOf_23 rfl, e_wp dX0_askOf_24 rfl, e_wp dX0_askOf_25 rfl, e_wp dX0_askOf_26 rfl, e_wp dX0_askOf_28 rfl, e_wp dX0_askOf_30 rfl, e_wp dX0_askOf_31 rfl, e_wp dX0_askOf_34 rfl, e_wp dX0_askOf_37 rfl, e_wp dX0_askOf_38 rfl, e_wp dX0_askOf_39 rfl, e_wp dX0_askOf_42 rfl, e_wp dX0_askOf_44 rfl, e_wp dX0_askOf_45 rfl, e_wp dX0_askOf_46 rfl, e_wp dX0_askOf_47 rfl, e_wp dX0_askOf_48 rfl, e_wp dX0_askOf_49 rfl, e_wp dX0_askOf_50 rfl, e_wp dX0_askOf_51 rfl, e_wp dX0_askOf_54 rfl, e_wp dX0_askOf_57 rfl, e_wp dX0_askOf_58 rfl, e_wp dX0_askOf_59 rfl, e_wp dX0_askOf_62 rfl, e_wp dX0_askOf_63 rfl, e_wp dX0_askOf_64 rfl, e_wp dX0_askOf_67 rfl, e_wp dX0_askOf_69 rfl, e_wp dX0_askOf_71 rfl, e_wp dX0_askOf_72 rfl, e_wp dX0_askOf_75 rfl, e_wp dX0_askOf_78 rfl, e_wp dX0_askOf_81 rfl, e_wp dX0_askOf_82 rfl, e_wp dX0_askOf_84 rfl, e_wp dX0_askOf_87 rfl, e_wp dX0_askOf_88 rfl, e_wp dX0_askOf_89 rfl, e_wp dX0_askOf_92 rfl, e_wp dX0_askOf_95 rfl, e_wp dX0_askOf_96 rfl, g0_333, p0_350, g0_10, g0_156, g0_98, c0_mmax, P0_mmax, V0_mmax, cs0_askOf, g0_350, a8_13, w8_13, a8_14, w8_14, a8_15, w8_15, a8_16, w8_16, a8_17, w8_17, a8_18, w8_18, a8_19, w8_19, a8_20, w8_20, a8_21, w8_21, a8_22, w8_22, a8_23, w8_23, a8_24, w8_24, a8_25, w8_25, a8_26, w8_26, a8_27, w8_27, a8_28, w8_28, a8_29, w8_29, a8_30, w8_30, a8_31, w8_31, a8_32, w8_32, a8_33, w8_33, a8_34, w8_34, a8_35, w8_35, a8_36, w8_36, a8_37, w8_37, a8_38, w8_38, a8_39, w8_39, a8_40, w8_40, a8_12, w8_12, a8_6, a8_7, e_iconst, e_bipush, e_sipush, e_lconst_0, e_lconst_1, e_iload, e_iload_0, e_iload_1, e_iload_2, e_iload_3, e_lload, e_lload_0, e_lload_1, e_lload_2, e_lload_3, e_aload, e_aload_0, e_aload_1, e_aload_2, e_aload_3, e_istore, e_istore_0, e_istore_1, e_istore_2, e_istore_3, e_astore, e_astore_0, e_astore_1, e_astore_2, e_astore_3, e_lstore, e_lstore_0, e_lstore_1, e_lstore_2, e_lstore_3, e_iinc, e_iadd, e_isub, e_imul, e_ladd, e_lsub, e_lmul, e_idiv, e_irem, e_ldiv, e_lrem, e_ineg, e_lneg, e_iand, e_ior, e_ixor, e_ishl, e_ishr, e_iushr, e_lcmp, e_i2l, e_l2i, e_i2b, e_i2s, e_dup_i, e_dup_r, e_pop_i, e_pop_r, e_dup2_l, e_dup2_ir, e_dup2_ii, e_ifeq, e_ifne, e_iflt, e_ifge, e_ifgt, e_ifle, e_iceq, e_icne, e_iclt, e_icge, e_icgt, e_icle, e_goto, e_switch, e_invokevirtual, e_invokestatic, e_invokespecial, e_ret0, e_ret1, e_ret2, e_ret3, ldI_s, ldL_s, ldR_s, clO_s, ctP_s, ctS_s, mgo_0, mgo_s, pjc_s, pj_0, pj_s, lk_s, rm1_0, rm1_i, rm1_r, rm1_l, rm2_0, rm2_i, rm2_r, rm2_l, csL_s, lc_lt, lc_ge, lc_gt, lc_le, lc_eq, b01_0, b01_1, b01_01, b01_n, up2_o, up2_s, up2_u, ne_eq, reduceCtorEq, Nat.reduceAdd, Nat.reduceEqDiff, Nat.reduceLT, Nat.reduceLeDiff, Int.reduceLE, Int.reduceLT, Int.reduceAdd, Int.reduceNeg, Int.reduceMul, Int.reduceSub, Int.reduceEq, Int.reduceToNat, Int.reduceNatCast, Int.cast_ofNat_Int, ↓reduceIte, and_self, List.drop_succ_cons, List.drop_zero, List.take_succ_cons, List.take_zero, List.length_cons, List.length_nil, List.reverse_cons, List.reverse_nil, List.nil_append, List.cons_append, Option.toList, true_and, and_true, or_false, false_or, or_true, true_or, forall_const, Classical.not_not, not_false_eq_true, not_true_eq_false, false_implies, true_implies, implies_true, imp_self, e1]
  refine ⟨fun q => ?_, fun q => ?_⟩
  · refine hQ _ _ ⟨hf, h0, ?_⟩
    rw [hB, show (M 1 5).toNat = a by omega]
  · exact hI_28 (1000 * (7 - a) + 1 + (128 - 0)) _ _ _ _ _ (by omega) ⟨a, 0, rfl, rfl, q, hb.1, hf, h0, hB, rfl, rfl⟩
set_option maxHeartbeats 4000000 in
set_option maxRecDepth 100000 in
theorem at0_askOf_28 {rs : List (Nat × Nat)} {M : Mm} {Q : Option AV → Mm → Prop} (hM : okM (sh8 rs) M) (hP : P0_askOf rs M) (hQ : ∀ (v : Int) (M1 : Mm), R0_askOf rs M v M1 → Q (some (ai v)) M1) {m : Nat} {best c n k : Int} {M1 : Mm} (hM1 : okM (sh8 rs) M1) (h_best : i32 best) (h_c : i32 c) (h_n : i32 n) (h_k : i32 k) (hJ : J0_askOf_28 rs M m best c n k M1) (I_12 : List AV → Mm → Prop) (hI_12 : ∀ (m_ : Nat) (y_best : Int) (y_c : Int) (M2 : Mm), m_ < m → J0_askOf_12 rs M m_ y_best y_c M2 → I_12 [ar 0, ai y_best, ai y_c] M2) (I_28 : List AV → Mm → Prop) (hI_28 : ∀ (m_ : Nat) (y_best : Int) (y_c : Int) (y_n : Int) (y_k : Int) (M2 : Mm), m_ < m → J0_askOf_28 rs M m_ y_best y_c y_n y_k M2 → I_28 [ar 0, ai y_best, ai y_c, ai y_n, ai y_k] M2) : wp (tb0 (csL (cs0_askOf rs))) (sh8 rs) 5 1 cX0_askOf [(12, [0, 1, 2], I_12), (28, [0, 1, 2, 3, 4], I_28)] Q 400 28 [(0, ar 0), (1, ai best), (2, ai c), (3, ai n), (4, ai k)] [] M1 := by
  obtain ⟨a, i, rfl, rfl, ha, hi, hf, h0, hB, rfl, rfl⟩ := hJ
  obtain ⟨hb, h4, hx⟩ := id hP
  have e1 : M1 1 = M 1 := hf _ (by decide)
  have e30 : M1 30 = M 30 := hf _ (by decide)
  have e31 : M1 0 31 = M 0 31 := h0 _ (by decide)
  have hob := @oftN_b a (stk (fun k => M 30 k) i)
  rw [stk_len] at hob
  simp only [e_wp dX0_askOf_0 rfl, e_wp dX0_askOf_1 rfl, e_wp dX0_askOf_2 rfl, e_wp dX0_askOf_5 rfl, e_wp dX0_askOf_8 rfl, e_wp dX0_askOf_9 rfl, e_wp dX0_askOf_10 rfl, e_wp dX0_askOf_11 rfl, e_wp dX0_askOf_12 rfl, e_wp dX0_askOf_13 rfl, e_wp dX0_askOf_14 rfl, e_wp dX0_askOf_17 rfl, e_wp dX0_askOf_20 rfl, e_wp dX0_askOf_23 rfl, e_wp dX0_askOf_24 rfl, e_wp dX0_askOf_25 rfl, e_wp dX0_askOf_26 rfl, e_wp dX0_askOf_28 rfl, e_wp dX0_askOf_30 rfl, e_wp dX0_askOf_31 rfl, e_wp dX0_askOf_34 rfl, e_wp dX0_askOf_37 rfl, e_wp dX0_askOf_38 rfl, e_wp dX0_askOf_39 rfl, e_wp dX0_askOf_42 rfl, e_wp dX0_askOf_44 rfl, e_wp dX0_askOf_45 rfl, e_wp dX0_askOf_46 rfl, e_wp dX0_askOf_47 rfl, e_wp dX0_askOf_48 rfl, e_wp dX0_askOf_49 rfl, e_wp dX0_askOf_50 rfl, e_wp dX0_askOf_51 rfl, e_wp dX0_askOf_54 rfl, e_wp dX0_askOf_57 rfl, e_wp dX0_askOf_58 rfl, e_wp dX0_askOf_59 rfl, e_wp dX0_askOf_62 rfl, e_wp dX0_askOf_63 rfl, e_wp dX0_askOf_64 rfl, e_wp dX0_askOf_67 rfl, e_wp dX0_askOf_69 rfl, e_wp dX0_askOf_71 rfl, e_wp dX0_askOf_72 rfl, e_wp dX0_askOf_75 rfl, e_wp dX0_askOf_78 rfl, e_wp dX0_askOf_81 rfl, e_wp dX0_askOf_82 rfl, e_wp dX0_askOf_84 rfl, e_wp dX0_askOf_87 rfl, e_wp dX0_askOf_88 rfl, e_wp dX0_askOf_89 rfl, e_wp dX0_askOf_92 rfl, e_wp dX0_askOf_95 rfl, e_wp dX0_askOf_96 rfl, g0_333, p0_350, g0_10, g0_156, g0_98, c0_mmax, P0_mmax, V0_mmax, cs0_askOf, g0_350, a8_13, w8_13, a8_14, w8_14, a8_15, w8_15, a8_16, w8_16, a8_17, w8_17, a8_18, w8_18, a8_19, w8_19, a8_20, w8_20, a8_21, w8_21, a8_22, w8_22, a8_23, w8_23, a8_24, w8_24, a8_25, w8_25, a8_26, w8_26, a8_27, w8_27, a8_28, w8_28, a8_29, w8_29, a8_30, w8_30, a8_31, w8_31, a8_32, w8_32, a8_33, w8_33, a8_34, w8_34, a8_35, w8_35, a8_36, w8_36, a8_37, w8_37, a8_38, w8_38, a8_39, w8_39, a8_40, w8_40, a8_12, w8_12, a8_6, a8_7, e_iconst, e_bipush, e_sipush, e_lconst_0, e_lconst_1, e_iload, e_iload_0, e_iload_1, e_iload_2, e_iload_3, e_lload, e_lload_0, e_lload_1, e_lload_2, e_lload_3, e_aload, e_aload_0, e_aload_1, e_aload_2, e_aload_3, e_istore, e_istore_0, e_istore_1, e_istore_2, e_istore_3, e_astore, e_astore_0, e_astore_1, e_astore_2, e_astore_3, e_lstore, e_lstore_0, e_lstore_1, e_lstore_2, e_lstore_3, e_iinc, e_iadd, e_isub, e_imul, e_ladd, e_lsub, e_lmul, e_idiv, e_irem, e_ldiv, e_lrem, e_ineg, e_lneg, e_iand, e_ior, e_ixor, e_ishl, e_ishr, e_iushr, e_lcmp, e_i2l, e_l2i, e_i2b, e_i2s, e_dup_i, e_dup_r, e_pop_i, e_pop_r, e_dup2_l, e_dup2_ir, e_dup2_ii, e_ifeq, e_ifne, e_iflt, e_ifge, e_ifgt, e_ifle, e_iceq, e_icne, e_iclt, e_icge, e_icgt, e_icle, e_goto, e_switch, e_invokevirtual, e_invokestatic, e_invokespecial, e_ret0, e_ret1, e_ret2, e_ret3, ldI_s, ldL_s, ldR_s, clO_s, ctP_s, ctS_s, mgo_0, mgo_s, pjc_s, pj_0, pj_s, lk_s, rm1_0, rm1_i, rm1_r, rm1_l, rm2_0, rm2_i, rm2_r, rm2_l, csL_s, lc_lt, lc_ge, lc_gt, lc_le, lc_eq, b01_0, b01_1, b01_01, b01_n, up2_o, up2_s, up2_u, ne_eq, reduceCtorEq, Nat.reduceAdd, Nat.reduceEqDiff, Nat.reduceLT, Nat.reduceLeDiff, Int.reduceLE, Int.reduceLT, Int.reduceAdd, Int.reduceNeg, Int.reduceMul, Int.reduceSub, Int.reduceEq, Int.reduceToNat, Int.reduceNatCast, Int.cast_ofNat_Int, ↓reduceIte, and_self, List.drop_succ_cons, List.drop_zero, List.take_succ_cons, List.take_zero, List.length_cons, List.length_nil, List.reverse_cons, List.reverse_nil, List.nil_append, List.cons_append, Option.toList, true_and, and_true, or_false, false_or, or_true, true_or, forall_const, Classical.not_not, not_false_eq_true, not_true_eq_false, false_implies, true_implies, implies_true, imp_self, e1, e30, e31, Int.toNat_natCast]
  refine ⟨fun q => ?_, fun q => ⟨by omega, ?_⟩⟩
  · have es : stk (fun k => M 30 k) i = bkX M := by unfold bkX; rw [show (M 0 31).toNat = i by omega]
    rw [es] at hob ⊢
    have hl := bk_len hb.1
    have ew : (if oftN a (bkX M) < M 0 31 - oftN a (bkX M) then M 0 31 - oftN a (bkX M) else oftN a (bkX M)) = wrsN (bkX M) a := by
      unfold wrsN
      rw [hl]
      split <;> split <;> omega
    rw [ew]
    have el : M1 0 32 = (bestN (wrsN (bkX M)) (bkX M).length a).2 := congrArg Prod.snd hB
    refine ⟨by omega, fun z => ⟨by omega, ?_⟩, fun z => ⟨by omega, ?_⟩⟩
    · refine hI_12 (1000 * (8 - (a + 1))) _ _ _ (by omega) ⟨a + 1, by omega, by omega, frm_up hf (by decide), fun j hj => (up2_n hj).trans (h0 j hj), ?_, rfl⟩
      rw [up2_s, bestN_1 (by rw [← el]; exact z)]
    · refine hI_12 (1000 * (8 - (a + 1))) _ _ _ (by omega) ⟨a + 1, by omega, by omega, hf, h0, ?_, rfl⟩
      rw [bestN_0 (by rw [← el]; omega)]
      exact hB
  · have hbb : 0 ≤ b01 (bitP (M 30 i) a) ∧ b01 (bitP (M 30 i) a) ≤ 1 := b01_b
    rw [bit_01]
    exact ⟨by omega, by omega, hI_28 (1000 * (7 - a) + 1 + (128 - (i + 1))) _ _ _ _ _ (by omega) ⟨a, i + 1, rfl, by omega, ha, by omega, hf, h0, hB, rfl, rfl⟩⟩
set_option maxHeartbeats 4000000 in
set_option maxRecDepth 100000 in
theorem m0_askOf {rs : List (Nat × Nat)} : MOK cl8 (sh8 rs) tyl8 Nws8 1 yX0_askOf cX0_askOf 5 (some .int) (sp0_askOf rs) := by
  refine mok_of (own := RX0) (tb := tb0 (csL (cs0_askOf rs))) (rt := 1) (fuel := 400) (fun avs M Q => [(12, [0, 1, 2], fun m_ vs M1 => ∃ y_best : Int, ∃ y_c : Int, vs = [ar 0, ai y_best, ai y_c] ∧ J0_askOf_12 rs M m_ y_best y_c M1), (28, [0, 1, 2, 3, 4], fun m_ vs M1 => ∃ y_best : Int, ∃ y_c : Int, ∃ y_n : Int, ∃ y_k : Int, vs = [ar 0, ai y_best, ai y_c, ai y_n, ai y_k] ∧ J0_askOf_28 rs M m_ y_best y_c y_n y_k M1)]) (by decide) rfl nws8_ok (tbOK0 _) rfl (csL_all ?_) ?_ ?_ ?_
  · intro q hq
    simp only [cs0_askOf, List.mem_cons, List.not_mem_nil, or_false] at hq
    rcases hq with rfl
    · exact cg0_mmax (by decide)
  · intro avs M Q hsp
    obtain ⟨xs, hx⟩ := spR_un _ _ _ hsp
    obtain ⟨e, hl⟩ := unA_mkT hx
    obtain rfl := len0 hl
    have e : avs = [ar 0] := e
    subst e
    simp [szL, isL]
  · intro avs M Q hM hav hsp
    obtain ⟨xs, hx⟩ := spR_un _ _ _ hsp
    obtain ⟨e, hl⟩ := unA_mkT hx
    obtain rfl := len0 hl
    have e : avs = [ar 0] := e
    subst e
    exact in0_askOf hM hsp.1 hsp.2 _ (fun m_ y_best y_c M2 hJ => ⟨m_, y_best, y_c, rfl, hJ⟩) _ (fun m_ y_best y_c y_n y_k M2 hJ => ⟨m_, y_best, y_c, y_n, y_k, rfl, hJ⟩)
  · intro avs M Q hM hav hsp q hq m_ vs M1 hM1 hv hJ
    obtain ⟨xs, hx⟩ := spR_un _ _ _ hsp
    obtain ⟨e, hl⟩ := unA_mkT hx
    obtain rfl := len0 hl
    have e : avs = [ar 0] := e
    subst e
    simp only [List.mem_cons, List.not_mem_nil, or_false] at hq
    rcases hq with rfl | rfl
    · obtain ⟨y_best, y_c, rfl, hJ⟩ := hJ
      exact at0_askOf_12 hM hsp.1 hsp.2 hM1 (hv (1, ai y_best) (List.mem_of_getElem? (i := 1) rfl)) (hv (2, ai y_c) (List.mem_of_getElem? (i := 2) rfl)) hJ _ (fun m2 z_best z_c M2 hm hJ2 => ⟨m2, hm, z_best, z_c, rfl, hJ2⟩) _ (fun m2 z_best z_c z_n z_k M2 hm hJ2 => ⟨m2, hm, z_best, z_c, z_n, z_k, rfl, hJ2⟩)
    · obtain ⟨y_best, y_c, y_n, y_k, rfl, hJ⟩ := hJ
      exact at0_askOf_28 hM hsp.1 hsp.2 hM1 (hv (1, ai y_best) (List.mem_of_getElem? (i := 1) rfl)) (hv (2, ai y_c) (List.mem_of_getElem? (i := 2) rfl)) (hv (3, ai y_n) (List.mem_of_getElem? (i := 3) rfl)) (hv (4, ai y_k) (List.mem_of_getElem? (i := 4) rfl)) hJ _ (fun m2 z_best z_c M2 hm hJ2 => ⟨m2, hm, z_best, z_c, rfl, hJ2⟩) _ (fun m2 z_best z_c z_n z_k M2 hm hJ2 => ⟨m2, hm, z_best, z_c, z_n, z_k, rfl, hJ2⟩)
theorem cg0_askOf {rs : List (Nat × Nat)} {lvl : Nat} (h : 1 < lvl) : CG RX0 cl8 (sh8 rs) tyl8 Nws8 lvl 1 353 1 (sp0_askOf rs) := cg_V (sg := []) nws8_ok spR_mono spR_un m0_askOf h rfl (by decide) rfl rfl ⟨rfl, by decide, by decide, rfl⟩ q1126 q1128 qs43 q128 q1129
/-- the bridges' marks when it is told anew: laws, loads .. as they are -/
abbrev askXR : List Nat := [0, 16, 17, 18, 13, 14, 15, 30]
/-- what is kept while sets are gone through -/
def bckI (M M1 : Mm) (a : Nat) (V : Vy) (s : Sl) (b : Int) : Prop := frm askXR M M1 ∧ (∀ j, j ∈ [2, 3, 4] → M1 0 j = M 0 j) ∧ M1 0 10 = M 1 0 + 2 ∧ (M 0 8 ≤ M1 0 8 ∧ M1 0 8 ≤ M 0 8 + 56 * a) ∧ M1 0 31 = (backL V s b a).length ∧ bkX M1 = backL V s b a
theorem tellX_l {V : Vy} {M1 : Mm} (h : nC V (cX M1) = tellP V) : M1 0 10 = V 0 0 + 2 := by
  have e := congrFun (congrFun h 0) 0
  have e : M1 0 10 - 2 = V 0 0 := e
  omega
def P0_asksBack (rs : List (Nat × Nat)) (s : Int) (b : Int) (M : Mm) : Prop := okX M ∧ okWi M ∧ okSX rs M ∧ ((0 ≤ s ∧ s ≤ 3) ∧ isB (vX M) b → ¬ M (8 + s.toNat) 0 < 0)
def R0_asksBack (rs : List (Nat × Nat)) (s : Int) (b : Int) (M : Mm) (v : Int) (M1 : Mm) : Prop := keepZ 7200 M M1 ∧ v = whyP (vX M) (slX rs M) s b ∧ (v = 0 → M1 0 31 = (backS (vX M) (slX rs M s.toNat) b).length ∧ bkX M1 = backS (vX M) (slX rs M s.toNat) b)
def sp0_asksBack (rs : List (Nat × Nat)) : Spec := spR true [0, 0] 1 (fun x M => P0_asksBack rs (x 0) (x 1) M) (fun x M v M1 => R0_asksBack rs (x 0) (x 1) M v M1)
theorem c0_asksBack {rs : List (Nat × Nat)} {s b : Int} {M : Mm} {Q : Option AV → Mm → Prop} : sp0_asksBack rs [ar 0, ai s, ai b] M Q = (P0_asksBack rs s b M ∧ ∀ (v : Int) (M1 : Mm), R0_asksBack rs s b M v M1 → Q (some (ai v)) M1) := rfl
def cs0_asksBack (rs : List (Nat × Nat)) : List (Nat × Nat × Nat × Spec) := [(330, 0, 1, (sp0_isSlot rs)), (167, 1, 2, (sp0_isBridge rs)), (250, 1, 1, (sp0_asItIs rs)), (336, 1, 1, (sp0_all_2 rs)), (339, 1, 2, (sp0_toldBy rs)), (342, 1, 3, (sp0_isLeft rs))]
def xs0_asksBack (rs : List (Nat × Nat)) : List (Nat × Nat × Nat × Spec) := []
def J0_asksBack_30 (rs : List (Nat × Nat)) (s : Int) (b : Int) (M : Mm) (m : Nat) (s_ : Int) (b_ : Int) (x : Int) (M1 : Mm) : Prop := s = s_ ∧ b = b_ ∧ (0 ≤ s ∧ s ≤ 3) ∧ isB (vX M) b ∧ ∃ a : Nat, x = a ∧ a ≤ 2 ^ (vX M 0 4).toNat ∧ bckI M M1 a (vX M) (slX rs M s.toNat) b ∧ m = 128 - a
set_option maxHeartbeats 4000000 in
set_option maxRecDepth 100000 in
theorem in0_asksBack {rs : List (Nat × Nat)} {s b : Int} {M : Mm} {Q : Option AV → Mm → Prop} (hM : okM (sh8 rs) M) (h_s : i32 s) (h_b : i32 b) (hP : P0_asksBack rs s b M) (hQ : ∀ (v : Int) (M1 : Mm), R0_asksBack rs s b M v M1 → Q (some (ai v)) M1) (I_30 : List AV → Mm → Prop) (hI_30 : ∀ (m_ : Nat) (y_s_ : Int) (y_b_ : Int) (y_x : Int) (M2 : Mm), J0_asksBack_30 rs s b M m_ y_s_ y_b_ y_x M2 → I_30 [ar 0, ai y_s_, ai y_b_, ai y_x] M2) : wpx (tb0 (csL (cs0_asksBack rs))) (csL (xs0_asksBack rs)) (sh8 rs) 4 1 cX0_asksBack [(30, [0, 1, 2, 3], I_30)] Q (fun _ _ => False) 400 false 0 [(0, ar 0), (1, ai s), (2, ai b)] [] M := by
  obtain ⟨⟨hY, hB⟩, hw, hS, hr⟩ := id hP
  have h3 : 0 ≤ M 1 4 ∧ M 1 4 ≤ 3 := (okY_n hY).1
  have e1 : ¬ ((0 ≤ s ∧ s ≤ 3) ∧ 0 ≤ b ∧ b < M 1 4) → whyP (vX M) (slX rs M) s b = -2 := fun q => if_neg q
  have k1 : ¬ ((0 ≤ s ∧ s ≤ 3) ∧ 0 ≤ b ∧ b < M 1 4) → Q (some (ai (-2))) M := fun q => hQ _ _ ⟨keepZ_of keepX_rf (by omega), (e1 q).symm, fun z => by omega⟩
  simp only [e_wpy (k := 9) dX0_asksBack_0 rfl rfl rfl, e_wpy (k := 3306) dX0_asksBack_1 rfl rfl rfl, e_wpy (k := 9) dX0_asksBack_4 rfl rfl rfl, e_wpy (k := 9) dX0_asksBack_7 rfl rfl rfl, e_wpy (k := 9) dX0_asksBack_8 rfl rfl rfl, e_wpy (k := 9) dX0_asksBack_9 rfl rfl rfl, e_wpy (k := 1675) dX0_asksBack_10 rfl rfl rfl, e_wpy (k := 9) dX0_asksBack_13 rfl rfl rfl, e_wpy (k := 9) dX0_asksBack_16 rfl rfl rfl, e_wpy (k := 9) dX0_asksBack_18 rfl rfl rfl, e_wpy (k := 9) dX0_asksBack_19 rfl rfl rfl, e_wpy (k := 2505) dX0_asksBack_20 rfl rfl rfl, e_wpy (k := 9) dX0_asksBack_23 rfl rfl rfl, e_wpy (k := 9) dX0_asksBack_24 rfl rfl rfl, e_wpy (k := 9) dX0_asksBack_25 rfl rfl rfl, e_wpy (k := 9) dX0_asksBack_28 rfl rfl rfl, e_wpy (k := 9) dX0_asksBack_29 rfl rfl rfl, e_wpy (k := 9) dX0_asksBack_30 rfl rfl rfl, e_wpy (k := 9) dX0_asksBack_31 rfl rfl rfl, e_wpy (k := 3365) dX0_asksBack_32 rfl rfl rfl, e_wpy (k := 9) dX0_asksBack_35 rfl rfl rfl, e_wpy (k := 9) dX0_asksBack_38 rfl rfl rfl, e_wpy (k := 9) dX0_asksBack_39 rfl rfl rfl, e_wpy (k := 9) dX0_asksBack_40 rfl rfl rfl, e_wpy (k := 3395) dX0_asksBack_41 rfl rfl rfl, e_wpy (k := 9) dX0_asksBack_44 rfl rfl rfl, e_wpy (k := 9) dX0_asksBack_45 rfl rfl rfl, e_wpy (k := 9) dX0_asksBack_46 rfl rfl rfl, e_wpy (k := 9) dX0_asksBack_47 rfl rfl rfl, e_wpy (k := 9) dX0_asksBack_50 rfl rfl rfl, e_wpy (k := 9) dX0_asksBack_51 rfl rfl rfl, e_wpy (k := 9) dX0_asksBack_52 rfl rfl rfl, e_wpy (k := 3425) dX0_asksBack_53 rfl rfl rfl, e_wpy (k := 9) dX0_asksBack_56 rfl rfl rfl, e_wpy (k := 9) dX0_asksBack_59 rfl rfl rfl, e_wpy (k := 9) dX0_asksBack_62 rfl rfl rfl, e_wpy (k := 9) dX0_asksBack_63 rfl rfl rfl, e_wpy (k := 9) dX0_asksBack_66 rfl rfl rfl, e_wpy (k := 9) dX0_asksBack_67 rfl rfl rfl, e_wpy (k := 9) dX0_asksBack_70 rfl rfl rfl, e_wpy (k := 58) dX0_asksBack_71 rfl rfl rfl, e_wpy (k := 9) dX0_asksBack_72 rfl rfl rfl, e_wpy (k := 9) dX0_asksBack_73 rfl rfl rfl, e_wpy (k := 9) dX0_asksBack_74 rfl rfl rfl, e_wpy (k := 9) dX0_asksBack_77 rfl rfl rfl, e_wpy (k := 9) dX0_asksBack_78 rfl rfl rfl, e_wpy (k := 9) dX0_asksBack_79 rfl rfl rfl, e_wpy (k := 9) dX0_asksBack_82 rfl rfl rfl, e_wpy (k := 9) dX0_asksBack_85 rfl rfl rfl, e_wpy (k := 9) dX0_asksBack_88 rfl rfl rfl, e_wpy (k := 9) dX0_asksBack_89 rfl rfl rfl, e_wpy (k := 9) dX0_asksBack_90 rfl rfl rfl, e_wpy (k := 9) dX0_asksBack_91 rfl rfl rfl, e_wpy (k := 9) dX0_asksBack_93 rfl rfl rfl, xoff_a, ex_null_n, ex_null_r, ex_nonn_n, ex_nonn_r, ex_aret, xel_n, xel_s, xgo_0, xgo_1x, xgo_1v, xgo_1i, xgo_1l, xgo_1r, xgo_2, xgo_3, xgo_4, xgo_5x, xgo_5v, xgo_5i, xgo_5l, xgd_5, xgd_0, xgd_1, xgd_2, xgd_3, xgd_4, ath_y, xct_f, xct_t, xna_f, csL_n, Nat.reduceMul, xs0_asksBack, c0_isSlot, P0_isSlot, V0_isSlot, cs0_asksBack, c0_isBridge, P0_isBridge, V0_isBridge, c0_asItIs, p0_333, c0_all_2, P0_all_2, V0_all_2, c0_toldBy, P0_toldBy, V0_toldBy, c0_isLeft, g0_98, g0_333, a8_13, w8_13, a8_14, w8_14, a8_15, w8_15, a8_16, w8_16, a8_17, w8_17, a8_18, w8_18, a8_19, w8_19, a8_20, w8_20, a8_21, w8_21, a8_22, w8_22, a8_23, w8_23, a8_24, w8_24, a8_25, w8_25, a8_26, w8_26, a8_27, w8_27, a8_28, w8_28, a8_29, w8_29, a8_30, w8_30, a8_31, w8_31, a8_32, w8_32, a8_33, w8_33, a8_34, w8_34, a8_35, w8_35, a8_36, w8_36, a8_37, w8_37, a8_38, w8_38, a8_39, w8_39, a8_40, w8_40, a8_12, w8_12, a8_6, a8_7, e_iconst, e_bipush, e_sipush, e_lconst_0, e_lconst_1, e_iload, e_iload_0, e_iload_1, e_iload_2, e_iload_3, e_lload, e_lload_0, e_lload_1, e_lload_2, e_lload_3, e_aload, e_aload_0, e_aload_1, e_aload_2, e_aload_3, e_istore, e_istore_0, e_istore_1, e_istore_2, e_istore_3, e_astore, e_astore_0, e_astore_1, e_astore_2, e_astore_3, e_lstore, e_lstore_0, e_lstore_1, e_lstore_2, e_lstore_3, e_iinc, e_iadd, e_isub, e_imul, e_ladd, e_lsub, e_lmul, e_idiv, e_irem, e_ldiv, e_lrem, e_ineg, e_lneg, e_iand, e_ior, e_ixor, e_ishl, e_ishr, e_iushr, e_lcmp, e_i2l, e_l2i, e_i2b, e_i2s, e_dup_i, e_dup_r, e_pop_i, e_pop_r, e_dup2_l, e_dup2_ir, e_dup2_ii, e_ifeq, e_ifne, e_iflt, e_ifge, e_ifgt, e_ifle, e_iceq, e_icne, e_iclt, e_icge, e_icgt, e_icle, e_goto, e_switch, e_invokevirtual, e_invokestatic, e_invokespecial, e_ret0, e_ret1, e_ret2, e_ret3, ldI_s, ldL_s, ldR_s, clO_s, ctP_s, ctS_s, mgo_0, mgo_s, pjc_s, pj_0, pj_s, lk_s, rm1_0, rm1_i, rm1_r, rm1_l, rm2_0, rm2_i, rm2_r, rm2_l, csL_s, lc_lt, lc_ge, lc_gt, lc_le, lc_eq, b01_0, b01_1, b01_01, b01_n, up2_o, up2_s, up2_u, ne_eq, reduceCtorEq, Nat.reduceAdd, Nat.reduceEqDiff, Nat.reduceLT, Nat.reduceLeDiff, Int.reduceLE, Int.reduceLT, Int.reduceAdd, Int.reduceNeg, Int.reduceMul, Int.reduceSub, Int.reduceEq, Int.reduceToNat, Int.reduceNatCast, Int.cast_ofNat_Int, ↓reduceIte, and_self, List.drop_succ_cons, List.drop_zero, List.take_succ_cons, List.take_zero, List.length_cons, List.length_nil, List.reverse_cons, List.reverse_nil, List.nil_append, List.cons_append, Option.toList, true_and, and_true, or_false, false_or, or_true, true_or, forall_const, Classical.not_not, not_false_eq_true, not_true_eq_false, false_implies, true_implies, implies_true, imp_self]
  refine ⟨fun q => k1 (fun z => q z.1), fun q => ⟨h3, fun q2 => ⟨⟨hY, hB⟩, fun M1 hR => ?_⟩, fun q2 => k1 (fun z => q2 z.2)⟩⟩
  obtain ⟨r1, r2, r3⟩ := hR
  have hl := tellX_l r3
  refine hI_30 (128 - 0) _ _ _ _ ⟨rfl, rfl, q, q2, 0, rfl, Nat.zero_le _, ⟨frm_up (frm_w r1 (by decide)) (by decide), fun j hj => ?_, ?_, ?_, ?_, ?_⟩, rfl⟩
  · simp only [List.mem_cons, List.not_mem_nil, or_false] at hj
    rw [up2_n (by omega)]
    exact r2 j (by omega) (by omega) (by omega)
  · rw [up2_n (by decide)]; exact hl
  · rw [up2_n (by decide), r2 8 (by decide) (by decide) (by decide)]; omega
  · rw [up2_s]; rfl
  · unfold bkX
    rw [up2_s]; rfl
set_option maxHeartbeats 4000000 in
set_option maxRecDepth 100000 in
theorem at0_asksBack_30 {rs : List (Nat × Nat)} {s b : Int} {M : Mm} {Q : Option AV → Mm → Prop} (hM : okM (sh8 rs) M) (h_s : i32 s) (h_b : i32 b) (hP : P0_asksBack rs s b M) (hQ : ∀ (v : Int) (M1 : Mm), R0_asksBack rs s b M v M1 → Q (some (ai v)) M1) {m : Nat} {s_ b_ x : Int} {M1 : Mm} (hM1 : okM (sh8 rs) M1) (h_s_ : i32 s_) (h_b_ : i32 b_) (h_x : i32 x) (hJ : J0_asksBack_30 rs s b M m s_ b_ x M1) (I_30 : List AV → Mm → Prop) (hI_30 : ∀ (m_ : Nat) (y_s_ : Int) (y_b_ : Int) (y_x : Int) (M2 : Mm), m_ < m → J0_asksBack_30 rs s b M m_ y_s_ y_b_ y_x M2 → I_30 [ar 0, ai y_s_, ai y_b_, ai y_x] M2) : wpx (tb0 (csL (cs0_asksBack rs))) (csL (xs0_asksBack rs)) (sh8 rs) 4 1 cX0_asksBack [(30, [0, 1, 2, 3], I_30)] Q (fun _ _ => False) 400 false 30 [(0, ar 0), (1, ai s_), (2, ai b_), (3, ai x)] [] M1 := by
  obtain ⟨rfl, rfl, hs, hb, a, rfl, ha, hz, rfl⟩ := hJ
  obtain ⟨⟨hY, hB⟩, hw, hS, hr⟩ := id hP
  obtain ⟨z1, z2, z3, z4, z5, z6⟩ := id hz
  have h4 : 0 ≤ M 1 5 ∧ M 1 5 ≤ 7 := (okY_n hY).2.1
  have e1 : M1 1 = M 1 := z1 _ (by decide)
  have eV : vX M1 = vX M := vX_frm z1 (by decide)
  have hB1 : baseI M1 := base_f z1 (by decide) (by decide) hB
  have hp := pow7 (n := (vX M 0 4).toNat) (by show (M 1 5).toNat ≤ 7; omega)
  have hpw : (((2 : Nat) ^ (M 1 5).toNat : Nat) : Int) = (2 : Int) ^ (M 1 5).toNat := Int.natCast_pow 2 _
  have ha : a ≤ 2 ^ (M 1 5).toNat := ha
  have hp : 2 ^ (M 1 5).toNat ≤ 128 := hp
  have hrow : rowOK rs (M (8 + s.toNat) 0) := (hS s.toNat (by omega)).resolve_left (hr ⟨hs, hb⟩)
  have e80 : M1 (8 + s.toNat) 0 = M (8 + s.toNat) 0 := congrFun (z1 _ (by simp only [List.mem_cons, List.not_mem_nil, or_false]; omega)) 0
  have eS := slX_eq z1 (by decide) hS (s := s.toNat) (by omega)
  have hL := @backL_rg (vX M) (slX rs M s.toNat) b a
  have eW : whyP (vX M) (slX rs M) s b = 0 := (if_pos ⟨hs, hb⟩).trans (if_neg (fun z => hr ⟨hs, hb⟩ (slX_w.mp z)))
  have go0 : ∀ M2, (a : Int) < ((2 ^ (M 1 5).toNat : Nat) : Int) → bckI M M2 (a + 1) (vX M) (slX rs M s.toNat) b → i32 ((a : Int) + 1) ∧ I_30 [ar 0, ai s, ai b, ai ((a : Int) + 1)] M2 := by
    intro M2 g0 g1
    exact ⟨by omega, hI_30 (128 - (a + 1)) _ _ _ _ (by omega) ⟨rfl, rfl, hs, hb, a + 1, by omega, by show a + 1 ≤ 2 ^ (M 1 5).toNat; omega, g1, rfl⟩⟩
  simp only [e_wpy (k := 9) dX0_asksBack_0 rfl rfl rfl, e_wpy (k := 3306) dX0_asksBack_1 rfl rfl rfl, e_wpy (k := 9) dX0_asksBack_4 rfl rfl rfl, e_wpy (k := 9) dX0_asksBack_7 rfl rfl rfl, e_wpy (k := 9) dX0_asksBack_8 rfl rfl rfl, e_wpy (k := 9) dX0_asksBack_9 rfl rfl rfl, e_wpy (k := 1675) dX0_asksBack_10 rfl rfl rfl, e_wpy (k := 9) dX0_asksBack_13 rfl rfl rfl, e_wpy (k := 9) dX0_asksBack_16 rfl rfl rfl, e_wpy (k := 9) dX0_asksBack_18 rfl rfl rfl, e_wpy (k := 9) dX0_asksBack_19 rfl rfl rfl, e_wpy (k := 2505) dX0_asksBack_20 rfl rfl rfl, e_wpy (k := 9) dX0_asksBack_23 rfl rfl rfl, e_wpy (k := 9) dX0_asksBack_24 rfl rfl rfl, e_wpy (k := 9) dX0_asksBack_25 rfl rfl rfl, e_wpy (k := 9) dX0_asksBack_28 rfl rfl rfl, e_wpy (k := 9) dX0_asksBack_29 rfl rfl rfl, e_wpy (k := 9) dX0_asksBack_30 rfl rfl rfl, e_wpy (k := 9) dX0_asksBack_31 rfl rfl rfl, e_wpy (k := 3365) dX0_asksBack_32 rfl rfl rfl, e_wpy (k := 9) dX0_asksBack_35 rfl rfl rfl, e_wpy (k := 9) dX0_asksBack_38 rfl rfl rfl, e_wpy (k := 9) dX0_asksBack_39 rfl rfl rfl, e_wpy (k := 9) dX0_asksBack_40 rfl rfl rfl, e_wpy (k := 3395) dX0_asksBack_41 rfl rfl rfl, e_wpy (k := 9) dX0_asksBack_44 rfl rfl rfl, e_wpy (k := 9) dX0_asksBack_45 rfl rfl rfl, e_wpy (k := 9) dX0_asksBack_46 rfl rfl rfl, e_wpy (k := 9) dX0_asksBack_47 rfl rfl rfl, e_wpy (k := 9) dX0_asksBack_50 rfl rfl rfl, e_wpy (k := 9) dX0_asksBack_51 rfl rfl rfl, e_wpy (k := 9) dX0_asksBack_52 rfl rfl rfl, e_wpy (k := 3425) dX0_asksBack_53 rfl rfl rfl, e_wpy (k := 9) dX0_asksBack_56 rfl rfl rfl, e_wpy (k := 9) dX0_asksBack_59 rfl rfl rfl, e_wpy (k := 9) dX0_asksBack_62 rfl rfl rfl, e_wpy (k := 9) dX0_asksBack_63 rfl rfl rfl, e_wpy (k := 9) dX0_asksBack_66 rfl rfl rfl, e_wpy (k := 9) dX0_asksBack_67 rfl rfl rfl, e_wpy (k := 9) dX0_asksBack_70 rfl rfl rfl, e_wpy (k := 58) dX0_asksBack_71 rfl rfl rfl, e_wpy (k := 9) dX0_asksBack_72 rfl rfl rfl, e_wpy (k := 9) dX0_asksBack_73 rfl rfl rfl, e_wpy (k := 9) dX0_asksBack_74 rfl rfl rfl, e_wpy (k := 9) dX0_asksBack_77 rfl rfl rfl, e_wpy (k := 9) dX0_asksBack_78 rfl rfl rfl, e_wpy (k := 9) dX0_asksBack_79 rfl rfl rfl, e_wpy (k := 9) dX0_asksBack_82 rfl rfl rfl, e_wpy (k := 9) dX0_asksBack_85 rfl rfl rfl, e_wpy (k := 9) dX0_asksBack_88 rfl rfl rfl, e_wpy (k := 9) dX0_asksBack_89 rfl rfl rfl, e_wpy (k := 9) dX0_asksBack_90 rfl rfl rfl, e_wpy (k := 9) dX0_asksBack_91 rfl rfl rfl, e_wpy (k := 9) dX0_asksBack_93 rfl rfl rfl, xoff_a, ex_null_n, ex_null_r, ex_nonn_n, ex_nonn_r, ex_aret, xel_n, xel_s, xgo_0, xgo_1x, xgo_1v, xgo_1i, xgo_1l, xgo_1r, xgo_2, xgo_3, xgo_4, xgo_5x, xgo_5v, xgo_5i, xgo_5l, xgd_5, xgd_0, xgd_1, xgd_2, xgd_3, xgd_4, ath_y, xct_f, xct_t, xna_f, csL_n, Nat.reduceMul, xs0_asksBack, c0_isSlot, P0_isSlot, V0_isSlot, cs0_asksBack, c0_isBridge, P0_isBridge, V0_isBridge, c0_asItIs, p0_333, c0_all_2, P0_all_2, V0_all_2, c0_toldBy, P0_toldBy, V0_toldBy, c0_isLeft, g0_98, g0_333, a8_13, w8_13, a8_14, w8_14, a8_15, w8_15, a8_16, w8_16, a8_17, w8_17, a8_18, w8_18, a8_19, w8_19, a8_20, w8_20, a8_21, w8_21, a8_22, w8_22, a8_23, w8_23, a8_24, w8_24, a8_25, w8_25, a8_26, w8_26, a8_27, w8_27, a8_28, w8_28, a8_29, w8_29, a8_30, w8_30, a8_31, w8_31, a8_32, w8_32, a8_33, w8_33, a8_34, w8_34, a8_35, w8_35, a8_36, w8_36, a8_37, w8_37, a8_38, w8_38, a8_39, w8_39, a8_40, w8_40, a8_12, w8_12, a8_6, a8_7, e_iconst, e_bipush, e_sipush, e_lconst_0, e_lconst_1, e_iload, e_iload_0, e_iload_1, e_iload_2, e_iload_3, e_lload, e_lload_0, e_lload_1, e_lload_2, e_lload_3, e_aload, e_aload_0, e_aload_1, e_aload_2, e_aload_3, e_istore, e_istore_0, e_istore_1, e_istore_2, e_istore_3, e_astore, e_astore_0, e_astore_1, e_astore_2, e_astore_3, e_lstore, e_lstore_0, e_lstore_1, e_lstore_2, e_lstore_3, e_iinc, e_iadd, e_isub, e_imul, e_ladd, e_lsub, e_lmul, e_idiv, e_irem, e_ldiv, e_lrem, e_ineg, e_lneg, e_iand, e_ior, e_ixor, e_ishl, e_ishr, e_iushr, e_lcmp, e_i2l, e_l2i, e_i2b, e_i2s, e_dup_i, e_dup_r, e_pop_i, e_pop_r, e_dup2_l, e_dup2_ir, e_dup2_ii, e_ifeq, e_ifne, e_iflt, e_ifge, e_ifgt, e_ifle, e_iceq, e_icne, e_iclt, e_icge, e_icgt, e_icle, e_goto, e_switch, e_invokevirtual, e_invokestatic, e_invokespecial, e_ret0, e_ret1, e_ret2, e_ret3, ldI_s, ldL_s, ldR_s, clO_s, ctP_s, ctS_s, mgo_0, mgo_s, pjc_s, pj_0, pj_s, lk_s, rm1_0, rm1_i, rm1_r, rm1_l, rm2_0, rm2_i, rm2_r, rm2_l, csL_s, lc_lt, lc_ge, lc_gt, lc_le, lc_eq, b01_0, b01_1, b01_01, b01_n, up2_o, up2_s, up2_u, ne_eq, reduceCtorEq, Nat.reduceAdd, Nat.reduceEqDiff, Nat.reduceLT, Nat.reduceLeDiff, Int.reduceLE, Int.reduceLT, Int.reduceAdd, Int.reduceNeg, Int.reduceMul, Int.reduceSub, Int.reduceEq, Int.reduceToNat, Int.reduceNatCast, Int.cast_ofNat_Int, ↓reduceIte, and_self, List.drop_succ_cons, List.drop_zero, List.take_succ_cons, List.take_zero, List.length_cons, List.length_nil, List.reverse_cons, List.reverse_nil, List.nil_append, List.cons_append, Option.toList, true_and, and_true, or_false, false_or, or_true, true_or, forall_const, Classical.not_not, not_false_eq_true, not_true_eq_false, false_implies, true_implies, implies_true, imp_self, e1, eV]
  rw [← hpw]
  refine ⟨h4, fun q => ?_, fun q => ⟨h4, fun q2 => ?_, fun q2 => ⟨⟨⟨by rw [eV]; exact hY, hB1⟩, by rw [e1]; exact z3, hs, by rw [e80]; exact hrow, by omega⟩, fun v M2 hR => ?_⟩⟩⟩
  · have ea : a = 2 ^ (vX M 0 4).toNat := by show a = 2 ^ (M 1 5).toNat; omega
    refine hQ _ _ ⟨⟨frm_w z1 (by decide), z2, fun B h8 hb2 => by omega⟩, eW.symm, fun _ => ?_⟩
    rw [ea] at z5 z6
    exact ⟨z5, z6⟩
  · refine go0 M1 (by omega) ⟨z1, z2, z3, by omega, ?_, ?_⟩
    · rw [backL_0 (fun y => q2 y.1)]; exact z5
    · rw [backL_0 (fun y => q2 y.1)]; exact z6
  · obtain ⟨⟨y1, y2, y3, y4⟩, r2⟩ := hR
    rw [eV, eS] at r2
    have f1 : frm askXR M M2 := frm_tr z1 y1 (by decide)
    have y31 : M2 0 31 = M1 0 31 := y2 _ (by decide)
    have y30 : M2 30 = M1 30 := y1 _ (by decide)
    have yL : M2 0 10 = M1 0 10 := y2 _ (by decide)
    have f2 : ∀ j, j ∈ [2, 3, 4] → M2 0 j = M 0 j := fun j hj => (y2 j (by revert hj; simp only [List.mem_cons, List.not_mem_nil, or_false]; omega)).trans (z2 j hj)
    have ybk : bkX M2 = bkX M1 := by unfold bkX; rw [y31, y30]
    subst r2
    refine ⟨fun w => ?_, fun w => ?_⟩
    · rw [b01_0, Classical.not_not] at w
      have eL := backL_1 (V := vX M) (s := slX rs M s.toNat) (b := b) (x := a) ⟨q2, w⟩
      have hlen := hL.1
      refine ⟨by omega, by omega, go0 _ (by omega) ⟨frm_up (frm_up f1 (by decide)) (by decide), fun j hj => ?_, ?_, ?_, ?_, ?_⟩⟩
      · have hj2 := hj
        simp only [List.mem_cons, List.not_mem_nil, or_false] at hj2
        rw [up2_n (by omega), up2_o (by decide)]
        exact f2 j hj
      · rw [up2_n (by decide), up2_o (by decide), yL]; exact z3
      · rw [up2_n (by decide), up2_o (by decide)]; omega
      · rw [up2_s, eL, List.length_cons, y31, z5]; omega
      · unfold bkX
        rw [up2_s, y31, z5, show (((backL (vX M) (slX rs M s.toNat) b a).length : Int) + 1).toNat = (backL (vX M) (slX rs M s.toNat) b a).length + 1 by omega, eL]
        show up2 (up2 M2 30 _ a) 0 31 _ 30 _ :: stk _ _ = _
        rw [up2_o (by decide), Int.toNat_natCast, up2_s]
        congr 1
        have zz : bkX M1 = stk (fun k => M1 30 k) (backL (vX M) (slX rs M s.toNat) b a).length := by unfold bkX; rw [z5, Int.toNat_natCast]
        refine Eq.trans ?_ (zz.symm.trans z6)
        refine stk_congr fun k hk => ?_
        show up2 (up2 M2 30 _ a) 0 31 _ 30 k = _
        rw [up2_o (by decide), up2_n (by omega), y30]
    · rw [b01_0] at w
      refine go0 M2 (by omega) ⟨f1, f2, yL.trans z3, by omega, ?_, ?_⟩
      · rw [backL_0 (fun y => w y.2), y31]; exact z5
      · rw [backL_0 (fun y => w y.2), ybk]; exact z6
set_option maxHeartbeats 4000000 in
set_option maxRecDepth 100000 in
theorem m0_asksBack {rs : List (Nat × Nat)} : MOKH cl8 (sh8 rs) tyl8 Nws8 5 yX0_asksBack cX0_asksBack 4 (some .int) [(19, 89, 90, 345)] (sp0_asksBack rs) := by
  refine mokh_of (own := RX0) (tb := tb0 (csL (cs0_asksBack rs))) (xt := csL (xs0_asksBack rs)) (rt := 1) (fuel := 400) (fun avs M Q => [(30, [0, 1, 2, 3], fun m_ vs M1 => ∃ y_s_ : Int, ∃ y_b_ : Int, ∃ y_x : Int, vs = [ar 0, ai y_s_, ai y_b_, ai y_x] ∧ J0_asksBack_30 rs (pa true [0, 0] avs 0) (pa true [0, 0] avs 1) M m_ y_s_ y_b_ y_x M1)]) (by decide) rfl nws8_ok (tbOK0 _) rfl (csL_all ?_) (csX_all ?_) ?_ ?_ ?_
  · intro q hq
    simp only [cs0_asksBack, List.mem_cons, List.not_mem_nil, or_false] at hq
    rcases hq with rfl | rfl | rfl | rfl | rfl | rfl
    · exact cg0_isSlot (by decide)
    · exact cg0_isBridge (by decide)
    · exact cg0_asItIs (by decide)
    · exact cg0_all_2 (by decide)
    · exact cg0_toldBy (by decide)
    · exact cg0_isLeft (by decide)
  · intro q hq; cases hq
  · intro avs M Q hsp
    obtain ⟨xs, hx⟩ := spR_un _ _ _ hsp
    obtain ⟨e, hl⟩ := unA_mkT hx
    obtain ⟨s, b, rfl⟩ := len2 hl
    have e : avs = [ar 0, ai s, ai b] := e
    subst e
    simp [szL, isL]
  · intro avs M Q hM hav hsp
    obtain ⟨xs, hx⟩ := spR_un _ _ _ hsp
    obtain ⟨e, hl⟩ := unA_mkT hx
    obtain ⟨s, b, rfl⟩ := len2 hl
    have e : avs = [ar 0, ai s, ai b] := e
    subst e
    exact in0_asksBack hM (hav (ai s) (by simp)) (hav (ai b) (by simp)) hsp.1 hsp.2 _ (fun m_ y_s_ y_b_ y_x M2 hJ => ⟨m_, y_s_, y_b_, y_x, rfl, hJ⟩)
  · intro avs M Q hM hav hsp q hq m_ vs M1 hM1 hv hJ
    obtain ⟨xs, hx⟩ := spR_un _ _ _ hsp
    obtain ⟨e, hl⟩ := unA_mkT hx
    obtain ⟨s, b, rfl⟩ := len2 hl
    have e : avs = [ar 0, ai s, ai b] := e
    subst e
    simp only [List.mem_cons, List.not_mem_nil, or_false] at hq
    rcases hq with rfl
    · obtain ⟨y_s_, y_b_, y_x, rfl, hJ⟩ := hJ
      exact at0_asksBack_30 hM (hav (ai s) (by simp)) (hav (ai b) (by simp)) hsp.1 hsp.2 hM1 (hv (1, ai y_s_) (List.mem_of_getElem? (i := 1) rfl)) (hv (2, ai y_b_) (List.mem_of_getElem? (i := 2) rfl)) (hv (3, ai y_x) (List.mem_of_getElem? (i := 3) rfl)) hJ _ (fun m2 z_s_ z_b_ z_x M2 hm hJ2 => ⟨m2, hm, z_s_, z_b_, z_x, rfl, hJ2⟩)
theorem cg0_asksBack {rs : List (Nat × Nat)} {lvl : Nat} (h : 5 < lvl) : CG RX0 cl8 (sh8 rs) tyl8 Nws8 lvl 1 347 3 (sp0_asksBack rs) := cg_VH (k := 0) (n' := 2) nws8_ok spR_mono (fun avs M Q h => (spR_un _ _ _ h).elim fun xs hx => rcvT hx) m0_asksBack h rfl (by decide) rfl rfl ⟨rfl, by decide, by decide, rfl⟩ q1051 q1053 qs39 q128 q1054
