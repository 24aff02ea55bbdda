/-! SagMemory: does a set of carts leave a slot's row -/
abbrev lefXR : List Nat := [0, 13, 14, 15]
/-- only what was wiped has grown, by so much at most -/
def goneZ (d : Int) (M M1 : Mm) : Prop := frm lefXR M M1 ∧ (∀ j, ¬ j = 8 → M1 0 j = M 0 j) ∧ M 0 8 ≤ M1 0 8 ∧ M1 0 8 ≤ M 0 8 + d
theorem goneZ_w {M M1 : Mm} {d d' : Int} (h : goneZ d M M1) (hd : d ≤ d') : goneZ d' M M1 := ⟨h.1, h.2.1, h.2.2.1, by have := h.2.2.2; omega⟩
theorem elP_X {M : Mm} {b : Int} {k : Nat} (h : (k : Int) < M 15 b.toNat) : elP (mbX M b) k = M 13 (8 * b + k).toNat := elP_stk (f := mfX M b) (by omega)
theorem at_slX {rs : List (Nat × Nat)} {M : Mm} {s k : Nat} (h : rowOK rs (M (8 + s) 0)) (hk : k < rN rs (M (8 + s) 0)) : (slX rs M s).2 k = M (M (8 + s) 0).toNat k := by
  have := h.1
  rw [slX_p (by omega)]
  exact if_pos hk
theorem n_slX {rs : List (Nat × Nat)} {M : Mm} {s : Nat} (h : rowOK rs (M (8 + s) 0)) : (slX rs M s).1.2 = rN rs (M (8 + s) 0) := by
  have := h.1
  rw [slX_p (by omega)]
def P0_isLeft (rs : List (Nat × Nat)) (s : Int) (x : Int) (M : Mm) : Prop := okX M ∧ M 0 10 = M 1 0 + 2 ∧ (0 ≤ s ∧ s ≤ 3) ∧ rowOK rs (M (8 + s.toNat) 0) ∧ 0 ≤ M 0 8 ∧ M 0 8 ≤ 999999000
def R0_isLeft (rs : List (Nat × Nat)) (s : Int) (x : Int) (M : Mm) (v : Int) (M1 : Mm) : Prop := goneZ 56 M M1 ∧ v = b01 (sameP (leftP (vX M) x (vX M 0 4).toNat) (slX rs M s.toNat))
def sp0_isLeft (rs : List (Nat × Nat)) : Spec := spR true [0, 0] 1 (fun x M => P0_isLeft rs (x 0) (x 1) M) (fun x M v M1 => R0_isLeft rs (x 0) (x 1) M v M1)
theorem c0_isLeft {rs : List (Nat × Nat)} {s x : Int} {M : Mm} {Q : Option AV → Mm → Prop} : sp0_isLeft rs [ar 0, ai s, ai x] M Q = (P0_isLeft rs s x M ∧ ∀ (v : Int) (M1 : Mm), R0_isLeft rs s x M v M1 → Q (some (ai v)) M1) := rfl
def cs0_isLeft (rs : List (Nat × Nat)) : List (Nat × Nat × Nat × Spec) := [(238, 0, 2, (sp0_isOf rs)), (234, 1, 4, (sp0_wgoes rs)), (324, 1, 1, (sp6_size rs)), (327, 1, 2, (sp6_at rs))]
def xs0_isLeft (rs : List (Nat × Nat)) : List (Nat × Nat × Nat × Spec) := []
def J0_isLeft_9 (rs : List (Nat × Nat)) (s : Int) (x : Int) (M : Mm) (m : Nat) (s_ : Int) (x_ : Int) (c : Int) (M1 : Mm) : Prop := s = s_ ∧ x = x_ ∧ ∃ a : Nat, c = a ∧ (a : Int) ≤ M 1 5 ∧ goneZ (8 * a) M M1 ∧ okBX M1 0 ∧ M1 15 0 ≤ a ∧ mbX M1 0 = leftP (vX M) x a ∧ m = 100 + (7 - a)
def J0_isLeft_74 (rs : List (Nat × Nat)) (s : Int) (x : Int) (M : Mm) (m : Nat) (s_ : Int) (k : Int) (M1 : Mm) : Prop := s = s_ ∧ goneZ 56 M M1 ∧ okBX M1 0 ∧ mbX M1 0 = leftP (vX M) x (vX M 0 4).toNat ∧ M1 15 0 = rN rs (M (8 + s.toNat) 0) ∧ ∃ a : Nat, k = a ∧ (a : Int) ≤ M1 15 0 ∧ (∀ j : Nat, j < a → M1 13 j = M (M (8 + s.toNat) 0).toNat j) ∧ m = 8 - a
set_option maxHeartbeats 4000000 in
set_option maxRecDepth 100000 in
theorem in0_isLeft {rs : List (Nat × Nat)} {s x : Int} {M : Mm} {Q : Option AV → Mm → Prop} (hM : okM (sh8 rs) M) (h_s : i32 s) (h_x : i32 x) (hP : P0_isLeft rs s x M) (hQ : ∀ (v : Int) (M1 : Mm), R0_isLeft rs s x M v M1 → Q (some (ai v)) M1) (I_9 : List AV → Mm → Prop) (hI_9 : ∀ (m_ : Nat) (y_s_ : Int) (y_x_ : Int) (y_c : Int) (M2 : Mm), J0_isLeft_9 rs s x M m_ y_s_ y_x_ y_c M2 → I_9 [ar 0, ai y_s_, ai y_x_, ai y_c] M2) (I_74 : List AV → Mm → Prop) (hI_74 : ∀ (m_ : Nat) (y_s_ : Int) (y_k : Int) (M2 : Mm), J0_isLeft_74 rs s x M m_ y_s_ y_k M2 → I_74 [ar 0, ai y_s_, ai y_k] M2) : wpx (tb0 (csL (cs0_isLeft rs))) (csL (xs0_isLeft rs)) (sh8 rs) 4 2 cX0_isLeft [(9, [0, 1, 2, 3], I_9), (74, [0, 1, 3], I_74)] Q (fun _ _ => False) 400 false 0 [(0, ar 0), (1, ai s), (2, ai x)] [] M := by
  obtain ⟨⟨hY, hB⟩, hlaw, hs, hr, hw⟩ := id hP
  have h4 : 0 ≤ M 1 5 ∧ M 1 5 ≤ 7 := (okY_n hY).2.1
  simp only [e_wpy (k := 9) dX0_isLeft_0 rfl rfl rfl, e_wpy (k := 9) dX0_isLeft_1 rfl rfl rfl, e_wpy (k := 9) dX0_isLeft_4 rfl rfl rfl, e_wpy (k := 9) dX0_isLeft_5 rfl rfl rfl, e_wpy (k := 58) dX0_isLeft_6 rfl rfl rfl, e_wpy (k := 9) dX0_isLeft_7 rfl rfl rfl, e_wpy (k := 9) dX0_isLeft_8 rfl rfl rfl, e_wpy (k := 9) dX0_isLeft_9 rfl rfl rfl, e_wpy (k := 9) dX0_isLeft_10 rfl rfl rfl, e_wpy (k := 9) dX0_isLeft_11 rfl rfl rfl, e_wpy (k := 9) dX0_isLeft_14 rfl rfl rfl, e_wpy (k := 9) dX0_isLeft_17 rfl rfl rfl, e_wpy (k := 9) dX0_isLeft_20 rfl rfl rfl, e_wpy (k := 9) dX0_isLeft_21 rfl rfl rfl, e_wpy (k := 2386) dX0_isLeft_22 rfl rfl rfl, e_wpy (k := 9) dX0_isLeft_25 rfl rfl rfl, e_wpy (k := 9) dX0_isLeft_28 rfl rfl rfl, e_wpy (k := 9) dX0_isLeft_29 rfl rfl rfl, e_wpy (k := 9) dX0_isLeft_32 rfl rfl rfl, e_wpy (k := 9) dX0_isLeft_33 rfl rfl rfl, e_wpy (k := 9) dX0_isLeft_34 rfl rfl rfl, e_wpy (k := 9) dX0_isLeft_37 rfl rfl rfl, e_wpy (k := 9) dX0_isLeft_40 rfl rfl rfl, e_wpy (k := 48) dX0_isLeft_41 rfl rfl rfl, e_wpy (k := 9) dX0_isLeft_42 rfl rfl rfl, e_wpy (k := 2345) dX0_isLeft_43 rfl rfl rfl, e_wpy (k := 9) dX0_isLeft_46 rfl rfl rfl, e_wpy (k := 9) dX0_isLeft_49 rfl rfl rfl, e_wpy (k := 9) dX0_isLeft_52 rfl rfl rfl, e_wpy (k := 9) dX0_isLeft_53 rfl rfl rfl, e_wpy (k := 9) dX0_isLeft_56 rfl rfl rfl, e_wpy (k := 48) dX0_isLeft_57 rfl rfl rfl, e_wpy (k := 9) dX0_isLeft_58 rfl rfl rfl, e_wpy (k := 9) dX0_isLeft_59 rfl rfl rfl, e_wpy (k := 9) dX0_isLeft_62 rfl rfl rfl, e_wpy (k := 9) dX0_isLeft_63 rfl rfl rfl, e_wpy (k := 3245) dX0_isLeft_64 rfl rfl rfl, e_wpy (k := 9) dX0_isLeft_67 rfl rfl rfl, e_wpy (k := 9) dX0_isLeft_70 rfl rfl rfl, e_wpy (k := 9) dX0_isLeft_71 rfl rfl rfl, e_wpy (k := 9) dX0_isLeft_72 rfl rfl rfl, e_wpy (k := 9) dX0_isLeft_73 rfl rfl rfl, e_wpy (k := 9) dX0_isLeft_74 rfl rfl rfl, e_wpy (k := 9) dX0_isLeft_75 rfl rfl rfl, e_wpy (k := 9) dX0_isLeft_76 rfl rfl rfl, e_wpy (k := 9) dX0_isLeft_79 rfl rfl rfl, e_wpy (k := 48) dX0_isLeft_80 rfl rfl rfl, e_wpy (k := 9) dX0_isLeft_81 rfl rfl rfl, e_wpy (k := 9) dX0_isLeft_84 rfl rfl rfl, e_wpy (k := 9) dX0_isLeft_85 rfl rfl rfl, e_wpy (k := 9) dX0_isLeft_88 rfl rfl rfl, e_wpy (k := 48) dX0_isLeft_89 rfl rfl rfl, e_wpy (k := 9) dX0_isLeft_90 rfl rfl rfl, e_wpy (k := 9) dX0_isLeft_91 rfl rfl rfl, e_wpy (k := 9) dX0_isLeft_92 rfl rfl rfl, e_wpy (k := 9) dX0_isLeft_95 rfl rfl rfl, e_wpy (k := 9) dX0_isLeft_96 rfl rfl rfl, e_wpy (k := 9) dX0_isLeft_97 rfl rfl rfl, e_wpy (k := 3275) dX0_isLeft_98 rfl rfl rfl, e_wpy (k := 9) dX0_isLeft_101 rfl rfl rfl, e_wpy (k := 9) dX0_isLeft_102 rfl rfl rfl, e_wpy (k := 9) dX0_isLeft_105 rfl rfl rfl, e_wpy (k := 9) dX0_isLeft_106 rfl rfl rfl, e_wpy (k := 9) dX0_isLeft_107 rfl rfl rfl, e_wpy (k := 9) dX0_isLeft_110 rfl rfl rfl, e_wpy (k := 9) dX0_isLeft_113 rfl rfl rfl, e_wpy (k := 9) dX0_isLeft_114 rfl rfl rfl, xoff_a, ex_null_n, ex_null_r, ex_nonn_n, ex_nonn_r, ex_aret, xel_n, xel_s, xgo_0, xgo_1x, xgo_1v, xgo_1i, xgo_1l, xgo_1r, xgo_2, xgo_3, xgo_4, xgo_5x, xgo_5v, xgo_5i, xgo_5l, xgd_5, xgd_0, xgd_1, xgd_2, xgd_3, xgd_4, ath_y, xct_f, xct_t, xna_f, csL_n, Nat.reduceMul, xs0_isLeft, g0_31, g0_10, g0_156, c0_isOf, P0_isOf, V0_isOf, cs0_isLeft, g0_52, g0_180, c0_wgoes, g0_110, c6_size, P6_size, V6_size, g0_24, c6_at, P6_at, V6_at, a8_13, w8_13, a8_14, w8_14, a8_15, w8_15, a8_16, w8_16, a8_17, w8_17, a8_18, w8_18, a8_19, w8_19, a8_20, w8_20, a8_21, w8_21, a8_22, w8_22, a8_23, w8_23, a8_24, w8_24, a8_25, w8_25, a8_26, w8_26, a8_27, w8_27, a8_28, w8_28, a8_29, w8_29, a8_30, w8_30, a8_31, w8_31, a8_32, w8_32, a8_33, w8_33, a8_34, w8_34, a8_35, w8_35, a8_36, w8_36, a8_37, w8_37, a8_38, w8_38, a8_39, w8_39, a8_40, w8_40, a8_12, w8_12, a8_6, a8_7, e_iconst, e_bipush, e_sipush, e_lconst_0, e_lconst_1, e_iload, e_iload_0, e_iload_1, e_iload_2, e_iload_3, e_lload, e_lload_0, e_lload_1, e_lload_2, e_lload_3, e_aload, e_aload_0, e_aload_1, e_aload_2, e_aload_3, e_istore, e_istore_0, e_istore_1, e_istore_2, e_istore_3, e_astore, e_astore_0, e_astore_1, e_astore_2, e_astore_3, e_lstore, e_lstore_0, e_lstore_1, e_lstore_2, e_lstore_3, e_iinc, e_iadd, e_isub, e_imul, e_ladd, e_lsub, e_lmul, e_idiv, e_irem, e_ldiv, e_lrem, e_ineg, e_lneg, e_iand, e_ior, e_ixor, e_ishl, e_ishr, e_iushr, e_lcmp, e_i2l, e_l2i, e_i2b, e_i2s, e_dup_i, e_dup_r, e_pop_i, e_pop_r, e_dup2_l, e_dup2_ir, e_dup2_ii, e_ifeq, e_ifne, e_iflt, e_ifge, e_ifgt, e_ifle, e_iceq, e_icne, e_iclt, e_icge, e_icgt, e_icle, e_goto, e_switch, e_invokevirtual, e_invokestatic, e_invokespecial, e_ret0, e_ret1, e_ret2, e_ret3, ldI_s, ldL_s, ldR_s, clO_s, ctP_s, ctS_s, mgo_0, mgo_s, pjc_s, pj_0, pj_s, lk_s, rm1_0, rm1_i, rm1_r, rm1_l, rm2_0, rm2_i, rm2_r, rm2_l, csL_s, lc_lt, lc_ge, lc_gt, lc_le, lc_eq, b01_0, b01_1, b01_01, b01_n, up2_o, up2_s, up2_u, ne_eq, reduceCtorEq, Nat.reduceAdd, Nat.reduceEqDiff, Nat.reduceLT, Nat.reduceLeDiff, Int.reduceLE, Int.reduceLT, Int.reduceAdd, Int.reduceNeg, Int.reduceMul, Int.reduceSub, Int.reduceEq, Int.reduceToNat, Int.reduceNatCast, Int.cast_ofNat_Int, ↓reduceIte, and_self, List.drop_succ_cons, List.drop_zero, List.take_succ_cons, List.take_zero, List.length_cons, List.length_nil, List.reverse_cons, List.reverse_nil, List.nil_append, List.cons_append, Option.toList, true_and, and_true, or_false, false_or, or_true, true_or, forall_const, Classical.not_not, not_false_eq_true, not_true_eq_false, false_implies, true_implies, implies_true, imp_self]
  have e : mbX (up2 M 15 0 0) 0 = [] := rfl
  exact hI_9 _ _ _ _ _ ⟨rfl, rfl, 0, rfl, by omega, ⟨frm_up frm_rf (by decide), fun j hj => by rw [up2_o (by decide)], by rw [up2_o (by decide)]; omega, by rw [up2_o (by decide)]; omega⟩, ⟨by omega, by rw [show (0 : Int).toNat = 0 from rfl, up2_s]; omega, by rw [e]; exact okL_0⟩, by rw [up2_s]; omega, e, rfl⟩
set_option maxHeartbeats 4000000 in
set_option maxRecDepth 100000 in
theorem at0_isLeft_9 {rs : List (Nat × Nat)} {s x : Int} {M : Mm} {Q : Option AV → Mm → Prop} (hM : okM (sh8 rs) M) (h_s : i32 s) (h_x : i32 x) (hP : P0_isLeft rs s x M) (hQ : ∀ (v : Int) (M1 : Mm), R0_isLeft rs s x M v M1 → Q (some (ai v)) M1) {m : Nat} {s_ x_ c : Int} {M1 : Mm} (hM1 : okM (sh8 rs) M1) (h_s_ : i32 s_) (h_x_ : i32 x_) (h_c : i32 c) (hJ : J0_isLeft_9 rs s x M m s_ x_ c M1) (I_9 : List AV → Mm → Prop) (hI_9 : ∀ (m_ : Nat) (y_s_ : Int) (y_x_ : Int) (y_c : Int) (M2 : Mm), m_ < m → J0_isLeft_9 rs s x M m_ y_s_ y_x_ y_c M2 → I_9 [ar 0, ai y_s_, ai y_x_, ai y_c] M2) (I_74 : List AV → Mm → Prop) (hI_74 : ∀ (m_ : Nat) (y_s_ : Int) (y_k : Int) (M2 : Mm), m_ < m → J0_isLeft_74 rs s x M m_ y_s_ y_k M2 → I_74 [ar 0, ai y_s_, ai y_k] M2) : wpx (tb0 (csL (cs0_isLeft rs))) (csL (xs0_isLeft rs)) (sh8 rs) 4 2 cX0_isLeft [(9, [0, 1, 2, 3], I_9), (74, [0, 1, 3], I_74)] Q (fun _ _ => False) 400 false 9 [(0, ar 0), (1, ai s_), (2, ai x_), (3, ai c)] [] M1 := by
  obtain ⟨rfl, rfl, a, rfl, ha, hz, ob, hla, hm, rfl⟩ := hJ
  obtain ⟨⟨hY, hB⟩, hlaw, hs, hr, hw⟩ := id hP
  obtain ⟨z1, z2, z3, z4⟩ := id hz
  have h4 : 0 ≤ M 1 5 ∧ M 1 5 ≤ 7 := (okY_n hY).2.1
  have h0 : 0 ≤ M 1 0 ∧ M 1 0 ≤ 3 := hY.1
  have e1 : M1 1 = M 1 := z1 _ (by decide)
  have e35 : M1 35 = M 35 := z1 _ (by decide)
  have e6 : M1 6 = M 6 := z1 _ (by decide)
  have eL : M1 0 10 = M 0 10 := z2 _ (by decide)
  have hB1 : baseI M1 := base_f z1 (by decide) (by decide) hB
  have hf := fval_s hB1 hs
  have hlf := law_ar (M := M1) (by rw [eL]; omega)
  have e8 : M1 (8 + s.toNat) = M (8 + s.toNat) := z1 _ (by simp only [List.mem_cons, List.not_mem_nil, or_false]; omega)
  have hl2 := mb_lenX ob
  rw [hm] at hl2
  have hl2 : ((leftP (vX M) x a).length : Int) = M1 15 0 := hl2
  simp only [e_wpy (k := 9) dX0_isLeft_0 rfl rfl rfl, e_wpy (k := 9) dX0_isLeft_1 rfl rfl rfl, e_wpy (k := 9) dX0_isLeft_4 rfl rfl rfl, e_wpy (k := 9) dX0_isLeft_5 rfl rfl rfl, e_wpy (k := 58) dX0_isLeft_6 rfl rfl rfl, e_wpy (k := 9) dX0_isLeft_7 rfl rfl rfl, e_wpy (k := 9) dX0_isLeft_8 rfl rfl rfl, e_wpy (k := 9) dX0_isLeft_9 rfl rfl rfl, e_wpy (k := 9) dX0_isLeft_10 rfl rfl rfl, e_wpy (k := 9) dX0_isLeft_11 rfl rfl rfl, e_wpy (k := 9) dX0_isLeft_14 rfl rfl rfl, e_wpy (k := 9) dX0_isLeft_17 rfl rfl rfl, e_wpy (k := 9) dX0_isLeft_20 rfl rfl rfl, e_wpy (k := 9) dX0_isLeft_21 rfl rfl rfl, e_wpy (k := 2386) dX0_isLeft_22 rfl rfl rfl, e_wpy (k := 9) dX0_isLeft_25 rfl rfl rfl, e_wpy (k := 9) dX0_isLeft_28 rfl rfl rfl, e_wpy (k := 9) dX0_isLeft_29 rfl rfl rfl, e_wpy (k := 9) dX0_isLeft_32 rfl rfl rfl, e_wpy (k := 9) dX0_isLeft_33 rfl rfl rfl, e_wpy (k := 9) dX0_isLeft_34 rfl rfl rfl, e_wpy (k := 9) dX0_isLeft_37 rfl rfl rfl, e_wpy (k := 9) dX0_isLeft_40 rfl rfl rfl, e_wpy (k := 48) dX0_isLeft_41 rfl rfl rfl, e_wpy (k := 9) dX0_isLeft_42 rfl rfl rfl, e_wpy (k := 2345) dX0_isLeft_43 rfl rfl rfl, e_wpy (k := 9) dX0_isLeft_46 rfl rfl rfl, e_wpy (k := 9) dX0_isLeft_49 rfl rfl rfl, e_wpy (k := 9) dX0_isLeft_52 rfl rfl rfl, e_wpy (k := 9) dX0_isLeft_53 rfl rfl rfl, e_wpy (k := 9) dX0_isLeft_56 rfl rfl rfl, e_wpy (k := 48) dX0_isLeft_57 rfl rfl rfl, e_wpy (k := 9) dX0_isLeft_58 rfl rfl rfl, e_wpy (k := 9) dX0_isLeft_59 rfl rfl rfl, e_wpy (k := 9) dX0_isLeft_62 rfl rfl rfl, e_wpy (k := 9) dX0_isLeft_63 rfl rfl rfl, e_wpy (k := 3245) dX0_isLeft_64 rfl rfl rfl, e_wpy (k := 9) dX0_isLeft_67 rfl rfl rfl, e_wpy (k := 9) dX0_isLeft_70 rfl rfl rfl, e_wpy (k := 9) dX0_isLeft_71 rfl rfl rfl, e_wpy (k := 9) dX0_isLeft_72 rfl rfl rfl, e_wpy (k := 9) dX0_isLeft_73 rfl rfl rfl, e_wpy (k := 9) dX0_isLeft_74 rfl rfl rfl, e_wpy (k := 9) dX0_isLeft_75 rfl rfl rfl, e_wpy (k := 9) dX0_isLeft_76 rfl rfl rfl, e_wpy (k := 9) dX0_isLeft_79 rfl rfl rfl, e_wpy (k := 48) dX0_isLeft_80 rfl rfl rfl, e_wpy (k := 9) dX0_isLeft_81 rfl rfl rfl, e_wpy (k := 9) dX0_isLeft_84 rfl rfl rfl, e_wpy (k := 9) dX0_isLeft_85 rfl rfl rfl, e_wpy (k := 9) dX0_isLeft_88 rfl rfl rfl, e_wpy (k := 48) dX0_isLeft_89 rfl rfl rfl, e_wpy (k := 9) dX0_isLeft_90 rfl rfl rfl, e_wpy (k := 9) dX0_isLeft_91 rfl rfl rfl, e_wpy (k := 9) dX0_isLeft_92 rfl rfl rfl, e_wpy (k := 9) dX0_isLeft_95 rfl rfl rfl, e_wpy (k := 9) dX0_isLeft_96 rfl rfl rfl, e_wpy (k := 9) dX0_isLeft_97 rfl rfl rfl, e_wpy (k := 3275) dX0_isLeft_98 rfl rfl rfl, e_wpy (k := 9) dX0_isLeft_101 rfl rfl rfl, e_wpy (k := 9) dX0_isLeft_102 rfl rfl rfl, e_wpy (k := 9) dX0_isLeft_105 rfl rfl rfl, e_wpy (k := 9) dX0_isLeft_106 rfl rfl rfl, e_wpy (k := 9) dX0_isLeft_107 rfl rfl rfl, e_wpy (k := 9) dX0_isLeft_110 rfl rfl rfl, e_wpy (k := 9) dX0_isLeft_113 rfl rfl rfl, e_wpy (k := 9) dX0_isLeft_114 rfl rfl rfl, xoff_a, ex_null_n, ex_null_r, ex_nonn_n, ex_nonn_r, ex_aret, xel_n, xel_s, xgo_0, xgo_1x, xgo_1v, xgo_1i, xgo_1l, xgo_1r, xgo_2, xgo_3, xgo_4, xgo_5x, xgo_5v, xgo_5i, xgo_5l, xgd_5, xgd_0, xgd_1, xgd_2, xgd_3, xgd_4, ath_y, xct_f, xct_t, xna_f, csL_n, Nat.reduceMul, xs0_isLeft, g0_31, g0_10, g0_156, c0_isOf, P0_isOf, V0_isOf, cs0_isLeft, g0_52, g0_180, c0_wgoes, g0_110, c6_size, P6_size, V6_size, g0_24, c6_at, P6_at, V6_at, a8_13, w8_13, a8_14, w8_14, a8_15, w8_15, a8_16, w8_16, a8_17, w8_17, a8_18, w8_18, a8_19, w8_19, a8_20, w8_20, a8_21, w8_21, a8_22, w8_22, a8_23, w8_23, a8_24, w8_24, a8_25, w8_25, a8_26, w8_26, a8_27, w8_27, a8_28, w8_28, a8_29, w8_29, a8_30, w8_30, a8_31, w8_31, a8_32, w8_32, a8_33, w8_33, a8_34, w8_34, a8_35, w8_35, a8_36, w8_36, a8_37, w8_37, a8_38, w8_38, a8_39, w8_39, a8_40, w8_40, a8_12, w8_12, a8_6, a8_7, e_iconst, e_bipush, e_sipush, e_lconst_0, e_lconst_1, e_iload, e_iload_0, e_iload_1, e_iload_2, e_iload_3, e_lload, e_lload_0, e_lload_1, e_lload_2, e_lload_3, e_aload, e_aload_0, e_aload_1, e_aload_2, e_aload_3, e_istore, e_istore_0, e_istore_1, e_istore_2, e_istore_3, e_astore, e_astore_0, e_astore_1, e_astore_2, e_astore_3, e_lstore, e_lstore_0, e_lstore_1, e_lstore_2, e_lstore_3, e_iinc, e_iadd, e_isub, e_imul, e_ladd, e_lsub, e_lmul, e_idiv, e_irem, e_ldiv, e_lrem, e_ineg, e_lneg, e_iand, e_ior, e_ixor, e_ishl, e_ishr, e_iushr, e_lcmp, e_i2l, e_l2i, e_i2b, e_i2s, e_dup_i, e_dup_r, e_pop_i, e_pop_r, e_dup2_l, e_dup2_ir, e_dup2_ii, e_ifeq, e_ifne, e_iflt, e_ifge, e_ifgt, e_ifle, e_iceq, e_icne, e_iclt, e_icge, e_icgt, e_icle, e_goto, e_switch, e_invokevirtual, e_invokestatic, e_invokespecial, e_ret0, e_ret1, e_ret2, e_ret3, ldI_s, ldL_s, ldR_s, clO_s, ctP_s, ctS_s, mgo_0, mgo_s, pjc_s, pj_0, pj_s, lk_s, rm1_0, rm1_i, rm1_r, rm1_l, rm2_0, rm2_i, rm2_r, rm2_l, csL_s, lc_lt, lc_ge, lc_gt, lc_le, lc_eq, b01_0, b01_1, b01_01, b01_n, up2_o, up2_s, up2_u, ne_eq, reduceCtorEq, Nat.reduceAdd, Nat.reduceEqDiff, Nat.reduceLT, Nat.reduceLeDiff, Int.reduceLE, Int.reduceLT, Int.reduceAdd, Int.reduceNeg, Int.reduceMul, Int.reduceSub, Int.reduceEq, Int.reduceToNat, Int.reduceNatCast, Int.cast_ofNat_Int, ↓reduceIte, and_self, List.drop_succ_cons, List.drop_zero, List.take_succ_cons, List.take_zero, List.length_cons, List.length_nil, List.reverse_cons, List.reverse_nil, List.nil_append, List.cons_append, Option.toList, true_and, and_true, or_false, false_or, or_true, true_or, forall_const, Classical.not_not, not_false_eq_true, not_true_eq_false, false_implies, true_implies, implies_true, imp_self, e1, e35, hf, hlf, Int.toNat_natCast]
  have e80 := congrFun e8 0
  rw [e80]
  refine ⟨fun q => ⟨by omega, ⟨by omega, by rw [Int.toNat_natCast, e80]; exact hr⟩, fun z => ?_, fun z => ?_⟩, fun q => ⟨fun z => ⟨by omega, ?_⟩, fun z => ?_⟩⟩
  · exact hI_74 (8 - 0) _ _ _ (by omega) ⟨rfl, goneZ_w hz (by omega), ob, by rw [hm, show (vX M 0 4).toNat = a by show (M 1 5).toNat = a; omega], z, 0, rfl, ob.2.1.1, fun j hj => by omega, rfl⟩
  · refine hQ _ _ ⟨goneZ_w hz (by omega), (b01_f fun w => z ?_).symm⟩
    have w1 := w.1
    rw [n_slX hr, show (vX M 0 4).toNat = a by show (M 1 5).toNat = a; omega] at w1
    omega
  · refine hI_9 (100 + (7 - (a + 1))) _ _ _ _ (by omega) ⟨rfl, rfl, a + 1, by omega, by omega, goneZ_w hz (by omega), ob, by omega, ?_, rfl⟩
    rw [hm]
    exact (if_neg z).symm
  · have hc := (vX_c M (c := a) q).1
    have hl1 := (okY_c hY a q).1
    rw [hc] at hl1
    refine ⟨by omega, ⟨by omega, ⟨ob, by show M1 15 (0 : Int).toNat ≤ 7; rw [show (0 : Int).toNat = 0 from rfl]; omega, hl1, by omega, by omega⟩, (hB1 0 (by omega)).1⟩, fun M2 hR => ?_⟩
    have hR : goR (((M1 0 10).toNat : Nat) - 2 : Int) 0 (M 35 a) a M1 M2 := hR
    rw [show (((M1 0 10).toNat : Nat) - 2 : Int) = M 1 0 by omega] at hR
    obtain ⟨r1, r2, r3, r4, r5, -⟩ := hR
    have hx := mb_lenX r2
    rw [r1] at hx
    have hx2 := @cross_len (M 1 0) (M 35 a) a (mbX M1 0)
    have hx3 := @cross_2b (M 1 0) (M 35 a) a (mbX M1 0)
    rw [hm] at hx2 hx3 hx r3 r1
    have hx : _ = M2 15 0 := hx
    refine ⟨by omega, hI_9 (100 + (7 - (a + 1))) _ _ _ _ (by omega) ⟨rfl, rfl, a + 1, by omega, by omega, ⟨frm_tr z1 r4 (by decide), fun j hj => (r5 j hj).trans (z2 j hj), by omega, by omega⟩, r2, by omega, ?_, rfl⟩⟩
    rw [r1]
    show _ = if bitP x a then (crossP (vX M 0 0) (vX M 3 a) a (leftP (vX M) x a)).1 else leftP (vX M) x a
    rw [if_pos z, hc]
    rfl
set_option maxHeartbeats 4000000 in
set_option maxRecDepth 100000 in
theorem at0_isLeft_74 {rs : List (Nat × Nat)} {s x : Int} {M : Mm} {Q : Option AV → Mm → Prop} (hM : okM (sh8 rs) M) (h_s : i32 s) (h_x : i32 x) (hP : P0_isLeft rs s x M) (hQ : ∀ (v : Int) (M1 : Mm), R0_isLeft rs s x M v M1 → Q (some (ai v)) M1) {m : Nat} {s_ k : Int} {M1 : Mm} (hM1 : okM (sh8 rs) M1) (h_s_ : i32 s_) (h_k : i32 k) (hJ : J0_isLeft_74 rs s x M m s_ k M1) (I_9 : List AV → Mm → Prop) (hI_9 : ∀ (m_ : Nat) (y_s_ : Int) (y_x_ : Int) (y_c : Int) (M2 : Mm), m_ < m → J0_isLeft_9 rs s x M m_ y_s_ y_x_ y_c M2 → I_9 [ar 0, ai y_s_, ai y_x_, ai y_c] M2) (I_74 : List AV → Mm → Prop) (hI_74 : ∀ (m_ : Nat) (y_s_ : Int) (y_k : Int) (M2 : Mm), m_ < m → J0_isLeft_74 rs s x M m_ y_s_ y_k M2 → I_74 [ar 0, ai y_s_, ai y_k] M2) : wpx (tb0 (csL (cs0_isLeft rs))) (csL (xs0_isLeft rs)) (sh8 rs) 4 2 cX0_isLeft [(9, [0, 1, 2, 3], I_9), (74, [0, 1, 3], I_74)] Q (fun _ _ => False) 400 false 74 [(0, ar 0), (1, ai s_), (3, ai k)] [] M1 := by
  obtain ⟨rfl, hz, ob, hm, hn, a, rfl, ha, hc, rfl⟩ := hJ
  obtain ⟨⟨hY, hB⟩, hlaw, hs, hr, hw⟩ := id hP
  obtain ⟨z1, z2, z3, z4⟩ := id hz
  have hB1 : baseI M1 := base_f z1 (by decide) (by decide) hB
  have hf := fval_s hB1 hs
  have e8 : M1 (8 + s.toNat) = M (8 + s.toNat) := z1 _ (by simp only [List.mem_cons, List.not_mem_nil, or_false]; omega)
  have e80 := congrFun e8 0
  have hr41 := hr.1
  have er : M1 (M (8 + s.toNat) 0).toNat = M (M (8 + s.toNat) 0).toNat := z1 _ (by simp only [List.mem_cons, List.not_mem_nil, or_false]; omega)
  have hl := mb_lenX ob
  have hl : _ = M1 15 0 := hl
  have ob2 : 0 ≤ M1 15 0 ∧ M1 15 0 ≤ 8 := ob.2.1
  have hk : ∀ k : Nat, (k : Int) < M1 15 0 → elP (mbX M1 0) k = M1 13 k := fun k hk => by
    rw [elP_X (b := 0) (by exact hk), show ((8 : Int) * 0 + k).toNat = k by omega]
  rw [hm] at hl hk
  simp only [e_wpy (k := 9) dX0_isLeft_0 rfl rfl rfl, e_wpy (k := 9) dX0_isLeft_1 rfl rfl rfl, e_wpy (k := 9) dX0_isLeft_4 rfl rfl rfl, e_wpy (k := 9) dX0_isLeft_5 rfl rfl rfl, e_wpy (k := 58) dX0_isLeft_6 rfl rfl rfl, e_wpy (k := 9) dX0_isLeft_7 rfl rfl rfl, e_wpy (k := 9) dX0_isLeft_8 rfl rfl rfl, e_wpy (k := 9) dX0_isLeft_9 rfl rfl rfl, e_wpy (k := 9) dX0_isLeft_10 rfl rfl rfl, e_wpy (k := 9) dX0_isLeft_11 rfl rfl rfl, e_wpy (k := 9) dX0_isLeft_14 rfl rfl rfl, e_wpy (k := 9) dX0_isLeft_17 rfl rfl rfl, e_wpy (k := 9) dX0_isLeft_20 rfl rfl rfl, e_wpy (k := 9) dX0_isLeft_21 rfl rfl rfl, e_wpy (k := 2386) dX0_isLeft_22 rfl rfl rfl, e_wpy (k := 9) dX0_isLeft_25 rfl rfl rfl, e_wpy (k := 9) dX0_isLeft_28 rfl rfl rfl, e_wpy (k := 9) dX0_isLeft_29 rfl rfl rfl, e_wpy (k := 9) dX0_isLeft_32 rfl rfl rfl, e_wpy (k := 9) dX0_isLeft_33 rfl rfl rfl, e_wpy (k := 9) dX0_isLeft_34 rfl rfl rfl, e_wpy (k := 9) dX0_isLeft_37 rfl rfl rfl, e_wpy (k := 9) dX0_isLeft_40 rfl rfl rfl, e_wpy (k := 48) dX0_isLeft_41 rfl rfl rfl, e_wpy (k := 9) dX0_isLeft_42 rfl rfl rfl, e_wpy (k := 2345) dX0_isLeft_43 rfl rfl rfl, e_wpy (k := 9) dX0_isLeft_46 rfl rfl rfl, e_wpy (k := 9) dX0_isLeft_49 rfl rfl rfl, e_wpy (k := 9) dX0_isLeft_52 rfl rfl rfl, e_wpy (k := 9) dX0_isLeft_53 rfl rfl rfl, e_wpy (k := 9) dX0_isLeft_56 rfl rfl rfl, e_wpy (k := 48) dX0_isLeft_57 rfl rfl rfl, e_wpy (k := 9) dX0_isLeft_58 rfl rfl rfl, e_wpy (k := 9) dX0_isLeft_59 rfl rfl rfl, e_wpy (k := 9) dX0_isLeft_62 rfl rfl rfl, e_wpy (k := 9) dX0_isLeft_63 rfl rfl rfl, e_wpy (k := 3245) dX0_isLeft_64 rfl rfl rfl, e_wpy (k := 9) dX0_isLeft_67 rfl rfl rfl, e_wpy (k := 9) dX0_isLeft_70 rfl rfl rfl, e_wpy (k := 9) dX0_isLeft_71 rfl rfl rfl, e_wpy (k := 9) dX0_isLeft_72 rfl rfl rfl, e_wpy (k := 9) dX0_isLeft_73 rfl rfl rfl, e_wpy (k := 9) dX0_isLeft_74 rfl rfl rfl, e_wpy (k := 9) dX0_isLeft_75 rfl rfl rfl, e_wpy (k := 9) dX0_isLeft_76 rfl rfl rfl, e_wpy (k := 9) dX0_isLeft_79 rfl rfl rfl, e_wpy (k := 48) dX0_isLeft_80 rfl rfl rfl, e_wpy (k := 9) dX0_isLeft_81 rfl rfl rfl, e_wpy (k := 9) dX0_isLeft_84 rfl rfl rfl, e_wpy (k := 9) dX0_isLeft_85 rfl rfl rfl, e_wpy (k := 9) dX0_isLeft_88 rfl rfl rfl, e_wpy (k := 48) dX0_isLeft_89 rfl rfl rfl, e_wpy (k := 9) dX0_isLeft_90 rfl rfl rfl, e_wpy (k := 9) dX0_isLeft_91 rfl rfl rfl, e_wpy (k := 9) dX0_isLeft_92 rfl rfl rfl, e_wpy (k := 9) dX0_isLeft_95 rfl rfl rfl, e_wpy (k := 9) dX0_isLeft_96 rfl rfl rfl, e_wpy (k := 9) dX0_isLeft_97 rfl rfl rfl, e_wpy (k := 3275) dX0_isLeft_98 rfl rfl rfl, e_wpy (k := 9) dX0_isLeft_101 rfl rfl rfl, e_wpy (k := 9) dX0_isLeft_102 rfl rfl rfl, e_wpy (k := 9) dX0_isLeft_105 rfl rfl rfl, e_wpy (k := 9) dX0_isLeft_106 rfl rfl rfl, e_wpy (k := 9) dX0_isLeft_107 rfl rfl rfl, e_wpy (k := 9) dX0_isLeft_110 rfl rfl rfl, e_wpy (k := 9) dX0_isLeft_113 rfl rfl rfl, e_wpy (k := 9) dX0_isLeft_114 rfl rfl rfl, xoff_a, ex_null_n, ex_null_r, ex_nonn_n, ex_nonn_r, ex_aret, xel_n, xel_s, xgo_0, xgo_1x, xgo_1v, xgo_1i, xgo_1l, xgo_1r, xgo_2, xgo_3, xgo_4, xgo_5x, xgo_5v, xgo_5i, xgo_5l, xgd_5, xgd_0, xgd_1, xgd_2, xgd_3, xgd_4, ath_y, xct_f, xct_t, xna_f, csL_n, Nat.reduceMul, xs0_isLeft, g0_31, g0_10, g0_156, c0_isOf, P0_isOf, V0_isOf, cs0_isLeft, g0_52, g0_180, c0_wgoes, g0_110, c6_size, P6_size, V6_size, g0_24, c6_at, P6_at, V6_at, a8_13, w8_13, a8_14, w8_14, a8_15, w8_15, a8_16, w8_16, a8_17, w8_17, a8_18, w8_18, a8_19, w8_19, a8_20, w8_20, a8_21, w8_21, a8_22, w8_22, a8_23, w8_23, a8_24, w8_24, a8_25, w8_25, a8_26, w8_26, a8_27, w8_27, a8_28, w8_28, a8_29, w8_29, a8_30, w8_30, a8_31, w8_31, a8_32, w8_32, a8_33, w8_33, a8_34, w8_34, a8_35, w8_35, a8_36, w8_36, a8_37, w8_37, a8_38, w8_38, a8_39, w8_39, a8_40, w8_40, a8_12, w8_12, a8_6, a8_7, e_iconst, e_bipush, e_sipush, e_lconst_0, e_lconst_1, e_iload, e_iload_0, e_iload_1, e_iload_2, e_iload_3, e_lload, e_lload_0, e_lload_1, e_lload_2, e_lload_3, e_aload, e_aload_0, e_aload_1, e_aload_2, e_aload_3, e_istore, e_istore_0, e_istore_1, e_istore_2, e_istore_3, e_astore, e_astore_0, e_astore_1, e_astore_2, e_astore_3, e_lstore, e_lstore_0, e_lstore_1, e_lstore_2, e_lstore_3, e_iinc, e_iadd, e_isub, e_imul, e_ladd, e_lsub, e_lmul, e_idiv, e_irem, e_ldiv, e_lrem, e_ineg, e_lneg, e_iand, e_ior, e_ixor, e_ishl, e_ishr, e_iushr, e_lcmp, e_i2l, e_l2i, e_i2b, e_i2s, e_dup_i, e_dup_r, e_pop_i, e_pop_r, e_dup2_l, e_dup2_ir, e_dup2_ii, e_ifeq, e_ifne, e_iflt, e_ifge, e_ifgt, e_ifle, e_iceq, e_icne, e_iclt, e_icge, e_icgt, e_icle, e_goto, e_switch, e_invokevirtual, e_invokestatic, e_invokespecial, e_ret0, e_ret1, e_ret2, e_ret3, ldI_s, ldL_s, ldR_s, clO_s, ctP_s, ctS_s, mgo_0, mgo_s, pjc_s, pj_0, pj_s, lk_s, rm1_0, rm1_i, rm1_r, rm1_l, rm2_0, rm2_i, rm2_r, rm2_l, csL_s, lc_lt, lc_ge, lc_gt, lc_le, lc_eq, b01_0, b01_1, b01_01, b01_n, up2_o, up2_s, up2_u, ne_eq, reduceCtorEq, Nat.reduceAdd, Nat.reduceEqDiff, Nat.reduceLT, Nat.reduceLeDiff, Int.reduceLE, Int.reduceLT, Int.reduceAdd, Int.reduceNeg, Int.reduceMul, Int.reduceSub, Int.reduceEq, Int.reduceToNat, Int.reduceNatCast, Int.cast_ofNat_Int, ↓reduceIte, and_self, List.drop_succ_cons, List.drop_zero, List.take_succ_cons, List.take_zero, List.length_cons, List.length_nil, List.reverse_cons, List.reverse_nil, List.nil_append, List.cons_append, Option.toList, true_and, and_true, or_false, false_or, or_true, true_or, forall_const, Classical.not_not, not_false_eq_true, not_true_eq_false, false_implies, true_implies, implies_true, imp_self, hf, Int.toNat_natCast]
  rw [e80, er]
  refine ⟨fun q => ?_, fun q => ?_⟩
  · refine hQ _ _ ⟨hz, (b01_t ⟨?_, fun k hk2 => ?_⟩).symm⟩
    · rw [n_slX hr]; omega
    · rw [at_slX hr (by omega), ← hc k (by omega), hk k (by omega)]
  · refine ⟨by omega, by omega, ⟨⟨by omega, by rw [Int.toNat_natCast, e80]; exact hr⟩, by omega, by omega⟩, fun z => ⟨by omega, ?_⟩, fun z => ?_⟩
    · refine hI_74 (8 - (a + 1)) _ _ _ (by omega) ⟨rfl, hz, ob, hm, hn, a + 1, by omega, by omega, fun j hj => ?_, rfl⟩
      by_cases e : j = a
      · rw [e]; exact z
      · exact hc j (by omega)
    · refine hQ _ _ ⟨hz, (b01_f fun w => z ?_).symm⟩
      have w2 := w.2 a (by omega)
      rw [at_slX hr (by omega), hk a q] at w2
      exact w2.symm
set_option maxHeartbeats 4000000 in
set_option maxRecDepth 100000 in
theorem m0_isLeft {rs : List (Nat × Nat)} : MOK cl8 (sh8 rs) tyl8 Nws8 4 yX0_isLeft cX0_isLeft 4 (some .boolean) (sp0_isLeft rs) := by
  refine mokx_of (own := RX0) (tb := tb0 (csL (cs0_isLeft rs))) (xt := csL (xs0_isLeft rs)) (rt := 2) (fuel := 400) (fun avs M Q => [(9, [0, 1, 2, 3], fun m_ vs M1 => ∃ y_s_ : Int, ∃ y_x_ : Int, ∃ y_c : Int, vs = [ar 0, ai y_s_, ai y_x_, ai y_c] ∧ J0_isLeft_9 rs (pa true [0, 0] avs 0) (pa true [0, 0] avs 1) M m_ y_s_ y_x_ y_c M1), (74, [0, 1, 3], fun m_ vs M1 => ∃ y_s_ : Int, ∃ y_k : Int, vs = [ar 0, ai y_s_, ai y_k] ∧ J0_isLeft_74 rs (pa true [0, 0] avs 0) (pa true [0, 0] avs 1) M m_ y_s_ y_k M1)]) (by decide) rfl nws8_ok (tbOK0 _) rfl (csL_all ?_) (csX_all ?_) ?_ ?_ ?_
  · intro q hq
    simp only [cs0_isLeft, List.mem_cons, List.not_mem_nil, or_false] at hq
    rcases hq with rfl | rfl | rfl | rfl
    · exact cg0_isOf (by decide)
    · exact cg0_wgoes (by decide)
    · exact cg6_size (by decide)
    · exact cg6_at (by decide)
  · intro q hq; cases hq
  · intro avs M Q hsp
    obtain ⟨xs, hx⟩ := spR_un _ _ _ hsp
    obtain ⟨e, hl⟩ := unA_mkT hx
    obtain ⟨s, x, rfl⟩ := len2 hl
    have e : avs = [ar 0, ai s, ai x] := e
    subst e
    simp [szL, isL]
  · intro avs M Q hM hav hsp
    obtain ⟨xs, hx⟩ := spR_un _ _ _ hsp
    obtain ⟨e, hl⟩ := unA_mkT hx
    obtain ⟨s, x, rfl⟩ := len2 hl
    have e : avs = [ar 0, ai s, ai x] := e
    subst e
    exact in0_isLeft hM (hav (ai s) (by simp)) (hav (ai x) (by simp)) hsp.1 hsp.2 _ (fun m_ y_s_ y_x_ y_c M2 hJ => ⟨m_, y_s_, y_x_, y_c, rfl, hJ⟩) _ (fun m_ y_s_ y_k M2 hJ => ⟨m_, y_s_, y_k, rfl, hJ⟩)
  · intro avs M Q hM hav hsp q hq m_ vs M1 hM1 hv hJ
    obtain ⟨xs, hx⟩ := spR_un _ _ _ hsp
    obtain ⟨e, hl⟩ := unA_mkT hx
    obtain ⟨s, x, rfl⟩ := len2 hl
    have e : avs = [ar 0, ai s, ai x] := e
    subst e
    simp only [List.mem_cons, List.not_mem_nil, or_false] at hq
    rcases hq with rfl | rfl
    · obtain ⟨y_s_, y_x_, y_c, rfl, hJ⟩ := hJ
      exact at0_isLeft_9 hM (hav (ai s) (by simp)) (hav (ai x) (by simp)) hsp.1 hsp.2 hM1 (hv (1, ai y_s_) (List.mem_of_getElem? (i := 1) rfl)) (hv (2, ai y_x_) (List.mem_of_getElem? (i := 2) rfl)) (hv (3, ai y_c) (List.mem_of_getElem? (i := 3) rfl)) hJ _ (fun m2 z_s_ z_x_ z_c M2 hm hJ2 => ⟨m2, hm, z_s_, z_x_, z_c, rfl, hJ2⟩) _ (fun m2 z_s_ z_k M2 hm hJ2 => ⟨m2, hm, z_s_, z_k, rfl, hJ2⟩)
    · obtain ⟨y_s_, y_k, rfl, hJ⟩ := hJ
      exact at0_isLeft_74 hM (hav (ai s) (by simp)) (hav (ai x) (by simp)) hsp.1 hsp.2 hM1 (hv (1, ai y_s_) (List.mem_of_getElem? (i := 1) rfl)) (hv (3, ai y_k) (List.mem_of_getElem? (i := 2) rfl)) hJ _ (fun m2 z_s_ z_x_ z_c M2 hm hJ2 => ⟨m2, hm, z_s_, z_x_, z_c, rfl, hJ2⟩) _ (fun m2 z_s_ z_k M2 hm hJ2 => ⟨m2, hm, z_s_, z_k, rfl, hJ2⟩)
theorem cg0_isLeft {rs : List (Nat × Nat)} {lvl : Nat} (h : 4 < lvl) : CG RX0 cl8 (sh8 rs) tyl8 Nws8 lvl 1 342 3 (sp0_isLeft rs) := cg_V (sg := [0, 0]) nws8_ok spR_mono spR_un m0_isLeft h rfl (by decide) rfl rfl ⟨rfl, by decide, by decide, rfl⟩ q1094 q1096 qs42 q128 q1097
