/-! SagMemory: lies in the toll book, laws (where a row is there) -/
theorem load_cX {M : Mm} {c : Nat} {x : Int} : cX (up2 M 16 c x) = up2 (cX M) 1 c x := by
  funext i j
  match i with
  | 0 => rfl
  | 1 =>
    show (if 16 = 16 ∧ j = c then x else M 16 j) = if 1 = 1 ∧ j = c then x else M 16 j
    simp only [true_and]
  | 2 => rfl
  | 3 => rfl
  | i + 4 => rfl
theorem lieP_z {f : Nat → Int} : ∀ {n : Nat}, 0 ≤ (lieP f n).1 ∧ ((lieP f n).1 = 0 ↔ (lieP f n).2.1 = -1) := by
  intro n
  induction n with
  | zero => exact ⟨Int.le_refl _, ⟨fun _ => rfl, fun _ => rfl⟩⟩
  | succ n ih =>
    by_cases h : f (n + 1) = 1
    · rw [lieP_1 h]
      show 0 ≤ (lieP f n).1 + 1 ∧ ((lieP f n).1 + 1 = 0 ↔ (if (lieP f n).2.1 = -1 then ((n : Int) + 1) else (lieP f n).2.1) = -1)
      refine ⟨by omega, fun z => by omega, fun z => ?_⟩
      split at z <;> omega
    · rw [lieP_0 h]; exact ih
def P0_laysLoads (rs : List (Nat × Nat)) (s : Int) (c : Int) (M : Mm) : Prop := okX M ∧ okSX rs M ∧ ((0 ≤ s ∧ s ≤ 3) ∧ rowOK rs (M (8 + s.toNat) 0) ∧ bookOK (vX M) (slX rs M s.toNat)) ∧ (0 ≤ c ∧ c < M 1 5) ∧ nC (vX M) (cX M) = tellP (vX M)
def R0_laysLoads (rs : List (Nat × Nat)) (s : Int) (c : Int) (M : Mm) (M1 : Mm) : Prop := keepX M M1 ∧ nC (vX M) (cX M1) = tellP (vX M) ∧ (M1 0 33, M1 0 34, M1 0 35) = lieP (lieF (vX M) (slX rs M s.toNat) c.toNat) 99
def sp0_laysLoads (rs : List (Nat × Nat)) : Spec := spV true [0, 0] (fun x M => P0_laysLoads rs (x 0) (x 1) M) (fun x M M1 => R0_laysLoads rs (x 0) (x 1) M M1)
theorem c0_laysLoads {rs : List (Nat × Nat)} {s c : Int} {M : Mm} {Q : Option AV → Mm → Prop} : sp0_laysLoads rs [ar 0, ai s, ai c] M Q = (P0_laysLoads rs s c M ∧ ∀ (M1 : Mm), R0_laysLoads rs s c M M1 → Q none M1) := rfl
def cs0_laysLoads (rs : List (Nat × Nat)) : List (Nat × Nat × Nat × Spec) := [(370, 1, 2, (sp0_isSo rs))]
def J0_laysLoads_22 (rs : List (Nat × Nat)) (s : Int) (c : Int) (M : Mm) (m : Nat) (s_ : Int) (c_ : Int) (M1 : Mm) : Prop := s = s_ ∧ c = c_ ∧ keepX M M1 ∧ ∃ a : Nat, a ≤ 99 ∧ M1 16 c.toNat = (a : Int) + 1 ∧ (∀ x, nC (vX M) (up2 (cX M1) 1 c.toNat x) = up2 (tellP (vX M)) 1 c.toNat x) ∧ (M1 0 33, M1 0 34, M1 0 35) = lieP (lieF (vX M) (slX rs M s.toNat) c.toNat) a ∧ m = 99 - a
set_option maxHeartbeats 4000000 in
set_option maxRecDepth 100000 in
theorem in0_laysLoads {rs : List (Nat × Nat)} {s c : Int} {M : Mm} {Q : Option AV → Mm → Prop} (hM : okM (sh8 rs) M) (h_s : i32 s) (h_c : i32 c) (hP : P0_laysLoads rs s c M) (hQ : ∀ (M1 : Mm), R0_laysLoads rs s c M M1 → Q none M1) (I_22 : List AV → Mm → Prop) (hI_22 : ∀ (m_ : Nat) (y_s_ : Int) (y_c_ : Int) (M2 : Mm), J0_laysLoads_22 rs s c M m_ y_s_ y_c_ M2 → I_22 [ar 0, ai y_s_, ai y_c_] M2) : wp (tb0 (csL (cs0_laysLoads rs))) (sh8 rs) 3 0 cX0_laysLoads [(22, [0, 1, 2], I_22)] Q 400 0 [(0, ar 0), (1, ai s), (2, ai c)] [] M := by
  obtain ⟨⟨hY, hB⟩, hS, hsr, hc, hC⟩ := id hP
  have h4 : 0 ≤ M 1 5 ∧ M 1 5 ≤ 7 := (okY_n hY).2.1
  simp only [e_wp dX0_laysLoads_0 rfl, e_wp dX0_laysLoads_1 rfl, e_wp dX0_laysLoads_2 rfl, e_wp dX0_laysLoads_5 rfl, e_wp dX0_laysLoads_6 rfl, e_wp dX0_laysLoads_7 rfl, e_wp dX0_laysLoads_10 rfl, e_wp dX0_laysLoads_11 rfl, e_wp dX0_laysLoads_12 rfl, e_wp dX0_laysLoads_15 rfl, e_wp dX0_laysLoads_16 rfl, e_wp dX0_laysLoads_19 rfl, e_wp dX0_laysLoads_20 rfl, e_wp dX0_laysLoads_21 rfl, e_wp dX0_laysLoads_22 rfl, e_wp dX0_laysLoads_23 rfl, e_wp dX0_laysLoads_26 rfl, e_wp dX0_laysLoads_27 rfl, e_wp dX0_laysLoads_28 rfl, e_wp dX0_laysLoads_30 rfl, e_wp dX0_laysLoads_33 rfl, e_wp dX0_laysLoads_34 rfl, e_wp dX0_laysLoads_35 rfl, e_wp dX0_laysLoads_38 rfl, e_wp dX0_laysLoads_41 rfl, e_wp dX0_laysLoads_44 rfl, e_wp dX0_laysLoads_45 rfl, e_wp dX0_laysLoads_46 rfl, e_wp dX0_laysLoads_49 rfl, e_wp dX0_laysLoads_52 rfl, e_wp dX0_laysLoads_53 rfl, e_wp dX0_laysLoads_56 rfl, e_wp dX0_laysLoads_57 rfl, e_wp dX0_laysLoads_58 rfl, e_wp dX0_laysLoads_61 rfl, e_wp dX0_laysLoads_62 rfl, e_wp dX0_laysLoads_65 rfl, e_wp dX0_laysLoads_68 rfl, e_wp dX0_laysLoads_69 rfl, e_wp dX0_laysLoads_70 rfl, e_wp dX0_laysLoads_73 rfl, e_wp dX0_laysLoads_74 rfl, e_wp dX0_laysLoads_75 rfl, e_wp dX0_laysLoads_78 rfl, e_wp dX0_laysLoads_79 rfl, e_wp dX0_laysLoads_80 rfl, e_wp dX0_laysLoads_83 rfl, e_wp dX0_laysLoads_84 rfl, e_wp dX0_laysLoads_85 rfl, e_wp dX0_laysLoads_88 rfl, e_wp dX0_laysLoads_89 rfl, e_wp dX0_laysLoads_92 rfl, e_wp dX0_laysLoads_93 rfl, e_wp dX0_laysLoads_94 rfl, e_wp dX0_laysLoads_95 rfl, e_wp dX0_laysLoads_96 rfl, e_wp dX0_laysLoads_97 rfl, e_wp dX0_laysLoads_98 rfl, e_wp dX0_laysLoads_101 rfl, e_wp dX0_laysLoads_102 rfl, e_wp dX0_laysLoads_105 rfl, e_wp dX0_laysLoads_106 rfl, e_wp dX0_laysLoads_107 rfl, e_wp dX0_laysLoads_110 rfl, e_wp dX0_laysLoads_113 rfl, e_wp dX0_laysLoads_114 rfl, e_wp dX0_laysLoads_115 rfl, e_wp dX0_laysLoads_116 rfl, p0_361, p0_364, p0_367, g0_56, c0_isSo, cs0_laysLoads, g0_361, g0_364, g0_10, g0_180, a8_13, w8_13, a8_14, w8_14, a8_15, w8_15, a8_16, w8_16, a8_17, w8_17, a8_18, w8_18, a8_19, w8_19, a8_20, w8_20, a8_21, w8_21, a8_22, w8_22, a8_23, w8_23, a8_24, w8_24, a8_25, w8_25, a8_26, w8_26, a8_27, w8_27, a8_28, w8_28, a8_29, w8_29, a8_30, w8_30, a8_31, w8_31, a8_32, w8_32, a8_33, w8_33, a8_34, w8_34, a8_35, w8_35, a8_36, w8_36, a8_37, w8_37, a8_38, w8_38, a8_39, w8_39, a8_40, w8_40, a8_12, w8_12, a8_6, a8_7, e_iconst, e_bipush, e_sipush, e_lconst_0, e_lconst_1, e_iload, e_iload_0, e_iload_1, e_iload_2, e_iload_3, e_lload, e_lload_0, e_lload_1, e_lload_2, e_lload_3, e_aload, e_aload_0, e_aload_1, e_aload_2, e_aload_3, e_istore, e_istore_0, e_istore_1, e_istore_2, e_istore_3, e_astore, e_astore_0, e_astore_1, e_astore_2, e_astore_3, e_lstore, e_lstore_0, e_lstore_1, e_lstore_2, e_lstore_3, e_iinc, e_iadd, e_isub, e_imul, e_ladd, e_lsub, e_lmul, e_idiv, e_irem, e_ldiv, e_lrem, e_ineg, e_lneg, e_iand, e_ior, e_ixor, e_ishl, e_ishr, e_iushr, e_lcmp, e_i2l, e_l2i, e_i2b, e_i2s, e_dup_i, e_dup_r, e_pop_i, e_pop_r, e_dup2_l, e_dup2_ir, e_dup2_ii, e_ifeq, e_ifne, e_iflt, e_ifge, e_ifgt, e_ifle, e_iceq, e_icne, e_iclt, e_icge, e_icgt, e_icle, e_goto, e_switch, e_invokevirtual, e_invokestatic, e_invokespecial, e_ret0, e_ret1, e_ret2, e_ret3, ldI_s, ldL_s, ldR_s, clO_s, ctP_s, ctS_s, mgo_0, mgo_s, pjc_s, pj_0, pj_s, lk_s, rm1_0, rm1_i, rm1_r, rm1_l, rm2_0, rm2_i, rm2_r, rm2_l, csL_s, lc_lt, lc_ge, lc_gt, lc_le, lc_eq, b01_0, b01_1, b01_01, b01_n, up2_o, up2_s, up2_u, ne_eq, reduceCtorEq, Nat.reduceAdd, Nat.reduceEqDiff, Nat.reduceLT, Nat.reduceLeDiff, Int.reduceLE, Int.reduceLT, Int.reduceAdd, Int.reduceNeg, Int.reduceMul, Int.reduceSub, Int.reduceEq, Int.reduceToNat, Int.reduceNatCast, Int.cast_ofNat_Int, ↓reduceIte, and_self, List.drop_succ_cons, List.drop_zero, List.take_succ_cons, List.take_zero, List.length_cons, List.length_nil, List.reverse_cons, List.reverse_nil, List.nil_append, List.cons_append, Option.toList, true_and, and_true, or_false, false_or, or_true, true_or, forall_const, Classical.not_not, not_false_eq_true, not_true_eq_false, false_implies, true_implies, implies_true, imp_self]
  refine ⟨by omega, hI_22 (99 - 0) _ _ _ ⟨rfl, rfl, keepX_o (keepX_u (keepX_u (keepX_u keepX_rf (by decide) (fun _ => by decide)) (by decide) (fun _ => by decide)) (by decide) (fun _ => by decide)) (by decide) (by decide), 0, by omega, by rw [up2_s]; rfl, fun x => ?_, ?_, rfl⟩⟩
  · rw [load_cX, up2_u, show cX (up2 (up2 (up2 M 0 33 0) 0 34 (-1)) 0 35 (-1)) = cX M from cX_q (fun j hj => by rw [up2_n (by revert hj; simp only [List.mem_cons, List.not_mem_nil, or_false]; omega), up2_n (by revert hj; simp only [List.mem_cons, List.not_mem_nil, or_false]; omega), up2_n (by revert hj; simp only [List.mem_cons, List.not_mem_nil, or_false]; omega)]) rfl rfl rfl, nC_u1 (by decide) (by show ((c.toNat : Nat) : Int) < M 1 5; omega), hC]
  · simp [up2_r, lieP]
set_option maxHeartbeats 4000000 in
set_option maxRecDepth 100000 in
theorem at0_laysLoads_22 {rs : List (Nat × Nat)} {s c : Int} {M : Mm} {Q : Option AV → Mm → Prop} (hM : okM (sh8 rs) M) (h_s : i32 s) (h_c : i32 c) (hP : P0_laysLoads rs s c M) (hQ : ∀ (M1 : Mm), R0_laysLoads rs s c M M1 → Q none M1) {m : Nat} {s_ c_ : Int} {M1 : Mm} (hM1 : okM (sh8 rs) M1) (h_s_ : i32 s_) (h_c_ : i32 c_) (hJ : J0_laysLoads_22 rs s c M m s_ c_ M1) (I_22 : List AV → Mm → Prop) (hI_22 : ∀ (m_ : Nat) (y_s_ : Int) (y_c_ : Int) (M2 : Mm), m_ < m → J0_laysLoads_22 rs s c M m_ y_s_ y_c_ M2 → I_22 [ar 0, ai y_s_, ai y_c_] M2) : wp (tb0 (csL (cs0_laysLoads rs))) (sh8 rs) 3 0 cX0_laysLoads [(22, [0, 1, 2], I_22)] Q 400 22 [(0, ar 0), (1, ai s_), (2, ai c_)] [] M1 := by
  obtain ⟨rfl, rfl, hk, a, ha, hl, hC2, hL, rfl⟩ := hJ
  obtain ⟨⟨hY, hB⟩, hS, ⟨hs, hr, hb⟩, hc, hC⟩ := id hP
  have h4 : 0 ≤ M 1 5 ∧ M 1 5 ≤ 7 := (okY_n hY).2.1
  have e1 : M1 1 = M 1 := hk.1 _ (by decide)
  have e35 : M1 35 = M 35 := hk.1 _ (by decide)
  have eV := keepX_v hk
  have eS := slX_eq hk.1 sRows_ok hS (s := s.toNat) (by omega)
  have e80 : M1 (8 + s.toNat) 0 = M (8 + s.toNat) 0 := congrFun (hk.1 _ (fun z => by have := sRows_ok _ z; omega)) 0
  have hC1 : nC (vX M) (cX M1) = up2 (tellP (vX M)) 1 c.toNat ((a : Int) + 1) := by
    rw [← hC2]
    congr 1
    funext i j
    by_cases e : i = 1 ∧ j = c.toNat
    · obtain ⟨rfl, rfl⟩ := e
      rw [up2_s]; exact hl
    · exact (if_neg e).symm
  have hlb := @lieP_z (lieF (vX M) (slX rs M s.toNat) c.toNat) a
  have hlb2 := @lieP_b (lieF (vX M) (slX rs M s.toNat) c.toNat) a
  have l1 : M1 0 33 = (lieP (lieF (vX M) (slX rs M s.toNat) c.toNat) a).1 := congrArg Prod.fst hL
  have l2 : M1 0 34 = (lieP (lieF (vX M) (slX rs M s.toNat) c.toNat) a).2.1 := congrArg (fun z => z.2.1) hL
  have l3 : M1 0 35 = (lieP (lieF (vX M) (slX rs M s.toNat) c.toNat) a).2.2 := congrArg (fun z => z.2.2) hL
  have go : ∀ M3, (a : Int) + 1 ≤ 99 → keepX M M3 → M3 16 c.toNat = (a : Int) + 1 + 1 → (∀ x, nC (vX M) (up2 (cX M3) 1 c.toNat x) = up2 (tellP (vX M)) 1 c.toNat x) → (M3 0 33, M3 0 34, M3 0 35) = lieP (lieF (vX M) (slX rs M s.toNat) c.toNat) (a + 1) → I_22 [ar 0, ai s, ai c] M3 := fun M3 g0 g1 g2 g3 g4 => hI_22 (99 - (a + 1)) _ _ _ (by omega) ⟨rfl, rfl, g1, a + 1, by omega, g2, g3, g4, rfl⟩
  simp only [e_wp dX0_laysLoads_0 rfl, e_wp dX0_laysLoads_1 rfl, e_wp dX0_laysLoads_2 rfl, e_wp dX0_laysLoads_5 rfl, e_wp dX0_laysLoads_6 rfl, e_wp dX0_laysLoads_7 rfl, e_wp dX0_laysLoads_10 rfl, e_wp dX0_laysLoads_11 rfl, e_wp dX0_laysLoads_12 rfl, e_wp dX0_laysLoads_15 rfl, e_wp dX0_laysLoads_16 rfl, e_wp dX0_laysLoads_19 rfl, e_wp dX0_laysLoads_20 rfl, e_wp dX0_laysLoads_21 rfl, e_wp dX0_laysLoads_22 rfl, e_wp dX0_laysLoads_23 rfl, e_wp dX0_laysLoads_26 rfl, e_wp dX0_laysLoads_27 rfl, e_wp dX0_laysLoads_28 rfl, e_wp dX0_laysLoads_30 rfl, e_wp dX0_laysLoads_33 rfl, e_wp dX0_laysLoads_34 rfl, e_wp dX0_laysLoads_35 rfl, e_wp dX0_laysLoads_38 rfl, e_wp dX0_laysLoads_41 rfl, e_wp dX0_laysLoads_44 rfl, e_wp dX0_laysLoads_45 rfl, e_wp dX0_laysLoads_46 rfl, e_wp dX0_laysLoads_49 rfl, e_wp dX0_laysLoads_52 rfl, e_wp dX0_laysLoads_53 rfl, e_wp dX0_laysLoads_56 rfl, e_wp dX0_laysLoads_57 rfl, e_wp dX0_laysLoads_58 rfl, e_wp dX0_laysLoads_61 rfl, e_wp dX0_laysLoads_62 rfl, e_wp dX0_laysLoads_65 rfl, e_wp dX0_laysLoads_68 rfl, e_wp dX0_laysLoads_69 rfl, e_wp dX0_laysLoads_70 rfl, e_wp dX0_laysLoads_73 rfl, e_wp dX0_laysLoads_74 rfl, e_wp dX0_laysLoads_75 rfl, e_wp dX0_laysLoads_78 rfl, e_wp dX0_laysLoads_79 rfl, e_wp dX0_laysLoads_80 rfl, e_wp dX0_laysLoads_83 rfl, e_wp dX0_laysLoads_84 rfl, e_wp dX0_laysLoads_85 rfl, e_wp dX0_laysLoads_88 rfl, e_wp dX0_laysLoads_89 rfl, e_wp dX0_laysLoads_92 rfl, e_wp dX0_laysLoads_93 rfl, e_wp dX0_laysLoads_94 rfl, e_wp dX0_laysLoads_95 rfl, e_wp dX0_laysLoads_96 rfl, e_wp dX0_laysLoads_97 rfl, e_wp dX0_laysLoads_98 rfl, e_wp dX0_laysLoads_101 rfl, e_wp dX0_laysLoads_102 rfl, e_wp dX0_laysLoads_105 rfl, e_wp dX0_laysLoads_106 rfl, e_wp dX0_laysLoads_107 rfl, e_wp dX0_laysLoads_110 rfl, e_wp dX0_laysLoads_113 rfl, e_wp dX0_laysLoads_114 rfl, e_wp dX0_laysLoads_115 rfl, e_wp dX0_laysLoads_116 rfl, p0_361, p0_364, p0_367, g0_56, c0_isSo, cs0_laysLoads, g0_361, g0_364, g0_10, g0_180, a8_13, w8_13, a8_14, w8_14, a8_15, w8_15, a8_16, w8_16, a8_17, w8_17, a8_18, w8_18, a8_19, w8_19, a8_20, w8_20, a8_21, w8_21, a8_22, w8_22, a8_23, w8_23, a8_24, w8_24, a8_25, w8_25, a8_26, w8_26, a8_27, w8_27, a8_28, w8_28, a8_29, w8_29, a8_30, w8_30, a8_31, w8_31, a8_32, w8_32, a8_33, w8_33, a8_34, w8_34, a8_35, w8_35, a8_36, w8_36, a8_37, w8_37, a8_38, w8_38, a8_39, w8_39, a8_40, w8_40, a8_12, w8_12, a8_6, a8_7, e_iconst, e_bipush, e_sipush, e_lconst_0, e_lconst_1, e_iload, e_iload_0, e_iload_1, e_iload_2, e_iload_3, e_lload, e_lload_0, e_lload_1, e_lload_2, e_lload_3, e_aload, e_aload_0, e_aload_1, e_aload_2, e_aload_3, e_istore, e_istore_0, e_istore_1, e_istore_2, e_istore_3, e_astore, e_astore_0, e_astore_1, e_astore_2, e_astore_3, e_lstore, e_lstore_0, e_lstore_1, e_lstore_2, e_lstore_3, e_iinc, e_iadd, e_isub, e_imul, e_ladd, e_lsub, e_lmul, e_idiv, e_irem, e_ldiv, e_lrem, e_ineg, e_lneg, e_iand, e_ior, e_ixor, e_ishl, e_ishr, e_iushr, e_lcmp, e_i2l, e_l2i, e_i2b, e_i2s, e_dup_i, e_dup_r, e_pop_i, e_pop_r, e_dup2_l, e_dup2_ir, e_dup2_ii, e_ifeq, e_ifne, e_iflt, e_ifge, e_ifgt, e_ifle, e_iceq, e_icne, e_iclt, e_icge, e_icgt, e_icle, e_goto, e_switch, e_invokevirtual, e_invokestatic, e_invokespecial, e_ret0, e_ret1, e_ret2, e_ret3, ldI_s, ldL_s, ldR_s, clO_s, ctP_s, ctS_s, mgo_0, mgo_s, pjc_s, pj_0, pj_s, lk_s, rm1_0, rm1_i, rm1_r, rm1_l, rm2_0, rm2_i, rm2_r, rm2_l, csL_s, lc_lt, lc_ge, lc_gt, lc_le, lc_eq, b01_0, b01_1, b01_01, b01_n, up2_o, up2_s, up2_u, ne_eq, reduceCtorEq, Nat.reduceAdd, Nat.reduceEqDiff, Nat.reduceLT, Nat.reduceLeDiff, Int.reduceLE, Int.reduceLT, Int.reduceAdd, Int.reduceNeg, Int.reduceMul, Int.reduceSub, Int.reduceEq, Int.reduceToNat, Int.reduceNatCast, Int.cast_ofNat_Int, ↓reduceIte, and_self, List.drop_succ_cons, List.drop_zero, List.take_succ_cons, List.take_zero, List.length_cons, List.length_nil, List.reverse_cons, List.reverse_nil, List.nil_append, List.cons_append, Option.toList, true_and, and_true, or_false, false_or, or_true, true_or, forall_const, Classical.not_not, not_false_eq_true, not_true_eq_false, false_implies, true_implies, implies_true, imp_self, hl, e35, up2_n (show (33 : Nat) ≠ 35 by decide), up2_n (show (33 : Nat) ≠ 34 by decide)]
  refine ⟨by omega, fun q => ⟨by omega, by omega, hQ _ ⟨keepX_o hk (by decide) (by decide), ?_, ?_⟩⟩, fun q => ?_⟩
  · rw [load_cX, hC2]
    have hv : M 35 c.toNat = tellP (vX M) 1 c.toNat := by
      rw [show tellP (vX M) 1 c.toNat = vX M 3 c.toNat from if_pos (by show ((c.toNat : Nat) : Int) < M 1 5; omega)]
      exact ((vX_c M (c := c.toNat) (by omega)).1).symm
    rw [hv]
    funext i j
    by_cases e : i = 1 ∧ j = c.toNat
    · obtain ⟨rfl, rfl⟩ := e
      rw [up2_s]
    · exact if_neg e
  · rw [up2_o (by decide), up2_o (by decide), up2_o (by decide), hL, show a = 99 by omega]
  · have hlp := lay_pre (rs := rs) ⟨hY, hB⟩ hk hC1 (okCf_1 (okCf_tell hY) (by omega))
    refine ⟨⟨hlp.1, hlp.2.1, hlp.2.2, okSX_eq hk.1 sRows_ok hS, hs, by rw [e80]; exact hr, by rw [eV, eS]; exact hb⟩, fun v M2 hR => ?_⟩
    obtain ⟨r1, r2, r3, r4⟩ := hR
    have hk2 : keepX M M2 := keepX_tr hk (keepX_run r1 r2)
    have eC : cX M2 = cX M1 := cX_e r2.2 (r1 _ (by decide)) (r1 _ (by decide)) (r1 _ (by decide))
    have e16 : M2 16 = M1 16 := r1 _ (by decide)
    have e33 : M2 0 33 = M1 0 33 := r2.2 _ (by decide)
    have e34 : M2 0 34 = M1 0 34 := r2.2 _ (by decide)
    have e35' : M2 0 35 = M1 0 35 := r2.2 _ (by decide)
    rw [eV, eS, hC1] at r4
    have r4 : v = lieF (vX M) (slX rs M s.toNat) c.toNat (a + 1) := r4
    rw [e16, hl, e33, e34]
    have k3 : ∀ x y z w, keepX M (up2 (up2 (up2 (up2 M2 0 34 x) 0 35 y) 0 33 z) 16 c.toNat w) := fun x y z w => keepX_o (keepX_u (keepX_u (keepX_u hk2 (by decide) (fun _ => by decide)) (by decide) (fun _ => by decide)) (by decide) (fun _ => by decide)) (by decide) (by decide)
    have c3 : ∀ x y z w t, nC (vX M) (up2 (cX (up2 (up2 (up2 (up2 M2 0 34 x) 0 35 y) 0 33 z) 16 c.toNat w)) 1 c.toNat t) = up2 (tellP (vX M)) 1 c.toNat t := fun x y z w t => by
      rw [load_cX, up2_u, show cX (up2 (up2 (up2 M2 0 34 x) 0 35 y) 0 33 z) = cX M2 from cX_q (fun j hj => by rw [up2_n (by revert hj; simp only [List.mem_cons, List.not_mem_nil, or_false]; omega), up2_n (by revert hj; simp only [List.mem_cons, List.not_mem_nil, or_false]; omega), up2_n (by revert hj; simp only [List.mem_cons, List.not_mem_nil, or_false]; omega)]) rfl rfl rfl, eC]
      exact hC2 t
    have hv01 : v = 0 ∨ v = 1 := by
      rw [r4]
      unfold lieF b01
      split
      · exact Or.inr rfl
      · exact Or.inl rfl
    have g1 : v = 1 → ∀ x, x = (if M1 0 34 = -1 then ((a : Int) + 1) else M1 0 34) → I_22 [ar 0, ai s, ai c] (up2 (up2 (up2 (up2 M2 0 34 x) 0 35 ((a : Int) + 1)) 0 33 (M1 0 33 + 1)) 16 c.toNat ((a : Int) + 1 + 1)) := by
      intro h1 x hx
      refine go _ q (k3 _ _ _ _) (by rw [up2_s]) (c3 _ _ _ _) ?_
      rw [lieP_1 (by rw [← r4]; exact h1)]
      simp [up2_r, hx, l1, l2]
    refine ⟨fun z => ⟨fun z2 => ⟨by omega, by omega, by omega, by omega, by omega, g1 (by omega) _ (if_neg (by omega)).symm⟩, fun z2 => ⟨by omega, by omega, by omega, by omega, by omega, by omega, g1 (by omega) _ (if_pos (by omega)).symm⟩⟩, fun z => ⟨by omega, by omega, by omega, ?_⟩⟩
    refine go _ q (keepX_o hk2 (by decide) (by decide)) (by rw [up2_s]) (fun t => by rw [load_cX, up2_u, eC]; exact hC2 t) ?_
    rw [lieP_0 (by rw [← r4]; omega), up2_o (by decide), up2_o (by decide), up2_o (by decide), e33, e34, e35']
    exact hL
set_option maxHeartbeats 4000000 in
set_option maxRecDepth 100000 in
theorem m0_laysLoads {rs : List (Nat × Nat)} : MOK cl8 (sh8 rs) tyl8 Nws8 7 yX0_laysLoads cX0_laysLoads 3 none (sp0_laysLoads rs) := by
  refine mok_of (own := RX0) (tb := tb0 (csL (cs0_laysLoads rs))) (rt := 0) (fuel := 400) (fun avs M Q => [(22, [0, 1, 2], fun m_ vs M1 => ∃ y_s_ : Int, ∃ y_c_ : Int, vs = [ar 0, ai y_s_, ai y_c_] ∧ J0_laysLoads_22 rs (pa true [0, 0] avs 0) (pa true [0, 0] avs 1) M m_ y_s_ y_c_ M1)]) (by decide) rfl nws8_ok (tbOK0 _) rfl (csL_all ?_) ?_ ?_ ?_
  · intro q hq
    simp only [cs0_laysLoads, List.mem_cons, List.not_mem_nil, or_false] at hq
    rcases hq with rfl
    · exact cg0_isSo (by decide)
  · intro avs M Q hsp
    obtain ⟨xs, hx⟩ := spV_un _ _ _ hsp
    obtain ⟨e, hl⟩ := unA_mkT hx
    obtain ⟨s, c, rfl⟩ := len2 hl
    have e : avs = [ar 0, ai s, ai c] := e
    subst e
    simp [szL, isL]
  · intro avs M Q hM hav hsp
    obtain ⟨xs, hx⟩ := spV_un _ _ _ hsp
    obtain ⟨e, hl⟩ := unA_mkT hx
    obtain ⟨s, c, rfl⟩ := len2 hl
    have e : avs = [ar 0, ai s, ai c] := e
    subst e
    exact in0_laysLoads hM (hav (ai s) (by simp)) (hav (ai c) (by simp)) hsp.1 hsp.2 _ (fun m_ y_s_ y_c_ M2 hJ => ⟨m_, y_s_, y_c_, rfl, hJ⟩)
  · intro avs M Q hM hav hsp q hq m_ vs M1 hM1 hv hJ
    obtain ⟨xs, hx⟩ := spV_un _ _ _ hsp
    obtain ⟨e, hl⟩ := unA_mkT hx
    obtain ⟨s, c, rfl⟩ := len2 hl
    have e : avs = [ar 0, ai s, ai c] := e
    subst e
    simp only [List.mem_cons, List.not_mem_nil, or_false] at hq
    rcases hq with rfl
    · obtain ⟨y_s_, y_c_, rfl, hJ⟩ := hJ
      exact at0_laysLoads_22 hM (hav (ai s) (by simp)) (hav (ai c) (by simp)) hsp.1 hsp.2 hM1 (hv (1, ai y_s_) (List.mem_of_getElem? (i := 1) rfl)) (hv (2, ai y_c_) (List.mem_of_getElem? (i := 2) rfl)) hJ _ (fun m2 z_s_ z_c_ M2 hm hJ2 => ⟨m2, hm, z_s_, z_c_, rfl, hJ2⟩)
theorem cg0_laysLoads {rs : List (Nat × Nat)} {lvl : Nat} (h : 7 < lvl) : CG RX0 cl8 (sh8 rs) tyl8 Nws8 lvl 1 376 3 (sp0_laysLoads rs) := cg_V (sg := [0, 0]) nws8_ok spV_mono spV_un m0_laysLoads h rfl (by decide) rfl rfl ⟨rfl, by decide, by decide, rfl⟩ q1147 q1149 qs46 q128 q1150
/-- the book may be read: what it says -/
theorem bok_sl {rs : List (Nat × Nat)} {M : Mm} {s : Nat} (h : okSX rs M) (hs : s < 4) : okSl (slX rs M s) := by
  rcases h s hs with q | q
  · rw [slX_n q]; exact Or.inl rfl
  · have h2 := sh8_row q
    have hn := n_slX q
    have := q.1
    refine Or.inr ⟨?_, by omega, by omega⟩
    rw [slX_p (by omega)]
    show 0 ≤ ((rW rs (M (8 + s) 0) : Nat) : Int) ∧ ((rW rs (M (8 + s) 0) : Nat) : Int) ≤ 3
    omega
theorem bok_why {rs : List (Nat × Nat)} {M : Mm} {s : Int} (hP : bokP rs s M) (h : whyBk (vX M) (slX rs M) s = 0) : (0 ≤ s ∧ s ≤ 3) ∧ rowOK rs (M (8 + s.toNat) 0) ∧ bookOK (vX M) (slX rs M s.toNat) := by
  obtain ⟨h1, h2⟩ := why_bk hP.1.1 (fun s hs => bok_sl hP.2.1 hs) h
  refine ⟨h1, (hP.2.1 s.toNat (by omega)).resolve_left ?_, h2⟩
  intro z
  unfold whyBk at h
  split at h
  · rename_i q
    rw [if_pos (slX_w.mpr z)] at h
    omega
  · omega
theorem bok_keep {rs : List (Nat × Nat)} {M M1 : Mm} (hP : okX M ∧ okSX rs M) (hk : keepX M M1) : okX M1 ∧ okSX rs M1 := ⟨⟨by rw [keepX_v hk]; exact hP.1.1, keepX_b hk hP.1.2⟩, okSX_eq hk.1 sRows_ok hP.2⟩
theorem bok_sX {rs : List (Nat × Nat)} {M M1 : Mm} {s : Nat} (hS : okSX rs M) (hk : keepX M M1) (hs : s < 4) : slX rs M1 s = slX rs M s ∧ M1 (8 + s) 0 = M (8 + s) 0 := ⟨slX_eq hk.1 sRows_ok hS hs, congrFun (hk.1 _ (fun z => by have := sRows_ok _ z; omega)) 0⟩
theorem whyBk_v {V : Vy} {sl : Nat → Sl} {s : Int} : whyBk V sl s = 0 ∨ whyBk V sl s = -2 ∨ whyBk V sl s = -6 := by
  unfold whyBk
  split
  · split
    · simp
    · split <;> simp
  · simp
abbrev ldsP (rs : List (Nat × Nat)) (s c : Int) (M : Mm) : Prop := okX M ∧ okSX rs M ∧ (isC (vX M) c → (0 ≤ s ∧ s ≤ 3) ∧ 0 < vX M 0 8 → ¬ M (8 + s.toNat) 0 < 0)
def P0_asksLoads (rs : List (Nat × Nat)) (s : Int) (c : Int) (M : Mm) : Prop := ldsP rs s c M
def R0_asksLoads (rs : List (Nat × Nat)) (s : Int) (c : Int) (M : Mm) (v : Int) (M1 : Mm) : Prop := keepX M M1 ∧ v = whyLd (vX M) (slX rs M) s c ∧ (v = 0 → (M1 0 33, M1 0 34, M1 0 35) = lieP (lieF (vX M) (slX rs M s.toNat) c.toNat) 99)
def sp0_asksLoads (rs : List (Nat × Nat)) : Spec := spR true [0, 0] 1 (fun x M => P0_asksLoads rs (x 0) (x 1) M) (fun x M v M1 => R0_asksLoads rs (x 0) (x 1) M v M1)
theorem c0_asksLoads {rs : List (Nat × Nat)} {s c : Int} {M : Mm} {Q : Option AV → Mm → Prop} : sp0_asksLoads rs [ar 0, ai s, ai c] M Q = (P0_asksLoads rs s c M ∧ ∀ (v : Int) (M1 : Mm), R0_asksLoads rs s c M v M1 → Q (some (ai v)) M1) := rfl
def cs0_asksLoads (rs : List (Nat × Nat)) : List (Nat × Nat × Nat × Spec) := [(159, 1, 2, (sp0_isCart rs)), (373, 1, 2, (sp0_asksBook rs)), (376, 1, 3, (sp0_laysLoads rs))]
set_option maxHeartbeats 4000000 in
set_option maxRecDepth 100000 in
theorem in0_asksLoads {rs : List (Nat × Nat)} {s c : Int} {M : Mm} {Q : Option AV → Mm → Prop} (hM : okM (sh8 rs) M) (h_s : i32 s) (h_c : i32 c) (hP : P0_asksLoads rs s c M) (hQ : ∀ (v : Int) (M1 : Mm), R0_asksLoads rs s c M v M1 → Q (some (ai v)) M1) : wp (tb0 (csL (cs0_asksLoads rs))) (sh8 rs) 4 1 cX0_asksLoads [] Q 400 0 [(0, ar 0), (1, ai s), (2, ai c)] [] M := by
  obtain ⟨hX, hS, hr⟩ := id hP
  have h4 : 0 ≤ M 1 5 ∧ M 1 5 ≤ 7 := (okY_n hX.1).2.1
  simp only [e_wp dX0_asksLoads_0 rfl, e_wp dX0_asksLoads_1 rfl, e_wp dX0_asksLoads_2 rfl, e_wp dX0_asksLoads_3 rfl, e_wp dX0_asksLoads_6 rfl, e_wp dX0_asksLoads_9 rfl, e_wp dX0_asksLoads_11 rfl, e_wp dX0_asksLoads_12 rfl, e_wp dX0_asksLoads_13 rfl, e_wp dX0_asksLoads_14 rfl, e_wp dX0_asksLoads_17 rfl, e_wp dX0_asksLoads_18 rfl, e_wp dX0_asksLoads_19 rfl, e_wp dX0_asksLoads_22 rfl, e_wp dX0_asksLoads_23 rfl, e_wp dX0_asksLoads_24 rfl, e_wp dX0_asksLoads_25 rfl, e_wp dX0_asksLoads_28 rfl, e_wp dX0_asksLoads_29 rfl, c0_isCart, P0_isCart, V0_isCart, cs0_asksLoads, c0_asksBook, c0_laysLoads, e_iconst, e_bipush, e_sipush, e_lconst_0, e_lconst_1, e_iload, e_iload_0, e_iload_1, e_iload_2, e_iload_3, e_lload, e_lload_0, e_lload_1, e_lload_2, e_lload_3, e_aload, e_aload_0, e_aload_1, e_aload_2, e_aload_3, e_istore, e_istore_0, e_istore_1, e_istore_2, e_istore_3, e_astore, e_astore_0, e_astore_1, e_astore_2, e_astore_3, e_lstore, e_lstore_0, e_lstore_1, e_lstore_2, e_lstore_3, e_iinc, e_iadd, e_isub, e_imul, e_ladd, e_lsub, e_lmul, e_idiv, e_irem, e_ldiv, e_lrem, e_ineg, e_lneg, e_iand, e_ior, e_ixor, e_ishl, e_ishr, e_iushr, e_lcmp, e_i2l, e_l2i, e_i2b, e_i2s, e_dup_i, e_dup_r, e_pop_i, e_pop_r, e_dup2_l, e_dup2_ir, e_dup2_ii, e_ifeq, e_ifne, e_iflt, e_ifge, e_ifgt, e_ifle, e_iceq, e_icne, e_iclt, e_icge, e_icgt, e_icle, e_goto, e_switch, e_invokevirtual, e_invokestatic, e_invokespecial, e_ret0, e_ret1, e_ret2, e_ret3, ldI_s, ldL_s, ldR_s, clO_s, ctP_s, ctS_s, mgo_0, mgo_s, pjc_s, pj_0, pj_s, lk_s, rm1_0, rm1_i, rm1_r, rm1_l, rm2_0, rm2_i, rm2_r, rm2_l, csL_s, lc_lt, lc_ge, lc_gt, lc_le, lc_eq, b01_0, b01_1, b01_01, b01_n, up2_o, up2_s, up2_u, ne_eq, reduceCtorEq, Nat.reduceAdd, Nat.reduceEqDiff, Nat.reduceLT, Nat.reduceLeDiff, Int.reduceLE, Int.reduceLT, Int.reduceAdd, Int.reduceNeg, Int.reduceMul, Int.reduceSub, Int.reduceEq, Int.reduceToNat, Int.reduceNatCast, Int.cast_ofNat_Int, ↓reduceIte, and_self, List.drop_succ_cons, List.drop_zero, List.take_succ_cons, List.take_zero, List.length_cons, List.length_nil, List.reverse_cons, List.reverse_nil, List.nil_append, List.cons_append, Option.toList, true_and, and_true, or_false, false_or, or_true, true_or, forall_const, Classical.not_not, not_false_eq_true, not_true_eq_false, false_implies, true_implies, implies_true, imp_self]
  refine ⟨h4, fun q => ⟨⟨hX, hS, hr q⟩, fun v M1 hR => ?_⟩, fun q => hQ _ _ ⟨keepX_rf, (if_neg q).symm, fun z => by omega⟩⟩
  obtain ⟨r1, r2, r3⟩ := hR
  have ew : whyLd (vX M) (slX rs M) s c = whyBk (vX M) (slX rs M) s := if_pos q
  refine ⟨fun z => hQ _ _ ⟨r1, by rw [ew]; exact r2, fun y => absurd y z⟩, fun z => ?_⟩
  obtain ⟨b1, b2, b3⟩ := bok_why ⟨hX, hS, hr q⟩ (r2.symm.trans z)
  obtain ⟨k1, k2⟩ := bok_keep ⟨hX, hS⟩ r1
  obtain ⟨s1, s2⟩ := bok_sX hS r1 (s := s.toNat) (by omega)
  have eV := keepX_v r1
  have e1 : M1 1 = M 1 := r1.1 _ (by decide)
  refine ⟨⟨k1, k2, ⟨b1, by rw [s2]; exact b2, by rw [eV, s1]; exact b3⟩, by rw [e1]; exact q, by rw [eV]; exact r3 z⟩, fun M2 hR2 => ?_⟩
  obtain ⟨t1, t2, t3⟩ := hR2
  rw [eV, s1] at t3
  exact hQ _ _ ⟨keepX_tr r1 t1, by rw [ew]; exact r2, fun _ => t3⟩
set_option maxHeartbeats 4000000 in
set_option maxRecDepth 100000 in
theorem m0_asksLoads {rs : List (Nat × Nat)} : MOK cl8 (sh8 rs) tyl8 Nws8 8 yX0_asksLoads cX0_asksLoads 4 (some .int) (sp0_asksLoads rs) := by
  refine mok_of (own := RX0) (tb := tb0 (csL (cs0_asksLoads rs))) (rt := 1) (fuel := 400) (fun avs M Q => []) (by decide) rfl nws8_ok (tbOK0 _) rfl (csL_all ?_) ?_ ?_ ?_
  · intro q hq
    simp only [cs0_asksLoads, List.mem_cons, List.not_mem_nil, or_false] at hq
    rcases hq with rfl | rfl | rfl
    · exact cg0_isCart (by decide)
    · exact cg0_asksBook (by decide)
    · exact cg0_laysLoads (by decide)
  · intro avs M Q hsp
    obtain ⟨xs, hx⟩ := spR_un _ _ _ hsp
    obtain ⟨e, hl⟩ := unA_mkT hx
    obtain ⟨s, c, rfl⟩ := len2 hl
    have e : avs = [ar 0, ai s, ai c] := e
    subst e
    simp [szL, isL]
  · intro avs M Q hM hav hsp
    obtain ⟨xs, hx⟩ := spR_un _ _ _ hsp
    obtain ⟨e, hl⟩ := unA_mkT hx
    obtain ⟨s, c, rfl⟩ := len2 hl
    have e : avs = [ar 0, ai s, ai c] := e
    subst e
    exact in0_asksLoads hM (hav (ai s) (by simp)) (hav (ai c) (by simp)) hsp.1 hsp.2
  · intro avs M Q hM hav hsp q hq m_ vs M1 hM1 hv hJ
    obtain ⟨xs, hx⟩ := spR_un _ _ _ hsp
    obtain ⟨e, hl⟩ := unA_mkT hx
    obtain ⟨s, c, rfl⟩ := len2 hl
    have e : avs = [ar 0, ai s, ai c] := e
    subst e
    cases hq
theorem cg0_asksLoads {rs : List (Nat × Nat)} {lvl : Nat} (h : 8 < lvl) : CG RX0 cl8 (sh8 rs) tyl8 Nws8 lvl 1 379 3 (sp0_asksLoads rs) := cg_V (sg := [0, 0]) nws8_ok spR_mono spR_un m0_asksLoads h rfl (by decide) rfl rfl ⟨rfl, by decide, by decide, rfl⟩ q1138 q1140 qs44 q128 q1141
theorem whyLd_v {V : Vy} {sl : Nat → Sl} {s c : Int} : whyLd V sl s c = 0 ∨ whyLd V sl s c = -2 ∨ whyLd V sl s c = -6 := by
  unfold whyLd
  split
  · exact whyBk_v
  · simp
def P0_loads (rs : List (Nat × Nat)) (s : Int) (c : Int) (M : Mm) : Prop := ldsP rs s c M
def R0_loads (rs : List (Nat × Nat)) (s : Int) (c : Int) (M : Mm) (v : Int) (M1 : Mm) : Prop := keepX M M1 ∧ v = A_loads (vX M) (slX rs M) s c
def sp0_loads (rs : List (Nat × Nat)) : Spec := spR true [0, 0] 1 (fun x M => P0_loads rs (x 0) (x 1) M) (fun x M v M1 => R0_loads rs (x 0) (x 1) M v M1)
theorem c0_loads {rs : List (Nat × Nat)} {s c : Int} {M : Mm} {Q : Option AV → Mm → Prop} : sp0_loads rs [ar 0, ai s, ai c] M Q = (P0_loads rs s c M ∧ ∀ (v : Int) (M1 : Mm), R0_loads rs s c M v M1 → Q (some (ai v)) M1) := rfl
def cs0_loads (rs : List (Nat × Nat)) : List (Nat × Nat × Nat × Spec) := [(379, 1, 3, (sp0_asksLoads rs))]
set_option maxHeartbeats 4000000 in
set_option maxRecDepth 100000 in
theorem in0_loads {rs : List (Nat × Nat)} {s c : Int} {M : Mm} {Q : Option AV → Mm → Prop} (hM : okM (sh8 rs) M) (h_s : i32 s) (h_c : i32 c) (hP : P0_loads rs s c M) (hQ : ∀ (v : Int) (M1 : Mm), R0_loads rs s c M v M1 → Q (some (ai v)) M1) : wp (tb0 (csL (cs0_loads rs))) (sh8 rs) 4 1 cX0_loads [] Q 400 0 [(0, ar 0), (1, ai s), (2, ai c)] [] M := by
  simp only [e_wp dX0_loads_0 rfl, e_wp dX0_loads_1 rfl, e_wp dX0_loads_2 rfl, e_wp dX0_loads_3 rfl, e_wp dX0_loads_6 rfl, e_wp dX0_loads_7 rfl, e_wp dX0_loads_8 rfl, e_wp dX0_loads_11 rfl, e_wp dX0_loads_12 rfl, e_wp dX0_loads_15 rfl, e_wp dX0_loads_16 rfl, e_wp dX0_loads_19 rfl, c0_asksLoads, cs0_loads, g0_361, e_iconst, e_bipush, e_sipush, e_lconst_0, e_lconst_1, e_iload, e_iload_0, e_iload_1, e_iload_2, e_iload_3, e_lload, e_lload_0, e_lload_1, e_lload_2, e_lload_3, e_aload, e_aload_0, e_aload_1, e_aload_2, e_aload_3, e_istore, e_istore_0, e_istore_1, e_istore_2, e_istore_3, e_astore, e_astore_0, e_astore_1, e_astore_2, e_astore_3, e_lstore, e_lstore_0, e_lstore_1, e_lstore_2, e_lstore_3, e_iinc, e_iadd, e_isub, e_imul, e_ladd, e_lsub, e_lmul, e_idiv, e_irem, e_ldiv, e_lrem, e_ineg, e_lneg, e_iand, e_ior, e_ixor, e_ishl, e_ishr, e_iushr, e_lcmp, e_i2l, e_l2i, e_i2b, e_i2s, e_dup_i, e_dup_r, e_pop_i, e_pop_r, e_dup2_l, e_dup2_ir, e_dup2_ii, e_ifeq, e_ifne, e_iflt, e_ifge, e_ifgt, e_ifle, e_iceq, e_icne, e_iclt, e_icge, e_icgt, e_icle, e_goto, e_switch, e_invokevirtual, e_invokestatic, e_invokespecial, e_ret0, e_ret1, e_ret2, e_ret3, ldI_s, ldL_s, ldR_s, clO_s, ctP_s, ctS_s, mgo_0, mgo_s, pjc_s, pj_0, pj_s, lk_s, rm1_0, rm1_i, rm1_r, rm1_l, rm2_0, rm2_i, rm2_r, rm2_l, csL_s, lc_lt, lc_ge, lc_gt, lc_le, lc_eq, b01_0, b01_1, b01_01, b01_n, up2_o, up2_s, up2_u, ne_eq, reduceCtorEq, Nat.reduceAdd, Nat.reduceEqDiff, Nat.reduceLT, Nat.reduceLeDiff, Int.reduceLE, Int.reduceLT, Int.reduceAdd, Int.reduceNeg, Int.reduceMul, Int.reduceSub, Int.reduceEq, Int.reduceToNat, Int.reduceNatCast, Int.cast_ofNat_Int, ↓reduceIte, and_self, List.drop_succ_cons, List.drop_zero, List.take_succ_cons, List.take_zero, List.length_cons, List.length_nil, List.reverse_cons, List.reverse_nil, List.nil_append, List.cons_append, Option.toList, true_and, and_true, or_false, false_or, or_true, true_or, forall_const, Classical.not_not, not_false_eq_true, not_true_eq_false, false_implies, true_implies, implies_true, imp_self]
  refine ⟨hP, fun v M1 hR => ?_⟩
  obtain ⟨r1, r2, r3⟩ := hR
  have hv := @whyLd_v (vX M) (slX rs M) s c
  rw [← r2] at hv
  refine ⟨fun q => hQ _ _ ⟨r1, (congrArg (fun z => z.1) (r3 (by omega))).trans (if_pos (by omega)).symm⟩, fun q => hQ _ _ ⟨r1, by rw [r2]; exact (if_neg (by omega)).symm⟩⟩
set_option maxHeartbeats 4000000 in
set_option maxRecDepth 100000 in
theorem m0_loads {rs : List (Nat × Nat)} : MOK cl8 (sh8 rs) tyl8 Nws8 9 yX0_loads cX0_loads 4 (some .int) (sp0_loads rs) := by
  refine mok_of (own := RX0) (tb := tb0 (csL (cs0_loads rs))) (rt := 1) (fuel := 400) (fun avs M Q => []) (by decide) rfl nws8_ok (tbOK0 _) rfl (csL_all ?_) ?_ ?_ ?_
  · intro q hq
    simp only [cs0_loads, List.mem_cons, List.not_mem_nil, or_false] at hq
    rcases hq with rfl
    · exact cg0_asksLoads (by decide)
  · intro avs M Q hsp
    obtain ⟨xs, hx⟩ := spR_un _ _ _ hsp
    obtain ⟨e, hl⟩ := unA_mkT hx
    obtain ⟨s, c, rfl⟩ := len2 hl
    have e : avs = [ar 0, ai s, ai c] := e
    subst e
    simp [szL, isL]
  · intro avs M Q hM hav hsp
    obtain ⟨xs, hx⟩ := spR_un _ _ _ hsp
    obtain ⟨e, hl⟩ := unA_mkT hx
    obtain ⟨s, c, rfl⟩ := len2 hl
    have e : avs = [ar 0, ai s, ai c] := e
    subst e
    exact in0_loads hM (hav (ai s) (by simp)) (hav (ai c) (by simp)) hsp.1 hsp.2
  · intro avs M Q hM hav hsp q hq m_ vs M1 hM1 hv hJ
    obtain ⟨xs, hx⟩ := spR_un _ _ _ hsp
    obtain ⟨e, hl⟩ := unA_mkT hx
    obtain ⟨s, c, rfl⟩ := len2 hl
    have e : avs = [ar 0, ai s, ai c] := e
    subst e
    cases hq
def P0_light (rs : List (Nat × Nat)) (s : Int) (c : Int) (M : Mm) : Prop := ldsP rs s c M
def R0_light (rs : List (Nat × Nat)) (s : Int) (c : Int) (M : Mm) (v : Int) (M1 : Mm) : Prop := keepX M M1 ∧ v = A_light (vX M) (slX rs M) s c
def sp0_light (rs : List (Nat × Nat)) : Spec := spR true [0, 0] 1 (fun x M => P0_light rs (x 0) (x 1) M) (fun x M v M1 => R0_light rs (x 0) (x 1) M v M1)
theorem c0_light {rs : List (Nat × Nat)} {s c : Int} {M : Mm} {Q : Option AV → Mm → Prop} : sp0_light rs [ar 0, ai s, ai c] M Q = (P0_light rs s c M ∧ ∀ (v : Int) (M1 : Mm), R0_light rs s c M v M1 → Q (some (ai v)) M1) := rfl
def cs0_light (rs : List (Nat × Nat)) : List (Nat × Nat × Nat × Spec) := [(379, 1, 3, (sp0_asksLoads rs))]
set_option maxHeartbeats 4000000 in
set_option maxRecDepth 100000 in
theorem in0_light {rs : List (Nat × Nat)} {s c : Int} {M : Mm} {Q : Option AV → Mm → Prop} (hM : okM (sh8 rs) M) (h_s : i32 s) (h_c : i32 c) (hP : P0_light rs s c M) (hQ : ∀ (v : Int) (M1 : Mm), R0_light rs s c M v M1 → Q (some (ai v)) M1) : wp (tb0 (csL (cs0_light rs))) (sh8 rs) 4 1 cX0_light [] Q 400 0 [(0, ar 0), (1, ai s), (2, ai c)] [] M := by
  simp only [e_wp dX0_light_0 rfl, e_wp dX0_light_1 rfl, e_wp dX0_light_2 rfl, e_wp dX0_light_3 rfl, e_wp dX0_light_6 rfl, e_wp dX0_light_7 rfl, e_wp dX0_light_8 rfl, e_wp dX0_light_11 rfl, e_wp dX0_light_12 rfl, e_wp dX0_light_15 rfl, e_wp dX0_light_16 rfl, e_wp dX0_light_19 rfl, c0_asksLoads, cs0_light, g0_364, e_iconst, e_bipush, e_sipush, e_lconst_0, e_lconst_1, e_iload, e_iload_0, e_iload_1, e_iload_2, e_iload_3, e_lload, e_lload_0, e_lload_1, e_lload_2, e_lload_3, e_aload, e_aload_0, e_aload_1, e_aload_2, e_aload_3, e_istore, e_istore_0, e_istore_1, e_istore_2, e_istore_3, e_astore, e_astore_0, e_astore_1, e_astore_2, e_astore_3, e_lstore, e_lstore_0, e_lstore_1, e_lstore_2, e_lstore_3, e_iinc, e_iadd, e_isub, e_imul, e_ladd, e_lsub, e_lmul, e_idiv, e_irem, e_ldiv, e_lrem, e_ineg, e_lneg, e_iand, e_ior, e_ixor, e_ishl, e_ishr, e_iushr, e_lcmp, e_i2l, e_l2i, e_i2b, e_i2s, e_dup_i, e_dup_r, e_pop_i, e_pop_r, e_dup2_l, e_dup2_ir, e_dup2_ii, e_ifeq, e_ifne, e_iflt, e_ifge, e_ifgt, e_ifle, e_iceq, e_icne, e_iclt, e_icge, e_icgt, e_icle, e_goto, e_switch, e_invokevirtual, e_invokestatic, e_invokespecial, e_ret0, e_ret1, e_ret2, e_ret3, ldI_s, ldL_s, ldR_s, clO_s, ctP_s, ctS_s, mgo_0, mgo_s, pjc_s, pj_0, pj_s, lk_s, rm1_0, rm1_i, rm1_r, rm1_l, rm2_0, rm2_i, rm2_r, rm2_l, csL_s, lc_lt, lc_ge, lc_gt, lc_le, lc_eq, b01_0, b01_1, b01_01, b01_n, up2_o, up2_s, up2_u, ne_eq, reduceCtorEq, Nat.reduceAdd, Nat.reduceEqDiff, Nat.reduceLT, Nat.reduceLeDiff, Int.reduceLE, Int.reduceLT, Int.reduceAdd, Int.reduceNeg, Int.reduceMul, Int.reduceSub, Int.reduceEq, Int.reduceToNat, Int.reduceNatCast, Int.cast_ofNat_Int, ↓reduceIte, and_self, List.drop_succ_cons, List.drop_zero, List.take_succ_cons, List.take_zero, List.length_cons, List.length_nil, List.reverse_cons, List.reverse_nil, List.nil_append, List.cons_append, Option.toList, true_and, and_true, or_false, false_or, or_true, true_or, forall_const, Classical.not_not, not_false_eq_true, not_true_eq_false, false_implies, true_implies, implies_true, imp_self]
  refine ⟨hP, fun v M1 hR => ?_⟩
  obtain ⟨r1, r2, r3⟩ := hR
  have hv := @whyLd_v (vX M) (slX rs M) s c
  rw [← r2] at hv
  refine ⟨fun q => hQ _ _ ⟨r1, (congrArg (fun z => z.2.1) (r3 (by omega))).trans (if_pos (by omega)).symm⟩, fun q => hQ _ _ ⟨r1, by rw [r2]; exact (if_neg (by omega)).symm⟩⟩
set_option maxHeartbeats 4000000 in
set_option maxRecDepth 100000 in
theorem m0_light {rs : List (Nat × Nat)} : MOK cl8 (sh8 rs) tyl8 Nws8 9 yX0_light cX0_light 4 (some .int) (sp0_light rs) := by
  refine mok_of (own := RX0) (tb := tb0 (csL (cs0_light rs))) (rt := 1) (fuel := 400) (fun avs M Q => []) (by decide) rfl nws8_ok (tbOK0 _) rfl (csL_all ?_) ?_ ?_ ?_
  · intro q hq
    simp only [cs0_light, List.mem_cons, List.not_mem_nil, or_false] at hq
    rcases hq with rfl
    · exact cg0_asksLoads (by decide)
  · intro avs M Q hsp
    obtain ⟨xs, hx⟩ := spR_un _ _ _ hsp
    obtain ⟨e, hl⟩ := unA_mkT hx
    obtain ⟨s, c, rfl⟩ := len2 hl
    have e : avs = [ar 0, ai s, ai c] := e
    subst e
    simp [szL, isL]
  · intro avs M Q hM hav hsp
    obtain ⟨xs, hx⟩ := spR_un _ _ _ hsp
    obtain ⟨e, hl⟩ := unA_mkT hx
    obtain ⟨s, c, rfl⟩ := len2 hl
    have e : avs = [ar 0, ai s, ai c] := e
    subst e
    exact in0_light hM (hav (ai s) (by simp)) (hav (ai c) (by simp)) hsp.1 hsp.2
  · intro avs M Q hM hav hsp q hq m_ vs M1 hM1 hv hJ
    obtain ⟨xs, hx⟩ := spR_un _ _ _ hsp
    obtain ⟨e, hl⟩ := unA_mkT hx
    obtain ⟨s, c, rfl⟩ := len2 hl
    have e : avs = [ar 0, ai s, ai c] := e
    subst e
    cases hq
def P0_heavy (rs : List (Nat × Nat)) (s : Int) (c : Int) (M : Mm) : Prop := ldsP rs s c M
def R0_heavy (rs : List (Nat × Nat)) (s : Int) (c : Int) (M : Mm) (v : Int) (M1 : Mm) : Prop := keepX M M1 ∧ v = A_heavy (vX M) (slX rs M) s c
def sp0_heavy (rs : List (Nat × Nat)) : Spec := spR true [0, 0] 1 (fun x M => P0_heavy rs (x 0) (x 1) M) (fun x M v M1 => R0_heavy rs (x 0) (x 1) M v M1)
theorem c0_heavy {rs : List (Nat × Nat)} {s c : Int} {M : Mm} {Q : Option AV → Mm → Prop} : sp0_heavy rs [ar 0, ai s, ai c] M Q = (P0_heavy rs s c M ∧ ∀ (v : Int) (M1 : Mm), R0_heavy rs s c M v M1 → Q (some (ai v)) M1) := rfl
def cs0_heavy (rs : List (Nat × Nat)) : List (Nat × Nat × Nat × Spec) := [(379, 1, 3, (sp0_asksLoads rs))]
set_option maxHeartbeats 4000000 in
set_option maxRecDepth 100000 in
theorem in0_heavy {rs : List (Nat × Nat)} {s c : Int} {M : Mm} {Q : Option AV → Mm → Prop} (hM : okM (sh8 rs) M) (h_s : i32 s) (h_c : i32 c) (hP : P0_heavy rs s c M) (hQ : ∀ (v : Int) (M1 : Mm), R0_heavy rs s c M v M1 → Q (some (ai v)) M1) : wp (tb0 (csL (cs0_heavy rs))) (sh8 rs) 4 1 cX0_heavy [] Q 400 0 [(0, ar 0), (1, ai s), (2, ai c)] [] M := by
  simp only [e_wp dX0_heavy_0 rfl, e_wp dX0_heavy_1 rfl, e_wp dX0_heavy_2 rfl, e_wp dX0_heavy_3 rfl, e_wp dX0_heavy_6 rfl, e_wp dX0_heavy_7 rfl, e_wp dX0_heavy_8 rfl, e_wp dX0_heavy_11 rfl, e_wp dX0_heavy_12 rfl, e_wp dX0_heavy_15 rfl, e_wp dX0_heavy_16 rfl, e_wp dX0_heavy_19 rfl, c0_asksLoads, cs0_heavy, g0_367, e_iconst, e_bipush, e_sipush, e_lconst_0, e_lconst_1, e_iload, e_iload_0, e_iload_1, e_iload_2, e_iload_3, e_lload, e_lload_0, e_lload_1, e_lload_2, e_lload_3, e_aload, e_aload_0, e_aload_1, e_aload_2, e_aload_3, e_istore, e_istore_0, e_istore_1, e_istore_2, e_istore_3, e_astore, e_astore_0, e_astore_1, e_astore_2, e_astore_3, e_lstore, e_lstore_0, e_lstore_1, e_lstore_2, e_lstore_3, e_iinc, e_iadd, e_isub, e_imul, e_ladd, e_lsub, e_lmul, e_idiv, e_irem, e_ldiv, e_lrem, e_ineg, e_lneg, e_iand, e_ior, e_ixor, e_ishl, e_ishr, e_iushr, e_lcmp, e_i2l, e_l2i, e_i2b, e_i2s, e_dup_i, e_dup_r, e_pop_i, e_pop_r, e_dup2_l, e_dup2_ir, e_dup2_ii, e_ifeq, e_ifne, e_iflt, e_ifge, e_ifgt, e_ifle, e_iceq, e_icne, e_iclt, e_icge, e_icgt, e_icle, e_goto, e_switch, e_invokevirtual, e_invokestatic, e_invokespecial, e_ret0, e_ret1, e_ret2, e_ret3, ldI_s, ldL_s, ldR_s, clO_s, ctP_s, ctS_s, mgo_0, mgo_s, pjc_s, pj_0, pj_s, lk_s, rm1_0, rm1_i, rm1_r, rm1_l, rm2_0, rm2_i, rm2_r, rm2_l, csL_s, lc_lt, lc_ge, lc_gt, lc_le, lc_eq, b01_0, b01_1, b01_01, b01_n, up2_o, up2_s, up2_u, ne_eq, reduceCtorEq, Nat.reduceAdd, Nat.reduceEqDiff, Nat.reduceLT, Nat.reduceLeDiff, Int.reduceLE, Int.reduceLT, Int.reduceAdd, Int.reduceNeg, Int.reduceMul, Int.reduceSub, Int.reduceEq, Int.reduceToNat, Int.reduceNatCast, Int.cast_ofNat_Int, ↓reduceIte, and_self, List.drop_succ_cons, List.drop_zero, List.take_succ_cons, List.take_zero, List.length_cons, List.length_nil, List.reverse_cons, List.reverse_nil, List.nil_append, List.cons_append, Option.toList, true_and, and_true, or_false, false_or, or_true, true_or, forall_const, Classical.not_not, not_false_eq_true, not_true_eq_false, false_implies, true_implies, implies_true, imp_self]
  refine ⟨hP, fun v M1 hR => ?_⟩
  obtain ⟨r1, r2, r3⟩ := hR
  have hv := @whyLd_v (vX M) (slX rs M) s c
  rw [← r2] at hv
  refine ⟨fun q => hQ _ _ ⟨r1, (congrArg (fun z => z.2.2) (r3 (by omega))).trans (if_pos (by omega)).symm⟩, fun q => hQ _ _ ⟨r1, by rw [r2]; exact (if_neg (by omega)).symm⟩⟩
set_option maxHeartbeats 4000000 in
set_option maxRecDepth 100000 in
theorem m0_heavy {rs : List (Nat × Nat)} : MOK cl8 (sh8 rs) tyl8 Nws8 9 yX0_heavy cX0_heavy 4 (some .int) (sp0_heavy rs) := by
  refine mok_of (own := RX0) (tb := tb0 (csL (cs0_heavy rs))) (rt := 1) (fuel := 400) (fun avs M Q => []) (by decide) rfl nws8_ok (tbOK0 _) rfl (csL_all ?_) ?_ ?_ ?_
  · intro q hq
    simp only [cs0_heavy, List.mem_cons, List.not_mem_nil, or_false] at hq
    rcases hq with rfl
    · exact cg0_asksLoads (by decide)
  · intro avs M Q hsp
    obtain ⟨xs, hx⟩ := spR_un _ _ _ hsp
    obtain ⟨e, hl⟩ := unA_mkT hx
    obtain ⟨s, c, rfl⟩ := len2 hl
    have e : avs = [ar 0, ai s, ai c] := e
    subst e
    simp [szL, isL]
  · intro avs M Q hM hav hsp
    obtain ⟨xs, hx⟩ := spR_un _ _ _ hsp
    obtain ⟨e, hl⟩ := unA_mkT hx
    obtain ⟨s, c, rfl⟩ := len2 hl
    have e : avs = [ar 0, ai s, ai c] := e
    subst e
    exact in0_heavy hM (hav (ai s) (by simp)) (hav (ai c) (by simp)) hsp.1 hsp.2
  · intro avs M Q hM hav hsp q hq m_ vs M1 hM1 hv hJ
    obtain ⟨xs, hx⟩ := spR_un _ _ _ hsp
    obtain ⟨e, hl⟩ := unA_mkT hx
    obtain ⟨s, c, rfl⟩ := len2 hl
    have e : avs = [ar 0, ai s, ai c] := e
    subst e
    cases hq
def P0_liars (rs : List (Nat × Nat)) (s : Int) (M : Mm) : Prop := bokP rs s M
def R0_liars (rs : List (Nat × Nat)) (s : Int) (M : Mm) (v : Int) (M1 : Mm) : Prop := keepX M M1 ∧ v = A_liars (vX M) (slX rs M) s
def sp0_liars (rs : List (Nat × Nat)) : Spec := spR true [0] 1 (fun x M => P0_liars rs (x 0) M) (fun x M v M1 => R0_liars rs (x 0) M v M1)
theorem c0_liars {rs : List (Nat × Nat)} {s : Int} {M : Mm} {Q : Option AV → Mm → Prop} : sp0_liars rs [ar 0, ai s] M Q = (P0_liars rs s M ∧ ∀ (v : Int) (M1 : Mm), R0_liars rs s M v M1 → Q (some (ai v)) M1) := rfl
def cs0_liars (rs : List (Nat × Nat)) : List (Nat × Nat × Nat × Spec) := [(373, 1, 2, (sp0_asksBook rs)), (370, 1, 2, (sp0_isSo rs)), (376, 1, 3, (sp0_laysLoads rs))]
def J0_liars_27 (rs : List (Nat × Nat)) (s : Int) (M : Mm) (m : Nat) (s_ : Int) (n : Int) (c : Int) (M1 : Mm) : Prop := s = s_ ∧ whyBk (vX M) (slX rs M) s = 0 ∧ ¬ soP (sgP (vX M) (tellP (vX M))) (slX rs M s.toNat) ∧ keepX M M1 ∧ nC (vX M) (cX M1) = tellP (vX M) ∧ ∃ a : Nat, c = a ∧ (a : Int) ≤ M 1 5 ∧ n = orN (liaF (vX M) (slX rs M s.toNat)) a ∧ m = 7 - a
set_option maxHeartbeats 4000000 in
set_option maxRecDepth 100000 in
theorem in0_liars {rs : List (Nat × Nat)} {s : Int} {M : Mm} {Q : Option AV → Mm → Prop} (hM : okM (sh8 rs) M) (h_s : i32 s) (hP : P0_liars rs s M) (hQ : ∀ (v : Int) (M1 : Mm), R0_liars rs s M v M1 → Q (some (ai v)) M1) (I_27 : List AV → Mm → Prop) (hI_27 : ∀ (m_ : Nat) (y_s_ : Int) (y_n : Int) (y_c : Int) (M2 : Mm), J0_liars_27 rs s M m_ y_s_ y_n y_c M2 → I_27 [ar 0, ai y_s_, ai y_n, ai y_c] M2) : wp (tb0 (csL (cs0_liars rs))) (sh8 rs) 5 1 cX0_liars [(27, [0, 1, 3, 4], I_27)] Q 400 0 [(0, ar 0), (1, ai s)] [] M := by
  obtain ⟨hX, hS, hr⟩ := id hP
  have h4 : 0 ≤ M 1 5 ∧ M 1 5 ≤ 7 := (okY_n hX.1).2.1
  simp only [e_wp dX0_liars_0 rfl, e_wp dX0_liars_1 rfl, e_wp dX0_liars_2 rfl, e_wp dX0_liars_5 rfl, e_wp dX0_liars_6 rfl, e_wp dX0_liars_7 rfl, e_wp dX0_liars_10 rfl, e_wp dX0_liars_11 rfl, e_wp dX0_liars_12 rfl, e_wp dX0_liars_13 rfl, e_wp dX0_liars_14 rfl, e_wp dX0_liars_17 rfl, e_wp dX0_liars_20 rfl, e_wp dX0_liars_21 rfl, e_wp dX0_liars_22 rfl, e_wp dX0_liars_23 rfl, e_wp dX0_liars_24 rfl, e_wp dX0_liars_25 rfl, e_wp dX0_liars_27 rfl, e_wp dX0_liars_29 rfl, e_wp dX0_liars_30 rfl, e_wp dX0_liars_33 rfl, e_wp dX0_liars_36 rfl, e_wp dX0_liars_39 rfl, e_wp dX0_liars_40 rfl, e_wp dX0_liars_41 rfl, e_wp dX0_liars_43 rfl, e_wp dX0_liars_46 rfl, e_wp dX0_liars_47 rfl, e_wp dX0_liars_48 rfl, e_wp dX0_liars_51 rfl, e_wp dX0_liars_54 rfl, e_wp dX0_liars_55 rfl, e_wp dX0_liars_57 rfl, e_wp dX0_liars_58 rfl, e_wp dX0_liars_61 rfl, e_wp dX0_liars_62 rfl, e_wp dX0_liars_63 rfl, e_wp dX0_liars_64 rfl, e_wp dX0_liars_67 rfl, e_wp dX0_liars_70 rfl, e_wp dX0_liars_71 rfl, c0_asksBook, cs0_liars, c0_isSo, g0_10, g0_156, c0_laysLoads, g0_361, e_iconst, e_bipush, e_sipush, e_lconst_0, e_lconst_1, e_iload, e_iload_0, e_iload_1, e_iload_2, e_iload_3, e_lload, e_lload_0, e_lload_1, e_lload_2, e_lload_3, e_aload, e_aload_0, e_aload_1, e_aload_2, e_aload_3, e_istore, e_istore_0, e_istore_1, e_istore_2, e_istore_3, e_astore, e_astore_0, e_astore_1, e_astore_2, e_astore_3, e_lstore, e_lstore_0, e_lstore_1, e_lstore_2, e_lstore_3, e_iinc, e_iadd, e_isub, e_imul, e_ladd, e_lsub, e_lmul, e_idiv, e_irem, e_ldiv, e_lrem, e_ineg, e_lneg, e_iand, e_ior, e_ixor, e_ishl, e_ishr, e_iushr, e_lcmp, e_i2l, e_l2i, e_i2b, e_i2s, e_dup_i, e_dup_r, e_pop_i, e_pop_r, e_dup2_l, e_dup2_ir, e_dup2_ii, e_ifeq, e_ifne, e_iflt, e_ifge, e_ifgt, e_ifle, e_iceq, e_icne, e_iclt, e_icge, e_icgt, e_icle, e_goto, e_switch, e_invokevirtual, e_invokestatic, e_invokespecial, e_ret0, e_ret1, e_ret2, e_ret3, ldI_s, ldL_s, ldR_s, clO_s, ctP_s, ctS_s, mgo_0, mgo_s, pjc_s, pj_0, pj_s, lk_s, rm1_0, rm1_i, rm1_r, rm1_l, rm2_0, rm2_i, rm2_r, rm2_l, csL_s, lc_lt, lc_ge, lc_gt, lc_le, lc_eq, b01_0, b01_1, b01_01, b01_n, up2_o, up2_s, up2_u, ne_eq, reduceCtorEq, Nat.reduceAdd, Nat.reduceEqDiff, Nat.reduceLT, Nat.reduceLeDiff, Int.reduceLE, Int.reduceLT, Int.reduceAdd, Int.reduceNeg, Int.reduceMul, Int.reduceSub, Int.reduceEq, Int.reduceToNat, Int.reduceNatCast, Int.cast_ofNat_Int, ↓reduceIte, and_self, List.drop_succ_cons, List.drop_zero, List.take_succ_cons, List.take_zero, List.length_cons, List.length_nil, List.reverse_cons, List.reverse_nil, List.nil_append, List.cons_append, Option.toList, true_and, and_true, or_false, false_or, or_true, true_or, forall_const, Classical.not_not, not_false_eq_true, not_true_eq_false, false_implies, true_implies, implies_true, imp_self]
  refine ⟨hP, fun v M1 hR => ?_⟩
  obtain ⟨r1, r2, r3⟩ := hR
  have hv := @whyBk_v (vX M) (slX rs M) s
  rw [← r2] at hv
  refine ⟨fun q => ?_, fun q => hQ _ _ ⟨r1, by rw [r2]; exact (if_neg (by omega)).symm⟩⟩
  have h0 : v = 0 := by omega
  have hq := r2.symm.trans h0
  obtain ⟨b1, b2, b3⟩ := bok_why hP hq
  obtain ⟨k1, k2⟩ := bok_keep ⟨hX, hS⟩ r1
  obtain ⟨s1, s2⟩ := bok_sX hS r1 (s := s.toNat) (by omega)
  have eV := keepX_v r1
  have hlp := lay_pre (rs := rs) hX r1 (r3 h0) (okCf_tell hX.1)
  refine ⟨⟨hlp.1, hlp.2.1, hlp.2.2, k2, b1, by rw [s2]; exact b2, by rw [eV, s1]; exact b3⟩, fun w M2 hR2 => ?_⟩
  obtain ⟨t1, t2, t3, t4⟩ := hR2
  rw [eV, s1, r3 h0] at t4
  have hk2 : keepX M M2 := keepX_tr r1 (keepX_run t1 t2)
  have eC : cX M2 = cX M1 := cX_e t2.2 (t1 _ (by decide)) (t1 _ (by decide)) (t1 _ (by decide))
  subst t4
  refine ⟨fun z => ?_, fun z => ?_⟩
  · rw [b01_0] at z
    exact hI_27 (7 - 0) _ _ _ _ ⟨rfl, hq, z, hk2, by rw [eC]; exact r3 h0, 0, rfl, h4.1, rfl, rfl⟩
  · rw [b01_0, Classical.not_not] at z
    exact hQ _ _ ⟨hk2, ((if_pos hq).trans (if_pos z)).symm⟩
set_option maxHeartbeats 4000000 in
set_option maxRecDepth 100000 in
theorem at0_liars_27 {rs : List (Nat × Nat)} {s : Int} {M : Mm} {Q : Option AV → Mm → Prop} (hM : okM (sh8 rs) M) (h_s : i32 s) (hP : P0_liars rs s M) (hQ : ∀ (v : Int) (M1 : Mm), R0_liars rs s M v M1 → Q (some (ai v)) M1) {m : Nat} {s_ n c : Int} {M1 : Mm} (hM1 : okM (sh8 rs) M1) (h_s_ : i32 s_) (h_n : i32 n) (h_c : i32 c) (hJ : J0_liars_27 rs s M m s_ n c M1) (I_27 : List AV → Mm → Prop) (hI_27 : ∀ (m_ : Nat) (y_s_ : Int) (y_n : Int) (y_c : Int) (M2 : Mm), m_ < m → J0_liars_27 rs s M m_ y_s_ y_n y_c M2 → I_27 [ar 0, ai y_s_, ai y_n, ai y_c] M2) : wp (tb0 (csL (cs0_liars rs))) (sh8 rs) 5 1 cX0_liars [(27, [0, 1, 3, 4], I_27)] Q 400 27 [(0, ar 0), (1, ai s_), (3, ai n), (4, ai c)] [] M1 := by
  obtain ⟨rfl, hq, hn, hk, hC, a, rfl, ha, rfl, rfl⟩ := hJ
  obtain ⟨hX, hS, hr⟩ := id hP
  have h4 : 0 ≤ M 1 5 ∧ M 1 5 ≤ 7 := (okY_n hX.1).2.1
  obtain ⟨b1, b2, b3⟩ := bok_why hP hq
  obtain ⟨k1, k2⟩ := bok_keep ⟨hX, hS⟩ hk
  obtain ⟨s1, s2⟩ := bok_sX hS hk (s := s.toNat) (by omega)
  have eV := keepX_v hk
  have e1 : M1 1 = M 1 := hk.1 _ (by decide)
  simp only [e_wp dX0_liars_0 rfl, e_wp dX0_liars_1 rfl, e_wp dX0_liars_2 rfl, e_wp dX0_liars_5 rfl, e_wp dX0_liars_6 rfl, e_wp dX0_liars_7 rfl, e_wp dX0_liars_10 rfl, e_wp dX0_liars_11 rfl, e_wp dX0_liars_12 rfl, e_wp dX0_liars_13 rfl, e_wp dX0_liars_14 rfl, e_wp dX0_liars_17 rfl, e_wp dX0_liars_20 rfl, e_wp dX0_liars_21 rfl, e_wp dX0_liars_22 rfl, e_wp dX0_liars_23 rfl, e_wp dX0_liars_24 rfl, e_wp dX0_liars_25 rfl, e_wp dX0_liars_27 rfl, e_wp dX0_liars_29 rfl, e_wp dX0_liars_30 rfl, e_wp dX0_liars_33 rfl, e_wp dX0_liars_36 rfl, e_wp dX0_liars_39 rfl, e_wp dX0_liars_40 rfl, e_wp dX0_liars_41 rfl, e_wp dX0_liars_43 rfl, e_wp dX0_liars_46 rfl, e_wp dX0_liars_47 rfl, e_wp dX0_liars_48 rfl, e_wp dX0_liars_51 rfl, e_wp dX0_liars_54 rfl, e_wp dX0_liars_55 rfl, e_wp dX0_liars_57 rfl, e_wp dX0_liars_58 rfl, e_wp dX0_liars_61 rfl, e_wp dX0_liars_62 rfl, e_wp dX0_liars_63 rfl, e_wp dX0_liars_64 rfl, e_wp dX0_liars_67 rfl, e_wp dX0_liars_70 rfl, e_wp dX0_liars_71 rfl, c0_asksBook, cs0_liars, c0_isSo, g0_10, g0_156, c0_laysLoads, g0_361, e_iconst, e_bipush, e_sipush, e_lconst_0, e_lconst_1, e_iload, e_iload_0, e_iload_1, e_iload_2, e_iload_3, e_lload, e_lload_0, e_lload_1, e_lload_2, e_lload_3, e_aload, e_aload_0, e_aload_1, e_aload_2, e_aload_3, e_istore, e_istore_0, e_istore_1, e_istore_2, e_istore_3, e_astore, e_astore_0, e_astore_1, e_astore_2, e_astore_3, e_lstore, e_lstore_0, e_lstore_1, e_lstore_2, e_lstore_3, e_iinc, e_iadd, e_isub, e_imul, e_ladd, e_lsub, e_lmul, e_idiv, e_irem, e_ldiv, e_lrem, e_ineg, e_lneg, e_iand, e_ior, e_ixor, e_ishl, e_ishr, e_iushr, e_lcmp, e_i2l, e_l2i, e_i2b, e_i2s, e_dup_i, e_dup_r, e_pop_i, e_pop_r, e_dup2_l, e_dup2_ir, e_dup2_ii, e_ifeq, e_ifne, e_iflt, e_ifge, e_ifgt, e_ifle, e_iceq, e_icne, e_iclt, e_icge, e_icgt, e_icle, e_goto, e_switch, e_invokevirtual, e_invokestatic, e_invokespecial, e_ret0, e_ret1, e_ret2, e_ret3, ldI_s, ldL_s, ldR_s, clO_s, ctP_s, ctS_s, mgo_0, mgo_s, pjc_s, pj_0, pj_s, lk_s, rm1_0, rm1_i, rm1_r, rm1_l, rm2_0, rm2_i, rm2_r, rm2_l, csL_s, lc_lt, lc_ge, lc_gt, lc_le, lc_eq, b01_0, b01_1, b01_01, b01_n, up2_o, up2_s, up2_u, ne_eq, reduceCtorEq, Nat.reduceAdd, Nat.reduceEqDiff, Nat.reduceLT, Nat.reduceLeDiff, Int.reduceLE, Int.reduceLT, Int.reduceAdd, Int.reduceNeg, Int.reduceMul, Int.reduceSub, Int.reduceEq, Int.reduceToNat, Int.reduceNatCast, Int.cast_ofNat_Int, ↓reduceIte, and_self, List.drop_succ_cons, List.drop_zero, List.take_succ_cons, List.take_zero, List.length_cons, List.length_nil, List.reverse_cons, List.reverse_nil, List.nil_append, List.cons_append, Option.toList, true_and, and_true, or_false, false_or, or_true, true_or, forall_const, Classical.not_not, not_false_eq_true, not_true_eq_false, false_implies, true_implies, implies_true, imp_self, e1]
  refine ⟨fun q => hQ _ _ ⟨hk, ?_⟩, fun q => ⟨⟨k1, k2, ⟨b1, by rw [s2]; exact b2, by rw [eV, s1]; exact b3⟩, by rw [e1]; omega, by rw [eV]; exact hC⟩, fun M2 hR => ?_⟩⟩
  · rw [show A_liars (vX M) (slX rs M) s = _ from (if_pos hq).trans (if_neg hn), show (vX M 0 4).toNat = a by show (M 1 5).toNat = a; omega]
  · obtain ⟨t1, t2, t3⟩ := hR
    rw [eV, s1, Int.toNat_natCast] at t3
    rw [eV] at t2
    have l1 : M2 0 33 = (lieP (lieF (vX M) (slX rs M s.toNat) a) 99).1 := congrArg Prod.fst t3
    rw [l1]
    have go : ∀ x, x = liaF (vX M) (slX rs M s.toNat) a → i32 ((a : Int) + 1) ∧ I_27 [ar 0, ai s, ai (bor (orN (liaF (vX M) (slX rs M s.toNat)) a) x), ai (a + 1)] M2 := by
      rintro x rfl
      exact ⟨by omega, hI_27 (7 - (a + 1)) _ _ _ _ (by omega) ⟨rfl, hq, hn, keepX_tr hk t1, t2, a + 1, by omega, by omega, rfl, rfl⟩⟩
    exact ⟨fun z => go _ (if_neg (by omega)).symm, fun z => go _ (if_pos z).symm⟩
set_option maxHeartbeats 4000000 in
set_option maxRecDepth 100000 in
theorem m0_liars {rs : List (Nat × Nat)} : MOK cl8 (sh8 rs) tyl8 Nws8 8 yX0_liars cX0_liars 5 (some .int) (sp0_liars rs) := by
  refine mok_of (own := RX0) (tb := tb0 (csL (cs0_liars rs))) (rt := 1) (fuel := 400) (fun avs M Q => [(27, [0, 1, 3, 4], fun m_ vs M1 => ∃ y_s_ : Int, ∃ y_n : Int, ∃ y_c : Int, vs = [ar 0, ai y_s_, ai y_n, ai y_c] ∧ J0_liars_27 rs (pa true [0] avs 0) M m_ y_s_ y_n y_c M1)]) (by decide) rfl nws8_ok (tbOK0 _) rfl (csL_all ?_) ?_ ?_ ?_
  · intro q hq
    simp only [cs0_liars, List.mem_cons, List.not_mem_nil, or_false] at hq
    rcases hq with rfl | rfl | rfl
    · exact cg0_asksBook (by decide)
    · exact cg0_isSo (by decide)
    · exact cg0_laysLoads (by decide)
  · intro avs M Q hsp
    obtain ⟨xs, hx⟩ := spR_un _ _ _ hsp
    obtain ⟨e, hl⟩ := unA_mkT hx
    obtain ⟨s, rfl⟩ := len1 hl
    have e : avs = [ar 0, ai s] := e
    subst e
    simp [szL, isL]
  · intro avs M Q hM hav hsp
    obtain ⟨xs, hx⟩ := spR_un _ _ _ hsp
    obtain ⟨e, hl⟩ := unA_mkT hx
    obtain ⟨s, rfl⟩ := len1 hl
    have e : avs = [ar 0, ai s] := e
    subst e
    exact in0_liars hM (hav (ai s) (by simp)) hsp.1 hsp.2 _ (fun m_ y_s_ y_n y_c M2 hJ => ⟨m_, y_s_, y_n, y_c, rfl, hJ⟩)
  · intro avs M Q hM hav hsp q hq m_ vs M1 hM1 hv hJ
    obtain ⟨xs, hx⟩ := spR_un _ _ _ hsp
    obtain ⟨e, hl⟩ := unA_mkT hx
    obtain ⟨s, rfl⟩ := len1 hl
    have e : avs = [ar 0, ai s] := e
    subst e
    simp only [List.mem_cons, List.not_mem_nil, or_false] at hq
    rcases hq with rfl
    · obtain ⟨y_s_, y_n, y_c, rfl, hJ⟩ := hJ
      exact at0_liars_27 hM (hav (ai s) (by simp)) hsp.1 hsp.2 hM1 (hv (1, ai y_s_) (List.mem_of_getElem? (i := 1) rfl)) (hv (3, ai y_n) (List.mem_of_getElem? (i := 2) rfl)) (hv (4, ai y_c) (List.mem_of_getElem? (i := 3) rfl)) hJ _ (fun m2 z_s_ z_n z_c M2 hm hJ2 => ⟨m2, hm, z_s_, z_n, z_c, rfl, hJ2⟩)
theorem laws_ar {M : Mm} (hB : baseI M) {a : Nat} (ha : a < 4) : fval 2 (M 6 a) = ar (2 + a) := by
  rw [(hB a ha).1]
  exact fval_n (2 + a)
def P0_laws (rs : List (Nat × Nat)) (s : Int) (M : Mm) : Prop := bokP rs s M
def R0_laws (rs : List (Nat × Nat)) (s : Int) (M : Mm) (v : Int) (M1 : Mm) : Prop := keepX M M1 ∧ v = A_laws (vX M) (slX rs M) s
def sp0_laws (rs : List (Nat × Nat)) : Spec := spR true [0] 1 (fun x M => P0_laws rs (x 0) M) (fun x M v M1 => R0_laws rs (x 0) M v M1)
theorem c0_laws {rs : List (Nat × Nat)} {s : Int} {M : Mm} {Q : Option AV → Mm → Prop} : sp0_laws rs [ar 0, ai s] M Q = (P0_laws rs s M ∧ ∀ (v : Int) (M1 : Mm), R0_laws rs s M v M1 → Q (some (ai v)) M1) := rfl
def cs0_laws (rs : List (Nat × Nat)) : List (Nat × Nat × Nat × Spec) := [(373, 1, 2, (sp0_asksBook rs)), (370, 1, 2, (sp0_isSo rs))]
def J0_laws_17 (rs : List (Nat × Nat)) (s : Int) (M : Mm) (m : Nat) (s_ : Int) (n : Int) (l : Int) (M1 : Mm) : Prop := s = s_ ∧ whyBk (vX M) (slX rs M) s = 0 ∧ keepX M M1 ∧ exL (vX M) (cX M1) ∧ ∃ a : Nat, l = a ∧ a ≤ 4 ∧ n = orN (lawF (vX M) (slX rs M s.toNat)) a ∧ m = 4 - a
set_option maxHeartbeats 4000000 in
set_option maxRecDepth 100000 in
theorem in0_laws {rs : List (Nat × Nat)} {s : Int} {M : Mm} {Q : Option AV → Mm → Prop} (hM : okM (sh8 rs) M) (h_s : i32 s) (hP : P0_laws rs s M) (hQ : ∀ (v : Int) (M1 : Mm), R0_laws rs s M v M1 → Q (some (ai v)) M1) (I_17 : List AV → Mm → Prop) (hI_17 : ∀ (m_ : Nat) (y_s_ : Int) (y_n : Int) (y_l : Int) (M2 : Mm), J0_laws_17 rs s M m_ y_s_ y_n y_l M2 → I_17 [ar 0, ai y_s_, ai y_n, ai y_l] M2) : wp (tb0 (csL (cs0_laws rs))) (sh8 rs) 5 1 cX0_laws [(17, [0, 1, 3, 4], I_17)] Q 400 0 [(0, ar 0), (1, ai s)] [] M := by
  simp only [e_wp dX0_laws_0 rfl, e_wp dX0_laws_1 rfl, e_wp dX0_laws_2 rfl, e_wp dX0_laws_5 rfl, e_wp dX0_laws_6 rfl, e_wp dX0_laws_7 rfl, e_wp dX0_laws_10 rfl, e_wp dX0_laws_11 rfl, e_wp dX0_laws_12 rfl, e_wp dX0_laws_13 rfl, e_wp dX0_laws_14 rfl, e_wp dX0_laws_15 rfl, e_wp dX0_laws_17 rfl, e_wp dX0_laws_19 rfl, e_wp dX0_laws_20 rfl, e_wp dX0_laws_23 rfl, e_wp dX0_laws_24 rfl, e_wp dX0_laws_25 rfl, e_wp dX0_laws_28 rfl, e_wp dX0_laws_30 rfl, e_wp dX0_laws_31 rfl, e_wp dX0_laws_34 rfl, e_wp dX0_laws_35 rfl, e_wp dX0_laws_36 rfl, e_wp dX0_laws_37 rfl, e_wp dX0_laws_40 rfl, e_wp dX0_laws_43 rfl, e_wp dX0_laws_44 rfl, e_wp dX0_laws_46 rfl, e_wp dX0_laws_47 rfl, e_wp dX0_laws_50 rfl, e_wp dX0_laws_51 rfl, e_wp dX0_laws_52 rfl, e_wp dX0_laws_53 rfl, e_wp dX0_laws_56 rfl, e_wp dX0_laws_59 rfl, e_wp dX0_laws_60 rfl, c0_asksBook, cs0_laws, g0_48, p0_52, c0_isSo, a8_13, w8_13, a8_14, w8_14, a8_15, w8_15, a8_16, w8_16, a8_17, w8_17, a8_18, w8_18, a8_19, w8_19, a8_20, w8_20, a8_21, w8_21, a8_22, w8_22, a8_23, w8_23, a8_24, w8_24, a8_25, w8_25, a8_26, w8_26, a8_27, w8_27, a8_28, w8_28, a8_29, w8_29, a8_30, w8_30, a8_31, w8_31, a8_32, w8_32, a8_33, w8_33, a8_34, w8_34, a8_35, w8_35, a8_36, w8_36, a8_37, w8_37, a8_38, w8_38, a8_39, w8_39, a8_40, w8_40, a8_12, w8_12, a8_6, a8_7, e_iconst, e_bipush, e_sipush, e_lconst_0, e_lconst_1, e_iload, e_iload_0, e_iload_1, e_iload_2, e_iload_3, e_lload, e_lload_0, e_lload_1, e_lload_2, e_lload_3, e_aload, e_aload_0, e_aload_1, e_aload_2, e_aload_3, e_istore, e_istore_0, e_istore_1, e_istore_2, e_istore_3, e_astore, e_astore_0, e_astore_1, e_astore_2, e_astore_3, e_lstore, e_lstore_0, e_lstore_1, e_lstore_2, e_lstore_3, e_iinc, e_iadd, e_isub, e_imul, e_ladd, e_lsub, e_lmul, e_idiv, e_irem, e_ldiv, e_lrem, e_ineg, e_lneg, e_iand, e_ior, e_ixor, e_ishl, e_ishr, e_iushr, e_lcmp, e_i2l, e_l2i, e_i2b, e_i2s, e_dup_i, e_dup_r, e_pop_i, e_pop_r, e_dup2_l, e_dup2_ir, e_dup2_ii, e_ifeq, e_ifne, e_iflt, e_ifge, e_ifgt, e_ifle, e_iceq, e_icne, e_iclt, e_icge, e_icgt, e_icle, e_goto, e_switch, e_invokevirtual, e_invokestatic, e_invokespecial, e_ret0, e_ret1, e_ret2, e_ret3, ldI_s, ldL_s, ldR_s, clO_s, ctP_s, ctS_s, mgo_0, mgo_s, pjc_s, pj_0, pj_s, lk_s, rm1_0, rm1_i, rm1_r, rm1_l, rm2_0, rm2_i, rm2_r, rm2_l, csL_s, lc_lt, lc_ge, lc_gt, lc_le, lc_eq, b01_0, b01_1, b01_01, b01_n, up2_o, up2_s, up2_u, ne_eq, reduceCtorEq, Nat.reduceAdd, Nat.reduceEqDiff, Nat.reduceLT, Nat.reduceLeDiff, Int.reduceLE, Int.reduceLT, Int.reduceAdd, Int.reduceNeg, Int.reduceMul, Int.reduceSub, Int.reduceEq, Int.reduceToNat, Int.reduceNatCast, Int.cast_ofNat_Int, ↓reduceIte, and_self, List.drop_succ_cons, List.drop_zero, List.take_succ_cons, List.take_zero, List.length_cons, List.length_nil, List.reverse_cons, List.reverse_nil, List.nil_append, List.cons_append, Option.toList, true_and, and_true, or_false, false_or, or_true, true_or, forall_const, Classical.not_not, not_false_eq_true, not_true_eq_false, false_implies, true_implies, implies_true, imp_self]
  refine ⟨hP, fun v M1 hR => ?_⟩
  obtain ⟨r1, r2, r3⟩ := hR
  have hv := @whyBk_v (vX M) (slX rs M) s
  rw [← r2] at hv
  refine ⟨fun q => hI_17 (4 - 0) _ _ _ _ ⟨rfl, r2.symm.trans (by omega), r1, exL_0 (r3 (by omega)), 0, rfl, by omega, rfl, rfl⟩, fun q => hQ _ _ ⟨r1, by rw [r2]; exact (if_neg (by omega)).symm⟩⟩
set_option maxHeartbeats 4000000 in
set_option maxRecDepth 100000 in
theorem at0_laws_17 {rs : List (Nat × Nat)} {s : Int} {M : Mm} {Q : Option AV → Mm → Prop} (hM : okM (sh8 rs) M) (h_s : i32 s) (hP : P0_laws rs s M) (hQ : ∀ (v : Int) (M1 : Mm), R0_laws rs s M v M1 → Q (some (ai v)) M1) {m : Nat} {s_ n l : Int} {M1 : Mm} (hM1 : okM (sh8 rs) M1) (h_s_ : i32 s_) (h_n : i32 n) (h_l : i32 l) (hJ : J0_laws_17 rs s M m s_ n l M1) (I_17 : List AV → Mm → Prop) (hI_17 : ∀ (m_ : Nat) (y_s_ : Int) (y_n : Int) (y_l : Int) (M2 : Mm), m_ < m → J0_laws_17 rs s M m_ y_s_ y_n y_l M2 → I_17 [ar 0, ai y_s_, ai y_n, ai y_l] M2) : wp (tb0 (csL (cs0_laws rs))) (sh8 rs) 5 1 cX0_laws [(17, [0, 1, 3, 4], I_17)] Q 400 17 [(0, ar 0), (1, ai s_), (3, ai n), (4, ai l)] [] M1 := by
  obtain ⟨rfl, hq, hk, hC, a, rfl, ha, rfl, rfl⟩ := hJ
  obtain ⟨hX, hS, hr⟩ := id hP
  have eA : A_laws (vX M) (slX rs M) s = orN (lawF (vX M) (slX rs M s.toNat)) 4 := if_pos hq
  by_cases ha4 : a = 4
  · simp only [e_wp dX0_laws_0 rfl, e_wp dX0_laws_1 rfl, e_wp dX0_laws_2 rfl, e_wp dX0_laws_5 rfl, e_wp dX0_laws_6 rfl, e_wp dX0_laws_7 rfl, e_wp dX0_laws_10 rfl, e_wp dX0_laws_11 rfl, e_wp dX0_laws_12 rfl, e_wp dX0_laws_13 rfl, e_wp dX0_laws_14 rfl, e_wp dX0_laws_15 rfl, e_wp dX0_laws_17 rfl, e_wp dX0_laws_19 rfl, e_wp dX0_laws_20 rfl, e_wp dX0_laws_23 rfl, e_wp dX0_laws_24 rfl, e_wp dX0_laws_25 rfl, e_wp dX0_laws_28 rfl, e_wp dX0_laws_30 rfl, e_wp dX0_laws_31 rfl, e_wp dX0_laws_34 rfl, e_wp dX0_laws_35 rfl, e_wp dX0_laws_36 rfl, e_wp dX0_laws_37 rfl, e_wp dX0_laws_40 rfl, e_wp dX0_laws_43 rfl, e_wp dX0_laws_44 rfl, e_wp dX0_laws_46 rfl, e_wp dX0_laws_47 rfl, e_wp dX0_laws_50 rfl, e_wp dX0_laws_51 rfl, e_wp dX0_laws_52 rfl, e_wp dX0_laws_53 rfl, e_wp dX0_laws_56 rfl, e_wp dX0_laws_59 rfl, e_wp dX0_laws_60 rfl, c0_asksBook, cs0_laws, g0_48, p0_52, c0_isSo, a8_13, w8_13, a8_14, w8_14, a8_15, w8_15, a8_16, w8_16, a8_17, w8_17, a8_18, w8_18, a8_19, w8_19, a8_20, w8_20, a8_21, w8_21, a8_22, w8_22, a8_23, w8_23, a8_24, w8_24, a8_25, w8_25, a8_26, w8_26, a8_27, w8_27, a8_28, w8_28, a8_29, w8_29, a8_30, w8_30, a8_31, w8_31, a8_32, w8_32, a8_33, w8_33, a8_34, w8_34, a8_35, w8_35, a8_36, w8_36, a8_37, w8_37, a8_38, w8_38, a8_39, w8_39, a8_40, w8_40, a8_12, w8_12, a8_6, a8_7, e_iconst, e_bipush, e_sipush, e_lconst_0, e_lconst_1, e_iload, e_iload_0, e_iload_1, e_iload_2, e_iload_3, e_lload, e_lload_0, e_lload_1, e_lload_2, e_lload_3, e_aload, e_aload_0, e_aload_1, e_aload_2, e_aload_3, e_istore, e_istore_0, e_istore_1, e_istore_2, e_istore_3, e_astore, e_astore_0, e_astore_1, e_astore_2, e_astore_3, e_lstore, e_lstore_0, e_lstore_1, e_lstore_2, e_lstore_3, e_iinc, e_iadd, e_isub, e_imul, e_ladd, e_lsub, e_lmul, e_idiv, e_irem, e_ldiv, e_lrem, e_ineg, e_lneg, e_iand, e_ior, e_ixor, e_ishl, e_ishr, e_iushr, e_lcmp, e_i2l, e_l2i, e_i2b, e_i2s, e_dup_i, e_dup_r, e_pop_i, e_pop_r, e_dup2_l, e_dup2_ir, e_dup2_ii, e_ifeq, e_ifne, e_iflt, e_ifge, e_ifgt, e_ifle, e_iceq, e_icne, e_iclt, e_icge, e_icgt, e_icle, e_goto, e_switch, e_invokevirtual, e_invokestatic, e_invokespecial, e_ret0, e_ret1, e_ret2, e_ret3, ldI_s, ldL_s, ldR_s, clO_s, ctP_s, ctS_s, mgo_0, mgo_s, pjc_s, pj_0, pj_s, lk_s, rm1_0, rm1_i, rm1_r, rm1_l, rm2_0, rm2_i, rm2_r, rm2_l, csL_s, lc_lt, lc_ge, lc_gt, lc_le, lc_eq, b01_0, b01_1, b01_01, b01_n, up2_o, up2_s, up2_u, ne_eq, reduceCtorEq, Nat.reduceAdd, Nat.reduceEqDiff, Nat.reduceLT, Nat.reduceLeDiff, Int.reduceLE, Int.reduceLT, Int.reduceAdd, Int.reduceNeg, Int.reduceMul, Int.reduceSub, Int.reduceEq, Int.reduceToNat, Int.reduceNatCast, Int.cast_ofNat_Int, ↓reduceIte, and_self, List.drop_succ_cons, List.drop_zero, List.take_succ_cons, List.take_zero, List.length_cons, List.length_nil, List.reverse_cons, List.reverse_nil, List.nil_append, List.cons_append, Option.toList, true_and, and_true, or_false, false_or, or_true, true_or, forall_const, Classical.not_not, not_false_eq_true, not_true_eq_false, false_implies, true_implies, implies_true, imp_self]
    refine ⟨fun q => hQ _ _ ⟨hk, ?_⟩, fun q => absurd q (by omega)⟩
    rw [eA, ha4]
  · obtain ⟨b1, b2, b3⟩ := bok_why hP hq
    have hB1 := keepX_b hk hX.2
    have hf := laws_ar hB1 (show a < 4 by omega)
    have hk2 : keepX M (up2 M1 0 10 ((2 + a : Nat) : Int)) := keepX_u hk (by decide) (fun _ => by decide)
    obtain ⟨k1, k2⟩ := bok_keep ⟨hX, hS⟩ hk2
    obtain ⟨s1, s2⟩ := bok_sX hS hk2 (s := s.toNat) (by omega)
    have eV := keepX_v hk2
    have hL : nC (vX M) (cX (up2 M1 0 10 ((2 + a : Nat) : Int))) = lawC (vX M) a := by
      rw [show ((2 + a : Nat) : Int) = (a : Int) + 2 by omega]
      exact exL_u hC a
    have hok : okCf (vX M) (lawC (vX M) a) := okCf_law (okCf_tell hX.1) (by omega)
    have hlp := lay_pre (rs := rs) hX hk2 hL hok
    simp only [e_wp dX0_laws_0 rfl, e_wp dX0_laws_1 rfl, e_wp dX0_laws_2 rfl, e_wp dX0_laws_5 rfl, e_wp dX0_laws_6 rfl, e_wp dX0_laws_7 rfl, e_wp dX0_laws_10 rfl, e_wp dX0_laws_11 rfl, e_wp dX0_laws_12 rfl, e_wp dX0_laws_13 rfl, e_wp dX0_laws_14 rfl, e_wp dX0_laws_15 rfl, e_wp dX0_laws_17 rfl, e_wp dX0_laws_19 rfl, e_wp dX0_laws_20 rfl, e_wp dX0_laws_23 rfl, e_wp dX0_laws_24 rfl, e_wp dX0_laws_25 rfl, e_wp dX0_laws_28 rfl, e_wp dX0_laws_30 rfl, e_wp dX0_laws_31 rfl, e_wp dX0_laws_34 rfl, e_wp dX0_laws_35 rfl, e_wp dX0_laws_36 rfl, e_wp dX0_laws_37 rfl, e_wp dX0_laws_40 rfl, e_wp dX0_laws_43 rfl, e_wp dX0_laws_44 rfl, e_wp dX0_laws_46 rfl, e_wp dX0_laws_47 rfl, e_wp dX0_laws_50 rfl, e_wp dX0_laws_51 rfl, e_wp dX0_laws_52 rfl, e_wp dX0_laws_53 rfl, e_wp dX0_laws_56 rfl, e_wp dX0_laws_59 rfl, e_wp dX0_laws_60 rfl, c0_asksBook, cs0_laws, g0_48, p0_52, c0_isSo, a8_13, w8_13, a8_14, w8_14, a8_15, w8_15, a8_16, w8_16, a8_17, w8_17, a8_18, w8_18, a8_19, w8_19, a8_20, w8_20, a8_21, w8_21, a8_22, w8_22, a8_23, w8_23, a8_24, w8_24, a8_25, w8_25, a8_26, w8_26, a8_27, w8_27, a8_28, w8_28, a8_29, w8_29, a8_30, w8_30, a8_31, w8_31, a8_32, w8_32, a8_33, w8_33, a8_34, w8_34, a8_35, w8_35, a8_36, w8_36, a8_37, w8_37, a8_38, w8_38, a8_39, w8_39, a8_40, w8_40, a8_12, w8_12, a8_6, a8_7, e_iconst, e_bipush, e_sipush, e_lconst_0, e_lconst_1, e_iload, e_iload_0, e_iload_1, e_iload_2, e_iload_3, e_lload, e_lload_0, e_lload_1, e_lload_2, e_lload_3, e_aload, e_aload_0, e_aload_1, e_aload_2, e_aload_3, e_istore, e_istore_0, e_istore_1, e_istore_2, e_istore_3, e_astore, e_astore_0, e_astore_1, e_astore_2, e_astore_3, e_lstore, e_lstore_0, e_lstore_1, e_lstore_2, e_lstore_3, e_iinc, e_iadd, e_isub, e_imul, e_ladd, e_lsub, e_lmul, e_idiv, e_irem, e_ldiv, e_lrem, e_ineg, e_lneg, e_iand, e_ior, e_ixor, e_ishl, e_ishr, e_iushr, e_lcmp, e_i2l, e_l2i, e_i2b, e_i2s, e_dup_i, e_dup_r, e_pop_i, e_pop_r, e_dup2_l, e_dup2_ir, e_dup2_ii, e_ifeq, e_ifne, e_iflt, e_ifge, e_ifgt, e_ifle, e_iceq, e_icne, e_iclt, e_icge, e_icgt, e_icle, e_goto, e_switch, e_invokevirtual, e_invokestatic, e_invokespecial, e_ret0, e_ret1, e_ret2, e_ret3, ldI_s, ldL_s, ldR_s, clO_s, ctP_s, ctS_s, mgo_0, mgo_s, pjc_s, pj_0, pj_s, lk_s, rm1_0, rm1_i, rm1_r, rm1_l, rm2_0, rm2_i, rm2_r, rm2_l, csL_s, lc_lt, lc_ge, lc_gt, lc_le, lc_eq, b01_0, b01_1, b01_01, b01_n, up2_o, up2_s, up2_u, ne_eq, reduceCtorEq, Nat.reduceAdd, Nat.reduceEqDiff, Nat.reduceLT, Nat.reduceLeDiff, Int.reduceLE, Int.reduceLT, Int.reduceAdd, Int.reduceNeg, Int.reduceMul, Int.reduceSub, Int.reduceEq, Int.reduceToNat, Int.reduceNatCast, Int.cast_ofNat_Int, ↓reduceIte, and_self, List.drop_succ_cons, List.drop_zero, List.take_succ_cons, List.take_zero, List.length_cons, List.length_nil, List.reverse_cons, List.reverse_nil, List.nil_append, List.cons_append, Option.toList, true_and, and_true, or_false, false_or, or_true, true_or, forall_const, Classical.not_not, not_false_eq_true, not_true_eq_false, false_implies, true_implies, implies_true, imp_self, Int.toNat_natCast, hf]
    refine ⟨fun q => absurd q (by omega), fun q => ⟨by omega, ⟨hlp.1, hlp.2.1, hlp.2.2, k2, b1, by rw [s2]; exact b2, by rw [eV, s1]; exact b3⟩, fun w M2 hR2 => ?_⟩⟩
    obtain ⟨t1, t2, t3, t4⟩ := hR2
    rw [eV, s1, hL] at t4
    have hk3 : keepX M M2 := keepX_tr hk2 (keepX_run t1 t2)
    have eC : cX M2 = cX (up2 M1 0 10 ((2 + a : Nat) : Int)) := cX_e t2.2 (t1 _ (by decide)) (t1 _ (by decide)) (t1 _ (by decide))
    have hC3 : exL (vX M) (cX M2) := by rw [eC]; exact exL_s hL
    subst t4
    have go : ∀ x, x = lawF (vX M) (slX rs M s.toNat) a → i32 ((a : Int) + 1) ∧ I_17 [ar 0, ai s, ai (bor (orN (lawF (vX M) (slX rs M s.toNat)) a) x), ai (a + 1)] M2 := by
      rintro x rfl
      exact ⟨by omega, hI_17 (4 - (a + 1)) _ _ _ _ (by omega) ⟨rfl, hq, hk3, hC3, a + 1, by omega, by omega, rfl, rfl⟩⟩
    refine ⟨fun z => go _ ?_, fun z => go _ ?_⟩
    · rw [b01_0] at z
      exact (if_neg z).symm
    · rw [b01_0, Classical.not_not] at z
      exact (if_pos z).symm
set_option maxHeartbeats 4000000 in
set_option maxRecDepth 100000 in
theorem m0_laws {rs : List (Nat × Nat)} : MOK cl8 (sh8 rs) tyl8 Nws8 7 yX0_laws cX0_laws 5 (some .int) (sp0_laws rs) := by
  refine mok_of (own := RX0) (tb := tb0 (csL (cs0_laws rs))) (rt := 1) (fuel := 400) (fun avs M Q => [(17, [0, 1, 3, 4], fun m_ vs M1 => ∃ y_s_ : Int, ∃ y_n : Int, ∃ y_l : Int, vs = [ar 0, ai y_s_, ai y_n, ai y_l] ∧ J0_laws_17 rs (pa true [0] avs 0) M m_ y_s_ y_n y_l M1)]) (by decide) rfl nws8_ok (tbOK0 _) rfl (csL_all ?_) ?_ ?_ ?_
  · intro q hq
    simp only [cs0_laws, List.mem_cons, List.not_mem_nil, or_false] at hq
    rcases hq with rfl | rfl
    · exact cg0_asksBook (by decide)
    · exact cg0_isSo (by decide)
  · intro avs M Q hsp
    obtain ⟨xs, hx⟩ := spR_un _ _ _ hsp
    obtain ⟨e, hl⟩ := unA_mkT hx
    obtain ⟨s, rfl⟩ := len1 hl
    have e : avs = [ar 0, ai s] := e
    subst e
    simp [szL, isL]
  · intro avs M Q hM hav hsp
    obtain ⟨xs, hx⟩ := spR_un _ _ _ hsp
    obtain ⟨e, hl⟩ := unA_mkT hx
    obtain ⟨s, rfl⟩ := len1 hl
    have e : avs = [ar 0, ai s] := e
    subst e
    exact in0_laws hM (hav (ai s) (by simp)) hsp.1 hsp.2 _ (fun m_ y_s_ y_n y_l M2 hJ => ⟨m_, y_s_, y_n, y_l, rfl, hJ⟩)
  · intro avs M Q hM hav hsp q hq m_ vs M1 hM1 hv hJ
    obtain ⟨xs, hx⟩ := spR_un _ _ _ hsp
    obtain ⟨e, hl⟩ := unA_mkT hx
    obtain ⟨s, rfl⟩ := len1 hl
    have e : avs = [ar 0, ai s] := e
    subst e
    simp only [List.mem_cons, List.not_mem_nil, or_false] at hq
    rcases hq with rfl
    · obtain ⟨y_s_, y_n, y_l, rfl, hJ⟩ := hJ
      exact at0_laws_17 hM (hav (ai s) (by simp)) hsp.1 hsp.2 hM1 (hv (1, ai y_s_) (List.mem_of_getElem? (i := 1) rfl)) (hv (3, ai y_n) (List.mem_of_getElem? (i := 2) rfl)) (hv (4, ai y_l) (List.mem_of_getElem? (i := 3) rfl)) hJ _ (fun m2 z_s_ z_n z_l M2 hm hJ2 => ⟨m2, hm, z_s_, z_n, z_l, rfl, hJ2⟩)
