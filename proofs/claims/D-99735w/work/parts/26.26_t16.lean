/-! SagMemoryModel: sets of carts that leave a row -/
abbrev notI (x : Int) : Int := bxor x (-1)
/-- those of n carts that are told by a bridge -/
def toldP (V : Vy) (b : Int) (n : Nat) : Int := orN (fun c => if V 4 c = b then bshl 1 c else 0) n
/-- what a set of n carts leaves -/
def leftP (V : Vy) (x : Int) : Nat → List Pr
  | 0 => []
  | c + 1 => if bitP x c then (crossP (V 0 0) (V 3 c) c (leftP V x c)).1 else leftP V x c
abbrev sameP (l : List Pr) (s : Sl) : Prop := s.1.2 = l.length ∧ ∀ k : Nat, k < l.length → s.2 k = elP l k
theorem elP_stk {f : Nat → Pr} : ∀ {n k : Nat}, k < n → elP (stk f n) k = (f k).1 := by
  intro n
  induction n with
  | zero => intro k h; omega
  | succ n ih =>
    intro k h
    show (if k = (stk f n).length then (f n).1 else elP (stk f n) k) = _
    rw [stk_len]
    by_cases e : k = n
    · rw [if_pos e, e]
    · rw [if_neg e]; exact ih (by omega)
theorem mb_elP {M : Mm} {b : Int} {k : Nat} (h : (k : Int) < M 19 b.toNat) : elP (mb M b) k = M 17 (8 * b + k).toNat := elP_stk (f := mf M b) (by omega)
theorem slM_eq {M M1 : Mm} (h : keepM M M1) (s : Nat) : slM M1 s = slM M s := by
  have h1 : M1 1 = M 1 := h.1 _ (by decide)
  have h2 : M1 2 = M 2 := h.1 _ (by decide)
  have h3 : M1 3 = M 3 := h.1 _ (by decide)
  unfold slM
  rw [h1, h2, h3]
abbrev lefRows : List Nat := [17, 18, 19, 20, 21]
theorem tell_l {M M1 : Mm} (h : nC (vM M) (cM M1) = tellP (vM M)) : M1 0 24 = vM M 0 0 ∧ ∀ c : Nat, (c : Int) < M 7 4 → M1 14 c = vM M 3 c := by
  refine ⟨congrFun (congrFun h 0) 0, fun c hc => ?_⟩
  have e := congrFun (congrFun h 1) c
  rw [nC_s (by decide) hc] at e
  exact e.trans (if_pos hc)
def P7_isLeft (s : Int) (b : Int) (x : Int) (M : Mm) : Prop := okY (vM M) ∧ nC (vM M) (cM M) = tellP (vM M) ∧ (0 ≤ s ∧ s ≤ 3) ∧ (0 ≤ b ∧ b < M 7 3)
def R7_isLeft (s : Int) (b : Int) (x : Int) (M : Mm) (v : Int) (M1 : Mm) : Prop := frm lefRows M M1 ∧ v = b01 (sameP (leftP (vM M) x (vM M 0 4).toNat) (slM M s.toNat))
def sp7_isLeft : Spec := spR true [0, 0, 0] 1 (fun x M => P7_isLeft (x 0) (x 1) (x 2) M) (fun x M v M1 => R7_isLeft (x 0) (x 1) (x 2) M v M1)
theorem c7_isLeft {s b x : Int} {M : Mm} {Q : Option AV → Mm → Prop} : sp7_isLeft [ar 0, ai s, ai b, ai x] M Q = (P7_isLeft s b x M ∧ ∀ (v : Int) (M1 : Mm), R7_isLeft s b x M v M1 → Q (some (ai v)) M1) := rfl
def cs7_isLeft : List (Nat × Nat × Nat × Spec) := [(324, 1, 1, sp7_begin), (286, 1, 1, sp7_carts), (307, 0, 2, sp7_isBit), (320, 1, 4, sp7_crosses)]
def J7_isLeft_7 (s : Int) (b : Int) (x : Int) (M : Mm) (m : Nat) (s_ : Int) (b_ : Int) (x_ : Int) (c : Int) (M1 : Mm) : Prop := s = s_ ∧ b = b_ ∧ x = x_ ∧ frm lefRows M M1 ∧ ∃ a : Nat, c = a ∧ (a : Int) ≤ M 7 4 ∧ okB M1 b ∧ M1 19 b.toNat ≤ a ∧ mb M1 b = leftP (vM M) x a ∧ m = 100 + (7 - a)
def J7_isLeft_66 (s : Int) (b : Int) (x : Int) (M : Mm) (m : Nat) (s_ : Int) (b_ : Int) (k : Int) (M1 : Mm) : Prop := s = s_ ∧ b = b_ ∧ frm lefRows M M1 ∧ okB M1 b ∧ mb M1 b = leftP (vM M) x (vM M 0 4).toNat ∧ M 2 s.toNat = M1 19 b.toNat ∧ ∃ a : Nat, k = a ∧ (a : Int) ≤ M1 19 b.toNat ∧ (∀ j : Nat, j < a → M 3 (60 * s.toNat + j) = M1 17 (8 * b + j).toNat) ∧ m = 8 - a
set_option maxHeartbeats 4000000 in
set_option maxRecDepth 100000 in
theorem in7_isLeft {s b x : Int} {M : Mm} {Q : Option AV → Mm → Prop} (hM : okM sh7 M) (h_s : i32 s) (h_b : i32 b) (h_x : i32 x) (hP : P7_isLeft s b x M) (hQ : ∀ (v : Int) (M1 : Mm), R7_isLeft s b x M v M1 → Q (some (ai v)) M1) (I_7 : List AV → Mm → Prop) (hI_7 : ∀ (m_ : Nat) (y_s_ : Int) (y_b_ : Int) (y_x_ : Int) (y_c : Int) (M2 : Mm), J7_isLeft_7 s b x M m_ y_s_ y_b_ y_x_ y_c M2 → I_7 [ar 0, ai y_s_, ai y_b_, ai y_x_, ai y_c] M2) (I_66 : List AV → Mm → Prop) (hI_66 : ∀ (m_ : Nat) (y_s_ : Int) (y_b_ : Int) (y_k : Int) (M2 : Mm), J7_isLeft_66 s b x M m_ y_s_ y_b_ y_k M2 → I_66 [ar 0, ai y_s_, ai y_b_, ai y_k] M2) : wp (tb7 (csL cs7_isLeft)) sh7 5 2 cX7_isLeft [(7, [0, 1, 2, 3, 4], I_7), (66, [0, 1, 2, 4], I_66)] Q 400 0 [(0, ar 0), (1, ai s), (2, ai b), (3, ai x)] [] M := by
  obtain ⟨hY, hC, hs, hb⟩ := id hP
  have h4 : 0 ≤ M 7 4 ∧ M 7 4 ≤ 7 := hY.2.2.2.2.1
  have h3 : 0 ≤ M 7 3 ∧ M 7 3 ≤ 3 := hY.2.2.2.1
  simp only [e_wp dX7_isLeft_0 rfl, e_wp dX7_isLeft_1 rfl, e_wp dX7_isLeft_4 rfl, e_wp dX7_isLeft_5 rfl, e_wp dX7_isLeft_7 rfl, e_wp dX7_isLeft_9 rfl, e_wp dX7_isLeft_10 rfl, e_wp dX7_isLeft_13 rfl, e_wp dX7_isLeft_16 rfl, e_wp dX7_isLeft_17 rfl, e_wp dX7_isLeft_19 rfl, e_wp dX7_isLeft_22 rfl, e_wp dX7_isLeft_25 rfl, e_wp dX7_isLeft_26 rfl, e_wp dX7_isLeft_27 rfl, e_wp dX7_isLeft_28 rfl, e_wp dX7_isLeft_31 rfl, e_wp dX7_isLeft_33 rfl, e_wp dX7_isLeft_34 rfl, e_wp dX7_isLeft_36 rfl, e_wp dX7_isLeft_39 rfl, e_wp dX7_isLeft_40 rfl, e_wp dX7_isLeft_43 rfl, e_wp dX7_isLeft_46 rfl, e_wp dX7_isLeft_47 rfl, e_wp dX7_isLeft_50 rfl, e_wp dX7_isLeft_51 rfl, e_wp dX7_isLeft_52 rfl, e_wp dX7_isLeft_53 rfl, e_wp dX7_isLeft_56 rfl, e_wp dX7_isLeft_57 rfl, e_wp dX7_isLeft_58 rfl, e_wp dX7_isLeft_61 rfl, e_wp dX7_isLeft_62 rfl, e_wp dX7_isLeft_63 rfl, e_wp dX7_isLeft_64 rfl, e_wp dX7_isLeft_66 rfl, e_wp dX7_isLeft_68 rfl, e_wp dX7_isLeft_69 rfl, e_wp dX7_isLeft_72 rfl, e_wp dX7_isLeft_73 rfl, e_wp dX7_isLeft_74 rfl, e_wp dX7_isLeft_77 rfl, e_wp dX7_isLeft_78 rfl, e_wp dX7_isLeft_81 rfl, e_wp dX7_isLeft_83 rfl, e_wp dX7_isLeft_84 rfl, e_wp dX7_isLeft_85 rfl, e_wp dX7_isLeft_87 rfl, e_wp dX7_isLeft_88 rfl, e_wp dX7_isLeft_89 rfl, e_wp dX7_isLeft_90 rfl, e_wp dX7_isLeft_93 rfl, e_wp dX7_isLeft_95 rfl, e_wp dX7_isLeft_96 rfl, e_wp dX7_isLeft_97 rfl, e_wp dX7_isLeft_99 rfl, e_wp dX7_isLeft_100 rfl, e_wp dX7_isLeft_101 rfl, e_wp dX7_isLeft_102 rfl, e_wp dX7_isLeft_103 rfl, e_wp dX7_isLeft_106 rfl, e_wp dX7_isLeft_107 rfl, e_wp dX7_isLeft_108 rfl, e_wp dX7_isLeft_111 rfl, e_wp dX7_isLeft_114 rfl, e_wp dX7_isLeft_115 rfl, c7_begin, cs7_isLeft, c7_carts, P7_carts, V7_carts, c7_isBit, P7_isBit, V7_isBit, g7_56, c7_crosses, g7_13, g7_71, g7_16, g7_65, a7_1, w7_1, a7_2, w7_2, a7_3, w7_3, a7_4, w7_4, a7_5, w7_5, a7_6, w7_6, a7_7, w7_7, a7_8, w7_8, a7_9, w7_9, a7_10, w7_10, a7_11, w7_11, a7_12, w7_12, a7_13, w7_13, a7_14, w7_14, a7_15, w7_15, a7_16, w7_16, a7_17, w7_17, a7_18, w7_18, a7_19, w7_19, a7_20, w7_20, a7_21, w7_21, a7_22, w7_22, a7_23, w7_23, a7_24, w7_24, a7_25, w7_25, a7_26, w7_26, a7_27, w7_27, a7_28, w7_28, a7_29, w7_29, a7_30, w7_30, a7_31, w7_31, a7_32, w7_32, a7_33, w7_33, e_iconst, e_bipush, e_sipush, e_lconst_0, e_lconst_1, e_iload, e_iload_0, e_iload_1, e_iload_2, e_iload_3, e_lload, e_lload_0, e_lload_1, e_lload_2, e_lload_3, e_aload, e_aload_0, e_aload_1, e_aload_2, e_aload_3, e_istore, e_istore_0, e_istore_1, e_istore_2, e_istore_3, e_astore, e_astore_0, e_astore_1, e_astore_2, e_astore_3, e_lstore, e_lstore_0, e_lstore_1, e_lstore_2, e_lstore_3, e_iinc, e_iadd, e_isub, e_imul, e_ladd, e_lsub, e_lmul, e_idiv, e_irem, e_ldiv, e_lrem, e_ineg, e_lneg, e_iand, e_ior, e_ixor, e_ishl, e_ishr, e_iushr, e_lcmp, e_i2l, e_l2i, e_i2b, e_i2s, e_dup_i, e_dup_r, e_pop_i, e_pop_r, e_dup2_l, e_dup2_ir, e_dup2_ii, e_ifeq, e_ifne, e_iflt, e_ifge, e_ifgt, e_ifle, e_iceq, e_icne, e_iclt, e_icge, e_icgt, e_icle, e_goto, e_switch, e_invokevirtual, e_invokestatic, e_invokespecial, e_ret0, e_ret1, e_ret2, e_ret3, ldI_s, ldL_s, ldR_s, clO_s, ctP_s, ctS_s, mgo_0, mgo_s, pjc_s, pj_0, pj_s, lk_s, rm1_0, rm1_i, rm1_r, rm1_l, rm2_0, rm2_i, rm2_r, rm2_l, csL_s, lc_lt, lc_ge, lc_gt, lc_le, lc_eq, b01_0, b01_1, b01_01, b01_n, up2_o, up2_s, up2_u, ne_eq, reduceCtorEq, Nat.reduceAdd, Nat.reduceEqDiff, Nat.reduceLT, Nat.reduceLeDiff, Int.reduceLE, Int.reduceLT, Int.reduceAdd, Int.reduceNeg, Int.reduceMul, Int.reduceSub, Int.reduceEq, Int.reduceToNat, Int.reduceNatCast, Int.cast_ofNat_Int, ↓reduceIte, and_self, List.drop_succ_cons, List.drop_zero, List.take_succ_cons, List.take_zero, List.length_cons, List.length_nil, List.reverse_cons, List.reverse_nil, List.nil_append, List.cons_append, Option.toList, true_and, and_true, or_false, false_or, or_true, true_or, forall_const, Classical.not_not, not_false_eq_true, not_true_eq_false, false_implies, true_implies, implies_true, imp_self]
  refine ⟨trivial, fun M1 hR => ?_⟩
  obtain ⟨r1, r2⟩ := hR
  have hd := (r2 b.toNat (by omega)).1
  have e : mb M1 b = [] := by
    show stk (mf M1 b) (M1 19 b.toNat).toNat = []
    rw [hd]; rfl
  exact hI_7 _ _ _ _ _ _ ⟨rfl, rfl, rfl, frm_w r1 (by decide), 0, rfl, by omega, ⟨by omega, by omega, by rw [e]; exact okL_0⟩, by omega, e, rfl⟩
set_option maxHeartbeats 4000000 in
set_option maxRecDepth 100000 in
theorem at7_isLeft_7 {s b x : Int} {M : Mm} {Q : Option AV → Mm → Prop} (hM : okM sh7 M) (h_s : i32 s) (h_b : i32 b) (h_x : i32 x) (hP : P7_isLeft s b x M) (hQ : ∀ (v : Int) (M1 : Mm), R7_isLeft s b x M v M1 → Q (some (ai v)) M1) {m : Nat} {s_ b_ x_ c : Int} {M1 : Mm} (hM1 : okM sh7 M1) (h_s_ : i32 s_) (h_b_ : i32 b_) (h_x_ : i32 x_) (h_c : i32 c) (hJ : J7_isLeft_7 s b x M m s_ b_ x_ c M1) (I_7 : List AV → Mm → Prop) (hI_7 : ∀ (m_ : Nat) (y_s_ : Int) (y_b_ : Int) (y_x_ : Int) (y_c : Int) (M2 : Mm), m_ < m → J7_isLeft_7 s b x M m_ y_s_ y_b_ y_x_ y_c M2 → I_7 [ar 0, ai y_s_, ai y_b_, ai y_x_, ai y_c] M2) (I_66 : List AV → Mm → Prop) (hI_66 : ∀ (m_ : Nat) (y_s_ : Int) (y_b_ : Int) (y_k : Int) (M2 : Mm), m_ < m → J7_isLeft_66 s b x M m_ y_s_ y_b_ y_k M2 → I_66 [ar 0, ai y_s_, ai y_b_, ai y_k] M2) : wp (tb7 (csL cs7_isLeft)) sh7 5 2 cX7_isLeft [(7, [0, 1, 2, 3, 4], I_7), (66, [0, 1, 2, 4], I_66)] Q 400 7 [(0, ar 0), (1, ai s_), (2, ai b_), (3, ai x_), (4, ai c)] [] M1 := by
  obtain ⟨rfl, rfl, rfl, hf, a, rfl, ha, ob, hd, hm, rfl⟩ := hJ
  obtain ⟨hY, hC, hs, hb⟩ := id hP
  have h4 : 0 ≤ M 7 4 ∧ M 7 4 ≤ 7 := hY.2.2.2.2.1
  have h3 : 0 ≤ M 7 3 ∧ M 7 3 ≤ 3 := hY.2.2.2.1
  have e7 : M1 7 = M 7 := hf _ (by decide)
  have e2 : M1 2 = M 2 := hf _ (by decide)
  have e14 : M1 14 = M 14 := hf _ (by decide)
  have e0 : M1 0 = M 0 := hf _ (by decide)
  obtain ⟨c1, c2⟩ := tell_l hC
  have hlaw : 0 ≤ M 0 24 ∧ M 0 24 ≤ 3 := by rw [c1]; exact hY.1
  have hl := mb_len ob
  rw [hm] at hl
  simp only [e_wp dX7_isLeft_0 rfl, e_wp dX7_isLeft_1 rfl, e_wp dX7_isLeft_4 rfl, e_wp dX7_isLeft_5 rfl, e_wp dX7_isLeft_7 rfl, e_wp dX7_isLeft_9 rfl, e_wp dX7_isLeft_10 rfl, e_wp dX7_isLeft_13 rfl, e_wp dX7_isLeft_16 rfl, e_wp dX7_isLeft_17 rfl, e_wp dX7_isLeft_19 rfl, e_wp dX7_isLeft_22 rfl, e_wp dX7_isLeft_25 rfl, e_wp dX7_isLeft_26 rfl, e_wp dX7_isLeft_27 rfl, e_wp dX7_isLeft_28 rfl, e_wp dX7_isLeft_31 rfl, e_wp dX7_isLeft_33 rfl, e_wp dX7_isLeft_34 rfl, e_wp dX7_isLeft_36 rfl, e_wp dX7_isLeft_39 rfl, e_wp dX7_isLeft_40 rfl, e_wp dX7_isLeft_43 rfl, e_wp dX7_isLeft_46 rfl, e_wp dX7_isLeft_47 rfl, e_wp dX7_isLeft_50 rfl, e_wp dX7_isLeft_51 rfl, e_wp dX7_isLeft_52 rfl, e_wp dX7_isLeft_53 rfl, e_wp dX7_isLeft_56 rfl, e_wp dX7_isLeft_57 rfl, e_wp dX7_isLeft_58 rfl, e_wp dX7_isLeft_61 rfl, e_wp dX7_isLeft_62 rfl, e_wp dX7_isLeft_63 rfl, e_wp dX7_isLeft_64 rfl, e_wp dX7_isLeft_66 rfl, e_wp dX7_isLeft_68 rfl, e_wp dX7_isLeft_69 rfl, e_wp dX7_isLeft_72 rfl, e_wp dX7_isLeft_73 rfl, e_wp dX7_isLeft_74 rfl, e_wp dX7_isLeft_77 rfl, e_wp dX7_isLeft_78 rfl, e_wp dX7_isLeft_81 rfl, e_wp dX7_isLeft_83 rfl, e_wp dX7_isLeft_84 rfl, e_wp dX7_isLeft_85 rfl, e_wp dX7_isLeft_87 rfl, e_wp dX7_isLeft_88 rfl, e_wp dX7_isLeft_89 rfl, e_wp dX7_isLeft_90 rfl, e_wp dX7_isLeft_93 rfl, e_wp dX7_isLeft_95 rfl, e_wp dX7_isLeft_96 rfl, e_wp dX7_isLeft_97 rfl, e_wp dX7_isLeft_99 rfl, e_wp dX7_isLeft_100 rfl, e_wp dX7_isLeft_101 rfl, e_wp dX7_isLeft_102 rfl, e_wp dX7_isLeft_103 rfl, e_wp dX7_isLeft_106 rfl, e_wp dX7_isLeft_107 rfl, e_wp dX7_isLeft_108 rfl, e_wp dX7_isLeft_111 rfl, e_wp dX7_isLeft_114 rfl, e_wp dX7_isLeft_115 rfl, c7_begin, cs7_isLeft, c7_carts, P7_carts, V7_carts, c7_isBit, P7_isBit, V7_isBit, g7_56, c7_crosses, g7_13, g7_71, g7_16, g7_65, a7_1, w7_1, a7_2, w7_2, a7_3, w7_3, a7_4, w7_4, a7_5, w7_5, a7_6, w7_6, a7_7, w7_7, a7_8, w7_8, a7_9, w7_9, a7_10, w7_10, a7_11, w7_11, a7_12, w7_12, a7_13, w7_13, a7_14, w7_14, a7_15, w7_15, a7_16, w7_16, a7_17, w7_17, a7_18, w7_18, a7_19, w7_19, a7_20, w7_20, a7_21, w7_21, a7_22, w7_22, a7_23, w7_23, a7_24, w7_24, a7_25, w7_25, a7_26, w7_26, a7_27, w7_27, a7_28, w7_28, a7_29, w7_29, a7_30, w7_30, a7_31, w7_31, a7_32, w7_32, a7_33, w7_33, e_iconst, e_bipush, e_sipush, e_lconst_0, e_lconst_1, e_iload, e_iload_0, e_iload_1, e_iload_2, e_iload_3, e_lload, e_lload_0, e_lload_1, e_lload_2, e_lload_3, e_aload, e_aload_0, e_aload_1, e_aload_2, e_aload_3, e_istore, e_istore_0, e_istore_1, e_istore_2, e_istore_3, e_astore, e_astore_0, e_astore_1, e_astore_2, e_astore_3, e_lstore, e_lstore_0, e_lstore_1, e_lstore_2, e_lstore_3, e_iinc, e_iadd, e_isub, e_imul, e_ladd, e_lsub, e_lmul, e_idiv, e_irem, e_ldiv, e_lrem, e_ineg, e_lneg, e_iand, e_ior, e_ixor, e_ishl, e_ishr, e_iushr, e_lcmp, e_i2l, e_l2i, e_i2b, e_i2s, e_dup_i, e_dup_r, e_pop_i, e_pop_r, e_dup2_l, e_dup2_ir, e_dup2_ii, e_ifeq, e_ifne, e_iflt, e_ifge, e_ifgt, e_ifle, e_iceq, e_icne, e_iclt, e_icge, e_icgt, e_icle, e_goto, e_switch, e_invokevirtual, e_invokestatic, e_invokespecial, e_ret0, e_ret1, e_ret2, e_ret3, ldI_s, ldL_s, ldR_s, clO_s, ctP_s, ctS_s, mgo_0, mgo_s, pjc_s, pj_0, pj_s, lk_s, rm1_0, rm1_i, rm1_r, rm1_l, rm2_0, rm2_i, rm2_r, rm2_l, csL_s, lc_lt, lc_ge, lc_gt, lc_le, lc_eq, b01_0, b01_1, b01_01, b01_n, up2_o, up2_s, up2_u, ne_eq, reduceCtorEq, Nat.reduceAdd, Nat.reduceEqDiff, Nat.reduceLT, Nat.reduceLeDiff, Int.reduceLE, Int.reduceLT, Int.reduceAdd, Int.reduceNeg, Int.reduceMul, Int.reduceSub, Int.reduceEq, Int.reduceToNat, Int.reduceNatCast, Int.cast_ofNat_Int, ↓reduceIte, and_self, List.drop_succ_cons, List.drop_zero, List.take_succ_cons, List.take_zero, List.length_cons, List.length_nil, List.reverse_cons, List.reverse_nil, List.nil_append, List.cons_append, Option.toList, true_and, and_true, or_false, false_or, or_true, true_or, forall_const, Classical.not_not, not_false_eq_true, not_true_eq_false, false_implies, true_implies, implies_true, imp_self, e7, e2, e14, Int.toNat_natCast]
  refine ⟨fun q => ⟨by omega, by omega, fun z => ?_, fun z => ?_⟩, fun q => ⟨fun z => ⟨by omega, ?_⟩, fun z => ?_⟩⟩
  · exact hI_66 (8 - 0) _ _ _ _ (by omega) ⟨rfl, rfl, hf, ob, by rw [hm, show (vM M 0 4).toNat = a by show (M 7 4).toNat = a; omega], z, 0, rfl, ob.2.1.1, fun j hj => by omega, rfl⟩
  · refine hQ _ _ ⟨hf, (b01_f fun w => z ?_).symm⟩
    have w1 : M 2 s.toNat = _ := w.1
    rw [w1, show (vM M 0 4).toNat = a by show (M 7 4).toNat = a; omega]
    exact hl
  · refine hI_7 (100 + (7 - (a + 1))) _ _ _ _ _ (by omega) ⟨rfl, rfl, rfl, hf, a + 1, by omega, by omega, ob, by omega, ?_, rfl⟩
    rw [hm]
    exact (if_neg z).symm
  · have hc := c2 a q
    have hl1 := (okY_c hY a q).1
    rw [hc]
    refine ⟨by omega, ⟨ob, by omega, hl1, by rw [e0]; exact hlaw⟩, fun v M2 hR => ⟨by omega, ?_⟩⟩
    obtain ⟨r1, r2, r3, r4, -⟩ := hR
    have hx := mb_len r3
    rw [r2] at hx
    have hx2 := @cross_len (M1 0 24) (vM M 3 a) a (mb M1 b)
    rw [hm] at hx2 hx
    refine hI_7 (100 + (7 - (a + 1))) _ _ _ _ _ (by omega) ⟨rfl, rfl, rfl, frm_tr hf r4 (by decide), a + 1, by omega, by omega, r3, by omega, ?_, rfl⟩
    rw [r2, hm, e0, c1]
    exact (if_pos z).symm
set_option maxHeartbeats 4000000 in
set_option maxRecDepth 100000 in
theorem at7_isLeft_66 {s b x : Int} {M : Mm} {Q : Option AV → Mm → Prop} (hM : okM sh7 M) (h_s : i32 s) (h_b : i32 b) (h_x : i32 x) (hP : P7_isLeft s b x M) (hQ : ∀ (v : Int) (M1 : Mm), R7_isLeft s b x M v M1 → Q (some (ai v)) M1) {m : Nat} {s_ b_ k : Int} {M1 : Mm} (hM1 : okM sh7 M1) (h_s_ : i32 s_) (h_b_ : i32 b_) (h_k : i32 k) (hJ : J7_isLeft_66 s b x M m s_ b_ k M1) (I_7 : List AV → Mm → Prop) (hI_7 : ∀ (m_ : Nat) (y_s_ : Int) (y_b_ : Int) (y_x_ : Int) (y_c : Int) (M2 : Mm), m_ < m → J7_isLeft_7 s b x M m_ y_s_ y_b_ y_x_ y_c M2 → I_7 [ar 0, ai y_s_, ai y_b_, ai y_x_, ai y_c] M2) (I_66 : List AV → Mm → Prop) (hI_66 : ∀ (m_ : Nat) (y_s_ : Int) (y_b_ : Int) (y_k : Int) (M2 : Mm), m_ < m → J7_isLeft_66 s b x M m_ y_s_ y_b_ y_k M2 → I_66 [ar 0, ai y_s_, ai y_b_, ai y_k] M2) : wp (tb7 (csL cs7_isLeft)) sh7 5 2 cX7_isLeft [(7, [0, 1, 2, 3, 4], I_7), (66, [0, 1, 2, 4], I_66)] Q 400 66 [(0, ar 0), (1, ai s_), (2, ai b_), (4, ai k)] [] M1 := by
  obtain ⟨rfl, rfl, hf, ob, hm, hmn, a, rfl, ha, hc, rfl⟩ := hJ
  obtain ⟨hY, hC, hs, hb⟩ := id hP
  have h3 : 0 ≤ M 7 3 ∧ M 7 3 ≤ 3 := hY.2.2.2.1
  have e3 : M1 3 = M 3 := hf _ (by decide)
  have hl := mb_len ob
  have hd := ob.2.1
  have i1 : ((60 : Int) * s + a).toNat = 60 * s.toNat + a := by omega
  have hsl : ∀ k : Nat, (k : Int) < M1 19 b.toNat → (slM M s.toNat).2 k = M 3 (60 * s.toNat + k) := fun k hk => if_pos (by rw [hmn]; exact hk)
  rw [hm] at hl
  simp only [e_wp dX7_isLeft_0 rfl, e_wp dX7_isLeft_1 rfl, e_wp dX7_isLeft_4 rfl, e_wp dX7_isLeft_5 rfl, e_wp dX7_isLeft_7 rfl, e_wp dX7_isLeft_9 rfl, e_wp dX7_isLeft_10 rfl, e_wp dX7_isLeft_13 rfl, e_wp dX7_isLeft_16 rfl, e_wp dX7_isLeft_17 rfl, e_wp dX7_isLeft_19 rfl, e_wp dX7_isLeft_22 rfl, e_wp dX7_isLeft_25 rfl, e_wp dX7_isLeft_26 rfl, e_wp dX7_isLeft_27 rfl, e_wp dX7_isLeft_28 rfl, e_wp dX7_isLeft_31 rfl, e_wp dX7_isLeft_33 rfl, e_wp dX7_isLeft_34 rfl, e_wp dX7_isLeft_36 rfl, e_wp dX7_isLeft_39 rfl, e_wp dX7_isLeft_40 rfl, e_wp dX7_isLeft_43 rfl, e_wp dX7_isLeft_46 rfl, e_wp dX7_isLeft_47 rfl, e_wp dX7_isLeft_50 rfl, e_wp dX7_isLeft_51 rfl, e_wp dX7_isLeft_52 rfl, e_wp dX7_isLeft_53 rfl, e_wp dX7_isLeft_56 rfl, e_wp dX7_isLeft_57 rfl, e_wp dX7_isLeft_58 rfl, e_wp dX7_isLeft_61 rfl, e_wp dX7_isLeft_62 rfl, e_wp dX7_isLeft_63 rfl, e_wp dX7_isLeft_64 rfl, e_wp dX7_isLeft_66 rfl, e_wp dX7_isLeft_68 rfl, e_wp dX7_isLeft_69 rfl, e_wp dX7_isLeft_72 rfl, e_wp dX7_isLeft_73 rfl, e_wp dX7_isLeft_74 rfl, e_wp dX7_isLeft_77 rfl, e_wp dX7_isLeft_78 rfl, e_wp dX7_isLeft_81 rfl, e_wp dX7_isLeft_83 rfl, e_wp dX7_isLeft_84 rfl, e_wp dX7_isLeft_85 rfl, e_wp dX7_isLeft_87 rfl, e_wp dX7_isLeft_88 rfl, e_wp dX7_isLeft_89 rfl, e_wp dX7_isLeft_90 rfl, e_wp dX7_isLeft_93 rfl, e_wp dX7_isLeft_95 rfl, e_wp dX7_isLeft_96 rfl, e_wp dX7_isLeft_97 rfl, e_wp dX7_isLeft_99 rfl, e_wp dX7_isLeft_100 rfl, e_wp dX7_isLeft_101 rfl, e_wp dX7_isLeft_102 rfl, e_wp dX7_isLeft_103 rfl, e_wp dX7_isLeft_106 rfl, e_wp dX7_isLeft_107 rfl, e_wp dX7_isLeft_108 rfl, e_wp dX7_isLeft_111 rfl, e_wp dX7_isLeft_114 rfl, e_wp dX7_isLeft_115 rfl, c7_begin, cs7_isLeft, c7_carts, P7_carts, V7_carts, c7_isBit, P7_isBit, V7_isBit, g7_56, c7_crosses, g7_13, g7_71, g7_16, g7_65, a7_1, w7_1, a7_2, w7_2, a7_3, w7_3, a7_4, w7_4, a7_5, w7_5, a7_6, w7_6, a7_7, w7_7, a7_8, w7_8, a7_9, w7_9, a7_10, w7_10, a7_11, w7_11, a7_12, w7_12, a7_13, w7_13, a7_14, w7_14, a7_15, w7_15, a7_16, w7_16, a7_17, w7_17, a7_18, w7_18, a7_19, w7_19, a7_20, w7_20, a7_21, w7_21, a7_22, w7_22, a7_23, w7_23, a7_24, w7_24, a7_25, w7_25, a7_26, w7_26, a7_27, w7_27, a7_28, w7_28, a7_29, w7_29, a7_30, w7_30, a7_31, w7_31, a7_32, w7_32, a7_33, w7_33, e_iconst, e_bipush, e_sipush, e_lconst_0, e_lconst_1, e_iload, e_iload_0, e_iload_1, e_iload_2, e_iload_3, e_lload, e_lload_0, e_lload_1, e_lload_2, e_lload_3, e_aload, e_aload_0, e_aload_1, e_aload_2, e_aload_3, e_istore, e_istore_0, e_istore_1, e_istore_2, e_istore_3, e_astore, e_astore_0, e_astore_1, e_astore_2, e_astore_3, e_lstore, e_lstore_0, e_lstore_1, e_lstore_2, e_lstore_3, e_iinc, e_iadd, e_isub, e_imul, e_ladd, e_lsub, e_lmul, e_idiv, e_irem, e_ldiv, e_lrem, e_ineg, e_lneg, e_iand, e_ior, e_ixor, e_ishl, e_ishr, e_iushr, e_lcmp, e_i2l, e_l2i, e_i2b, e_i2s, e_dup_i, e_dup_r, e_pop_i, e_pop_r, e_dup2_l, e_dup2_ir, e_dup2_ii, e_ifeq, e_ifne, e_iflt, e_ifge, e_ifgt, e_ifle, e_iceq, e_icne, e_iclt, e_icge, e_icgt, e_icle, e_goto, e_switch, e_invokevirtual, e_invokestatic, e_invokespecial, e_ret0, e_ret1, e_ret2, e_ret3, ldI_s, ldL_s, ldR_s, clO_s, ctP_s, ctS_s, mgo_0, mgo_s, pjc_s, pj_0, pj_s, lk_s, rm1_0, rm1_i, rm1_r, rm1_l, rm2_0, rm2_i, rm2_r, rm2_l, csL_s, lc_lt, lc_ge, lc_gt, lc_le, lc_eq, b01_0, b01_1, b01_01, b01_n, up2_o, up2_s, up2_u, ne_eq, reduceCtorEq, Nat.reduceAdd, Nat.reduceEqDiff, Nat.reduceLT, Nat.reduceLeDiff, Int.reduceLE, Int.reduceLT, Int.reduceAdd, Int.reduceNeg, Int.reduceMul, Int.reduceSub, Int.reduceEq, Int.reduceToNat, Int.reduceNatCast, Int.cast_ofNat_Int, ↓reduceIte, and_self, List.drop_succ_cons, List.drop_zero, List.take_succ_cons, List.take_zero, List.length_cons, List.length_nil, List.reverse_cons, List.reverse_nil, List.nil_append, List.cons_append, Option.toList, true_and, and_true, or_false, false_or, or_true, true_or, forall_const, Classical.not_not, not_false_eq_true, not_true_eq_false, false_implies, true_implies, implies_true, imp_self, e3, i1]
  refine ⟨by omega, fun q => ?_, fun q => ?_⟩
  · refine hQ _ _ ⟨hf, (b01_t ⟨?_, fun k hk => ?_⟩).symm⟩
    · rw [hl]; exact hmn
    · rw [hsl k (by omega), hc k (by omega), ← hm, mb_elP (by omega)]
  · repeat (refine And.intro (by omega) ?_)
    refine ⟨fun z => ⟨by omega, ?_⟩, fun z => ?_⟩
    · refine hI_66 (8 - (a + 1)) _ _ _ _ (by omega) ⟨rfl, rfl, hf, ob, hm, hmn, a + 1, by omega, by omega, fun j hj => ?_, rfl⟩
      by_cases e : j = a
      · rw [e]; exact z
      · exact hc j (by omega)
    · refine hQ _ _ ⟨hf, (b01_f fun w => z ?_).symm⟩
      have w2 := w.2 a (by omega)
      rw [hsl a q, ← hm, mb_elP q] at w2
      exact w2
set_option maxHeartbeats 4000000 in
set_option maxRecDepth 100000 in
theorem m7_isLeft : MOK cl7 sh7 tyl7 [] 2 yX7_isLeft cX7_isLeft 5 (some .boolean) sp7_isLeft := by
  refine mok_of (own := RX7) (tb := tb7 (csL cs7_isLeft)) (rt := 2) (fuel := 400) (fun avs M Q => [(7, [0, 1, 2, 3, 4], fun m_ vs M1 => ∃ y_s_ : Int, ∃ y_b_ : Int, ∃ y_x_ : Int, ∃ y_c : Int, vs = [ar 0, ai y_s_, ai y_b_, ai y_x_, ai y_c] ∧ J7_isLeft_7 (pa true [0, 0, 0] avs 0) (pa true [0, 0, 0] avs 1) (pa true [0, 0, 0] avs 2) M m_ y_s_ y_b_ y_x_ y_c M1), (66, [0, 1, 2, 4], fun m_ vs M1 => ∃ y_s_ : Int, ∃ y_b_ : Int, ∃ y_k : Int, vs = [ar 0, ai y_s_, ai y_b_, ai y_k] ∧ J7_isLeft_66 (pa true [0, 0, 0] avs 0) (pa true [0, 0, 0] avs 1) (pa true [0, 0, 0] avs 2) M m_ y_s_ y_b_ y_k M1)]) (by decide) rfl nil_nw (tbOK7 _) rfl (csL_all ?_) ?_ ?_ ?_
  · intro q hq
    simp only [cs7_isLeft, List.mem_cons, List.not_mem_nil, or_false] at hq
    rcases hq with rfl | rfl | rfl | rfl
    · exact cg7_begin (by decide)
    · exact cg7_carts (by decide)
    · exact cg7_isBit (by decide)
    · exact cg7_crosses (by decide)
  · intro avs M Q hsp
    obtain ⟨xs, hx⟩ := spR_un _ _ _ hsp
    obtain ⟨e, hl⟩ := unA_mkT hx
    obtain ⟨s, b, x, rfl⟩ := len3 hl
    have e : avs = [ar 0, ai s, ai b, ai x] := e
    subst e
    simp [szL, isL]
  · intro avs M Q hM hav hsp
    obtain ⟨xs, hx⟩ := spR_un _ _ _ hsp
    obtain ⟨e, hl⟩ := unA_mkT hx
    obtain ⟨s, b, x, rfl⟩ := len3 hl
    have e : avs = [ar 0, ai s, ai b, ai x] := e
    subst e
    exact in7_isLeft hM (hav (ai s) (by simp)) (hav (ai b) (by simp)) (hav (ai x) (by simp)) hsp.1 hsp.2 _ (fun m_ y_s_ y_b_ y_x_ y_c M2 hJ => ⟨m_, y_s_, y_b_, y_x_, y_c, rfl, hJ⟩) _ (fun m_ y_s_ y_b_ y_k M2 hJ => ⟨m_, y_s_, y_b_, y_k, rfl, hJ⟩)
  · intro avs M Q hM hav hsp q hq m_ vs M1 hM1 hv hJ
    obtain ⟨xs, hx⟩ := spR_un _ _ _ hsp
    obtain ⟨e, hl⟩ := unA_mkT hx
    obtain ⟨s, b, x, rfl⟩ := len3 hl
    have e : avs = [ar 0, ai s, ai b, ai x] := e
    subst e
    simp only [List.mem_cons, List.not_mem_nil, or_false] at hq
    rcases hq with rfl | rfl
    · obtain ⟨y_s_, y_b_, y_x_, y_c, rfl, hJ⟩ := hJ
      exact at7_isLeft_7 hM (hav (ai s) (by simp)) (hav (ai b) (by simp)) (hav (ai x) (by simp)) hsp.1 hsp.2 hM1 (hv (1, ai y_s_) (List.mem_of_getElem? (i := 1) rfl)) (hv (2, ai y_b_) (List.mem_of_getElem? (i := 2) rfl)) (hv (3, ai y_x_) (List.mem_of_getElem? (i := 3) rfl)) (hv (4, ai y_c) (List.mem_of_getElem? (i := 4) rfl)) hJ _ (fun m2 z_s_ z_b_ z_x_ z_c M2 hm hJ2 => ⟨m2, hm, z_s_, z_b_, z_x_, z_c, rfl, hJ2⟩) _ (fun m2 z_s_ z_b_ z_k M2 hm hJ2 => ⟨m2, hm, z_s_, z_b_, z_k, rfl, hJ2⟩)
    · obtain ⟨y_s_, y_b_, y_k, rfl, hJ⟩ := hJ
      exact at7_isLeft_66 hM (hav (ai s) (by simp)) (hav (ai b) (by simp)) (hav (ai x) (by simp)) hsp.1 hsp.2 hM1 (hv (1, ai y_s_) (List.mem_of_getElem? (i := 1) rfl)) (hv (2, ai y_b_) (List.mem_of_getElem? (i := 2) rfl)) (hv (4, ai y_k) (List.mem_of_getElem? (i := 3) rfl)) hJ _ (fun m2 z_s_ z_b_ z_x_ z_c M2 hm hJ2 => ⟨m2, hm, z_s_, z_b_, z_x_, z_c, rfl, hJ2⟩) _ (fun m2 z_s_ z_b_ z_k M2 hm hJ2 => ⟨m2, hm, z_s_, z_b_, z_k, rfl, hJ2⟩)
theorem cg7_isLeft {lvl : Nat} (h : 2 < lvl) : CG RX7 cl7 sh7 tyl7 [] lvl 1 404 4 sp7_isLeft := cg_V (sg := [0, 0, 0]) nil_nw spR_mono spR_un m7_isLeft h rfl (by decide) rfl rfl ⟨rfl, by decide, by decide, rfl⟩ q2090 q2092 qs113 q138 q2093
theorem cM_x {M : Mm} {j : Nat} {x : Int} (h1 : j ≠ 24) (h2 : j ≠ 25) (h3 : j ≠ 26) : cM (up2 M 0 j x) = cM M := by
  funext i k
  match i with
  | 0 =>
    show (if k = 0 then up2 M 0 j x 0 24 else if k = 1 then up2 M 0 j x 0 25 else up2 M 0 j x 0 26) = (if k = 0 then M 0 24 else if k = 1 then M 0 25 else M 0 26)
    rw [up2_n h1.symm, up2_n h2.symm, up2_n h3.symm]
  | 1 => rfl
  | 2 => rfl
  | 3 => rfl
  | i + 4 => rfl
theorem shl7 : ∀ n : Fin 8, bshl 1 (n.val : Int) = ((2 ^ n.val : Nat) : Int) := by decide
theorem shl_n {n : Nat} (h : n ≤ 7) : bshl 1 (n : Int) = ((2 ^ n : Nat) : Int) := shl7 ⟨n, by omega⟩
theorem pow7 {n : Nat} (h : n ≤ 7) : 2 ^ n ≤ 128 := Nat.pow_le_pow_right (n := 2) (by omega) h
/-- the sets ahead of x that leave a row, the last one first -/
def backL (V : Vy) (s : Sl) (b : Int) : Nat → List Int
  | 0 => []
  | x + 1 => if band x (notI (toldP V b (V 0 4).toNat)) = 0 ∧ sameP (leftP V x (V 0 4).toNat) s then (x : Int) :: backL V s b x else backL V s b x
theorem backL_1 {V : Vy} {s : Sl} {b : Int} {x : Nat} (h : band x (notI (toldP V b (V 0 4).toNat)) = 0 ∧ sameP (leftP V x (V 0 4).toNat) s) : backL V s b (x + 1) = (x : Int) :: backL V s b x := if_pos h
theorem backL_0 {V : Vy} {s : Sl} {b : Int} {x : Nat} (h : ¬ (band x (notI (toldP V b (V 0 4).toNat)) = 0 ∧ sameP (leftP V x (V 0 4).toNat) s)) : backL V s b (x + 1) = backL V s b x := if_neg h
theorem backL_rg {V : Vy} {s : Sl} {b : Int} : ∀ {n : Nat}, (backL V s b n).length ≤ n ∧ ∀ x ∈ backL V s b n, 0 ≤ x ∧ x < n := by
  intro n
  induction n with
  | zero => exact ⟨Nat.le_refl _, fun x h => by cases h⟩
  | succ n ih =>
    by_cases h : band n (notI (toldP V b (V 0 4).toNat)) = 0 ∧ sameP (leftP V n (V 0 4).toNat) s
    · rw [backL_1 h]
      refine ⟨by rw [List.length_cons]; omega, fun x hx => ?_⟩
      rcases List.mem_cons.mp hx with e | e
      · omega
      · have := ih.2 x e; omega
    · rw [backL_0 h]
      refine ⟨by omega, fun x hx => ?_⟩
      have := ih.2 x hx; omega
def allN (t : Int) : List Int → Int
  | [] => t
  | x :: l => band (allN t l) x
def anyN : List Int → Int
  | [] => 0
  | x :: l => bor (anyN l) x
def fewN : List Int → Int
  | [] => -1
  | x :: l => if fewN l = -1 ∨ szP x < szP (fewN l) then x else fewN l
def oftN (c : Nat) : List Int → Int
  | [] => 0
  | x :: l => oftN c l + b01 (bitP x c)
theorem fewN_rg {n : Int} : ∀ {l : List Int}, (∀ x ∈ l, 0 ≤ x ∧ x < n) → fewN l = -1 ∨ (0 ≤ fewN l ∧ fewN l < n) := by
  intro l
  induction l with
  | nil => intro _; exact Or.inl rfl
  | cons x l ih =>
    intro h
    have h1 := h x List.mem_cons_self
    have h2 := ih fun y hy => h y (List.mem_cons_of_mem _ hy)
    show (if fewN l = -1 ∨ szP x < szP (fewN l) then x else fewN l) = -1 ∨ (0 ≤ (if fewN l = -1 ∨ szP x < szP (fewN l) then x else fewN l) ∧ (if fewN l = -1 ∨ szP x < szP (fewN l) then x else fewN l) < n)
    split
    · exact Or.inr h1
    · exact h2
theorem b01_b {c : Prop} {_ : Decidable c} : 0 ≤ b01 c ∧ b01 c ≤ 1 := by
  unfold b01
  split <;> omega
theorem oftN_b {c : Nat} : ∀ {l : List Int}, 0 ≤ oftN c l ∧ oftN c l ≤ l.length := by
  intro l
  induction l with
  | nil => exact ⟨Int.le_refl _, Int.le_refl _⟩
  | cons x l ih =>
    have h : 0 ≤ b01 (bitP x c) ∧ b01 (bitP x c) ≤ 1 := b01_b
    show 0 ≤ oftN c l + b01 (bitP x c) ∧ oftN c l + b01 (bitP x c) ≤ ((l.length + 1 : Nat) : Int)
    omega
/-- how many are left at worst if a cart is asked for -/
def wrsN (l : List Int) (c : Nat) : Int := if (l.length : Int) - oftN c l < oftN c l then oftN c l else (l.length : Int) - oftN c l
abbrev backS (V : Vy) (s : Sl) (b : Int) : List Int := backL V s b (2 ^ (V 0 4).toNat)
def stS (t : Int) (n : Nat) (L : List Int) (M1 : Mm) : Prop := M1 0 47 = L.length ∧ M1 0 48 = allN t L ∧ M1 0 49 = anyN L ∧ M1 0 50 = fewN L
def P7_laysSets (s : Int) (b : Int) (M : Mm) : Prop := okY (vM M) ∧ (0 ≤ s ∧ s ≤ 3) ∧ (0 ≤ b ∧ b < M 7 3)
def R7_laysSets (s : Int) (b : Int) (M : Mm) (M1 : Mm) : Prop := keepM M M1 ∧ M1 0 47 = (backS (vM M) (slM M s.toNat) b).length ∧ M1 0 48 = allN (toldP (vM M) b (vM M 0 4).toNat) (backS (vM M) (slM M s.toNat) b) ∧ M1 0 49 = band (toldP (vM M) b (vM M 0 4).toNat) (notI (anyN (backS (vM M) (slM M s.toNat) b))) ∧ M1 0 50 = fewN (backS (vM M) (slM M s.toNat) b) ∧ (M1 0 51, M1 0 52) = bestN (wrsN (backS (vM M) (slM M s.toNat) b)) (backS (vM M) (slM M s.toNat) b).length (vM M 0 4).toNat
def sp7_laysSets : Spec := spV true [0, 0] (fun x M => P7_laysSets (x 0) (x 1) M) (fun x M M1 => R7_laysSets (x 0) (x 1) M M1)
theorem c7_laysSets {s b : Int} {M : Mm} {Q : Option AV → Mm → Prop} : sp7_laysSets [ar 0, ai s, ai b] M Q = (P7_laysSets s b M ∧ ∀ (M1 : Mm), R7_laysSets s b M M1 → Q none M1) := rfl
def cs7_laysSets : List (Nat × Nat × Nat × Spec) := [(330, 1, 1, sp7_lays), (286, 1, 1, sp7_carts), (404, 1, 4, sp7_isLeft), (407, 0, 1, sp7_sizeOf), (307, 0, 2, sp7_isBit)]
def J7_laysSets_9 (s : Int) (b : Int) (M : Mm) (m : Nat) (s_ : Int) (b_ : Int) (t : Int) (c : Int) (M1 : Mm) : Prop := s = s_ ∧ b = b_ ∧ keepM M M1 ∧ nC (vM M) (cM M1) = tellP (vM M) ∧ ∃ a : Nat, c = a ∧ (a : Int) ≤ M 7 4 ∧ t = toldP (vM M) b a ∧ (∀ j : Nat, j < a → M1 31 j = 0) ∧ m = 5000 + (7 - a)
def J7_laysSets_81 (s : Int) (b : Int) (M : Mm) (m : Nat) (s_ : Int) (b_ : Int) (t : Int) (x : Int) (M1 : Mm) : Prop := s = s_ ∧ b = b_ ∧ keepM M M1 ∧ nC (vM M) (cM M1) = tellP (vM M) ∧ t = toldP (vM M) b (vM M 0 4).toNat ∧ ∃ a : Nat, x = a ∧ a ≤ 2 ^ (vM M 0 4).toNat ∧ stS t (vM M 0 4).toNat (backL (vM M) (slM M s.toNat) b a) M1 ∧ (∀ j : Nat, (j : Int) < M 7 4 → M1 31 j = oftN j (backL (vM M) (slM M s.toNat) b a)) ∧ m = 1000 + (128 - a) * 10 + 9
def J7_laysSets_179 (s : Int) (b : Int) (M : Mm) (m : Nat) (s_ : Int) (b_ : Int) (t : Int) (x : Int) (c : Int) (M1 : Mm) : Prop := s = s_ ∧ b = b_ ∧ keepM M M1 ∧ nC (vM M) (cM M1) = tellP (vM M) ∧ t = toldP (vM M) b (vM M 0 4).toNat ∧ ∃ a i : Nat, x = a ∧ c = i ∧ a < 2 ^ (vM M 0 4).toNat ∧ (i : Int) ≤ M 7 4 ∧ (band a (notI (toldP (vM M) b (vM M 0 4).toNat)) = 0 ∧ sameP (leftP (vM M) a (vM M 0 4).toNat) (slM M s.toNat)) ∧ stS t (vM M 0 4).toNat (backL (vM M) (slM M s.toNat) b (a + 1)) M1 ∧ (∀ j : Nat, j < i → M1 31 j = oftN j (backL (vM M) (slM M s.toNat) b (a + 1))) ∧ (∀ j : Nat, i ≤ j → (j : Int) < M 7 4 → M1 31 j = oftN j (backL (vM M) (slM M s.toNat) b a)) ∧ m = 1000 + (128 - a) * 10 + (8 - i)
def J7_laysSets_253 (s : Int) (b : Int) (M : Mm) (m : Nat) (c : Int) (M1 : Mm) : Prop := keepM M M1 ∧ M1 0 47 = (backS (vM M) (slM M s.toNat) b).length ∧ M1 0 48 = allN (toldP (vM M) b (vM M 0 4).toNat) (backS (vM M) (slM M s.toNat) b) ∧ M1 0 49 = band (toldP (vM M) b (vM M 0 4).toNat) (notI (anyN (backS (vM M) (slM M s.toNat) b))) ∧ M1 0 50 = fewN (backS (vM M) (slM M s.toNat) b) ∧ (∀ j : Nat, (j : Int) < M 7 4 → M1 31 j = oftN j (backS (vM M) (slM M s.toNat) b)) ∧ ∃ a : Nat, c = a ∧ (a : Int) ≤ M 7 4 ∧ (M1 0 51, M1 0 52) = bestN (wrsN (backS (vM M) (slM M s.toNat) b)) (backS (vM M) (slM M s.toNat) b).length a ∧ m = 7 - a
set_option maxHeartbeats 4000000 in
set_option maxRecDepth 100000 in
theorem in7_laysSets {s b : Int} {M : Mm} {Q : Option AV → Mm → Prop} (hM : okM sh7 M) (h_s : i32 s) (h_b : i32 b) (hP : P7_laysSets s b M) (hQ : ∀ (M1 : Mm), R7_laysSets s b M M1 → Q none M1) (I_9 : List AV → Mm → Prop) (hI_9 : ∀ (m_ : Nat) (y_s_ : Int) (y_b_ : Int) (y_t : Int) (y_c : Int) (M2 : Mm), J7_laysSets_9 s b M m_ y_s_ y_b_ y_t y_c M2 → I_9 [ar 0, ai y_s_, ai y_b_, ai y_t, ai y_c] M2) (I_81 : List AV → Mm → Prop) (hI_81 : ∀ (m_ : Nat) (y_s_ : Int) (y_b_ : Int) (y_t : Int) (y_x : Int) (M2 : Mm), J7_laysSets_81 s b M m_ y_s_ y_b_ y_t y_x M2 → I_81 [ar 0, ai y_s_, ai y_b_, ai y_t, ai y_x] M2) (I_179 : List AV → Mm → Prop) (hI_179 : ∀ (m_ : Nat) (y_s_ : Int) (y_b_ : Int) (y_t : Int) (y_x : Int) (y_c : Int) (M2 : Mm), J7_laysSets_179 s b M m_ y_s_ y_b_ y_t y_x y_c M2 → I_179 [ar 0, ai y_s_, ai y_b_, ai y_t, ai y_x, ai y_c] M2) (I_253 : List AV → Mm → Prop) (hI_253 : ∀ (m_ : Nat) (y_c : Int) (M2 : Mm), J7_laysSets_253 s b M m_ y_c M2 → I_253 [ar 0, ai y_c] M2) : wp (tb7 (csL cs7_laysSets)) sh7 6 0 cX7_laysSets [(9, [0, 1, 2, 3, 4], I_9), (81, [0, 1, 2, 3, 4], I_81), (179, [0, 1, 2, 3, 4, 5], I_179), (253, [0, 4], I_253)] Q 400 0 [(0, ar 0), (1, ai s), (2, ai b)] [] M := by
  obtain ⟨hY, hs, hb⟩ := id hP
  have h4 : 0 ≤ M 7 4 ∧ M 7 4 ≤ 7 := hY.2.2.2.2.1
  simp only [e_wp dX7_laysSets_0 rfl, e_wp dX7_laysSets_1 rfl, e_wp dX7_laysSets_4 rfl, e_wp dX7_laysSets_5 rfl, e_wp dX7_laysSets_6 rfl, e_wp dX7_laysSets_7 rfl, e_wp dX7_laysSets_9 rfl, e_wp dX7_laysSets_11 rfl, e_wp dX7_laysSets_12 rfl, e_wp dX7_laysSets_15 rfl, e_wp dX7_laysSets_18 rfl, e_wp dX7_laysSets_19 rfl, e_wp dX7_laysSets_20 rfl, e_wp dX7_laysSets_23 rfl, e_wp dX7_laysSets_24 rfl, e_wp dX7_laysSets_26 rfl, e_wp dX7_laysSets_27 rfl, e_wp dX7_laysSets_28 rfl, e_wp dX7_laysSets_29 rfl, e_wp dX7_laysSets_30 rfl, e_wp dX7_laysSets_31 rfl, e_wp dX7_laysSets_34 rfl, e_wp dX7_laysSets_35 rfl, e_wp dX7_laysSets_37 rfl, e_wp dX7_laysSets_38 rfl, e_wp dX7_laysSets_41 rfl, e_wp dX7_laysSets_42 rfl, e_wp dX7_laysSets_43 rfl, e_wp dX7_laysSets_44 rfl, e_wp dX7_laysSets_45 rfl, e_wp dX7_laysSets_48 rfl, e_wp dX7_laysSets_50 rfl, e_wp dX7_laysSets_51 rfl, e_wp dX7_laysSets_52 rfl, e_wp dX7_laysSets_55 rfl, e_wp dX7_laysSets_58 rfl, e_wp dX7_laysSets_59 rfl, e_wp dX7_laysSets_60 rfl, e_wp dX7_laysSets_63 rfl, e_wp dX7_laysSets_64 rfl, e_wp dX7_laysSets_65 rfl, e_wp dX7_laysSets_68 rfl, e_wp dX7_laysSets_69 rfl, e_wp dX7_laysSets_70 rfl, e_wp dX7_laysSets_73 rfl, e_wp dX7_laysSets_74 rfl, e_wp dX7_laysSets_75 rfl, e_wp dX7_laysSets_78 rfl, e_wp dX7_laysSets_79 rfl, e_wp dX7_laysSets_81 rfl, e_wp dX7_laysSets_83 rfl, e_wp dX7_laysSets_84 rfl, e_wp dX7_laysSets_85 rfl, e_wp dX7_laysSets_88 rfl, e_wp dX7_laysSets_89 rfl, e_wp dX7_laysSets_92 rfl, e_wp dX7_laysSets_94 rfl, e_wp dX7_laysSets_95 rfl, e_wp dX7_laysSets_96 rfl, e_wp dX7_laysSets_97 rfl, e_wp dX7_laysSets_98 rfl, e_wp dX7_laysSets_101 rfl, e_wp dX7_laysSets_102 rfl, e_wp dX7_laysSets_103 rfl, e_wp dX7_laysSets_104 rfl, e_wp dX7_laysSets_106 rfl, e_wp dX7_laysSets_109 rfl, e_wp dX7_laysSets_112 rfl, e_wp dX7_laysSets_115 rfl, e_wp dX7_laysSets_116 rfl, e_wp dX7_laysSets_117 rfl, e_wp dX7_laysSets_120 rfl, e_wp dX7_laysSets_121 rfl, e_wp dX7_laysSets_122 rfl, e_wp dX7_laysSets_125 rfl, e_wp dX7_laysSets_126 rfl, e_wp dX7_laysSets_127 rfl, e_wp dX7_laysSets_130 rfl, e_wp dX7_laysSets_132 rfl, e_wp dX7_laysSets_133 rfl, e_wp dX7_laysSets_136 rfl, e_wp dX7_laysSets_137 rfl, e_wp dX7_laysSets_138 rfl, e_wp dX7_laysSets_141 rfl, e_wp dX7_laysSets_143 rfl, e_wp dX7_laysSets_144 rfl, e_wp dX7_laysSets_147 rfl, e_wp dX7_laysSets_148 rfl, e_wp dX7_laysSets_151 rfl, e_wp dX7_laysSets_152 rfl, e_wp dX7_laysSets_155 rfl, e_wp dX7_laysSets_157 rfl, e_wp dX7_laysSets_160 rfl, e_wp dX7_laysSets_161 rfl, e_wp dX7_laysSets_164 rfl, e_wp dX7_laysSets_167 rfl, e_wp dX7_laysSets_170 rfl, e_wp dX7_laysSets_171 rfl, e_wp dX7_laysSets_173 rfl, e_wp dX7_laysSets_176 rfl, e_wp dX7_laysSets_177 rfl, e_wp dX7_laysSets_179 rfl, e_wp dX7_laysSets_181 rfl, e_wp dX7_laysSets_182 rfl, e_wp dX7_laysSets_185 rfl, e_wp dX7_laysSets_188 rfl, e_wp dX7_laysSets_189 rfl, e_wp dX7_laysSets_192 rfl, e_wp dX7_laysSets_194 rfl, e_wp dX7_laysSets_195 rfl, e_wp dX7_laysSets_196 rfl, e_wp dX7_laysSets_198 rfl, e_wp dX7_laysSets_200 rfl, e_wp dX7_laysSets_203 rfl, e_wp dX7_laysSets_206 rfl, e_wp dX7_laysSets_207 rfl, e_wp dX7_laysSets_210 rfl, e_wp dX7_laysSets_211 rfl, e_wp dX7_laysSets_212 rfl, e_wp dX7_laysSets_213 rfl, e_wp dX7_laysSets_216 rfl, e_wp dX7_laysSets_219 rfl, e_wp dX7_laysSets_222 rfl, e_wp dX7_laysSets_225 rfl, e_wp dX7_laysSets_226 rfl, e_wp dX7_laysSets_227 rfl, e_wp dX7_laysSets_228 rfl, e_wp dX7_laysSets_231 rfl, e_wp dX7_laysSets_232 rfl, e_wp dX7_laysSets_233 rfl, e_wp dX7_laysSets_234 rfl, e_wp dX7_laysSets_237 rfl, e_wp dX7_laysSets_238 rfl, e_wp dX7_laysSets_239 rfl, e_wp dX7_laysSets_242 rfl, e_wp dX7_laysSets_243 rfl, e_wp dX7_laysSets_244 rfl, e_wp dX7_laysSets_247 rfl, e_wp dX7_laysSets_250 rfl, e_wp dX7_laysSets_251 rfl, e_wp dX7_laysSets_253 rfl, e_wp dX7_laysSets_255 rfl, e_wp dX7_laysSets_256 rfl, e_wp dX7_laysSets_259 rfl, e_wp dX7_laysSets_262 rfl, e_wp dX7_laysSets_263 rfl, e_wp dX7_laysSets_266 rfl, e_wp dX7_laysSets_268 rfl, e_wp dX7_laysSets_269 rfl, e_wp dX7_laysSets_270 rfl, e_wp dX7_laysSets_273 rfl, e_wp dX7_laysSets_274 rfl, e_wp dX7_laysSets_277 rfl, e_wp dX7_laysSets_279 rfl, e_wp dX7_laysSets_280 rfl, e_wp dX7_laysSets_281 rfl, e_wp dX7_laysSets_284 rfl, e_wp dX7_laysSets_285 rfl, e_wp dX7_laysSets_288 rfl, e_wp dX7_laysSets_290 rfl, e_wp dX7_laysSets_291 rfl, e_wp dX7_laysSets_294 rfl, e_wp dX7_laysSets_295 rfl, e_wp dX7_laysSets_298 rfl, e_wp dX7_laysSets_299 rfl, e_wp dX7_laysSets_302 rfl, e_wp dX7_laysSets_304 rfl, e_wp dX7_laysSets_305 rfl, e_wp dX7_laysSets_306 rfl, e_wp dX7_laysSets_308 rfl, e_wp dX7_laysSets_310 rfl, e_wp dX7_laysSets_311 rfl, e_wp dX7_laysSets_314 rfl, e_wp dX7_laysSets_317 rfl, e_wp dX7_laysSets_320 rfl, e_wp dX7_laysSets_321 rfl, e_wp dX7_laysSets_323 rfl, e_wp dX7_laysSets_326 rfl, e_wp dX7_laysSets_327 rfl, e_wp dX7_laysSets_329 rfl, e_wp dX7_laysSets_332 rfl, e_wp dX7_laysSets_335 rfl, e_wp dX7_laysSets_338 rfl, c7_lays, cs7_laysSets, c7_carts, P7_carts, V7_carts, g7_40, g7_107, p7_392, p7_395, p7_398, p7_401, c7_isLeft, g7_392, g7_395, g7_398, g7_401, c7_sizeOf, P7_sizeOf, V7_sizeOf, c7_isBit, P7_isBit, V7_isBit, p7_410, p7_413, g7_413, a7_1, w7_1, a7_2, w7_2, a7_3, w7_3, a7_4, w7_4, a7_5, w7_5, a7_6, w7_6, a7_7, w7_7, a7_8, w7_8, a7_9, w7_9, a7_10, w7_10, a7_11, w7_11, a7_12, w7_12, a7_13, w7_13, a7_14, w7_14, a7_15, w7_15, a7_16, w7_16, a7_17, w7_17, a7_18, w7_18, a7_19, w7_19, a7_20, w7_20, a7_21, w7_21, a7_22, w7_22, a7_23, w7_23, a7_24, w7_24, a7_25, w7_25, a7_26, w7_26, a7_27, w7_27, a7_28, w7_28, a7_29, w7_29, a7_30, w7_30, a7_31, w7_31, a7_32, w7_32, a7_33, w7_33, e_iconst, e_bipush, e_sipush, e_lconst_0, e_lconst_1, e_iload, e_iload_0, e_iload_1, e_iload_2, e_iload_3, e_lload, e_lload_0, e_lload_1, e_lload_2, e_lload_3, e_aload, e_aload_0, e_aload_1, e_aload_2, e_aload_3, e_istore, e_istore_0, e_istore_1, e_istore_2, e_istore_3, e_astore, e_astore_0, e_astore_1, e_astore_2, e_astore_3, e_lstore, e_lstore_0, e_lstore_1, e_lstore_2, e_lstore_3, e_iinc, e_iadd, e_isub, e_imul, e_ladd, e_lsub, e_lmul, e_idiv, e_irem, e_ldiv, e_lrem, e_ineg, e_lneg, e_iand, e_ior, e_ixor, e_ishl, e_ishr, e_iushr, e_lcmp, e_i2l, e_l2i, e_i2b, e_i2s, e_dup_i, e_dup_r, e_pop_i, e_pop_r, e_dup2_l, e_dup2_ir, e_dup2_ii, e_ifeq, e_ifne, e_iflt, e_ifge, e_ifgt, e_ifle, e_iceq, e_icne, e_iclt, e_icge, e_icgt, e_icle, e_goto, e_switch, e_invokevirtual, e_invokestatic, e_invokespecial, e_ret0, e_ret1, e_ret2, e_ret3, ldI_s, ldL_s, ldR_s, clO_s, ctP_s, ctS_s, mgo_0, mgo_s, pjc_s, pj_0, pj_s, lk_s, rm1_0, rm1_i, rm1_r, rm1_l, rm2_0, rm2_i, rm2_r, rm2_l, csL_s, lc_lt, lc_ge, lc_gt, lc_le, lc_eq, b01_0, b01_1, b01_01, b01_n, up2_o, up2_s, up2_u, ne_eq, reduceCtorEq, Nat.reduceAdd, Nat.reduceEqDiff, Nat.reduceLT, Nat.reduceLeDiff, Int.reduceLE, Int.reduceLT, Int.reduceAdd, Int.reduceNeg, Int.reduceMul, Int.reduceSub, Int.reduceEq, Int.reduceToNat, Int.reduceNatCast, Int.cast_ofNat_Int, ↓reduceIte, and_self, List.drop_succ_cons, List.drop_zero, List.take_succ_cons, List.take_zero, List.length_cons, List.length_nil, List.reverse_cons, List.reverse_nil, List.nil_append, List.cons_append, Option.toList, true_and, and_true, or_false, false_or, or_true, true_or, forall_const, Classical.not_not, not_false_eq_true, not_true_eq_false, false_implies, true_implies, implies_true, imp_self]
  refine ⟨hY, fun M1 hR => ?_⟩
  obtain ⟨k1, k2⟩ := tl_use hR
  exact hI_9 _ _ _ _ _ _ ⟨rfl, rfl, k1, k2, 0, rfl, by omega, rfl, fun j hj => by omega, rfl⟩
set_option maxHeartbeats 4000000 in
set_option maxRecDepth 100000 in
theorem at7_laysSets_9 {s b : Int} {M : Mm} {Q : Option AV → Mm → Prop} (hM : okM sh7 M) (h_s : i32 s) (h_b : i32 b) (hP : P7_laysSets s b M) (hQ : ∀ (M1 : Mm), R7_laysSets s b M M1 → Q none M1) {m : Nat} {s_ b_ t c : Int} {M1 : Mm} (hM1 : okM sh7 M1) (h_s_ : i32 s_) (h_b_ : i32 b_) (h_t : i32 t) (h_c : i32 c) (hJ : J7_laysSets_9 s b M m s_ b_ t c M1) (I_9 : List AV → Mm → Prop) (hI_9 : ∀ (m_ : Nat) (y_s_ : Int) (y_b_ : Int) (y_t : Int) (y_c : Int) (M2 : Mm), m_ < m → J7_laysSets_9 s b M m_ y_s_ y_b_ y_t y_c M2 → I_9 [ar 0, ai y_s_, ai y_b_, ai y_t, ai y_c] M2) (I_81 : List AV → Mm → Prop) (hI_81 : ∀ (m_ : Nat) (y_s_ : Int) (y_b_ : Int) (y_t : Int) (y_x : Int) (M2 : Mm), m_ < m → J7_laysSets_81 s b M m_ y_s_ y_b_ y_t y_x M2 → I_81 [ar 0, ai y_s_, ai y_b_, ai y_t, ai y_x] M2) (I_179 : List AV → Mm → Prop) (hI_179 : ∀ (m_ : Nat) (y_s_ : Int) (y_b_ : Int) (y_t : Int) (y_x : Int) (y_c : Int) (M2 : Mm), m_ < m → J7_laysSets_179 s b M m_ y_s_ y_b_ y_t y_x y_c M2 → I_179 [ar 0, ai y_s_, ai y_b_, ai y_t, ai y_x, ai y_c] M2) (I_253 : List AV → Mm → Prop) (hI_253 : ∀ (m_ : Nat) (y_c : Int) (M2 : Mm), m_ < m → J7_laysSets_253 s b M m_ y_c M2 → I_253 [ar 0, ai y_c] M2) : wp (tb7 (csL cs7_laysSets)) sh7 6 0 cX7_laysSets [(9, [0, 1, 2, 3, 4], I_9), (81, [0, 1, 2, 3, 4], I_81), (179, [0, 1, 2, 3, 4, 5], I_179), (253, [0, 4], I_253)] Q 400 9 [(0, ar 0), (1, ai s_), (2, ai b_), (3, ai t), (4, ai c)] [] M1 := by
  obtain ⟨rfl, rfl, hk, hC, a, rfl, ha, rfl, ho, rfl⟩ := hJ
  obtain ⟨hY, hs, hb⟩ := id hP
  have h4 : 0 ≤ M 7 4 ∧ M 7 4 ≤ 7 := hY.2.2.2.2.1
  have e7 : M1 7 = M 7 := hk.1 _ (by decide)
  have e9 : M1 9 = M 9 := hk.1 _ (by decide)
  have i1 : ((2 : Int) * a + 1).toNat = 2 * a + 1 := by omega
  simp only [e_wp dX7_laysSets_0 rfl, e_wp dX7_laysSets_1 rfl, e_wp dX7_laysSets_4 rfl, e_wp dX7_laysSets_5 rfl, e_wp dX7_laysSets_6 rfl, e_wp dX7_laysSets_7 rfl, e_wp dX7_laysSets_9 rfl, e_wp dX7_laysSets_11 rfl, e_wp dX7_laysSets_12 rfl, e_wp dX7_laysSets_15 rfl, e_wp dX7_laysSets_18 rfl, e_wp dX7_laysSets_19 rfl, e_wp dX7_laysSets_20 rfl, e_wp dX7_laysSets_23 rfl, e_wp dX7_laysSets_24 rfl, e_wp dX7_laysSets_26 rfl, e_wp dX7_laysSets_27 rfl, e_wp dX7_laysSets_28 rfl, e_wp dX7_laysSets_29 rfl, e_wp dX7_laysSets_30 rfl, e_wp dX7_laysSets_31 rfl, e_wp dX7_laysSets_34 rfl, e_wp dX7_laysSets_35 rfl, e_wp dX7_laysSets_37 rfl, e_wp dX7_laysSets_38 rfl, e_wp dX7_laysSets_41 rfl, e_wp dX7_laysSets_42 rfl, e_wp dX7_laysSets_43 rfl, e_wp dX7_laysSets_44 rfl, e_wp dX7_laysSets_45 rfl, e_wp dX7_laysSets_48 rfl, e_wp dX7_laysSets_50 rfl, e_wp dX7_laysSets_51 rfl, e_wp dX7_laysSets_52 rfl, e_wp dX7_laysSets_55 rfl, e_wp dX7_laysSets_58 rfl, e_wp dX7_laysSets_59 rfl, e_wp dX7_laysSets_60 rfl, e_wp dX7_laysSets_63 rfl, e_wp dX7_laysSets_64 rfl, e_wp dX7_laysSets_65 rfl, e_wp dX7_laysSets_68 rfl, e_wp dX7_laysSets_69 rfl, e_wp dX7_laysSets_70 rfl, e_wp dX7_laysSets_73 rfl, e_wp dX7_laysSets_74 rfl, e_wp dX7_laysSets_75 rfl, e_wp dX7_laysSets_78 rfl, e_wp dX7_laysSets_79 rfl, e_wp dX7_laysSets_81 rfl, e_wp dX7_laysSets_83 rfl, e_wp dX7_laysSets_84 rfl, e_wp dX7_laysSets_85 rfl, e_wp dX7_laysSets_88 rfl, e_wp dX7_laysSets_89 rfl, e_wp dX7_laysSets_92 rfl, e_wp dX7_laysSets_94 rfl, e_wp dX7_laysSets_95 rfl, e_wp dX7_laysSets_96 rfl, e_wp dX7_laysSets_97 rfl, e_wp dX7_laysSets_98 rfl, e_wp dX7_laysSets_101 rfl, e_wp dX7_laysSets_102 rfl, e_wp dX7_laysSets_103 rfl, e_wp dX7_laysSets_104 rfl, e_wp dX7_laysSets_106 rfl, e_wp dX7_laysSets_109 rfl, e_wp dX7_laysSets_112 rfl, e_wp dX7_laysSets_115 rfl, e_wp dX7_laysSets_116 rfl, e_wp dX7_laysSets_117 rfl, e_wp dX7_laysSets_120 rfl, e_wp dX7_laysSets_121 rfl, e_wp dX7_laysSets_122 rfl, e_wp dX7_laysSets_125 rfl, e_wp dX7_laysSets_126 rfl, e_wp dX7_laysSets_127 rfl, e_wp dX7_laysSets_130 rfl, e_wp dX7_laysSets_132 rfl, e_wp dX7_laysSets_133 rfl, e_wp dX7_laysSets_136 rfl, e_wp dX7_laysSets_137 rfl, e_wp dX7_laysSets_138 rfl, e_wp dX7_laysSets_141 rfl, e_wp dX7_laysSets_143 rfl, e_wp dX7_laysSets_144 rfl, e_wp dX7_laysSets_147 rfl, e_wp dX7_laysSets_148 rfl, e_wp dX7_laysSets_151 rfl, e_wp dX7_laysSets_152 rfl, e_wp dX7_laysSets_155 rfl, e_wp dX7_laysSets_157 rfl, e_wp dX7_laysSets_160 rfl, e_wp dX7_laysSets_161 rfl, e_wp dX7_laysSets_164 rfl, e_wp dX7_laysSets_167 rfl, e_wp dX7_laysSets_170 rfl, e_wp dX7_laysSets_171 rfl, e_wp dX7_laysSets_173 rfl, e_wp dX7_laysSets_176 rfl, e_wp dX7_laysSets_177 rfl, e_wp dX7_laysSets_179 rfl, e_wp dX7_laysSets_181 rfl, e_wp dX7_laysSets_182 rfl, e_wp dX7_laysSets_185 rfl, e_wp dX7_laysSets_188 rfl, e_wp dX7_laysSets_189 rfl, e_wp dX7_laysSets_192 rfl, e_wp dX7_laysSets_194 rfl, e_wp dX7_laysSets_195 rfl, e_wp dX7_laysSets_196 rfl, e_wp dX7_laysSets_198 rfl, e_wp dX7_laysSets_200 rfl, e_wp dX7_laysSets_203 rfl, e_wp dX7_laysSets_206 rfl, e_wp dX7_laysSets_207 rfl, e_wp dX7_laysSets_210 rfl, e_wp dX7_laysSets_211 rfl, e_wp dX7_laysSets_212 rfl, e_wp dX7_laysSets_213 rfl, e_wp dX7_laysSets_216 rfl, e_wp dX7_laysSets_219 rfl, e_wp dX7_laysSets_222 rfl, e_wp dX7_laysSets_225 rfl, e_wp dX7_laysSets_226 rfl, e_wp dX7_laysSets_227 rfl, e_wp dX7_laysSets_228 rfl, e_wp dX7_laysSets_231 rfl, e_wp dX7_laysSets_232 rfl, e_wp dX7_laysSets_233 rfl, e_wp dX7_laysSets_234 rfl, e_wp dX7_laysSets_237 rfl, e_wp dX7_laysSets_238 rfl, e_wp dX7_laysSets_239 rfl, e_wp dX7_laysSets_242 rfl, e_wp dX7_laysSets_243 rfl, e_wp dX7_laysSets_244 rfl, e_wp dX7_laysSets_247 rfl, e_wp dX7_laysSets_250 rfl, e_wp dX7_laysSets_251 rfl, e_wp dX7_laysSets_253 rfl, e_wp dX7_laysSets_255 rfl, e_wp dX7_laysSets_256 rfl, e_wp dX7_laysSets_259 rfl, e_wp dX7_laysSets_262 rfl, e_wp dX7_laysSets_263 rfl, e_wp dX7_laysSets_266 rfl, e_wp dX7_laysSets_268 rfl, e_wp dX7_laysSets_269 rfl, e_wp dX7_laysSets_270 rfl, e_wp dX7_laysSets_273 rfl, e_wp dX7_laysSets_274 rfl, e_wp dX7_laysSets_277 rfl, e_wp dX7_laysSets_279 rfl, e_wp dX7_laysSets_280 rfl, e_wp dX7_laysSets_281 rfl, e_wp dX7_laysSets_284 rfl, e_wp dX7_laysSets_285 rfl, e_wp dX7_laysSets_288 rfl, e_wp dX7_laysSets_290 rfl, e_wp dX7_laysSets_291 rfl, e_wp dX7_laysSets_294 rfl, e_wp dX7_laysSets_295 rfl, e_wp dX7_laysSets_298 rfl, e_wp dX7_laysSets_299 rfl, e_wp dX7_laysSets_302 rfl, e_wp dX7_laysSets_304 rfl, e_wp dX7_laysSets_305 rfl, e_wp dX7_laysSets_306 rfl, e_wp dX7_laysSets_308 rfl, e_wp dX7_laysSets_310 rfl, e_wp dX7_laysSets_311 rfl, e_wp dX7_laysSets_314 rfl, e_wp dX7_laysSets_317 rfl, e_wp dX7_laysSets_320 rfl, e_wp dX7_laysSets_321 rfl, e_wp dX7_laysSets_323 rfl, e_wp dX7_laysSets_326 rfl, e_wp dX7_laysSets_327 rfl, e_wp dX7_laysSets_329 rfl, e_wp dX7_laysSets_332 rfl, e_wp dX7_laysSets_335 rfl, e_wp dX7_laysSets_338 rfl, c7_lays, cs7_laysSets, c7_carts, P7_carts, V7_carts, g7_40, g7_107, p7_392, p7_395, p7_398, p7_401, c7_isLeft, g7_392, g7_395, g7_398, g7_401, c7_sizeOf, P7_sizeOf, V7_sizeOf, c7_isBit, P7_isBit, V7_isBit, p7_410, p7_413, g7_413, a7_1, w7_1, a7_2, w7_2, a7_3, w7_3, a7_4, w7_4, a7_5, w7_5, a7_6, w7_6, a7_7, w7_7, a7_8, w7_8, a7_9, w7_9, a7_10, w7_10, a7_11, w7_11, a7_12, w7_12, a7_13, w7_13, a7_14, w7_14, a7_15, w7_15, a7_16, w7_16, a7_17, w7_17, a7_18, w7_18, a7_19, w7_19, a7_20, w7_20, a7_21, w7_21, a7_22, w7_22, a7_23, w7_23, a7_24, w7_24, a7_25, w7_25, a7_26, w7_26, a7_27, w7_27, a7_28, w7_28, a7_29, w7_29, a7_30, w7_30, a7_31, w7_31, a7_32, w7_32, a7_33, w7_33, e_iconst, e_bipush, e_sipush, e_lconst_0, e_lconst_1, e_iload, e_iload_0, e_iload_1, e_iload_2, e_iload_3, e_lload, e_lload_0, e_lload_1, e_lload_2, e_lload_3, e_aload, e_aload_0, e_aload_1, e_aload_2, e_aload_3, e_istore, e_istore_0, e_istore_1, e_istore_2, e_istore_3, e_astore, e_astore_0, e_astore_1, e_astore_2, e_astore_3, e_lstore, e_lstore_0, e_lstore_1, e_lstore_2, e_lstore_3, e_iinc, e_iadd, e_isub, e_imul, e_ladd, e_lsub, e_lmul, e_idiv, e_irem, e_ldiv, e_lrem, e_ineg, e_lneg, e_iand, e_ior, e_ixor, e_ishl, e_ishr, e_iushr, e_lcmp, e_i2l, e_l2i, e_i2b, e_i2s, e_dup_i, e_dup_r, e_pop_i, e_pop_r, e_dup2_l, e_dup2_ir, e_dup2_ii, e_ifeq, e_ifne, e_iflt, e_ifge, e_ifgt, e_ifle, e_iceq, e_icne, e_iclt, e_icge, e_icgt, e_icle, e_goto, e_switch, e_invokevirtual, e_invokestatic, e_invokespecial, e_ret0, e_ret1, e_ret2, e_ret3, ldI_s, ldL_s, ldR_s, clO_s, ctP_s, ctS_s, mgo_0, mgo_s, pjc_s, pj_0, pj_s, lk_s, rm1_0, rm1_i, rm1_r, rm1_l, rm2_0, rm2_i, rm2_r, rm2_l, csL_s, lc_lt, lc_ge, lc_gt, lc_le, lc_eq, b01_0, b01_1, b01_01, b01_n, up2_o, up2_s, up2_u, ne_eq, reduceCtorEq, Nat.reduceAdd, Nat.reduceEqDiff, Nat.reduceLT, Nat.reduceLeDiff, Int.reduceLE, Int.reduceLT, Int.reduceAdd, Int.reduceNeg, Int.reduceMul, Int.reduceSub, Int.reduceEq, Int.reduceToNat, Int.reduceNatCast, Int.cast_ofNat_Int, ↓reduceIte, and_self, List.drop_succ_cons, List.drop_zero, List.take_succ_cons, List.take_zero, List.length_cons, List.length_nil, List.reverse_cons, List.reverse_nil, List.nil_append, List.cons_append, Option.toList, true_and, and_true, or_false, false_or, or_true, true_or, forall_const, Classical.not_not, not_false_eq_true, not_true_eq_false, false_implies, true_implies, implies_true, imp_self, e7, e9, i1]
  refine ⟨fun q => ?_, fun q => ?_⟩
  · have en : (vM M 0 4).toNat = a := by show (M 7 4).toNat = a; omega
    refine hI_81 (1000 + (128 - 0) * 10 + 9) _ _ _ _ _ (by omega) ⟨rfl, rfl, ?_, ?_, by rw [en], 0, rfl, Nat.zero_le _, ⟨?_, ?_, ?_, ?_⟩, fun j hj => ?_, rfl⟩
    · exact keep_u0 (keep_u0 (keep_u0 (keep_u0 hk (by decide)) (by decide)) (by decide)) (by decide)
    · rw [cM_x (by decide) (by decide) (by decide), cM_x (by decide) (by decide) (by decide), cM_x (by decide) (by decide) (by decide), cM_x (by decide) (by decide) (by decide)]; exact hC
    · simp [up2_r, backL]
    · simp [up2_r, backL, allN]
    · simp [up2_r, backL, anyN]
    · simp [up2_r, backL, fewN]
    · rw [up2_o (by decide), up2_o (by decide), up2_o (by decide), up2_o (by decide), ho j (by omega)]; rfl
  · have hv := (vM_c M q).2
    have go : ∀ t2, t2 = toldP (vM M) b (a + 1) → I_9 [ar 0, ai s, ai b, ai t2, ai (a + 1)] (up2 M1 31 a 0) := by
      intro t2 h2
      refine hI_9 (5000 + (7 - (a + 1))) _ _ _ _ _ (by omega) ⟨rfl, rfl, keep_u hk (by decide), ?_, a + 1, by omega, by omega, h2, fun j hj => ?_, rfl⟩
      · rw [cM_u (by decide) (by decide) (by decide) (by decide)]; exact hC
      · by_cases e : j = a
        · rw [e, up2_s]
        · rw [up2_n e]; exact ho j (by omega)
    have es : toldP (vM M) b (a + 1) = bor (toldP (vM M) b a) (if M 9 (2 * a + 1) = b then bshl 1 a else 0) := by rw [← hv]; rfl
    repeat (refine And.intro (by omega) ?_)
    refine ⟨fun z => ⟨by omega, by omega, go _ (by rw [es, if_neg z])⟩, fun z => ⟨by omega, by omega, go _ (by rw [es, if_pos z])⟩⟩
set_option maxHeartbeats 4000000 in
set_option maxRecDepth 100000 in
theorem at7_laysSets_81 {s b : Int} {M : Mm} {Q : Option AV → Mm → Prop} (hM : okM sh7 M) (h_s : i32 s) (h_b : i32 b) (hP : P7_laysSets s b M) (hQ : ∀ (M1 : Mm), R7_laysSets s b M M1 → Q none M1) {m : Nat} {s_ b_ t x : Int} {M1 : Mm} (hM1 : okM sh7 M1) (h_s_ : i32 s_) (h_b_ : i32 b_) (h_t : i32 t) (h_x : i32 x) (hJ : J7_laysSets_81 s b M m s_ b_ t x M1) (I_9 : List AV → Mm → Prop) (hI_9 : ∀ (m_ : Nat) (y_s_ : Int) (y_b_ : Int) (y_t : Int) (y_c : Int) (M2 : Mm), m_ < m → J7_laysSets_9 s b M m_ y_s_ y_b_ y_t y_c M2 → I_9 [ar 0, ai y_s_, ai y_b_, ai y_t, ai y_c] M2) (I_81 : List AV → Mm → Prop) (hI_81 : ∀ (m_ : Nat) (y_s_ : Int) (y_b_ : Int) (y_t : Int) (y_x : Int) (M2 : Mm), m_ < m → J7_laysSets_81 s b M m_ y_s_ y_b_ y_t y_x M2 → I_81 [ar 0, ai y_s_, ai y_b_, ai y_t, ai y_x] M2) (I_179 : List AV → Mm → Prop) (hI_179 : ∀ (m_ : Nat) (y_s_ : Int) (y_b_ : Int) (y_t : Int) (y_x : Int) (y_c : Int) (M2 : Mm), m_ < m → J7_laysSets_179 s b M m_ y_s_ y_b_ y_t y_x y_c M2 → I_179 [ar 0, ai y_s_, ai y_b_, ai y_t, ai y_x, ai y_c] M2) (I_253 : List AV → Mm → Prop) (hI_253 : ∀ (m_ : Nat) (y_c : Int) (M2 : Mm), m_ < m → J7_laysSets_253 s b M m_ y_c M2 → I_253 [ar 0, ai y_c] M2) : wp (tb7 (csL cs7_laysSets)) sh7 6 0 cX7_laysSets [(9, [0, 1, 2, 3, 4], I_9), (81, [0, 1, 2, 3, 4], I_81), (179, [0, 1, 2, 3, 4, 5], I_179), (253, [0, 4], I_253)] Q 400 81 [(0, ar 0), (1, ai s_), (2, ai b_), (3, ai t), (4, ai x)] [] M1 := by
  obtain ⟨rfl, rfl, hk, hC, rfl, a, rfl, ha, hS, ho, rfl⟩ := hJ
  obtain ⟨hY, hs, hb⟩ := id hP
  have h4 : 0 ≤ M 7 4 ∧ M 7 4 ≤ 7 := hY.2.2.2.2.1
  have e7 : M1 7 = M 7 := hk.1 _ (by decide)
  have eV : vM M1 = vM M := keep_v hk 0
  have en : (((vM M 0 4).toNat : Nat) : Int) = M 7 4 := Int.toNat_of_nonneg h4.1
  have eb : bshl 1 (M 7 4) = ((2 ^ (vM M 0 4).toNat : Nat) : Int) := by rw [← en]; exact shl_n (by omega)
  have hp := pow7 (n := (vM M 0 4).toNat) (by omega)
  have hP1 : P7_isLeft s b a M1 := ⟨by rw [eV]; exact hY, by rw [eV]; exact hC, hs, by rw [e7]; exact hb⟩
  have esl := slM_eq hk s.toNat
  have hL := @backL_rg (vM M) (slM M s.toNat) b a
  have hF := fewN_rg (n := a) (l := backL (vM M) (slM M s.toNat) b a) hL.2
  obtain ⟨s1, s2, s3, s4⟩ := id hS
  simp only [e_wp dX7_laysSets_0 rfl, e_wp dX7_laysSets_1 rfl, e_wp dX7_laysSets_4 rfl, e_wp dX7_laysSets_5 rfl, e_wp dX7_laysSets_6 rfl, e_wp dX7_laysSets_7 rfl, e_wp dX7_laysSets_9 rfl, e_wp dX7_laysSets_11 rfl, e_wp dX7_laysSets_12 rfl, e_wp dX7_laysSets_15 rfl, e_wp dX7_laysSets_18 rfl, e_wp dX7_laysSets_19 rfl, e_wp dX7_laysSets_20 rfl, e_wp dX7_laysSets_23 rfl, e_wp dX7_laysSets_24 rfl, e_wp dX7_laysSets_26 rfl, e_wp dX7_laysSets_27 rfl, e_wp dX7_laysSets_28 rfl, e_wp dX7_laysSets_29 rfl, e_wp dX7_laysSets_30 rfl, e_wp dX7_laysSets_31 rfl, e_wp dX7_laysSets_34 rfl, e_wp dX7_laysSets_35 rfl, e_wp dX7_laysSets_37 rfl, e_wp dX7_laysSets_38 rfl, e_wp dX7_laysSets_41 rfl, e_wp dX7_laysSets_42 rfl, e_wp dX7_laysSets_43 rfl, e_wp dX7_laysSets_44 rfl, e_wp dX7_laysSets_45 rfl, e_wp dX7_laysSets_48 rfl, e_wp dX7_laysSets_50 rfl, e_wp dX7_laysSets_51 rfl, e_wp dX7_laysSets_52 rfl, e_wp dX7_laysSets_55 rfl, e_wp dX7_laysSets_58 rfl, e_wp dX7_laysSets_59 rfl, e_wp dX7_laysSets_60 rfl, e_wp dX7_laysSets_63 rfl, e_wp dX7_laysSets_64 rfl, e_wp dX7_laysSets_65 rfl, e_wp dX7_laysSets_68 rfl, e_wp dX7_laysSets_69 rfl, e_wp dX7_laysSets_70 rfl, e_wp dX7_laysSets_73 rfl, e_wp dX7_laysSets_74 rfl, e_wp dX7_laysSets_75 rfl, e_wp dX7_laysSets_78 rfl, e_wp dX7_laysSets_79 rfl, e_wp dX7_laysSets_81 rfl, e_wp dX7_laysSets_83 rfl, e_wp dX7_laysSets_84 rfl, e_wp dX7_laysSets_85 rfl, e_wp dX7_laysSets_88 rfl, e_wp dX7_laysSets_89 rfl, e_wp dX7_laysSets_92 rfl, e_wp dX7_laysSets_94 rfl, e_wp dX7_laysSets_95 rfl, e_wp dX7_laysSets_96 rfl, e_wp dX7_laysSets_97 rfl, e_wp dX7_laysSets_98 rfl, e_wp dX7_laysSets_101 rfl, e_wp dX7_laysSets_102 rfl, e_wp dX7_laysSets_103 rfl, e_wp dX7_laysSets_104 rfl, e_wp dX7_laysSets_106 rfl, e_wp dX7_laysSets_109 rfl, e_wp dX7_laysSets_112 rfl, e_wp dX7_laysSets_115 rfl, e_wp dX7_laysSets_116 rfl, e_wp dX7_laysSets_117 rfl, e_wp dX7_laysSets_120 rfl, e_wp dX7_laysSets_121 rfl, e_wp dX7_laysSets_122 rfl, e_wp dX7_laysSets_125 rfl, e_wp dX7_laysSets_126 rfl, e_wp dX7_laysSets_127 rfl, e_wp dX7_laysSets_130 rfl, e_wp dX7_laysSets_132 rfl, e_wp dX7_laysSets_133 rfl, e_wp dX7_laysSets_136 rfl, e_wp dX7_laysSets_137 rfl, e_wp dX7_laysSets_138 rfl, e_wp dX7_laysSets_141 rfl, e_wp dX7_laysSets_143 rfl, e_wp dX7_laysSets_144 rfl, e_wp dX7_laysSets_147 rfl, e_wp dX7_laysSets_148 rfl, e_wp dX7_laysSets_151 rfl, e_wp dX7_laysSets_152 rfl, e_wp dX7_laysSets_155 rfl, e_wp dX7_laysSets_157 rfl, e_wp dX7_laysSets_160 rfl, e_wp dX7_laysSets_161 rfl, e_wp dX7_laysSets_164 rfl, e_wp dX7_laysSets_167 rfl, e_wp dX7_laysSets_170 rfl, e_wp dX7_laysSets_171 rfl, e_wp dX7_laysSets_173 rfl, e_wp dX7_laysSets_176 rfl, e_wp dX7_laysSets_177 rfl, e_wp dX7_laysSets_179 rfl, e_wp dX7_laysSets_181 rfl, e_wp dX7_laysSets_182 rfl, e_wp dX7_laysSets_185 rfl, e_wp dX7_laysSets_188 rfl, e_wp dX7_laysSets_189 rfl, e_wp dX7_laysSets_192 rfl, e_wp dX7_laysSets_194 rfl, e_wp dX7_laysSets_195 rfl, e_wp dX7_laysSets_196 rfl, e_wp dX7_laysSets_198 rfl, e_wp dX7_laysSets_200 rfl, e_wp dX7_laysSets_203 rfl, e_wp dX7_laysSets_206 rfl, e_wp dX7_laysSets_207 rfl, e_wp dX7_laysSets_210 rfl, e_wp dX7_laysSets_211 rfl, e_wp dX7_laysSets_212 rfl, e_wp dX7_laysSets_213 rfl, e_wp dX7_laysSets_216 rfl, e_wp dX7_laysSets_219 rfl, e_wp dX7_laysSets_222 rfl, e_wp dX7_laysSets_225 rfl, e_wp dX7_laysSets_226 rfl, e_wp dX7_laysSets_227 rfl, e_wp dX7_laysSets_228 rfl, e_wp dX7_laysSets_231 rfl, e_wp dX7_laysSets_232 rfl, e_wp dX7_laysSets_233 rfl, e_wp dX7_laysSets_234 rfl, e_wp dX7_laysSets_237 rfl, e_wp dX7_laysSets_238 rfl, e_wp dX7_laysSets_239 rfl, e_wp dX7_laysSets_242 rfl, e_wp dX7_laysSets_243 rfl, e_wp dX7_laysSets_244 rfl, e_wp dX7_laysSets_247 rfl, e_wp dX7_laysSets_250 rfl, e_wp dX7_laysSets_251 rfl, e_wp dX7_laysSets_253 rfl, e_wp dX7_laysSets_255 rfl, e_wp dX7_laysSets_256 rfl, e_wp dX7_laysSets_259 rfl, e_wp dX7_laysSets_262 rfl, e_wp dX7_laysSets_263 rfl, e_wp dX7_laysSets_266 rfl, e_wp dX7_laysSets_268 rfl, e_wp dX7_laysSets_269 rfl, e_wp dX7_laysSets_270 rfl, e_wp dX7_laysSets_273 rfl, e_wp dX7_laysSets_274 rfl, e_wp dX7_laysSets_277 rfl, e_wp dX7_laysSets_279 rfl, e_wp dX7_laysSets_280 rfl, e_wp dX7_laysSets_281 rfl, e_wp dX7_laysSets_284 rfl, e_wp dX7_laysSets_285 rfl, e_wp dX7_laysSets_288 rfl, e_wp dX7_laysSets_290 rfl, e_wp dX7_laysSets_291 rfl, e_wp dX7_laysSets_294 rfl, e_wp dX7_laysSets_295 rfl, e_wp dX7_laysSets_298 rfl, e_wp dX7_laysSets_299 rfl, e_wp dX7_laysSets_302 rfl, e_wp dX7_laysSets_304 rfl, e_wp dX7_laysSets_305 rfl, e_wp dX7_laysSets_306 rfl, e_wp dX7_laysSets_308 rfl, e_wp dX7_laysSets_310 rfl, e_wp dX7_laysSets_311 rfl, e_wp dX7_laysSets_314 rfl, e_wp dX7_laysSets_317 rfl, e_wp dX7_laysSets_320 rfl, e_wp dX7_laysSets_321 rfl, e_wp dX7_laysSets_323 rfl, e_wp dX7_laysSets_326 rfl, e_wp dX7_laysSets_327 rfl, e_wp dX7_laysSets_329 rfl, e_wp dX7_laysSets_332 rfl, e_wp dX7_laysSets_335 rfl, e_wp dX7_laysSets_338 rfl, c7_lays, cs7_laysSets, c7_carts, P7_carts, V7_carts, g7_40, g7_107, p7_392, p7_395, p7_398, p7_401, c7_isLeft, g7_392, g7_395, g7_398, g7_401, c7_sizeOf, P7_sizeOf, V7_sizeOf, c7_isBit, P7_isBit, V7_isBit, p7_410, p7_413, g7_413, a7_1, w7_1, a7_2, w7_2, a7_3, w7_3, a7_4, w7_4, a7_5, w7_5, a7_6, w7_6, a7_7, w7_7, a7_8, w7_8, a7_9, w7_9, a7_10, w7_10, a7_11, w7_11, a7_12, w7_12, a7_13, w7_13, a7_14, w7_14, a7_15, w7_15, a7_16, w7_16, a7_17, w7_17, a7_18, w7_18, a7_19, w7_19, a7_20, w7_20, a7_21, w7_21, a7_22, w7_22, a7_23, w7_23, a7_24, w7_24, a7_25, w7_25, a7_26, w7_26, a7_27, w7_27, a7_28, w7_28, a7_29, w7_29, a7_30, w7_30, a7_31, w7_31, a7_32, w7_32, a7_33, w7_33, e_iconst, e_bipush, e_sipush, e_lconst_0, e_lconst_1, e_iload, e_iload_0, e_iload_1, e_iload_2, e_iload_3, e_lload, e_lload_0, e_lload_1, e_lload_2, e_lload_3, e_aload, e_aload_0, e_aload_1, e_aload_2, e_aload_3, e_istore, e_istore_0, e_istore_1, e_istore_2, e_istore_3, e_astore, e_astore_0, e_astore_1, e_astore_2, e_astore_3, e_lstore, e_lstore_0, e_lstore_1, e_lstore_2, e_lstore_3, e_iinc, e_iadd, e_isub, e_imul, e_ladd, e_lsub, e_lmul, e_idiv, e_irem, e_ldiv, e_lrem, e_ineg, e_lneg, e_iand, e_ior, e_ixor, e_ishl, e_ishr, e_iushr, e_lcmp, e_i2l, e_l2i, e_i2b, e_i2s, e_dup_i, e_dup_r, e_pop_i, e_pop_r, e_dup2_l, e_dup2_ir, e_dup2_ii, e_ifeq, e_ifne, e_iflt, e_ifge, e_ifgt, e_ifle, e_iceq, e_icne, e_iclt, e_icge, e_icgt, e_icle, e_goto, e_switch, e_invokevirtual, e_invokestatic, e_invokespecial, e_ret0, e_ret1, e_ret2, e_ret3, ldI_s, ldL_s, ldR_s, clO_s, ctP_s, ctS_s, mgo_0, mgo_s, pjc_s, pj_0, pj_s, lk_s, rm1_0, rm1_i, rm1_r, rm1_l, rm2_0, rm2_i, rm2_r, rm2_l, csL_s, lc_lt, lc_ge, lc_gt, lc_le, lc_eq, b01_0, b01_1, b01_01, b01_n, up2_o, up2_s, up2_u, ne_eq, reduceCtorEq, Nat.reduceAdd, Nat.reduceEqDiff, Nat.reduceLT, Nat.reduceLeDiff, Int.reduceLE, Int.reduceLT, Int.reduceAdd, Int.reduceNeg, Int.reduceMul, Int.reduceSub, Int.reduceEq, Int.reduceToNat, Int.reduceNatCast, Int.cast_ofNat_Int, ↓reduceIte, and_self, List.drop_succ_cons, List.drop_zero, List.take_succ_cons, List.take_zero, List.length_cons, List.length_nil, List.reverse_cons, List.reverse_nil, List.nil_append, List.cons_append, Option.toList, true_and, and_true, or_false, false_or, or_true, true_or, forall_const, Classical.not_not, not_false_eq_true, not_true_eq_false, false_implies, true_implies, implies_true, imp_self, up2_n]
  rw [e7, eb]
  have go0 : ∀ M2, keepM M M2 → nC (vM M) (cM M2) = tellP (vM M) → M2 0 = M1 0 → M2 31 = M1 31 → (a : Int) < ((2 ^ (vM M 0 4).toNat : Nat) : Int) → ¬ (band a (notI (toldP (vM M) b (vM M 0 4).toNat)) = 0 ∧ sameP (leftP (vM M) a (vM M 0 4).toNat) (slM M s.toNat)) → i32 ((a : Int) + 1) ∧ I_81 [ar 0, ai s, ai b, ai (toldP (vM M) b (vM M 0 4).toNat), ai (a + 1)] M2 := by
    intro M2 g1 g2 g3 g4 g5 g6
    refine ⟨by omega, hI_81 (1000 + (128 - (a + 1)) * 10 + 9) _ _ _ _ _ (by omega) ⟨rfl, rfl, g1, g2, rfl, a + 1, by omega, by omega, ?_, fun j hj => ?_, rfl⟩⟩
    · rw [backL_0 g6]
      unfold stS
      rw [g3]
      exact hS
    · rw [backL_0 g6, g4]; exact ho j hj
  refine ⟨fun q => ?_, fun q => ⟨fun z => go0 M1 hk hC rfl rfl q (fun w => z w.1), fun z => ⟨hP1, fun v M2 hR => ?_⟩⟩⟩
  · have ea : a = 2 ^ (vM M 0 4).toNat := by omega
    subst ea
    refine hI_253 (7 - 0) _ _ (by omega) ⟨keep_u0 (keep_u0 (keep_u0 hk (by decide)) (by decide)) (by decide), ?_, ?_, ?_, ?_, fun j hj => ?_, 0, rfl, by omega, ?_, rfl⟩
    · simp only [up2_r]; exact s1
    · simp only [up2_r]; exact s2
    · simp [up2_r]; rw [s3]
    · simp only [up2_r]; exact s4
    · rw [up2_o (by decide), up2_o (by decide), up2_o (by decide)]; exact ho j hj
    · simp [up2_r, bestN, s1]
  · obtain ⟨r1, r2⟩ := hR
    rw [eV, esl] at r2
    have r0 : M2 0 = M1 0 := r1 _ (by decide)
    have r31 : M2 31 = M1 31 := r1 _ (by decide)
    have hk2 : keepM M M2 := keep_tr hk (keep_fr r1 (by decide))
    have hC2 : nC (vM M) (cM M2) = tellP (vM M) := by rw [cM_frm r1 (by decide)]; exact hC
    subst r2
    refine ⟨fun w => ?_, fun w => ?_⟩
    · rw [b01_0, Classical.not_not] at w
      have hc := And.intro z w
      have eL := backL_1 (V := vM M) (s := slM M s.toNat) (b := b) (x := a) hc
      have hlen := hL.1
      rw [r0, s1, s2, s3, s4]
      have go : ∀ (f : Int) (M4 : Mm), f = fewN ((a : Int) :: backL (vM M) (slM M s.toNat) b a) → keepM M M4 → nC (vM M) (cM M4) = tellP (vM M) → M4 31 = M1 31 → M4 0 47 = ((backL (vM M) (slM M s.toNat) b a).length : Int) + 1 → M4 0 48 = band (allN (toldP (vM M) b (vM M 0 4).toNat) (backL (vM M) (slM M s.toNat) b a)) a → M4 0 49 = bor (anyN (backL (vM M) (slM M s.toNat) b a)) a → M4 0 50 = f → I_179 [ar 0, ai s, ai b, ai (toldP (vM M) b (vM M 0 4).toNat), ai a, ai 0] M4 := by
        intro f M4 hf g1 g2 g3 g4 g5 g6 g7
        refine hI_179 (1000 + (128 - a) * 10 + (8 - 0)) _ _ _ _ _ _ (by omega) ⟨rfl, rfl, g1, g2, rfl, a, 0, rfl, rfl, by omega, by omega, hc, ⟨?_, ?_, ?_, ?_⟩, fun j hj => by omega, fun j _ hj => ?_, rfl⟩
        · rw [g4, eL]; rfl
        · rw [g5, eL]; rfl
        · rw [g6, eL]; rfl
        · rw [g7, hf, eL]
        · rw [g3]; exact ho j hj
      have k3 : ∀ x y z, keepM M (up2 (up2 (up2 M2 0 47 x) 0 48 y) 0 49 z) := fun x y z => keep_u0 (keep_u0 (keep_u0 hk2 (by decide)) (by decide)) (by decide)
      have c3 : ∀ x y z, nC (vM M) (cM (up2 (up2 (up2 M2 0 47 x) 0 48 y) 0 49 z)) = tellP (vM M) := fun x y z => by
        rw [cM_x (by decide) (by decide) (by decide), cM_x (by decide) (by decide) (by decide), cM_x (by decide) (by decide) (by decide)]; exact hC2
      have ef : fewN ((a : Int) :: backL (vM M) (slM M s.toNat) b a) = if fewN (backL (vM M) (slM M s.toNat) b a) = -1 ∨ szP a < szP (fewN (backL (vM M) (slM M s.toNat) b a)) then (a : Int) else fewN (backL (vM M) (slM M s.toNat) b a) := rfl
      have g50 : ∀ x y z, up2 (up2 (up2 M2 0 47 x) 0 48 y) 0 49 z 0 50 = fewN (backL (vM M) (slM M s.toNat) b a) := fun x y z => by
        rw [up2_n (by decide), up2_n (by decide), up2_n (by decide), r0, s4]
      have y1 : (fewN (backL (vM M) (slM M s.toNat) b a) = -1 ∨ szP a < szP (fewN (backL (vM M) (slM M s.toNat) b a))) → ∀ x y z, x = ((backL (vM M) (slM M s.toNat) b a).length : Int) + 1 → y = band (allN (toldP (vM M) b (vM M 0 4).toNat) (backL (vM M) (slM M s.toNat) b a)) a → z = bor (anyN (backL (vM M) (slM M s.toNat) b a)) a → I_179 [ar 0, ai s, ai b, ai (toldP (vM M) b (vM M 0 4).toNat), ai a, ai 0] (up2 (up2 (up2 (up2 M2 0 47 x) 0 48 y) 0 49 z) 0 50 a) := by
        rintro w2 x y z rfl rfl rfl
        refine go a _ (by rw [ef, if_pos w2]) (keep_u0 (k3 _ _ _) (by decide)) (by rw [cM_x (by decide) (by decide) (by decide)]; exact c3 _ _ _) ?_ ?_ ?_ ?_ ?_
        · exact r31
        · simp [up2_r]
        · simp [up2_r]
        · simp [up2_r]
        · simp [up2_r]
      have y0 : ¬ (fewN (backL (vM M) (slM M s.toNat) b a) = -1 ∨ szP a < szP (fewN (backL (vM M) (slM M s.toNat) b a))) → ∀ x y z, x = ((backL (vM M) (slM M s.toNat) b a).length : Int) + 1 → y = band (allN (toldP (vM M) b (vM M 0 4).toNat) (backL (vM M) (slM M s.toNat) b a)) a → z = bor (anyN (backL (vM M) (slM M s.toNat) b a)) a → I_179 [ar 0, ai s, ai b, ai (toldP (vM M) b (vM M 0 4).toNat), ai a, ai 0] (up2 (up2 (up2 M2 0 47 x) 0 48 y) 0 49 z) := by
        rintro w2 x y z rfl rfl rfl
        refine go _ _ (by rw [ef, if_neg w2]) (k3 _ _ _) (c3 _ _ _) ?_ ?_ ?_ ?_ (g50 _ _ _)
        · exact r31
        · simp [up2_r]
        · simp [up2_r]
        · simp [up2_r]
      repeat (refine And.intro (by omega) ?_)
      refine ⟨fun u => y1 (Or.inl u) _ _ _ rfl rfl rfl, fun u => ⟨by omega, by omega, fun u2 => y0 (by omega) _ _ _ rfl rfl rfl, fun u2 => y1 (Or.inr u2) _ _ _ rfl rfl rfl⟩⟩
    · rw [b01_0] at w
      exact go0 M2 hk2 hC2 r0 r31 q (fun y => w y.2)
set_option maxHeartbeats 4000000 in
set_option maxRecDepth 100000 in
theorem at7_laysSets_179 {s b : Int} {M : Mm} {Q : Option AV → Mm → Prop} (hM : okM sh7 M) (h_s : i32 s) (h_b : i32 b) (hP : P7_laysSets s b M) (hQ : ∀ (M1 : Mm), R7_laysSets s b M M1 → Q none M1) {m : Nat} {s_ b_ t x c : Int} {M1 : Mm} (hM1 : okM sh7 M1) (h_s_ : i32 s_) (h_b_ : i32 b_) (h_t : i32 t) (h_x : i32 x) (h_c : i32 c) (hJ : J7_laysSets_179 s b M m s_ b_ t x c M1) (I_9 : List AV → Mm → Prop) (hI_9 : ∀ (m_ : Nat) (y_s_ : Int) (y_b_ : Int) (y_t : Int) (y_c : Int) (M2 : Mm), m_ < m → J7_laysSets_9 s b M m_ y_s_ y_b_ y_t y_c M2 → I_9 [ar 0, ai y_s_, ai y_b_, ai y_t, ai y_c] M2) (I_81 : List AV → Mm → Prop) (hI_81 : ∀ (m_ : Nat) (y_s_ : Int) (y_b_ : Int) (y_t : Int) (y_x : Int) (M2 : Mm), m_ < m → J7_laysSets_81 s b M m_ y_s_ y_b_ y_t y_x M2 → I_81 [ar 0, ai y_s_, ai y_b_, ai y_t, ai y_x] M2) (I_179 : List AV → Mm → Prop) (hI_179 : ∀ (m_ : Nat) (y_s_ : Int) (y_b_ : Int) (y_t : Int) (y_x : Int) (y_c : Int) (M2 : Mm), m_ < m → J7_laysSets_179 s b M m_ y_s_ y_b_ y_t y_x y_c M2 → I_179 [ar 0, ai y_s_, ai y_b_, ai y_t, ai y_x, ai y_c] M2) (I_253 : List AV → Mm → Prop) (hI_253 : ∀ (m_ : Nat) (y_c : Int) (M2 : Mm), m_ < m → J7_laysSets_253 s b M m_ y_c M2 → I_253 [ar 0, ai y_c] M2) : wp (tb7 (csL cs7_laysSets)) sh7 6 0 cX7_laysSets [(9, [0, 1, 2, 3, 4], I_9), (81, [0, 1, 2, 3, 4], I_81), (179, [0, 1, 2, 3, 4, 5], I_179), (253, [0, 4], I_253)] Q 400 179 [(0, ar 0), (1, ai s_), (2, ai b_), (3, ai t), (4, ai x), (5, ai c)] [] M1 := by
  obtain ⟨rfl, rfl, hk, hC, rfl, a, i, rfl, rfl, ha, hi, hc, hS, ho1, ho2, rfl⟩ := hJ
  obtain ⟨hY, hs, hb⟩ := id hP
  have h4 : 0 ≤ M 7 4 ∧ M 7 4 ≤ 7 := hY.2.2.2.2.1
  have e7 : M1 7 = M 7 := hk.1 _ (by decide)
  have hp := pow7 (n := (vM M 0 4).toNat) (by show (M 7 4).toNat ≤ 7; omega)
  have eL := backL_1 (V := vM M) (s := slM M s.toNat) (b := b) (x := a) hc
  have hL := @backL_rg (vM M) (slM M s.toNat) b a
  simp only [e_wp dX7_laysSets_0 rfl, e_wp dX7_laysSets_1 rfl, e_wp dX7_laysSets_4 rfl, e_wp dX7_laysSets_5 rfl, e_wp dX7_laysSets_6 rfl, e_wp dX7_laysSets_7 rfl, e_wp dX7_laysSets_9 rfl, e_wp dX7_laysSets_11 rfl, e_wp dX7_laysSets_12 rfl, e_wp dX7_laysSets_15 rfl, e_wp dX7_laysSets_18 rfl, e_wp dX7_laysSets_19 rfl, e_wp dX7_laysSets_20 rfl, e_wp dX7_laysSets_23 rfl, e_wp dX7_laysSets_24 rfl, e_wp dX7_laysSets_26 rfl, e_wp dX7_laysSets_27 rfl, e_wp dX7_laysSets_28 rfl, e_wp dX7_laysSets_29 rfl, e_wp dX7_laysSets_30 rfl, e_wp dX7_laysSets_31 rfl, e_wp dX7_laysSets_34 rfl, e_wp dX7_laysSets_35 rfl, e_wp dX7_laysSets_37 rfl, e_wp dX7_laysSets_38 rfl, e_wp dX7_laysSets_41 rfl, e_wp dX7_laysSets_42 rfl, e_wp dX7_laysSets_43 rfl, e_wp dX7_laysSets_44 rfl, e_wp dX7_laysSets_45 rfl, e_wp dX7_laysSets_48 rfl, e_wp dX7_laysSets_50 rfl, e_wp dX7_laysSets_51 rfl, e_wp dX7_laysSets_52 rfl, e_wp dX7_laysSets_55 rfl, e_wp dX7_laysSets_58 rfl, e_wp dX7_laysSets_59 rfl, e_wp dX7_laysSets_60 rfl, e_wp dX7_laysSets_63 rfl, e_wp dX7_laysSets_64 rfl, e_wp dX7_laysSets_65 rfl, e_wp dX7_laysSets_68 rfl, e_wp dX7_laysSets_69 rfl, e_wp dX7_laysSets_70 rfl, e_wp dX7_laysSets_73 rfl, e_wp dX7_laysSets_74 rfl, e_wp dX7_laysSets_75 rfl, e_wp dX7_laysSets_78 rfl, e_wp dX7_laysSets_79 rfl, e_wp dX7_laysSets_81 rfl, e_wp dX7_laysSets_83 rfl, e_wp dX7_laysSets_84 rfl, e_wp dX7_laysSets_85 rfl, e_wp dX7_laysSets_88 rfl, e_wp dX7_laysSets_89 rfl, e_wp dX7_laysSets_92 rfl, e_wp dX7_laysSets_94 rfl, e_wp dX7_laysSets_95 rfl, e_wp dX7_laysSets_96 rfl, e_wp dX7_laysSets_97 rfl, e_wp dX7_laysSets_98 rfl, e_wp dX7_laysSets_101 rfl, e_wp dX7_laysSets_102 rfl, e_wp dX7_laysSets_103 rfl, e_wp dX7_laysSets_104 rfl, e_wp dX7_laysSets_106 rfl, e_wp dX7_laysSets_109 rfl, e_wp dX7_laysSets_112 rfl, e_wp dX7_laysSets_115 rfl, e_wp dX7_laysSets_116 rfl, e_wp dX7_laysSets_117 rfl, e_wp dX7_laysSets_120 rfl, e_wp dX7_laysSets_121 rfl, e_wp dX7_laysSets_122 rfl, e_wp dX7_laysSets_125 rfl, e_wp dX7_laysSets_126 rfl, e_wp dX7_laysSets_127 rfl, e_wp dX7_laysSets_130 rfl, e_wp dX7_laysSets_132 rfl, e_wp dX7_laysSets_133 rfl, e_wp dX7_laysSets_136 rfl, e_wp dX7_laysSets_137 rfl, e_wp dX7_laysSets_138 rfl, e_wp dX7_laysSets_141 rfl, e_wp dX7_laysSets_143 rfl, e_wp dX7_laysSets_144 rfl, e_wp dX7_laysSets_147 rfl, e_wp dX7_laysSets_148 rfl, e_wp dX7_laysSets_151 rfl, e_wp dX7_laysSets_152 rfl, e_wp dX7_laysSets_155 rfl, e_wp dX7_laysSets_157 rfl, e_wp dX7_laysSets_160 rfl, e_wp dX7_laysSets_161 rfl, e_wp dX7_laysSets_164 rfl, e_wp dX7_laysSets_167 rfl, e_wp dX7_laysSets_170 rfl, e_wp dX7_laysSets_171 rfl, e_wp dX7_laysSets_173 rfl, e_wp dX7_laysSets_176 rfl, e_wp dX7_laysSets_177 rfl, e_wp dX7_laysSets_179 rfl, e_wp dX7_laysSets_181 rfl, e_wp dX7_laysSets_182 rfl, e_wp dX7_laysSets_185 rfl, e_wp dX7_laysSets_188 rfl, e_wp dX7_laysSets_189 rfl, e_wp dX7_laysSets_192 rfl, e_wp dX7_laysSets_194 rfl, e_wp dX7_laysSets_195 rfl, e_wp dX7_laysSets_196 rfl, e_wp dX7_laysSets_198 rfl, e_wp dX7_laysSets_200 rfl, e_wp dX7_laysSets_203 rfl, e_wp dX7_laysSets_206 rfl, e_wp dX7_laysSets_207 rfl, e_wp dX7_laysSets_210 rfl, e_wp dX7_laysSets_211 rfl, e_wp dX7_laysSets_212 rfl, e_wp dX7_laysSets_213 rfl, e_wp dX7_laysSets_216 rfl, e_wp dX7_laysSets_219 rfl, e_wp dX7_laysSets_222 rfl, e_wp dX7_laysSets_225 rfl, e_wp dX7_laysSets_226 rfl, e_wp dX7_laysSets_227 rfl, e_wp dX7_laysSets_228 rfl, e_wp dX7_laysSets_231 rfl, e_wp dX7_laysSets_232 rfl, e_wp dX7_laysSets_233 rfl, e_wp dX7_laysSets_234 rfl, e_wp dX7_laysSets_237 rfl, e_wp dX7_laysSets_238 rfl, e_wp dX7_laysSets_239 rfl, e_wp dX7_laysSets_242 rfl, e_wp dX7_laysSets_243 rfl, e_wp dX7_laysSets_244 rfl, e_wp dX7_laysSets_247 rfl, e_wp dX7_laysSets_250 rfl, e_wp dX7_laysSets_251 rfl, e_wp dX7_laysSets_253 rfl, e_wp dX7_laysSets_255 rfl, e_wp dX7_laysSets_256 rfl, e_wp dX7_laysSets_259 rfl, e_wp dX7_laysSets_262 rfl, e_wp dX7_laysSets_263 rfl, e_wp dX7_laysSets_266 rfl, e_wp dX7_laysSets_268 rfl, e_wp dX7_laysSets_269 rfl, e_wp dX7_laysSets_270 rfl, e_wp dX7_laysSets_273 rfl, e_wp dX7_laysSets_274 rfl, e_wp dX7_laysSets_277 rfl, e_wp dX7_laysSets_279 rfl, e_wp dX7_laysSets_280 rfl, e_wp dX7_laysSets_281 rfl, e_wp dX7_laysSets_284 rfl, e_wp dX7_laysSets_285 rfl, e_wp dX7_laysSets_288 rfl, e_wp dX7_laysSets_290 rfl, e_wp dX7_laysSets_291 rfl, e_wp dX7_laysSets_294 rfl, e_wp dX7_laysSets_295 rfl, e_wp dX7_laysSets_298 rfl, e_wp dX7_laysSets_299 rfl, e_wp dX7_laysSets_302 rfl, e_wp dX7_laysSets_304 rfl, e_wp dX7_laysSets_305 rfl, e_wp dX7_laysSets_306 rfl, e_wp dX7_laysSets_308 rfl, e_wp dX7_laysSets_310 rfl, e_wp dX7_laysSets_311 rfl, e_wp dX7_laysSets_314 rfl, e_wp dX7_laysSets_317 rfl, e_wp dX7_laysSets_320 rfl, e_wp dX7_laysSets_321 rfl, e_wp dX7_laysSets_323 rfl, e_wp dX7_laysSets_326 rfl, e_wp dX7_laysSets_327 rfl, e_wp dX7_laysSets_329 rfl, e_wp dX7_laysSets_332 rfl, e_wp dX7_laysSets_335 rfl, e_wp dX7_laysSets_338 rfl, c7_lays, cs7_laysSets, c7_carts, P7_carts, V7_carts, g7_40, g7_107, p7_392, p7_395, p7_398, p7_401, c7_isLeft, g7_392, g7_395, g7_398, g7_401, c7_sizeOf, P7_sizeOf, V7_sizeOf, c7_isBit, P7_isBit, V7_isBit, p7_410, p7_413, g7_413, a7_1, w7_1, a7_2, w7_2, a7_3, w7_3, a7_4, w7_4, a7_5, w7_5, a7_6, w7_6, a7_7, w7_7, a7_8, w7_8, a7_9, w7_9, a7_10, w7_10, a7_11, w7_11, a7_12, w7_12, a7_13, w7_13, a7_14, w7_14, a7_15, w7_15, a7_16, w7_16, a7_17, w7_17, a7_18, w7_18, a7_19, w7_19, a7_20, w7_20, a7_21, w7_21, a7_22, w7_22, a7_23, w7_23, a7_24, w7_24, a7_25, w7_25, a7_26, w7_26, a7_27, w7_27, a7_28, w7_28, a7_29, w7_29, a7_30, w7_30, a7_31, w7_31, a7_32, w7_32, a7_33, w7_33, e_iconst, e_bipush, e_sipush, e_lconst_0, e_lconst_1, e_iload, e_iload_0, e_iload_1, e_iload_2, e_iload_3, e_lload, e_lload_0, e_lload_1, e_lload_2, e_lload_3, e_aload, e_aload_0, e_aload_1, e_aload_2, e_aload_3, e_istore, e_istore_0, e_istore_1, e_istore_2, e_istore_3, e_astore, e_astore_0, e_astore_1, e_astore_2, e_astore_3, e_lstore, e_lstore_0, e_lstore_1, e_lstore_2, e_lstore_3, e_iinc, e_iadd, e_isub, e_imul, e_ladd, e_lsub, e_lmul, e_idiv, e_irem, e_ldiv, e_lrem, e_ineg, e_lneg, e_iand, e_ior, e_ixor, e_ishl, e_ishr, e_iushr, e_lcmp, e_i2l, e_l2i, e_i2b, e_i2s, e_dup_i, e_dup_r, e_pop_i, e_pop_r, e_dup2_l, e_dup2_ir, e_dup2_ii, e_ifeq, e_ifne, e_iflt, e_ifge, e_ifgt, e_ifle, e_iceq, e_icne, e_iclt, e_icge, e_icgt, e_icle, e_goto, e_switch, e_invokevirtual, e_invokestatic, e_invokespecial, e_ret0, e_ret1, e_ret2, e_ret3, ldI_s, ldL_s, ldR_s, clO_s, ctP_s, ctS_s, mgo_0, mgo_s, pjc_s, pj_0, pj_s, lk_s, rm1_0, rm1_i, rm1_r, rm1_l, rm2_0, rm2_i, rm2_r, rm2_l, csL_s, lc_lt, lc_ge, lc_gt, lc_le, lc_eq, b01_0, b01_1, b01_01, b01_n, up2_o, up2_s, up2_u, ne_eq, reduceCtorEq, Nat.reduceAdd, Nat.reduceEqDiff, Nat.reduceLT, Nat.reduceLeDiff, Int.reduceLE, Int.reduceLT, Int.reduceAdd, Int.reduceNeg, Int.reduceMul, Int.reduceSub, Int.reduceEq, Int.reduceToNat, Int.reduceNatCast, Int.cast_ofNat_Int, ↓reduceIte, and_self, List.drop_succ_cons, List.drop_zero, List.take_succ_cons, List.take_zero, List.length_cons, List.length_nil, List.reverse_cons, List.reverse_nil, List.nil_append, List.cons_append, Option.toList, true_and, and_true, or_false, false_or, or_true, true_or, forall_const, Classical.not_not, not_false_eq_true, not_true_eq_false, false_implies, true_implies, implies_true, imp_self, e7, Int.toNat_natCast]
  refine ⟨fun q => ⟨by omega, ?_⟩, fun q => ?_⟩
  · refine hI_81 (1000 + (128 - (a + 1)) * 10 + 9) _ _ _ _ _ (by omega) ⟨rfl, rfl, hk, hC, rfl, a + 1, by omega, by omega, hS, fun j hj => ho1 j (by omega), rfl⟩
  · have hob := @oftN_b i (backL (vM M) (slM M s.toNat) b a)
    rw [ho2 i (Nat.le_refl _) q]
    have go : ∀ x, x = b01 (bitP a i) → I_179 [ar 0, ai s, ai b, ai (toldP (vM M) b (vM M 0 4).toNat), ai a, ai (i + 1)] (up2 M1 31 i (oftN i (backL (vM M) (slM M s.toNat) b a) + x)) := by
      intro x hx
      refine hI_179 (1000 + (128 - a) * 10 + (8 - (i + 1))) _ _ _ _ _ _ (by omega) ⟨rfl, rfl, keep_u hk (by decide), ?_, rfl, a, i + 1, rfl, by omega, ha, by omega, hc, ?_, fun j hj => ?_, fun j hj1 hj2 => ?_, rfl⟩
      · rw [cM_u (by decide) (by decide) (by decide) (by decide)]; exact hC
      · unfold stS
        rw [up2_o (by decide), up2_o (by decide), up2_o (by decide), up2_o (by decide)]
        exact hS
      · by_cases e : j = i
        · rw [e, up2_s, eL, hx]; rfl
        · rw [up2_n e]; exact ho1 j (by omega)
      · rw [up2_n (by omega)]; exact ho2 j (by omega) hj2
    repeat (refine And.intro (by omega) ?_)
    refine ⟨fun z => ⟨by omega, by omega, by omega, go _ (b01_f z).symm⟩, fun z => ⟨by omega, by omega, by omega, go _ (b01_t z).symm⟩⟩
set_option maxHeartbeats 4000000 in
set_option maxRecDepth 100000 in
theorem at7_laysSets_253 {s b : Int} {M : Mm} {Q : Option AV → Mm → Prop} (hM : okM sh7 M) (h_s : i32 s) (h_b : i32 b) (hP : P7_laysSets s b M) (hQ : ∀ (M1 : Mm), R7_laysSets s b M M1 → Q none M1) {m : Nat} {c : Int} {M1 : Mm} (hM1 : okM sh7 M1) (h_c : i32 c) (hJ : J7_laysSets_253 s b M m c M1) (I_9 : List AV → Mm → Prop) (hI_9 : ∀ (m_ : Nat) (y_s_ : Int) (y_b_ : Int) (y_t : Int) (y_c : Int) (M2 : Mm), m_ < m → J7_laysSets_9 s b M m_ y_s_ y_b_ y_t y_c M2 → I_9 [ar 0, ai y_s_, ai y_b_, ai y_t, ai y_c] M2) (I_81 : List AV → Mm → Prop) (hI_81 : ∀ (m_ : Nat) (y_s_ : Int) (y_b_ : Int) (y_t : Int) (y_x : Int) (M2 : Mm), m_ < m → J7_laysSets_81 s b M m_ y_s_ y_b_ y_t y_x M2 → I_81 [ar 0, ai y_s_, ai y_b_, ai y_t, ai y_x] M2) (I_179 : List AV → Mm → Prop) (hI_179 : ∀ (m_ : Nat) (y_s_ : Int) (y_b_ : Int) (y_t : Int) (y_x : Int) (y_c : Int) (M2 : Mm), m_ < m → J7_laysSets_179 s b M m_ y_s_ y_b_ y_t y_x y_c M2 → I_179 [ar 0, ai y_s_, ai y_b_, ai y_t, ai y_x, ai y_c] M2) (I_253 : List AV → Mm → Prop) (hI_253 : ∀ (m_ : Nat) (y_c : Int) (M2 : Mm), m_ < m → J7_laysSets_253 s b M m_ y_c M2 → I_253 [ar 0, ai y_c] M2) : wp (tb7 (csL cs7_laysSets)) sh7 6 0 cX7_laysSets [(9, [0, 1, 2, 3, 4], I_9), (81, [0, 1, 2, 3, 4], I_81), (179, [0, 1, 2, 3, 4, 5], I_179), (253, [0, 4], I_253)] Q 400 253 [(0, ar 0), (4, ai c)] [] M1 := by
  obtain ⟨hk, s1, s2, s3, s4, ho, a, rfl, ha, hB, rfl⟩ := hJ
  obtain ⟨hY, hs, hb⟩ := id hP
  have h4 : 0 ≤ M 7 4 ∧ M 7 4 ≤ 7 := hY.2.2.2.2.1
  have e7 : M1 7 = M 7 := hk.1 _ (by decide)
  have hp := pow7 (n := (vM M 0 4).toNat) (by show (M 7 4).toNat ≤ 7; omega)
  have hL := (@backL_rg (vM M) (slM M s.toNat) b (2 ^ (vM M 0 4).toNat)).1
  simp only [e_wp dX7_laysSets_0 rfl, e_wp dX7_laysSets_1 rfl, e_wp dX7_laysSets_4 rfl, e_wp dX7_laysSets_5 rfl, e_wp dX7_laysSets_6 rfl, e_wp dX7_laysSets_7 rfl, e_wp dX7_laysSets_9 rfl, e_wp dX7_laysSets_11 rfl, e_wp dX7_laysSets_12 rfl, e_wp dX7_laysSets_15 rfl, e_wp dX7_laysSets_18 rfl, e_wp dX7_laysSets_19 rfl, e_wp dX7_laysSets_20 rfl, e_wp dX7_laysSets_23 rfl, e_wp dX7_laysSets_24 rfl, e_wp dX7_laysSets_26 rfl, e_wp dX7_laysSets_27 rfl, e_wp dX7_laysSets_28 rfl, e_wp dX7_laysSets_29 rfl, e_wp dX7_laysSets_30 rfl, e_wp dX7_laysSets_31 rfl, e_wp dX7_laysSets_34 rfl, e_wp dX7_laysSets_35 rfl, e_wp dX7_laysSets_37 rfl, e_wp dX7_laysSets_38 rfl, e_wp dX7_laysSets_41 rfl, e_wp dX7_laysSets_42 rfl, e_wp dX7_laysSets_43 rfl, e_wp dX7_laysSets_44 rfl, e_wp dX7_laysSets_45 rfl, e_wp dX7_laysSets_48 rfl, e_wp dX7_laysSets_50 rfl, e_wp dX7_laysSets_51 rfl, e_wp dX7_laysSets_52 rfl, e_wp dX7_laysSets_55 rfl, e_wp dX7_laysSets_58 rfl, e_wp dX7_laysSets_59 rfl, e_wp dX7_laysSets_60 rfl, e_wp dX7_laysSets_63 rfl, e_wp dX7_laysSets_64 rfl, e_wp dX7_laysSets_65 rfl, e_wp dX7_laysSets_68 rfl, e_wp dX7_laysSets_69 rfl, e_wp dX7_laysSets_70 rfl, e_wp dX7_laysSets_73 rfl, e_wp dX7_laysSets_74 rfl, e_wp dX7_laysSets_75 rfl, e_wp dX7_laysSets_78 rfl, e_wp dX7_laysSets_79 rfl, e_wp dX7_laysSets_81 rfl, e_wp dX7_laysSets_83 rfl, e_wp dX7_laysSets_84 rfl, e_wp dX7_laysSets_85 rfl, e_wp dX7_laysSets_88 rfl, e_wp dX7_laysSets_89 rfl, e_wp dX7_laysSets_92 rfl, e_wp dX7_laysSets_94 rfl, e_wp dX7_laysSets_95 rfl, e_wp dX7_laysSets_96 rfl, e_wp dX7_laysSets_97 rfl, e_wp dX7_laysSets_98 rfl, e_wp dX7_laysSets_101 rfl, e_wp dX7_laysSets_102 rfl, e_wp dX7_laysSets_103 rfl, e_wp dX7_laysSets_104 rfl, e_wp dX7_laysSets_106 rfl, e_wp dX7_laysSets_109 rfl, e_wp dX7_laysSets_112 rfl, e_wp dX7_laysSets_115 rfl, e_wp dX7_laysSets_116 rfl, e_wp dX7_laysSets_117 rfl, e_wp dX7_laysSets_120 rfl, e_wp dX7_laysSets_121 rfl, e_wp dX7_laysSets_122 rfl, e_wp dX7_laysSets_125 rfl, e_wp dX7_laysSets_126 rfl, e_wp dX7_laysSets_127 rfl, e_wp dX7_laysSets_130 rfl, e_wp dX7_laysSets_132 rfl, e_wp dX7_laysSets_133 rfl, e_wp dX7_laysSets_136 rfl, e_wp dX7_laysSets_137 rfl, e_wp dX7_laysSets_138 rfl, e_wp dX7_laysSets_141 rfl, e_wp dX7_laysSets_143 rfl, e_wp dX7_laysSets_144 rfl, e_wp dX7_laysSets_147 rfl, e_wp dX7_laysSets_148 rfl, e_wp dX7_laysSets_151 rfl, e_wp dX7_laysSets_152 rfl, e_wp dX7_laysSets_155 rfl, e_wp dX7_laysSets_157 rfl, e_wp dX7_laysSets_160 rfl, e_wp dX7_laysSets_161 rfl, e_wp dX7_laysSets_164 rfl, e_wp dX7_laysSets_167 rfl, e_wp dX7_laysSets_170 rfl, e_wp dX7_laysSets_171 rfl, e_wp dX7_laysSets_173 rfl, e_wp dX7_laysSets_176 rfl, e_wp dX7_laysSets_177 rfl, e_wp dX7_laysSets_179 rfl, e_wp dX7_laysSets_181 rfl, e_wp dX7_laysSets_182 rfl, e_wp dX7_laysSets_185 rfl, e_wp dX7_laysSets_188 rfl, e_wp dX7_laysSets_189 rfl, e_wp dX7_laysSets_192 rfl, e_wp dX7_laysSets_194 rfl, e_wp dX7_laysSets_195 rfl, e_wp dX7_laysSets_196 rfl, e_wp dX7_laysSets_198 rfl, e_wp dX7_laysSets_200 rfl, e_wp dX7_laysSets_203 rfl, e_wp dX7_laysSets_206 rfl, e_wp dX7_laysSets_207 rfl, e_wp dX7_laysSets_210 rfl, e_wp dX7_laysSets_211 rfl, e_wp dX7_laysSets_212 rfl, e_wp dX7_laysSets_213 rfl, e_wp dX7_laysSets_216 rfl, e_wp dX7_laysSets_219 rfl, e_wp dX7_laysSets_222 rfl, e_wp dX7_laysSets_225 rfl, e_wp dX7_laysSets_226 rfl, e_wp dX7_laysSets_227 rfl, e_wp dX7_laysSets_228 rfl, e_wp dX7_laysSets_231 rfl, e_wp dX7_laysSets_232 rfl, e_wp dX7_laysSets_233 rfl, e_wp dX7_laysSets_234 rfl, e_wp dX7_laysSets_237 rfl, e_wp dX7_laysSets_238 rfl, e_wp dX7_laysSets_239 rfl, e_wp dX7_laysSets_242 rfl, e_wp dX7_laysSets_243 rfl, e_wp dX7_laysSets_244 rfl, e_wp dX7_laysSets_247 rfl, e_wp dX7_laysSets_250 rfl, e_wp dX7_laysSets_251 rfl, e_wp dX7_laysSets_253 rfl, e_wp dX7_laysSets_255 rfl, e_wp dX7_laysSets_256 rfl, e_wp dX7_laysSets_259 rfl, e_wp dX7_laysSets_262 rfl, e_wp dX7_laysSets_263 rfl, e_wp dX7_laysSets_266 rfl, e_wp dX7_laysSets_268 rfl, e_wp dX7_laysSets_269 rfl, e_wp dX7_laysSets_270 rfl, e_wp dX7_laysSets_273 rfl, e_wp dX7_laysSets_274 rfl, e_wp dX7_laysSets_277 rfl, e_wp dX7_laysSets_279 rfl, e_wp dX7_laysSets_280 rfl, e_wp dX7_laysSets_281 rfl, e_wp dX7_laysSets_284 rfl, e_wp dX7_laysSets_285 rfl, e_wp dX7_laysSets_288 rfl, e_wp dX7_laysSets_290 rfl, e_wp dX7_laysSets_291 rfl, e_wp dX7_laysSets_294 rfl, e_wp dX7_laysSets_295 rfl, e_wp dX7_laysSets_298 rfl, e_wp dX7_laysSets_299 rfl, e_wp dX7_laysSets_302 rfl, e_wp dX7_laysSets_304 rfl, e_wp dX7_laysSets_305 rfl, e_wp dX7_laysSets_306 rfl, e_wp dX7_laysSets_308 rfl, e_wp dX7_laysSets_310 rfl, e_wp dX7_laysSets_311 rfl, e_wp dX7_laysSets_314 rfl, e_wp dX7_laysSets_317 rfl, e_wp dX7_laysSets_320 rfl, e_wp dX7_laysSets_321 rfl, e_wp dX7_laysSets_323 rfl, e_wp dX7_laysSets_326 rfl, e_wp dX7_laysSets_327 rfl, e_wp dX7_laysSets_329 rfl, e_wp dX7_laysSets_332 rfl, e_wp dX7_laysSets_335 rfl, e_wp dX7_laysSets_338 rfl, c7_lays, cs7_laysSets, c7_carts, P7_carts, V7_carts, g7_40, g7_107, p7_392, p7_395, p7_398, p7_401, c7_isLeft, g7_392, g7_395, g7_398, g7_401, c7_sizeOf, P7_sizeOf, V7_sizeOf, c7_isBit, P7_isBit, V7_isBit, p7_410, p7_413, g7_413, a7_1, w7_1, a7_2, w7_2, a7_3, w7_3, a7_4, w7_4, a7_5, w7_5, a7_6, w7_6, a7_7, w7_7, a7_8, w7_8, a7_9, w7_9, a7_10, w7_10, a7_11, w7_11, a7_12, w7_12, a7_13, w7_13, a7_14, w7_14, a7_15, w7_15, a7_16, w7_16, a7_17, w7_17, a7_18, w7_18, a7_19, w7_19, a7_20, w7_20, a7_21, w7_21, a7_22, w7_22, a7_23, w7_23, a7_24, w7_24, a7_25, w7_25, a7_26, w7_26, a7_27, w7_27, a7_28, w7_28, a7_29, w7_29, a7_30, w7_30, a7_31, w7_31, a7_32, w7_32, a7_33, w7_33, e_iconst, e_bipush, e_sipush, e_lconst_0, e_lconst_1, e_iload, e_iload_0, e_iload_1, e_iload_2, e_iload_3, e_lload, e_lload_0, e_lload_1, e_lload_2, e_lload_3, e_aload, e_aload_0, e_aload_1, e_aload_2, e_aload_3, e_istore, e_istore_0, e_istore_1, e_istore_2, e_istore_3, e_astore, e_astore_0, e_astore_1, e_astore_2, e_astore_3, e_lstore, e_lstore_0, e_lstore_1, e_lstore_2, e_lstore_3, e_iinc, e_iadd, e_isub, e_imul, e_ladd, e_lsub, e_lmul, e_idiv, e_irem, e_ldiv, e_lrem, e_ineg, e_lneg, e_iand, e_ior, e_ixor, e_ishl, e_ishr, e_iushr, e_lcmp, e_i2l, e_l2i, e_i2b, e_i2s, e_dup_i, e_dup_r, e_pop_i, e_pop_r, e_dup2_l, e_dup2_ir, e_dup2_ii, e_ifeq, e_ifne, e_iflt, e_ifge, e_ifgt, e_ifle, e_iceq, e_icne, e_iclt, e_icge, e_icgt, e_icle, e_goto, e_switch, e_invokevirtual, e_invokestatic, e_invokespecial, e_ret0, e_ret1, e_ret2, e_ret3, ldI_s, ldL_s, ldR_s, clO_s, ctP_s, ctS_s, mgo_0, mgo_s, pjc_s, pj_0, pj_s, lk_s, rm1_0, rm1_i, rm1_r, rm1_l, rm2_0, rm2_i, rm2_r, rm2_l, csL_s, lc_lt, lc_ge, lc_gt, lc_le, lc_eq, b01_0, b01_1, b01_01, b01_n, up2_o, up2_s, up2_u, ne_eq, reduceCtorEq, Nat.reduceAdd, Nat.reduceEqDiff, Nat.reduceLT, Nat.reduceLeDiff, Int.reduceLE, Int.reduceLT, Int.reduceAdd, Int.reduceNeg, Int.reduceMul, Int.reduceSub, Int.reduceEq, Int.reduceToNat, Int.reduceNatCast, Int.cast_ofNat_Int, ↓reduceIte, and_self, List.drop_succ_cons, List.drop_zero, List.take_succ_cons, List.take_zero, List.length_cons, List.length_nil, List.reverse_cons, List.reverse_nil, List.nil_append, List.cons_append, Option.toList, true_and, and_true, or_false, false_or, or_true, true_or, forall_const, Classical.not_not, not_false_eq_true, not_true_eq_false, false_implies, true_implies, implies_true, imp_self, e7, Int.toNat_natCast]
  refine ⟨fun q => ?_, fun q => ?_⟩
  · refine hQ _ ⟨hk, s1, s2, s3, s4, ?_⟩
    rw [hB, show (vM M 0 4).toNat = a by show (M 7 4).toNat = a; omega]
  · have hob := @oftN_b a (backS (vM M) (slM M s.toNat) b)
    rw [s1, ho a q]
    have hlen : (backS (vM M) (slM M s.toNat) b).length ≤ 128 := by show (backL _ _ _ _).length ≤ 128; omega
    generalize hLL : backS (vM M) (slM M s.toNat) b = L at *
    have ew : ∀ x, x = (if (L.length : Int) - oftN a L < oftN a L then oftN a L else (L.length : Int) - oftN a L) → x = wrsN L a := fun x h => h
    have el : M1 0 52 = (bestN (wrsN L) L.length a).2 := congrArg Prod.snd hB
    have eb : M1 0 51 = (bestN (wrsN L) L.length a).1 := congrArg Prod.fst hB
    have go1 : ∀ x, x = wrsN L a → x < M1 0 52 → I_253 [ar 0, ai (a + 1)] (up2 (up2 M1 0 51 a) 0 52 x) := by
      intro x hx hlt
      refine hI_253 (7 - (a + 1)) _ _ (by omega) ⟨keep_u0 (keep_u0 hk (by decide)) (by decide), ?_, ?_, ?_, ?_, fun j hj => ?_, a + 1, by omega, by omega, ?_, rfl⟩
      · rw [hLL]; simp only [up2_r]; exact s1
      · rw [hLL]; simp only [up2_r]; exact s2
      · rw [hLL]; simp only [up2_r]; exact s3
      · rw [hLL]; simp only [up2_r]; exact s4
      · rw [hLL, up2_o (by decide), up2_o (by decide)]; exact ho j hj
      · rw [hLL, bestN_1 (by rw [← hx, ← el]; exact hlt), up2_n (by decide), up2_s, up2_s, hx]
    have go0 : ∀ x, x = wrsN L a → M1 0 52 ≤ x → I_253 [ar 0, ai (a + 1)] M1 := by
      intro x hx hlt
      refine hI_253 (7 - (a + 1)) _ _ (by omega) ⟨hk, by rw [hLL]; exact s1, by rw [hLL]; exact s2, by rw [hLL]; exact s3, by rw [hLL]; exact s4, by rw [hLL]; exact ho, a + 1, by omega, by omega, ?_, rfl⟩
      rw [hLL, bestN_0 (by rw [← hx, ← el]; omega)]; exact hB
    repeat (refine And.intro (by omega) ?_)
    refine ⟨fun z => ?_, fun z => ?_⟩
    · repeat (refine And.intro (by omega) ?_)
      have hx := ew _ (if_neg (by omega)).symm
      refine ⟨fun w => ⟨by omega, go1 _ hx w⟩, fun w => ⟨by omega, go0 _ hx w⟩⟩
    · repeat (refine And.intro (by omega) ?_)
      have hx := ew _ (if_pos z).symm
      refine ⟨fun w => ⟨by omega, go1 _ hx w⟩, fun w => ⟨by omega, go0 _ hx w⟩⟩
set_option maxHeartbeats 4000000 in
set_option maxRecDepth 100000 in
theorem m7_laysSets : MOK cl7 sh7 tyl7 [] 3 yX7_laysSets cX7_laysSets 6 none sp7_laysSets := by
  refine mok_of (own := RX7) (tb := tb7 (csL cs7_laysSets)) (rt := 0) (fuel := 400) (fun avs M Q => [(9, [0, 1, 2, 3, 4], fun m_ vs M1 => ∃ y_s_ : Int, ∃ y_b_ : Int, ∃ y_t : Int, ∃ y_c : Int, vs = [ar 0, ai y_s_, ai y_b_, ai y_t, ai y_c] ∧ J7_laysSets_9 (pa true [0, 0] avs 0) (pa true [0, 0] avs 1) M m_ y_s_ y_b_ y_t y_c M1), (81, [0, 1, 2, 3, 4], fun m_ vs M1 => ∃ y_s_ : Int, ∃ y_b_ : Int, ∃ y_t : Int, ∃ y_x : Int, vs = [ar 0, ai y_s_, ai y_b_, ai y_t, ai y_x] ∧ J7_laysSets_81 (pa true [0, 0] avs 0) (pa true [0, 0] avs 1) M m_ y_s_ y_b_ y_t y_x M1), (179, [0, 1, 2, 3, 4, 5], fun m_ vs M1 => ∃ y_s_ : Int, ∃ y_b_ : Int, ∃ y_t : Int, ∃ y_x : Int, ∃ y_c : Int, vs = [ar 0, ai y_s_, ai y_b_, ai y_t, ai y_x, ai y_c] ∧ J7_laysSets_179 (pa true [0, 0] avs 0) (pa true [0, 0] avs 1) M m_ y_s_ y_b_ y_t y_x y_c M1), (253, [0, 4], fun m_ vs M1 => ∃ y_c : Int, vs = [ar 0, ai y_c] ∧ J7_laysSets_253 (pa true [0, 0] avs 0) (pa true [0, 0] avs 1) M m_ y_c M1)]) (by decide) rfl nil_nw (tbOK7 _) rfl (csL_all ?_) ?_ ?_ ?_
  · intro q hq
    simp only [cs7_laysSets, List.mem_cons, List.not_mem_nil, or_false] at hq
    rcases hq with rfl | rfl | rfl | rfl | rfl
    · exact cg7_lays (by decide)
    · exact cg7_carts (by decide)
    · exact cg7_isLeft (by decide)
    · exact cg7_sizeOf (by decide)
    · exact cg7_isBit (by decide)
  · intro avs M Q hsp
    obtain ⟨xs, hx⟩ := spV_un _ _ _ hsp
    obtain ⟨e, hl⟩ := unA_mkT hx
    obtain ⟨s, b, rfl⟩ := len2 hl
    have e : avs = [ar 0, ai s, ai b] := e
    subst e
    simp [szL, isL]
  · intro avs M Q hM hav hsp
    obtain ⟨xs, hx⟩ := spV_un _ _ _ hsp
    obtain ⟨e, hl⟩ := unA_mkT hx
    obtain ⟨s, b, rfl⟩ := len2 hl
    have e : avs = [ar 0, ai s, ai b] := e
    subst e
    exact in7_laysSets hM (hav (ai s) (by simp)) (hav (ai b) (by simp)) hsp.1 hsp.2 _ (fun m_ y_s_ y_b_ y_t y_c M2 hJ => ⟨m_, y_s_, y_b_, y_t, y_c, rfl, hJ⟩) _ (fun m_ y_s_ y_b_ y_t y_x M2 hJ => ⟨m_, y_s_, y_b_, y_t, y_x, rfl, hJ⟩) _ (fun m_ y_s_ y_b_ y_t y_x y_c M2 hJ => ⟨m_, y_s_, y_b_, y_t, y_x, y_c, rfl, hJ⟩) _ (fun m_ y_c M2 hJ => ⟨m_, y_c, rfl, hJ⟩)
  · intro avs M Q hM hav hsp q hq m_ vs M1 hM1 hv hJ
    obtain ⟨xs, hx⟩ := spV_un _ _ _ hsp
    obtain ⟨e, hl⟩ := unA_mkT hx
    obtain ⟨s, b, rfl⟩ := len2 hl
    have e : avs = [ar 0, ai s, ai b] := e
    subst e
    simp only [List.mem_cons, List.not_mem_nil, or_false] at hq
    rcases hq with rfl | rfl | rfl | rfl
    · obtain ⟨y_s_, y_b_, y_t, y_c, rfl, hJ⟩ := hJ
      exact at7_laysSets_9 hM (hav (ai s) (by simp)) (hav (ai b) (by simp)) hsp.1 hsp.2 hM1 (hv (1, ai y_s_) (List.mem_of_getElem? (i := 1) rfl)) (hv (2, ai y_b_) (List.mem_of_getElem? (i := 2) rfl)) (hv (3, ai y_t) (List.mem_of_getElem? (i := 3) rfl)) (hv (4, ai y_c) (List.mem_of_getElem? (i := 4) rfl)) hJ _ (fun m2 z_s_ z_b_ z_t z_c M2 hm hJ2 => ⟨m2, hm, z_s_, z_b_, z_t, z_c, rfl, hJ2⟩) _ (fun m2 z_s_ z_b_ z_t z_x M2 hm hJ2 => ⟨m2, hm, z_s_, z_b_, z_t, z_x, rfl, hJ2⟩) _ (fun m2 z_s_ z_b_ z_t z_x z_c M2 hm hJ2 => ⟨m2, hm, z_s_, z_b_, z_t, z_x, z_c, rfl, hJ2⟩) _ (fun m2 z_c M2 hm hJ2 => ⟨m2, hm, z_c, rfl, hJ2⟩)
    · obtain ⟨y_s_, y_b_, y_t, y_x, rfl, hJ⟩ := hJ
      exact at7_laysSets_81 hM (hav (ai s) (by simp)) (hav (ai b) (by simp)) hsp.1 hsp.2 hM1 (hv (1, ai y_s_) (List.mem_of_getElem? (i := 1) rfl)) (hv (2, ai y_b_) (List.mem_of_getElem? (i := 2) rfl)) (hv (3, ai y_t) (List.mem_of_getElem? (i := 3) rfl)) (hv (4, ai y_x) (List.mem_of_getElem? (i := 4) rfl)) hJ _ (fun m2 z_s_ z_b_ z_t z_c M2 hm hJ2 => ⟨m2, hm, z_s_, z_b_, z_t, z_c, rfl, hJ2⟩) _ (fun m2 z_s_ z_b_ z_t z_x M2 hm hJ2 => ⟨m2, hm, z_s_, z_b_, z_t, z_x, rfl, hJ2⟩) _ (fun m2 z_s_ z_b_ z_t z_x z_c M2 hm hJ2 => ⟨m2, hm, z_s_, z_b_, z_t, z_x, z_c, rfl, hJ2⟩) _ (fun m2 z_c M2 hm hJ2 => ⟨m2, hm, z_c, rfl, hJ2⟩)
    · obtain ⟨y_s_, y_b_, y_t, y_x, y_c, rfl, hJ⟩ := hJ
      exact at7_laysSets_179 hM (hav (ai s) (by simp)) (hav (ai b) (by simp)) hsp.1 hsp.2 hM1 (hv (1, ai y_s_) (List.mem_of_getElem? (i := 1) rfl)) (hv (2, ai y_b_) (List.mem_of_getElem? (i := 2) rfl)) (hv (3, ai y_t) (List.mem_of_getElem? (i := 3) rfl)) (hv (4, ai y_x) (List.mem_of_getElem? (i := 4) rfl)) (hv (5, ai y_c) (List.mem_of_getElem? (i := 5) rfl)) hJ _ (fun m2 z_s_ z_b_ z_t z_c M2 hm hJ2 => ⟨m2, hm, z_s_, z_b_, z_t, z_c, rfl, hJ2⟩) _ (fun m2 z_s_ z_b_ z_t z_x M2 hm hJ2 => ⟨m2, hm, z_s_, z_b_, z_t, z_x, rfl, hJ2⟩) _ (fun m2 z_s_ z_b_ z_t z_x z_c M2 hm hJ2 => ⟨m2, hm, z_s_, z_b_, z_t, z_x, z_c, rfl, hJ2⟩) _ (fun m2 z_c M2 hm hJ2 => ⟨m2, hm, z_c, rfl, hJ2⟩)
    · obtain ⟨y_c, rfl, hJ⟩ := hJ
      exact at7_laysSets_253 hM (hav (ai s) (by simp)) (hav (ai b) (by simp)) hsp.1 hsp.2 hM1 (hv (4, ai y_c) (List.mem_of_getElem? (i := 1) rfl)) hJ _ (fun m2 z_s_ z_b_ z_t z_c M2 hm hJ2 => ⟨m2, hm, z_s_, z_b_, z_t, z_c, rfl, hJ2⟩) _ (fun m2 z_s_ z_b_ z_t z_x M2 hm hJ2 => ⟨m2, hm, z_s_, z_b_, z_t, z_x, rfl, hJ2⟩) _ (fun m2 z_s_ z_b_ z_t z_x z_c M2 hm hJ2 => ⟨m2, hm, z_s_, z_b_, z_t, z_x, z_c, rfl, hJ2⟩) _ (fun m2 z_c M2 hm hJ2 => ⟨m2, hm, z_c, rfl, hJ2⟩)
theorem cg7_laysSets {lvl : Nat} (h : 3 < lvl) : CG RX7 cl7 sh7 tyl7 [] lvl 1 419 3 sp7_laysSets := cg_V (sg := [0, 0]) nil_nw spV_mono spV_un m7_laysSets h rfl (by decide) rfl rfl ⟨rfl, by decide, by decide, rfl⟩ q2086 q2088 qs112 q138 q2089
theorem set_use {M M1 : Mm} {s b : Int} (hR : R7_laysSets s b (up2 M 0 0 0) M1) : keepM M M1 ∧ M1 0 47 = (backS (vM M) (slM M s.toNat) b).length ∧ M1 0 48 = allN (toldP (vM M) b (vM M 0 4).toNat) (backS (vM M) (slM M s.toNat) b) ∧ M1 0 49 = band (toldP (vM M) b (vM M 0 4).toNat) (notI (anyN (backS (vM M) (slM M s.toNat) b))) ∧ M1 0 50 = fewN (backS (vM M) (slM M s.toNat) b) ∧ (M1 0 51, M1 0 52) = bestN (wrsN (backS (vM M) (slM M s.toNat) b)) (backS (vM M) (slM M s.toNat) b).length (vM M 0 4).toNat := by
  have hk0 : keepM M (up2 M 0 0 0) := keep_u0 keep_rf (by decide)
  have hV : vM (up2 M 0 0 0) = vM M := keep_v hk0 0
  have hs := slM_eq hk0 s.toNat
  obtain ⟨h1, h2⟩ := hR
  rw [hV, hs] at h2
  exact ⟨keep_tr hk0 h1, h2⟩
theorem why_use {V : Vy} {sl : Nat → Sl} {s b : Int} (h : whyP V sl s b = 0) : (0 ≤ s ∧ s ≤ 3) ∧ isB V b := by
  unfold whyP at h
  split at h
  · rename_i q; exact q
  · omega
def A_sets (V : Vy) (sl : Nat → Sl) (s b : Int) : Int := if whyP V sl s b = 0 then (let L := backS V (sl s.toNat) b; (L.length : Int)) else whyP V sl s b
def P7_sets (s : Int) (b : Int) (M : Mm) : Prop := okY (vM M)
def R7_sets (s : Int) (b : Int) (M : Mm) (v : Int) (M1 : Mm) : Prop := keepM M M1 ∧ v = A_sets (vM M) (slM M) s b
def sp7_sets : Spec := spR true [0, 0] 1 (fun x M => P7_sets (x 0) (x 1) M) (fun x M v M1 => R7_sets (x 0) (x 1) M v M1)
theorem c7_sets {s b : Int} {M : Mm} {Q : Option AV → Mm → Prop} : sp7_sets [ar 0, ai s, ai b] M Q = (P7_sets s b M ∧ ∀ (v : Int) (M1 : Mm), R7_sets s b M v M1 → Q (some (ai v)) M1) := rfl
def cs7_sets : List (Nat × Nat × Nat × Spec) := [(416, 1, 3, sp7_whyNot), (419, 1, 3, sp7_laysSets)]
set_option maxHeartbeats 4000000 in
set_option maxRecDepth 100000 in
theorem in7_sets {s b : Int} {M : Mm} {Q : Option AV → Mm → Prop} (hM : okM sh7 M) (h_s : i32 s) (h_b : i32 b) (hP : P7_sets s b M) (hQ : ∀ (v : Int) (M1 : Mm), R7_sets s b M v M1 → Q (some (ai v)) M1) : wp (tb7 (csL cs7_sets)) sh7 4 1 cX7_sets [] Q 400 0 [(0, ar 0), (1, ai s), (2, ai b)] [] M := by
  have h3 : 0 ≤ M 7 3 ∧ M 7 3 ≤ 3 := hP.2.2.2.1
  have hk0 : keepM M (up2 M 0 0 0) := keep_u0 keep_rf (by decide)
  have hV : vM (up2 M 0 0 0) = vM M := keep_v hk0 0
  have hP0 : okY (vM (up2 M 0 0 0)) := by rw [hV]; exact hP
  have hs : slM (up2 M 0 0 0) = slM M := funext fun k => slM_eq hk0 k
  simp only [e_wp dX7_sets_0 rfl, e_wp dX7_sets_1 rfl, e_wp dX7_sets_2 rfl, e_wp dX7_sets_5 rfl, e_wp dX7_sets_6 rfl, e_wp dX7_sets_7 rfl, e_wp dX7_sets_8 rfl, e_wp dX7_sets_11 rfl, e_wp dX7_sets_12 rfl, e_wp dX7_sets_13 rfl, e_wp dX7_sets_16 rfl, e_wp dX7_sets_17 rfl, e_wp dX7_sets_18 rfl, e_wp dX7_sets_19 rfl, e_wp dX7_sets_20 rfl, e_wp dX7_sets_21 rfl, e_wp dX7_sets_24 rfl, e_wp dX7_sets_25 rfl, e_wp dX7_sets_28 rfl, p7_116, c7_whyNot, P7_whyNot, V7_whyNot, cs7_sets, c7_laysSets, g7_392, e_iconst, e_bipush, e_sipush, e_lconst_0, e_lconst_1, e_iload, e_iload_0, e_iload_1, e_iload_2, e_iload_3, e_lload, e_lload_0, e_lload_1, e_lload_2, e_lload_3, e_aload, e_aload_0, e_aload_1, e_aload_2, e_aload_3, e_istore, e_istore_0, e_istore_1, e_istore_2, e_istore_3, e_astore, e_astore_0, e_astore_1, e_astore_2, e_astore_3, e_lstore, e_lstore_0, e_lstore_1, e_lstore_2, e_lstore_3, e_iinc, e_iadd, e_isub, e_imul, e_ladd, e_lsub, e_lmul, e_idiv, e_irem, e_ldiv, e_lrem, e_ineg, e_lneg, e_iand, e_ior, e_ixor, e_ishl, e_ishr, e_iushr, e_lcmp, e_i2l, e_l2i, e_i2b, e_i2s, e_dup_i, e_dup_r, e_pop_i, e_pop_r, e_dup2_l, e_dup2_ir, e_dup2_ii, e_ifeq, e_ifne, e_iflt, e_ifge, e_ifgt, e_ifle, e_iceq, e_icne, e_iclt, e_icge, e_icgt, e_icle, e_goto, e_switch, e_invokevirtual, e_invokestatic, e_invokespecial, e_ret0, e_ret1, e_ret2, e_ret3, ldI_s, ldL_s, ldR_s, clO_s, ctP_s, ctS_s, mgo_0, mgo_s, pjc_s, pj_0, pj_s, lk_s, rm1_0, rm1_i, rm1_r, rm1_l, rm2_0, rm2_i, rm2_r, rm2_l, csL_s, lc_lt, lc_ge, lc_gt, lc_le, lc_eq, b01_0, b01_1, b01_01, b01_n, up2_o, up2_s, up2_u, ne_eq, reduceCtorEq, Nat.reduceAdd, Nat.reduceEqDiff, Nat.reduceLT, Nat.reduceLeDiff, Int.reduceLE, Int.reduceLT, Int.reduceAdd, Int.reduceNeg, Int.reduceMul, Int.reduceSub, Int.reduceEq, Int.reduceToNat, Int.reduceNatCast, Int.cast_ofNat_Int, ↓reduceIte, and_self, List.drop_succ_cons, List.drop_zero, List.take_succ_cons, List.take_zero, List.length_cons, List.length_nil, List.reverse_cons, List.reverse_nil, List.nil_append, List.cons_append, Option.toList, true_and, and_true, or_false, false_or, or_true, true_or, forall_const, Classical.not_not, not_false_eq_true, not_true_eq_false, false_implies, true_implies, implies_true, imp_self]
  rw [hV, hs]
  refine ⟨h3, fun q => ⟨⟨hP0, why_use q⟩, fun M1 hR => ?_⟩, fun q => hQ _ _ ⟨hk0, (if_neg q).symm⟩⟩
  obtain ⟨k1, r1, r2, r3, r4, r5⟩ := set_use hR
  have eA : A_sets (vM M) (slM M) s b = _ := if_pos q
  exact hQ _ _ ⟨k1, (r1).trans eA.symm⟩
set_option maxHeartbeats 4000000 in
set_option maxRecDepth 100000 in
theorem m7_sets : MOK cl7 sh7 tyl7 [] 4 yX7_sets cX7_sets 4 (some .int) sp7_sets := by
  refine mok_of (own := RX7) (tb := tb7 (csL cs7_sets)) (rt := 1) (fuel := 400) (fun avs M Q => []) (by decide) rfl nil_nw (tbOK7 _) rfl (csL_all ?_) ?_ ?_ ?_
  · intro q hq
    simp only [cs7_sets, List.mem_cons, List.not_mem_nil, or_false] at hq
    rcases hq with rfl | rfl
    · exact cg7_whyNot (by decide)
    · exact cg7_laysSets (by decide)
  · intro avs M Q hsp
    obtain ⟨xs, hx⟩ := spR_un _ _ _ hsp
    obtain ⟨e, hl⟩ := unA_mkT hx
    obtain ⟨s, b, rfl⟩ := len2 hl
    have e : avs = [ar 0, ai s, ai b] := e
    subst e
    simp [szL, isL]
  · intro avs M Q hM hav hsp
    obtain ⟨xs, hx⟩ := spR_un _ _ _ hsp
    obtain ⟨e, hl⟩ := unA_mkT hx
    obtain ⟨s, b, rfl⟩ := len2 hl
    have e : avs = [ar 0, ai s, ai b] := e
    subst e
    exact in7_sets hM (hav (ai s) (by simp)) (hav (ai b) (by simp)) hsp.1 hsp.2
  · intro avs M Q hM hav hsp q hq m_ vs M1 hM1 hv hJ
    obtain ⟨xs, hx⟩ := spR_un _ _ _ hsp
    obtain ⟨e, hl⟩ := unA_mkT hx
    obtain ⟨s, b, rfl⟩ := len2 hl
    have e : avs = [ar 0, ai s, ai b] := e
    subst e
    cases hq
def A_surely (V : Vy) (sl : Nat → Sl) (s b : Int) : Int := if whyP V sl s b = 0 then (let L := backS V (sl s.toNat) b; if (L.length : Int) = 0 then -1 else allN (toldP V b (V 0 4).toNat) L) else whyP V sl s b
def P7_surely (s : Int) (b : Int) (M : Mm) : Prop := okY (vM M)
def R7_surely (s : Int) (b : Int) (M : Mm) (v : Int) (M1 : Mm) : Prop := keepM M M1 ∧ v = A_surely (vM M) (slM M) s b
def sp7_surely : Spec := spR true [0, 0] 1 (fun x M => P7_surely (x 0) (x 1) M) (fun x M v M1 => R7_surely (x 0) (x 1) M v M1)
theorem c7_surely {s b : Int} {M : Mm} {Q : Option AV → Mm → Prop} : sp7_surely [ar 0, ai s, ai b] M Q = (P7_surely s b M ∧ ∀ (v : Int) (M1 : Mm), R7_surely s b M v M1 → Q (some (ai v)) M1) := rfl
def cs7_surely : List (Nat × Nat × Nat × Spec) := [(416, 1, 3, sp7_whyNot), (419, 1, 3, sp7_laysSets)]
set_option maxHeartbeats 4000000 in
set_option maxRecDepth 100000 in
theorem in7_surely {s b : Int} {M : Mm} {Q : Option AV → Mm → Prop} (hM : okM sh7 M) (h_s : i32 s) (h_b : i32 b) (hP : P7_surely s b M) (hQ : ∀ (v : Int) (M1 : Mm), R7_surely s b M v M1 → Q (some (ai v)) M1) : wp (tb7 (csL cs7_surely)) sh7 4 1 cX7_surely [] Q 400 0 [(0, ar 0), (1, ai s), (2, ai b)] [] M := by
  have h3 : 0 ≤ M 7 3 ∧ M 7 3 ≤ 3 := hP.2.2.2.1
  have hk0 : keepM M (up2 M 0 0 0) := keep_u0 keep_rf (by decide)
  have hV : vM (up2 M 0 0 0) = vM M := keep_v hk0 0
  have hP0 : okY (vM (up2 M 0 0 0)) := by rw [hV]; exact hP
  have hs : slM (up2 M 0 0 0) = slM M := funext fun k => slM_eq hk0 k
  simp only [e_wp dX7_surely_0 rfl, e_wp dX7_surely_1 rfl, e_wp dX7_surely_2 rfl, e_wp dX7_surely_5 rfl, e_wp dX7_surely_6 rfl, e_wp dX7_surely_7 rfl, e_wp dX7_surely_8 rfl, e_wp dX7_surely_11 rfl, e_wp dX7_surely_12 rfl, e_wp dX7_surely_13 rfl, e_wp dX7_surely_16 rfl, e_wp dX7_surely_17 rfl, e_wp dX7_surely_18 rfl, e_wp dX7_surely_19 rfl, e_wp dX7_surely_20 rfl, e_wp dX7_surely_21 rfl, e_wp dX7_surely_24 rfl, e_wp dX7_surely_25 rfl, e_wp dX7_surely_28 rfl, e_wp dX7_surely_31 rfl, e_wp dX7_surely_32 rfl, e_wp dX7_surely_35 rfl, e_wp dX7_surely_36 rfl, e_wp dX7_surely_39 rfl, p7_116, c7_whyNot, P7_whyNot, V7_whyNot, cs7_surely, c7_laysSets, g7_392, g7_395, e_iconst, e_bipush, e_sipush, e_lconst_0, e_lconst_1, e_iload, e_iload_0, e_iload_1, e_iload_2, e_iload_3, e_lload, e_lload_0, e_lload_1, e_lload_2, e_lload_3, e_aload, e_aload_0, e_aload_1, e_aload_2, e_aload_3, e_istore, e_istore_0, e_istore_1, e_istore_2, e_istore_3, e_astore, e_astore_0, e_astore_1, e_astore_2, e_astore_3, e_lstore, e_lstore_0, e_lstore_1, e_lstore_2, e_lstore_3, e_iinc, e_iadd, e_isub, e_imul, e_ladd, e_lsub, e_lmul, e_idiv, e_irem, e_ldiv, e_lrem, e_ineg, e_lneg, e_iand, e_ior, e_ixor, e_ishl, e_ishr, e_iushr, e_lcmp, e_i2l, e_l2i, e_i2b, e_i2s, e_dup_i, e_dup_r, e_pop_i, e_pop_r, e_dup2_l, e_dup2_ir, e_dup2_ii, e_ifeq, e_ifne, e_iflt, e_ifge, e_ifgt, e_ifle, e_iceq, e_icne, e_iclt, e_icge, e_icgt, e_icle, e_goto, e_switch, e_invokevirtual, e_invokestatic, e_invokespecial, e_ret0, e_ret1, e_ret2, e_ret3, ldI_s, ldL_s, ldR_s, clO_s, ctP_s, ctS_s, mgo_0, mgo_s, pjc_s, pj_0, pj_s, lk_s, rm1_0, rm1_i, rm1_r, rm1_l, rm2_0, rm2_i, rm2_r, rm2_l, csL_s, lc_lt, lc_ge, lc_gt, lc_le, lc_eq, b01_0, b01_1, b01_01, b01_n, up2_o, up2_s, up2_u, ne_eq, reduceCtorEq, Nat.reduceAdd, Nat.reduceEqDiff, Nat.reduceLT, Nat.reduceLeDiff, Int.reduceLE, Int.reduceLT, Int.reduceAdd, Int.reduceNeg, Int.reduceMul, Int.reduceSub, Int.reduceEq, Int.reduceToNat, Int.reduceNatCast, Int.cast_ofNat_Int, ↓reduceIte, and_self, List.drop_succ_cons, List.drop_zero, List.take_succ_cons, List.take_zero, List.length_cons, List.length_nil, List.reverse_cons, List.reverse_nil, List.nil_append, List.cons_append, Option.toList, true_and, and_true, or_false, false_or, or_true, true_or, forall_const, Classical.not_not, not_false_eq_true, not_true_eq_false, false_implies, true_implies, implies_true, imp_self]
  rw [hV, hs]
  refine ⟨h3, fun q => ⟨⟨hP0, why_use q⟩, fun M1 hR => ?_⟩, fun q => hQ _ _ ⟨hk0, (if_neg q).symm⟩⟩
  obtain ⟨k1, r1, r2, r3, r4, r5⟩ := set_use hR
  have eA : A_surely (vM M) (slM M) s b = _ := if_pos q
  rw [r1]
  refine ⟨fun z => hQ _ _ ⟨k1, ?_⟩, fun z => hQ _ _ ⟨k1, ?_⟩⟩ <;> rw [eA] <;> simp only [z, if_true, if_false, Int.natCast_eq_zero] <;> first | rfl | assumption | (simp_all)
set_option maxHeartbeats 4000000 in
set_option maxRecDepth 100000 in
theorem m7_surely : MOK cl7 sh7 tyl7 [] 4 yX7_surely cX7_surely 4 (some .int) sp7_surely := by
  refine mok_of (own := RX7) (tb := tb7 (csL cs7_surely)) (rt := 1) (fuel := 400) (fun avs M Q => []) (by decide) rfl nil_nw (tbOK7 _) rfl (csL_all ?_) ?_ ?_ ?_
  · intro q hq
    simp only [cs7_surely, List.mem_cons, List.not_mem_nil, or_false] at hq
    rcases hq with rfl | rfl
    · exact cg7_whyNot (by decide)
    · exact cg7_laysSets (by decide)
  · intro avs M Q hsp
    obtain ⟨xs, hx⟩ := spR_un _ _ _ hsp
    obtain ⟨e, hl⟩ := unA_mkT hx
    obtain ⟨s, b, rfl⟩ := len2 hl
    have e : avs = [ar 0, ai s, ai b] := e
    subst e
    simp [szL, isL]
  · intro avs M Q hM hav hsp
    obtain ⟨xs, hx⟩ := spR_un _ _ _ hsp
    obtain ⟨e, hl⟩ := unA_mkT hx
    obtain ⟨s, b, rfl⟩ := len2 hl
    have e : avs = [ar 0, ai s, ai b] := e
    subst e
    exact in7_surely hM (hav (ai s) (by simp)) (hav (ai b) (by simp)) hsp.1 hsp.2
  · intro avs M Q hM hav hsp q hq m_ vs M1 hM1 hv hJ
    obtain ⟨xs, hx⟩ := spR_un _ _ _ hsp
    obtain ⟨e, hl⟩ := unA_mkT hx
    obtain ⟨s, b, rfl⟩ := len2 hl
    have e : avs = [ar 0, ai s, ai b] := e
    subst e
    cases hq
def A_never (V : Vy) (sl : Nat → Sl) (s b : Int) : Int := if whyP V sl s b = 0 then (let L := backS V (sl s.toNat) b; if (L.length : Int) = 0 then -1 else band (toldP V b (V 0 4).toNat) (notI (anyN L))) else whyP V sl s b
def P7_never (s : Int) (b : Int) (M : Mm) : Prop := okY (vM M)
def R7_never (s : Int) (b : Int) (M : Mm) (v : Int) (M1 : Mm) : Prop := keepM M M1 ∧ v = A_never (vM M) (slM M) s b
def sp7_never : Spec := spR true [0, 0] 1 (fun x M => P7_never (x 0) (x 1) M) (fun x M v M1 => R7_never (x 0) (x 1) M v M1)
theorem c7_never {s b : Int} {M : Mm} {Q : Option AV → Mm → Prop} : sp7_never [ar 0, ai s, ai b] M Q = (P7_never s b M ∧ ∀ (v : Int) (M1 : Mm), R7_never s b M v M1 → Q (some (ai v)) M1) := rfl
def cs7_never : List (Nat × Nat × Nat × Spec) := [(416, 1, 3, sp7_whyNot), (419, 1, 3, sp7_laysSets)]
set_option maxHeartbeats 4000000 in
set_option maxRecDepth 100000 in
theorem in7_never {s b : Int} {M : Mm} {Q : Option AV → Mm → Prop} (hM : okM sh7 M) (h_s : i32 s) (h_b : i32 b) (hP : P7_never s b M) (hQ : ∀ (v : Int) (M1 : Mm), R7_never s b M v M1 → Q (some (ai v)) M1) : wp (tb7 (csL cs7_never)) sh7 4 1 cX7_never [] Q 400 0 [(0, ar 0), (1, ai s), (2, ai b)] [] M := by
  have h3 : 0 ≤ M 7 3 ∧ M 7 3 ≤ 3 := hP.2.2.2.1
  have hk0 : keepM M (up2 M 0 0 0) := keep_u0 keep_rf (by decide)
  have hV : vM (up2 M 0 0 0) = vM M := keep_v hk0 0
  have hP0 : okY (vM (up2 M 0 0 0)) := by rw [hV]; exact hP
  have hs : slM (up2 M 0 0 0) = slM M := funext fun k => slM_eq hk0 k
  simp only [e_wp dX7_never_0 rfl, e_wp dX7_never_1 rfl, e_wp dX7_never_2 rfl, e_wp dX7_never_5 rfl, e_wp dX7_never_6 rfl, e_wp dX7_never_7 rfl, e_wp dX7_never_8 rfl, e_wp dX7_never_11 rfl, e_wp dX7_never_12 rfl, e_wp dX7_never_13 rfl, e_wp dX7_never_16 rfl, e_wp dX7_never_17 rfl, e_wp dX7_never_18 rfl, e_wp dX7_never_19 rfl, e_wp dX7_never_20 rfl, e_wp dX7_never_21 rfl, e_wp dX7_never_24 rfl, e_wp dX7_never_25 rfl, e_wp dX7_never_28 rfl, e_wp dX7_never_31 rfl, e_wp dX7_never_32 rfl, e_wp dX7_never_35 rfl, e_wp dX7_never_36 rfl, e_wp dX7_never_39 rfl, p7_116, c7_whyNot, P7_whyNot, V7_whyNot, cs7_never, c7_laysSets, g7_392, g7_398, e_iconst, e_bipush, e_sipush, e_lconst_0, e_lconst_1, e_iload, e_iload_0, e_iload_1, e_iload_2, e_iload_3, e_lload, e_lload_0, e_lload_1, e_lload_2, e_lload_3, e_aload, e_aload_0, e_aload_1, e_aload_2, e_aload_3, e_istore, e_istore_0, e_istore_1, e_istore_2, e_istore_3, e_astore, e_astore_0, e_astore_1, e_astore_2, e_astore_3, e_lstore, e_lstore_0, e_lstore_1, e_lstore_2, e_lstore_3, e_iinc, e_iadd, e_isub, e_imul, e_ladd, e_lsub, e_lmul, e_idiv, e_irem, e_ldiv, e_lrem, e_ineg, e_lneg, e_iand, e_ior, e_ixor, e_ishl, e_ishr, e_iushr, e_lcmp, e_i2l, e_l2i, e_i2b, e_i2s, e_dup_i, e_dup_r, e_pop_i, e_pop_r, e_dup2_l, e_dup2_ir, e_dup2_ii, e_ifeq, e_ifne, e_iflt, e_ifge, e_ifgt, e_ifle, e_iceq, e_icne, e_iclt, e_icge, e_icgt, e_icle, e_goto, e_switch, e_invokevirtual, e_invokestatic, e_invokespecial, e_ret0, e_ret1, e_ret2, e_ret3, ldI_s, ldL_s, ldR_s, clO_s, ctP_s, ctS_s, mgo_0, mgo_s, pjc_s, pj_0, pj_s, lk_s, rm1_0, rm1_i, rm1_r, rm1_l, rm2_0, rm2_i, rm2_r, rm2_l, csL_s, lc_lt, lc_ge, lc_gt, lc_le, lc_eq, b01_0, b01_1, b01_01, b01_n, up2_o, up2_s, up2_u, ne_eq, reduceCtorEq, Nat.reduceAdd, Nat.reduceEqDiff, Nat.reduceLT, Nat.reduceLeDiff, Int.reduceLE, Int.reduceLT, Int.reduceAdd, Int.reduceNeg, Int.reduceMul, Int.reduceSub, Int.reduceEq, Int.reduceToNat, Int.reduceNatCast, Int.cast_ofNat_Int, ↓reduceIte, and_self, List.drop_succ_cons, List.drop_zero, List.take_succ_cons, List.take_zero, List.length_cons, List.length_nil, List.reverse_cons, List.reverse_nil, List.nil_append, List.cons_append, Option.toList, true_and, and_true, or_false, false_or, or_true, true_or, forall_const, Classical.not_not, not_false_eq_true, not_true_eq_false, false_implies, true_implies, implies_true, imp_self]
  rw [hV, hs]
  refine ⟨h3, fun q => ⟨⟨hP0, why_use q⟩, fun M1 hR => ?_⟩, fun q => hQ _ _ ⟨hk0, (if_neg q).symm⟩⟩
  obtain ⟨k1, r1, r2, r3, r4, r5⟩ := set_use hR
  have eA : A_never (vM M) (slM M) s b = _ := if_pos q
  rw [r1]
  refine ⟨fun z => hQ _ _ ⟨k1, ?_⟩, fun z => hQ _ _ ⟨k1, ?_⟩⟩ <;> rw [eA] <;> simp only [z, if_true, if_false, Int.natCast_eq_zero] <;> first | rfl | assumption | (simp_all)
set_option maxHeartbeats 4000000 in
set_option maxRecDepth 100000 in
theorem m7_never : MOK cl7 sh7 tyl7 [] 4 yX7_never cX7_never 4 (some .int) sp7_never := by
  refine mok_of (own := RX7) (tb := tb7 (csL cs7_never)) (rt := 1) (fuel := 400) (fun avs M Q => []) (by decide) rfl nil_nw (tbOK7 _) rfl (csL_all ?_) ?_ ?_ ?_
  · intro q hq
    simp only [cs7_never, List.mem_cons, List.not_mem_nil, or_false] at hq
    rcases hq with rfl | rfl
    · exact cg7_whyNot (by decide)
    · exact cg7_laysSets (by decide)
  · intro avs M Q hsp
    obtain ⟨xs, hx⟩ := spR_un _ _ _ hsp
    obtain ⟨e, hl⟩ := unA_mkT hx
    obtain ⟨s, b, rfl⟩ := len2 hl
    have e : avs = [ar 0, ai s, ai b] := e
    subst e
    simp [szL, isL]
  · intro avs M Q hM hav hsp
    obtain ⟨xs, hx⟩ := spR_un _ _ _ hsp
    obtain ⟨e, hl⟩ := unA_mkT hx
    obtain ⟨s, b, rfl⟩ := len2 hl
    have e : avs = [ar 0, ai s, ai b] := e
    subst e
    exact in7_never hM (hav (ai s) (by simp)) (hav (ai b) (by simp)) hsp.1 hsp.2
  · intro avs M Q hM hav hsp q hq m_ vs M1 hM1 hv hJ
    obtain ⟨xs, hx⟩ := spR_un _ _ _ hsp
    obtain ⟨e, hl⟩ := unA_mkT hx
    obtain ⟨s, b, rfl⟩ := len2 hl
    have e : avs = [ar 0, ai s, ai b] := e
    subst e
    cases hq
def A_fewest (V : Vy) (sl : Nat → Sl) (s b : Int) : Int := if whyP V sl s b = 0 then (let L := backS V (sl s.toNat) b; fewN L) else whyP V sl s b
def P7_fewest (s : Int) (b : Int) (M : Mm) : Prop := okY (vM M)
def R7_fewest (s : Int) (b : Int) (M : Mm) (v : Int) (M1 : Mm) : Prop := keepM M M1 ∧ v = A_fewest (vM M) (slM M) s b
def sp7_fewest : Spec := spR true [0, 0] 1 (fun x M => P7_fewest (x 0) (x 1) M) (fun x M v M1 => R7_fewest (x 0) (x 1) M v M1)
theorem c7_fewest {s b : Int} {M : Mm} {Q : Option AV → Mm → Prop} : sp7_fewest [ar 0, ai s, ai b] M Q = (P7_fewest s b M ∧ ∀ (v : Int) (M1 : Mm), R7_fewest s b M v M1 → Q (some (ai v)) M1) := rfl
def cs7_fewest : List (Nat × Nat × Nat × Spec) := [(416, 1, 3, sp7_whyNot), (419, 1, 3, sp7_laysSets)]
set_option maxHeartbeats 4000000 in
set_option maxRecDepth 100000 in
theorem in7_fewest {s b : Int} {M : Mm} {Q : Option AV → Mm → Prop} (hM : okM sh7 M) (h_s : i32 s) (h_b : i32 b) (hP : P7_fewest s b M) (hQ : ∀ (v : Int) (M1 : Mm), R7_fewest s b M v M1 → Q (some (ai v)) M1) : wp (tb7 (csL cs7_fewest)) sh7 4 1 cX7_fewest [] Q 400 0 [(0, ar 0), (1, ai s), (2, ai b)] [] M := by
  have h3 : 0 ≤ M 7 3 ∧ M 7 3 ≤ 3 := hP.2.2.2.1
  have hk0 : keepM M (up2 M 0 0 0) := keep_u0 keep_rf (by decide)
  have hV : vM (up2 M 0 0 0) = vM M := keep_v hk0 0
  have hP0 : okY (vM (up2 M 0 0 0)) := by rw [hV]; exact hP
  have hs : slM (up2 M 0 0 0) = slM M := funext fun k => slM_eq hk0 k
  simp only [e_wp dX7_fewest_0 rfl, e_wp dX7_fewest_1 rfl, e_wp dX7_fewest_2 rfl, e_wp dX7_fewest_5 rfl, e_wp dX7_fewest_6 rfl, e_wp dX7_fewest_7 rfl, e_wp dX7_fewest_8 rfl, e_wp dX7_fewest_11 rfl, e_wp dX7_fewest_12 rfl, e_wp dX7_fewest_13 rfl, e_wp dX7_fewest_16 rfl, e_wp dX7_fewest_17 rfl, e_wp dX7_fewest_18 rfl, e_wp dX7_fewest_19 rfl, e_wp dX7_fewest_20 rfl, e_wp dX7_fewest_21 rfl, e_wp dX7_fewest_24 rfl, e_wp dX7_fewest_25 rfl, e_wp dX7_fewest_28 rfl, p7_116, c7_whyNot, P7_whyNot, V7_whyNot, cs7_fewest, c7_laysSets, g7_401, e_iconst, e_bipush, e_sipush, e_lconst_0, e_lconst_1, e_iload, e_iload_0, e_iload_1, e_iload_2, e_iload_3, e_lload, e_lload_0, e_lload_1, e_lload_2, e_lload_3, e_aload, e_aload_0, e_aload_1, e_aload_2, e_aload_3, e_istore, e_istore_0, e_istore_1, e_istore_2, e_istore_3, e_astore, e_astore_0, e_astore_1, e_astore_2, e_astore_3, e_lstore, e_lstore_0, e_lstore_1, e_lstore_2, e_lstore_3, e_iinc, e_iadd, e_isub, e_imul, e_ladd, e_lsub, e_lmul, e_idiv, e_irem, e_ldiv, e_lrem, e_ineg, e_lneg, e_iand, e_ior, e_ixor, e_ishl, e_ishr, e_iushr, e_lcmp, e_i2l, e_l2i, e_i2b, e_i2s, e_dup_i, e_dup_r, e_pop_i, e_pop_r, e_dup2_l, e_dup2_ir, e_dup2_ii, e_ifeq, e_ifne, e_iflt, e_ifge, e_ifgt, e_ifle, e_iceq, e_icne, e_iclt, e_icge, e_icgt, e_icle, e_goto, e_switch, e_invokevirtual, e_invokestatic, e_invokespecial, e_ret0, e_ret1, e_ret2, e_ret3, ldI_s, ldL_s, ldR_s, clO_s, ctP_s, ctS_s, mgo_0, mgo_s, pjc_s, pj_0, pj_s, lk_s, rm1_0, rm1_i, rm1_r, rm1_l, rm2_0, rm2_i, rm2_r, rm2_l, csL_s, lc_lt, lc_ge, lc_gt, lc_le, lc_eq, b01_0, b01_1, b01_01, b01_n, up2_o, up2_s, up2_u, ne_eq, reduceCtorEq, Nat.reduceAdd, Nat.reduceEqDiff, Nat.reduceLT, Nat.reduceLeDiff, Int.reduceLE, Int.reduceLT, Int.reduceAdd, Int.reduceNeg, Int.reduceMul, Int.reduceSub, Int.reduceEq, Int.reduceToNat, Int.reduceNatCast, Int.cast_ofNat_Int, ↓reduceIte, and_self, List.drop_succ_cons, List.drop_zero, List.take_succ_cons, List.take_zero, List.length_cons, List.length_nil, List.reverse_cons, List.reverse_nil, List.nil_append, List.cons_append, Option.toList, true_and, and_true, or_false, false_or, or_true, true_or, forall_const, Classical.not_not, not_false_eq_true, not_true_eq_false, false_implies, true_implies, implies_true, imp_self]
  rw [hV, hs]
  refine ⟨h3, fun q => ⟨⟨hP0, why_use q⟩, fun M1 hR => ?_⟩, fun q => hQ _ _ ⟨hk0, (if_neg q).symm⟩⟩
  obtain ⟨k1, r1, r2, r3, r4, r5⟩ := set_use hR
  have eA : A_fewest (vM M) (slM M) s b = _ := if_pos q
  exact hQ _ _ ⟨k1, (r4).trans eA.symm⟩
set_option maxHeartbeats 4000000 in
set_option maxRecDepth 100000 in
theorem m7_fewest : MOK cl7 sh7 tyl7 [] 4 yX7_fewest cX7_fewest 4 (some .int) sp7_fewest := by
  refine mok_of (own := RX7) (tb := tb7 (csL cs7_fewest)) (rt := 1) (fuel := 400) (fun avs M Q => []) (by decide) rfl nil_nw (tbOK7 _) rfl (csL_all ?_) ?_ ?_ ?_
  · intro q hq
    simp only [cs7_fewest, List.mem_cons, List.not_mem_nil, or_false] at hq
    rcases hq with rfl | rfl
    · exact cg7_whyNot (by decide)
    · exact cg7_laysSets (by decide)
  · intro avs M Q hsp
    obtain ⟨xs, hx⟩ := spR_un _ _ _ hsp
    obtain ⟨e, hl⟩ := unA_mkT hx
    obtain ⟨s, b, rfl⟩ := len2 hl
    have e : avs = [ar 0, ai s, ai b] := e
    subst e
    simp [szL, isL]
  · intro avs M Q hM hav hsp
    obtain ⟨xs, hx⟩ := spR_un _ _ _ hsp
    obtain ⟨e, hl⟩ := unA_mkT hx
    obtain ⟨s, b, rfl⟩ := len2 hl
    have e : avs = [ar 0, ai s, ai b] := e
    subst e
    exact in7_fewest hM (hav (ai s) (by simp)) (hav (ai b) (by simp)) hsp.1 hsp.2
  · intro avs M Q hM hav hsp q hq m_ vs M1 hM1 hv hJ
    obtain ⟨xs, hx⟩ := spR_un _ _ _ hsp
    obtain ⟨e, hl⟩ := unA_mkT hx
    obtain ⟨s, b, rfl⟩ := len2 hl
    have e : avs = [ar 0, ai s, ai b] := e
    subst e
    cases hq
def A_ask (V : Vy) (sl : Nat → Sl) (s b : Int) : Int := if whyP V sl s b = 0 then (let L := backS V (sl s.toNat) b; (bestN (wrsN L) L.length (V 0 4).toNat).1) else whyP V sl s b
def P7_ask (s : Int) (b : Int) (M : Mm) : Prop := okY (vM M)
def R7_ask (s : Int) (b : Int) (M : Mm) (v : Int) (M1 : Mm) : Prop := keepM M M1 ∧ v = A_ask (vM M) (slM M) s b
def sp7_ask : Spec := spR true [0, 0] 1 (fun x M => P7_ask (x 0) (x 1) M) (fun x M v M1 => R7_ask (x 0) (x 1) M v M1)
theorem c7_ask {s b : Int} {M : Mm} {Q : Option AV → Mm → Prop} : sp7_ask [ar 0, ai s, ai b] M Q = (P7_ask s b M ∧ ∀ (v : Int) (M1 : Mm), R7_ask s b M v M1 → Q (some (ai v)) M1) := rfl
def cs7_ask : List (Nat × Nat × Nat × Spec) := [(416, 1, 3, sp7_whyNot), (419, 1, 3, sp7_laysSets)]
set_option maxHeartbeats 4000000 in
set_option maxRecDepth 100000 in
theorem in7_ask {s b : Int} {M : Mm} {Q : Option AV → Mm → Prop} (hM : okM sh7 M) (h_s : i32 s) (h_b : i32 b) (hP : P7_ask s b M) (hQ : ∀ (v : Int) (M1 : Mm), R7_ask s b M v M1 → Q (some (ai v)) M1) : wp (tb7 (csL cs7_ask)) sh7 4 1 cX7_ask [] Q 400 0 [(0, ar 0), (1, ai s), (2, ai b)] [] M := by
  have h3 : 0 ≤ M 7 3 ∧ M 7 3 ≤ 3 := hP.2.2.2.1
  have hk0 : keepM M (up2 M 0 0 0) := keep_u0 keep_rf (by decide)
  have hV : vM (up2 M 0 0 0) = vM M := keep_v hk0 0
  have hP0 : okY (vM (up2 M 0 0 0)) := by rw [hV]; exact hP
  have hs : slM (up2 M 0 0 0) = slM M := funext fun k => slM_eq hk0 k
  simp only [e_wp dX7_ask_0 rfl, e_wp dX7_ask_1 rfl, e_wp dX7_ask_2 rfl, e_wp dX7_ask_5 rfl, e_wp dX7_ask_6 rfl, e_wp dX7_ask_7 rfl, e_wp dX7_ask_8 rfl, e_wp dX7_ask_11 rfl, e_wp dX7_ask_12 rfl, e_wp dX7_ask_13 rfl, e_wp dX7_ask_16 rfl, e_wp dX7_ask_17 rfl, e_wp dX7_ask_18 rfl, e_wp dX7_ask_19 rfl, e_wp dX7_ask_20 rfl, e_wp dX7_ask_21 rfl, e_wp dX7_ask_24 rfl, e_wp dX7_ask_25 rfl, e_wp dX7_ask_28 rfl, p7_116, c7_whyNot, P7_whyNot, V7_whyNot, cs7_ask, c7_laysSets, g7_410, e_iconst, e_bipush, e_sipush, e_lconst_0, e_lconst_1, e_iload, e_iload_0, e_iload_1, e_iload_2, e_iload_3, e_lload, e_lload_0, e_lload_1, e_lload_2, e_lload_3, e_aload, e_aload_0, e_aload_1, e_aload_2, e_aload_3, e_istore, e_istore_0, e_istore_1, e_istore_2, e_istore_3, e_astore, e_astore_0, e_astore_1, e_astore_2, e_astore_3, e_lstore, e_lstore_0, e_lstore_1, e_lstore_2, e_lstore_3, e_iinc, e_iadd, e_isub, e_imul, e_ladd, e_lsub, e_lmul, e_idiv, e_irem, e_ldiv, e_lrem, e_ineg, e_lneg, e_iand, e_ior, e_ixor, e_ishl, e_ishr, e_iushr, e_lcmp, e_i2l, e_l2i, e_i2b, e_i2s, e_dup_i, e_dup_r, e_pop_i, e_pop_r, e_dup2_l, e_dup2_ir, e_dup2_ii, e_ifeq, e_ifne, e_iflt, e_ifge, e_ifgt, e_ifle, e_iceq, e_icne, e_iclt, e_icge, e_icgt, e_icle, e_goto, e_switch, e_invokevirtual, e_invokestatic, e_invokespecial, e_ret0, e_ret1, e_ret2, e_ret3, ldI_s, ldL_s, ldR_s, clO_s, ctP_s, ctS_s, mgo_0, mgo_s, pjc_s, pj_0, pj_s, lk_s, rm1_0, rm1_i, rm1_r, rm1_l, rm2_0, rm2_i, rm2_r, rm2_l, csL_s, lc_lt, lc_ge, lc_gt, lc_le, lc_eq, b01_0, b01_1, b01_01, b01_n, up2_o, up2_s, up2_u, ne_eq, reduceCtorEq, Nat.reduceAdd, Nat.reduceEqDiff, Nat.reduceLT, Nat.reduceLeDiff, Int.reduceLE, Int.reduceLT, Int.reduceAdd, Int.reduceNeg, Int.reduceMul, Int.reduceSub, Int.reduceEq, Int.reduceToNat, Int.reduceNatCast, Int.cast_ofNat_Int, ↓reduceIte, and_self, List.drop_succ_cons, List.drop_zero, List.take_succ_cons, List.take_zero, List.length_cons, List.length_nil, List.reverse_cons, List.reverse_nil, List.nil_append, List.cons_append, Option.toList, true_and, and_true, or_false, false_or, or_true, true_or, forall_const, Classical.not_not, not_false_eq_true, not_true_eq_false, false_implies, true_implies, implies_true, imp_self]
  rw [hV, hs]
  refine ⟨h3, fun q => ⟨⟨hP0, why_use q⟩, fun M1 hR => ?_⟩, fun q => hQ _ _ ⟨hk0, (if_neg q).symm⟩⟩
  obtain ⟨k1, r1, r2, r3, r4, r5⟩ := set_use hR
  have eA : A_ask (vM M) (slM M) s b = _ := if_pos q
  exact hQ _ _ ⟨k1, (congrArg Prod.fst r5).trans eA.symm⟩
set_option maxHeartbeats 4000000 in
set_option maxRecDepth 100000 in
theorem m7_ask : MOK cl7 sh7 tyl7 [] 4 yX7_ask cX7_ask 4 (some .int) sp7_ask := by
  refine mok_of (own := RX7) (tb := tb7 (csL cs7_ask)) (rt := 1) (fuel := 400) (fun avs M Q => []) (by decide) rfl nil_nw (tbOK7 _) rfl (csL_all ?_) ?_ ?_ ?_
  · intro q hq
    simp only [cs7_ask, List.mem_cons, List.not_mem_nil, or_false] at hq
    rcases hq with rfl | rfl
    · exact cg7_whyNot (by decide)
    · exact cg7_laysSets (by decide)
  · intro avs M Q hsp
    obtain ⟨xs, hx⟩ := spR_un _ _ _ hsp
    obtain ⟨e, hl⟩ := unA_mkT hx
    obtain ⟨s, b, rfl⟩ := len2 hl
    have e : avs = [ar 0, ai s, ai b] := e
    subst e
    simp [szL, isL]
  · intro avs M Q hM hav hsp
    obtain ⟨xs, hx⟩ := spR_un _ _ _ hsp
    obtain ⟨e, hl⟩ := unA_mkT hx
    obtain ⟨s, b, rfl⟩ := len2 hl
    have e : avs = [ar 0, ai s, ai b] := e
    subst e
    exact in7_ask hM (hav (ai s) (by simp)) (hav (ai b) (by simp)) hsp.1 hsp.2
  · intro avs M Q hM hav hsp q hq m_ vs M1 hM1 hv hJ
    obtain ⟨xs, hx⟩ := spR_un _ _ _ hsp
    obtain ⟨e, hl⟩ := unA_mkT hx
    obtain ⟨s, b, rfl⟩ := len2 hl
    have e : avs = [ar 0, ai s, ai b] := e
    subst e
    cases hq
def A_leaves (V : Vy) (sl : Nat → Sl) (s b : Int) : Int := if whyP V sl s b = 0 then (let L := backS V (sl s.toNat) b; (bestN (wrsN L) L.length (V 0 4).toNat).2) else whyP V sl s b
def P7_leaves (s : Int) (b : Int) (M : Mm) : Prop := okY (vM M)
def R7_leaves (s : Int) (b : Int) (M : Mm) (v : Int) (M1 : Mm) : Prop := keepM M M1 ∧ v = A_leaves (vM M) (slM M) s b
def sp7_leaves : Spec := spR true [0, 0] 1 (fun x M => P7_leaves (x 0) (x 1) M) (fun x M v M1 => R7_leaves (x 0) (x 1) M v M1)
theorem c7_leaves {s b : Int} {M : Mm} {Q : Option AV → Mm → Prop} : sp7_leaves [ar 0, ai s, ai b] M Q = (P7_leaves s b M ∧ ∀ (v : Int) (M1 : Mm), R7_leaves s b M v M1 → Q (some (ai v)) M1) := rfl
def cs7_leaves : List (Nat × Nat × Nat × Spec) := [(416, 1, 3, sp7_whyNot), (419, 1, 3, sp7_laysSets)]
set_option maxHeartbeats 4000000 in
set_option maxRecDepth 100000 in
theorem in7_leaves {s b : Int} {M : Mm} {Q : Option AV → Mm → Prop} (hM : okM sh7 M) (h_s : i32 s) (h_b : i32 b) (hP : P7_leaves s b M) (hQ : ∀ (v : Int) (M1 : Mm), R7_leaves s b M v M1 → Q (some (ai v)) M1) : wp (tb7 (csL cs7_leaves)) sh7 4 1 cX7_leaves [] Q 400 0 [(0, ar 0), (1, ai s), (2, ai b)] [] M := by
  have h3 : 0 ≤ M 7 3 ∧ M 7 3 ≤ 3 := hP.2.2.2.1
  have hk0 : keepM M (up2 M 0 0 0) := keep_u0 keep_rf (by decide)
  have hV : vM (up2 M 0 0 0) = vM M := keep_v hk0 0
  have hP0 : okY (vM (up2 M 0 0 0)) := by rw [hV]; exact hP
  have hs : slM (up2 M 0 0 0) = slM M := funext fun k => slM_eq hk0 k
  simp only [e_wp dX7_leaves_0 rfl, e_wp dX7_leaves_1 rfl, e_wp dX7_leaves_2 rfl, e_wp dX7_leaves_5 rfl, e_wp dX7_leaves_6 rfl, e_wp dX7_leaves_7 rfl, e_wp dX7_leaves_8 rfl, e_wp dX7_leaves_11 rfl, e_wp dX7_leaves_12 rfl, e_wp dX7_leaves_13 rfl, e_wp dX7_leaves_16 rfl, e_wp dX7_leaves_17 rfl, e_wp dX7_leaves_18 rfl, e_wp dX7_leaves_19 rfl, e_wp dX7_leaves_20 rfl, e_wp dX7_leaves_21 rfl, e_wp dX7_leaves_24 rfl, e_wp dX7_leaves_25 rfl, e_wp dX7_leaves_28 rfl, p7_116, c7_whyNot, P7_whyNot, V7_whyNot, cs7_leaves, c7_laysSets, g7_413, e_iconst, e_bipush, e_sipush, e_lconst_0, e_lconst_1, e_iload, e_iload_0, e_iload_1, e_iload_2, e_iload_3, e_lload, e_lload_0, e_lload_1, e_lload_2, e_lload_3, e_aload, e_aload_0, e_aload_1, e_aload_2, e_aload_3, e_istore, e_istore_0, e_istore_1, e_istore_2, e_istore_3, e_astore, e_astore_0, e_astore_1, e_astore_2, e_astore_3, e_lstore, e_lstore_0, e_lstore_1, e_lstore_2, e_lstore_3, e_iinc, e_iadd, e_isub, e_imul, e_ladd, e_lsub, e_lmul, e_idiv, e_irem, e_ldiv, e_lrem, e_ineg, e_lneg, e_iand, e_ior, e_ixor, e_ishl, e_ishr, e_iushr, e_lcmp, e_i2l, e_l2i, e_i2b, e_i2s, e_dup_i, e_dup_r, e_pop_i, e_pop_r, e_dup2_l, e_dup2_ir, e_dup2_ii, e_ifeq, e_ifne, e_iflt, e_ifge, e_ifgt, e_ifle, e_iceq, e_icne, e_iclt, e_icge, e_icgt, e_icle, e_goto, e_switch, e_invokevirtual, e_invokestatic, e_invokespecial, e_ret0, e_ret1, e_ret2, e_ret3, ldI_s, ldL_s, ldR_s, clO_s, ctP_s, ctS_s, mgo_0, mgo_s, pjc_s, pj_0, pj_s, lk_s, rm1_0, rm1_i, rm1_r, rm1_l, rm2_0, rm2_i, rm2_r, rm2_l, csL_s, lc_lt, lc_ge, lc_gt, lc_le, lc_eq, b01_0, b01_1, b01_01, b01_n, up2_o, up2_s, up2_u, ne_eq, reduceCtorEq, Nat.reduceAdd, Nat.reduceEqDiff, Nat.reduceLT, Nat.reduceLeDiff, Int.reduceLE, Int.reduceLT, Int.reduceAdd, Int.reduceNeg, Int.reduceMul, Int.reduceSub, Int.reduceEq, Int.reduceToNat, Int.reduceNatCast, Int.cast_ofNat_Int, ↓reduceIte, and_self, List.drop_succ_cons, List.drop_zero, List.take_succ_cons, List.take_zero, List.length_cons, List.length_nil, List.reverse_cons, List.reverse_nil, List.nil_append, List.cons_append, Option.toList, true_and, and_true, or_false, false_or, or_true, true_or, forall_const, Classical.not_not, not_false_eq_true, not_true_eq_false, false_implies, true_implies, implies_true, imp_self]
  rw [hV, hs]
  refine ⟨h3, fun q => ⟨⟨hP0, why_use q⟩, fun M1 hR => ?_⟩, fun q => hQ _ _ ⟨hk0, (if_neg q).symm⟩⟩
  obtain ⟨k1, r1, r2, r3, r4, r5⟩ := set_use hR
  have eA : A_leaves (vM M) (slM M) s b = _ := if_pos q
  exact hQ _ _ ⟨k1, (congrArg Prod.snd r5).trans eA.symm⟩
set_option maxHeartbeats 4000000 in
set_option maxRecDepth 100000 in
theorem m7_leaves : MOK cl7 sh7 tyl7 [] 4 yX7_leaves cX7_leaves 4 (some .int) sp7_leaves := by
  refine mok_of (own := RX7) (tb := tb7 (csL cs7_leaves)) (rt := 1) (fuel := 400) (fun avs M Q => []) (by decide) rfl nil_nw (tbOK7 _) rfl (csL_all ?_) ?_ ?_ ?_
  · intro q hq
    simp only [cs7_leaves, List.mem_cons, List.not_mem_nil, or_false] at hq
    rcases hq with rfl | rfl
    · exact cg7_whyNot (by decide)
    · exact cg7_laysSets (by decide)
  · intro avs M Q hsp
    obtain ⟨xs, hx⟩ := spR_un _ _ _ hsp
    obtain ⟨e, hl⟩ := unA_mkT hx
    obtain ⟨s, b, rfl⟩ := len2 hl
    have e : avs = [ar 0, ai s, ai b] := e
    subst e
    simp [szL, isL]
  · intro avs M Q hM hav hsp
    obtain ⟨xs, hx⟩ := spR_un _ _ _ hsp
    obtain ⟨e, hl⟩ := unA_mkT hx
    obtain ⟨s, b, rfl⟩ := len2 hl
    have e : avs = [ar 0, ai s, ai b] := e
    subst e
    exact in7_leaves hM (hav (ai s) (by simp)) (hav (ai b) (by simp)) hsp.1 hsp.2
  · intro avs M Q hM hav hsp q hq m_ vs M1 hM1 hv hJ
    obtain ⟨xs, hx⟩ := spR_un _ _ _ hsp
    obtain ⟨e, hl⟩ := unA_mkT hx
    obtain ⟨s, b, rfl⟩ := len2 hl
    have e : avs = [ar 0, ai s, ai b] := e
    subst e
    cases hq
