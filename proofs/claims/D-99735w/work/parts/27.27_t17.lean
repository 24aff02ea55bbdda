/-! SagMemoryModel: lies, laws, by sags that were seen -/
abbrev okSl (s : Sl) : Prop := s.1.1 = -1 ∨ ((0 ≤ s.1.1 ∧ s.1.1 ≤ 3) ∧ 0 ≤ s.1.2 ∧ s.1.2 ≤ 60)
abbrev tripP (V : Vy) (s : Sl) (i : Nat) : Prop := isB V (s.2 (3 * i)) ∧ isC V (s.2 (3 * i + 1)) ∧ 0 ≤ s.2 (3 * i + 2) ∧ s.2 (3 * i + 2) ≤ 999
abbrev bookP (V : Vy) (s : Sl) : Prop := s.1.2.tmod 3 = 0 ∧ ∀ i : Nat, i < (s.1.2 / 3).toNat → tripP V s i
def whyBk (V : Vy) (sl : Nat → Sl) (s : Int) : Int := if (0 ≤ s ∧ s ≤ 3) ∧ 0 < V 0 8 then (if (sl s.toNat).1.1 = -1 then -6 else if bookP V (sl s.toNat) then 0 else -2) else -2
theorem slM_k {M : Mm} {s k : Nat} (h : (k : Int) < M 2 s) : (slM M s).2 k = M 3 (60 * s + k) := if_pos h
def P7_whyNotSags (s : Int) (M : Mm) : Prop := okY (vM M) ∧ ∀ s : Nat, s < 4 → okSl (slM M s)
def V7_whyNotSags (s : Int) (M : Mm) : Int := whyBk (vM M) (slM M) s
def sp7_whyNotSags : Spec := spF true [0] 1 (fun x M => P7_whyNotSags (x 0) M) (fun x M => V7_whyNotSags (x 0) M)
theorem c7_whyNotSags {s : Int} {M : Mm} {Q : Option AV → Mm → Prop} : sp7_whyNotSags [ar 0, ai s] M Q = (P7_whyNotSags s M ∧ Q (some (ai (V7_whyNotSags s M))) M) := rfl
def cs7_whyNotSags : List (Nat × Nat × Nat × Spec) := [(125, 0, 1, sp7_isSlot), (350, 1, 1, sp7_isValley), (292, 1, 2, sp7_isBridge), (289, 1, 2, sp7_isCart), (121, 0, 3, sp7_in)]
def J7_whyNotSags_46 (s : Int) (M : Mm) (m : Nat) (s_ : Int) (i : Int) (M1 : Mm) : Prop := s = s_ ∧ M = M1 ∧ ((0 ≤ s ∧ s ≤ 3) ∧ 0 < M 6 0) ∧ ¬ M 1 s.toNat = -1 ∧ (M 2 s.toNat).tmod 3 = 0 ∧ ∃ a : Nat, i = 3 * (a : Int) ∧ 3 * (a : Int) ≤ M 2 s.toNat ∧ (∀ j : Nat, j < a → tripP (vM M) (slM M s.toNat) j) ∧ m = 20 - a
set_option maxHeartbeats 4000000 in
set_option maxRecDepth 100000 in
theorem in7_whyNotSags {s : Int} {M : Mm} {Q : Option AV → Mm → Prop} (hM : okM sh7 M) (h_s : i32 s) (hP : P7_whyNotSags s M) (hQ : Q (some (ai (V7_whyNotSags s M))) M) (I_46 : List AV → Mm → Prop) (hI_46 : ∀ (m_ : Nat) (y_s_ : Int) (y_i : Int) (M2 : Mm), J7_whyNotSags_46 s M m_ y_s_ y_i M2 → I_46 [ar 0, ai y_s_, ai y_i] M2) : wp (tb7 (csL cs7_whyNotSags)) sh7 4 1 cX7_whyNotSags [(46, [0, 1, 2], I_46)] Q 400 0 [(0, ar 0), (1, ai s)] [] M := by
  obtain ⟨hY, hS⟩ := id hP
  have e1 : ¬ ((0 ≤ s ∧ s ≤ 3) ∧ 0 < M 6 0) → V7_whyNotSags s M = -2 := fun q => if_neg q
  have e2 : ((0 ≤ s ∧ s ≤ 3) ∧ 0 < M 6 0) → M 1 s.toNat = -1 → V7_whyNotSags s M = -6 := fun q z => (if_pos q).trans (if_pos z)
  have e3 : ((0 ≤ s ∧ s ≤ 3) ∧ 0 < M 6 0) → ¬ M 1 s.toNat = -1 → ¬ (M 2 s.toNat).tmod 3 = 0 → V7_whyNotSags s M = -2 := fun q z w => (if_pos q).trans ((if_neg z).trans (if_neg (fun y => w y.1)))
  simp only [e_wp dX7_whyNotSags_0 rfl, e_wp dX7_whyNotSags_1 rfl, e_wp dX7_whyNotSags_4 rfl, e_wp dX7_whyNotSags_7 rfl, e_wp dX7_whyNotSags_8 rfl, e_wp dX7_whyNotSags_11 rfl, e_wp dX7_whyNotSags_14 rfl, e_wp dX7_whyNotSags_16 rfl, e_wp dX7_whyNotSags_17 rfl, e_wp dX7_whyNotSags_18 rfl, e_wp dX7_whyNotSags_21 rfl, e_wp dX7_whyNotSags_22 rfl, e_wp dX7_whyNotSags_23 rfl, e_wp dX7_whyNotSags_24 rfl, e_wp dX7_whyNotSags_27 rfl, e_wp dX7_whyNotSags_29 rfl, e_wp dX7_whyNotSags_30 rfl, e_wp dX7_whyNotSags_31 rfl, e_wp dX7_whyNotSags_34 rfl, e_wp dX7_whyNotSags_35 rfl, e_wp dX7_whyNotSags_36 rfl, e_wp dX7_whyNotSags_37 rfl, e_wp dX7_whyNotSags_38 rfl, e_wp dX7_whyNotSags_41 rfl, e_wp dX7_whyNotSags_43 rfl, e_wp dX7_whyNotSags_44 rfl, e_wp dX7_whyNotSags_45 rfl, e_wp dX7_whyNotSags_46 rfl, e_wp dX7_whyNotSags_47 rfl, e_wp dX7_whyNotSags_48 rfl, e_wp dX7_whyNotSags_51 rfl, e_wp dX7_whyNotSags_52 rfl, e_wp dX7_whyNotSags_53 rfl, e_wp dX7_whyNotSags_56 rfl, e_wp dX7_whyNotSags_58 rfl, e_wp dX7_whyNotSags_59 rfl, e_wp dX7_whyNotSags_60 rfl, e_wp dX7_whyNotSags_61 rfl, e_wp dX7_whyNotSags_62 rfl, e_wp dX7_whyNotSags_63 rfl, e_wp dX7_whyNotSags_64 rfl, e_wp dX7_whyNotSags_65 rfl, e_wp dX7_whyNotSags_68 rfl, e_wp dX7_whyNotSags_69 rfl, e_wp dX7_whyNotSags_70 rfl, e_wp dX7_whyNotSags_73 rfl, e_wp dX7_whyNotSags_76 rfl, e_wp dX7_whyNotSags_77 rfl, e_wp dX7_whyNotSags_78 rfl, e_wp dX7_whyNotSags_81 rfl, e_wp dX7_whyNotSags_82 rfl, e_wp dX7_whyNotSags_83 rfl, e_wp dX7_whyNotSags_84 rfl, e_wp dX7_whyNotSags_85 rfl, e_wp dX7_whyNotSags_88 rfl, e_wp dX7_whyNotSags_91 rfl, e_wp dX7_whyNotSags_92 rfl, e_wp dX7_whyNotSags_95 rfl, e_wp dX7_whyNotSags_96 rfl, e_wp dX7_whyNotSags_97 rfl, e_wp dX7_whyNotSags_98 rfl, e_wp dX7_whyNotSags_99 rfl, e_wp dX7_whyNotSags_100 rfl, e_wp dX7_whyNotSags_103 rfl, e_wp dX7_whyNotSags_106 rfl, e_wp dX7_whyNotSags_109 rfl, e_wp dX7_whyNotSags_111 rfl, e_wp dX7_whyNotSags_112 rfl, e_wp dX7_whyNotSags_115 rfl, e_wp dX7_whyNotSags_118 rfl, e_wp dX7_whyNotSags_119 rfl, c7_isSlot, P7_isSlot, V7_isSlot, cs7_whyNotSags, c7_isValley, P7_isValley, V7_isValley, g7_7, g7_13, g7_16, c7_isBridge, P7_isBridge, V7_isBridge, c7_isCart, P7_isCart, V7_isCart, k7_422, c7_in, P7_in, V7_in, a7_1, w7_1, a7_2, w7_2, a7_3, w7_3, a7_4, w7_4, a7_5, w7_5, a7_6, w7_6, a7_7, w7_7, a7_8, w7_8, a7_9, w7_9, a7_10, w7_10, a7_11, w7_11, a7_12, w7_12, a7_13, w7_13, a7_14, w7_14, a7_15, w7_15, a7_16, w7_16, a7_17, w7_17, a7_18, w7_18, a7_19, w7_19, a7_20, w7_20, a7_21, w7_21, a7_22, w7_22, a7_23, w7_23, a7_24, w7_24, a7_25, w7_25, a7_26, w7_26, a7_27, w7_27, a7_28, w7_28, a7_29, w7_29, a7_30, w7_30, a7_31, w7_31, a7_32, w7_32, a7_33, w7_33, e_iconst, e_bipush, e_sipush, e_lconst_0, e_lconst_1, e_iload, e_iload_0, e_iload_1, e_iload_2, e_iload_3, e_lload, e_lload_0, e_lload_1, e_lload_2, e_lload_3, e_aload, e_aload_0, e_aload_1, e_aload_2, e_aload_3, e_istore, e_istore_0, e_istore_1, e_istore_2, e_istore_3, e_astore, e_astore_0, e_astore_1, e_astore_2, e_astore_3, e_lstore, e_lstore_0, e_lstore_1, e_lstore_2, e_lstore_3, e_iinc, e_iadd, e_isub, e_imul, e_ladd, e_lsub, e_lmul, e_idiv, e_irem, e_ldiv, e_lrem, e_ineg, e_lneg, e_iand, e_ior, e_ixor, e_ishl, e_ishr, e_iushr, e_lcmp, e_i2l, e_l2i, e_i2b, e_i2s, e_dup_i, e_dup_r, e_pop_i, e_pop_r, e_dup2_l, e_dup2_ir, e_dup2_ii, e_ifeq, e_ifne, e_iflt, e_ifge, e_ifgt, e_ifle, e_iceq, e_icne, e_iclt, e_icge, e_icgt, e_icle, e_goto, e_switch, e_invokevirtual, e_invokestatic, e_invokespecial, e_ret0, e_ret1, e_ret2, e_ret3, ldI_s, ldL_s, ldR_s, clO_s, ctP_s, ctS_s, mgo_0, mgo_s, pjc_s, pj_0, pj_s, lk_s, rm1_0, rm1_i, rm1_r, rm1_l, rm2_0, rm2_i, rm2_r, rm2_l, csL_s, lc_lt, lc_ge, lc_gt, lc_le, lc_eq, b01_0, b01_1, b01_01, b01_n, up2_o, up2_s, up2_u, ne_eq, reduceCtorEq, Nat.reduceAdd, Nat.reduceEqDiff, Nat.reduceLT, Nat.reduceLeDiff, Int.reduceLE, Int.reduceLT, Int.reduceAdd, Int.reduceNeg, Int.reduceMul, Int.reduceSub, Int.reduceEq, Int.reduceToNat, Int.reduceNatCast, Int.cast_ofNat_Int, ↓reduceIte, and_self, List.drop_succ_cons, List.drop_zero, List.take_succ_cons, List.take_zero, List.length_cons, List.length_nil, List.reverse_cons, List.reverse_nil, List.nil_append, List.cons_append, Option.toList, true_and, and_true, or_false, false_or, or_true, true_or, forall_const, Classical.not_not, not_false_eq_true, not_true_eq_false, false_implies, true_implies, implies_true, imp_self]
  refine ⟨fun q => qeq hQ (e1 (fun z => q z.1)), fun q => ⟨fun q2 => ?_, fun q2 => qeq hQ (e1 (fun z => absurd z.2 (by omega)))⟩⟩
  refine ⟨by omega, fun z => ?_, fun z => qeq hQ (e2 ⟨q, q2⟩ z)⟩
  have hs := hS s.toNat (by omega)
  have hs2 : 0 ≤ M 2 s.toNat ∧ M 2 s.toNat ≤ 60 := by
    rcases hs with h | h
    · exact absurd h z
    · exact h.2
  have ht := @tdiv_b (M 2 s.toNat) 3 (by omega) (by omega)
  refine ⟨by omega, by omega, fun w => ?_, fun w => qeq hQ (e3 ⟨q, q2⟩ z w)⟩
  exact hI_46 (20 - 0) _ _ _ ⟨rfl, rfl, ⟨q, q2⟩, z, w, 0, rfl, by omega, fun j hj => by omega, rfl⟩
set_option maxHeartbeats 4000000 in
set_option maxRecDepth 100000 in
theorem at7_whyNotSags_46 {s : Int} {M : Mm} {Q : Option AV → Mm → Prop} (hM : okM sh7 M) (h_s : i32 s) (hP : P7_whyNotSags s M) (hQ : Q (some (ai (V7_whyNotSags s M))) M) {m : Nat} {s_ i : Int} {M1 : Mm} (hM1 : okM sh7 M1) (h_s_ : i32 s_) (h_i : i32 i) (hJ : J7_whyNotSags_46 s M m s_ i M1) (I_46 : List AV → Mm → Prop) (hI_46 : ∀ (m_ : Nat) (y_s_ : Int) (y_i : Int) (M2 : Mm), m_ < m → J7_whyNotSags_46 s M m_ y_s_ y_i M2 → I_46 [ar 0, ai y_s_, ai y_i] M2) : wp (tb7 (csL cs7_whyNotSags)) sh7 4 1 cX7_whyNotSags [(46, [0, 1, 2], I_46)] Q 400 46 [(0, ar 0), (1, ai s_), (2, ai i)] [] M1 := by
  obtain ⟨rfl, rfl, hq, hz, hw, a, rfl, ha, hb, rfl⟩ := hJ
  obtain ⟨hY, hS⟩ := id hP
  have h4 : 0 ≤ M 7 4 ∧ M 7 4 ≤ 7 := hY.2.2.2.2.1
  have h3 : 0 ≤ M 7 3 ∧ M 7 3 ≤ 3 := hY.2.2.2.1
  have hs := hS s.toNat (by omega)
  have hs2 : 0 ≤ M 2 s.toNat ∧ M 2 s.toNat ≤ 60 := by
    rcases hs with h | h
    · exact absurd h hz
    · exact h.2
  have hm3 : M 2 s.toNat = 3 * ((M 2 s.toNat) / 3) := by
    have := Int.tmod_eq_emod_of_nonneg (a := M 2 s.toNat) (b := 3) (by omega)
    omega
  have i0 : ((60 : Int) * s + 3 * a).toNat = 60 * s.toNat + 3 * a := by omega
  have i1 : ((60 : Int) * s + 3 * a + 1).toNat = 60 * s.toNat + (3 * a + 1) := by omega
  have i2 : ((60 : Int) * s + 3 * a + 2).toNat = 60 * s.toNat + (3 * a + 2) := by omega
  have eV : V7_whyNotSags s M = if bookP (vM M) (slM M s.toNat) then 0 else -2 := (if_pos hq).trans (if_neg hz)
  have bad : 3 * (a : Int) < M 2 s.toNat → ¬ ((0 ≤ M 3 (60 * s.toNat + 3 * a) ∧ M 3 (60 * s.toNat + 3 * a) < M 7 3) ∧ (0 ≤ M 3 (60 * s.toNat + (3 * a + 1)) ∧ M 3 (60 * s.toNat + (3 * a + 1)) < M 7 4) ∧ 0 ≤ M 3 (60 * s.toNat + (3 * a + 2)) ∧ M 3 (60 * s.toNat + (3 * a + 2)) ≤ 999) → V7_whyNotSags s M = -2 := by
    intro q z
    rw [eV]
    refine if_neg fun w => z ?_
    have w2 := w.2 a (by show a < (M 2 s.toNat / 3).toNat; omega)
    unfold tripP at w2
    rw [slM_k (by omega), slM_k (by omega), slM_k (by omega)] at w2
    exact w2
  simp only [e_wp dX7_whyNotSags_0 rfl, e_wp dX7_whyNotSags_1 rfl, e_wp dX7_whyNotSags_4 rfl, e_wp dX7_whyNotSags_7 rfl, e_wp dX7_whyNotSags_8 rfl, e_wp dX7_whyNotSags_11 rfl, e_wp dX7_whyNotSags_14 rfl, e_wp dX7_whyNotSags_16 rfl, e_wp dX7_whyNotSags_17 rfl, e_wp dX7_whyNotSags_18 rfl, e_wp dX7_whyNotSags_21 rfl, e_wp dX7_whyNotSags_22 rfl, e_wp dX7_whyNotSags_23 rfl, e_wp dX7_whyNotSags_24 rfl, e_wp dX7_whyNotSags_27 rfl, e_wp dX7_whyNotSags_29 rfl, e_wp dX7_whyNotSags_30 rfl, e_wp dX7_whyNotSags_31 rfl, e_wp dX7_whyNotSags_34 rfl, e_wp dX7_whyNotSags_35 rfl, e_wp dX7_whyNotSags_36 rfl, e_wp dX7_whyNotSags_37 rfl, e_wp dX7_whyNotSags_38 rfl, e_wp dX7_whyNotSags_41 rfl, e_wp dX7_whyNotSags_43 rfl, e_wp dX7_whyNotSags_44 rfl, e_wp dX7_whyNotSags_45 rfl, e_wp dX7_whyNotSags_46 rfl, e_wp dX7_whyNotSags_47 rfl, e_wp dX7_whyNotSags_48 rfl, e_wp dX7_whyNotSags_51 rfl, e_wp dX7_whyNotSags_52 rfl, e_wp dX7_whyNotSags_53 rfl, e_wp dX7_whyNotSags_56 rfl, e_wp dX7_whyNotSags_58 rfl, e_wp dX7_whyNotSags_59 rfl, e_wp dX7_whyNotSags_60 rfl, e_wp dX7_whyNotSags_61 rfl, e_wp dX7_whyNotSags_62 rfl, e_wp dX7_whyNotSags_63 rfl, e_wp dX7_whyNotSags_64 rfl, e_wp dX7_whyNotSags_65 rfl, e_wp dX7_whyNotSags_68 rfl, e_wp dX7_whyNotSags_69 rfl, e_wp dX7_whyNotSags_70 rfl, e_wp dX7_whyNotSags_73 rfl, e_wp dX7_whyNotSags_76 rfl, e_wp dX7_whyNotSags_77 rfl, e_wp dX7_whyNotSags_78 rfl, e_wp dX7_whyNotSags_81 rfl, e_wp dX7_whyNotSags_82 rfl, e_wp dX7_whyNotSags_83 rfl, e_wp dX7_whyNotSags_84 rfl, e_wp dX7_whyNotSags_85 rfl, e_wp dX7_whyNotSags_88 rfl, e_wp dX7_whyNotSags_91 rfl, e_wp dX7_whyNotSags_92 rfl, e_wp dX7_whyNotSags_95 rfl, e_wp dX7_whyNotSags_96 rfl, e_wp dX7_whyNotSags_97 rfl, e_wp dX7_whyNotSags_98 rfl, e_wp dX7_whyNotSags_99 rfl, e_wp dX7_whyNotSags_100 rfl, e_wp dX7_whyNotSags_103 rfl, e_wp dX7_whyNotSags_106 rfl, e_wp dX7_whyNotSags_109 rfl, e_wp dX7_whyNotSags_111 rfl, e_wp dX7_whyNotSags_112 rfl, e_wp dX7_whyNotSags_115 rfl, e_wp dX7_whyNotSags_118 rfl, e_wp dX7_whyNotSags_119 rfl, c7_isSlot, P7_isSlot, V7_isSlot, cs7_whyNotSags, c7_isValley, P7_isValley, V7_isValley, g7_7, g7_13, g7_16, c7_isBridge, P7_isBridge, V7_isBridge, c7_isCart, P7_isCart, V7_isCart, k7_422, c7_in, P7_in, V7_in, a7_1, w7_1, a7_2, w7_2, a7_3, w7_3, a7_4, w7_4, a7_5, w7_5, a7_6, w7_6, a7_7, w7_7, a7_8, w7_8, a7_9, w7_9, a7_10, w7_10, a7_11, w7_11, a7_12, w7_12, a7_13, w7_13, a7_14, w7_14, a7_15, w7_15, a7_16, w7_16, a7_17, w7_17, a7_18, w7_18, a7_19, w7_19, a7_20, w7_20, a7_21, w7_21, a7_22, w7_22, a7_23, w7_23, a7_24, w7_24, a7_25, w7_25, a7_26, w7_26, a7_27, w7_27, a7_28, w7_28, a7_29, w7_29, a7_30, w7_30, a7_31, w7_31, a7_32, w7_32, a7_33, w7_33, e_iconst, e_bipush, e_sipush, e_lconst_0, e_lconst_1, e_iload, e_iload_0, e_iload_1, e_iload_2, e_iload_3, e_lload, e_lload_0, e_lload_1, e_lload_2, e_lload_3, e_aload, e_aload_0, e_aload_1, e_aload_2, e_aload_3, e_istore, e_istore_0, e_istore_1, e_istore_2, e_istore_3, e_astore, e_astore_0, e_astore_1, e_astore_2, e_astore_3, e_lstore, e_lstore_0, e_lstore_1, e_lstore_2, e_lstore_3, e_iinc, e_iadd, e_isub, e_imul, e_ladd, e_lsub, e_lmul, e_idiv, e_irem, e_ldiv, e_lrem, e_ineg, e_lneg, e_iand, e_ior, e_ixor, e_ishl, e_ishr, e_iushr, e_lcmp, e_i2l, e_l2i, e_i2b, e_i2s, e_dup_i, e_dup_r, e_pop_i, e_pop_r, e_dup2_l, e_dup2_ir, e_dup2_ii, e_ifeq, e_ifne, e_iflt, e_ifge, e_ifgt, e_ifle, e_iceq, e_icne, e_iclt, e_icge, e_icgt, e_icle, e_goto, e_switch, e_invokevirtual, e_invokestatic, e_invokespecial, e_ret0, e_ret1, e_ret2, e_ret3, ldI_s, ldL_s, ldR_s, clO_s, ctP_s, ctS_s, mgo_0, mgo_s, pjc_s, pj_0, pj_s, lk_s, rm1_0, rm1_i, rm1_r, rm1_l, rm2_0, rm2_i, rm2_r, rm2_l, csL_s, lc_lt, lc_ge, lc_gt, lc_le, lc_eq, b01_0, b01_1, b01_01, b01_n, up2_o, up2_s, up2_u, ne_eq, reduceCtorEq, Nat.reduceAdd, Nat.reduceEqDiff, Nat.reduceLT, Nat.reduceLeDiff, Int.reduceLE, Int.reduceLT, Int.reduceAdd, Int.reduceNeg, Int.reduceMul, Int.reduceSub, Int.reduceEq, Int.reduceToNat, Int.reduceNatCast, Int.cast_ofNat_Int, ↓reduceIte, and_self, List.drop_succ_cons, List.drop_zero, List.take_succ_cons, List.take_zero, List.length_cons, List.length_nil, List.reverse_cons, List.reverse_nil, List.nil_append, List.cons_append, Option.toList, true_and, and_true, or_false, false_or, or_true, true_or, forall_const, Classical.not_not, not_false_eq_true, not_true_eq_false, false_implies, true_implies, implies_true, imp_self, i0, i1, i2]
  refine ⟨by omega, fun q => ?_, fun q => ?_⟩
  · refine qeq hQ (eV.trans (if_pos ⟨hw, fun j hj => hb j ?_⟩))
    have : j < (M 2 s.toNat / 3).toNat := hj
    omega
  · have b := bad q
    (repeat' (first | (intro _) | (refine And.intro ?_ ?_))) <;> first | omega | exact qeq hQ (b (by omega)) | skip
    have y1 : 0 ≤ M 3 (60 * s.toNat + 3 * a) ∧ M 3 (60 * s.toNat + 3 * a) < M 7 3 := by omega
    have y2 : 0 ≤ M 3 (60 * s.toNat + (3 * a + 1)) ∧ M 3 (60 * s.toNat + (3 * a + 1)) < M 7 4 := by omega
    have y3 : 0 ≤ M 3 (60 * s.toNat + (3 * a + 2)) ∧ M 3 (60 * s.toNat + (3 * a + 2)) ≤ 999 := by omega
    refine hI_46 (20 - (a + 1)) _ _ _ (by omega) ⟨rfl, rfl, hq, hz, hw, a + 1, by omega, by omega, fun j hj => ?_, rfl⟩
    by_cases e : j = a
    · subst e
      unfold tripP
      rw [slM_k (by omega), slM_k (by omega), slM_k (by omega)]
      exact ⟨y1, y2, y3⟩
    · exact hb j (by omega)
set_option maxHeartbeats 4000000 in
set_option maxRecDepth 100000 in
theorem m7_whyNotSags : MOK cl7 sh7 tyl7 [] 2 yX7_whyNotSags cX7_whyNotSags 4 (some .int) sp7_whyNotSags := by
  refine mok_of (own := RX7) (tb := tb7 (csL cs7_whyNotSags)) (rt := 1) (fuel := 400) (fun avs M Q => [(46, [0, 1, 2], fun m_ vs M1 => ∃ y_s_ : Int, ∃ y_i : Int, vs = [ar 0, ai y_s_, ai y_i] ∧ J7_whyNotSags_46 (pa true [0] avs 0) M m_ y_s_ y_i M1)]) (by decide) rfl nil_nw (tbOK7 _) rfl (csL_all ?_) ?_ ?_ ?_
  · intro q hq
    simp only [cs7_whyNotSags, List.mem_cons, List.not_mem_nil, or_false] at hq
    rcases hq with rfl | rfl | rfl | rfl | rfl
    · exact cg7_isSlot (by decide)
    · exact cg7_isValley (by decide)
    · exact cg7_isBridge (by decide)
    · exact cg7_isCart (by decide)
    · exact cg7_in (by decide)
  · intro avs M Q hsp
    obtain ⟨xs, hx⟩ := spF_un _ _ _ hsp
    obtain ⟨e, hl⟩ := unA_mkT hx
    obtain ⟨s, rfl⟩ := len1 hl
    have e : avs = [ar 0, ai s] := e
    subst e
    simp [szL, isL]
  · intro avs M Q hM hav hsp
    obtain ⟨xs, hx⟩ := spF_un _ _ _ hsp
    obtain ⟨e, hl⟩ := unA_mkT hx
    obtain ⟨s, rfl⟩ := len1 hl
    have e : avs = [ar 0, ai s] := e
    subst e
    exact in7_whyNotSags hM (hav (ai s) (by simp)) hsp.1 hsp.2 _ (fun m_ y_s_ y_i M2 hJ => ⟨m_, y_s_, y_i, rfl, hJ⟩)
  · intro avs M Q hM hav hsp q hq m_ vs M1 hM1 hv hJ
    obtain ⟨xs, hx⟩ := spF_un _ _ _ hsp
    obtain ⟨e, hl⟩ := unA_mkT hx
    obtain ⟨s, rfl⟩ := len1 hl
    have e : avs = [ar 0, ai s] := e
    subst e
    simp only [List.mem_cons, List.not_mem_nil, or_false] at hq
    rcases hq with rfl
    · obtain ⟨y_s_, y_i, rfl, hJ⟩ := hJ
      exact at7_whyNotSags_46 hM (hav (ai s) (by simp)) hsp.1 hsp.2 hM1 (hv (1, ai y_s_) (List.mem_of_getElem? (i := 1) rfl)) (hv (2, ai y_i) (List.mem_of_getElem? (i := 2) rfl)) hJ _ (fun m2 z_s_ z_i M2 hm hJ2 => ⟨m2, hm, z_s_, z_i, rfl, hJ2⟩)
theorem cg7_whyNotSags {lvl : Nat} (h : 2 < lvl) : CG RX7 cl7 sh7 tyl7 [] lvl 1 424 2 sp7_whyNotSags := cg_V (sg := [0]) nil_nw spF_mono spF_un m7_whyNotSags h rfl (by decide) rfl rfl ⟨rfl, by decide, by decide, rfl⟩ q2125 q2127 qs115 q138 q2128
def whyLd (V : Vy) (sl : Nat → Sl) (s c : Int) : Int := if isC V c then whyBk V sl s else -2
def P7_whyNotLoads (s : Int) (c : Int) (M : Mm) : Prop := okY (vM M) ∧ ∀ s : Nat, s < 4 → okSl (slM M s)
def V7_whyNotLoads (s : Int) (c : Int) (M : Mm) : Int := whyLd (vM M) (slM M) s c
def sp7_whyNotLoads : Spec := spF true [0, 0] 1 (fun x M => P7_whyNotLoads (x 0) (x 1) M) (fun x M => V7_whyNotLoads (x 0) (x 1) M)
theorem c7_whyNotLoads {s c : Int} {M : Mm} {Q : Option AV → Mm → Prop} : sp7_whyNotLoads [ar 0, ai s, ai c] M Q = (P7_whyNotLoads s c M ∧ Q (some (ai (V7_whyNotLoads s c M))) M) := rfl
def cs7_whyNotLoads : List (Nat × Nat × Nat × Spec) := [(289, 1, 2, sp7_isCart), (424, 1, 2, sp7_whyNotSags)]
set_option maxHeartbeats 4000000 in
set_option maxRecDepth 100000 in
theorem in7_whyNotLoads {s c : Int} {M : Mm} {Q : Option AV → Mm → Prop} (hM : okM sh7 M) (h_s : i32 s) (h_c : i32 c) (hP : P7_whyNotLoads s c M) (hQ : Q (some (ai (V7_whyNotLoads s c M))) M) : wp (tb7 (csL cs7_whyNotLoads)) sh7 3 1 cX7_whyNotLoads [] Q 400 0 [(0, ar 0), (1, ai s), (2, ai c)] [] M := by
  have h4 : 0 ≤ M 7 4 ∧ M 7 4 ≤ 7 := hP.1.2.2.2.2.1
  have e1 : ¬ (0 ≤ c ∧ c < M 7 4) → V7_whyNotLoads s c M = -2 := fun q => if_neg q
  have e2 : (0 ≤ c ∧ c < M 7 4) → V7_whyNotLoads s c M = whyBk (vM M) (slM M) s := fun q => if_pos q
  simp only [e_wp dX7_whyNotLoads_0 rfl, e_wp dX7_whyNotLoads_1 rfl, e_wp dX7_whyNotLoads_2 rfl, e_wp dX7_whyNotLoads_3 rfl, e_wp dX7_whyNotLoads_6 rfl, e_wp dX7_whyNotLoads_9 rfl, e_wp dX7_whyNotLoads_10 rfl, e_wp dX7_whyNotLoads_11 rfl, e_wp dX7_whyNotLoads_14 rfl, e_wp dX7_whyNotLoads_17 rfl, e_wp dX7_whyNotLoads_19 rfl, c7_isCart, P7_isCart, V7_isCart, cs7_whyNotLoads, c7_whyNotSags, P7_whyNotSags, V7_whyNotSags, e_iconst, e_bipush, e_sipush, e_lconst_0, e_lconst_1, e_iload, e_iload_0, e_iload_1, e_iload_2, e_iload_3, e_lload, e_lload_0, e_lload_1, e_lload_2, e_lload_3, e_aload, e_aload_0, e_aload_1, e_aload_2, e_aload_3, e_istore, e_istore_0, e_istore_1, e_istore_2, e_istore_3, e_astore, e_astore_0, e_astore_1, e_astore_2, e_astore_3, e_lstore, e_lstore_0, e_lstore_1, e_lstore_2, e_lstore_3, e_iinc, e_iadd, e_isub, e_imul, e_ladd, e_lsub, e_lmul, e_idiv, e_irem, e_ldiv, e_lrem, e_ineg, e_lneg, e_iand, e_ior, e_ixor, e_ishl, e_ishr, e_iushr, e_lcmp, e_i2l, e_l2i, e_i2b, e_i2s, e_dup_i, e_dup_r, e_pop_i, e_pop_r, e_dup2_l, e_dup2_ir, e_dup2_ii, e_ifeq, e_ifne, e_iflt, e_ifge, e_ifgt, e_ifle, e_iceq, e_icne, e_iclt, e_icge, e_icgt, e_icle, e_goto, e_switch, e_invokevirtual, e_invokestatic, e_invokespecial, e_ret0, e_ret1, e_ret2, e_ret3, ldI_s, ldL_s, ldR_s, clO_s, ctP_s, ctS_s, mgo_0, mgo_s, pjc_s, pj_0, pj_s, lk_s, rm1_0, rm1_i, rm1_r, rm1_l, rm2_0, rm2_i, rm2_r, rm2_l, csL_s, lc_lt, lc_ge, lc_gt, lc_le, lc_eq, b01_0, b01_1, b01_01, b01_n, up2_o, up2_s, up2_u, ne_eq, reduceCtorEq, Nat.reduceAdd, Nat.reduceEqDiff, Nat.reduceLT, Nat.reduceLeDiff, Int.reduceLE, Int.reduceLT, Int.reduceAdd, Int.reduceNeg, Int.reduceMul, Int.reduceSub, Int.reduceEq, Int.reduceToNat, Int.reduceNatCast, Int.cast_ofNat_Int, ↓reduceIte, and_self, List.drop_succ_cons, List.drop_zero, List.take_succ_cons, List.take_zero, List.length_cons, List.length_nil, List.reverse_cons, List.reverse_nil, List.nil_append, List.cons_append, Option.toList, true_and, and_true, or_false, false_or, or_true, true_or, forall_const, Classical.not_not, not_false_eq_true, not_true_eq_false, false_implies, true_implies, implies_true, imp_self]
  exact ⟨h4, fun q => qeq hQ (e1 q), fun q => ⟨hP, qeq hQ (e2 q)⟩⟩
set_option maxHeartbeats 4000000 in
set_option maxRecDepth 100000 in
theorem m7_whyNotLoads : MOK cl7 sh7 tyl7 [] 3 yX7_whyNotLoads cX7_whyNotLoads 3 (some .int) sp7_whyNotLoads := by
  refine mok_of (own := RX7) (tb := tb7 (csL cs7_whyNotLoads)) (rt := 1) (fuel := 400) (fun avs M Q => []) (by decide) rfl nil_nw (tbOK7 _) rfl (csL_all ?_) ?_ ?_ ?_
  · intro q hq
    simp only [cs7_whyNotLoads, List.mem_cons, List.not_mem_nil, or_false] at hq
    rcases hq with rfl | rfl
    · exact cg7_isCart (by decide)
    · exact cg7_whyNotSags (by decide)
  · intro avs M Q hsp
    obtain ⟨xs, hx⟩ := spF_un _ _ _ hsp
    obtain ⟨e, hl⟩ := unA_mkT hx
    obtain ⟨s, c, rfl⟩ := len2 hl
    have e : avs = [ar 0, ai s, ai c] := e
    subst e
    simp [szL, isL]
  · intro avs M Q hM hav hsp
    obtain ⟨xs, hx⟩ := spF_un _ _ _ hsp
    obtain ⟨e, hl⟩ := unA_mkT hx
    obtain ⟨s, c, rfl⟩ := len2 hl
    have e : avs = [ar 0, ai s, ai c] := e
    subst e
    exact in7_whyNotLoads hM (hav (ai s) (by simp)) (hav (ai c) (by simp)) hsp.1 hsp.2
  · intro avs M Q hM hav hsp q hq m_ vs M1 hM1 hv hJ
    obtain ⟨xs, hx⟩ := spF_un _ _ _ hsp
    obtain ⟨e, hl⟩ := unA_mkT hx
    obtain ⟨s, c, rfl⟩ := len2 hl
    have e : avs = [ar 0, ai s, ai c] := e
    subst e
    cases hq
theorem cg7_whyNotLoads {lvl : Nat} (h : 3 < lvl) : CG RX7 cl7 sh7 tyl7 [] lvl 1 439 3 sp7_whyNotLoads := cg_V (sg := [0, 0]) nil_nw spF_mono spF_un m7_whyNotLoads h rfl (by decide) rfl rfl ⟨rfl, by decide, by decide, rfl⟩ q2121 q2123 qs114 q138 q2124
theorem bm_id {x : Int} (h1 : -2147483648 ≤ x) (h2 : x ≤ 2147483647) : x.bmod 4294967296 = x := Int.bmod_eq_of_le (by omega) (by omega)
/-- sags that were seen are as it is told -/
abbrev soP (g : Nat → Nat → Int) (s : Sl) : Prop := ∀ i : Nat, i < (s.1.2 / 3).toNat → g (s.2 (3 * i + 1)).toNat (s.2 (3 * i)).toNat = s.2 (3 * i + 2)
def bookOK (V : Vy) (s : Sl) : Prop := bookP V s ∧ 0 ≤ s.1.2 ∧ s.1.2 ≤ 60 ∧ V 0 3 ≤ 3 ∧ V 0 4 ≤ 7
def P7_isSo (s : Int) (M : Mm) : Prop := (0 ≤ s ∧ s ≤ 3) ∧ bookOK (vM M) (slM M s.toNat)
def V7_isSo (s : Int) (M : Mm) : Int := b01 (soP (fun t b => M 28 (3 * t + b)) (slM M s.toNat))
def sp7_isSo : Spec := spF true [0] 1 (fun x M => P7_isSo (x 0) M) (fun x M => V7_isSo (x 0) M)
theorem c7_isSo {s : Int} {M : Mm} {Q : Option AV → Mm → Prop} : sp7_isSo [ar 0, ai s] M Q = (P7_isSo s M ∧ Q (some (ai (V7_isSo s M))) M) := rfl
def cs7_isSo : List (Nat × Nat × Nat × Spec) := []
def J7_isSo_2 (s : Int) (M : Mm) (m : Nat) (s_ : Int) (i : Int) (M1 : Mm) : Prop := s = s_ ∧ M = M1 ∧ ∃ a : Nat, i = 3 * (a : Int) ∧ 3 * (a : Int) ≤ M 2 s.toNat ∧ (∀ j : Nat, j < a → M 28 (3 * ((slM M s.toNat).2 (3 * j + 1)).toNat + ((slM M s.toNat).2 (3 * j)).toNat) = (slM M s.toNat).2 (3 * j + 2)) ∧ m = 20 - a
set_option maxHeartbeats 4000000 in
set_option maxRecDepth 100000 in
theorem in7_isSo {s : Int} {M : Mm} {Q : Option AV → Mm → Prop} (hM : okM sh7 M) (h_s : i32 s) (hP : P7_isSo s M) (hQ : Q (some (ai (V7_isSo s M))) M) (I_2 : List AV → Mm → Prop) (hI_2 : ∀ (m_ : Nat) (y_s_ : Int) (y_i : Int) (M2 : Mm), J7_isSo_2 s M m_ y_s_ y_i M2 → I_2 [ar 0, ai y_s_, ai y_i] M2) : wp (tb7 (csL cs7_isSo)) sh7 4 2 cX7_isSo [(2, [0, 1, 2], I_2)] Q 400 0 [(0, ar 0), (1, ai s)] [] M := by
  simp only [e_wp dX7_isSo_0 rfl, e_wp dX7_isSo_1 rfl, e_wp dX7_isSo_2 rfl, e_wp dX7_isSo_3 rfl, e_wp dX7_isSo_4 rfl, e_wp dX7_isSo_7 rfl, e_wp dX7_isSo_8 rfl, e_wp dX7_isSo_9 rfl, e_wp dX7_isSo_12 rfl, e_wp dX7_isSo_14 rfl, e_wp dX7_isSo_15 rfl, e_wp dX7_isSo_16 rfl, e_wp dX7_isSo_17 rfl, e_wp dX7_isSo_18 rfl, e_wp dX7_isSo_19 rfl, e_wp dX7_isSo_20 rfl, e_wp dX7_isSo_23 rfl, e_wp dX7_isSo_24 rfl, e_wp dX7_isSo_25 rfl, e_wp dX7_isSo_28 rfl, e_wp dX7_isSo_29 rfl, e_wp dX7_isSo_30 rfl, e_wp dX7_isSo_31 rfl, e_wp dX7_isSo_32 rfl, e_wp dX7_isSo_33 rfl, e_wp dX7_isSo_34 rfl, e_wp dX7_isSo_35 rfl, e_wp dX7_isSo_38 rfl, e_wp dX7_isSo_39 rfl, e_wp dX7_isSo_40 rfl, e_wp dX7_isSo_41 rfl, e_wp dX7_isSo_42 rfl, e_wp dX7_isSo_43 rfl, e_wp dX7_isSo_44 rfl, e_wp dX7_isSo_45 rfl, e_wp dX7_isSo_48 rfl, e_wp dX7_isSo_49 rfl, e_wp dX7_isSo_50 rfl, e_wp dX7_isSo_51 rfl, e_wp dX7_isSo_52 rfl, e_wp dX7_isSo_53 rfl, e_wp dX7_isSo_56 rfl, e_wp dX7_isSo_57 rfl, e_wp dX7_isSo_58 rfl, e_wp dX7_isSo_61 rfl, e_wp dX7_isSo_64 rfl, e_wp dX7_isSo_65 rfl, g7_13, g7_98, g7_16, a7_1, w7_1, a7_2, w7_2, a7_3, w7_3, a7_4, w7_4, a7_5, w7_5, a7_6, w7_6, a7_7, w7_7, a7_8, w7_8, a7_9, w7_9, a7_10, w7_10, a7_11, w7_11, a7_12, w7_12, a7_13, w7_13, a7_14, w7_14, a7_15, w7_15, a7_16, w7_16, a7_17, w7_17, a7_18, w7_18, a7_19, w7_19, a7_20, w7_20, a7_21, w7_21, a7_22, w7_22, a7_23, w7_23, a7_24, w7_24, a7_25, w7_25, a7_26, w7_26, a7_27, w7_27, a7_28, w7_28, a7_29, w7_29, a7_30, w7_30, a7_31, w7_31, a7_32, w7_32, a7_33, w7_33, e_iconst, e_bipush, e_sipush, e_lconst_0, e_lconst_1, e_iload, e_iload_0, e_iload_1, e_iload_2, e_iload_3, e_lload, e_lload_0, e_lload_1, e_lload_2, e_lload_3, e_aload, e_aload_0, e_aload_1, e_aload_2, e_aload_3, e_istore, e_istore_0, e_istore_1, e_istore_2, e_istore_3, e_astore, e_astore_0, e_astore_1, e_astore_2, e_astore_3, e_lstore, e_lstore_0, e_lstore_1, e_lstore_2, e_lstore_3, e_iinc, e_iadd, e_isub, e_imul, e_ladd, e_lsub, e_lmul, e_idiv, e_irem, e_ldiv, e_lrem, e_ineg, e_lneg, e_iand, e_ior, e_ixor, e_ishl, e_ishr, e_iushr, e_lcmp, e_i2l, e_l2i, e_i2b, e_i2s, e_dup_i, e_dup_r, e_pop_i, e_pop_r, e_dup2_l, e_dup2_ir, e_dup2_ii, e_ifeq, e_ifne, e_iflt, e_ifge, e_ifgt, e_ifle, e_iceq, e_icne, e_iclt, e_icge, e_icgt, e_icle, e_goto, e_switch, e_invokevirtual, e_invokestatic, e_invokespecial, e_ret0, e_ret1, e_ret2, e_ret3, ldI_s, ldL_s, ldR_s, clO_s, ctP_s, ctS_s, mgo_0, mgo_s, pjc_s, pj_0, pj_s, lk_s, rm1_0, rm1_i, rm1_r, rm1_l, rm2_0, rm2_i, rm2_r, rm2_l, csL_s, lc_lt, lc_ge, lc_gt, lc_le, lc_eq, b01_0, b01_1, b01_01, b01_n, up2_o, up2_s, up2_u, ne_eq, reduceCtorEq, Nat.reduceAdd, Nat.reduceEqDiff, Nat.reduceLT, Nat.reduceLeDiff, Int.reduceLE, Int.reduceLT, Int.reduceAdd, Int.reduceNeg, Int.reduceMul, Int.reduceSub, Int.reduceEq, Int.reduceToNat, Int.reduceNatCast, Int.cast_ofNat_Int, ↓reduceIte, and_self, List.drop_succ_cons, List.drop_zero, List.take_succ_cons, List.take_zero, List.length_cons, List.length_nil, List.reverse_cons, List.reverse_nil, List.nil_append, List.cons_append, Option.toList, true_and, and_true, or_false, false_or, or_true, true_or, forall_const, Classical.not_not, not_false_eq_true, not_true_eq_false, false_implies, true_implies, implies_true, imp_self]
  exact hI_2 (20 - 0) _ _ _ ⟨rfl, rfl, 0, rfl, hP.2.2.1, fun j hj => by omega, rfl⟩
set_option maxHeartbeats 4000000 in
set_option maxRecDepth 100000 in
theorem at7_isSo_2 {s : Int} {M : Mm} {Q : Option AV → Mm → Prop} (hM : okM sh7 M) (h_s : i32 s) (hP : P7_isSo s M) (hQ : Q (some (ai (V7_isSo s M))) M) {m : Nat} {s_ i : Int} {M1 : Mm} (hM1 : okM sh7 M1) (h_s_ : i32 s_) (h_i : i32 i) (hJ : J7_isSo_2 s M m s_ i M1) (I_2 : List AV → Mm → Prop) (hI_2 : ∀ (m_ : Nat) (y_s_ : Int) (y_i : Int) (M2 : Mm), m_ < m → J7_isSo_2 s M m_ y_s_ y_i M2 → I_2 [ar 0, ai y_s_, ai y_i] M2) : wp (tb7 (csL cs7_isSo)) sh7 4 2 cX7_isSo [(2, [0, 1, 2], I_2)] Q 400 2 [(0, ar 0), (1, ai s_), (2, ai i)] [] M1 := by
  obtain ⟨rfl, rfl, a, rfl, ha, hb, rfl⟩ := hJ
  obtain ⟨hs, ⟨hk1, hk2⟩, hs2, hs3, hn3, hn4⟩ := id hP
  have hs2 : 0 ≤ M 2 s.toNat := hs2
  have hs3 : M 2 s.toNat ≤ 60 := hs3
  have hn3 : M 7 3 ≤ 3 := hn3
  have hn4 : M 7 4 ≤ 7 := hn4
  have hk1 : (M 2 s.toNat).tmod 3 = 0 := hk1
  have hm3 : M 2 s.toNat = 3 * ((M 2 s.toNat) / 3) := by
    have := Int.tmod_eq_emod_of_nonneg (a := M 2 s.toNat) (b := 3) (by omega)
    omega
  have i0 : ((60 : Int) * s + 3 * a).toNat = 60 * s.toNat + 3 * a := by omega
  have i1 : ((60 : Int) * s + 3 * a + 1).toNat = 60 * s.toNat + (3 * a + 1) := by omega
  have i2 : ((60 : Int) * s + 3 * a + 2).toNat = 60 * s.toNat + (3 * a + 2) := by omega
  simp only [e_wp dX7_isSo_0 rfl, e_wp dX7_isSo_1 rfl, e_wp dX7_isSo_2 rfl, e_wp dX7_isSo_3 rfl, e_wp dX7_isSo_4 rfl, e_wp dX7_isSo_7 rfl, e_wp dX7_isSo_8 rfl, e_wp dX7_isSo_9 rfl, e_wp dX7_isSo_12 rfl, e_wp dX7_isSo_14 rfl, e_wp dX7_isSo_15 rfl, e_wp dX7_isSo_16 rfl, e_wp dX7_isSo_17 rfl, e_wp dX7_isSo_18 rfl, e_wp dX7_isSo_19 rfl, e_wp dX7_isSo_20 rfl, e_wp dX7_isSo_23 rfl, e_wp dX7_isSo_24 rfl, e_wp dX7_isSo_25 rfl, e_wp dX7_isSo_28 rfl, e_wp dX7_isSo_29 rfl, e_wp dX7_isSo_30 rfl, e_wp dX7_isSo_31 rfl, e_wp dX7_isSo_32 rfl, e_wp dX7_isSo_33 rfl, e_wp dX7_isSo_34 rfl, e_wp dX7_isSo_35 rfl, e_wp dX7_isSo_38 rfl, e_wp dX7_isSo_39 rfl, e_wp dX7_isSo_40 rfl, e_wp dX7_isSo_41 rfl, e_wp dX7_isSo_42 rfl, e_wp dX7_isSo_43 rfl, e_wp dX7_isSo_44 rfl, e_wp dX7_isSo_45 rfl, e_wp dX7_isSo_48 rfl, e_wp dX7_isSo_49 rfl, e_wp dX7_isSo_50 rfl, e_wp dX7_isSo_51 rfl, e_wp dX7_isSo_52 rfl, e_wp dX7_isSo_53 rfl, e_wp dX7_isSo_56 rfl, e_wp dX7_isSo_57 rfl, e_wp dX7_isSo_58 rfl, e_wp dX7_isSo_61 rfl, e_wp dX7_isSo_64 rfl, e_wp dX7_isSo_65 rfl, g7_13, g7_98, g7_16, a7_1, w7_1, a7_2, w7_2, a7_3, w7_3, a7_4, w7_4, a7_5, w7_5, a7_6, w7_6, a7_7, w7_7, a7_8, w7_8, a7_9, w7_9, a7_10, w7_10, a7_11, w7_11, a7_12, w7_12, a7_13, w7_13, a7_14, w7_14, a7_15, w7_15, a7_16, w7_16, a7_17, w7_17, a7_18, w7_18, a7_19, w7_19, a7_20, w7_20, a7_21, w7_21, a7_22, w7_22, a7_23, w7_23, a7_24, w7_24, a7_25, w7_25, a7_26, w7_26, a7_27, w7_27, a7_28, w7_28, a7_29, w7_29, a7_30, w7_30, a7_31, w7_31, a7_32, w7_32, a7_33, w7_33, e_iconst, e_bipush, e_sipush, e_lconst_0, e_lconst_1, e_iload, e_iload_0, e_iload_1, e_iload_2, e_iload_3, e_lload, e_lload_0, e_lload_1, e_lload_2, e_lload_3, e_aload, e_aload_0, e_aload_1, e_aload_2, e_aload_3, e_istore, e_istore_0, e_istore_1, e_istore_2, e_istore_3, e_astore, e_astore_0, e_astore_1, e_astore_2, e_astore_3, e_lstore, e_lstore_0, e_lstore_1, e_lstore_2, e_lstore_3, e_iinc, e_iadd, e_isub, e_imul, e_ladd, e_lsub, e_lmul, e_idiv, e_irem, e_ldiv, e_lrem, e_ineg, e_lneg, e_iand, e_ior, e_ixor, e_ishl, e_ishr, e_iushr, e_lcmp, e_i2l, e_l2i, e_i2b, e_i2s, e_dup_i, e_dup_r, e_pop_i, e_pop_r, e_dup2_l, e_dup2_ir, e_dup2_ii, e_ifeq, e_ifne, e_iflt, e_ifge, e_ifgt, e_ifle, e_iceq, e_icne, e_iclt, e_icge, e_icgt, e_icle, e_goto, e_switch, e_invokevirtual, e_invokestatic, e_invokespecial, e_ret0, e_ret1, e_ret2, e_ret3, ldI_s, ldL_s, ldR_s, clO_s, ctP_s, ctS_s, mgo_0, mgo_s, pjc_s, pj_0, pj_s, lk_s, rm1_0, rm1_i, rm1_r, rm1_l, rm2_0, rm2_i, rm2_r, rm2_l, csL_s, lc_lt, lc_ge, lc_gt, lc_le, lc_eq, b01_0, b01_1, b01_01, b01_n, up2_o, up2_s, up2_u, ne_eq, reduceCtorEq, Nat.reduceAdd, Nat.reduceEqDiff, Nat.reduceLT, Nat.reduceLeDiff, Int.reduceLE, Int.reduceLT, Int.reduceAdd, Int.reduceNeg, Int.reduceMul, Int.reduceSub, Int.reduceEq, Int.reduceToNat, Int.reduceNatCast, Int.cast_ofNat_Int, ↓reduceIte, and_self, List.drop_succ_cons, List.drop_zero, List.take_succ_cons, List.take_zero, List.length_cons, List.length_nil, List.reverse_cons, List.reverse_nil, List.nil_append, List.cons_append, Option.toList, true_and, and_true, or_false, false_or, or_true, true_or, forall_const, Classical.not_not, not_false_eq_true, not_true_eq_false, false_implies, true_implies, implies_true, imp_self, i0, i1, i2]
  refine ⟨by omega, fun q => ?_, fun q => ?_⟩
  · refine qeq hQ (b01_t fun j hj => hb j ?_)
    have : j < (M 2 s.toNat / 3).toNat := hj
    omega
  · have w2 := hk2 a (by show a < (M 2 s.toNat / 3).toNat; omega)
    unfold tripP at w2
    rw [slM_k (by omega), slM_k (by omega), slM_k (by omega)] at w2
    obtain ⟨⟨y1, y2⟩, ⟨y3, y4⟩, y5, y6⟩ := w2
    have y2 : M 3 (60 * s.toNat + 3 * a) < M 7 3 := y2
    have y4 : M 3 (60 * s.toNat + (3 * a + 1)) < M 7 4 := y4
    rw [bm_id (x := M 3 (60 * s.toNat + (3 * a + 1))) (by omega) (by omega), bm_id (x := M 3 (60 * s.toNat + 3 * a)) (by omega) (by omega)]
    have ix : (3 * M 3 (60 * s.toNat + (3 * a + 1)) + M 3 (60 * s.toNat + 3 * a)).toNat = 3 * (M 3 (60 * s.toNat + (3 * a + 1))).toNat + (M 3 (60 * s.toNat + 3 * a)).toNat := by omega
    rw [ix]
    repeat (refine And.intro (by omega) ?_)
    refine ⟨fun z => ⟨by omega, ?_⟩, fun z => qeq hQ (b01_f fun w => z ?_)⟩
    · refine hI_2 (20 - (a + 1)) _ _ _ (by omega) ⟨rfl, rfl, a + 1, by omega, by omega, fun j hj => ?_, rfl⟩
      by_cases e : j = a
      · subst e
        rw [slM_k (by omega), slM_k (by omega), slM_k (by omega)]
        exact z
      · exact hb j (by omega)
    · have w3 := w a (by show a < (M 2 s.toNat / 3).toNat; omega)
      rw [slM_k (by omega), slM_k (by omega), slM_k (by omega)] at w3
      exact w3
set_option maxHeartbeats 4000000 in
set_option maxRecDepth 100000 in
theorem m7_isSo : MOK cl7 sh7 tyl7 [] 0 yX7_isSo cX7_isSo 4 (some .boolean) sp7_isSo := by
  refine mok_of (own := RX7) (tb := tb7 (csL cs7_isSo)) (rt := 2) (fuel := 400) (fun avs M Q => [(2, [0, 1, 2], fun m_ vs M1 => ∃ y_s_ : Int, ∃ y_i : Int, vs = [ar 0, ai y_s_, ai y_i] ∧ J7_isSo_2 (pa true [0] avs 0) M m_ y_s_ y_i M1)]) (by decide) rfl nil_nw (tbOK7 _) rfl (csL_all ?_) ?_ ?_ ?_
  · intro q hq; cases hq
  · intro avs M Q hsp
    obtain ⟨xs, hx⟩ := spF_un _ _ _ hsp
    obtain ⟨e, hl⟩ := unA_mkT hx
    obtain ⟨s, rfl⟩ := len1 hl
    have e : avs = [ar 0, ai s] := e
    subst e
    simp [szL, isL]
  · intro avs M Q hM hav hsp
    obtain ⟨xs, hx⟩ := spF_un _ _ _ hsp
    obtain ⟨e, hl⟩ := unA_mkT hx
    obtain ⟨s, rfl⟩ := len1 hl
    have e : avs = [ar 0, ai s] := e
    subst e
    exact in7_isSo hM (hav (ai s) (by simp)) hsp.1 hsp.2 _ (fun m_ y_s_ y_i M2 hJ => ⟨m_, y_s_, y_i, rfl, hJ⟩)
  · intro avs M Q hM hav hsp q hq m_ vs M1 hM1 hv hJ
    obtain ⟨xs, hx⟩ := spF_un _ _ _ hsp
    obtain ⟨e, hl⟩ := unA_mkT hx
    obtain ⟨s, rfl⟩ := len1 hl
    have e : avs = [ar 0, ai s] := e
    subst e
    simp only [List.mem_cons, List.not_mem_nil, or_false] at hq
    rcases hq with rfl
    · obtain ⟨y_s_, y_i, rfl, hJ⟩ := hJ
      exact at7_isSo_2 hM (hav (ai s) (by simp)) hsp.1 hsp.2 hM1 (hv (1, ai y_s_) (List.mem_of_getElem? (i := 1) rfl)) (hv (2, ai y_i) (List.mem_of_getElem? (i := 2) rfl)) hJ _ (fun m2 z_s_ z_i M2 hm hJ2 => ⟨m2, hm, z_s_, z_i, rfl, hJ2⟩)
theorem cg7_isSo {lvl : Nat} (h : 0 < lvl) : CG RX7 cl7 sh7 tyl7 [] lvl 1 436 2 sp7_isSo := cg_V (sg := [0]) nil_nw spF_mono spF_un m7_isSo h rfl (by decide) rfl rfl ⟨rfl, by decide, by decide, rfl⟩ q2134 q2136 qs117 q138 q2137
/-- sag of a bridge behind a turn -/
def sgP (V : Vy) (C : Cf) (t b : Nat) : Int := sagP ((runP (whoM C) V C (t + 1)).1 b)
theorem so_ran {V : Vy} {C : Cf} {M1 : Mm} {s : Sl} (hb : bookOK V s) (h : ranR V C M1) : soP (fun t b => M1 28 (3 * t + b)) s ↔ soP (sgP V C) s := by
  have key : ∀ i : Nat, i < (s.1.2 / 3).toNat → M1 28 (3 * (s.2 (3 * i + 1)).toNat + (s.2 (3 * i)).toNat) = sgP V C (s.2 (3 * i + 1)).toNat (s.2 (3 * i)).toNat := by
    intro i hi
    obtain ⟨⟨y1, y2⟩, ⟨y3, y4⟩, -⟩ := hb.1.2 i hi
    exact (h.2.2.1 _ _ (by omega) (by omega)).2.2.2.1
  constructor
  · intro w i hi
    rw [← key i hi]; exact w i hi
  · intro w i hi
    show M1 28 _ = _
    rw [key i hi]; exact w i hi
theorem book_eq {V V' : Vy} {s s' : Sl} (h : bookOK V s) (e1 : V' = V) (e2 : s' = s) : bookOK V' s' := by rw [e1, e2]; exact h
theorem nC_u1 {V : Vy} {C : Cf} {i c : Nat} {x : Int} (hi : i ≠ 0) (hc : (c : Int) < V 0 4) : nC V (up2 C i c x) = up2 (nC V C) i c x := by
  funext i' k
  show (if i' = 0 then up2 C i c x 0 k else if (k : Int) < V 0 4 then up2 C i c x i' k else 0) = if i' = i ∧ k = c then x else (if i' = 0 then C 0 k else if (k : Int) < V 0 4 then C i' k else 0)
  by_cases e : i' = i ∧ k = c
  · obtain ⟨rfl, rfl⟩ := e
    rw [if_neg hi, if_pos hc, up2_s, if_pos ⟨rfl, rfl⟩]
  · rw [if_neg e]
    by_cases e0 : i' = 0
    · rw [if_pos e0, if_pos e0, up2_o hi.symm]
    · rw [if_neg e0, if_neg e0]
      have : up2 C i c x i' k = C i' k := if_neg e
      rw [this]
theorem load_cM {M : Mm} {c : Nat} {x : Int} : cM (up2 M 14 c x) = up2 (cM M) 1 c x := by
  funext i j
  match i with
  | 0 => rfl
  | 1 =>
    show (if 14 = 14 ∧ j = c then x else M 14 j) = if 1 = 1 ∧ j = c then x else M 14 j
    simp only [true_and]
  | 2 => rfl
  | 3 => rfl
  | i + 4 => rfl
theorem okCf_1 {V : Vy} {C : Cf} {c : Nat} {x : Int} (h : okCf V C) (hx : 1 ≤ x ∧ x ≤ 99) : okCf V (up2 C 1 c x) := by
  refine ⟨by rw [up2_o (by decide)]; exact h.1, fun k hk => ?_⟩
  rw [up2_o (show (2 : Nat) ≠ 1 by decide), up2_o (show (3 : Nat) ≠ 1 by decide)]
  refine ⟨?_, (h.2 k hk).2⟩
  by_cases e : k = c
  · rw [e, up2_s]; exact hx
  · rw [up2_n e]; exact (h.2 k hk).1
/-- which loads of n would be as it was seen: how many, the least, the greatest -/
def lieP (f : Nat → Int) : Nat → Int × Int × Int
  | 0 => (0, -1, -1)
  | n + 1 => if f (n + 1) = 1 then ((lieP f n).1 + 1, if (lieP f n).2.1 = -1 then ((n : Int) + 1) else (lieP f n).2.1, (n : Int) + 1) else lieP f n
theorem lieP_1 {f : Nat → Int} {n : Nat} (h : f (n + 1) = 1) : lieP f (n + 1) = ((lieP f n).1 + 1, if (lieP f n).2.1 = -1 then ((n : Int) + 1) else (lieP f n).2.1, (n : Int) + 1) := if_pos h
theorem lieP_0 {f : Nat → Int} {n : Nat} (h : ¬ f (n + 1) = 1) : lieP f (n + 1) = lieP f n := if_neg h
theorem lieP_b {f : Nat → Int} : ∀ {n : Nat}, 0 ≤ (lieP f n).1 ∧ (lieP f n).1 ≤ n := by
  intro n
  induction n with
  | zero => exact ⟨Int.le_refl _, Int.le_refl _⟩
  | succ n ih =>
    by_cases h : f (n + 1) = 1
    · rw [lieP_1 h]
      show 0 ≤ (lieP f n).1 + 1 ∧ (lieP f n).1 + 1 ≤ _
      omega
    · rw [lieP_0 h]; omega
def lieF (V : Vy) (s : Sl) (c : Nat) (n : Nat) : Int := b01 (soP (sgP V (up2 (tellP V) 1 c n)) s)
def P7_laysLies (s : Int) (c : Int) (M : Mm) : Prop := okY (vM M) ∧ (0 ≤ s ∧ s ≤ 3) ∧ bookOK (vM M) (slM M s.toNat) ∧ 0 ≤ c ∧ c < M 7 4
def R7_laysLies (s : Int) (c : Int) (M : Mm) (M1 : Mm) : Prop := keepM M M1 ∧ (M1 0 54, M1 0 55, M1 0 56) = lieP (lieF (vM M) (slM M s.toNat) c.toNat) 99
def sp7_laysLies : Spec := spV true [0, 0] (fun x M => P7_laysLies (x 0) (x 1) M) (fun x M M1 => R7_laysLies (x 0) (x 1) M M1)
theorem c7_laysLies {s c : Int} {M : Mm} {Q : Option AV → Mm → Prop} : sp7_laysLies [ar 0, ai s, ai c] M Q = (P7_laysLies s c M ∧ ∀ (M1 : Mm), R7_laysLies s c M M1 → Q none M1) := rfl
def cs7_laysLies : List (Nat × Nat × Nat × Spec) := [(330, 1, 1, sp7_lays), (333, 1, 1, sp7_runs), (436, 1, 2, sp7_isSo)]
def J7_laysLies_21 (s : Int) (c : Int) (M : Mm) (m : Nat) (s_ : Int) (c_ : Int) (n : Int) (M1 : Mm) : Prop := s = s_ ∧ c = c_ ∧ keepM M M1 ∧ (∀ x, nC (vM M) (up2 (cM M1) 1 c.toNat x) = up2 (tellP (vM M)) 1 c.toNat x) ∧ ∃ a : Nat, n = (a : Int) + 1 ∧ a ≤ 99 ∧ (M1 0 54, M1 0 55, M1 0 56) = lieP (lieF (vM M) (slM M s.toNat) c.toNat) a ∧ m = 99 - a
set_option maxHeartbeats 4000000 in
set_option maxRecDepth 100000 in
theorem in7_laysLies {s c : Int} {M : Mm} {Q : Option AV → Mm → Prop} (hM : okM sh7 M) (h_s : i32 s) (h_c : i32 c) (hP : P7_laysLies s c M) (hQ : ∀ (M1 : Mm), R7_laysLies s c M M1 → Q none M1) (I_21 : List AV → Mm → Prop) (hI_21 : ∀ (m_ : Nat) (y_s_ : Int) (y_c_ : Int) (y_n : Int) (M2 : Mm), J7_laysLies_21 s c M m_ y_s_ y_c_ y_n M2 → I_21 [ar 0, ai y_s_, ai y_c_, ai y_n] M2) : wp (tb7 (csL cs7_laysLies)) sh7 4 0 cX7_laysLies [(21, [0, 1, 2, 3], I_21)] Q 400 0 [(0, ar 0), (1, ai s), (2, ai c)] [] M := by
  obtain ⟨hY, hs, hb, hc⟩ := id hP
  simp only [e_wp dX7_laysLies_0 rfl, e_wp dX7_laysLies_1 rfl, e_wp dX7_laysLies_4 rfl, e_wp dX7_laysLies_5 rfl, e_wp dX7_laysLies_6 rfl, e_wp dX7_laysLies_9 rfl, e_wp dX7_laysLies_10 rfl, e_wp dX7_laysLies_11 rfl, e_wp dX7_laysLies_14 rfl, e_wp dX7_laysLies_15 rfl, e_wp dX7_laysLies_16 rfl, e_wp dX7_laysLies_19 rfl, e_wp dX7_laysLies_20 rfl, e_wp dX7_laysLies_21 rfl, e_wp dX7_laysLies_22 rfl, e_wp dX7_laysLies_24 rfl, e_wp dX7_laysLies_27 rfl, e_wp dX7_laysLies_28 rfl, e_wp dX7_laysLies_31 rfl, e_wp dX7_laysLies_32 rfl, e_wp dX7_laysLies_33 rfl, e_wp dX7_laysLies_34 rfl, e_wp dX7_laysLies_35 rfl, e_wp dX7_laysLies_38 rfl, e_wp dX7_laysLies_39 rfl, e_wp dX7_laysLies_40 rfl, e_wp dX7_laysLies_43 rfl, e_wp dX7_laysLies_46 rfl, e_wp dX7_laysLies_49 rfl, e_wp dX7_laysLies_50 rfl, e_wp dX7_laysLies_51 rfl, e_wp dX7_laysLies_54 rfl, e_wp dX7_laysLies_55 rfl, e_wp dX7_laysLies_56 rfl, e_wp dX7_laysLies_59 rfl, e_wp dX7_laysLies_60 rfl, e_wp dX7_laysLies_61 rfl, e_wp dX7_laysLies_64 rfl, e_wp dX7_laysLies_65 rfl, e_wp dX7_laysLies_68 rfl, e_wp dX7_laysLies_69 rfl, e_wp dX7_laysLies_72 rfl, e_wp dX7_laysLies_73 rfl, e_wp dX7_laysLies_76 rfl, e_wp dX7_laysLies_79 rfl, e_wp dX7_laysLies_80 rfl, e_wp dX7_laysLies_81 rfl, e_wp dX7_laysLies_84 rfl, e_wp dX7_laysLies_87 rfl, e_wp dX7_laysLies_90 rfl, c7_lays, cs7_laysLies, p7_427, p7_430, p7_433, g7_56, c7_runs, c7_isSo, P7_isSo, V7_isSo, g7_427, g7_430, a7_1, w7_1, a7_2, w7_2, a7_3, w7_3, a7_4, w7_4, a7_5, w7_5, a7_6, w7_6, a7_7, w7_7, a7_8, w7_8, a7_9, w7_9, a7_10, w7_10, a7_11, w7_11, a7_12, w7_12, a7_13, w7_13, a7_14, w7_14, a7_15, w7_15, a7_16, w7_16, a7_17, w7_17, a7_18, w7_18, a7_19, w7_19, a7_20, w7_20, a7_21, w7_21, a7_22, w7_22, a7_23, w7_23, a7_24, w7_24, a7_25, w7_25, a7_26, w7_26, a7_27, w7_27, a7_28, w7_28, a7_29, w7_29, a7_30, w7_30, a7_31, w7_31, a7_32, w7_32, a7_33, w7_33, e_iconst, e_bipush, e_sipush, e_lconst_0, e_lconst_1, e_iload, e_iload_0, e_iload_1, e_iload_2, e_iload_3, e_lload, e_lload_0, e_lload_1, e_lload_2, e_lload_3, e_aload, e_aload_0, e_aload_1, e_aload_2, e_aload_3, e_istore, e_istore_0, e_istore_1, e_istore_2, e_istore_3, e_astore, e_astore_0, e_astore_1, e_astore_2, e_astore_3, e_lstore, e_lstore_0, e_lstore_1, e_lstore_2, e_lstore_3, e_iinc, e_iadd, e_isub, e_imul, e_ladd, e_lsub, e_lmul, e_idiv, e_irem, e_ldiv, e_lrem, e_ineg, e_lneg, e_iand, e_ior, e_ixor, e_ishl, e_ishr, e_iushr, e_lcmp, e_i2l, e_l2i, e_i2b, e_i2s, e_dup_i, e_dup_r, e_pop_i, e_pop_r, e_dup2_l, e_dup2_ir, e_dup2_ii, e_ifeq, e_ifne, e_iflt, e_ifge, e_ifgt, e_ifle, e_iceq, e_icne, e_iclt, e_icge, e_icgt, e_icle, e_goto, e_switch, e_invokevirtual, e_invokestatic, e_invokespecial, e_ret0, e_ret1, e_ret2, e_ret3, ldI_s, ldL_s, ldR_s, clO_s, ctP_s, ctS_s, mgo_0, mgo_s, pjc_s, pj_0, pj_s, lk_s, rm1_0, rm1_i, rm1_r, rm1_l, rm2_0, rm2_i, rm2_r, rm2_l, csL_s, lc_lt, lc_ge, lc_gt, lc_le, lc_eq, b01_0, b01_1, b01_01, b01_n, up2_o, up2_s, up2_u, ne_eq, reduceCtorEq, Nat.reduceAdd, Nat.reduceEqDiff, Nat.reduceLT, Nat.reduceLeDiff, Int.reduceLE, Int.reduceLT, Int.reduceAdd, Int.reduceNeg, Int.reduceMul, Int.reduceSub, Int.reduceEq, Int.reduceToNat, Int.reduceNatCast, Int.cast_ofNat_Int, ↓reduceIte, and_self, List.drop_succ_cons, List.drop_zero, List.take_succ_cons, List.take_zero, List.length_cons, List.length_nil, List.reverse_cons, List.reverse_nil, List.nil_append, List.cons_append, Option.toList, true_and, and_true, or_false, false_or, or_true, true_or, forall_const, Classical.not_not, not_false_eq_true, not_true_eq_false, false_implies, true_implies, implies_true, imp_self]
  refine ⟨hY, fun M1 hR => ?_⟩
  obtain ⟨k1, k2⟩ := tl_use hR
  refine hI_21 (99 - 0) _ _ _ _ ⟨rfl, rfl, keep_u0 (keep_u0 (keep_u0 k1 (by decide)) (by decide)) (by decide), fun x => ?_, 0, rfl, by omega, ?_, rfl⟩
  · rw [cM_x (by decide) (by decide) (by decide), cM_x (by decide) (by decide) (by decide), cM_x (by decide) (by decide) (by decide), nC_u1 (by decide) (by show ((c.toNat : Nat) : Int) < M 7 4; omega), k2]
  · simp [up2_r, lieP]
set_option maxHeartbeats 4000000 in
set_option maxRecDepth 100000 in
theorem at7_laysLies_21 {s c : Int} {M : Mm} {Q : Option AV → Mm → Prop} (hM : okM sh7 M) (h_s : i32 s) (h_c : i32 c) (hP : P7_laysLies s c M) (hQ : ∀ (M1 : Mm), R7_laysLies s c M M1 → Q none M1) {m : Nat} {s_ c_ n : Int} {M1 : Mm} (hM1 : okM sh7 M1) (h_s_ : i32 s_) (h_c_ : i32 c_) (h_n : i32 n) (hJ : J7_laysLies_21 s c M m s_ c_ n M1) (I_21 : List AV → Mm → Prop) (hI_21 : ∀ (m_ : Nat) (y_s_ : Int) (y_c_ : Int) (y_n : Int) (M2 : Mm), m_ < m → J7_laysLies_21 s c M m_ y_s_ y_c_ y_n M2 → I_21 [ar 0, ai y_s_, ai y_c_, ai y_n] M2) : wp (tb7 (csL cs7_laysLies)) sh7 4 0 cX7_laysLies [(21, [0, 1, 2, 3], I_21)] Q 400 21 [(0, ar 0), (1, ai s_), (2, ai c_), (3, ai n)] [] M1 := by
  obtain ⟨rfl, rfl, hk, hC, a, rfl, ha, hL, rfl⟩ := hJ
  obtain ⟨hY, hs, hb, hc⟩ := id hP
  have h4 : 0 ≤ M 7 4 ∧ M 7 4 ≤ 7 := hY.2.2.2.2.1
  simp only [e_wp dX7_laysLies_0 rfl, e_wp dX7_laysLies_1 rfl, e_wp dX7_laysLies_4 rfl, e_wp dX7_laysLies_5 rfl, e_wp dX7_laysLies_6 rfl, e_wp dX7_laysLies_9 rfl, e_wp dX7_laysLies_10 rfl, e_wp dX7_laysLies_11 rfl, e_wp dX7_laysLies_14 rfl, e_wp dX7_laysLies_15 rfl, e_wp dX7_laysLies_16 rfl, e_wp dX7_laysLies_19 rfl, e_wp dX7_laysLies_20 rfl, e_wp dX7_laysLies_21 rfl, e_wp dX7_laysLies_22 rfl, e_wp dX7_laysLies_24 rfl, e_wp dX7_laysLies_27 rfl, e_wp dX7_laysLies_28 rfl, e_wp dX7_laysLies_31 rfl, e_wp dX7_laysLies_32 rfl, e_wp dX7_laysLies_33 rfl, e_wp dX7_laysLies_34 rfl, e_wp dX7_laysLies_35 rfl, e_wp dX7_laysLies_38 rfl, e_wp dX7_laysLies_39 rfl, e_wp dX7_laysLies_40 rfl, e_wp dX7_laysLies_43 rfl, e_wp dX7_laysLies_46 rfl, e_wp dX7_laysLies_49 rfl, e_wp dX7_laysLies_50 rfl, e_wp dX7_laysLies_51 rfl, e_wp dX7_laysLies_54 rfl, e_wp dX7_laysLies_55 rfl, e_wp dX7_laysLies_56 rfl, e_wp dX7_laysLies_59 rfl, e_wp dX7_laysLies_60 rfl, e_wp dX7_laysLies_61 rfl, e_wp dX7_laysLies_64 rfl, e_wp dX7_laysLies_65 rfl, e_wp dX7_laysLies_68 rfl, e_wp dX7_laysLies_69 rfl, e_wp dX7_laysLies_72 rfl, e_wp dX7_laysLies_73 rfl, e_wp dX7_laysLies_76 rfl, e_wp dX7_laysLies_79 rfl, e_wp dX7_laysLies_80 rfl, e_wp dX7_laysLies_81 rfl, e_wp dX7_laysLies_84 rfl, e_wp dX7_laysLies_87 rfl, e_wp dX7_laysLies_90 rfl, c7_lays, cs7_laysLies, p7_427, p7_430, p7_433, g7_56, c7_runs, c7_isSo, P7_isSo, V7_isSo, g7_427, g7_430, a7_1, w7_1, a7_2, w7_2, a7_3, w7_3, a7_4, w7_4, a7_5, w7_5, a7_6, w7_6, a7_7, w7_7, a7_8, w7_8, a7_9, w7_9, a7_10, w7_10, a7_11, w7_11, a7_12, w7_12, a7_13, w7_13, a7_14, w7_14, a7_15, w7_15, a7_16, w7_16, a7_17, w7_17, a7_18, w7_18, a7_19, w7_19, a7_20, w7_20, a7_21, w7_21, a7_22, w7_22, a7_23, w7_23, a7_24, w7_24, a7_25, w7_25, a7_26, w7_26, a7_27, w7_27, a7_28, w7_28, a7_29, w7_29, a7_30, w7_30, a7_31, w7_31, a7_32, w7_32, a7_33, w7_33, e_iconst, e_bipush, e_sipush, e_lconst_0, e_lconst_1, e_iload, e_iload_0, e_iload_1, e_iload_2, e_iload_3, e_lload, e_lload_0, e_lload_1, e_lload_2, e_lload_3, e_aload, e_aload_0, e_aload_1, e_aload_2, e_aload_3, e_istore, e_istore_0, e_istore_1, e_istore_2, e_istore_3, e_astore, e_astore_0, e_astore_1, e_astore_2, e_astore_3, e_lstore, e_lstore_0, e_lstore_1, e_lstore_2, e_lstore_3, e_iinc, e_iadd, e_isub, e_imul, e_ladd, e_lsub, e_lmul, e_idiv, e_irem, e_ldiv, e_lrem, e_ineg, e_lneg, e_iand, e_ior, e_ixor, e_ishl, e_ishr, e_iushr, e_lcmp, e_i2l, e_l2i, e_i2b, e_i2s, e_dup_i, e_dup_r, e_pop_i, e_pop_r, e_dup2_l, e_dup2_ir, e_dup2_ii, e_ifeq, e_ifne, e_iflt, e_ifge, e_ifgt, e_ifle, e_iceq, e_icne, e_iclt, e_icge, e_icgt, e_icle, e_goto, e_switch, e_invokevirtual, e_invokestatic, e_invokespecial, e_ret0, e_ret1, e_ret2, e_ret3, ldI_s, ldL_s, ldR_s, clO_s, ctP_s, ctS_s, mgo_0, mgo_s, pjc_s, pj_0, pj_s, lk_s, rm1_0, rm1_i, rm1_r, rm1_l, rm2_0, rm2_i, rm2_r, rm2_l, csL_s, lc_lt, lc_ge, lc_gt, lc_le, lc_eq, b01_0, b01_1, b01_01, b01_n, up2_o, up2_s, up2_u, ne_eq, reduceCtorEq, Nat.reduceAdd, Nat.reduceEqDiff, Nat.reduceLT, Nat.reduceLeDiff, Int.reduceLE, Int.reduceLT, Int.reduceAdd, Int.reduceNeg, Int.reduceMul, Int.reduceSub, Int.reduceEq, Int.reduceToNat, Int.reduceNatCast, Int.cast_ofNat_Int, ↓reduceIte, and_self, List.drop_succ_cons, List.drop_zero, List.take_succ_cons, List.take_zero, List.length_cons, List.length_nil, List.reverse_cons, List.reverse_nil, List.nil_append, List.cons_append, Option.toList, true_and, and_true, or_false, false_or, or_true, true_or, forall_const, Classical.not_not, not_false_eq_true, not_true_eq_false, false_implies, true_implies, implies_true, imp_self]
  refine ⟨fun q => ?_, fun q => ?_⟩
  · refine hQ _ ⟨hk, ?_⟩
    rw [hL, show a = 99 by omega]
  · have k3 : keepM M (up2 M1 14 c.toNat ((a : Int) + 1)) := keep_u hk (by decide)
    have k4 : nC (vM M) (cM (up2 M1 14 c.toNat ((a : Int) + 1))) = up2 (tellP (vM M)) 1 c.toNat ((a : Int) + 1) := by rw [load_cM]; exact hC _
    have hrp := run_pre hY k3 k4 (okCf_1 (okCf_tell hY) (by omega))
    refine ⟨by omega, hrp, fun M2 hR => ?_⟩
    have hf := hR.1
    have e0 : M2 0 = M1 0 := hf _ (by decide)
    obtain ⟨s1, s2, s3, s4⟩ := run_use k3 k4 hR
    have eV : vM M2 = vM M := keep_v s1 0
    have eS := slM_eq s1 s.toNat
    have hso := so_ran hb s2
    have hC2 : ∀ M3, cM M3 = cM M2 → ∀ x, nC (vM M) (up2 (cM M3) 1 c.toNat x) = up2 (tellP (vM M)) 1 c.toNat x := by
      intro M3 h3 x
      rw [h3, cM_frm hf (by decide), load_cM, up2_u]; exact hC x
    have hlb := @lieP_b (lieF (vM M) (slM M s.toNat) c.toNat) a
    have l1 : M1 0 54 = (lieP (lieF (vM M) (slM M s.toNat) c.toNat) a).1 := congrArg Prod.fst hL
    have l2 : M1 0 55 = (lieP (lieF (vM M) (slM M s.toNat) c.toNat) a).2.1 := congrArg (fun z => z.2.1) hL
    have l3 : M1 0 56 = (lieP (lieF (vM M) (slM M s.toNat) c.toNat) a).2.2 := congrArg (fun z => z.2.2) hL
    rw [eS]
    have efn : lieF (vM M) (slM M s.toNat) c.toNat (a + 1) = b01 (soP (sgP (vM M) (up2 (tellP (vM M)) 1 c.toNat ((a : Int) + 1))) (slM M s.toNat)) := rfl
    refine ⟨⟨hs, book_eq hb eV rfl⟩, fun z => ?_, fun z => ⟨by omega, ?_⟩⟩
    · have hf1 : lieF (vM M) (slM M s.toNat) c.toNat (a + 1) = 1 := by rw [efn, b01_t (hso.mp z)]
      have go : ∀ x, x = (if M1 0 55 = -1 then ((a : Int) + 1) else M1 0 55) → I_21 [ar 0, ai s, ai c, ai ((a : Int) + 1 + 1)] (up2 (up2 (up2 M2 0 54 (M1 0 54 + 1)) 0 55 x) 0 56 ((a : Int) + 1)) := by
        intro x hx
        refine hI_21 (99 - (a + 1)) _ _ _ _ (by omega) ⟨rfl, rfl, keep_u0 (keep_u0 (keep_u0 s1 (by decide)) (by decide)) (by decide), hC2 _ (by rw [cM_x (by decide) (by decide) (by decide), cM_x (by decide) (by decide) (by decide), cM_x (by decide) (by decide) (by decide)]), a + 1, by omega, by omega, ?_, rfl⟩
        rw [lieP_1 hf1]
        simp only [up2_r]
        simp [hx, l1, l2]
      rw [e0]
      simp only [up2_n (show (55 : Nat) ≠ 54 by decide), e0]
      refine ⟨by omega, fun w => ⟨by omega, go _ (if_neg w).symm⟩, fun w => ⟨by omega, go _ (if_pos w).symm⟩⟩
    · refine hI_21 (99 - (a + 1)) _ _ _ _ (by omega) ⟨rfl, rfl, s1, hC2 _ rfl, a + 1, by omega, by omega, ?_, rfl⟩
      rw [lieP_0 (by rw [efn, b01_f (fun y => z (hso.mpr y))]; omega), e0]
      exact hL
set_option maxHeartbeats 4000000 in
set_option maxRecDepth 100000 in
theorem m7_laysLies : MOK cl7 sh7 tyl7 [] 4 yX7_laysLies cX7_laysLies 4 none sp7_laysLies := by
  refine mok_of (own := RX7) (tb := tb7 (csL cs7_laysLies)) (rt := 0) (fuel := 400) (fun avs M Q => [(21, [0, 1, 2, 3], fun m_ vs M1 => ∃ y_s_ : Int, ∃ y_c_ : Int, ∃ y_n : Int, vs = [ar 0, ai y_s_, ai y_c_, ai y_n] ∧ J7_laysLies_21 (pa true [0, 0] avs 0) (pa true [0, 0] avs 1) M m_ y_s_ y_c_ y_n M1)]) (by decide) rfl nil_nw (tbOK7 _) rfl (csL_all ?_) ?_ ?_ ?_
  · intro q hq
    simp only [cs7_laysLies, List.mem_cons, List.not_mem_nil, or_false] at hq
    rcases hq with rfl | rfl | rfl
    · exact cg7_lays (by decide)
    · exact cg7_runs (by decide)
    · exact cg7_isSo (by decide)
  · intro avs M Q hsp
    obtain ⟨xs, hx⟩ := spV_un _ _ _ hsp
    obtain ⟨e, hl⟩ := unA_mkT hx
    obtain ⟨s, c, rfl⟩ := len2 hl
    have e : avs = [ar 0, ai s, ai c] := e
    subst e
    simp [szL, isL]
  · intro avs M Q hM hav hsp
    obtain ⟨xs, hx⟩ := spV_un _ _ _ hsp
    obtain ⟨e, hl⟩ := unA_mkT hx
    obtain ⟨s, c, rfl⟩ := len2 hl
    have e : avs = [ar 0, ai s, ai c] := e
    subst e
    exact in7_laysLies hM (hav (ai s) (by simp)) (hav (ai c) (by simp)) hsp.1 hsp.2 _ (fun m_ y_s_ y_c_ y_n M2 hJ => ⟨m_, y_s_, y_c_, y_n, rfl, hJ⟩)
  · intro avs M Q hM hav hsp q hq m_ vs M1 hM1 hv hJ
    obtain ⟨xs, hx⟩ := spV_un _ _ _ hsp
    obtain ⟨e, hl⟩ := unA_mkT hx
    obtain ⟨s, c, rfl⟩ := len2 hl
    have e : avs = [ar 0, ai s, ai c] := e
    subst e
    simp only [List.mem_cons, List.not_mem_nil, or_false] at hq
    rcases hq with rfl
    · obtain ⟨y_s_, y_c_, y_n, rfl, hJ⟩ := hJ
      exact at7_laysLies_21 hM (hav (ai s) (by simp)) (hav (ai c) (by simp)) hsp.1 hsp.2 hM1 (hv (1, ai y_s_) (List.mem_of_getElem? (i := 1) rfl)) (hv (2, ai y_c_) (List.mem_of_getElem? (i := 2) rfl)) (hv (3, ai y_n) (List.mem_of_getElem? (i := 3) rfl)) hJ _ (fun m2 z_s_ z_c_ z_n M2 hm hJ2 => ⟨m2, hm, z_s_, z_c_, z_n, rfl, hJ2⟩)
theorem cg7_laysLies {lvl : Nat} (h : 4 < lvl) : CG RX7 cl7 sh7 tyl7 [] lvl 1 442 3 sp7_laysLies := cg_V (sg := [0, 0]) nil_nw spV_mono spV_un m7_laysLies h rfl (by decide) rfl rfl ⟨rfl, by decide, by decide, rfl⟩ q2130 q2132 qs116 q138 q2133
theorem why_bk {V : Vy} {sl : Nat → Sl} {s : Int} (hY : okY V) (hS : ∀ s : Nat, s < 4 → okSl (sl s)) (h : whyBk V sl s = 0) : (0 ≤ s ∧ s ≤ 3) ∧ bookOK V (sl s.toNat) := by
  unfold whyBk at h
  split at h
  · rename_i q
    split at h
    · omega
    · rename_i z
      split at h
      · rename_i w
        refine ⟨q.1, w, ?_, ?_, hY.2.2.2.1.2, hY.2.2.2.2.1.2⟩
        · rcases hS s.toNat (by omega) with y | y
          · exact absurd y z
          · exact y.2.1
        · rcases hS s.toNat (by omega) with y | y
          · exact absurd y z
          · exact y.2.2
      · omega
  · omega
theorem why_ld {V : Vy} {sl : Nat → Sl} {s c : Int} (h : whyLd V sl s c = 0) : isC V c ∧ whyBk V sl s = 0 := by
  unfold whyLd at h
  split at h
  · rename_i q; exact ⟨q, h⟩
  · omega
def A_loads (V : Vy) (sl : Nat → Sl) (s c : Int) : Int := if whyLd V sl s c = 0 then (lieP (lieF V (sl s.toNat) c.toNat) 99).1 else whyLd V sl s c
def P7_loads (s : Int) (c : Int) (M : Mm) : Prop := okY (vM M) ∧ ∀ s : Nat, s < 4 → okSl (slM M s)
def R7_loads (s : Int) (c : Int) (M : Mm) (v : Int) (M1 : Mm) : Prop := keepM M M1 ∧ v = A_loads (vM M) (slM M) s c
def sp7_loads : Spec := spR true [0, 0] 1 (fun x M => P7_loads (x 0) (x 1) M) (fun x M v M1 => R7_loads (x 0) (x 1) M v M1)
theorem c7_loads {s c : Int} {M : Mm} {Q : Option AV → Mm → Prop} : sp7_loads [ar 0, ai s, ai c] M Q = (P7_loads s c M ∧ ∀ (v : Int) (M1 : Mm), R7_loads s c M v M1 → Q (some (ai v)) M1) := rfl
def cs7_loads : List (Nat × Nat × Nat × Spec) := [(439, 1, 3, sp7_whyNotLoads), (442, 1, 3, sp7_laysLies)]
set_option maxHeartbeats 4000000 in
set_option maxRecDepth 100000 in
theorem in7_loads {s c : Int} {M : Mm} {Q : Option AV → Mm → Prop} (hM : okM sh7 M) (h_s : i32 s) (h_c : i32 c) (hP : P7_loads s c M) (hQ : ∀ (v : Int) (M1 : Mm), R7_loads s c M v M1 → Q (some (ai v)) M1) : wp (tb7 (csL cs7_loads)) sh7 4 1 cX7_loads [] Q 400 0 [(0, ar 0), (1, ai s), (2, ai c)] [] M := by
  obtain ⟨hY, hS⟩ := id hP
  have h4 : 0 ≤ M 7 4 ∧ M 7 4 ≤ 7 := hY.2.2.2.2.1
  have hk0 : keepM M (up2 M 0 0 0) := keep_u0 keep_rf (by decide)
  have hV : vM (up2 M 0 0 0) = vM M := keep_v hk0 0
  have hs : slM (up2 M 0 0 0) = slM M := funext fun k => slM_eq hk0 k
  have hY0 : okY (vM (up2 M 0 0 0)) := by rw [hV]; exact hY
  have hS0 : ∀ s : Nat, s < 4 → okSl (slM (up2 M 0 0 0) s) := by rw [hs]; exact hS
  simp only [e_wp dX7_loads_0 rfl, e_wp dX7_loads_1 rfl, e_wp dX7_loads_2 rfl, e_wp dX7_loads_5 rfl, e_wp dX7_loads_6 rfl, e_wp dX7_loads_7 rfl, e_wp dX7_loads_8 rfl, e_wp dX7_loads_11 rfl, e_wp dX7_loads_12 rfl, e_wp dX7_loads_13 rfl, e_wp dX7_loads_16 rfl, e_wp dX7_loads_17 rfl, e_wp dX7_loads_18 rfl, e_wp dX7_loads_19 rfl, e_wp dX7_loads_20 rfl, e_wp dX7_loads_21 rfl, e_wp dX7_loads_24 rfl, e_wp dX7_loads_25 rfl, e_wp dX7_loads_28 rfl, p7_116, c7_whyNotLoads, P7_whyNotLoads, V7_whyNotLoads, cs7_loads, c7_laysLies, g7_427, e_iconst, e_bipush, e_sipush, e_lconst_0, e_lconst_1, e_iload, e_iload_0, e_iload_1, e_iload_2, e_iload_3, e_lload, e_lload_0, e_lload_1, e_lload_2, e_lload_3, e_aload, e_aload_0, e_aload_1, e_aload_2, e_aload_3, e_istore, e_istore_0, e_istore_1, e_istore_2, e_istore_3, e_astore, e_astore_0, e_astore_1, e_astore_2, e_astore_3, e_lstore, e_lstore_0, e_lstore_1, e_lstore_2, e_lstore_3, e_iinc, e_iadd, e_isub, e_imul, e_ladd, e_lsub, e_lmul, e_idiv, e_irem, e_ldiv, e_lrem, e_ineg, e_lneg, e_iand, e_ior, e_ixor, e_ishl, e_ishr, e_iushr, e_lcmp, e_i2l, e_l2i, e_i2b, e_i2s, e_dup_i, e_dup_r, e_pop_i, e_pop_r, e_dup2_l, e_dup2_ir, e_dup2_ii, e_ifeq, e_ifne, e_iflt, e_ifge, e_ifgt, e_ifle, e_iceq, e_icne, e_iclt, e_icge, e_icgt, e_icle, e_goto, e_switch, e_invokevirtual, e_invokestatic, e_invokespecial, e_ret0, e_ret1, e_ret2, e_ret3, ldI_s, ldL_s, ldR_s, clO_s, ctP_s, ctS_s, mgo_0, mgo_s, pjc_s, pj_0, pj_s, lk_s, rm1_0, rm1_i, rm1_r, rm1_l, rm2_0, rm2_i, rm2_r, rm2_l, csL_s, lc_lt, lc_ge, lc_gt, lc_le, lc_eq, b01_0, b01_1, b01_01, b01_n, up2_o, up2_s, up2_u, ne_eq, reduceCtorEq, Nat.reduceAdd, Nat.reduceEqDiff, Nat.reduceLT, Nat.reduceLeDiff, Int.reduceLE, Int.reduceLT, Int.reduceAdd, Int.reduceNeg, Int.reduceMul, Int.reduceSub, Int.reduceEq, Int.reduceToNat, Int.reduceNatCast, Int.cast_ofNat_Int, ↓reduceIte, and_self, List.drop_succ_cons, List.drop_zero, List.take_succ_cons, List.take_zero, List.length_cons, List.length_nil, List.reverse_cons, List.reverse_nil, List.nil_append, List.cons_append, Option.toList, true_and, and_true, or_false, false_or, or_true, true_or, forall_const, Classical.not_not, not_false_eq_true, not_true_eq_false, false_implies, true_implies, implies_true, imp_self]
  rw [hV, hs]
  refine ⟨⟨hY0, hS0⟩, fun q => ?_, fun q => hQ _ _ ⟨hk0, (if_neg q).symm⟩⟩
  obtain ⟨q1, q2⟩ := why_ld q
  obtain ⟨q3, q4⟩ := why_bk hY hS q2
  refine ⟨⟨hY0, q3, by rw [hV, hs]; exact q4, q1⟩, fun M1 hR => ?_⟩
  obtain ⟨r1, r2⟩ := hR
  rw [hV, hs] at r2
  exact hQ _ _ ⟨keep_tr hk0 r1, (congrArg (fun z => z.1) r2).trans (if_pos q).symm⟩
set_option maxHeartbeats 4000000 in
set_option maxRecDepth 100000 in
theorem m7_loads : MOK cl7 sh7 tyl7 [] 5 yX7_loads cX7_loads 4 (some .int) sp7_loads := by
  refine mok_of (own := RX7) (tb := tb7 (csL cs7_loads)) (rt := 1) (fuel := 400) (fun avs M Q => []) (by decide) rfl nil_nw (tbOK7 _) rfl (csL_all ?_) ?_ ?_ ?_
  · intro q hq
    simp only [cs7_loads, List.mem_cons, List.not_mem_nil, or_false] at hq
    rcases hq with rfl | rfl
    · exact cg7_whyNotLoads (by decide)
    · exact cg7_laysLies (by decide)
  · intro avs M Q hsp
    obtain ⟨xs, hx⟩ := spR_un _ _ _ hsp
    obtain ⟨e, hl⟩ := unA_mkT hx
    obtain ⟨s, c, rfl⟩ := len2 hl
    have e : avs = [ar 0, ai s, ai c] := e
    subst e
    simp [szL, isL]
  · intro avs M Q hM hav hsp
    obtain ⟨xs, hx⟩ := spR_un _ _ _ hsp
    obtain ⟨e, hl⟩ := unA_mkT hx
    obtain ⟨s, c, rfl⟩ := len2 hl
    have e : avs = [ar 0, ai s, ai c] := e
    subst e
    exact in7_loads hM (hav (ai s) (by simp)) (hav (ai c) (by simp)) hsp.1 hsp.2
  · intro avs M Q hM hav hsp q hq m_ vs M1 hM1 hv hJ
    obtain ⟨xs, hx⟩ := spR_un _ _ _ hsp
    obtain ⟨e, hl⟩ := unA_mkT hx
    obtain ⟨s, c, rfl⟩ := len2 hl
    have e : avs = [ar 0, ai s, ai c] := e
    subst e
    cases hq
def A_light (V : Vy) (sl : Nat → Sl) (s c : Int) : Int := if whyLd V sl s c = 0 then (lieP (lieF V (sl s.toNat) c.toNat) 99).2.1 else whyLd V sl s c
def P7_light (s : Int) (c : Int) (M : Mm) : Prop := okY (vM M) ∧ ∀ s : Nat, s < 4 → okSl (slM M s)
def R7_light (s : Int) (c : Int) (M : Mm) (v : Int) (M1 : Mm) : Prop := keepM M M1 ∧ v = A_light (vM M) (slM M) s c
def sp7_light : Spec := spR true [0, 0] 1 (fun x M => P7_light (x 0) (x 1) M) (fun x M v M1 => R7_light (x 0) (x 1) M v M1)
theorem c7_light {s c : Int} {M : Mm} {Q : Option AV → Mm → Prop} : sp7_light [ar 0, ai s, ai c] M Q = (P7_light s c M ∧ ∀ (v : Int) (M1 : Mm), R7_light s c M v M1 → Q (some (ai v)) M1) := rfl
def cs7_light : List (Nat × Nat × Nat × Spec) := [(439, 1, 3, sp7_whyNotLoads), (442, 1, 3, sp7_laysLies)]
set_option maxHeartbeats 4000000 in
set_option maxRecDepth 100000 in
theorem in7_light {s c : Int} {M : Mm} {Q : Option AV → Mm → Prop} (hM : okM sh7 M) (h_s : i32 s) (h_c : i32 c) (hP : P7_light s c M) (hQ : ∀ (v : Int) (M1 : Mm), R7_light s c M v M1 → Q (some (ai v)) M1) : wp (tb7 (csL cs7_light)) sh7 4 1 cX7_light [] Q 400 0 [(0, ar 0), (1, ai s), (2, ai c)] [] M := by
  obtain ⟨hY, hS⟩ := id hP
  have h4 : 0 ≤ M 7 4 ∧ M 7 4 ≤ 7 := hY.2.2.2.2.1
  have hk0 : keepM M (up2 M 0 0 0) := keep_u0 keep_rf (by decide)
  have hV : vM (up2 M 0 0 0) = vM M := keep_v hk0 0
  have hs : slM (up2 M 0 0 0) = slM M := funext fun k => slM_eq hk0 k
  have hY0 : okY (vM (up2 M 0 0 0)) := by rw [hV]; exact hY
  have hS0 : ∀ s : Nat, s < 4 → okSl (slM (up2 M 0 0 0) s) := by rw [hs]; exact hS
  simp only [e_wp dX7_light_0 rfl, e_wp dX7_light_1 rfl, e_wp dX7_light_2 rfl, e_wp dX7_light_5 rfl, e_wp dX7_light_6 rfl, e_wp dX7_light_7 rfl, e_wp dX7_light_8 rfl, e_wp dX7_light_11 rfl, e_wp dX7_light_12 rfl, e_wp dX7_light_13 rfl, e_wp dX7_light_16 rfl, e_wp dX7_light_17 rfl, e_wp dX7_light_18 rfl, e_wp dX7_light_19 rfl, e_wp dX7_light_20 rfl, e_wp dX7_light_21 rfl, e_wp dX7_light_24 rfl, e_wp dX7_light_25 rfl, e_wp dX7_light_28 rfl, p7_116, c7_whyNotLoads, P7_whyNotLoads, V7_whyNotLoads, cs7_light, c7_laysLies, g7_430, e_iconst, e_bipush, e_sipush, e_lconst_0, e_lconst_1, e_iload, e_iload_0, e_iload_1, e_iload_2, e_iload_3, e_lload, e_lload_0, e_lload_1, e_lload_2, e_lload_3, e_aload, e_aload_0, e_aload_1, e_aload_2, e_aload_3, e_istore, e_istore_0, e_istore_1, e_istore_2, e_istore_3, e_astore, e_astore_0, e_astore_1, e_astore_2, e_astore_3, e_lstore, e_lstore_0, e_lstore_1, e_lstore_2, e_lstore_3, e_iinc, e_iadd, e_isub, e_imul, e_ladd, e_lsub, e_lmul, e_idiv, e_irem, e_ldiv, e_lrem, e_ineg, e_lneg, e_iand, e_ior, e_ixor, e_ishl, e_ishr, e_iushr, e_lcmp, e_i2l, e_l2i, e_i2b, e_i2s, e_dup_i, e_dup_r, e_pop_i, e_pop_r, e_dup2_l, e_dup2_ir, e_dup2_ii, e_ifeq, e_ifne, e_iflt, e_ifge, e_ifgt, e_ifle, e_iceq, e_icne, e_iclt, e_icge, e_icgt, e_icle, e_goto, e_switch, e_invokevirtual, e_invokestatic, e_invokespecial, e_ret0, e_ret1, e_ret2, e_ret3, ldI_s, ldL_s, ldR_s, clO_s, ctP_s, ctS_s, mgo_0, mgo_s, pjc_s, pj_0, pj_s, lk_s, rm1_0, rm1_i, rm1_r, rm1_l, rm2_0, rm2_i, rm2_r, rm2_l, csL_s, lc_lt, lc_ge, lc_gt, lc_le, lc_eq, b01_0, b01_1, b01_01, b01_n, up2_o, up2_s, up2_u, ne_eq, reduceCtorEq, Nat.reduceAdd, Nat.reduceEqDiff, Nat.reduceLT, Nat.reduceLeDiff, Int.reduceLE, Int.reduceLT, Int.reduceAdd, Int.reduceNeg, Int.reduceMul, Int.reduceSub, Int.reduceEq, Int.reduceToNat, Int.reduceNatCast, Int.cast_ofNat_Int, ↓reduceIte, and_self, List.drop_succ_cons, List.drop_zero, List.take_succ_cons, List.take_zero, List.length_cons, List.length_nil, List.reverse_cons, List.reverse_nil, List.nil_append, List.cons_append, Option.toList, true_and, and_true, or_false, false_or, or_true, true_or, forall_const, Classical.not_not, not_false_eq_true, not_true_eq_false, false_implies, true_implies, implies_true, imp_self]
  rw [hV, hs]
  refine ⟨⟨hY0, hS0⟩, fun q => ?_, fun q => hQ _ _ ⟨hk0, (if_neg q).symm⟩⟩
  obtain ⟨q1, q2⟩ := why_ld q
  obtain ⟨q3, q4⟩ := why_bk hY hS q2
  refine ⟨⟨hY0, q3, by rw [hV, hs]; exact q4, q1⟩, fun M1 hR => ?_⟩
  obtain ⟨r1, r2⟩ := hR
  rw [hV, hs] at r2
  exact hQ _ _ ⟨keep_tr hk0 r1, (congrArg (fun z => z.2.1) r2).trans (if_pos q).symm⟩
set_option maxHeartbeats 4000000 in
set_option maxRecDepth 100000 in
theorem m7_light : MOK cl7 sh7 tyl7 [] 5 yX7_light cX7_light 4 (some .int) sp7_light := by
  refine mok_of (own := RX7) (tb := tb7 (csL cs7_light)) (rt := 1) (fuel := 400) (fun avs M Q => []) (by decide) rfl nil_nw (tbOK7 _) rfl (csL_all ?_) ?_ ?_ ?_
  · intro q hq
    simp only [cs7_light, List.mem_cons, List.not_mem_nil, or_false] at hq
    rcases hq with rfl | rfl
    · exact cg7_whyNotLoads (by decide)
    · exact cg7_laysLies (by decide)
  · intro avs M Q hsp
    obtain ⟨xs, hx⟩ := spR_un _ _ _ hsp
    obtain ⟨e, hl⟩ := unA_mkT hx
    obtain ⟨s, c, rfl⟩ := len2 hl
    have e : avs = [ar 0, ai s, ai c] := e
    subst e
    simp [szL, isL]
  · intro avs M Q hM hav hsp
    obtain ⟨xs, hx⟩ := spR_un _ _ _ hsp
    obtain ⟨e, hl⟩ := unA_mkT hx
    obtain ⟨s, c, rfl⟩ := len2 hl
    have e : avs = [ar 0, ai s, ai c] := e
    subst e
    exact in7_light hM (hav (ai s) (by simp)) (hav (ai c) (by simp)) hsp.1 hsp.2
  · intro avs M Q hM hav hsp q hq m_ vs M1 hM1 hv hJ
    obtain ⟨xs, hx⟩ := spR_un _ _ _ hsp
    obtain ⟨e, hl⟩ := unA_mkT hx
    obtain ⟨s, c, rfl⟩ := len2 hl
    have e : avs = [ar 0, ai s, ai c] := e
    subst e
    cases hq
def A_heavy (V : Vy) (sl : Nat → Sl) (s c : Int) : Int := if whyLd V sl s c = 0 then (lieP (lieF V (sl s.toNat) c.toNat) 99).2.2 else whyLd V sl s c
def P7_heavy (s : Int) (c : Int) (M : Mm) : Prop := okY (vM M) ∧ ∀ s : Nat, s < 4 → okSl (slM M s)
def R7_heavy (s : Int) (c : Int) (M : Mm) (v : Int) (M1 : Mm) : Prop := keepM M M1 ∧ v = A_heavy (vM M) (slM M) s c
def sp7_heavy : Spec := spR true [0, 0] 1 (fun x M => P7_heavy (x 0) (x 1) M) (fun x M v M1 => R7_heavy (x 0) (x 1) M v M1)
theorem c7_heavy {s c : Int} {M : Mm} {Q : Option AV → Mm → Prop} : sp7_heavy [ar 0, ai s, ai c] M Q = (P7_heavy s c M ∧ ∀ (v : Int) (M1 : Mm), R7_heavy s c M v M1 → Q (some (ai v)) M1) := rfl
def cs7_heavy : List (Nat × Nat × Nat × Spec) := [(439, 1, 3, sp7_whyNotLoads), (442, 1, 3, sp7_laysLies)]
set_option maxHeartbeats 4000000 in
set_option maxRecDepth 100000 in
theorem in7_heavy {s c : Int} {M : Mm} {Q : Option AV → Mm → Prop} (hM : okM sh7 M) (h_s : i32 s) (h_c : i32 c) (hP : P7_heavy s c M) (hQ : ∀ (v : Int) (M1 : Mm), R7_heavy s c M v M1 → Q (some (ai v)) M1) : wp (tb7 (csL cs7_heavy)) sh7 4 1 cX7_heavy [] Q 400 0 [(0, ar 0), (1, ai s), (2, ai c)] [] M := by
  obtain ⟨hY, hS⟩ := id hP
  have h4 : 0 ≤ M 7 4 ∧ M 7 4 ≤ 7 := hY.2.2.2.2.1
  have hk0 : keepM M (up2 M 0 0 0) := keep_u0 keep_rf (by decide)
  have hV : vM (up2 M 0 0 0) = vM M := keep_v hk0 0
  have hs : slM (up2 M 0 0 0) = slM M := funext fun k => slM_eq hk0 k
  have hY0 : okY (vM (up2 M 0 0 0)) := by rw [hV]; exact hY
  have hS0 : ∀ s : Nat, s < 4 → okSl (slM (up2 M 0 0 0) s) := by rw [hs]; exact hS
  simp only [e_wp dX7_heavy_0 rfl, e_wp dX7_heavy_1 rfl, e_wp dX7_heavy_2 rfl, e_wp dX7_heavy_5 rfl, e_wp dX7_heavy_6 rfl, e_wp dX7_heavy_7 rfl, e_wp dX7_heavy_8 rfl, e_wp dX7_heavy_11 rfl, e_wp dX7_heavy_12 rfl, e_wp dX7_heavy_13 rfl, e_wp dX7_heavy_16 rfl, e_wp dX7_heavy_17 rfl, e_wp dX7_heavy_18 rfl, e_wp dX7_heavy_19 rfl, e_wp dX7_heavy_20 rfl, e_wp dX7_heavy_21 rfl, e_wp dX7_heavy_24 rfl, e_wp dX7_heavy_25 rfl, e_wp dX7_heavy_28 rfl, p7_116, c7_whyNotLoads, P7_whyNotLoads, V7_whyNotLoads, cs7_heavy, c7_laysLies, g7_433, e_iconst, e_bipush, e_sipush, e_lconst_0, e_lconst_1, e_iload, e_iload_0, e_iload_1, e_iload_2, e_iload_3, e_lload, e_lload_0, e_lload_1, e_lload_2, e_lload_3, e_aload, e_aload_0, e_aload_1, e_aload_2, e_aload_3, e_istore, e_istore_0, e_istore_1, e_istore_2, e_istore_3, e_astore, e_astore_0, e_astore_1, e_astore_2, e_astore_3, e_lstore, e_lstore_0, e_lstore_1, e_lstore_2, e_lstore_3, e_iinc, e_iadd, e_isub, e_imul, e_ladd, e_lsub, e_lmul, e_idiv, e_irem, e_ldiv, e_lrem, e_ineg, e_lneg, e_iand, e_ior, e_ixor, e_ishl, e_ishr, e_iushr, e_lcmp, e_i2l, e_l2i, e_i2b, e_i2s, e_dup_i, e_dup_r, e_pop_i, e_pop_r, e_dup2_l, e_dup2_ir, e_dup2_ii, e_ifeq, e_ifne, e_iflt, e_ifge, e_ifgt, e_ifle, e_iceq, e_icne, e_iclt, e_icge, e_icgt, e_icle, e_goto, e_switch, e_invokevirtual, e_invokestatic, e_invokespecial, e_ret0, e_ret1, e_ret2, e_ret3, ldI_s, ldL_s, ldR_s, clO_s, ctP_s, ctS_s, mgo_0, mgo_s, pjc_s, pj_0, pj_s, lk_s, rm1_0, rm1_i, rm1_r, rm1_l, rm2_0, rm2_i, rm2_r, rm2_l, csL_s, lc_lt, lc_ge, lc_gt, lc_le, lc_eq, b01_0, b01_1, b01_01, b01_n, up2_o, up2_s, up2_u, ne_eq, reduceCtorEq, Nat.reduceAdd, Nat.reduceEqDiff, Nat.reduceLT, Nat.reduceLeDiff, Int.reduceLE, Int.reduceLT, Int.reduceAdd, Int.reduceNeg, Int.reduceMul, Int.reduceSub, Int.reduceEq, Int.reduceToNat, Int.reduceNatCast, Int.cast_ofNat_Int, ↓reduceIte, and_self, List.drop_succ_cons, List.drop_zero, List.take_succ_cons, List.take_zero, List.length_cons, List.length_nil, List.reverse_cons, List.reverse_nil, List.nil_append, List.cons_append, Option.toList, true_and, and_true, or_false, false_or, or_true, true_or, forall_const, Classical.not_not, not_false_eq_true, not_true_eq_false, false_implies, true_implies, implies_true, imp_self]
  rw [hV, hs]
  refine ⟨⟨hY0, hS0⟩, fun q => ?_, fun q => hQ _ _ ⟨hk0, (if_neg q).symm⟩⟩
  obtain ⟨q1, q2⟩ := why_ld q
  obtain ⟨q3, q4⟩ := why_bk hY hS q2
  refine ⟨⟨hY0, q3, by rw [hV, hs]; exact q4, q1⟩, fun M1 hR => ?_⟩
  obtain ⟨r1, r2⟩ := hR
  rw [hV, hs] at r2
  exact hQ _ _ ⟨keep_tr hk0 r1, (congrArg (fun z => z.2.2) r2).trans (if_pos q).symm⟩
set_option maxHeartbeats 4000000 in
set_option maxRecDepth 100000 in
theorem m7_heavy : MOK cl7 sh7 tyl7 [] 5 yX7_heavy cX7_heavy 4 (some .int) sp7_heavy := by
  refine mok_of (own := RX7) (tb := tb7 (csL cs7_heavy)) (rt := 1) (fuel := 400) (fun avs M Q => []) (by decide) rfl nil_nw (tbOK7 _) rfl (csL_all ?_) ?_ ?_ ?_
  · intro q hq
    simp only [cs7_heavy, List.mem_cons, List.not_mem_nil, or_false] at hq
    rcases hq with rfl | rfl
    · exact cg7_whyNotLoads (by decide)
    · exact cg7_laysLies (by decide)
  · intro avs M Q hsp
    obtain ⟨xs, hx⟩ := spR_un _ _ _ hsp
    obtain ⟨e, hl⟩ := unA_mkT hx
    obtain ⟨s, c, rfl⟩ := len2 hl
    have e : avs = [ar 0, ai s, ai c] := e
    subst e
    simp [szL, isL]
  · intro avs M Q hM hav hsp
    obtain ⟨xs, hx⟩ := spR_un _ _ _ hsp
    obtain ⟨e, hl⟩ := unA_mkT hx
    obtain ⟨s, c, rfl⟩ := len2 hl
    have e : avs = [ar 0, ai s, ai c] := e
    subst e
    exact in7_heavy hM (hav (ai s) (by simp)) (hav (ai c) (by simp)) hsp.1 hsp.2
  · intro avs M Q hM hav hsp q hq m_ vs M1 hM1 hv hJ
    obtain ⟨xs, hx⟩ := spR_un _ _ _ hsp
    obtain ⟨e, hl⟩ := unA_mkT hx
    obtain ⟨s, c, rfl⟩ := len2 hl
    have e : avs = [ar 0, ai s, ai c] := e
    subst e
    cases hq
def liaF (V : Vy) (s : Sl) (c : Nat) : Int := if 0 < (lieP (lieF V s c) 99).1 then bshl 1 c else 0
def A_liars (V : Vy) (sl : Nat → Sl) (s : Int) : Int := if whyBk V sl s = 0 then (if soP (sgP V (tellP V)) (sl s.toNat) then 0 else orN (liaF V (sl s.toNat)) (V 0 4).toNat) else whyBk V sl s
def P7_liars (s : Int) (M : Mm) : Prop := okY (vM M) ∧ ∀ s : Nat, s < 4 → okSl (slM M s)
def R7_liars (s : Int) (M : Mm) (v : Int) (M1 : Mm) : Prop := keepM M M1 ∧ v = A_liars (vM M) (slM M) s
def sp7_liars : Spec := spR true [0] 1 (fun x M => P7_liars (x 0) M) (fun x M v M1 => R7_liars (x 0) M v M1)
theorem c7_liars {s : Int} {M : Mm} {Q : Option AV → Mm → Prop} : sp7_liars [ar 0, ai s] M Q = (P7_liars s M ∧ ∀ (v : Int) (M1 : Mm), R7_liars s M v M1 → Q (some (ai v)) M1) := rfl
def cs7_liars : List (Nat × Nat × Nat × Spec) := [(424, 1, 2, sp7_whyNotSags), (336, 1, 1, sp7_laysNow), (436, 1, 2, sp7_isSo), (286, 1, 1, sp7_carts), (442, 1, 3, sp7_laysLies)]
def J7_liars_36 (s : Int) (M : Mm) (m : Nat) (s_ : Int) (n : Int) (c : Int) (M1 : Mm) : Prop := s = s_ ∧ whyBk (vM M) (slM M) s = 0 ∧ ¬ soP (sgP (vM M) (tellP (vM M))) (slM M s.toNat) ∧ keepM M M1 ∧ ∃ a : Nat, c = a ∧ (a : Int) ≤ M 7 4 ∧ n = orN (liaF (vM M) (slM M s.toNat)) a ∧ m = 7 - a
set_option maxHeartbeats 4000000 in
set_option maxRecDepth 100000 in
theorem in7_liars {s : Int} {M : Mm} {Q : Option AV → Mm → Prop} (hM : okM sh7 M) (h_s : i32 s) (hP : P7_liars s M) (hQ : ∀ (v : Int) (M1 : Mm), R7_liars s M v M1 → Q (some (ai v)) M1) (I_36 : List AV → Mm → Prop) (hI_36 : ∀ (m_ : Nat) (y_s_ : Int) (y_n : Int) (y_c : Int) (M2 : Mm), J7_liars_36 s M m_ y_s_ y_n y_c M2 → I_36 [ar 0, ai y_s_, ai y_n, ai y_c] M2) : wp (tb7 (csL cs7_liars)) sh7 5 1 cX7_liars [(36, [0, 1, 3, 4], I_36)] Q 400 0 [(0, ar 0), (1, ai s)] [] M := by
  obtain ⟨hY, hS⟩ := id hP
  have h4 : 0 ≤ M 7 4 ∧ M 7 4 ≤ 7 := hY.2.2.2.2.1
  have hk0 : keepM M (up2 M 0 0 0) := keep_u0 keep_rf (by decide)
  have hV : vM (up2 M 0 0 0) = vM M := keep_v hk0 0
  have hs : slM (up2 M 0 0 0) = slM M := funext fun k => slM_eq hk0 k
  have hY0 : okY (vM (up2 M 0 0 0)) := by rw [hV]; exact hY
  have hS0 : ∀ s : Nat, s < 4 → okSl (slM (up2 M 0 0 0) s) := by rw [hs]; exact hS
  simp only [e_wp dX7_liars_0 rfl, e_wp dX7_liars_1 rfl, e_wp dX7_liars_2 rfl, e_wp dX7_liars_5 rfl, e_wp dX7_liars_6 rfl, e_wp dX7_liars_7 rfl, e_wp dX7_liars_10 rfl, e_wp dX7_liars_11 rfl, e_wp dX7_liars_12 rfl, e_wp dX7_liars_15 rfl, e_wp dX7_liars_16 rfl, e_wp dX7_liars_17 rfl, e_wp dX7_liars_18 rfl, e_wp dX7_liars_21 rfl, e_wp dX7_liars_22 rfl, e_wp dX7_liars_23 rfl, e_wp dX7_liars_26 rfl, e_wp dX7_liars_29 rfl, e_wp dX7_liars_30 rfl, e_wp dX7_liars_31 rfl, e_wp dX7_liars_32 rfl, e_wp dX7_liars_33 rfl, e_wp dX7_liars_34 rfl, e_wp dX7_liars_36 rfl, e_wp dX7_liars_38 rfl, e_wp dX7_liars_39 rfl, e_wp dX7_liars_42 rfl, e_wp dX7_liars_45 rfl, e_wp dX7_liars_46 rfl, e_wp dX7_liars_47 rfl, e_wp dX7_liars_49 rfl, e_wp dX7_liars_52 rfl, e_wp dX7_liars_53 rfl, e_wp dX7_liars_54 rfl, e_wp dX7_liars_57 rfl, e_wp dX7_liars_60 rfl, e_wp dX7_liars_61 rfl, e_wp dX7_liars_63 rfl, e_wp dX7_liars_64 rfl, e_wp dX7_liars_67 rfl, e_wp dX7_liars_68 rfl, e_wp dX7_liars_69 rfl, e_wp dX7_liars_70 rfl, e_wp dX7_liars_73 rfl, e_wp dX7_liars_76 rfl, e_wp dX7_liars_77 rfl, p7_116, c7_whyNotSags, P7_whyNotSags, V7_whyNotSags, cs7_liars, c7_laysNow, c7_isSo, P7_isSo, V7_isSo, c7_carts, P7_carts, V7_carts, c7_laysLies, g7_427, e_iconst, e_bipush, e_sipush, e_lconst_0, e_lconst_1, e_iload, e_iload_0, e_iload_1, e_iload_2, e_iload_3, e_lload, e_lload_0, e_lload_1, e_lload_2, e_lload_3, e_aload, e_aload_0, e_aload_1, e_aload_2, e_aload_3, e_istore, e_istore_0, e_istore_1, e_istore_2, e_istore_3, e_astore, e_astore_0, e_astore_1, e_astore_2, e_astore_3, e_lstore, e_lstore_0, e_lstore_1, e_lstore_2, e_lstore_3, e_iinc, e_iadd, e_isub, e_imul, e_ladd, e_lsub, e_lmul, e_idiv, e_irem, e_ldiv, e_lrem, e_ineg, e_lneg, e_iand, e_ior, e_ixor, e_ishl, e_ishr, e_iushr, e_lcmp, e_i2l, e_l2i, e_i2b, e_i2s, e_dup_i, e_dup_r, e_pop_i, e_pop_r, e_dup2_l, e_dup2_ir, e_dup2_ii, e_ifeq, e_ifne, e_iflt, e_ifge, e_ifgt, e_ifle, e_iceq, e_icne, e_iclt, e_icge, e_icgt, e_icle, e_goto, e_switch, e_invokevirtual, e_invokestatic, e_invokespecial, e_ret0, e_ret1, e_ret2, e_ret3, ldI_s, ldL_s, ldR_s, clO_s, ctP_s, ctS_s, mgo_0, mgo_s, pjc_s, pj_0, pj_s, lk_s, rm1_0, rm1_i, rm1_r, rm1_l, rm2_0, rm2_i, rm2_r, rm2_l, csL_s, lc_lt, lc_ge, lc_gt, lc_le, lc_eq, b01_0, b01_1, b01_01, b01_n, up2_o, up2_s, up2_u, ne_eq, reduceCtorEq, Nat.reduceAdd, Nat.reduceEqDiff, Nat.reduceLT, Nat.reduceLeDiff, Int.reduceLE, Int.reduceLT, Int.reduceAdd, Int.reduceNeg, Int.reduceMul, Int.reduceSub, Int.reduceEq, Int.reduceToNat, Int.reduceNatCast, Int.cast_ofNat_Int, ↓reduceIte, and_self, List.drop_succ_cons, List.drop_zero, List.take_succ_cons, List.take_zero, List.length_cons, List.length_nil, List.reverse_cons, List.reverse_nil, List.nil_append, List.cons_append, Option.toList, true_and, and_true, or_false, false_or, or_true, true_or, forall_const, Classical.not_not, not_false_eq_true, not_true_eq_false, false_implies, true_implies, implies_true, imp_self]
  rw [hV, hs]
  refine ⟨⟨hY0, hS0⟩, fun q => ⟨hY0, fun M1 hR => ?_⟩, fun q => hQ _ _ ⟨hk0, (if_neg q).symm⟩⟩
  obtain ⟨q3, q4⟩ := why_bk hY hS q
  obtain ⟨k1, k2, -⟩ := lay_use hR
  have hso := so_ran q4 k2.2
  have eS := slM_eq k1 s.toNat
  have eV : vM M1 = vM M := keep_v k1 0
  rw [eS]
  refine ⟨⟨q3, by rw [eV]; exact q4⟩, fun z => ?_, fun z => ?_⟩
  · exact hI_36 (7 - 0) _ _ _ _ ⟨rfl, q, fun w => z (hso.mpr w), k1, 0, rfl, h4.1, rfl, rfl⟩
  · exact hQ _ _ ⟨k1, ((if_pos q).trans (if_pos (hso.mp z))).symm⟩
set_option maxHeartbeats 4000000 in
set_option maxRecDepth 100000 in
theorem at7_liars_36 {s : Int} {M : Mm} {Q : Option AV → Mm → Prop} (hM : okM sh7 M) (h_s : i32 s) (hP : P7_liars s M) (hQ : ∀ (v : Int) (M1 : Mm), R7_liars s M v M1 → Q (some (ai v)) M1) {m : Nat} {s_ n c : Int} {M1 : Mm} (hM1 : okM sh7 M1) (h_s_ : i32 s_) (h_n : i32 n) (h_c : i32 c) (hJ : J7_liars_36 s M m s_ n c M1) (I_36 : List AV → Mm → Prop) (hI_36 : ∀ (m_ : Nat) (y_s_ : Int) (y_n : Int) (y_c : Int) (M2 : Mm), m_ < m → J7_liars_36 s M m_ y_s_ y_n y_c M2 → I_36 [ar 0, ai y_s_, ai y_n, ai y_c] M2) : wp (tb7 (csL cs7_liars)) sh7 5 1 cX7_liars [(36, [0, 1, 3, 4], I_36)] Q 400 36 [(0, ar 0), (1, ai s_), (3, ai n), (4, ai c)] [] M1 := by
  obtain ⟨rfl, hq, hn, hk, a, rfl, ha, rfl, rfl⟩ := hJ
  obtain ⟨hY, hS⟩ := id hP
  have h4 : 0 ≤ M 7 4 ∧ M 7 4 ≤ 7 := hY.2.2.2.2.1
  have hk0 : keepM M (up2 M 0 0 0) := keep_u0 keep_rf (by decide)
  have hV : vM (up2 M 0 0 0) = vM M := keep_v hk0 0
  have hs : slM (up2 M 0 0 0) = slM M := funext fun k => slM_eq hk0 k
  have hY0 : okY (vM (up2 M 0 0 0)) := by rw [hV]; exact hY
  have hS0 : ∀ s : Nat, s < 4 → okSl (slM (up2 M 0 0 0) s) := by rw [hs]; exact hS
  obtain ⟨q3, q4⟩ := why_bk hY hS hq
  have e7 : M1 7 = M 7 := keep_has hk
  have eV : vM M1 = vM M := keep_v hk 0
  have eS := slM_eq hk s.toNat
  simp only [e_wp dX7_liars_0 rfl, e_wp dX7_liars_1 rfl, e_wp dX7_liars_2 rfl, e_wp dX7_liars_5 rfl, e_wp dX7_liars_6 rfl, e_wp dX7_liars_7 rfl, e_wp dX7_liars_10 rfl, e_wp dX7_liars_11 rfl, e_wp dX7_liars_12 rfl, e_wp dX7_liars_15 rfl, e_wp dX7_liars_16 rfl, e_wp dX7_liars_17 rfl, e_wp dX7_liars_18 rfl, e_wp dX7_liars_21 rfl, e_wp dX7_liars_22 rfl, e_wp dX7_liars_23 rfl, e_wp dX7_liars_26 rfl, e_wp dX7_liars_29 rfl, e_wp dX7_liars_30 rfl, e_wp dX7_liars_31 rfl, e_wp dX7_liars_32 rfl, e_wp dX7_liars_33 rfl, e_wp dX7_liars_34 rfl, e_wp dX7_liars_36 rfl, e_wp dX7_liars_38 rfl, e_wp dX7_liars_39 rfl, e_wp dX7_liars_42 rfl, e_wp dX7_liars_45 rfl, e_wp dX7_liars_46 rfl, e_wp dX7_liars_47 rfl, e_wp dX7_liars_49 rfl, e_wp dX7_liars_52 rfl, e_wp dX7_liars_53 rfl, e_wp dX7_liars_54 rfl, e_wp dX7_liars_57 rfl, e_wp dX7_liars_60 rfl, e_wp dX7_liars_61 rfl, e_wp dX7_liars_63 rfl, e_wp dX7_liars_64 rfl, e_wp dX7_liars_67 rfl, e_wp dX7_liars_68 rfl, e_wp dX7_liars_69 rfl, e_wp dX7_liars_70 rfl, e_wp dX7_liars_73 rfl, e_wp dX7_liars_76 rfl, e_wp dX7_liars_77 rfl, p7_116, c7_whyNotSags, P7_whyNotSags, V7_whyNotSags, cs7_liars, c7_laysNow, c7_isSo, P7_isSo, V7_isSo, c7_carts, P7_carts, V7_carts, c7_laysLies, g7_427, e_iconst, e_bipush, e_sipush, e_lconst_0, e_lconst_1, e_iload, e_iload_0, e_iload_1, e_iload_2, e_iload_3, e_lload, e_lload_0, e_lload_1, e_lload_2, e_lload_3, e_aload, e_aload_0, e_aload_1, e_aload_2, e_aload_3, e_istore, e_istore_0, e_istore_1, e_istore_2, e_istore_3, e_astore, e_astore_0, e_astore_1, e_astore_2, e_astore_3, e_lstore, e_lstore_0, e_lstore_1, e_lstore_2, e_lstore_3, e_iinc, e_iadd, e_isub, e_imul, e_ladd, e_lsub, e_lmul, e_idiv, e_irem, e_ldiv, e_lrem, e_ineg, e_lneg, e_iand, e_ior, e_ixor, e_ishl, e_ishr, e_iushr, e_lcmp, e_i2l, e_l2i, e_i2b, e_i2s, e_dup_i, e_dup_r, e_pop_i, e_pop_r, e_dup2_l, e_dup2_ir, e_dup2_ii, e_ifeq, e_ifne, e_iflt, e_ifge, e_ifgt, e_ifle, e_iceq, e_icne, e_iclt, e_icge, e_icgt, e_icle, e_goto, e_switch, e_invokevirtual, e_invokestatic, e_invokespecial, e_ret0, e_ret1, e_ret2, e_ret3, ldI_s, ldL_s, ldR_s, clO_s, ctP_s, ctS_s, mgo_0, mgo_s, pjc_s, pj_0, pj_s, lk_s, rm1_0, rm1_i, rm1_r, rm1_l, rm2_0, rm2_i, rm2_r, rm2_l, csL_s, lc_lt, lc_ge, lc_gt, lc_le, lc_eq, b01_0, b01_1, b01_01, b01_n, up2_o, up2_s, up2_u, ne_eq, reduceCtorEq, Nat.reduceAdd, Nat.reduceEqDiff, Nat.reduceLT, Nat.reduceLeDiff, Int.reduceLE, Int.reduceLT, Int.reduceAdd, Int.reduceNeg, Int.reduceMul, Int.reduceSub, Int.reduceEq, Int.reduceToNat, Int.reduceNatCast, Int.cast_ofNat_Int, ↓reduceIte, and_self, List.drop_succ_cons, List.drop_zero, List.take_succ_cons, List.take_zero, List.length_cons, List.length_nil, List.reverse_cons, List.reverse_nil, List.nil_append, List.cons_append, Option.toList, true_and, and_true, or_false, false_or, or_true, true_or, forall_const, Classical.not_not, not_false_eq_true, not_true_eq_false, false_implies, true_implies, implies_true, imp_self, e7]
  refine ⟨fun q => hQ _ _ ⟨hk, ?_⟩, fun q => ⟨⟨by rw [eV]; exact hY, q3, by rw [eV, eS]; exact q4, by rw [e7]; omega⟩, fun M2 hR => ?_⟩⟩
  · rw [show A_liars (vM M) (slM M) s = _ from (if_pos hq).trans (if_neg hn), show (vM M 0 4).toNat = a by show (M 7 4).toNat = a; omega]
  · obtain ⟨r1, r2⟩ := hR
    rw [eV, eS, Int.toNat_natCast] at r2
    have l1 : M2 0 54 = (lieP (lieF (vM M) (slM M s.toNat) a) 99).1 := congrArg Prod.fst r2
    rw [l1]
    have go : ∀ x, x = liaF (vM M) (slM M s.toNat) a → I_36 [ar 0, ai s, ai (bor (orN (liaF (vM M) (slM M s.toNat)) a) x), ai (a + 1)] M2 := by
      rintro x rfl
      exact hI_36 (7 - (a + 1)) _ _ _ _ (by omega) ⟨rfl, hq, hn, keep_tr hk r1, a + 1, by omega, by omega, rfl, rfl⟩
    refine ⟨fun z => ⟨by omega, go _ (if_neg (by omega)).symm⟩, fun z => ⟨by omega, go _ (if_pos z).symm⟩⟩
set_option maxHeartbeats 4000000 in
set_option maxRecDepth 100000 in
theorem m7_liars : MOK cl7 sh7 tyl7 [] 5 yX7_liars cX7_liars 5 (some .int) sp7_liars := by
  refine mok_of (own := RX7) (tb := tb7 (csL cs7_liars)) (rt := 1) (fuel := 400) (fun avs M Q => [(36, [0, 1, 3, 4], fun m_ vs M1 => ∃ y_s_ : Int, ∃ y_n : Int, ∃ y_c : Int, vs = [ar 0, ai y_s_, ai y_n, ai y_c] ∧ J7_liars_36 (pa true [0] avs 0) M m_ y_s_ y_n y_c M1)]) (by decide) rfl nil_nw (tbOK7 _) rfl (csL_all ?_) ?_ ?_ ?_
  · intro q hq
    simp only [cs7_liars, List.mem_cons, List.not_mem_nil, or_false] at hq
    rcases hq with rfl | rfl | rfl | rfl | rfl
    · exact cg7_whyNotSags (by decide)
    · exact cg7_laysNow (by decide)
    · exact cg7_isSo (by decide)
    · exact cg7_carts (by decide)
    · exact cg7_laysLies (by decide)
  · intro avs M Q hsp
    obtain ⟨xs, hx⟩ := spR_un _ _ _ hsp
    obtain ⟨e, hl⟩ := unA_mkT hx
    obtain ⟨s, rfl⟩ := len1 hl
    have e : avs = [ar 0, ai s] := e
    subst e
    simp [szL, isL]
  · intro avs M Q hM hav hsp
    obtain ⟨xs, hx⟩ := spR_un _ _ _ hsp
    obtain ⟨e, hl⟩ := unA_mkT hx
    obtain ⟨s, rfl⟩ := len1 hl
    have e : avs = [ar 0, ai s] := e
    subst e
    exact in7_liars hM (hav (ai s) (by simp)) hsp.1 hsp.2 _ (fun m_ y_s_ y_n y_c M2 hJ => ⟨m_, y_s_, y_n, y_c, rfl, hJ⟩)
  · intro avs M Q hM hav hsp q hq m_ vs M1 hM1 hv hJ
    obtain ⟨xs, hx⟩ := spR_un _ _ _ hsp
    obtain ⟨e, hl⟩ := unA_mkT hx
    obtain ⟨s, rfl⟩ := len1 hl
    have e : avs = [ar 0, ai s] := e
    subst e
    simp only [List.mem_cons, List.not_mem_nil, or_false] at hq
    rcases hq with rfl
    · obtain ⟨y_s_, y_n, y_c, rfl, hJ⟩ := hJ
      exact at7_liars_36 hM (hav (ai s) (by simp)) hsp.1 hsp.2 hM1 (hv (1, ai y_s_) (List.mem_of_getElem? (i := 1) rfl)) (hv (3, ai y_n) (List.mem_of_getElem? (i := 2) rfl)) (hv (4, ai y_c) (List.mem_of_getElem? (i := 3) rfl)) hJ _ (fun m2 z_s_ z_n z_c M2 hm hJ2 => ⟨m2, hm, z_s_, z_n, z_c, rfl, hJ2⟩)
def lawF (V : Vy) (s : Sl) (l : Nat) : Int := if soP (sgP V (lawC V l)) s then bshl 1 l else 0
def A_laws (V : Vy) (sl : Nat → Sl) (s : Int) : Int := if whyBk V sl s = 0 then orN (lawF V (sl s.toNat)) 4 else whyBk V sl s
def P7_laws (s : Int) (M : Mm) : Prop := okY (vM M) ∧ ∀ s : Nat, s < 4 → okSl (slM M s)
def R7_laws (s : Int) (M : Mm) (v : Int) (M1 : Mm) : Prop := keepM M M1 ∧ v = A_laws (vM M) (slM M) s
def sp7_laws : Spec := spR true [0] 1 (fun x M => P7_laws (x 0) M) (fun x M v M1 => R7_laws (x 0) M v M1)
theorem c7_laws {s : Int} {M : Mm} {Q : Option AV → Mm → Prop} : sp7_laws [ar 0, ai s] M Q = (P7_laws s M ∧ ∀ (v : Int) (M1 : Mm), R7_laws s M v M1 → Q (some (ai v)) M1) := rfl
def cs7_laws : List (Nat × Nat × Nat × Spec) := [(424, 1, 2, sp7_whyNotSags), (445, 1, 2, sp7_sagBy), (436, 1, 2, sp7_isSo)]
def J7_laws_22 (s : Int) (M : Mm) (m : Nat) (s_ : Int) (n : Int) (l : Int) (M1 : Mm) : Prop := s = s_ ∧ whyBk (vM M) (slM M) s = 0 ∧ keepM M M1 ∧ ∃ a : Nat, l = a ∧ a ≤ 4 ∧ n = orN (lawF (vM M) (slM M s.toNat)) a ∧ m = 4 - a
set_option maxHeartbeats 4000000 in
set_option maxRecDepth 100000 in
theorem in7_laws {s : Int} {M : Mm} {Q : Option AV → Mm → Prop} (hM : okM sh7 M) (h_s : i32 s) (hP : P7_laws s M) (hQ : ∀ (v : Int) (M1 : Mm), R7_laws s M v M1 → Q (some (ai v)) M1) (I_22 : List AV → Mm → Prop) (hI_22 : ∀ (m_ : Nat) (y_s_ : Int) (y_n : Int) (y_l : Int) (M2 : Mm), J7_laws_22 s M m_ y_s_ y_n y_l M2 → I_22 [ar 0, ai y_s_, ai y_n, ai y_l] M2) : wp (tb7 (csL cs7_laws)) sh7 5 1 cX7_laws [(22, [0, 1, 3, 4], I_22)] Q 400 0 [(0, ar 0), (1, ai s)] [] M := by
  obtain ⟨hY, hS⟩ := id hP
  have h4 : 0 ≤ M 7 4 ∧ M 7 4 ≤ 7 := hY.2.2.2.2.1
  have hk0 : keepM M (up2 M 0 0 0) := keep_u0 keep_rf (by decide)
  have hV : vM (up2 M 0 0 0) = vM M := keep_v hk0 0
  have hs : slM (up2 M 0 0 0) = slM M := funext fun k => slM_eq hk0 k
  have hY0 : okY (vM (up2 M 0 0 0)) := by rw [hV]; exact hY
  have hS0 : ∀ s : Nat, s < 4 → okSl (slM (up2 M 0 0 0) s) := by rw [hs]; exact hS
  simp only [e_wp dX7_laws_0 rfl, e_wp dX7_laws_1 rfl, e_wp dX7_laws_2 rfl, e_wp dX7_laws_5 rfl, e_wp dX7_laws_6 rfl, e_wp dX7_laws_7 rfl, e_wp dX7_laws_10 rfl, e_wp dX7_laws_11 rfl, e_wp dX7_laws_12 rfl, e_wp dX7_laws_15 rfl, e_wp dX7_laws_16 rfl, e_wp dX7_laws_17 rfl, e_wp dX7_laws_18 rfl, e_wp dX7_laws_19 rfl, e_wp dX7_laws_20 rfl, e_wp dX7_laws_22 rfl, e_wp dX7_laws_24 rfl, e_wp dX7_laws_25 rfl, e_wp dX7_laws_28 rfl, e_wp dX7_laws_29 rfl, e_wp dX7_laws_31 rfl, e_wp dX7_laws_34 rfl, e_wp dX7_laws_35 rfl, e_wp dX7_laws_36 rfl, e_wp dX7_laws_37 rfl, e_wp dX7_laws_38 rfl, e_wp dX7_laws_41 rfl, e_wp dX7_laws_44 rfl, e_wp dX7_laws_45 rfl, e_wp dX7_laws_47 rfl, e_wp dX7_laws_48 rfl, e_wp dX7_laws_51 rfl, e_wp dX7_laws_52 rfl, e_wp dX7_laws_53 rfl, e_wp dX7_laws_54 rfl, e_wp dX7_laws_57 rfl, e_wp dX7_laws_60 rfl, e_wp dX7_laws_61 rfl, p7_116, c7_whyNotSags, P7_whyNotSags, V7_whyNotSags, cs7_laws, c7_sagBy, c7_isSo, P7_isSo, V7_isSo, e_iconst, e_bipush, e_sipush, e_lconst_0, e_lconst_1, e_iload, e_iload_0, e_iload_1, e_iload_2, e_iload_3, e_lload, e_lload_0, e_lload_1, e_lload_2, e_lload_3, e_aload, e_aload_0, e_aload_1, e_aload_2, e_aload_3, e_istore, e_istore_0, e_istore_1, e_istore_2, e_istore_3, e_astore, e_astore_0, e_astore_1, e_astore_2, e_astore_3, e_lstore, e_lstore_0, e_lstore_1, e_lstore_2, e_lstore_3, e_iinc, e_iadd, e_isub, e_imul, e_ladd, e_lsub, e_lmul, e_idiv, e_irem, e_ldiv, e_lrem, e_ineg, e_lneg, e_iand, e_ior, e_ixor, e_ishl, e_ishr, e_iushr, e_lcmp, e_i2l, e_l2i, e_i2b, e_i2s, e_dup_i, e_dup_r, e_pop_i, e_pop_r, e_dup2_l, e_dup2_ir, e_dup2_ii, e_ifeq, e_ifne, e_iflt, e_ifge, e_ifgt, e_ifle, e_iceq, e_icne, e_iclt, e_icge, e_icgt, e_icle, e_goto, e_switch, e_invokevirtual, e_invokestatic, e_invokespecial, e_ret0, e_ret1, e_ret2, e_ret3, ldI_s, ldL_s, ldR_s, clO_s, ctP_s, ctS_s, mgo_0, mgo_s, pjc_s, pj_0, pj_s, lk_s, rm1_0, rm1_i, rm1_r, rm1_l, rm2_0, rm2_i, rm2_r, rm2_l, csL_s, lc_lt, lc_ge, lc_gt, lc_le, lc_eq, b01_0, b01_1, b01_01, b01_n, up2_o, up2_s, up2_u, ne_eq, reduceCtorEq, Nat.reduceAdd, Nat.reduceEqDiff, Nat.reduceLT, Nat.reduceLeDiff, Int.reduceLE, Int.reduceLT, Int.reduceAdd, Int.reduceNeg, Int.reduceMul, Int.reduceSub, Int.reduceEq, Int.reduceToNat, Int.reduceNatCast, Int.cast_ofNat_Int, ↓reduceIte, and_self, List.drop_succ_cons, List.drop_zero, List.take_succ_cons, List.take_zero, List.length_cons, List.length_nil, List.reverse_cons, List.reverse_nil, List.nil_append, List.cons_append, Option.toList, true_and, and_true, or_false, false_or, or_true, true_or, forall_const, Classical.not_not, not_false_eq_true, not_true_eq_false, false_implies, true_implies, implies_true, imp_self]
  rw [hV, hs]
  refine ⟨⟨hY0, hS0⟩, fun q => ?_, fun q => hQ _ _ ⟨hk0, (if_neg q).symm⟩⟩
  exact hI_22 (4 - 0) _ _ _ _ ⟨rfl, q, hk0, 0, rfl, by omega, rfl, rfl⟩
set_option maxHeartbeats 4000000 in
set_option maxRecDepth 100000 in
theorem at7_laws_22 {s : Int} {M : Mm} {Q : Option AV → Mm → Prop} (hM : okM sh7 M) (h_s : i32 s) (hP : P7_laws s M) (hQ : ∀ (v : Int) (M1 : Mm), R7_laws s M v M1 → Q (some (ai v)) M1) {m : Nat} {s_ n l : Int} {M1 : Mm} (hM1 : okM sh7 M1) (h_s_ : i32 s_) (h_n : i32 n) (h_l : i32 l) (hJ : J7_laws_22 s M m s_ n l M1) (I_22 : List AV → Mm → Prop) (hI_22 : ∀ (m_ : Nat) (y_s_ : Int) (y_n : Int) (y_l : Int) (M2 : Mm), m_ < m → J7_laws_22 s M m_ y_s_ y_n y_l M2 → I_22 [ar 0, ai y_s_, ai y_n, ai y_l] M2) : wp (tb7 (csL cs7_laws)) sh7 5 1 cX7_laws [(22, [0, 1, 3, 4], I_22)] Q 400 22 [(0, ar 0), (1, ai s_), (3, ai n), (4, ai l)] [] M1 := by
  obtain ⟨rfl, hq, hk, a, rfl, ha, rfl, rfl⟩ := hJ
  obtain ⟨hY, hS⟩ := id hP
  have h4 : 0 ≤ M 7 4 ∧ M 7 4 ≤ 7 := hY.2.2.2.2.1
  have hk0 : keepM M (up2 M 0 0 0) := keep_u0 keep_rf (by decide)
  have hV : vM (up2 M 0 0 0) = vM M := keep_v hk0 0
  have hs : slM (up2 M 0 0 0) = slM M := funext fun k => slM_eq hk0 k
  have hY0 : okY (vM (up2 M 0 0 0)) := by rw [hV]; exact hY
  have hS0 : ∀ s : Nat, s < 4 → okSl (slM (up2 M 0 0 0) s) := by rw [hs]; exact hS
  obtain ⟨q3, q4⟩ := why_bk hY hS hq
  have eV : vM M1 = vM M := keep_v hk 0
  simp only [e_wp dX7_laws_0 rfl, e_wp dX7_laws_1 rfl, e_wp dX7_laws_2 rfl, e_wp dX7_laws_5 rfl, e_wp dX7_laws_6 rfl, e_wp dX7_laws_7 rfl, e_wp dX7_laws_10 rfl, e_wp dX7_laws_11 rfl, e_wp dX7_laws_12 rfl, e_wp dX7_laws_15 rfl, e_wp dX7_laws_16 rfl, e_wp dX7_laws_17 rfl, e_wp dX7_laws_18 rfl, e_wp dX7_laws_19 rfl, e_wp dX7_laws_20 rfl, e_wp dX7_laws_22 rfl, e_wp dX7_laws_24 rfl, e_wp dX7_laws_25 rfl, e_wp dX7_laws_28 rfl, e_wp dX7_laws_29 rfl, e_wp dX7_laws_31 rfl, e_wp dX7_laws_34 rfl, e_wp dX7_laws_35 rfl, e_wp dX7_laws_36 rfl, e_wp dX7_laws_37 rfl, e_wp dX7_laws_38 rfl, e_wp dX7_laws_41 rfl, e_wp dX7_laws_44 rfl, e_wp dX7_laws_45 rfl, e_wp dX7_laws_47 rfl, e_wp dX7_laws_48 rfl, e_wp dX7_laws_51 rfl, e_wp dX7_laws_52 rfl, e_wp dX7_laws_53 rfl, e_wp dX7_laws_54 rfl, e_wp dX7_laws_57 rfl, e_wp dX7_laws_60 rfl, e_wp dX7_laws_61 rfl, p7_116, c7_whyNotSags, P7_whyNotSags, V7_whyNotSags, cs7_laws, c7_sagBy, c7_isSo, P7_isSo, V7_isSo, e_iconst, e_bipush, e_sipush, e_lconst_0, e_lconst_1, e_iload, e_iload_0, e_iload_1, e_iload_2, e_iload_3, e_lload, e_lload_0, e_lload_1, e_lload_2, e_lload_3, e_aload, e_aload_0, e_aload_1, e_aload_2, e_aload_3, e_istore, e_istore_0, e_istore_1, e_istore_2, e_istore_3, e_astore, e_astore_0, e_astore_1, e_astore_2, e_astore_3, e_lstore, e_lstore_0, e_lstore_1, e_lstore_2, e_lstore_3, e_iinc, e_iadd, e_isub, e_imul, e_ladd, e_lsub, e_lmul, e_idiv, e_irem, e_ldiv, e_lrem, e_ineg, e_lneg, e_iand, e_ior, e_ixor, e_ishl, e_ishr, e_iushr, e_lcmp, e_i2l, e_l2i, e_i2b, e_i2s, e_dup_i, e_dup_r, e_pop_i, e_pop_r, e_dup2_l, e_dup2_ir, e_dup2_ii, e_ifeq, e_ifne, e_iflt, e_ifge, e_ifgt, e_ifle, e_iceq, e_icne, e_iclt, e_icge, e_icgt, e_icle, e_goto, e_switch, e_invokevirtual, e_invokestatic, e_invokespecial, e_ret0, e_ret1, e_ret2, e_ret3, ldI_s, ldL_s, ldR_s, clO_s, ctP_s, ctS_s, mgo_0, mgo_s, pjc_s, pj_0, pj_s, lk_s, rm1_0, rm1_i, rm1_r, rm1_l, rm2_0, rm2_i, rm2_r, rm2_l, csL_s, lc_lt, lc_ge, lc_gt, lc_le, lc_eq, b01_0, b01_1, b01_01, b01_n, up2_o, up2_s, up2_u, ne_eq, reduceCtorEq, Nat.reduceAdd, Nat.reduceEqDiff, Nat.reduceLT, Nat.reduceLeDiff, Int.reduceLE, Int.reduceLT, Int.reduceAdd, Int.reduceNeg, Int.reduceMul, Int.reduceSub, Int.reduceEq, Int.reduceToNat, Int.reduceNatCast, Int.cast_ofNat_Int, ↓reduceIte, and_self, List.drop_succ_cons, List.drop_zero, List.take_succ_cons, List.take_zero, List.length_cons, List.length_nil, List.reverse_cons, List.reverse_nil, List.nil_append, List.cons_append, Option.toList, true_and, and_true, or_false, false_or, or_true, true_or, forall_const, Classical.not_not, not_false_eq_true, not_true_eq_false, false_implies, true_implies, implies_true, imp_self]
  refine ⟨fun q => hQ _ _ ⟨hk, ?_⟩, fun q => ⟨⟨by rw [eV]; exact hY, by omega⟩, fun v M2 hR => ?_⟩⟩
  · rw [show A_laws (vM M) (slM M) s = _ from if_pos hq, show a = 4 by omega]
  · obtain ⟨r1, r2, r3⟩ := hR
    rw [eV] at r3
    have hk2 := keep_tr hk r1
    have eV2 : vM M2 = vM M := keep_v hk2 0
    have eS := slM_eq hk2 s.toNat
    have hso := so_ran q4 r3
    rw [eS]
    have go : ∀ x, x = lawF (vM M) (slM M s.toNat) a → I_22 [ar 0, ai s, ai (bor (orN (lawF (vM M) (slM M s.toNat)) a) x), ai (a + 1)] M2 := by
      rintro x rfl
      exact hI_22 (4 - (a + 1)) _ _ _ _ (by omega) ⟨rfl, hq, hk2, a + 1, by omega, by omega, rfl, rfl⟩
    refine ⟨⟨q3, by rw [eV2]; exact q4⟩, fun z => ⟨by omega, go _ (if_neg (fun y => z (hso.mpr y))).symm⟩, fun z => ⟨by omega, go _ (if_pos (hso.mp z)).symm⟩⟩
set_option maxHeartbeats 4000000 in
set_option maxRecDepth 100000 in
theorem m7_laws : MOK cl7 sh7 tyl7 [] 5 yX7_laws cX7_laws 5 (some .int) sp7_laws := by
  refine mok_of (own := RX7) (tb := tb7 (csL cs7_laws)) (rt := 1) (fuel := 400) (fun avs M Q => [(22, [0, 1, 3, 4], fun m_ vs M1 => ∃ y_s_ : Int, ∃ y_n : Int, ∃ y_l : Int, vs = [ar 0, ai y_s_, ai y_n, ai y_l] ∧ J7_laws_22 (pa true [0] avs 0) M m_ y_s_ y_n y_l M1)]) (by decide) rfl nil_nw (tbOK7 _) rfl (csL_all ?_) ?_ ?_ ?_
  · intro q hq
    simp only [cs7_laws, List.mem_cons, List.not_mem_nil, or_false] at hq
    rcases hq with rfl | rfl | rfl
    · exact cg7_whyNotSags (by decide)
    · exact cg7_sagBy (by decide)
    · exact cg7_isSo (by decide)
  · intro avs M Q hsp
    obtain ⟨xs, hx⟩ := spR_un _ _ _ hsp
    obtain ⟨e, hl⟩ := unA_mkT hx
    obtain ⟨s, rfl⟩ := len1 hl
    have e : avs = [ar 0, ai s] := e
    subst e
    simp [szL, isL]
  · intro avs M Q hM hav hsp
    obtain ⟨xs, hx⟩ := spR_un _ _ _ hsp
    obtain ⟨e, hl⟩ := unA_mkT hx
    obtain ⟨s, rfl⟩ := len1 hl
    have e : avs = [ar 0, ai s] := e
    subst e
    exact in7_laws hM (hav (ai s) (by simp)) hsp.1 hsp.2 _ (fun m_ y_s_ y_n y_l M2 hJ => ⟨m_, y_s_, y_n, y_l, rfl, hJ⟩)
  · intro avs M Q hM hav hsp q hq m_ vs M1 hM1 hv hJ
    obtain ⟨xs, hx⟩ := spR_un _ _ _ hsp
    obtain ⟨e, hl⟩ := unA_mkT hx
    obtain ⟨s, rfl⟩ := len1 hl
    have e : avs = [ar 0, ai s] := e
    subst e
    simp only [List.mem_cons, List.not_mem_nil, or_false] at hq
    rcases hq with rfl
    · obtain ⟨y_s_, y_n, y_l, rfl, hJ⟩ := hJ
      exact at7_laws_22 hM (hav (ai s) (by simp)) hsp.1 hsp.2 hM1 (hv (1, ai y_s_) (List.mem_of_getElem? (i := 1) rfl)) (hv (3, ai y_n) (List.mem_of_getElem? (i := 2) rfl)) (hv (4, ai y_l) (List.mem_of_getElem? (i := 3) rfl)) hJ _ (fun m2 z_s_ z_n z_l M2 hm hJ2 => ⟨m2, hm, z_s_, z_n, z_l, rfl, hJ2⟩)
