/-! SagMemory: two who choose bridges -/
def P0_losesOf (rs : List (Nat × Nat)) (c : Int) (M : Mm) : Prop := 0 ≤ c ∧ c < 7
def V0_losesOf (rs : List (Nat × Nat)) (c : Int) (M : Mm) : Int := if M 19 c.toNat = -1 then 9 else M 23 c.toNat
def sp0_losesOf (rs : List (Nat × Nat)) : Spec := spF true [0] 1 (fun x M => P0_losesOf rs (x 0) M) (fun x M => V0_losesOf rs (x 0) M)
theorem c0_losesOf {rs : List (Nat × Nat)} {c : Int} {M : Mm} {Q : Option AV → Mm → Prop} : sp0_losesOf rs [ar 0, ai c] M Q = (P0_losesOf rs c M ∧ Q (some (ai (V0_losesOf rs c M))) M) := rfl
def cs0_losesOf (rs : List (Nat × Nat)) : List (Nat × Nat × Nat × Spec) := []
set_option maxHeartbeats 4000000 in
set_option maxRecDepth 100000 in
theorem in0_losesOf {rs : List (Nat × Nat)} {c : Int} {M : Mm} {Q : Option AV → Mm → Prop} (hM : okM (sh8 rs) M) (h_c : i32 c) (hP : P0_losesOf rs c M) (hQ : Q (some (ai (V0_losesOf rs c M))) M) : wp (tb0 (csL (cs0_losesOf rs))) (sh8 rs) 2 1 cX0_losesOf [] Q 400 0 [(0, ar 0), (1, ai c)] [] M := by
  obtain ⟨h1, h2⟩ := id hP
  unfold V0_losesOf at hQ
  simp only [e_wp dX0_losesOf_0 rfl, e_wp dX0_losesOf_1 rfl, e_wp dX0_losesOf_4 rfl, e_wp dX0_losesOf_5 rfl, e_wp dX0_losesOf_6 rfl, e_wp dX0_losesOf_7 rfl, e_wp dX0_losesOf_10 rfl, e_wp dX0_losesOf_12 rfl, e_wp dX0_losesOf_15 rfl, e_wp dX0_losesOf_16 rfl, e_wp dX0_losesOf_19 rfl, e_wp dX0_losesOf_20 rfl, e_wp dX0_losesOf_21 rfl, g0_65, g0_77, a8_13, w8_13, a8_14, w8_14, a8_15, w8_15, a8_16, w8_16, a8_17, w8_17, a8_18, w8_18, a8_19, w8_19, a8_20, w8_20, a8_21, w8_21, a8_22, w8_22, a8_23, w8_23, a8_24, w8_24, a8_25, w8_25, a8_26, w8_26, a8_27, w8_27, a8_28, w8_28, a8_29, w8_29, a8_30, w8_30, a8_31, w8_31, a8_32, w8_32, a8_33, w8_33, a8_34, w8_34, a8_35, w8_35, a8_36, w8_36, a8_37, w8_37, a8_38, w8_38, a8_39, w8_39, a8_40, w8_40, a8_12, w8_12, a8_6, a8_7, e_iconst, e_bipush, e_sipush, e_lconst_0, e_lconst_1, e_iload, e_iload_0, e_iload_1, e_iload_2, e_iload_3, e_lload, e_lload_0, e_lload_1, e_lload_2, e_lload_3, e_aload, e_aload_0, e_aload_1, e_aload_2, e_aload_3, e_istore, e_istore_0, e_istore_1, e_istore_2, e_istore_3, e_astore, e_astore_0, e_astore_1, e_astore_2, e_astore_3, e_lstore, e_lstore_0, e_lstore_1, e_lstore_2, e_lstore_3, e_iinc, e_iadd, e_isub, e_imul, e_ladd, e_lsub, e_lmul, e_idiv, e_irem, e_ldiv, e_lrem, e_ineg, e_lneg, e_iand, e_ior, e_ixor, e_ishl, e_ishr, e_iushr, e_lcmp, e_i2l, e_l2i, e_i2b, e_i2s, e_dup_i, e_dup_r, e_pop_i, e_pop_r, e_dup2_l, e_dup2_ir, e_dup2_ii, e_ifeq, e_ifne, e_iflt, e_ifge, e_ifgt, e_ifle, e_iceq, e_icne, e_iclt, e_icge, e_icgt, e_icle, e_goto, e_switch, e_invokevirtual, e_invokestatic, e_invokespecial, e_ret0, e_ret1, e_ret2, e_ret3, ldI_s, ldL_s, ldR_s, clO_s, ctP_s, ctS_s, mgo_0, mgo_s, pjc_s, pj_0, pj_s, lk_s, rm1_0, rm1_i, rm1_r, rm1_l, rm2_0, rm2_i, rm2_r, rm2_l, csL_s, lc_lt, lc_ge, lc_gt, lc_le, lc_eq, b01_0, b01_1, b01_01, b01_n, up2_o, up2_s, up2_u, ne_eq, reduceCtorEq, Nat.reduceAdd, Nat.reduceEqDiff, Nat.reduceLT, Nat.reduceLeDiff, Int.reduceLE, Int.reduceLT, Int.reduceAdd, Int.reduceNeg, Int.reduceMul, Int.reduceSub, Int.reduceEq, Int.reduceToNat, Int.reduceNatCast, Int.cast_ofNat_Int, ↓reduceIte, and_self, List.drop_succ_cons, List.drop_zero, List.take_succ_cons, List.take_zero, List.length_cons, List.length_nil, List.reverse_cons, List.reverse_nil, List.nil_append, List.cons_append, Option.toList, true_and, and_true, or_false, false_or, or_true, true_or, forall_const, Classical.not_not, not_false_eq_true, not_true_eq_false, false_implies, true_implies, implies_true, imp_self]
  refine ⟨by omega, fun q => ?_, fun q => ?_⟩
  · rw [if_neg q] at hQ
    exact ⟨by omega, hQ⟩
  · rw [if_pos q] at hQ
    exact hQ
set_option maxHeartbeats 4000000 in
set_option maxRecDepth 100000 in
theorem m0_losesOf {rs : List (Nat × Nat)} : MOK cl8 (sh8 rs) tyl8 Nws8 0 yX0_losesOf cX0_losesOf 2 (some .int) (sp0_losesOf rs) := by
  refine mok_of (own := RX0) (tb := tb0 (csL (cs0_losesOf rs))) (rt := 1) (fuel := 400) (fun avs M Q => []) (by decide) rfl nws8_ok (tbOK0 _) rfl (csL_all ?_) ?_ ?_ ?_
  · intro q hq; cases hq
  · intro avs M Q hsp
    obtain ⟨xs, hx⟩ := spF_un _ _ _ hsp
    obtain ⟨e, hl⟩ := unA_mkT hx
    obtain ⟨c, rfl⟩ := len1 hl
    have e : avs = [ar 0, ai c] := e
    subst e
    simp [szL, isL]
  · intro avs M Q hM hav hsp
    obtain ⟨xs, hx⟩ := spF_un _ _ _ hsp
    obtain ⟨e, hl⟩ := unA_mkT hx
    obtain ⟨c, rfl⟩ := len1 hl
    have e : avs = [ar 0, ai c] := e
    subst e
    exact in0_losesOf hM (hav (ai c) (by simp)) hsp.1 hsp.2
  · intro avs M Q hM hav hsp q hq m_ vs M1 hM1 hv hJ
    obtain ⟨xs, hx⟩ := spF_un _ _ _ hsp
    obtain ⟨e, hl⟩ := unA_mkT hx
    obtain ⟨c, rfl⟩ := len1 hl
    have e : avs = [ar 0, ai c] := e
    subst e
    cases hq
theorem cg0_losesOf {rs : List (Nat × Nat)} {lvl : Nat} (h : 0 < lvl) : CG RX0 cl8 (sh8 rs) tyl8 Nws8 lvl 1 405 2 (sp0_losesOf rs) := cg_V (sg := [0]) nws8_ok spF_mono spF_un m0_losesOf h rfl (by decide) rfl rfl ⟨rfl, by decide, by decide, rfl⟩ q1218 q1220 qs52 q128 q1221
def P0_isRest (rs : List (Nat × Nat)) (x : Int) (y : Int) (M : Mm) : Prop := (0 ≤ M 1 4 ∧ M 1 4 ≤ 3) ∧ (0 ≤ x ∧ x < M 1 4) ∧ (0 ≤ y ∧ y < M 1 4)
def V0_isRest (rs : List (Nat × Nat)) (x : Int) (y : Int) (M : Mm) : Int := b01 (restP (M 1 4).toNat (fun i j => M 32 (2 * (3 * i + j))) (fun i j => M 32 (2 * (3 * i + j) + 1)) x.toNat y.toNat)
def sp0_isRest (rs : List (Nat × Nat)) : Spec := spF true [0, 0] 1 (fun x M => P0_isRest rs (x 0) (x 1) M) (fun x M => V0_isRest rs (x 0) (x 1) M)
theorem c0_isRest {rs : List (Nat × Nat)} {x y : Int} {M : Mm} {Q : Option AV → Mm → Prop} : sp0_isRest rs [ar 0, ai x, ai y] M Q = (P0_isRest rs x y M ∧ Q (some (ai (V0_isRest rs x y M))) M) := rfl
def cs0_isRest (rs : List (Nat × Nat)) : List (Nat × Nat × Nat × Spec) := []
def J0_isRest_2 (rs : List (Nat × Nat)) (x : Int) (y : Int) (M : Mm) (m : Nat) (x_ : Int) (y_ : Int) (k : Int) (M1 : Mm) : Prop := x = x_ ∧ y = y_ ∧ M = M1 ∧ ∃ a : Nat, k = a ∧ (a : Int) ≤ M 1 4 ∧ (∀ j : Nat, j < a → M 32 (2 * (3 * x.toNat + y.toNat)) ≤ M 32 (2 * (3 * j + y.toNat)) ∧ M 32 (2 * (3 * x.toNat + y.toNat) + 1) ≤ M 32 (2 * (3 * x.toNat + j) + 1)) ∧ m = 3 - a
set_option maxHeartbeats 4000000 in
set_option maxRecDepth 100000 in
theorem in0_isRest {rs : List (Nat × Nat)} {x y : Int} {M : Mm} {Q : Option AV → Mm → Prop} (hM : okM (sh8 rs) M) (h_x : i32 x) (h_y : i32 y) (hP : P0_isRest rs x y M) (hQ : Q (some (ai (V0_isRest rs x y M))) M) (I_2 : List AV → Mm → Prop) (hI_2 : ∀ (m_ : Nat) (y_x_ : Int) (y_y_ : Int) (y_k : Int) (M2 : Mm), J0_isRest_2 rs x y M m_ y_x_ y_y_ y_k M2 → I_2 [ar 0, ai y_x_, ai y_y_, ai y_k] M2) : wp (tb0 (csL (cs0_isRest rs))) (sh8 rs) 4 2 cX0_isRest [(2, [0, 1, 2, 3], I_2)] Q 400 0 [(0, ar 0), (1, ai x), (2, ai y)] [] M := by
  simp only [e_wp dX0_isRest_0 rfl, e_wp dX0_isRest_1 rfl, e_wp dX0_isRest_2 rfl, e_wp dX0_isRest_3 rfl, e_wp dX0_isRest_4 rfl, e_wp dX0_isRest_7 rfl, e_wp dX0_isRest_10 rfl, e_wp dX0_isRest_13 rfl, e_wp dX0_isRest_14 rfl, e_wp dX0_isRest_17 rfl, e_wp dX0_isRest_18 rfl, e_wp dX0_isRest_19 rfl, e_wp dX0_isRest_20 rfl, e_wp dX0_isRest_21 rfl, e_wp dX0_isRest_22 rfl, e_wp dX0_isRest_23 rfl, e_wp dX0_isRest_24 rfl, e_wp dX0_isRest_25 rfl, e_wp dX0_isRest_26 rfl, e_wp dX0_isRest_29 rfl, e_wp dX0_isRest_30 rfl, e_wp dX0_isRest_31 rfl, e_wp dX0_isRest_32 rfl, e_wp dX0_isRest_33 rfl, e_wp dX0_isRest_34 rfl, e_wp dX0_isRest_35 rfl, e_wp dX0_isRest_36 rfl, e_wp dX0_isRest_37 rfl, e_wp dX0_isRest_40 rfl, e_wp dX0_isRest_41 rfl, e_wp dX0_isRest_44 rfl, e_wp dX0_isRest_45 rfl, e_wp dX0_isRest_46 rfl, e_wp dX0_isRest_47 rfl, e_wp dX0_isRest_48 rfl, e_wp dX0_isRest_49 rfl, e_wp dX0_isRest_50 rfl, e_wp dX0_isRest_51 rfl, e_wp dX0_isRest_52 rfl, e_wp dX0_isRest_53 rfl, e_wp dX0_isRest_54 rfl, e_wp dX0_isRest_55 rfl, e_wp dX0_isRest_58 rfl, e_wp dX0_isRest_59 rfl, e_wp dX0_isRest_60 rfl, e_wp dX0_isRest_61 rfl, e_wp dX0_isRest_62 rfl, e_wp dX0_isRest_63 rfl, e_wp dX0_isRest_64 rfl, e_wp dX0_isRest_65 rfl, e_wp dX0_isRest_66 rfl, e_wp dX0_isRest_67 rfl, e_wp dX0_isRest_68 rfl, e_wp dX0_isRest_71 rfl, e_wp dX0_isRest_72 rfl, e_wp dX0_isRest_73 rfl, e_wp dX0_isRest_76 rfl, e_wp dX0_isRest_79 rfl, e_wp dX0_isRest_80 rfl, g0_10, g0_153, g0_104, a8_13, w8_13, a8_14, w8_14, a8_15, w8_15, a8_16, w8_16, a8_17, w8_17, a8_18, w8_18, a8_19, w8_19, a8_20, w8_20, a8_21, w8_21, a8_22, w8_22, a8_23, w8_23, a8_24, w8_24, a8_25, w8_25, a8_26, w8_26, a8_27, w8_27, a8_28, w8_28, a8_29, w8_29, a8_30, w8_30, a8_31, w8_31, a8_32, w8_32, a8_33, w8_33, a8_34, w8_34, a8_35, w8_35, a8_36, w8_36, a8_37, w8_37, a8_38, w8_38, a8_39, w8_39, a8_40, w8_40, a8_12, w8_12, a8_6, a8_7, e_iconst, e_bipush, e_sipush, e_lconst_0, e_lconst_1, e_iload, e_iload_0, e_iload_1, e_iload_2, e_iload_3, e_lload, e_lload_0, e_lload_1, e_lload_2, e_lload_3, e_aload, e_aload_0, e_aload_1, e_aload_2, e_aload_3, e_istore, e_istore_0, e_istore_1, e_istore_2, e_istore_3, e_astore, e_astore_0, e_astore_1, e_astore_2, e_astore_3, e_lstore, e_lstore_0, e_lstore_1, e_lstore_2, e_lstore_3, e_iinc, e_iadd, e_isub, e_imul, e_ladd, e_lsub, e_lmul, e_idiv, e_irem, e_ldiv, e_lrem, e_ineg, e_lneg, e_iand, e_ior, e_ixor, e_ishl, e_ishr, e_iushr, e_lcmp, e_i2l, e_l2i, e_i2b, e_i2s, e_dup_i, e_dup_r, e_pop_i, e_pop_r, e_dup2_l, e_dup2_ir, e_dup2_ii, e_ifeq, e_ifne, e_iflt, e_ifge, e_ifgt, e_ifle, e_iceq, e_icne, e_iclt, e_icge, e_icgt, e_icle, e_goto, e_switch, e_invokevirtual, e_invokestatic, e_invokespecial, e_ret0, e_ret1, e_ret2, e_ret3, ldI_s, ldL_s, ldR_s, clO_s, ctP_s, ctS_s, mgo_0, mgo_s, pjc_s, pj_0, pj_s, lk_s, rm1_0, rm1_i, rm1_r, rm1_l, rm2_0, rm2_i, rm2_r, rm2_l, csL_s, lc_lt, lc_ge, lc_gt, lc_le, lc_eq, b01_0, b01_1, b01_01, b01_n, up2_o, up2_s, up2_u, ne_eq, reduceCtorEq, Nat.reduceAdd, Nat.reduceEqDiff, Nat.reduceLT, Nat.reduceLeDiff, Int.reduceLE, Int.reduceLT, Int.reduceAdd, Int.reduceNeg, Int.reduceMul, Int.reduceSub, Int.reduceEq, Int.reduceToNat, Int.reduceNatCast, Int.cast_ofNat_Int, ↓reduceIte, and_self, List.drop_succ_cons, List.drop_zero, List.take_succ_cons, List.take_zero, List.length_cons, List.length_nil, List.reverse_cons, List.reverse_nil, List.nil_append, List.cons_append, Option.toList, true_and, and_true, or_false, false_or, or_true, true_or, forall_const, Classical.not_not, not_false_eq_true, not_true_eq_false, false_implies, true_implies, implies_true, imp_self]
  exact hI_2 (3 - 0) _ _ _ _ ⟨rfl, rfl, rfl, 0, rfl, hP.1.1, fun j hj => by omega, rfl⟩
set_option maxHeartbeats 4000000 in
set_option maxRecDepth 100000 in
theorem at0_isRest_2 {rs : List (Nat × Nat)} {x y : Int} {M : Mm} {Q : Option AV → Mm → Prop} (hM : okM (sh8 rs) M) (h_x : i32 x) (h_y : i32 y) (hP : P0_isRest rs x y M) (hQ : Q (some (ai (V0_isRest rs x y M))) M) {m : Nat} {x_ y_ k : Int} {M1 : Mm} (hM1 : okM (sh8 rs) M1) (h_x_ : i32 x_) (h_y_ : i32 y_) (h_k : i32 k) (hJ : J0_isRest_2 rs x y M m x_ y_ k M1) (I_2 : List AV → Mm → Prop) (hI_2 : ∀ (m_ : Nat) (y_x_ : Int) (y_y_ : Int) (y_k : Int) (M2 : Mm), m_ < m → J0_isRest_2 rs x y M m_ y_x_ y_y_ y_k M2 → I_2 [ar 0, ai y_x_, ai y_y_, ai y_k] M2) : wp (tb0 (csL (cs0_isRest rs))) (sh8 rs) 4 2 cX0_isRest [(2, [0, 1, 2, 3], I_2)] Q 400 2 [(0, ar 0), (1, ai x_), (2, ai y_), (3, ai k)] [] M1 := by
  obtain ⟨rfl, rfl, rfl, a, rfl, ha, hL, rfl⟩ := hJ
  obtain ⟨h3, hx, hy⟩ := id hP
  have i1 : ((2 : Int) * (3 * a + y)).toNat = 2 * (3 * a + y.toNat) := by omega
  have i2 : ((2 : Int) * (3 * x + y)).toNat = 2 * (3 * x.toNat + y.toNat) := by omega
  have i3 : ((2 : Int) * (3 * x + a) + 1).toNat = 2 * (3 * x.toNat + a) + 1 := by omega
  have i4 : ((2 : Int) * (3 * x + y) + 1).toNat = 2 * (3 * x.toNat + y.toNat) + 1 := by omega
  have bad : ((a : Int) < M 1 4) → ¬ (M 32 (2 * (3 * x.toNat + y.toNat)) ≤ M 32 (2 * (3 * a + y.toNat)) ∧ M 32 (2 * (3 * x.toNat + y.toNat) + 1) ≤ M 32 (2 * (3 * x.toNat + a) + 1)) → V0_isRest rs x y M = 0 := fun q z => b01_f fun w => z (w a (by omega))
  simp only [e_wp dX0_isRest_0 rfl, e_wp dX0_isRest_1 rfl, e_wp dX0_isRest_2 rfl, e_wp dX0_isRest_3 rfl, e_wp dX0_isRest_4 rfl, e_wp dX0_isRest_7 rfl, e_wp dX0_isRest_10 rfl, e_wp dX0_isRest_13 rfl, e_wp dX0_isRest_14 rfl, e_wp dX0_isRest_17 rfl, e_wp dX0_isRest_18 rfl, e_wp dX0_isRest_19 rfl, e_wp dX0_isRest_20 rfl, e_wp dX0_isRest_21 rfl, e_wp dX0_isRest_22 rfl, e_wp dX0_isRest_23 rfl, e_wp dX0_isRest_24 rfl, e_wp dX0_isRest_25 rfl, e_wp dX0_isRest_26 rfl, e_wp dX0_isRest_29 rfl, e_wp dX0_isRest_30 rfl, e_wp dX0_isRest_31 rfl, e_wp dX0_isRest_32 rfl, e_wp dX0_isRest_33 rfl, e_wp dX0_isRest_34 rfl, e_wp dX0_isRest_35 rfl, e_wp dX0_isRest_36 rfl, e_wp dX0_isRest_37 rfl, e_wp dX0_isRest_40 rfl, e_wp dX0_isRest_41 rfl, e_wp dX0_isRest_44 rfl, e_wp dX0_isRest_45 rfl, e_wp dX0_isRest_46 rfl, e_wp dX0_isRest_47 rfl, e_wp dX0_isRest_48 rfl, e_wp dX0_isRest_49 rfl, e_wp dX0_isRest_50 rfl, e_wp dX0_isRest_51 rfl, e_wp dX0_isRest_52 rfl, e_wp dX0_isRest_53 rfl, e_wp dX0_isRest_54 rfl, e_wp dX0_isRest_55 rfl, e_wp dX0_isRest_58 rfl, e_wp dX0_isRest_59 rfl, e_wp dX0_isRest_60 rfl, e_wp dX0_isRest_61 rfl, e_wp dX0_isRest_62 rfl, e_wp dX0_isRest_63 rfl, e_wp dX0_isRest_64 rfl, e_wp dX0_isRest_65 rfl, e_wp dX0_isRest_66 rfl, e_wp dX0_isRest_67 rfl, e_wp dX0_isRest_68 rfl, e_wp dX0_isRest_71 rfl, e_wp dX0_isRest_72 rfl, e_wp dX0_isRest_73 rfl, e_wp dX0_isRest_76 rfl, e_wp dX0_isRest_79 rfl, e_wp dX0_isRest_80 rfl, g0_10, g0_153, g0_104, a8_13, w8_13, a8_14, w8_14, a8_15, w8_15, a8_16, w8_16, a8_17, w8_17, a8_18, w8_18, a8_19, w8_19, a8_20, w8_20, a8_21, w8_21, a8_22, w8_22, a8_23, w8_23, a8_24, w8_24, a8_25, w8_25, a8_26, w8_26, a8_27, w8_27, a8_28, w8_28, a8_29, w8_29, a8_30, w8_30, a8_31, w8_31, a8_32, w8_32, a8_33, w8_33, a8_34, w8_34, a8_35, w8_35, a8_36, w8_36, a8_37, w8_37, a8_38, w8_38, a8_39, w8_39, a8_40, w8_40, a8_12, w8_12, a8_6, a8_7, e_iconst, e_bipush, e_sipush, e_lconst_0, e_lconst_1, e_iload, e_iload_0, e_iload_1, e_iload_2, e_iload_3, e_lload, e_lload_0, e_lload_1, e_lload_2, e_lload_3, e_aload, e_aload_0, e_aload_1, e_aload_2, e_aload_3, e_istore, e_istore_0, e_istore_1, e_istore_2, e_istore_3, e_astore, e_astore_0, e_astore_1, e_astore_2, e_astore_3, e_lstore, e_lstore_0, e_lstore_1, e_lstore_2, e_lstore_3, e_iinc, e_iadd, e_isub, e_imul, e_ladd, e_lsub, e_lmul, e_idiv, e_irem, e_ldiv, e_lrem, e_ineg, e_lneg, e_iand, e_ior, e_ixor, e_ishl, e_ishr, e_iushr, e_lcmp, e_i2l, e_l2i, e_i2b, e_i2s, e_dup_i, e_dup_r, e_pop_i, e_pop_r, e_dup2_l, e_dup2_ir, e_dup2_ii, e_ifeq, e_ifne, e_iflt, e_ifge, e_ifgt, e_ifle, e_iceq, e_icne, e_iclt, e_icge, e_icgt, e_icle, e_goto, e_switch, e_invokevirtual, e_invokestatic, e_invokespecial, e_ret0, e_ret1, e_ret2, e_ret3, ldI_s, ldL_s, ldR_s, clO_s, ctP_s, ctS_s, mgo_0, mgo_s, pjc_s, pj_0, pj_s, lk_s, rm1_0, rm1_i, rm1_r, rm1_l, rm2_0, rm2_i, rm2_r, rm2_l, csL_s, lc_lt, lc_ge, lc_gt, lc_le, lc_eq, b01_0, b01_1, b01_01, b01_n, up2_o, up2_s, up2_u, ne_eq, reduceCtorEq, Nat.reduceAdd, Nat.reduceEqDiff, Nat.reduceLT, Nat.reduceLeDiff, Int.reduceLE, Int.reduceLT, Int.reduceAdd, Int.reduceNeg, Int.reduceMul, Int.reduceSub, Int.reduceEq, Int.reduceToNat, Int.reduceNatCast, Int.cast_ofNat_Int, ↓reduceIte, and_self, List.drop_succ_cons, List.drop_zero, List.take_succ_cons, List.take_zero, List.length_cons, List.length_nil, List.reverse_cons, List.reverse_nil, List.nil_append, List.cons_append, Option.toList, true_and, and_true, or_false, false_or, or_true, true_or, forall_const, Classical.not_not, not_false_eq_true, not_true_eq_false, false_implies, true_implies, implies_true, imp_self, i1, i2, i3, i4]
  refine ⟨fun q => qeq hQ (b01_t fun j hj => hL j (by omega)), fun q => ?_⟩
  have b := bad q
  (repeat' (first | (intro _) | (refine And.intro ?_ ?_))) <;> first | omega | exact qeq hQ (b (by omega)) | skip
  refine hI_2 (3 - (a + 1)) _ _ _ _ (by omega) ⟨rfl, rfl, rfl, a + 1, by omega, by omega, fun j hj => ?_, rfl⟩
  by_cases e : j = a
  · rw [e]; omega
  · exact hL j (by omega)
set_option maxHeartbeats 4000000 in
set_option maxRecDepth 100000 in
theorem m0_isRest {rs : List (Nat × Nat)} : MOK cl8 (sh8 rs) tyl8 Nws8 0 yX0_isRest cX0_isRest 4 (some .boolean) (sp0_isRest rs) := by
  refine mok_of (own := RX0) (tb := tb0 (csL (cs0_isRest rs))) (rt := 2) (fuel := 400) (fun avs M Q => [(2, [0, 1, 2, 3], fun m_ vs M1 => ∃ y_x_ : Int, ∃ y_y_ : Int, ∃ y_k : Int, vs = [ar 0, ai y_x_, ai y_y_, ai y_k] ∧ J0_isRest_2 rs (pa true [0, 0] avs 0) (pa true [0, 0] avs 1) M m_ y_x_ y_y_ y_k M1)]) (by decide) rfl nws8_ok (tbOK0 _) rfl (csL_all ?_) ?_ ?_ ?_
  · intro q hq; cases hq
  · intro avs M Q hsp
    obtain ⟨xs, hx⟩ := spF_un _ _ _ hsp
    obtain ⟨e, hl⟩ := unA_mkT hx
    obtain ⟨x, y, rfl⟩ := len2 hl
    have e : avs = [ar 0, ai x, ai y] := e
    subst e
    simp [szL, isL]
  · intro avs M Q hM hav hsp
    obtain ⟨xs, hx⟩ := spF_un _ _ _ hsp
    obtain ⟨e, hl⟩ := unA_mkT hx
    obtain ⟨x, y, rfl⟩ := len2 hl
    have e : avs = [ar 0, ai x, ai y] := e
    subst e
    exact in0_isRest hM (hav (ai x) (by simp)) (hav (ai y) (by simp)) hsp.1 hsp.2 _ (fun m_ y_x_ y_y_ y_k M2 hJ => ⟨m_, y_x_, y_y_, y_k, rfl, hJ⟩)
  · intro avs M Q hM hav hsp q hq m_ vs M1 hM1 hv hJ
    obtain ⟨xs, hx⟩ := spF_un _ _ _ hsp
    obtain ⟨e, hl⟩ := unA_mkT hx
    obtain ⟨x, y, rfl⟩ := len2 hl
    have e : avs = [ar 0, ai x, ai y] := e
    subst e
    simp only [List.mem_cons, List.not_mem_nil, or_false] at hq
    rcases hq with rfl
    · obtain ⟨y_x_, y_y_, y_k, rfl, hJ⟩ := hJ
      exact at0_isRest_2 hM (hav (ai x) (by simp)) (hav (ai y) (by simp)) hsp.1 hsp.2 hM1 (hv (1, ai y_x_) (List.mem_of_getElem? (i := 1) rfl)) (hv (2, ai y_y_) (List.mem_of_getElem? (i := 2) rfl)) (hv (3, ai y_k) (List.mem_of_getElem? (i := 3) rfl)) hJ _ (fun m2 z_x_ z_y_ z_k M2 hm hJ2 => ⟨m2, hm, z_x_, z_y_, z_k, rfl, hJ2⟩)
theorem cg0_isRest {rs : List (Nat × Nat)} {lvl : Nat} (h : 0 < lvl) : CG RX0 cl8 (sh8 rs) tyl8 Nws8 lvl 1 414 3 (sp0_isRest rs) := cg_V (sg := [0, 0]) nws8_ok spF_mono spF_un m0_isRest h rfl (by decide) rfl rfl ⟨rfl, by decide, by decide, rfl⟩ q1222 q1224 qs53 q128 q1225
theorem gpay_b {V : Vy} {C : Cf} (h : okY V) (hC : okCf V C) {t : Nat} (ht : (t : Int) < V 0 4) : 0 ≤ gpay V C t ∧ gpay V C t ≤ 900000 := by
  have g1 := went_rg (S := preP (whoM C) V C t) h hC ht
  have g2 : -100000 ≤ giveS (whoM C) V C (preP (whoM C) V C t) t ∧ giveS (whoM C) V C (preP (whoM C) V C t) t ≤ 100000 := give_rg (w := whoM C) h hC ht
  unfold gpay
  split
  · omega
  · rename_i z
    have y1 := (okY_b h (wentS V C (preP (whoM C) V C t) t).toNat (by omega)).2
    have b1 := Int.mul_nonneg y1.1 (show 0 ≤ giveS (whoM C) V C (preP (whoM C) V C t) t by omega)
    have b2 := Int.mul_le_mul y1.2 g2.2 (show 0 ≤ giveS (whoM C) V C (preP (whoM C) V C t) t by omega) (by omega)
    omega
theorem loss_x {V : Vy} {C : Cf} {M1 : Mm} (hY : okY V) (hC : okCf V C) (hi : rowI V C) (hr : ranX V C M1) {t : Nat} (ht : (t : Int) < V 0 4) : (if M1 19 t = -1 then 9 else M1 23 t) = lossP V C t ∧ 0 ≤ lossP V C t ∧ lossP V C t ≤ 900009 := by
  obtain ⟨r1, r2, r3, r4, r5, r6⟩ := hr.2.2.2 (rowI_inj hi) t ht
  rw [hi t ht, Int.toNat_natCast] at r1 r6
  have ew : wentS V C (preP whoX V C t) t = wentS V C (preP (whoM C) V C t) t := went_sim (sim_pre t)
  have eg : giveS whoX V C (preP whoX V C t) t = giveS (whoM C) V C (preP (whoM C) V C t) t := give_sim (sim_pre t)
  unfold paidS at r6
  rw [ew, eg] at r6
  rw [ew] at r1
  have hg := gpay_b hY hC ht
  have e6 : M1 23 t = gpay V C t := r6
  rw [r1, e6]
  unfold lossP
  by_cases q : wentS V C (preP (whoM C) V C t) t = -1
  · rw [if_pos q, if_pos q]
    have : gpay V C t = 0 := if_pos (Or.inl q)
    omega
  · rw [if_neg q, if_neg q]
    omega
theorem by_cX {M : Mm} {c : Nat} {x : Int} : cX (up2 M 17 c x) = up2 (cX M) 2 c x := by
  funext i j
  match i with
  | 0 => rfl
  | 1 => rfl
  | 2 =>
    show (if 17 = 17 ∧ j = c then x else M 17 j) = if 2 = 2 ∧ j = c then x else M 17 j
    simp only [true_and]
  | 3 => rfl
  | i + 4 => rfl
theorem lay_pre {rs : List (Nat × Nat)} {M M1 : Mm} {C : Cf} (hP : okX M) (hk : keepX M M1) (hC : nC (vX M) (cX M1) = C) (hok : okCf (vX M) C) : P0_lays rs M1 := by
  have eV := keepX_v hk
  refine ⟨by rw [eV]; exact hP.1, ?_, keepX_b hk hP.2⟩
  rw [eV]
  exact okCf_un (by rw [hC]; exact hok)
theorem lay_useX {rs : List (Nat × Nat)} {M M1 M2 : Mm} {C : Cf} (hk : keepX M M1) (hC : nC (vX M) (cX M1) = C) (hR : R0_lays rs M1 M2) : keepX M M2 ∧ nC (vX M) (cX M2) = C ∧ ranX (vX M) C M2 ∧ cX M2 = cX M1 := by
  obtain ⟨r1, r2, r3⟩ := hR
  have eV := keepX_v hk
  have eN : nX M1 = C := by
    show nC (vX M1) (cX M1) = _
    rw [eV, hC]
  have eC : cX M2 = cX M1 := cX_e r2.2 (r1 _ (by decide)) (r1 _ (by decide)) (r1 _ (by decide))
  rw [eV, show nC (vX M) (cX M1) = C from hC] at r3
  exact ⟨keepX_tr hk (keepX_run r1 r2), by rw [eC, hC], r3, eC⟩
/-- which choices rest, by the losses laid -/
abbrev restI (M M1 : Mm) (a b : Nat) : Prop := ∀ x y : Nat, (x : Int) < M 1 4 → (y : Int) < M 1 4 → (restP (M 1 4).toNat (fun i j => M1 32 (2 * (3 * i + j))) (fun i j => M1 32 (2 * (3 * i + j) + 1)) x y ↔ gRest (vX M) a b x y)
def P0_asksRests (rs : List (Nat × Nat)) (a : Int) (b : Int) (M : Mm) : Prop := okX M
def R0_asksRests (rs : List (Nat × Nat)) (a : Int) (b : Int) (M : Mm) (v : Int) (M1 : Mm) : Prop := keepX M M1 ∧ v = b01 (twoP (vX M) a b) ∧ (v = 1 → M1 0 38 = (resX (vX M) a.toNat b.toNat (vX M 0 3).toNat).length ∧ M1 0 39 = (resX (vX M) a.toNat b.toNat (vX M 0 3).toNat).headD (-1))
def sp0_asksRests (rs : List (Nat × Nat)) : Spec := spR true [0, 0] 1 (fun x M => P0_asksRests rs (x 0) (x 1) M) (fun x M v M1 => R0_asksRests rs (x 0) (x 1) M v M1)
theorem c0_asksRests {rs : List (Nat × Nat)} {a b : Int} {M : Mm} {Q : Option AV → Mm → Prop} : sp0_asksRests rs [ar 0, ai a, ai b] M Q = (P0_asksRests rs a b M ∧ ∀ (v : Int) (M1 : Mm), R0_asksRests rs a b M v M1 → Q (some (ai v)) M1) := rfl
def cs0_asksRests (rs : List (Nat × Nat)) : List (Nat × Nat × Nat × Spec) := [(402, 1, 3, (sp0_areTwo rs)), (250, 1, 1, (sp0_asItIs rs)), (253, 1, 1, (sp0_lays rs)), (405, 1, 2, (sp0_losesOf rs)), (414, 1, 3, (sp0_isRest rs))]
def J0_asksRests_17 (rs : List (Nat × Nat)) (a : Int) (b : Int) (M : Mm) (m : Nat) (a_ : Int) (b_ : Int) (x : Int) (M1 : Mm) : Prop := a = a_ ∧ b = b_ ∧ twoP (vX M) a b ∧ keepX M M1 ∧ (∀ p q, nC (vX M) (up2 (up2 (cX M1) 2 a.toNat p) 2 b.toNat q) = gamC (vX M) a.toNat b.toNat p q) ∧ ∃ i : Nat, x = i ∧ (i : Int) ≤ M 1 4 ∧ (∀ x y : Nat, x < i → (y : Int) < M 1 4 → M1 32 (2 * (3 * x + y)) = lossP (vX M) (gamC (vX M) a.toNat b.toNat x y) a.toNat ∧ M1 32 (2 * (3 * x + y) + 1) = lossP (vX M) (gamC (vX M) a.toNat b.toNat x y) b.toNat) ∧ m = 1000 + (3 - i) * 10 + 9
def J0_asksRests_31 (rs : List (Nat × Nat)) (a : Int) (b : Int) (M : Mm) (m : Nat) (a_ : Int) (b_ : Int) (x : Int) (y : Int) (M1 : Mm) : Prop := a = a_ ∧ b = b_ ∧ twoP (vX M) a b ∧ keepX M M1 ∧ (∀ p q, nC (vX M) (up2 (up2 (cX M1) 2 a.toNat p) 2 b.toNat q) = gamC (vX M) a.toNat b.toNat p q) ∧ ∃ i j : Nat, x = i ∧ y = j ∧ (i : Int) < M 1 4 ∧ (j : Int) ≤ M 1 4 ∧ (∀ x y : Nat, (x < i ∨ (x = i ∧ y < j)) → (y : Int) < M 1 4 → M1 32 (2 * (3 * x + y)) = lossP (vX M) (gamC (vX M) a.toNat b.toNat x y) a.toNat ∧ M1 32 (2 * (3 * x + y) + 1) = lossP (vX M) (gamC (vX M) a.toNat b.toNat x y) b.toNat) ∧ m = 1000 + (3 - i) * 10 + (8 - j)
def J0_asksRests_124 (rs : List (Nat × Nat)) (a : Int) (b : Int) (M : Mm) (m : Nat) (x : Int) (M1 : Mm) : Prop := twoP (vX M) a b ∧ keepX M M1 ∧ restI M M1 a.toNat b.toNat ∧ ∃ i : Nat, x = i ∧ (i : Int) ≤ M 1 4 ∧ M1 0 38 = (resX (vX M) a.toNat b.toNat i).length ∧ M1 0 39 = (resX (vX M) a.toNat b.toNat i).headD (-1) ∧ m = (3 - i) * 10 + 9
def J0_asksRests_138 (rs : List (Nat × Nat)) (a : Int) (b : Int) (M : Mm) (m : Nat) (x : Int) (y : Int) (M1 : Mm) : Prop := twoP (vX M) a b ∧ keepX M M1 ∧ restI M M1 a.toNat b.toNat ∧ ∃ i j : Nat, x = i ∧ y = j ∧ (i : Int) < M 1 4 ∧ (j : Int) ≤ M 1 4 ∧ M1 0 38 = (resX (vX M) a.toNat b.toNat i ++ resY (vX M) a.toNat b.toNat i j).length ∧ M1 0 39 = (resX (vX M) a.toNat b.toNat i ++ resY (vX M) a.toNat b.toNat i j).headD (-1) ∧ m = (3 - i) * 10 + (8 - j)
set_option maxHeartbeats 4000000 in
set_option maxRecDepth 100000 in
theorem in0_asksRests {rs : List (Nat × Nat)} {a b : Int} {M : Mm} {Q : Option AV → Mm → Prop} (hM : okM (sh8 rs) M) (h_a : i32 a) (h_b : i32 b) (hP : P0_asksRests rs a b M) (hQ : ∀ (v : Int) (M1 : Mm), R0_asksRests rs a b M v M1 → Q (some (ai v)) M1) (I_17 : List AV → Mm → Prop) (hI_17 : ∀ (m_ : Nat) (y_a_ : Int) (y_b_ : Int) (y_x : Int) (M2 : Mm), J0_asksRests_17 rs a b M m_ y_a_ y_b_ y_x M2 → I_17 [ar 0, ai y_a_, ai y_b_, ai y_x] M2) (I_31 : List AV → Mm → Prop) (hI_31 : ∀ (m_ : Nat) (y_a_ : Int) (y_b_ : Int) (y_x : Int) (y_y : Int) (M2 : Mm), J0_asksRests_31 rs a b M m_ y_a_ y_b_ y_x y_y M2 → I_31 [ar 0, ai y_a_, ai y_b_, ai y_x, ai y_y] M2) (I_124 : List AV → Mm → Prop) (hI_124 : ∀ (m_ : Nat) (y_x : Int) (M2 : Mm), J0_asksRests_124 rs a b M m_ y_x M2 → I_124 [ar 0, ai y_x] M2) (I_138 : List AV → Mm → Prop) (hI_138 : ∀ (m_ : Nat) (y_x : Int) (y_y : Int) (M2 : Mm), J0_asksRests_138 rs a b M m_ y_x y_y M2 → I_138 [ar 0, ai y_x, ai y_y] M2) : wp (tb0 (csL (cs0_asksRests rs))) (sh8 rs) 5 2 cX0_asksRests [(17, [0, 1, 2, 3], I_17), (31, [0, 1, 2, 3, 4], I_31), (124, [0, 3], I_124), (138, [0, 3, 4], I_138)] Q 400 0 [(0, ar 0), (1, ai a), (2, ai b)] [] M := by
  obtain ⟨hY, hB⟩ := id hP
  have h4 : 0 ≤ M 1 5 ∧ M 1 5 ≤ 7 := (okY_n hY).2.1
  have h3 : 0 ≤ M 1 4 ∧ M 1 4 ≤ 3 := (okY_n hY).1
  simp only [e_wp dX0_asksRests_0 rfl, e_wp dX0_asksRests_1 rfl, e_wp dX0_asksRests_2 rfl, e_wp dX0_asksRests_3 rfl, e_wp dX0_asksRests_6 rfl, e_wp dX0_asksRests_9 rfl, e_wp dX0_asksRests_10 rfl, e_wp dX0_asksRests_11 rfl, e_wp dX0_asksRests_12 rfl, e_wp dX0_asksRests_15 rfl, e_wp dX0_asksRests_16 rfl, e_wp dX0_asksRests_17 rfl, e_wp dX0_asksRests_18 rfl, e_wp dX0_asksRests_19 rfl, e_wp dX0_asksRests_22 rfl, e_wp dX0_asksRests_25 rfl, e_wp dX0_asksRests_28 rfl, e_wp dX0_asksRests_29 rfl, e_wp dX0_asksRests_31 rfl, e_wp dX0_asksRests_33 rfl, e_wp dX0_asksRests_34 rfl, e_wp dX0_asksRests_37 rfl, e_wp dX0_asksRests_40 rfl, e_wp dX0_asksRests_43 rfl, e_wp dX0_asksRests_44 rfl, e_wp dX0_asksRests_47 rfl, e_wp dX0_asksRests_48 rfl, e_wp dX0_asksRests_49 rfl, e_wp dX0_asksRests_50 rfl, e_wp dX0_asksRests_51 rfl, e_wp dX0_asksRests_54 rfl, e_wp dX0_asksRests_55 rfl, e_wp dX0_asksRests_57 rfl, e_wp dX0_asksRests_58 rfl, e_wp dX0_asksRests_59 rfl, e_wp dX0_asksRests_62 rfl, e_wp dX0_asksRests_63 rfl, e_wp dX0_asksRests_66 rfl, e_wp dX0_asksRests_67 rfl, e_wp dX0_asksRests_68 rfl, e_wp dX0_asksRests_69 rfl, e_wp dX0_asksRests_70 rfl, e_wp dX0_asksRests_72 rfl, e_wp dX0_asksRests_73 rfl, e_wp dX0_asksRests_74 rfl, e_wp dX0_asksRests_75 rfl, e_wp dX0_asksRests_76 rfl, e_wp dX0_asksRests_79 rfl, e_wp dX0_asksRests_80 rfl, e_wp dX0_asksRests_81 rfl, e_wp dX0_asksRests_84 rfl, e_wp dX0_asksRests_85 rfl, e_wp dX0_asksRests_86 rfl, e_wp dX0_asksRests_87 rfl, e_wp dX0_asksRests_88 rfl, e_wp dX0_asksRests_90 rfl, e_wp dX0_asksRests_91 rfl, e_wp dX0_asksRests_92 rfl, e_wp dX0_asksRests_93 rfl, e_wp dX0_asksRests_94 rfl, e_wp dX0_asksRests_95 rfl, e_wp dX0_asksRests_96 rfl, e_wp dX0_asksRests_99 rfl, e_wp dX0_asksRests_100 rfl, e_wp dX0_asksRests_103 rfl, e_wp dX0_asksRests_106 rfl, e_wp dX0_asksRests_109 rfl, e_wp dX0_asksRests_112 rfl, e_wp dX0_asksRests_113 rfl, e_wp dX0_asksRests_114 rfl, e_wp dX0_asksRests_117 rfl, e_wp dX0_asksRests_118 rfl, e_wp dX0_asksRests_119 rfl, e_wp dX0_asksRests_122 rfl, e_wp dX0_asksRests_123 rfl, e_wp dX0_asksRests_124 rfl, e_wp dX0_asksRests_125 rfl, e_wp dX0_asksRests_126 rfl, e_wp dX0_asksRests_129 rfl, e_wp dX0_asksRests_132 rfl, e_wp dX0_asksRests_135 rfl, e_wp dX0_asksRests_136 rfl, e_wp dX0_asksRests_138 rfl, e_wp dX0_asksRests_140 rfl, e_wp dX0_asksRests_141 rfl, e_wp dX0_asksRests_144 rfl, e_wp dX0_asksRests_147 rfl, e_wp dX0_asksRests_150 rfl, e_wp dX0_asksRests_151 rfl, e_wp dX0_asksRests_152 rfl, e_wp dX0_asksRests_154 rfl, e_wp dX0_asksRests_157 rfl, e_wp dX0_asksRests_160 rfl, e_wp dX0_asksRests_163 rfl, e_wp dX0_asksRests_164 rfl, e_wp dX0_asksRests_165 rfl, e_wp dX0_asksRests_168 rfl, e_wp dX0_asksRests_171 rfl, e_wp dX0_asksRests_173 rfl, e_wp dX0_asksRests_174 rfl, e_wp dX0_asksRests_175 rfl, e_wp dX0_asksRests_177 rfl, e_wp dX0_asksRests_178 rfl, e_wp dX0_asksRests_181 rfl, e_wp dX0_asksRests_182 rfl, e_wp dX0_asksRests_185 rfl, e_wp dX0_asksRests_188 rfl, e_wp dX0_asksRests_189 rfl, e_wp dX0_asksRests_190 rfl, e_wp dX0_asksRests_193 rfl, e_wp dX0_asksRests_194 rfl, e_wp dX0_asksRests_195 rfl, e_wp dX0_asksRests_198 rfl, e_wp dX0_asksRests_201 rfl, e_wp dX0_asksRests_204 rfl, e_wp dX0_asksRests_207 rfl, e_wp dX0_asksRests_210 rfl, e_wp dX0_asksRests_211 rfl, c0_areTwo, P0_areTwo, V0_areTwo, cs0_asksRests, c0_asItIs, g0_10, g0_153, g0_59, c0_lays, g0_104, c0_losesOf, P0_losesOf, V0_losesOf, p0_408, p0_411, c0_isRest, P0_isRest, V0_isRest, g0_408, g0_411, a8_13, w8_13, a8_14, w8_14, a8_15, w8_15, a8_16, w8_16, a8_17, w8_17, a8_18, w8_18, a8_19, w8_19, a8_20, w8_20, a8_21, w8_21, a8_22, w8_22, a8_23, w8_23, a8_24, w8_24, a8_25, w8_25, a8_26, w8_26, a8_27, w8_27, a8_28, w8_28, a8_29, w8_29, a8_30, w8_30, a8_31, w8_31, a8_32, w8_32, a8_33, w8_33, a8_34, w8_34, a8_35, w8_35, a8_36, w8_36, a8_37, w8_37, a8_38, w8_38, a8_39, w8_39, a8_40, w8_40, a8_12, w8_12, a8_6, a8_7, e_iconst, e_bipush, e_sipush, e_lconst_0, e_lconst_1, e_iload, e_iload_0, e_iload_1, e_iload_2, e_iload_3, e_lload, e_lload_0, e_lload_1, e_lload_2, e_lload_3, e_aload, e_aload_0, e_aload_1, e_aload_2, e_aload_3, e_istore, e_istore_0, e_istore_1, e_istore_2, e_istore_3, e_astore, e_astore_0, e_astore_1, e_astore_2, e_astore_3, e_lstore, e_lstore_0, e_lstore_1, e_lstore_2, e_lstore_3, e_iinc, e_iadd, e_isub, e_imul, e_ladd, e_lsub, e_lmul, e_idiv, e_irem, e_ldiv, e_lrem, e_ineg, e_lneg, e_iand, e_ior, e_ixor, e_ishl, e_ishr, e_iushr, e_lcmp, e_i2l, e_l2i, e_i2b, e_i2s, e_dup_i, e_dup_r, e_pop_i, e_pop_r, e_dup2_l, e_dup2_ir, e_dup2_ii, e_ifeq, e_ifne, e_iflt, e_ifge, e_ifgt, e_ifle, e_iceq, e_icne, e_iclt, e_icge, e_icgt, e_icle, e_goto, e_switch, e_invokevirtual, e_invokestatic, e_invokespecial, e_ret0, e_ret1, e_ret2, e_ret3, ldI_s, ldL_s, ldR_s, clO_s, ctP_s, ctS_s, mgo_0, mgo_s, pjc_s, pj_0, pj_s, lk_s, rm1_0, rm1_i, rm1_r, rm1_l, rm2_0, rm2_i, rm2_r, rm2_l, csL_s, lc_lt, lc_ge, lc_gt, lc_le, lc_eq, b01_0, b01_1, b01_01, b01_n, up2_o, up2_s, up2_u, ne_eq, reduceCtorEq, Nat.reduceAdd, Nat.reduceEqDiff, Nat.reduceLT, Nat.reduceLeDiff, Int.reduceLE, Int.reduceLT, Int.reduceAdd, Int.reduceNeg, Int.reduceMul, Int.reduceSub, Int.reduceEq, Int.reduceToNat, Int.reduceNatCast, Int.cast_ofNat_Int, ↓reduceIte, and_self, List.drop_succ_cons, List.drop_zero, List.take_succ_cons, List.take_zero, List.length_cons, List.length_nil, List.reverse_cons, List.reverse_nil, List.nil_append, List.cons_append, Option.toList, true_and, and_true, or_false, false_or, or_true, true_or, forall_const, Classical.not_not, not_false_eq_true, not_true_eq_false, false_implies, true_implies, implies_true, imp_self]
  refine ⟨h4, fun q => ⟨⟨hY, hB⟩, fun M1 hR => ?_⟩, fun q => hQ _ _ ⟨keepX_rf, (b01_f q).symm, fun z => absurd z (by decide)⟩⟩
  obtain ⟨r1, r2, r3⟩ := hR
  refine hI_17 (1000 + (3 - 0) * 10 + 9) _ _ _ _ ⟨rfl, rfl, q, keepX_tell r1 r2, fun p q2 => ?_, 0, rfl, h3.1, fun x y hx => by omega, rfl⟩
  have q1 : a < M 1 5 := q.1.2
  have q3 : b < M 1 5 := q.2.1.2
  have q4 := q.1.1
  have q5 := q.2.1.1
  rw [nC_u1 (by decide) (by show ((b.toNat : Nat) : Int) < M 1 5; omega), nC_u1 (by decide) (by show ((a.toNat : Nat) : Int) < M 1 5; omega), r3]
  rfl
set_option maxHeartbeats 4000000 in
set_option maxRecDepth 100000 in
theorem at0_asksRests_17 {rs : List (Nat × Nat)} {a b : Int} {M : Mm} {Q : Option AV → Mm → Prop} (hM : okM (sh8 rs) M) (h_a : i32 a) (h_b : i32 b) (hP : P0_asksRests rs a b M) (hQ : ∀ (v : Int) (M1 : Mm), R0_asksRests rs a b M v M1 → Q (some (ai v)) M1) {m : Nat} {a_ b_ x : Int} {M1 : Mm} (hM1 : okM (sh8 rs) M1) (h_a_ : i32 a_) (h_b_ : i32 b_) (h_x : i32 x) (hJ : J0_asksRests_17 rs a b M m a_ b_ x M1) (I_17 : List AV → Mm → Prop) (hI_17 : ∀ (m_ : Nat) (y_a_ : Int) (y_b_ : Int) (y_x : Int) (M2 : Mm), m_ < m → J0_asksRests_17 rs a b M m_ y_a_ y_b_ y_x M2 → I_17 [ar 0, ai y_a_, ai y_b_, ai y_x] M2) (I_31 : List AV → Mm → Prop) (hI_31 : ∀ (m_ : Nat) (y_a_ : Int) (y_b_ : Int) (y_x : Int) (y_y : Int) (M2 : Mm), m_ < m → J0_asksRests_31 rs a b M m_ y_a_ y_b_ y_x y_y M2 → I_31 [ar 0, ai y_a_, ai y_b_, ai y_x, ai y_y] M2) (I_124 : List AV → Mm → Prop) (hI_124 : ∀ (m_ : Nat) (y_x : Int) (M2 : Mm), m_ < m → J0_asksRests_124 rs a b M m_ y_x M2 → I_124 [ar 0, ai y_x] M2) (I_138 : List AV → Mm → Prop) (hI_138 : ∀ (m_ : Nat) (y_x : Int) (y_y : Int) (M2 : Mm), m_ < m → J0_asksRests_138 rs a b M m_ y_x y_y M2 → I_138 [ar 0, ai y_x, ai y_y] M2) : wp (tb0 (csL (cs0_asksRests rs))) (sh8 rs) 5 2 cX0_asksRests [(17, [0, 1, 2, 3], I_17), (31, [0, 1, 2, 3, 4], I_31), (124, [0, 3], I_124), (138, [0, 3, 4], I_138)] Q 400 17 [(0, ar 0), (1, ai a_), (2, ai b_), (3, ai x)] [] M1 := by
  obtain ⟨rfl, rfl, hq, hk, hC, i, rfl, hi, hL, rfl⟩ := hJ
  obtain ⟨hY, hB⟩ := id hP
  have h3 : 0 ≤ M 1 4 ∧ M 1 4 ≤ 3 := (okY_n hY).1
  have e1 := keepX_1 hk
  simp only [e_wp dX0_asksRests_0 rfl, e_wp dX0_asksRests_1 rfl, e_wp dX0_asksRests_2 rfl, e_wp dX0_asksRests_3 rfl, e_wp dX0_asksRests_6 rfl, e_wp dX0_asksRests_9 rfl, e_wp dX0_asksRests_10 rfl, e_wp dX0_asksRests_11 rfl, e_wp dX0_asksRests_12 rfl, e_wp dX0_asksRests_15 rfl, e_wp dX0_asksRests_16 rfl, e_wp dX0_asksRests_17 rfl, e_wp dX0_asksRests_18 rfl, e_wp dX0_asksRests_19 rfl, e_wp dX0_asksRests_22 rfl, e_wp dX0_asksRests_25 rfl, e_wp dX0_asksRests_28 rfl, e_wp dX0_asksRests_29 rfl, e_wp dX0_asksRests_31 rfl, e_wp dX0_asksRests_33 rfl, e_wp dX0_asksRests_34 rfl, e_wp dX0_asksRests_37 rfl, e_wp dX0_asksRests_40 rfl, e_wp dX0_asksRests_43 rfl, e_wp dX0_asksRests_44 rfl, e_wp dX0_asksRests_47 rfl, e_wp dX0_asksRests_48 rfl, e_wp dX0_asksRests_49 rfl, e_wp dX0_asksRests_50 rfl, e_wp dX0_asksRests_51 rfl, e_wp dX0_asksRests_54 rfl, e_wp dX0_asksRests_55 rfl, e_wp dX0_asksRests_57 rfl, e_wp dX0_asksRests_58 rfl, e_wp dX0_asksRests_59 rfl, e_wp dX0_asksRests_62 rfl, e_wp dX0_asksRests_63 rfl, e_wp dX0_asksRests_66 rfl, e_wp dX0_asksRests_67 rfl, e_wp dX0_asksRests_68 rfl, e_wp dX0_asksRests_69 rfl, e_wp dX0_asksRests_70 rfl, e_wp dX0_asksRests_72 rfl, e_wp dX0_asksRests_73 rfl, e_wp dX0_asksRests_74 rfl, e_wp dX0_asksRests_75 rfl, e_wp dX0_asksRests_76 rfl, e_wp dX0_asksRests_79 rfl, e_wp dX0_asksRests_80 rfl, e_wp dX0_asksRests_81 rfl, e_wp dX0_asksRests_84 rfl, e_wp dX0_asksRests_85 rfl, e_wp dX0_asksRests_86 rfl, e_wp dX0_asksRests_87 rfl, e_wp dX0_asksRests_88 rfl, e_wp dX0_asksRests_90 rfl, e_wp dX0_asksRests_91 rfl, e_wp dX0_asksRests_92 rfl, e_wp dX0_asksRests_93 rfl, e_wp dX0_asksRests_94 rfl, e_wp dX0_asksRests_95 rfl, e_wp dX0_asksRests_96 rfl, e_wp dX0_asksRests_99 rfl, e_wp dX0_asksRests_100 rfl, e_wp dX0_asksRests_103 rfl, e_wp dX0_asksRests_106 rfl, e_wp dX0_asksRests_109 rfl, e_wp dX0_asksRests_112 rfl, e_wp dX0_asksRests_113 rfl, e_wp dX0_asksRests_114 rfl, e_wp dX0_asksRests_117 rfl, e_wp dX0_asksRests_118 rfl, e_wp dX0_asksRests_119 rfl, e_wp dX0_asksRests_122 rfl, e_wp dX0_asksRests_123 rfl, e_wp dX0_asksRests_124 rfl, e_wp dX0_asksRests_125 rfl, e_wp dX0_asksRests_126 rfl, e_wp dX0_asksRests_129 rfl, e_wp dX0_asksRests_132 rfl, e_wp dX0_asksRests_135 rfl, e_wp dX0_asksRests_136 rfl, e_wp dX0_asksRests_138 rfl, e_wp dX0_asksRests_140 rfl, e_wp dX0_asksRests_141 rfl, e_wp dX0_asksRests_144 rfl, e_wp dX0_asksRests_147 rfl, e_wp dX0_asksRests_150 rfl, e_wp dX0_asksRests_151 rfl, e_wp dX0_asksRests_152 rfl, e_wp dX0_asksRests_154 rfl, e_wp dX0_asksRests_157 rfl, e_wp dX0_asksRests_160 rfl, e_wp dX0_asksRests_163 rfl, e_wp dX0_asksRests_164 rfl, e_wp dX0_asksRests_165 rfl, e_wp dX0_asksRests_168 rfl, e_wp dX0_asksRests_171 rfl, e_wp dX0_asksRests_173 rfl, e_wp dX0_asksRests_174 rfl, e_wp dX0_asksRests_175 rfl, e_wp dX0_asksRests_177 rfl, e_wp dX0_asksRests_178 rfl, e_wp dX0_asksRests_181 rfl, e_wp dX0_asksRests_182 rfl, e_wp dX0_asksRests_185 rfl, e_wp dX0_asksRests_188 rfl, e_wp dX0_asksRests_189 rfl, e_wp dX0_asksRests_190 rfl, e_wp dX0_asksRests_193 rfl, e_wp dX0_asksRests_194 rfl, e_wp dX0_asksRests_195 rfl, e_wp dX0_asksRests_198 rfl, e_wp dX0_asksRests_201 rfl, e_wp dX0_asksRests_204 rfl, e_wp dX0_asksRests_207 rfl, e_wp dX0_asksRests_210 rfl, e_wp dX0_asksRests_211 rfl, c0_areTwo, P0_areTwo, V0_areTwo, cs0_asksRests, c0_asItIs, g0_10, g0_153, g0_59, c0_lays, g0_104, c0_losesOf, P0_losesOf, V0_losesOf, p0_408, p0_411, c0_isRest, P0_isRest, V0_isRest, g0_408, g0_411, a8_13, w8_13, a8_14, w8_14, a8_15, w8_15, a8_16, w8_16, a8_17, w8_17, a8_18, w8_18, a8_19, w8_19, a8_20, w8_20, a8_21, w8_21, a8_22, w8_22, a8_23, w8_23, a8_24, w8_24, a8_25, w8_25, a8_26, w8_26, a8_27, w8_27, a8_28, w8_28, a8_29, w8_29, a8_30, w8_30, a8_31, w8_31, a8_32, w8_32, a8_33, w8_33, a8_34, w8_34, a8_35, w8_35, a8_36, w8_36, a8_37, w8_37, a8_38, w8_38, a8_39, w8_39, a8_40, w8_40, a8_12, w8_12, a8_6, a8_7, e_iconst, e_bipush, e_sipush, e_lconst_0, e_lconst_1, e_iload, e_iload_0, e_iload_1, e_iload_2, e_iload_3, e_lload, e_lload_0, e_lload_1, e_lload_2, e_lload_3, e_aload, e_aload_0, e_aload_1, e_aload_2, e_aload_3, e_istore, e_istore_0, e_istore_1, e_istore_2, e_istore_3, e_astore, e_astore_0, e_astore_1, e_astore_2, e_astore_3, e_lstore, e_lstore_0, e_lstore_1, e_lstore_2, e_lstore_3, e_iinc, e_iadd, e_isub, e_imul, e_ladd, e_lsub, e_lmul, e_idiv, e_irem, e_ldiv, e_lrem, e_ineg, e_lneg, e_iand, e_ior, e_ixor, e_ishl, e_ishr, e_iushr, e_lcmp, e_i2l, e_l2i, e_i2b, e_i2s, e_dup_i, e_dup_r, e_pop_i, e_pop_r, e_dup2_l, e_dup2_ir, e_dup2_ii, e_ifeq, e_ifne, e_iflt, e_ifge, e_ifgt, e_ifle, e_iceq, e_icne, e_iclt, e_icge, e_icgt, e_icle, e_goto, e_switch, e_invokevirtual, e_invokestatic, e_invokespecial, e_ret0, e_ret1, e_ret2, e_ret3, ldI_s, ldL_s, ldR_s, clO_s, ctP_s, ctS_s, mgo_0, mgo_s, pjc_s, pj_0, pj_s, lk_s, rm1_0, rm1_i, rm1_r, rm1_l, rm2_0, rm2_i, rm2_r, rm2_l, csL_s, lc_lt, lc_ge, lc_gt, lc_le, lc_eq, b01_0, b01_1, b01_01, b01_n, up2_o, up2_s, up2_u, ne_eq, reduceCtorEq, Nat.reduceAdd, Nat.reduceEqDiff, Nat.reduceLT, Nat.reduceLeDiff, Int.reduceLE, Int.reduceLT, Int.reduceAdd, Int.reduceNeg, Int.reduceMul, Int.reduceSub, Int.reduceEq, Int.reduceToNat, Int.reduceNatCast, Int.cast_ofNat_Int, ↓reduceIte, and_self, List.drop_succ_cons, List.drop_zero, List.take_succ_cons, List.take_zero, List.length_cons, List.length_nil, List.reverse_cons, List.reverse_nil, List.nil_append, List.cons_append, Option.toList, true_and, and_true, or_false, false_or, or_true, true_or, forall_const, Classical.not_not, not_false_eq_true, not_true_eq_false, false_implies, true_implies, implies_true, imp_self, e1]
  refine ⟨fun q => ?_, fun q => ?_⟩
  · refine hI_124 ((3 - 0) * 10 + 9) _ _ (by omega) ⟨hq, keepX_u (keepX_u hk (by decide) (by decide)) (by decide) (by decide), fun x y hx hy => ?_, 0, rfl, h3.1, ?_, up2_s, rfl⟩
    · refine rest_eq (by omega) (by omega) (fun i2 j2 hi2 hj2 => ?_) (fun i2 j2 hi2 hj2 => ?_)
      · rw [up2_o (by decide), up2_o (by decide)]
        exact (hL i2 j2 (by omega) (by omega)).1
      · rw [up2_o (by decide), up2_o (by decide)]
        exact (hL i2 j2 (by omega) (by omega)).2
    · rw [up2_n (by decide), up2_s]; rfl
  · exact hI_31 (1000 + (3 - i) * 10 + (8 - 0)) _ _ _ _ _ (by omega) ⟨rfl, rfl, hq, hk, hC, i, 0, rfl, rfl, q, h3.1, fun x y hx hy => hL x y (by omega) hy, rfl⟩
set_option maxHeartbeats 4000000 in
set_option maxRecDepth 100000 in
theorem at0_asksRests_31 {rs : List (Nat × Nat)} {a b : Int} {M : Mm} {Q : Option AV → Mm → Prop} (hM : okM (sh8 rs) M) (h_a : i32 a) (h_b : i32 b) (hP : P0_asksRests rs a b M) (hQ : ∀ (v : Int) (M1 : Mm), R0_asksRests rs a b M v M1 → Q (some (ai v)) M1) {m : Nat} {a_ b_ x y : Int} {M1 : Mm} (hM1 : okM (sh8 rs) M1) (h_a_ : i32 a_) (h_b_ : i32 b_) (h_x : i32 x) (h_y : i32 y) (hJ : J0_asksRests_31 rs a b M m a_ b_ x y M1) (I_17 : List AV → Mm → Prop) (hI_17 : ∀ (m_ : Nat) (y_a_ : Int) (y_b_ : Int) (y_x : Int) (M2 : Mm), m_ < m → J0_asksRests_17 rs a b M m_ y_a_ y_b_ y_x M2 → I_17 [ar 0, ai y_a_, ai y_b_, ai y_x] M2) (I_31 : List AV → Mm → Prop) (hI_31 : ∀ (m_ : Nat) (y_a_ : Int) (y_b_ : Int) (y_x : Int) (y_y : Int) (M2 : Mm), m_ < m → J0_asksRests_31 rs a b M m_ y_a_ y_b_ y_x y_y M2 → I_31 [ar 0, ai y_a_, ai y_b_, ai y_x, ai y_y] M2) (I_124 : List AV → Mm → Prop) (hI_124 : ∀ (m_ : Nat) (y_x : Int) (M2 : Mm), m_ < m → J0_asksRests_124 rs a b M m_ y_x M2 → I_124 [ar 0, ai y_x] M2) (I_138 : List AV → Mm → Prop) (hI_138 : ∀ (m_ : Nat) (y_x : Int) (y_y : Int) (M2 : Mm), m_ < m → J0_asksRests_138 rs a b M m_ y_x y_y M2 → I_138 [ar 0, ai y_x, ai y_y] M2) : wp (tb0 (csL (cs0_asksRests rs))) (sh8 rs) 5 2 cX0_asksRests [(17, [0, 1, 2, 3], I_17), (31, [0, 1, 2, 3, 4], I_31), (124, [0, 3], I_124), (138, [0, 3, 4], I_138)] Q 400 31 [(0, ar 0), (1, ai a_), (2, ai b_), (3, ai x), (4, ai y)] [] M1 := by
  obtain ⟨rfl, rfl, hq, hk, hC, i, j, rfl, rfl, hi, hj, hL, rfl⟩ := hJ
  obtain ⟨hY, hB⟩ := id hP
  have h3 : 0 ≤ M 1 4 ∧ M 1 4 ≤ 3 := (okY_n hY).1
  have h4 : 0 ≤ M 1 5 ∧ M 1 5 ≤ 7 := (okY_n hY).2.1
  have ha4 : a < M 1 5 := hq.1.2
  have hb4 : b < M 1 5 := hq.2.1.2
  have ha0 := hq.1.1
  have hb0 := hq.2.1.1
  have e1 := keepX_1 hk
  have i1 : ((2 : Int) * (3 * i + j)).toNat = 2 * (3 * i + j) := by omega
  have i2 : ((2 : Int) * (3 * i + j) + 1).toNat = 2 * (3 * i + j) + 1 := by omega
  simp only [e_wp dX0_asksRests_0 rfl, e_wp dX0_asksRests_1 rfl, e_wp dX0_asksRests_2 rfl, e_wp dX0_asksRests_3 rfl, e_wp dX0_asksRests_6 rfl, e_wp dX0_asksRests_9 rfl, e_wp dX0_asksRests_10 rfl, e_wp dX0_asksRests_11 rfl, e_wp dX0_asksRests_12 rfl, e_wp dX0_asksRests_15 rfl, e_wp dX0_asksRests_16 rfl, e_wp dX0_asksRests_17 rfl, e_wp dX0_asksRests_18 rfl, e_wp dX0_asksRests_19 rfl, e_wp dX0_asksRests_22 rfl, e_wp dX0_asksRests_25 rfl, e_wp dX0_asksRests_28 rfl, e_wp dX0_asksRests_29 rfl, e_wp dX0_asksRests_31 rfl, e_wp dX0_asksRests_33 rfl, e_wp dX0_asksRests_34 rfl, e_wp dX0_asksRests_37 rfl, e_wp dX0_asksRests_40 rfl, e_wp dX0_asksRests_43 rfl, e_wp dX0_asksRests_44 rfl, e_wp dX0_asksRests_47 rfl, e_wp dX0_asksRests_48 rfl, e_wp dX0_asksRests_49 rfl, e_wp dX0_asksRests_50 rfl, e_wp dX0_asksRests_51 rfl, e_wp dX0_asksRests_54 rfl, e_wp dX0_asksRests_55 rfl, e_wp dX0_asksRests_57 rfl, e_wp dX0_asksRests_58 rfl, e_wp dX0_asksRests_59 rfl, e_wp dX0_asksRests_62 rfl, e_wp dX0_asksRests_63 rfl, e_wp dX0_asksRests_66 rfl, e_wp dX0_asksRests_67 rfl, e_wp dX0_asksRests_68 rfl, e_wp dX0_asksRests_69 rfl, e_wp dX0_asksRests_70 rfl, e_wp dX0_asksRests_72 rfl, e_wp dX0_asksRests_73 rfl, e_wp dX0_asksRests_74 rfl, e_wp dX0_asksRests_75 rfl, e_wp dX0_asksRests_76 rfl, e_wp dX0_asksRests_79 rfl, e_wp dX0_asksRests_80 rfl, e_wp dX0_asksRests_81 rfl, e_wp dX0_asksRests_84 rfl, e_wp dX0_asksRests_85 rfl, e_wp dX0_asksRests_86 rfl, e_wp dX0_asksRests_87 rfl, e_wp dX0_asksRests_88 rfl, e_wp dX0_asksRests_90 rfl, e_wp dX0_asksRests_91 rfl, e_wp dX0_asksRests_92 rfl, e_wp dX0_asksRests_93 rfl, e_wp dX0_asksRests_94 rfl, e_wp dX0_asksRests_95 rfl, e_wp dX0_asksRests_96 rfl, e_wp dX0_asksRests_99 rfl, e_wp dX0_asksRests_100 rfl, e_wp dX0_asksRests_103 rfl, e_wp dX0_asksRests_106 rfl, e_wp dX0_asksRests_109 rfl, e_wp dX0_asksRests_112 rfl, e_wp dX0_asksRests_113 rfl, e_wp dX0_asksRests_114 rfl, e_wp dX0_asksRests_117 rfl, e_wp dX0_asksRests_118 rfl, e_wp dX0_asksRests_119 rfl, e_wp dX0_asksRests_122 rfl, e_wp dX0_asksRests_123 rfl, e_wp dX0_asksRests_124 rfl, e_wp dX0_asksRests_125 rfl, e_wp dX0_asksRests_126 rfl, e_wp dX0_asksRests_129 rfl, e_wp dX0_asksRests_132 rfl, e_wp dX0_asksRests_135 rfl, e_wp dX0_asksRests_136 rfl, e_wp dX0_asksRests_138 rfl, e_wp dX0_asksRests_140 rfl, e_wp dX0_asksRests_141 rfl, e_wp dX0_asksRests_144 rfl, e_wp dX0_asksRests_147 rfl, e_wp dX0_asksRests_150 rfl, e_wp dX0_asksRests_151 rfl, e_wp dX0_asksRests_152 rfl, e_wp dX0_asksRests_154 rfl, e_wp dX0_asksRests_157 rfl, e_wp dX0_asksRests_160 rfl, e_wp dX0_asksRests_163 rfl, e_wp dX0_asksRests_164 rfl, e_wp dX0_asksRests_165 rfl, e_wp dX0_asksRests_168 rfl, e_wp dX0_asksRests_171 rfl, e_wp dX0_asksRests_173 rfl, e_wp dX0_asksRests_174 rfl, e_wp dX0_asksRests_175 rfl, e_wp dX0_asksRests_177 rfl, e_wp dX0_asksRests_178 rfl, e_wp dX0_asksRests_181 rfl, e_wp dX0_asksRests_182 rfl, e_wp dX0_asksRests_185 rfl, e_wp dX0_asksRests_188 rfl, e_wp dX0_asksRests_189 rfl, e_wp dX0_asksRests_190 rfl, e_wp dX0_asksRests_193 rfl, e_wp dX0_asksRests_194 rfl, e_wp dX0_asksRests_195 rfl, e_wp dX0_asksRests_198 rfl, e_wp dX0_asksRests_201 rfl, e_wp dX0_asksRests_204 rfl, e_wp dX0_asksRests_207 rfl, e_wp dX0_asksRests_210 rfl, e_wp dX0_asksRests_211 rfl, c0_areTwo, P0_areTwo, V0_areTwo, cs0_asksRests, c0_asItIs, g0_10, g0_153, g0_59, c0_lays, g0_104, c0_losesOf, P0_losesOf, V0_losesOf, p0_408, p0_411, c0_isRest, P0_isRest, V0_isRest, g0_408, g0_411, a8_13, w8_13, a8_14, w8_14, a8_15, w8_15, a8_16, w8_16, a8_17, w8_17, a8_18, w8_18, a8_19, w8_19, a8_20, w8_20, a8_21, w8_21, a8_22, w8_22, a8_23, w8_23, a8_24, w8_24, a8_25, w8_25, a8_26, w8_26, a8_27, w8_27, a8_28, w8_28, a8_29, w8_29, a8_30, w8_30, a8_31, w8_31, a8_32, w8_32, a8_33, w8_33, a8_34, w8_34, a8_35, w8_35, a8_36, w8_36, a8_37, w8_37, a8_38, w8_38, a8_39, w8_39, a8_40, w8_40, a8_12, w8_12, a8_6, a8_7, e_iconst, e_bipush, e_sipush, e_lconst_0, e_lconst_1, e_iload, e_iload_0, e_iload_1, e_iload_2, e_iload_3, e_lload, e_lload_0, e_lload_1, e_lload_2, e_lload_3, e_aload, e_aload_0, e_aload_1, e_aload_2, e_aload_3, e_istore, e_istore_0, e_istore_1, e_istore_2, e_istore_3, e_astore, e_astore_0, e_astore_1, e_astore_2, e_astore_3, e_lstore, e_lstore_0, e_lstore_1, e_lstore_2, e_lstore_3, e_iinc, e_iadd, e_isub, e_imul, e_ladd, e_lsub, e_lmul, e_idiv, e_irem, e_ldiv, e_lrem, e_ineg, e_lneg, e_iand, e_ior, e_ixor, e_ishl, e_ishr, e_iushr, e_lcmp, e_i2l, e_l2i, e_i2b, e_i2s, e_dup_i, e_dup_r, e_pop_i, e_pop_r, e_dup2_l, e_dup2_ir, e_dup2_ii, e_ifeq, e_ifne, e_iflt, e_ifge, e_ifgt, e_ifle, e_iceq, e_icne, e_iclt, e_icge, e_icgt, e_icle, e_goto, e_switch, e_invokevirtual, e_invokestatic, e_invokespecial, e_ret0, e_ret1, e_ret2, e_ret3, ldI_s, ldL_s, ldR_s, clO_s, ctP_s, ctS_s, mgo_0, mgo_s, pjc_s, pj_0, pj_s, lk_s, rm1_0, rm1_i, rm1_r, rm1_l, rm2_0, rm2_i, rm2_r, rm2_l, csL_s, lc_lt, lc_ge, lc_gt, lc_le, lc_eq, b01_0, b01_1, b01_01, b01_n, up2_o, up2_s, up2_u, ne_eq, reduceCtorEq, Nat.reduceAdd, Nat.reduceEqDiff, Nat.reduceLT, Nat.reduceLeDiff, Int.reduceLE, Int.reduceLT, Int.reduceAdd, Int.reduceNeg, Int.reduceMul, Int.reduceSub, Int.reduceEq, Int.reduceToNat, Int.reduceNatCast, Int.cast_ofNat_Int, ↓reduceIte, and_self, List.drop_succ_cons, List.drop_zero, List.take_succ_cons, List.take_zero, List.length_cons, List.length_nil, List.reverse_cons, List.reverse_nil, List.nil_append, List.cons_append, Option.toList, true_and, and_true, or_false, false_or, or_true, true_or, forall_const, Classical.not_not, not_false_eq_true, not_true_eq_false, false_implies, true_implies, implies_true, imp_self, e1, i1, i2]
  refine ⟨fun q => ⟨by omega, hI_17 (1000 + (3 - (i + 1)) * 10 + 9) _ _ _ _ (by omega) ⟨rfl, rfl, hq, hk, hC, i + 1, by omega, by omega, fun x y hx hy => hL x y (by omega) hy, rfl⟩⟩, fun q => ?_⟩
  have k3 : keepX M (up2 (up2 M1 17 a.toNat i) 17 b.toNat j) := keepX_o (keepX_o hk (by decide) (by decide)) (by decide) (by decide)
  have k4 : nC (vX M) (cX (up2 (up2 M1 17 a.toNat i) 17 b.toNat j)) = gamC (vX M) a.toNat b.toNat i j := by rw [by_cX, by_cX]; exact hC _ _
  have hok : okCf (vX M) (gamC (vX M) a.toNat b.toNat i j) := gam_ok hY ⟨by omega, hi⟩ ⟨by omega, q⟩
  refine ⟨by omega, by omega, lay_pre hP k3 k4 hok, fun M2 hR => ?_⟩
  have e32 : M2 32 = M1 32 := (hR.1 _ (by decide)).trans (by rw [up2_ne (by decide), up2_ne (by decide)])
  obtain ⟨s1, s2, s3, s4⟩ := lay_useX k3 k4 hR
  obtain ⟨la, la1, la2⟩ := loss_x hY hok gam_row s3 (t := a.toNat) (by show ((a.toNat : Nat) : Int) < M 1 5; omega)
  obtain ⟨lb, lb1, lb2⟩ := loss_x hY hok gam_row s3 (t := b.toNat) (by show ((b.toNat : Nat) : Int) < M 1 5; omega)
  rw [la]
  have lb3 : ∀ x, (if up2 M2 32 (2 * (3 * i + j)) x 19 b.toNat = -1 then 9 else up2 M2 32 (2 * (3 * i + j)) x 23 b.toNat) = lossP (vX M) (gamC (vX M) a.toNat b.toNat i j) b.toNat := fun x => by
    rw [up2_o (by decide), up2_o (by decide)]; exact lb
  have fin : ∀ y, y = lossP (vX M) (gamC (vX M) a.toNat b.toNat i j) b.toNat → I_31 [ar 0, ai a, ai b, ai i, ai (j + 1)] (up2 (up2 M2 32 (2 * (3 * i + j)) (lossP (vX M) (gamC (vX M) a.toNat b.toNat i j) a.toNat)) 32 (2 * (3 * i + j) + 1) y) := by
    rintro y rfl
    refine hI_31 (1000 + (3 - i) * 10 + (8 - (j + 1))) _ _ _ _ _ (by omega) ⟨rfl, rfl, hq, keepX_o (keepX_o s1 (by decide) (by decide)) (by decide) (by decide), fun p q2 => ?_, i, j + 1, rfl, by omega, hi, by omega, fun x y hx hy => ?_, rfl⟩
    · rw [cX_u (by decide) (by decide) (by decide) (by decide), cX_u (by decide) (by decide) (by decide) (by decide), s4, by_cX, by_cX, up2_uu]
      exact hC p q2
    · by_cases e : x = i ∧ y = j
      · obtain ⟨rfl, rfl⟩ := e
        rw [up2_n (by omega), up2_s, up2_s]
        exact ⟨rfl, rfl⟩
      · rw [up2_n (by omega), up2_n (by omega), up2_n (by omega), up2_n (by omega), e32]
        exact hL x y (by omega) hy
  rw [lb]
  repeat (refine And.intro (by omega) ?_)
  exact fin _ rfl
set_option maxHeartbeats 4000000 in
set_option maxRecDepth 100000 in
theorem at0_asksRests_124 {rs : List (Nat × Nat)} {a b : Int} {M : Mm} {Q : Option AV → Mm → Prop} (hM : okM (sh8 rs) M) (h_a : i32 a) (h_b : i32 b) (hP : P0_asksRests rs a b M) (hQ : ∀ (v : Int) (M1 : Mm), R0_asksRests rs a b M v M1 → Q (some (ai v)) M1) {m : Nat} {x : Int} {M1 : Mm} (hM1 : okM (sh8 rs) M1) (h_x : i32 x) (hJ : J0_asksRests_124 rs a b M m x M1) (I_17 : List AV → Mm → Prop) (hI_17 : ∀ (m_ : Nat) (y_a_ : Int) (y_b_ : Int) (y_x : Int) (M2 : Mm), m_ < m → J0_asksRests_17 rs a b M m_ y_a_ y_b_ y_x M2 → I_17 [ar 0, ai y_a_, ai y_b_, ai y_x] M2) (I_31 : List AV → Mm → Prop) (hI_31 : ∀ (m_ : Nat) (y_a_ : Int) (y_b_ : Int) (y_x : Int) (y_y : Int) (M2 : Mm), m_ < m → J0_asksRests_31 rs a b M m_ y_a_ y_b_ y_x y_y M2 → I_31 [ar 0, ai y_a_, ai y_b_, ai y_x, ai y_y] M2) (I_124 : List AV → Mm → Prop) (hI_124 : ∀ (m_ : Nat) (y_x : Int) (M2 : Mm), m_ < m → J0_asksRests_124 rs a b M m_ y_x M2 → I_124 [ar 0, ai y_x] M2) (I_138 : List AV → Mm → Prop) (hI_138 : ∀ (m_ : Nat) (y_x : Int) (y_y : Int) (M2 : Mm), m_ < m → J0_asksRests_138 rs a b M m_ y_x y_y M2 → I_138 [ar 0, ai y_x, ai y_y] M2) : wp (tb0 (csL (cs0_asksRests rs))) (sh8 rs) 5 2 cX0_asksRests [(17, [0, 1, 2, 3], I_17), (31, [0, 1, 2, 3, 4], I_31), (124, [0, 3], I_124), (138, [0, 3, 4], I_138)] Q 400 124 [(0, ar 0), (3, ai x)] [] M1 := by
  obtain ⟨hq, hk, hR, i, rfl, hi, hn, hf, rfl⟩ := hJ
  obtain ⟨hY, hB⟩ := id hP
  have h3 : 0 ≤ M 1 4 ∧ M 1 4 ≤ 3 := (okY_n hY).1
  have e1 := keepX_1 hk
  simp only [e_wp dX0_asksRests_0 rfl, e_wp dX0_asksRests_1 rfl, e_wp dX0_asksRests_2 rfl, e_wp dX0_asksRests_3 rfl, e_wp dX0_asksRests_6 rfl, e_wp dX0_asksRests_9 rfl, e_wp dX0_asksRests_10 rfl, e_wp dX0_asksRests_11 rfl, e_wp dX0_asksRests_12 rfl, e_wp dX0_asksRests_15 rfl, e_wp dX0_asksRests_16 rfl, e_wp dX0_asksRests_17 rfl, e_wp dX0_asksRests_18 rfl, e_wp dX0_asksRests_19 rfl, e_wp dX0_asksRests_22 rfl, e_wp dX0_asksRests_25 rfl, e_wp dX0_asksRests_28 rfl, e_wp dX0_asksRests_29 rfl, e_wp dX0_asksRests_31 rfl, e_wp dX0_asksRests_33 rfl, e_wp dX0_asksRests_34 rfl, e_wp dX0_asksRests_37 rfl, e_wp dX0_asksRests_40 rfl, e_wp dX0_asksRests_43 rfl, e_wp dX0_asksRests_44 rfl, e_wp dX0_asksRests_47 rfl, e_wp dX0_asksRests_48 rfl, e_wp dX0_asksRests_49 rfl, e_wp dX0_asksRests_50 rfl, e_wp dX0_asksRests_51 rfl, e_wp dX0_asksRests_54 rfl, e_wp dX0_asksRests_55 rfl, e_wp dX0_asksRests_57 rfl, e_wp dX0_asksRests_58 rfl, e_wp dX0_asksRests_59 rfl, e_wp dX0_asksRests_62 rfl, e_wp dX0_asksRests_63 rfl, e_wp dX0_asksRests_66 rfl, e_wp dX0_asksRests_67 rfl, e_wp dX0_asksRests_68 rfl, e_wp dX0_asksRests_69 rfl, e_wp dX0_asksRests_70 rfl, e_wp dX0_asksRests_72 rfl, e_wp dX0_asksRests_73 rfl, e_wp dX0_asksRests_74 rfl, e_wp dX0_asksRests_75 rfl, e_wp dX0_asksRests_76 rfl, e_wp dX0_asksRests_79 rfl, e_wp dX0_asksRests_80 rfl, e_wp dX0_asksRests_81 rfl, e_wp dX0_asksRests_84 rfl, e_wp dX0_asksRests_85 rfl, e_wp dX0_asksRests_86 rfl, e_wp dX0_asksRests_87 rfl, e_wp dX0_asksRests_88 rfl, e_wp dX0_asksRests_90 rfl, e_wp dX0_asksRests_91 rfl, e_wp dX0_asksRests_92 rfl, e_wp dX0_asksRests_93 rfl, e_wp dX0_asksRests_94 rfl, e_wp dX0_asksRests_95 rfl, e_wp dX0_asksRests_96 rfl, e_wp dX0_asksRests_99 rfl, e_wp dX0_asksRests_100 rfl, e_wp dX0_asksRests_103 rfl, e_wp dX0_asksRests_106 rfl, e_wp dX0_asksRests_109 rfl, e_wp dX0_asksRests_112 rfl, e_wp dX0_asksRests_113 rfl, e_wp dX0_asksRests_114 rfl, e_wp dX0_asksRests_117 rfl, e_wp dX0_asksRests_118 rfl, e_wp dX0_asksRests_119 rfl, e_wp dX0_asksRests_122 rfl, e_wp dX0_asksRests_123 rfl, e_wp dX0_asksRests_124 rfl, e_wp dX0_asksRests_125 rfl, e_wp dX0_asksRests_126 rfl, e_wp dX0_asksRests_129 rfl, e_wp dX0_asksRests_132 rfl, e_wp dX0_asksRests_135 rfl, e_wp dX0_asksRests_136 rfl, e_wp dX0_asksRests_138 rfl, e_wp dX0_asksRests_140 rfl, e_wp dX0_asksRests_141 rfl, e_wp dX0_asksRests_144 rfl, e_wp dX0_asksRests_147 rfl, e_wp dX0_asksRests_150 rfl, e_wp dX0_asksRests_151 rfl, e_wp dX0_asksRests_152 rfl, e_wp dX0_asksRests_154 rfl, e_wp dX0_asksRests_157 rfl, e_wp dX0_asksRests_160 rfl, e_wp dX0_asksRests_163 rfl, e_wp dX0_asksRests_164 rfl, e_wp dX0_asksRests_165 rfl, e_wp dX0_asksRests_168 rfl, e_wp dX0_asksRests_171 rfl, e_wp dX0_asksRests_173 rfl, e_wp dX0_asksRests_174 rfl, e_wp dX0_asksRests_175 rfl, e_wp dX0_asksRests_177 rfl, e_wp dX0_asksRests_178 rfl, e_wp dX0_asksRests_181 rfl, e_wp dX0_asksRests_182 rfl, e_wp dX0_asksRests_185 rfl, e_wp dX0_asksRests_188 rfl, e_wp dX0_asksRests_189 rfl, e_wp dX0_asksRests_190 rfl, e_wp dX0_asksRests_193 rfl, e_wp dX0_asksRests_194 rfl, e_wp dX0_asksRests_195 rfl, e_wp dX0_asksRests_198 rfl, e_wp dX0_asksRests_201 rfl, e_wp dX0_asksRests_204 rfl, e_wp dX0_asksRests_207 rfl, e_wp dX0_asksRests_210 rfl, e_wp dX0_asksRests_211 rfl, c0_areTwo, P0_areTwo, V0_areTwo, cs0_asksRests, c0_asItIs, g0_10, g0_153, g0_59, c0_lays, g0_104, c0_losesOf, P0_losesOf, V0_losesOf, p0_408, p0_411, c0_isRest, P0_isRest, V0_isRest, g0_408, g0_411, a8_13, w8_13, a8_14, w8_14, a8_15, w8_15, a8_16, w8_16, a8_17, w8_17, a8_18, w8_18, a8_19, w8_19, a8_20, w8_20, a8_21, w8_21, a8_22, w8_22, a8_23, w8_23, a8_24, w8_24, a8_25, w8_25, a8_26, w8_26, a8_27, w8_27, a8_28, w8_28, a8_29, w8_29, a8_30, w8_30, a8_31, w8_31, a8_32, w8_32, a8_33, w8_33, a8_34, w8_34, a8_35, w8_35, a8_36, w8_36, a8_37, w8_37, a8_38, w8_38, a8_39, w8_39, a8_40, w8_40, a8_12, w8_12, a8_6, a8_7, e_iconst, e_bipush, e_sipush, e_lconst_0, e_lconst_1, e_iload, e_iload_0, e_iload_1, e_iload_2, e_iload_3, e_lload, e_lload_0, e_lload_1, e_lload_2, e_lload_3, e_aload, e_aload_0, e_aload_1, e_aload_2, e_aload_3, e_istore, e_istore_0, e_istore_1, e_istore_2, e_istore_3, e_astore, e_astore_0, e_astore_1, e_astore_2, e_astore_3, e_lstore, e_lstore_0, e_lstore_1, e_lstore_2, e_lstore_3, e_iinc, e_iadd, e_isub, e_imul, e_ladd, e_lsub, e_lmul, e_idiv, e_irem, e_ldiv, e_lrem, e_ineg, e_lneg, e_iand, e_ior, e_ixor, e_ishl, e_ishr, e_iushr, e_lcmp, e_i2l, e_l2i, e_i2b, e_i2s, e_dup_i, e_dup_r, e_pop_i, e_pop_r, e_dup2_l, e_dup2_ir, e_dup2_ii, e_ifeq, e_ifne, e_iflt, e_ifge, e_ifgt, e_ifle, e_iceq, e_icne, e_iclt, e_icge, e_icgt, e_icle, e_goto, e_switch, e_invokevirtual, e_invokestatic, e_invokespecial, e_ret0, e_ret1, e_ret2, e_ret3, ldI_s, ldL_s, ldR_s, clO_s, ctP_s, ctS_s, mgo_0, mgo_s, pjc_s, pj_0, pj_s, lk_s, rm1_0, rm1_i, rm1_r, rm1_l, rm2_0, rm2_i, rm2_r, rm2_l, csL_s, lc_lt, lc_ge, lc_gt, lc_le, lc_eq, b01_0, b01_1, b01_01, b01_n, up2_o, up2_s, up2_u, ne_eq, reduceCtorEq, Nat.reduceAdd, Nat.reduceEqDiff, Nat.reduceLT, Nat.reduceLeDiff, Int.reduceLE, Int.reduceLT, Int.reduceAdd, Int.reduceNeg, Int.reduceMul, Int.reduceSub, Int.reduceEq, Int.reduceToNat, Int.reduceNatCast, Int.cast_ofNat_Int, ↓reduceIte, and_self, List.drop_succ_cons, List.drop_zero, List.take_succ_cons, List.take_zero, List.length_cons, List.length_nil, List.reverse_cons, List.reverse_nil, List.nil_append, List.cons_append, Option.toList, true_and, and_true, or_false, false_or, or_true, true_or, forall_const, Classical.not_not, not_false_eq_true, not_true_eq_false, false_implies, true_implies, implies_true, imp_self, e1]
  refine ⟨fun q => hQ _ _ ⟨hk, (b01_t hq).symm, fun _ => ?_⟩, fun q => ?_⟩
  · rw [show (vX M 0 3).toNat = i by show (M 1 4).toNat = i; omega]
    exact ⟨hn, hf⟩
  · refine hI_138 ((3 - i) * 10 + (8 - 0)) _ _ _ (by omega) ⟨hq, hk, hR, i, 0, rfl, rfl, q, h3.1, ?_, ?_, rfl⟩
    · show _ = ((resX (vX M) a.toNat b.toNat i ++ []).length : Int)
      rw [List.append_nil]; exact hn
    · show _ = (resX (vX M) a.toNat b.toNat i ++ []).headD (-1)
      rw [List.append_nil]; exact hf
set_option maxHeartbeats 4000000 in
set_option maxRecDepth 100000 in
theorem at0_asksRests_138 {rs : List (Nat × Nat)} {a b : Int} {M : Mm} {Q : Option AV → Mm → Prop} (hM : okM (sh8 rs) M) (h_a : i32 a) (h_b : i32 b) (hP : P0_asksRests rs a b M) (hQ : ∀ (v : Int) (M1 : Mm), R0_asksRests rs a b M v M1 → Q (some (ai v)) M1) {m : Nat} {x y : Int} {M1 : Mm} (hM1 : okM (sh8 rs) M1) (h_x : i32 x) (h_y : i32 y) (hJ : J0_asksRests_138 rs a b M m x y M1) (I_17 : List AV → Mm → Prop) (hI_17 : ∀ (m_ : Nat) (y_a_ : Int) (y_b_ : Int) (y_x : Int) (M2 : Mm), m_ < m → J0_asksRests_17 rs a b M m_ y_a_ y_b_ y_x M2 → I_17 [ar 0, ai y_a_, ai y_b_, ai y_x] M2) (I_31 : List AV → Mm → Prop) (hI_31 : ∀ (m_ : Nat) (y_a_ : Int) (y_b_ : Int) (y_x : Int) (y_y : Int) (M2 : Mm), m_ < m → J0_asksRests_31 rs a b M m_ y_a_ y_b_ y_x y_y M2 → I_31 [ar 0, ai y_a_, ai y_b_, ai y_x, ai y_y] M2) (I_124 : List AV → Mm → Prop) (hI_124 : ∀ (m_ : Nat) (y_x : Int) (M2 : Mm), m_ < m → J0_asksRests_124 rs a b M m_ y_x M2 → I_124 [ar 0, ai y_x] M2) (I_138 : List AV → Mm → Prop) (hI_138 : ∀ (m_ : Nat) (y_x : Int) (y_y : Int) (M2 : Mm), m_ < m → J0_asksRests_138 rs a b M m_ y_x y_y M2 → I_138 [ar 0, ai y_x, ai y_y] M2) : wp (tb0 (csL (cs0_asksRests rs))) (sh8 rs) 5 2 cX0_asksRests [(17, [0, 1, 2, 3], I_17), (31, [0, 1, 2, 3, 4], I_31), (124, [0, 3], I_124), (138, [0, 3, 4], I_138)] Q 400 138 [(0, ar 0), (3, ai x), (4, ai y)] [] M1 := by
  obtain ⟨hq, hk, hR, i, j, rfl, rfl, hi, hj, hn, hf, rfl⟩ := hJ
  obtain ⟨hY, hB⟩ := id hP
  have h3 : 0 ≤ M 1 4 ∧ M 1 4 ≤ 3 := (okY_n hY).1
  have e1 := keepX_1 hk
  have l1 := @resY_len (vX M) a.toNat b.toNat i j
  have l2 := @resX_len (vX M) a.toNat b.toNat i h3.2
  have l3 : (resX (vX M) a.toNat b.toNat i ++ resY (vX M) a.toNat b.toNat i j).length ≤ 12 := by rw [List.length_append]; omega
  simp only [e_wp dX0_asksRests_0 rfl, e_wp dX0_asksRests_1 rfl, e_wp dX0_asksRests_2 rfl, e_wp dX0_asksRests_3 rfl, e_wp dX0_asksRests_6 rfl, e_wp dX0_asksRests_9 rfl, e_wp dX0_asksRests_10 rfl, e_wp dX0_asksRests_11 rfl, e_wp dX0_asksRests_12 rfl, e_wp dX0_asksRests_15 rfl, e_wp dX0_asksRests_16 rfl, e_wp dX0_asksRests_17 rfl, e_wp dX0_asksRests_18 rfl, e_wp dX0_asksRests_19 rfl, e_wp dX0_asksRests_22 rfl, e_wp dX0_asksRests_25 rfl, e_wp dX0_asksRests_28 rfl, e_wp dX0_asksRests_29 rfl, e_wp dX0_asksRests_31 rfl, e_wp dX0_asksRests_33 rfl, e_wp dX0_asksRests_34 rfl, e_wp dX0_asksRests_37 rfl, e_wp dX0_asksRests_40 rfl, e_wp dX0_asksRests_43 rfl, e_wp dX0_asksRests_44 rfl, e_wp dX0_asksRests_47 rfl, e_wp dX0_asksRests_48 rfl, e_wp dX0_asksRests_49 rfl, e_wp dX0_asksRests_50 rfl, e_wp dX0_asksRests_51 rfl, e_wp dX0_asksRests_54 rfl, e_wp dX0_asksRests_55 rfl, e_wp dX0_asksRests_57 rfl, e_wp dX0_asksRests_58 rfl, e_wp dX0_asksRests_59 rfl, e_wp dX0_asksRests_62 rfl, e_wp dX0_asksRests_63 rfl, e_wp dX0_asksRests_66 rfl, e_wp dX0_asksRests_67 rfl, e_wp dX0_asksRests_68 rfl, e_wp dX0_asksRests_69 rfl, e_wp dX0_asksRests_70 rfl, e_wp dX0_asksRests_72 rfl, e_wp dX0_asksRests_73 rfl, e_wp dX0_asksRests_74 rfl, e_wp dX0_asksRests_75 rfl, e_wp dX0_asksRests_76 rfl, e_wp dX0_asksRests_79 rfl, e_wp dX0_asksRests_80 rfl, e_wp dX0_asksRests_81 rfl, e_wp dX0_asksRests_84 rfl, e_wp dX0_asksRests_85 rfl, e_wp dX0_asksRests_86 rfl, e_wp dX0_asksRests_87 rfl, e_wp dX0_asksRests_88 rfl, e_wp dX0_asksRests_90 rfl, e_wp dX0_asksRests_91 rfl, e_wp dX0_asksRests_92 rfl, e_wp dX0_asksRests_93 rfl, e_wp dX0_asksRests_94 rfl, e_wp dX0_asksRests_95 rfl, e_wp dX0_asksRests_96 rfl, e_wp dX0_asksRests_99 rfl, e_wp dX0_asksRests_100 rfl, e_wp dX0_asksRests_103 rfl, e_wp dX0_asksRests_106 rfl, e_wp dX0_asksRests_109 rfl, e_wp dX0_asksRests_112 rfl, e_wp dX0_asksRests_113 rfl, e_wp dX0_asksRests_114 rfl, e_wp dX0_asksRests_117 rfl, e_wp dX0_asksRests_118 rfl, e_wp dX0_asksRests_119 rfl, e_wp dX0_asksRests_122 rfl, e_wp dX0_asksRests_123 rfl, e_wp dX0_asksRests_124 rfl, e_wp dX0_asksRests_125 rfl, e_wp dX0_asksRests_126 rfl, e_wp dX0_asksRests_129 rfl, e_wp dX0_asksRests_132 rfl, e_wp dX0_asksRests_135 rfl, e_wp dX0_asksRests_136 rfl, e_wp dX0_asksRests_138 rfl, e_wp dX0_asksRests_140 rfl, e_wp dX0_asksRests_141 rfl, e_wp dX0_asksRests_144 rfl, e_wp dX0_asksRests_147 rfl, e_wp dX0_asksRests_150 rfl, e_wp dX0_asksRests_151 rfl, e_wp dX0_asksRests_152 rfl, e_wp dX0_asksRests_154 rfl, e_wp dX0_asksRests_157 rfl, e_wp dX0_asksRests_160 rfl, e_wp dX0_asksRests_163 rfl, e_wp dX0_asksRests_164 rfl, e_wp dX0_asksRests_165 rfl, e_wp dX0_asksRests_168 rfl, e_wp dX0_asksRests_171 rfl, e_wp dX0_asksRests_173 rfl, e_wp dX0_asksRests_174 rfl, e_wp dX0_asksRests_175 rfl, e_wp dX0_asksRests_177 rfl, e_wp dX0_asksRests_178 rfl, e_wp dX0_asksRests_181 rfl, e_wp dX0_asksRests_182 rfl, e_wp dX0_asksRests_185 rfl, e_wp dX0_asksRests_188 rfl, e_wp dX0_asksRests_189 rfl, e_wp dX0_asksRests_190 rfl, e_wp dX0_asksRests_193 rfl, e_wp dX0_asksRests_194 rfl, e_wp dX0_asksRests_195 rfl, e_wp dX0_asksRests_198 rfl, e_wp dX0_asksRests_201 rfl, e_wp dX0_asksRests_204 rfl, e_wp dX0_asksRests_207 rfl, e_wp dX0_asksRests_210 rfl, e_wp dX0_asksRests_211 rfl, c0_areTwo, P0_areTwo, V0_areTwo, cs0_asksRests, c0_asItIs, g0_10, g0_153, g0_59, c0_lays, g0_104, c0_losesOf, P0_losesOf, V0_losesOf, p0_408, p0_411, c0_isRest, P0_isRest, V0_isRest, g0_408, g0_411, a8_13, w8_13, a8_14, w8_14, a8_15, w8_15, a8_16, w8_16, a8_17, w8_17, a8_18, w8_18, a8_19, w8_19, a8_20, w8_20, a8_21, w8_21, a8_22, w8_22, a8_23, w8_23, a8_24, w8_24, a8_25, w8_25, a8_26, w8_26, a8_27, w8_27, a8_28, w8_28, a8_29, w8_29, a8_30, w8_30, a8_31, w8_31, a8_32, w8_32, a8_33, w8_33, a8_34, w8_34, a8_35, w8_35, a8_36, w8_36, a8_37, w8_37, a8_38, w8_38, a8_39, w8_39, a8_40, w8_40, a8_12, w8_12, a8_6, a8_7, e_iconst, e_bipush, e_sipush, e_lconst_0, e_lconst_1, e_iload, e_iload_0, e_iload_1, e_iload_2, e_iload_3, e_lload, e_lload_0, e_lload_1, e_lload_2, e_lload_3, e_aload, e_aload_0, e_aload_1, e_aload_2, e_aload_3, e_istore, e_istore_0, e_istore_1, e_istore_2, e_istore_3, e_astore, e_astore_0, e_astore_1, e_astore_2, e_astore_3, e_lstore, e_lstore_0, e_lstore_1, e_lstore_2, e_lstore_3, e_iinc, e_iadd, e_isub, e_imul, e_ladd, e_lsub, e_lmul, e_idiv, e_irem, e_ldiv, e_lrem, e_ineg, e_lneg, e_iand, e_ior, e_ixor, e_ishl, e_ishr, e_iushr, e_lcmp, e_i2l, e_l2i, e_i2b, e_i2s, e_dup_i, e_dup_r, e_pop_i, e_pop_r, e_dup2_l, e_dup2_ir, e_dup2_ii, e_ifeq, e_ifne, e_iflt, e_ifge, e_ifgt, e_ifle, e_iceq, e_icne, e_iclt, e_icge, e_icgt, e_icle, e_goto, e_switch, e_invokevirtual, e_invokestatic, e_invokespecial, e_ret0, e_ret1, e_ret2, e_ret3, ldI_s, ldL_s, ldR_s, clO_s, ctP_s, ctS_s, mgo_0, mgo_s, pjc_s, pj_0, pj_s, lk_s, rm1_0, rm1_i, rm1_r, rm1_l, rm2_0, rm2_i, rm2_r, rm2_l, csL_s, lc_lt, lc_ge, lc_gt, lc_le, lc_eq, b01_0, b01_1, b01_01, b01_n, up2_o, up2_s, up2_u, ne_eq, reduceCtorEq, Nat.reduceAdd, Nat.reduceEqDiff, Nat.reduceLT, Nat.reduceLeDiff, Int.reduceLE, Int.reduceLT, Int.reduceAdd, Int.reduceNeg, Int.reduceMul, Int.reduceSub, Int.reduceEq, Int.reduceToNat, Int.reduceNatCast, Int.cast_ofNat_Int, ↓reduceIte, and_self, List.drop_succ_cons, List.drop_zero, List.take_succ_cons, List.take_zero, List.length_cons, List.length_nil, List.reverse_cons, List.reverse_nil, List.nil_append, List.cons_append, Option.toList, true_and, and_true, or_false, false_or, or_true, true_or, forall_const, Classical.not_not, not_false_eq_true, not_true_eq_false, false_implies, true_implies, implies_true, imp_self, e1, Int.toNat_natCast]
  refine ⟨fun q => ⟨by omega, ?_⟩, fun q => ?_⟩
  · refine hI_124 ((3 - (i + 1)) * 10 + 9) _ _ (by omega) ⟨hq, hk, hR, i + 1, by omega, by omega, ?_, ?_, rfl⟩
    · show _ = ((resX (vX M) a.toNat b.toNat i ++ resY (vX M) a.toNat b.toNat i (vX M 0 3).toNat).length : Int)
      rw [show (vX M 0 3).toNat = j by show (M 1 4).toNat = j; omega]
      exact hn
    · show _ = (resX (vX M) a.toNat b.toNat i ++ resY (vX M) a.toNat b.toNat i (vX M 0 3).toNat).headD (-1)
      rw [show (vX M 0 3).toNat = j by show (M 1 4).toNat = j; omega]
      exact hf
  · have hr := hR i j hi q
    have es : resY (vX M) a.toNat b.toNat i (j + 1) = resY (vX M) a.toNat b.toNat i j ++ (if gRest (vX M) a.toNat b.toNat i j then [10 * (i : Int) + j] else []) := rfl
    refine ⟨by omega, fun z => ?_, fun z => ?_⟩
    · have es1 : resY (vX M) a.toNat b.toNat i (j + 1) = resY (vX M) a.toNat b.toNat i j ++ [10 * (i : Int) + j] := by rw [es, if_pos (hr.mp z)]
      have fin : ∀ x, x = ((resX (vX M) a.toNat b.toNat i ++ resY (vX M) a.toNat b.toNat i j) ++ [10 * (i : Int) + j]).headD (-1) → I_138 [ar 0, ai i, ai (j + 1)] (up2 (up2 M1 0 39 x) 0 38 (((resX (vX M) a.toNat b.toNat i ++ resY (vX M) a.toNat b.toNat i j).length : Int) + 1)) := by
        intro x hx
        refine hI_138 ((3 - i) * 10 + (8 - (j + 1))) _ _ _ (by omega) ⟨hq, keepX_u (keepX_u hk (by decide) (by decide)) (by decide) (by decide), fun x y hx hy => ?_, i, j + 1, rfl, by omega, hi, by omega, ?_, ?_, rfl⟩
        · have := hR x y hx hy
          rw [up2_ne (show (32 : Nat) ≠ 0 by decide), up2_ne (show (32 : Nat) ≠ 0 by decide)]
          exact this
        · rw [up2_s, es1, ← List.append_assoc]
          simp only [List.length_append, List.length_cons, List.length_nil]
          omega
        · rw [up2_n (by decide), up2_s, hx, es1, ← List.append_assoc]
      have hl0 : (resX (vX M) a.toNat b.toNat i ++ resY (vX M) a.toNat b.toNat i j).length = 0 → (resX (vX M) a.toNat b.toNat i ++ resY (vX M) a.toNat b.toNat i j) = [] := List.length_eq_zero_iff.mp
      have hl1 : ¬ (resX (vX M) a.toNat b.toNat i ++ resY (vX M) a.toNat b.toNat i j).length = 0 → (resX (vX M) a.toNat b.toNat i ++ resY (vX M) a.toNat b.toNat i j).headD (-1) = ((resX (vX M) a.toNat b.toNat i ++ resY (vX M) a.toNat b.toNat i j) ++ [10 * (i : Int) + j]).headD (-1) := by
        intro h
        cases hh : (resX (vX M) a.toNat b.toNat i ++ resY (vX M) a.toNat b.toNat i j) with
        | nil => rw [hh] at h; exact absurd rfl h
        | cons x r => rfl
      simp only [hn, hf, up2_n (show (38 : Nat) ≠ 39 by decide)]
      refine ⟨fun w => ⟨by omega, by omega, ?_⟩, fun w => ?_⟩
      · exact fin _ (hl1 (by omega))
      · repeat (refine And.intro (by omega) ?_)
        refine fin _ ?_
        rw [hl0 (by omega)]
        rfl
    · refine ⟨by omega, hI_138 ((3 - i) * 10 + (8 - (j + 1))) _ _ _ (by omega) ⟨hq, hk, hR, i, j + 1, rfl, by omega, hi, by omega, ?_, ?_, rfl⟩⟩
      · rw [es, if_neg (fun w => z (hr.mpr w)), List.append_nil]; exact hn
      · rw [es, if_neg (fun w => z (hr.mpr w)), List.append_nil]; exact hf
set_option maxHeartbeats 4000000 in
set_option maxRecDepth 100000 in
theorem m0_asksRests {rs : List (Nat × Nat)} : MOK cl8 (sh8 rs) tyl8 Nws8 6 yX0_asksRests cX0_asksRests 5 (some .boolean) (sp0_asksRests rs) := by
  refine mok_of (own := RX0) (tb := tb0 (csL (cs0_asksRests rs))) (rt := 2) (fuel := 400) (fun avs M Q => [(17, [0, 1, 2, 3], fun m_ vs M1 => ∃ y_a_ : Int, ∃ y_b_ : Int, ∃ y_x : Int, vs = [ar 0, ai y_a_, ai y_b_, ai y_x] ∧ J0_asksRests_17 rs (pa true [0, 0] avs 0) (pa true [0, 0] avs 1) M m_ y_a_ y_b_ y_x M1), (31, [0, 1, 2, 3, 4], fun m_ vs M1 => ∃ y_a_ : Int, ∃ y_b_ : Int, ∃ y_x : Int, ∃ y_y : Int, vs = [ar 0, ai y_a_, ai y_b_, ai y_x, ai y_y] ∧ J0_asksRests_31 rs (pa true [0, 0] avs 0) (pa true [0, 0] avs 1) M m_ y_a_ y_b_ y_x y_y M1), (124, [0, 3], fun m_ vs M1 => ∃ y_x : Int, vs = [ar 0, ai y_x] ∧ J0_asksRests_124 rs (pa true [0, 0] avs 0) (pa true [0, 0] avs 1) M m_ y_x M1), (138, [0, 3, 4], fun m_ vs M1 => ∃ y_x : Int, ∃ y_y : Int, vs = [ar 0, ai y_x, ai y_y] ∧ J0_asksRests_138 rs (pa true [0, 0] avs 0) (pa true [0, 0] avs 1) M m_ y_x y_y M1)]) (by decide) rfl nws8_ok (tbOK0 _) rfl (csL_all ?_) ?_ ?_ ?_
  · intro q hq
    simp only [cs0_asksRests, List.mem_cons, List.not_mem_nil, or_false] at hq
    rcases hq with rfl | rfl | rfl | rfl | rfl
    · exact cg0_areTwo (by decide)
    · exact cg0_asItIs (by decide)
    · exact cg0_lays (by decide)
    · exact cg0_losesOf (by decide)
    · exact cg0_isRest (by decide)
  · intro avs M Q hsp
    obtain ⟨xs, hx⟩ := spR_un _ _ _ hsp
    obtain ⟨e, hl⟩ := unA_mkT hx
    obtain ⟨a, b, rfl⟩ := len2 hl
    have e : avs = [ar 0, ai a, ai b] := e
    subst e
    simp [szL, isL]
  · intro avs M Q hM hav hsp
    obtain ⟨xs, hx⟩ := spR_un _ _ _ hsp
    obtain ⟨e, hl⟩ := unA_mkT hx
    obtain ⟨a, b, rfl⟩ := len2 hl
    have e : avs = [ar 0, ai a, ai b] := e
    subst e
    exact in0_asksRests hM (hav (ai a) (by simp)) (hav (ai b) (by simp)) hsp.1 hsp.2 _ (fun m_ y_a_ y_b_ y_x M2 hJ => ⟨m_, y_a_, y_b_, y_x, rfl, hJ⟩) _ (fun m_ y_a_ y_b_ y_x y_y M2 hJ => ⟨m_, y_a_, y_b_, y_x, y_y, rfl, hJ⟩) _ (fun m_ y_x M2 hJ => ⟨m_, y_x, rfl, hJ⟩) _ (fun m_ y_x y_y M2 hJ => ⟨m_, y_x, y_y, rfl, hJ⟩)
  · intro avs M Q hM hav hsp q hq m_ vs M1 hM1 hv hJ
    obtain ⟨xs, hx⟩ := spR_un _ _ _ hsp
    obtain ⟨e, hl⟩ := unA_mkT hx
    obtain ⟨a, b, rfl⟩ := len2 hl
    have e : avs = [ar 0, ai a, ai b] := e
    subst e
    simp only [List.mem_cons, List.not_mem_nil, or_false] at hq
    rcases hq with rfl | rfl | rfl | rfl
    · obtain ⟨y_a_, y_b_, y_x, rfl, hJ⟩ := hJ
      exact at0_asksRests_17 hM (hav (ai a) (by simp)) (hav (ai b) (by simp)) hsp.1 hsp.2 hM1 (hv (1, ai y_a_) (List.mem_of_getElem? (i := 1) rfl)) (hv (2, ai y_b_) (List.mem_of_getElem? (i := 2) rfl)) (hv (3, ai y_x) (List.mem_of_getElem? (i := 3) rfl)) hJ _ (fun m2 z_a_ z_b_ z_x M2 hm hJ2 => ⟨m2, hm, z_a_, z_b_, z_x, rfl, hJ2⟩) _ (fun m2 z_a_ z_b_ z_x z_y M2 hm hJ2 => ⟨m2, hm, z_a_, z_b_, z_x, z_y, rfl, hJ2⟩) _ (fun m2 z_x M2 hm hJ2 => ⟨m2, hm, z_x, rfl, hJ2⟩) _ (fun m2 z_x z_y M2 hm hJ2 => ⟨m2, hm, z_x, z_y, rfl, hJ2⟩)
    · obtain ⟨y_a_, y_b_, y_x, y_y, rfl, hJ⟩ := hJ
      exact at0_asksRests_31 hM (hav (ai a) (by simp)) (hav (ai b) (by simp)) hsp.1 hsp.2 hM1 (hv (1, ai y_a_) (List.mem_of_getElem? (i := 1) rfl)) (hv (2, ai y_b_) (List.mem_of_getElem? (i := 2) rfl)) (hv (3, ai y_x) (List.mem_of_getElem? (i := 3) rfl)) (hv (4, ai y_y) (List.mem_of_getElem? (i := 4) rfl)) hJ _ (fun m2 z_a_ z_b_ z_x M2 hm hJ2 => ⟨m2, hm, z_a_, z_b_, z_x, rfl, hJ2⟩) _ (fun m2 z_a_ z_b_ z_x z_y M2 hm hJ2 => ⟨m2, hm, z_a_, z_b_, z_x, z_y, rfl, hJ2⟩) _ (fun m2 z_x M2 hm hJ2 => ⟨m2, hm, z_x, rfl, hJ2⟩) _ (fun m2 z_x z_y M2 hm hJ2 => ⟨m2, hm, z_x, z_y, rfl, hJ2⟩)
    · obtain ⟨y_x, rfl, hJ⟩ := hJ
      exact at0_asksRests_124 hM (hav (ai a) (by simp)) (hav (ai b) (by simp)) hsp.1 hsp.2 hM1 (hv (3, ai y_x) (List.mem_of_getElem? (i := 1) rfl)) hJ _ (fun m2 z_a_ z_b_ z_x M2 hm hJ2 => ⟨m2, hm, z_a_, z_b_, z_x, rfl, hJ2⟩) _ (fun m2 z_a_ z_b_ z_x z_y M2 hm hJ2 => ⟨m2, hm, z_a_, z_b_, z_x, z_y, rfl, hJ2⟩) _ (fun m2 z_x M2 hm hJ2 => ⟨m2, hm, z_x, rfl, hJ2⟩) _ (fun m2 z_x z_y M2 hm hJ2 => ⟨m2, hm, z_x, z_y, rfl, hJ2⟩)
    · obtain ⟨y_x, y_y, rfl, hJ⟩ := hJ
      exact at0_asksRests_138 hM (hav (ai a) (by simp)) (hav (ai b) (by simp)) hsp.1 hsp.2 hM1 (hv (3, ai y_x) (List.mem_of_getElem? (i := 1) rfl)) (hv (4, ai y_y) (List.mem_of_getElem? (i := 2) rfl)) hJ _ (fun m2 z_a_ z_b_ z_x M2 hm hJ2 => ⟨m2, hm, z_a_, z_b_, z_x, rfl, hJ2⟩) _ (fun m2 z_a_ z_b_ z_x z_y M2 hm hJ2 => ⟨m2, hm, z_a_, z_b_, z_x, z_y, rfl, hJ2⟩) _ (fun m2 z_x M2 hm hJ2 => ⟨m2, hm, z_x, rfl, hJ2⟩) _ (fun m2 z_x z_y M2 hm hJ2 => ⟨m2, hm, z_x, z_y, rfl, hJ2⟩)
theorem cg0_asksRests {rs : List (Nat × Nat)} {lvl : Nat} (h : 6 < lvl) : CG RX0 cl8 (sh8 rs) tyl8 Nws8 lvl 1 417 3 (sp0_asksRests rs) := cg_V (sg := [0, 0]) nws8_ok spR_mono spR_un m0_asksRests h rfl (by decide) rfl rfl ⟨rfl, by decide, by decide, rfl⟩ q1210 q1212 qs50 q128 q1213
def P0_rests (rs : List (Nat × Nat)) (a : Int) (b : Int) (M : Mm) : Prop := okX M
def R0_rests (rs : List (Nat × Nat)) (a : Int) (b : Int) (M : Mm) (v : Int) (M1 : Mm) : Prop := keepX M M1 ∧ v = A_rests (vX M) a b
def sp0_rests (rs : List (Nat × Nat)) : Spec := spR true [0, 0] 1 (fun x M => P0_rests rs (x 0) (x 1) M) (fun x M v M1 => R0_rests rs (x 0) (x 1) M v M1)
theorem c0_rests {rs : List (Nat × Nat)} {a b : Int} {M : Mm} {Q : Option AV → Mm → Prop} : sp0_rests rs [ar 0, ai a, ai b] M Q = (P0_rests rs a b M ∧ ∀ (v : Int) (M1 : Mm), R0_rests rs a b M v M1 → Q (some (ai v)) M1) := rfl
def cs0_rests (rs : List (Nat × Nat)) : List (Nat × Nat × Nat × Spec) := [(417, 1, 3, (sp0_asksRests rs))]
set_option maxHeartbeats 4000000 in
set_option maxRecDepth 100000 in
theorem in0_rests {rs : List (Nat × Nat)} {a b : Int} {M : Mm} {Q : Option AV → Mm → Prop} (hM : okM (sh8 rs) M) (h_a : i32 a) (h_b : i32 b) (hP : P0_rests rs a b M) (hQ : ∀ (v : Int) (M1 : Mm), R0_rests rs a b M v M1 → Q (some (ai v)) M1) : wp (tb0 (csL (cs0_rests rs))) (sh8 rs) 3 1 cX0_rests [] Q 400 0 [(0, ar 0), (1, ai a), (2, ai b)] [] M := by
  simp only [e_wp dX0_rests_0 rfl, e_wp dX0_rests_1 rfl, e_wp dX0_rests_2 rfl, e_wp dX0_rests_3 rfl, e_wp dX0_rests_6 rfl, e_wp dX0_rests_9 rfl, e_wp dX0_rests_10 rfl, e_wp dX0_rests_13 rfl, e_wp dX0_rests_16 rfl, e_wp dX0_rests_18 rfl, c0_asksRests, cs0_rests, g0_408, e_iconst, e_bipush, e_sipush, e_lconst_0, e_lconst_1, e_iload, e_iload_0, e_iload_1, e_iload_2, e_iload_3, e_lload, e_lload_0, e_lload_1, e_lload_2, e_lload_3, e_aload, e_aload_0, e_aload_1, e_aload_2, e_aload_3, e_istore, e_istore_0, e_istore_1, e_istore_2, e_istore_3, e_astore, e_astore_0, e_astore_1, e_astore_2, e_astore_3, e_lstore, e_lstore_0, e_lstore_1, e_lstore_2, e_lstore_3, e_iinc, e_iadd, e_isub, e_imul, e_ladd, e_lsub, e_lmul, e_idiv, e_irem, e_ldiv, e_lrem, e_ineg, e_lneg, e_iand, e_ior, e_ixor, e_ishl, e_ishr, e_iushr, e_lcmp, e_i2l, e_l2i, e_i2b, e_i2s, e_dup_i, e_dup_r, e_pop_i, e_pop_r, e_dup2_l, e_dup2_ir, e_dup2_ii, e_ifeq, e_ifne, e_iflt, e_ifge, e_ifgt, e_ifle, e_iceq, e_icne, e_iclt, e_icge, e_icgt, e_icle, e_goto, e_switch, e_invokevirtual, e_invokestatic, e_invokespecial, e_ret0, e_ret1, e_ret2, e_ret3, ldI_s, ldL_s, ldR_s, clO_s, ctP_s, ctS_s, mgo_0, mgo_s, pjc_s, pj_0, pj_s, lk_s, rm1_0, rm1_i, rm1_r, rm1_l, rm2_0, rm2_i, rm2_r, rm2_l, csL_s, lc_lt, lc_ge, lc_gt, lc_le, lc_eq, b01_0, b01_1, b01_01, b01_n, up2_o, up2_s, up2_u, ne_eq, reduceCtorEq, Nat.reduceAdd, Nat.reduceEqDiff, Nat.reduceLT, Nat.reduceLeDiff, Int.reduceLE, Int.reduceLT, Int.reduceAdd, Int.reduceNeg, Int.reduceMul, Int.reduceSub, Int.reduceEq, Int.reduceToNat, Int.reduceNatCast, Int.cast_ofNat_Int, ↓reduceIte, and_self, List.drop_succ_cons, List.drop_zero, List.take_succ_cons, List.take_zero, List.length_cons, List.length_nil, List.reverse_cons, List.reverse_nil, List.nil_append, List.cons_append, Option.toList, true_and, and_true, or_false, false_or, or_true, true_or, forall_const, Classical.not_not, not_false_eq_true, not_true_eq_false, false_implies, true_implies, implies_true, imp_self]
  refine ⟨hP, fun v M1 hR => ?_⟩
  obtain ⟨k1, k2, k3⟩ := hR
  refine ⟨fun z => hQ _ _ ⟨k1, ?_⟩, fun z => hQ _ _ ⟨k1, ?_⟩⟩
  · rw [k2, b01_0] at z
    exact (if_neg z).symm
  · have z1 := z
    rw [k2, b01_0] at z1
    have q := Classical.not_not.mp z1
    rw [(k3 (by rw [k2, b01_t q])).1]
    exact (if_pos q).symm
set_option maxHeartbeats 4000000 in
set_option maxRecDepth 100000 in
theorem m0_rests {rs : List (Nat × Nat)} : MOK cl8 (sh8 rs) tyl8 Nws8 7 yX0_rests cX0_rests 3 (some .int) (sp0_rests rs) := by
  refine mok_of (own := RX0) (tb := tb0 (csL (cs0_rests rs))) (rt := 1) (fuel := 400) (fun avs M Q => []) (by decide) rfl nws8_ok (tbOK0 _) rfl (csL_all ?_) ?_ ?_ ?_
  · intro q hq
    simp only [cs0_rests, List.mem_cons, List.not_mem_nil, or_false] at hq
    rcases hq with rfl
    · exact cg0_asksRests (by decide)
  · intro avs M Q hsp
    obtain ⟨xs, hx⟩ := spR_un _ _ _ hsp
    obtain ⟨e, hl⟩ := unA_mkT hx
    obtain ⟨a, b, rfl⟩ := len2 hl
    have e : avs = [ar 0, ai a, ai b] := e
    subst e
    simp [szL, isL]
  · intro avs M Q hM hav hsp
    obtain ⟨xs, hx⟩ := spR_un _ _ _ hsp
    obtain ⟨e, hl⟩ := unA_mkT hx
    obtain ⟨a, b, rfl⟩ := len2 hl
    have e : avs = [ar 0, ai a, ai b] := e
    subst e
    exact in0_rests hM (hav (ai a) (by simp)) (hav (ai b) (by simp)) hsp.1 hsp.2
  · intro avs M Q hM hav hsp q hq m_ vs M1 hM1 hv hJ
    obtain ⟨xs, hx⟩ := spR_un _ _ _ hsp
    obtain ⟨e, hl⟩ := unA_mkT hx
    obtain ⟨a, b, rfl⟩ := len2 hl
    have e : avs = [ar 0, ai a, ai b] := e
    subst e
    cases hq
def P0_rest (rs : List (Nat × Nat)) (a : Int) (b : Int) (M : Mm) : Prop := okX M
def R0_rest (rs : List (Nat × Nat)) (a : Int) (b : Int) (M : Mm) (v : Int) (M1 : Mm) : Prop := keepX M M1 ∧ v = A_rest (vX M) a b
def sp0_rest (rs : List (Nat × Nat)) : Spec := spR true [0, 0] 1 (fun x M => P0_rest rs (x 0) (x 1) M) (fun x M v M1 => R0_rest rs (x 0) (x 1) M v M1)
theorem c0_rest {rs : List (Nat × Nat)} {a b : Int} {M : Mm} {Q : Option AV → Mm → Prop} : sp0_rest rs [ar 0, ai a, ai b] M Q = (P0_rest rs a b M ∧ ∀ (v : Int) (M1 : Mm), R0_rest rs a b M v M1 → Q (some (ai v)) M1) := rfl
def cs0_rest (rs : List (Nat × Nat)) : List (Nat × Nat × Nat × Spec) := [(417, 1, 3, (sp0_asksRests rs))]
set_option maxHeartbeats 4000000 in
set_option maxRecDepth 100000 in
theorem in0_rest {rs : List (Nat × Nat)} {a b : Int} {M : Mm} {Q : Option AV → Mm → Prop} (hM : okM (sh8 rs) M) (h_a : i32 a) (h_b : i32 b) (hP : P0_rest rs a b M) (hQ : ∀ (v : Int) (M1 : Mm), R0_rest rs a b M v M1 → Q (some (ai v)) M1) : wp (tb0 (csL (cs0_rest rs))) (sh8 rs) 3 1 cX0_rest [] Q 400 0 [(0, ar 0), (1, ai a), (2, ai b)] [] M := by
  simp only [e_wp dX0_rest_0 rfl, e_wp dX0_rest_1 rfl, e_wp dX0_rest_2 rfl, e_wp dX0_rest_3 rfl, e_wp dX0_rest_6 rfl, e_wp dX0_rest_9 rfl, e_wp dX0_rest_10 rfl, e_wp dX0_rest_13 rfl, e_wp dX0_rest_16 rfl, e_wp dX0_rest_18 rfl, c0_asksRests, cs0_rest, g0_411, e_iconst, e_bipush, e_sipush, e_lconst_0, e_lconst_1, e_iload, e_iload_0, e_iload_1, e_iload_2, e_iload_3, e_lload, e_lload_0, e_lload_1, e_lload_2, e_lload_3, e_aload, e_aload_0, e_aload_1, e_aload_2, e_aload_3, e_istore, e_istore_0, e_istore_1, e_istore_2, e_istore_3, e_astore, e_astore_0, e_astore_1, e_astore_2, e_astore_3, e_lstore, e_lstore_0, e_lstore_1, e_lstore_2, e_lstore_3, e_iinc, e_iadd, e_isub, e_imul, e_ladd, e_lsub, e_lmul, e_idiv, e_irem, e_ldiv, e_lrem, e_ineg, e_lneg, e_iand, e_ior, e_ixor, e_ishl, e_ishr, e_iushr, e_lcmp, e_i2l, e_l2i, e_i2b, e_i2s, e_dup_i, e_dup_r, e_pop_i, e_pop_r, e_dup2_l, e_dup2_ir, e_dup2_ii, e_ifeq, e_ifne, e_iflt, e_ifge, e_ifgt, e_ifle, e_iceq, e_icne, e_iclt, e_icge, e_icgt, e_icle, e_goto, e_switch, e_invokevirtual, e_invokestatic, e_invokespecial, e_ret0, e_ret1, e_ret2, e_ret3, ldI_s, ldL_s, ldR_s, clO_s, ctP_s, ctS_s, mgo_0, mgo_s, pjc_s, pj_0, pj_s, lk_s, rm1_0, rm1_i, rm1_r, rm1_l, rm2_0, rm2_i, rm2_r, rm2_l, csL_s, lc_lt, lc_ge, lc_gt, lc_le, lc_eq, b01_0, b01_1, b01_01, b01_n, up2_o, up2_s, up2_u, ne_eq, reduceCtorEq, Nat.reduceAdd, Nat.reduceEqDiff, Nat.reduceLT, Nat.reduceLeDiff, Int.reduceLE, Int.reduceLT, Int.reduceAdd, Int.reduceNeg, Int.reduceMul, Int.reduceSub, Int.reduceEq, Int.reduceToNat, Int.reduceNatCast, Int.cast_ofNat_Int, ↓reduceIte, and_self, List.drop_succ_cons, List.drop_zero, List.take_succ_cons, List.take_zero, List.length_cons, List.length_nil, List.reverse_cons, List.reverse_nil, List.nil_append, List.cons_append, Option.toList, true_and, and_true, or_false, false_or, or_true, true_or, forall_const, Classical.not_not, not_false_eq_true, not_true_eq_false, false_implies, true_implies, implies_true, imp_self]
  refine ⟨hP, fun v M1 hR => ?_⟩
  obtain ⟨k1, k2, k3⟩ := hR
  refine ⟨fun z => hQ _ _ ⟨k1, ?_⟩, fun z => hQ _ _ ⟨k1, ?_⟩⟩
  · rw [k2, b01_0] at z
    exact (if_neg z).symm
  · have z1 := z
    rw [k2, b01_0] at z1
    have q := Classical.not_not.mp z1
    rw [(k3 (by rw [k2, b01_t q])).2]
    exact (if_pos q).symm
set_option maxHeartbeats 4000000 in
set_option maxRecDepth 100000 in
theorem m0_rest {rs : List (Nat × Nat)} : MOK cl8 (sh8 rs) tyl8 Nws8 7 yX0_rest cX0_rest 3 (some .int) (sp0_rest rs) := by
  refine mok_of (own := RX0) (tb := tb0 (csL (cs0_rest rs))) (rt := 1) (fuel := 400) (fun avs M Q => []) (by decide) rfl nws8_ok (tbOK0 _) rfl (csL_all ?_) ?_ ?_ ?_
  · intro q hq
    simp only [cs0_rest, List.mem_cons, List.not_mem_nil, or_false] at hq
    rcases hq with rfl
    · exact cg0_asksRests (by decide)
  · intro avs M Q hsp
    obtain ⟨xs, hx⟩ := spR_un _ _ _ hsp
    obtain ⟨e, hl⟩ := unA_mkT hx
    obtain ⟨a, b, rfl⟩ := len2 hl
    have e : avs = [ar 0, ai a, ai b] := e
    subst e
    simp [szL, isL]
  · intro avs M Q hM hav hsp
    obtain ⟨xs, hx⟩ := spR_un _ _ _ hsp
    obtain ⟨e, hl⟩ := unA_mkT hx
    obtain ⟨a, b, rfl⟩ := len2 hl
    have e : avs = [ar 0, ai a, ai b] := e
    subst e
    exact in0_rest hM (hav (ai a) (by simp)) (hav (ai b) (by simp)) hsp.1 hsp.2
  · intro avs M Q hM hav hsp q hq m_ vs M1 hM1 hv hJ
    obtain ⟨xs, hx⟩ := spR_un _ _ _ hsp
    obtain ⟨e, hl⟩ := unA_mkT hx
    obtain ⟨a, b, rfl⟩ := len2 hl
    have e : avs = [ar 0, ai a, ai b] := e
    subst e
    cases hq
