/-! SagMemory: the toll book (where a row is there) -/
def P0_number (rs : List (Nat × Nat)) (s : Int) (i : Int) (M : Mm) : Prop := baseI M ∧ (0 ≤ s ∧ s ≤ 3) ∧ rowOK rs (M (8 + s.toNat) 0) ∧ 0 ≤ i ∧ i < rN rs (M (8 + s.toNat) 0)
def V0_number (rs : List (Nat × Nat)) (s : Int) (i : Int) (M : Mm) : Int := (M (M (8 + s.toNat) 0).toNat i.toNat).bmod 4294967296
def sp0_number (rs : List (Nat × Nat)) : Spec := spF true [0, 0] 1 (fun x M => P0_number rs (x 0) (x 1) M) (fun x M => V0_number rs (x 0) (x 1) M)
theorem c0_number {rs : List (Nat × Nat)} {s i : Int} {M : Mm} {Q : Option AV → Mm → Prop} : sp0_number rs [ar 0, ai s, ai i] M Q = (P0_number rs s i M ∧ Q (some (ai (V0_number rs s i M))) M) := rfl
def cs0_number (rs : List (Nat × Nat)) : List (Nat × Nat × Nat × Spec) := [(327, 1, 2, (sp6_at rs))]
set_option maxHeartbeats 4000000 in
set_option maxRecDepth 100000 in
theorem in0_number {rs : List (Nat × Nat)} {s i : Int} {M : Mm} {Q : Option AV → Mm → Prop} (hM : okM (sh8 rs) M) (h_s : i32 s) (h_i : i32 i) (hP : P0_number rs s i M) (hQ : Q (some (ai (V0_number rs s i M))) M) : wp (tb0 (csL (cs0_number rs))) (sh8 rs) 3 1 cX0_number [] Q 400 0 [(0, ar 0), (1, ai s), (2, ai i)] [] M := by
  obtain ⟨hB, hs, hr, hi⟩ := id hP
  have hf := fval_s hB hs
  simp only [e_wp dX0_number_0 rfl, e_wp dX0_number_1 rfl, e_wp dX0_number_4 rfl, e_wp dX0_number_5 rfl, e_wp dX0_number_6 rfl, e_wp dX0_number_7 rfl, e_wp dX0_number_10 rfl, e_wp dX0_number_11 rfl, g0_110, c6_at, P6_at, V6_at, cs0_number, a8_13, w8_13, a8_14, w8_14, a8_15, w8_15, a8_16, w8_16, a8_17, w8_17, a8_18, w8_18, a8_19, w8_19, a8_20, w8_20, a8_21, w8_21, a8_22, w8_22, a8_23, w8_23, a8_24, w8_24, a8_25, w8_25, a8_26, w8_26, a8_27, w8_27, a8_28, w8_28, a8_29, w8_29, a8_30, w8_30, a8_31, w8_31, a8_32, w8_32, a8_33, w8_33, a8_34, w8_34, a8_35, w8_35, a8_36, w8_36, a8_37, w8_37, a8_38, w8_38, a8_39, w8_39, a8_40, w8_40, a8_12, w8_12, a8_6, a8_7, e_iconst, e_bipush, e_sipush, e_lconst_0, e_lconst_1, e_iload, e_iload_0, e_iload_1, e_iload_2, e_iload_3, e_lload, e_lload_0, e_lload_1, e_lload_2, e_lload_3, e_aload, e_aload_0, e_aload_1, e_aload_2, e_aload_3, e_istore, e_istore_0, e_istore_1, e_istore_2, e_istore_3, e_astore, e_astore_0, e_astore_1, e_astore_2, e_astore_3, e_lstore, e_lstore_0, e_lstore_1, e_lstore_2, e_lstore_3, e_iinc, e_iadd, e_isub, e_imul, e_ladd, e_lsub, e_lmul, e_idiv, e_irem, e_ldiv, e_lrem, e_ineg, e_lneg, e_iand, e_ior, e_ixor, e_ishl, e_ishr, e_iushr, e_lcmp, e_i2l, e_l2i, e_i2b, e_i2s, e_dup_i, e_dup_r, e_pop_i, e_pop_r, e_dup2_l, e_dup2_ir, e_dup2_ii, e_ifeq, e_ifne, e_iflt, e_ifge, e_ifgt, e_ifle, e_iceq, e_icne, e_iclt, e_icge, e_icgt, e_icle, e_goto, e_switch, e_invokevirtual, e_invokestatic, e_invokespecial, e_ret0, e_ret1, e_ret2, e_ret3, ldI_s, ldL_s, ldR_s, clO_s, ctP_s, ctS_s, mgo_0, mgo_s, pjc_s, pj_0, pj_s, lk_s, rm1_0, rm1_i, rm1_r, rm1_l, rm2_0, rm2_i, rm2_r, rm2_l, csL_s, lc_lt, lc_ge, lc_gt, lc_le, lc_eq, b01_0, b01_1, b01_01, b01_n, up2_o, up2_s, up2_u, ne_eq, reduceCtorEq, Nat.reduceAdd, Nat.reduceEqDiff, Nat.reduceLT, Nat.reduceLeDiff, Int.reduceLE, Int.reduceLT, Int.reduceAdd, Int.reduceNeg, Int.reduceMul, Int.reduceSub, Int.reduceEq, Int.reduceToNat, Int.reduceNatCast, Int.cast_ofNat_Int, ↓reduceIte, and_self, List.drop_succ_cons, List.drop_zero, List.take_succ_cons, List.take_zero, List.length_cons, List.length_nil, List.reverse_cons, List.reverse_nil, List.nil_append, List.cons_append, Option.toList, true_and, and_true, or_false, false_or, or_true, true_or, forall_const, Classical.not_not, not_false_eq_true, not_true_eq_false, false_implies, true_implies, implies_true, imp_self, hf, Int.toNat_natCast]
  exact ⟨by omega, ⟨⟨by omega, by rw [Int.toNat_natCast]; exact hr⟩, hi⟩, hQ⟩
set_option maxHeartbeats 4000000 in
set_option maxRecDepth 100000 in
theorem m0_number {rs : List (Nat × Nat)} : MOK cl8 (sh8 rs) tyl8 Nws8 1 yX0_number cX0_number 3 (some .int) (sp0_number rs) := by
  refine mok_of (own := RX0) (tb := tb0 (csL (cs0_number rs))) (rt := 1) (fuel := 400) (fun avs M Q => []) (by decide) rfl nws8_ok (tbOK0 _) rfl (csL_all ?_) ?_ ?_ ?_
  · intro q hq
    simp only [cs0_number, List.mem_cons, List.not_mem_nil, or_false] at hq
    rcases hq with rfl
    · exact cg6_at (by decide)
  · intro avs M Q hsp
    obtain ⟨xs, hx⟩ := spF_un _ _ _ hsp
    obtain ⟨e, hl⟩ := unA_mkT hx
    obtain ⟨s, i, rfl⟩ := len2 hl
    have e : avs = [ar 0, ai s, ai i] := e
    subst e
    simp [szL, isL]
  · intro avs M Q hM hav hsp
    obtain ⟨xs, hx⟩ := spF_un _ _ _ hsp
    obtain ⟨e, hl⟩ := unA_mkT hx
    obtain ⟨s, i, rfl⟩ := len2 hl
    have e : avs = [ar 0, ai s, ai i] := e
    subst e
    exact in0_number hM (hav (ai s) (by simp)) (hav (ai i) (by simp)) hsp.1 hsp.2
  · intro avs M Q hM hav hsp q hq m_ vs M1 hM1 hv hJ
    obtain ⟨xs, hx⟩ := spF_un _ _ _ hsp
    obtain ⟨e, hl⟩ := unA_mkT hx
    obtain ⟨s, i, rfl⟩ := len2 hl
    have e : avs = [ar 0, ai s, ai i] := e
    subst e
    cases hq
theorem cg0_number {rs : List (Nat × Nat)} {lvl : Nat} (h : 1 < lvl) : CG RX0 cl8 (sh8 rs) tyl8 Nws8 lvl 1 358 3 (sp0_number rs) := cg_V (sg := [0, 0]) nws8_ok spF_mono spF_un m0_number h rfl (by decide) rfl rfl ⟨rfl, by decide, by decide, rfl⟩ q1155 q1157 qs48 q128 q1158
theorem slX_k {rs : List (Nat × Nat)} {M : Mm} {s k : Nat} (h : rowOK rs (M (8 + s) 0)) (hk : (k : Int) < (slX rs M s).1.2) : (slX rs M s).2 k = M (M (8 + s) 0).toNat k := at_slX h (by rw [n_slX h] at hk; omega)
abbrev bokP (rs : List (Nat × Nat)) (s : Int) (M : Mm) : Prop := okX M ∧ okSX rs M ∧ ((0 ≤ s ∧ s ≤ 3) ∧ 0 < vX M 0 8 → ¬ M (8 + s.toNat) 0 < 0)
def P0_asksBook (rs : List (Nat × Nat)) (s : Int) (M : Mm) : Prop := bokP rs s M
def R0_asksBook (rs : List (Nat × Nat)) (s : Int) (M : Mm) (v : Int) (M1 : Mm) : Prop := keepX M M1 ∧ v = whyBk (vX M) (slX rs M) s ∧ (v = 0 → nC (vX M) (cX M1) = tellP (vX M))
def sp0_asksBook (rs : List (Nat × Nat)) : Spec := spR true [0] 1 (fun x M => P0_asksBook rs (x 0) M) (fun x M v M1 => R0_asksBook rs (x 0) M v M1)
theorem c0_asksBook {rs : List (Nat × Nat)} {s : Int} {M : Mm} {Q : Option AV → Mm → Prop} : sp0_asksBook rs [ar 0, ai s] M Q = (P0_asksBook rs s M ∧ ∀ (v : Int) (M1 : Mm), R0_asksBook rs s M v M1 → Q (some (ai v)) M1) := rfl
def cs0_asksBook (rs : List (Nat × Nat)) : List (Nat × Nat × Nat × Spec) := [(330, 0, 1, (sp0_isSlot rs)), (256, 1, 1, (sp0_isValley rs)), (324, 1, 1, (sp6_size rs)), (327, 1, 2, (sp6_at rs)), (167, 1, 2, (sp0_isBridge rs)), (159, 1, 2, (sp0_isCart rs)), (128, 0, 3, (sp0_isIn rs)), (250, 1, 1, (sp0_asItIs rs))]
def xs0_asksBook (rs : List (Nat × Nat)) : List (Nat × Nat × Nat × Spec) := []
def J0_asksBook_38 (rs : List (Nat × Nat)) (s : Int) (M : Mm) (m : Nat) (i : Int) (M1 : Mm) : Prop := M = M1 ∧ ((0 ≤ s ∧ s ≤ 3) ∧ 0 < M 1 3) ∧ (slX rs M s.toNat).1.2.tmod 3 = 0 ∧ ∃ a : Nat, i = 3 * (a : Int) ∧ 3 * (a : Int) ≤ (slX rs M s.toNat).1.2 ∧ (∀ j : Nat, j < a → tripP (vX M) (slX rs M s.toNat) j) ∧ m = 20 - a
set_option maxHeartbeats 4000000 in
set_option maxRecDepth 100000 in
theorem in0_asksBook {rs : List (Nat × Nat)} {s : Int} {M : Mm} {Q : Option AV → Mm → Prop} (hM : okM (sh8 rs) M) (h_s : i32 s) (hP : P0_asksBook rs s M) (hQ : ∀ (v : Int) (M1 : Mm), R0_asksBook rs s M v M1 → Q (some (ai v)) M1) (I_38 : List AV → Mm → Prop) (hI_38 : ∀ (m_ : Nat) (y_i : Int) (M2 : Mm), J0_asksBook_38 rs s M m_ y_i M2 → I_38 [ar 0, ar (8+s.toNat), ai y_i] M2) : wpx (tb0 (csL (cs0_asksBook rs))) (csL (xs0_asksBook rs)) (sh8 rs) 4 1 cX0_asksBook [(38, [0, 2, 3], I_38)] Q (fun _ _ => False) 400 false 0 [(0, ar 0), (1, ai s)] [] M := by
  obtain ⟨⟨hY, hB⟩, hS, hr⟩ := id hP
  have e1 : ¬ ((0 ≤ s ∧ s ≤ 3) ∧ 0 < M 1 3) → whyBk (vX M) (slX rs M) s = -2 := fun q => if_neg q
  by_cases hq : (0 ≤ s ∧ s ≤ 3) ∧ 0 < M 1 3
  · have hf := fval_s hB hq.1
    have hn := hr hq
    have hrow : rowOK rs (M (8 + s.toNat) 0) := (hS s.toNat (by omega)).resolve_left hn
    have hrn := (sh8_row hrow).2.2
    have en := n_slX hrow
    have e3 : ¬ (slX rs M s.toNat).1.2.tmod 3 = 0 → whyBk (vX M) (slX rs M) s = -2 := fun w => (if_pos hq).trans ((if_neg (fun z => hn (slX_w.mp z))).trans (if_neg (fun y => w y.1)))
    simp only [e_wpy (k := 9) dX0_asksBook_0 rfl rfl rfl, e_wpy (k := 3306) dX0_asksBook_1 rfl rfl rfl, e_wpy (k := 9) dX0_asksBook_4 rfl rfl rfl, e_wpy (k := 9) dX0_asksBook_7 rfl rfl rfl, e_wpy (k := 2565) dX0_asksBook_8 rfl rfl rfl, e_wpy (k := 9) dX0_asksBook_11 rfl rfl rfl, e_wpy (k := 9) dX0_asksBook_14 rfl rfl rfl, e_wpy (k := 9) dX0_asksBook_16 rfl rfl rfl, e_wpy (k := 9) dX0_asksBook_17 rfl rfl rfl, e_wpy (k := 9) dX0_asksBook_18 rfl rfl rfl, e_wpy (k := 9) dX0_asksBook_21 rfl rfl rfl, e_wpy (k := 9) dX0_asksBook_22 rfl rfl rfl, e_wpy (k := 9) dX0_asksBook_23 rfl rfl rfl, e_wpy (k := 9) dX0_asksBook_24 rfl rfl rfl, e_wpy (k := 3245) dX0_asksBook_25 rfl rfl rfl, e_wpy (k := 9) dX0_asksBook_28 rfl rfl rfl, e_wpy (k := 9) dX0_asksBook_29 rfl rfl rfl, e_wpy (k := 9) dX0_asksBook_30 rfl rfl rfl, e_wpy (k := 9) dX0_asksBook_33 rfl rfl rfl, e_wpy (k := 9) dX0_asksBook_35 rfl rfl rfl, e_wpy (k := 9) dX0_asksBook_36 rfl rfl rfl, e_wpy (k := 9) dX0_asksBook_37 rfl rfl rfl, e_wpy (k := 9) dX0_asksBook_38 rfl rfl rfl, e_wpy (k := 9) dX0_asksBook_39 rfl rfl rfl, e_wpy (k := 3245) dX0_asksBook_40 rfl rfl rfl, e_wpy (k := 9) dX0_asksBook_43 rfl rfl rfl, e_wpy (k := 9) dX0_asksBook_46 rfl rfl rfl, e_wpy (k := 9) dX0_asksBook_47 rfl rfl rfl, e_wpy (k := 9) dX0_asksBook_48 rfl rfl rfl, e_wpy (k := 3275) dX0_asksBook_49 rfl rfl rfl, e_wpy (k := 1675) dX0_asksBook_52 rfl rfl rfl, e_wpy (k := 9) dX0_asksBook_55 rfl rfl rfl, e_wpy (k := 9) dX0_asksBook_58 rfl rfl rfl, e_wpy (k := 9) dX0_asksBook_59 rfl rfl rfl, e_wpy (k := 9) dX0_asksBook_60 rfl rfl rfl, e_wpy (k := 9) dX0_asksBook_61 rfl rfl rfl, e_wpy (k := 9) dX0_asksBook_62 rfl rfl rfl, e_wpy (k := 3275) dX0_asksBook_63 rfl rfl rfl, e_wpy (k := 1595) dX0_asksBook_66 rfl rfl rfl, e_wpy (k := 9) dX0_asksBook_69 rfl rfl rfl, e_wpy (k := 9) dX0_asksBook_72 rfl rfl rfl, e_wpy (k := 9) dX0_asksBook_73 rfl rfl rfl, e_wpy (k := 9) dX0_asksBook_74 rfl rfl rfl, e_wpy (k := 9) dX0_asksBook_75 rfl rfl rfl, e_wpy (k := 3275) dX0_asksBook_76 rfl rfl rfl, e_wpy (k := 9) dX0_asksBook_79 rfl rfl rfl, e_wpy (k := 9) dX0_asksBook_80 rfl rfl rfl, e_wpy (k := 1286) dX0_asksBook_83 rfl rfl rfl, e_wpy (k := 9) dX0_asksBook_86 rfl rfl rfl, e_wpy (k := 9) dX0_asksBook_89 rfl rfl rfl, e_wpy (k := 9) dX0_asksBook_91 rfl rfl rfl, e_wpy (k := 9) dX0_asksBook_92 rfl rfl rfl, e_wpy (k := 9) dX0_asksBook_95 rfl rfl rfl, e_wpy (k := 9) dX0_asksBook_98 rfl rfl rfl, e_wpy (k := 2505) dX0_asksBook_99 rfl rfl rfl, e_wpy (k := 9) dX0_asksBook_102 rfl rfl rfl, e_wpy (k := 9) dX0_asksBook_103 rfl rfl rfl, e_wpy (k := 9) dX0_asksBook_104 rfl rfl rfl, e_wpy (k := 9) dX0_asksBook_105 rfl rfl rfl, e_wpy (k := 9) dX0_asksBook_107 rfl rfl rfl, xoff_a, ex_null_n, ex_null_r, ex_nonn_n, ex_nonn_r, ex_aret, xel_n, xel_s, xgo_0, xgo_1x, xgo_1v, xgo_1i, xgo_1l, xgo_1r, xgo_2, xgo_3, xgo_4, xgo_5x, xgo_5v, xgo_5i, xgo_5l, xgd_5, xgd_0, xgd_1, xgd_2, xgd_3, xgd_4, ath_y, xct_f, xct_t, xna_f, csL_n, Nat.reduceMul, xs0_asksBook, c0_isSlot, P0_isSlot, V0_isSlot, cs0_asksBook, c0_isValley, P0_isValley, V0_isValley, g0_110, c6_size, P6_size, V6_size, c6_at, P6_at, V6_at, c0_isBridge, P0_isBridge, V0_isBridge, c0_isCart, P0_isCart, V0_isCart, k0_356, c0_isIn, P0_isIn, V0_isIn, c0_asItIs, a8_13, w8_13, a8_14, w8_14, a8_15, w8_15, a8_16, w8_16, a8_17, w8_17, a8_18, w8_18, a8_19, w8_19, a8_20, w8_20, a8_21, w8_21, a8_22, w8_22, a8_23, w8_23, a8_24, w8_24, a8_25, w8_25, a8_26, w8_26, a8_27, w8_27, a8_28, w8_28, a8_29, w8_29, a8_30, w8_30, a8_31, w8_31, a8_32, w8_32, a8_33, w8_33, a8_34, w8_34, a8_35, w8_35, a8_36, w8_36, a8_37, w8_37, a8_38, w8_38, a8_39, w8_39, a8_40, w8_40, a8_12, w8_12, a8_6, a8_7, e_iconst, e_bipush, e_sipush, e_lconst_0, e_lconst_1, e_iload, e_iload_0, e_iload_1, e_iload_2, e_iload_3, e_lload, e_lload_0, e_lload_1, e_lload_2, e_lload_3, e_aload, e_aload_0, e_aload_1, e_aload_2, e_aload_3, e_istore, e_istore_0, e_istore_1, e_istore_2, e_istore_3, e_astore, e_astore_0, e_astore_1, e_astore_2, e_astore_3, e_lstore, e_lstore_0, e_lstore_1, e_lstore_2, e_lstore_3, e_iinc, e_iadd, e_isub, e_imul, e_ladd, e_lsub, e_lmul, e_idiv, e_irem, e_ldiv, e_lrem, e_ineg, e_lneg, e_iand, e_ior, e_ixor, e_ishl, e_ishr, e_iushr, e_lcmp, e_i2l, e_l2i, e_i2b, e_i2s, e_dup_i, e_dup_r, e_pop_i, e_pop_r, e_dup2_l, e_dup2_ir, e_dup2_ii, e_ifeq, e_ifne, e_iflt, e_ifge, e_ifgt, e_ifle, e_iceq, e_icne, e_iclt, e_icge, e_icgt, e_icle, e_goto, e_switch, e_invokevirtual, e_invokestatic, e_invokespecial, e_ret0, e_ret1, e_ret2, e_ret3, ldI_s, ldL_s, ldR_s, clO_s, ctP_s, ctS_s, mgo_0, mgo_s, pjc_s, pj_0, pj_s, lk_s, rm1_0, rm1_i, rm1_r, rm1_l, rm2_0, rm2_i, rm2_r, rm2_l, csL_s, lc_lt, lc_ge, lc_gt, lc_le, lc_eq, b01_0, b01_1, b01_01, b01_n, up2_o, up2_s, up2_u, ne_eq, reduceCtorEq, Nat.reduceAdd, Nat.reduceEqDiff, Nat.reduceLT, Nat.reduceLeDiff, Int.reduceLE, Int.reduceLT, Int.reduceAdd, Int.reduceNeg, Int.reduceMul, Int.reduceSub, Int.reduceEq, Int.reduceToNat, Int.reduceNatCast, Int.cast_ofNat_Int, ↓reduceIte, and_self, List.drop_succ_cons, List.drop_zero, List.take_succ_cons, List.take_zero, List.length_cons, List.length_nil, List.reverse_cons, List.reverse_nil, List.nil_append, List.cons_append, Option.toList, true_and, and_true, or_false, false_or, or_true, true_or, forall_const, Classical.not_not, not_false_eq_true, not_true_eq_false, false_implies, true_implies, implies_true, imp_self, hf, Int.toNat_natCast]
    have ht := @tdiv_b ((rN rs (M (8 + s.toNat) 0) : Nat) : Int) 3 (by omega) (by omega)
    refine ⟨fun q => absurd hq.1 q, fun _ => ⟨fun _ => ⟨by omega, ⟨by omega, by rw [Int.toNat_natCast]; exact hrow⟩, by omega, fun w => ?_, fun w => ?_⟩, fun q => absurd hq.2 q⟩⟩
    · exact hI_38 (20 - 0) _ _ ⟨rfl, hq, by rw [en]; exact w, 0, rfl, by omega, fun j hj => by omega, rfl⟩
    · exact hQ _ _ ⟨keepX_rf, (e3 (by rw [en]; exact w)).symm, fun z => by omega⟩
  · have k1 : Q (some (ai (-2))) M := hQ _ _ ⟨keepX_rf, (e1 hq).symm, fun z => by omega⟩
    simp only [e_wpy (k := 9) dX0_asksBook_0 rfl rfl rfl, e_wpy (k := 3306) dX0_asksBook_1 rfl rfl rfl, e_wpy (k := 9) dX0_asksBook_4 rfl rfl rfl, e_wpy (k := 9) dX0_asksBook_7 rfl rfl rfl, e_wpy (k := 2565) dX0_asksBook_8 rfl rfl rfl, e_wpy (k := 9) dX0_asksBook_11 rfl rfl rfl, e_wpy (k := 9) dX0_asksBook_14 rfl rfl rfl, e_wpy (k := 9) dX0_asksBook_16 rfl rfl rfl, e_wpy (k := 9) dX0_asksBook_17 rfl rfl rfl, e_wpy (k := 9) dX0_asksBook_18 rfl rfl rfl, e_wpy (k := 9) dX0_asksBook_21 rfl rfl rfl, e_wpy (k := 9) dX0_asksBook_22 rfl rfl rfl, e_wpy (k := 9) dX0_asksBook_23 rfl rfl rfl, e_wpy (k := 9) dX0_asksBook_24 rfl rfl rfl, e_wpy (k := 3245) dX0_asksBook_25 rfl rfl rfl, e_wpy (k := 9) dX0_asksBook_28 rfl rfl rfl, e_wpy (k := 9) dX0_asksBook_29 rfl rfl rfl, e_wpy (k := 9) dX0_asksBook_30 rfl rfl rfl, e_wpy (k := 9) dX0_asksBook_33 rfl rfl rfl, e_wpy (k := 9) dX0_asksBook_35 rfl rfl rfl, e_wpy (k := 9) dX0_asksBook_36 rfl rfl rfl, e_wpy (k := 9) dX0_asksBook_37 rfl rfl rfl, e_wpy (k := 9) dX0_asksBook_38 rfl rfl rfl, e_wpy (k := 9) dX0_asksBook_39 rfl rfl rfl, e_wpy (k := 3245) dX0_asksBook_40 rfl rfl rfl, e_wpy (k := 9) dX0_asksBook_43 rfl rfl rfl, e_wpy (k := 9) dX0_asksBook_46 rfl rfl rfl, e_wpy (k := 9) dX0_asksBook_47 rfl rfl rfl, e_wpy (k := 9) dX0_asksBook_48 rfl rfl rfl, e_wpy (k := 3275) dX0_asksBook_49 rfl rfl rfl, e_wpy (k := 1675) dX0_asksBook_52 rfl rfl rfl, e_wpy (k := 9) dX0_asksBook_55 rfl rfl rfl, e_wpy (k := 9) dX0_asksBook_58 rfl rfl rfl, e_wpy (k := 9) dX0_asksBook_59 rfl rfl rfl, e_wpy (k := 9) dX0_asksBook_60 rfl rfl rfl, e_wpy (k := 9) dX0_asksBook_61 rfl rfl rfl, e_wpy (k := 9) dX0_asksBook_62 rfl rfl rfl, e_wpy (k := 3275) dX0_asksBook_63 rfl rfl rfl, e_wpy (k := 1595) dX0_asksBook_66 rfl rfl rfl, e_wpy (k := 9) dX0_asksBook_69 rfl rfl rfl, e_wpy (k := 9) dX0_asksBook_72 rfl rfl rfl, e_wpy (k := 9) dX0_asksBook_73 rfl rfl rfl, e_wpy (k := 9) dX0_asksBook_74 rfl rfl rfl, e_wpy (k := 9) dX0_asksBook_75 rfl rfl rfl, e_wpy (k := 3275) dX0_asksBook_76 rfl rfl rfl, e_wpy (k := 9) dX0_asksBook_79 rfl rfl rfl, e_wpy (k := 9) dX0_asksBook_80 rfl rfl rfl, e_wpy (k := 1286) dX0_asksBook_83 rfl rfl rfl, e_wpy (k := 9) dX0_asksBook_86 rfl rfl rfl, e_wpy (k := 9) dX0_asksBook_89 rfl rfl rfl, e_wpy (k := 9) dX0_asksBook_91 rfl rfl rfl, e_wpy (k := 9) dX0_asksBook_92 rfl rfl rfl, e_wpy (k := 9) dX0_asksBook_95 rfl rfl rfl, e_wpy (k := 9) dX0_asksBook_98 rfl rfl rfl, e_wpy (k := 2505) dX0_asksBook_99 rfl rfl rfl, e_wpy (k := 9) dX0_asksBook_102 rfl rfl rfl, e_wpy (k := 9) dX0_asksBook_103 rfl rfl rfl, e_wpy (k := 9) dX0_asksBook_104 rfl rfl rfl, e_wpy (k := 9) dX0_asksBook_105 rfl rfl rfl, e_wpy (k := 9) dX0_asksBook_107 rfl rfl rfl, xoff_a, ex_null_n, ex_null_r, ex_nonn_n, ex_nonn_r, ex_aret, xel_n, xel_s, xgo_0, xgo_1x, xgo_1v, xgo_1i, xgo_1l, xgo_1r, xgo_2, xgo_3, xgo_4, xgo_5x, xgo_5v, xgo_5i, xgo_5l, xgd_5, xgd_0, xgd_1, xgd_2, xgd_3, xgd_4, ath_y, xct_f, xct_t, xna_f, csL_n, Nat.reduceMul, xs0_asksBook, c0_isSlot, P0_isSlot, V0_isSlot, cs0_asksBook, c0_isValley, P0_isValley, V0_isValley, g0_110, c6_size, P6_size, V6_size, c6_at, P6_at, V6_at, c0_isBridge, P0_isBridge, V0_isBridge, c0_isCart, P0_isCart, V0_isCart, k0_356, c0_isIn, P0_isIn, V0_isIn, c0_asItIs, a8_13, w8_13, a8_14, w8_14, a8_15, w8_15, a8_16, w8_16, a8_17, w8_17, a8_18, w8_18, a8_19, w8_19, a8_20, w8_20, a8_21, w8_21, a8_22, w8_22, a8_23, w8_23, a8_24, w8_24, a8_25, w8_25, a8_26, w8_26, a8_27, w8_27, a8_28, w8_28, a8_29, w8_29, a8_30, w8_30, a8_31, w8_31, a8_32, w8_32, a8_33, w8_33, a8_34, w8_34, a8_35, w8_35, a8_36, w8_36, a8_37, w8_37, a8_38, w8_38, a8_39, w8_39, a8_40, w8_40, a8_12, w8_12, a8_6, a8_7, e_iconst, e_bipush, e_sipush, e_lconst_0, e_lconst_1, e_iload, e_iload_0, e_iload_1, e_iload_2, e_iload_3, e_lload, e_lload_0, e_lload_1, e_lload_2, e_lload_3, e_aload, e_aload_0, e_aload_1, e_aload_2, e_aload_3, e_istore, e_istore_0, e_istore_1, e_istore_2, e_istore_3, e_astore, e_astore_0, e_astore_1, e_astore_2, e_astore_3, e_lstore, e_lstore_0, e_lstore_1, e_lstore_2, e_lstore_3, e_iinc, e_iadd, e_isub, e_imul, e_ladd, e_lsub, e_lmul, e_idiv, e_irem, e_ldiv, e_lrem, e_ineg, e_lneg, e_iand, e_ior, e_ixor, e_ishl, e_ishr, e_iushr, e_lcmp, e_i2l, e_l2i, e_i2b, e_i2s, e_dup_i, e_dup_r, e_pop_i, e_pop_r, e_dup2_l, e_dup2_ir, e_dup2_ii, e_ifeq, e_ifne, e_iflt, e_ifge, e_ifgt, e_ifle, e_iceq, e_icne, e_iclt, e_icge, e_icgt, e_icle, e_goto, e_switch, e_invokevirtual, e_invokestatic, e_invokespecial, e_ret0, e_ret1, e_ret2, e_ret3, ldI_s, ldL_s, ldR_s, clO_s, ctP_s, ctS_s, mgo_0, mgo_s, pjc_s, pj_0, pj_s, lk_s, rm1_0, rm1_i, rm1_r, rm1_l, rm2_0, rm2_i, rm2_r, rm2_l, csL_s, lc_lt, lc_ge, lc_gt, lc_le, lc_eq, b01_0, b01_1, b01_01, b01_n, up2_o, up2_s, up2_u, ne_eq, reduceCtorEq, Nat.reduceAdd, Nat.reduceEqDiff, Nat.reduceLT, Nat.reduceLeDiff, Int.reduceLE, Int.reduceLT, Int.reduceAdd, Int.reduceNeg, Int.reduceMul, Int.reduceSub, Int.reduceEq, Int.reduceToNat, Int.reduceNatCast, Int.cast_ofNat_Int, ↓reduceIte, and_self, List.drop_succ_cons, List.drop_zero, List.take_succ_cons, List.take_zero, List.length_cons, List.length_nil, List.reverse_cons, List.reverse_nil, List.nil_append, List.cons_append, Option.toList, true_and, and_true, or_false, false_or, or_true, true_or, forall_const, Classical.not_not, not_false_eq_true, not_true_eq_false, false_implies, true_implies, implies_true, imp_self]
    refine ⟨fun _ => k1, fun q => ⟨fun q2 => absurd ⟨q, q2⟩ hq, fun _ => k1⟩⟩
set_option maxHeartbeats 4000000 in
set_option maxRecDepth 100000 in
theorem at0_asksBook_38 {rs : List (Nat × Nat)} {s : Int} {M : Mm} {Q : Option AV → Mm → Prop} (hM : okM (sh8 rs) M) (h_s : i32 s) (hP : P0_asksBook rs s M) (hQ : ∀ (v : Int) (M1 : Mm), R0_asksBook rs s M v M1 → Q (some (ai v)) M1) {m : Nat} {i : Int} {M1 : Mm} (hM1 : okM (sh8 rs) M1) (h_i : i32 i) (hJ : J0_asksBook_38 rs s M m i M1) (I_38 : List AV → Mm → Prop) (hI_38 : ∀ (m_ : Nat) (y_i : Int) (M2 : Mm), m_ < m → J0_asksBook_38 rs s M m_ y_i M2 → I_38 [ar 0, ar (8+s.toNat), ai y_i] M2) : wpx (tb0 (csL (cs0_asksBook rs))) (csL (xs0_asksBook rs)) (sh8 rs) 4 1 cX0_asksBook [(38, [0, 2, 3], I_38)] Q (fun _ _ => False) 400 false 38 [(0, ar 0), (2, ar (8+s.toNat)), (3, ai i)] [] M1 := by
  obtain ⟨rfl, hq, hw, a, rfl, ha, hb, rfl⟩ := hJ
  obtain ⟨⟨hY, hB⟩, hS, hr⟩ := id hP
  have h4 : 0 ≤ M 1 5 ∧ M 1 5 ≤ 7 := (okY_n hY).2.1
  have h3 : 0 ≤ M 1 4 ∧ M 1 4 ≤ 3 := (okY_n hY).1
  have hn := hr hq
  have hrow : rowOK rs (M (8 + s.toNat) 0) := (hS s.toNat (by omega)).resolve_left hn
  have hrn := (sh8_row hrow).2.2
  have en := n_slX hrow
  have hslp : slP rs ((8 + s.toNat : Nat) : Int) M := ⟨by omega, by rw [Int.toNat_natCast]; exact hrow⟩
  have i0 : (3 * (a : Int)).toNat = 3 * a := by omega
  have i1 : (3 * (a : Int) + 1).toNat = 3 * a + 1 := by omega
  have i2 : (3 * (a : Int) + 2).toNat = 3 * a + 2 := by omega
  have eV : whyBk (vX M) (slX rs M) s = if bookP (vX M) (slX rs M s.toNat) then 0 else -2 := (if_pos hq).trans (if_neg (fun z => hn (slX_w.mp z)))
  have hm3 : (slX rs M s.toNat).1.2 = 3 * ((slX rs M s.toNat).1.2 / 3) := by
    have := Int.tmod_eq_emod_of_nonneg (a := (slX rs M s.toNat).1.2) (b := 3) (by omega)
    omega
  have bad : 3 * (a : Int) < rN rs (M (8 + s.toNat) 0) → ¬ ((0 ≤ M (M (8 + s.toNat) 0).toNat (3 * a) ∧ M (M (8 + s.toNat) 0).toNat (3 * a) < M 1 4) ∧ (0 ≤ M (M (8 + s.toNat) 0).toNat (3 * a + 1) ∧ M (M (8 + s.toNat) 0).toNat (3 * a + 1) < M 1 5) ∧ 0 ≤ M (M (8 + s.toNat) 0).toNat (3 * a + 2) ∧ M (M (8 + s.toNat) 0).toNat (3 * a + 2) ≤ 999) → Q (some (ai (-2))) M := by
    intro q z
    refine hQ _ _ ⟨keepX_rf, ?_, fun z => by omega⟩
    rw [eV]
    refine (if_neg fun w => z ?_).symm
    have w2 := w.2 a (by show a < ((slX rs M s.toNat).1.2 / 3).toNat; omega)
    unfold tripP at w2
    rw [slX_k hrow (by omega), slX_k hrow (by omega), slX_k hrow (by omega)] at w2
    exact w2
  simp only [e_wpy (k := 9) dX0_asksBook_0 rfl rfl rfl, e_wpy (k := 3306) dX0_asksBook_1 rfl rfl rfl, e_wpy (k := 9) dX0_asksBook_4 rfl rfl rfl, e_wpy (k := 9) dX0_asksBook_7 rfl rfl rfl, e_wpy (k := 2565) dX0_asksBook_8 rfl rfl rfl, e_wpy (k := 9) dX0_asksBook_11 rfl rfl rfl, e_wpy (k := 9) dX0_asksBook_14 rfl rfl rfl, e_wpy (k := 9) dX0_asksBook_16 rfl rfl rfl, e_wpy (k := 9) dX0_asksBook_17 rfl rfl rfl, e_wpy (k := 9) dX0_asksBook_18 rfl rfl rfl, e_wpy (k := 9) dX0_asksBook_21 rfl rfl rfl, e_wpy (k := 9) dX0_asksBook_22 rfl rfl rfl, e_wpy (k := 9) dX0_asksBook_23 rfl rfl rfl, e_wpy (k := 9) dX0_asksBook_24 rfl rfl rfl, e_wpy (k := 3245) dX0_asksBook_25 rfl rfl rfl, e_wpy (k := 9) dX0_asksBook_28 rfl rfl rfl, e_wpy (k := 9) dX0_asksBook_29 rfl rfl rfl, e_wpy (k := 9) dX0_asksBook_30 rfl rfl rfl, e_wpy (k := 9) dX0_asksBook_33 rfl rfl rfl, e_wpy (k := 9) dX0_asksBook_35 rfl rfl rfl, e_wpy (k := 9) dX0_asksBook_36 rfl rfl rfl, e_wpy (k := 9) dX0_asksBook_37 rfl rfl rfl, e_wpy (k := 9) dX0_asksBook_38 rfl rfl rfl, e_wpy (k := 9) dX0_asksBook_39 rfl rfl rfl, e_wpy (k := 3245) dX0_asksBook_40 rfl rfl rfl, e_wpy (k := 9) dX0_asksBook_43 rfl rfl rfl, e_wpy (k := 9) dX0_asksBook_46 rfl rfl rfl, e_wpy (k := 9) dX0_asksBook_47 rfl rfl rfl, e_wpy (k := 9) dX0_asksBook_48 rfl rfl rfl, e_wpy (k := 3275) dX0_asksBook_49 rfl rfl rfl, e_wpy (k := 1675) dX0_asksBook_52 rfl rfl rfl, e_wpy (k := 9) dX0_asksBook_55 rfl rfl rfl, e_wpy (k := 9) dX0_asksBook_58 rfl rfl rfl, e_wpy (k := 9) dX0_asksBook_59 rfl rfl rfl, e_wpy (k := 9) dX0_asksBook_60 rfl rfl rfl, e_wpy (k := 9) dX0_asksBook_61 rfl rfl rfl, e_wpy (k := 9) dX0_asksBook_62 rfl rfl rfl, e_wpy (k := 3275) dX0_asksBook_63 rfl rfl rfl, e_wpy (k := 1595) dX0_asksBook_66 rfl rfl rfl, e_wpy (k := 9) dX0_asksBook_69 rfl rfl rfl, e_wpy (k := 9) dX0_asksBook_72 rfl rfl rfl, e_wpy (k := 9) dX0_asksBook_73 rfl rfl rfl, e_wpy (k := 9) dX0_asksBook_74 rfl rfl rfl, e_wpy (k := 9) dX0_asksBook_75 rfl rfl rfl, e_wpy (k := 3275) dX0_asksBook_76 rfl rfl rfl, e_wpy (k := 9) dX0_asksBook_79 rfl rfl rfl, e_wpy (k := 9) dX0_asksBook_80 rfl rfl rfl, e_wpy (k := 1286) dX0_asksBook_83 rfl rfl rfl, e_wpy (k := 9) dX0_asksBook_86 rfl rfl rfl, e_wpy (k := 9) dX0_asksBook_89 rfl rfl rfl, e_wpy (k := 9) dX0_asksBook_91 rfl rfl rfl, e_wpy (k := 9) dX0_asksBook_92 rfl rfl rfl, e_wpy (k := 9) dX0_asksBook_95 rfl rfl rfl, e_wpy (k := 9) dX0_asksBook_98 rfl rfl rfl, e_wpy (k := 2505) dX0_asksBook_99 rfl rfl rfl, e_wpy (k := 9) dX0_asksBook_102 rfl rfl rfl, e_wpy (k := 9) dX0_asksBook_103 rfl rfl rfl, e_wpy (k := 9) dX0_asksBook_104 rfl rfl rfl, e_wpy (k := 9) dX0_asksBook_105 rfl rfl rfl, e_wpy (k := 9) dX0_asksBook_107 rfl rfl rfl, xoff_a, ex_null_n, ex_null_r, ex_nonn_n, ex_nonn_r, ex_aret, xel_n, xel_s, xgo_0, xgo_1x, xgo_1v, xgo_1i, xgo_1l, xgo_1r, xgo_2, xgo_3, xgo_4, xgo_5x, xgo_5v, xgo_5i, xgo_5l, xgd_5, xgd_0, xgd_1, xgd_2, xgd_3, xgd_4, ath_y, xct_f, xct_t, xna_f, csL_n, Nat.reduceMul, xs0_asksBook, c0_isSlot, P0_isSlot, V0_isSlot, cs0_asksBook, c0_isValley, P0_isValley, V0_isValley, g0_110, c6_size, P6_size, V6_size, c6_at, P6_at, V6_at, c0_isBridge, P0_isBridge, V0_isBridge, c0_isCart, P0_isCart, V0_isCart, k0_356, c0_isIn, P0_isIn, V0_isIn, c0_asItIs, a8_13, w8_13, a8_14, w8_14, a8_15, w8_15, a8_16, w8_16, a8_17, w8_17, a8_18, w8_18, a8_19, w8_19, a8_20, w8_20, a8_21, w8_21, a8_22, w8_22, a8_23, w8_23, a8_24, w8_24, a8_25, w8_25, a8_26, w8_26, a8_27, w8_27, a8_28, w8_28, a8_29, w8_29, a8_30, w8_30, a8_31, w8_31, a8_32, w8_32, a8_33, w8_33, a8_34, w8_34, a8_35, w8_35, a8_36, w8_36, a8_37, w8_37, a8_38, w8_38, a8_39, w8_39, a8_40, w8_40, a8_12, w8_12, a8_6, a8_7, e_iconst, e_bipush, e_sipush, e_lconst_0, e_lconst_1, e_iload, e_iload_0, e_iload_1, e_iload_2, e_iload_3, e_lload, e_lload_0, e_lload_1, e_lload_2, e_lload_3, e_aload, e_aload_0, e_aload_1, e_aload_2, e_aload_3, e_istore, e_istore_0, e_istore_1, e_istore_2, e_istore_3, e_astore, e_astore_0, e_astore_1, e_astore_2, e_astore_3, e_lstore, e_lstore_0, e_lstore_1, e_lstore_2, e_lstore_3, e_iinc, e_iadd, e_isub, e_imul, e_ladd, e_lsub, e_lmul, e_idiv, e_irem, e_ldiv, e_lrem, e_ineg, e_lneg, e_iand, e_ior, e_ixor, e_ishl, e_ishr, e_iushr, e_lcmp, e_i2l, e_l2i, e_i2b, e_i2s, e_dup_i, e_dup_r, e_pop_i, e_pop_r, e_dup2_l, e_dup2_ir, e_dup2_ii, e_ifeq, e_ifne, e_iflt, e_ifge, e_ifgt, e_ifle, e_iceq, e_icne, e_iclt, e_icge, e_icgt, e_icle, e_goto, e_switch, e_invokevirtual, e_invokestatic, e_invokespecial, e_ret0, e_ret1, e_ret2, e_ret3, ldI_s, ldL_s, ldR_s, clO_s, ctP_s, ctS_s, mgo_0, mgo_s, pjc_s, pj_0, pj_s, lk_s, rm1_0, rm1_i, rm1_r, rm1_l, rm2_0, rm2_i, rm2_r, rm2_l, csL_s, lc_lt, lc_ge, lc_gt, lc_le, lc_eq, b01_0, b01_1, b01_01, b01_n, up2_o, up2_s, up2_u, ne_eq, reduceCtorEq, Nat.reduceAdd, Nat.reduceEqDiff, Nat.reduceLT, Nat.reduceLeDiff, Int.reduceLE, Int.reduceLT, Int.reduceAdd, Int.reduceNeg, Int.reduceMul, Int.reduceSub, Int.reduceEq, Int.reduceToNat, Int.reduceNatCast, Int.cast_ofNat_Int, ↓reduceIte, and_self, List.drop_succ_cons, List.drop_zero, List.take_succ_cons, List.take_zero, List.length_cons, List.length_nil, List.reverse_cons, List.reverse_nil, List.nil_append, List.cons_append, Option.toList, true_and, and_true, or_false, false_or, or_true, true_or, forall_const, Classical.not_not, not_false_eq_true, not_true_eq_false, false_implies, true_implies, implies_true, imp_self, Int.toNat_natCast, i0, i1, i2]
  refine ⟨hslp, fun q => ⟨⟨hY, hB⟩, fun M1 hR => ?_⟩, fun q => ⟨⟨hslp, by omega, q⟩, h3, fun z => bad q (fun w => z w.1), fun z => ⟨by omega, ⟨hslp, by omega, by omega⟩, h4, fun z2 => bad q (fun w => z2 w.2.1), fun z2 => ⟨by omega, ⟨hslp, by omega, by omega⟩, fun z3 => ⟨by omega, ?_⟩, fun z3 => bad q (fun w => z3 w.2.2)⟩⟩⟩⟩
  · obtain ⟨r1, r2, r3⟩ := hR
    refine hQ _ _ ⟨keepX_tell r1 r2, ?_, fun _ => r3⟩
    rw [eV]
    refine (if_pos ⟨hw, fun j hj => hb j ?_⟩).symm
    have : j < ((slX rs M s.toNat).1.2 / 3).toNat := hj
    omega
  · refine hI_38 (20 - (a + 1)) _ _ (by omega) ⟨rfl, hq, hw, a + 1, by omega, by omega, fun j hj => ?_, rfl⟩
    by_cases e : j = a
    · subst e
      unfold tripP
      rw [slX_k hrow (by omega), slX_k hrow (by omega), slX_k hrow (by omega)]
      exact ⟨z, z2, z3⟩
    · exact hb j (by omega)
set_option maxHeartbeats 4000000 in
set_option maxRecDepth 100000 in
theorem m0_asksBook {rs : List (Nat × Nat)} : MOKH cl8 (sh8 rs) tyl8 Nws8 2 yX0_asksBook cX0_asksBook 4 (some .int) [(17, 35, 104, 345), (36, 91, 104, 345), (92, 103, 104, 345)] (sp0_asksBook rs) := by
  refine mokh_of (own := RX0) (tb := tb0 (csL (cs0_asksBook rs))) (xt := csL (xs0_asksBook rs)) (rt := 1) (fuel := 400) (fun avs M Q => [(38, [0, 2, 3], fun m_ vs M1 => ∃ y_i : Int, vs = [ar 0, ar (8+(pa true [0] avs 0).toNat), ai y_i] ∧ J0_asksBook_38 rs (pa true [0] avs 0) M m_ y_i M1)]) (by decide) rfl nws8_ok (tbOK0 _) rfl (csL_all ?_) (csX_all ?_) ?_ ?_ ?_
  · intro q hq
    simp only [cs0_asksBook, List.mem_cons, List.not_mem_nil, or_false] at hq
    rcases hq with rfl | rfl | rfl | rfl | rfl | rfl | rfl | rfl
    · exact cg0_isSlot (by decide)
    · exact cg0_isValley (by decide)
    · exact cg6_size (by decide)
    · exact cg6_at (by decide)
    · exact cg0_isBridge (by decide)
    · exact cg0_isCart (by decide)
    · exact cg0_isIn (by decide)
    · exact cg0_asItIs (by decide)
  · intro q hq; cases hq
  · intro avs M Q hsp
    obtain ⟨xs, hx⟩ := spR_un _ _ _ hsp
    obtain ⟨e, hl⟩ := unA_mkT hx
    obtain ⟨s, rfl⟩ := len1 hl
    have e : avs = [ar 0, ai s] := e
    subst e
    simp [szL, isL]
  · intro avs M Q hM hav hsp
    obtain ⟨xs, hx⟩ := spR_un _ _ _ hsp
    obtain ⟨e, hl⟩ := unA_mkT hx
    obtain ⟨s, rfl⟩ := len1 hl
    have e : avs = [ar 0, ai s] := e
    subst e
    exact in0_asksBook hM (hav (ai s) (by simp)) hsp.1 hsp.2 _ (fun m_ y_i M2 hJ => ⟨m_, y_i, rfl, hJ⟩)
  · intro avs M Q hM hav hsp q hq m_ vs M1 hM1 hv hJ
    obtain ⟨xs, hx⟩ := spR_un _ _ _ hsp
    obtain ⟨e, hl⟩ := unA_mkT hx
    obtain ⟨s, rfl⟩ := len1 hl
    have e : avs = [ar 0, ai s] := e
    subst e
    simp only [List.mem_cons, List.not_mem_nil, or_false] at hq
    rcases hq with rfl
    · obtain ⟨y_i, rfl, hJ⟩ := hJ
      exact at0_asksBook_38 hM (hav (ai s) (by simp)) hsp.1 hsp.2 hM1 (hv (3, ai y_i) (List.mem_of_getElem? (i := 2) rfl)) hJ _ (fun m2 z_i M2 hm hJ2 => ⟨m2, hm, z_i, rfl, hJ2⟩)
theorem cg0_asksBook {rs : List (Nat × Nat)} {lvl : Nat} (h : 2 < lvl) : CG RX0 cl8 (sh8 rs) tyl8 Nws8 lvl 1 373 2 (sp0_asksBook rs) := cg_VH (k := 0) (n' := 1) nws8_ok spR_mono (fun avs M Q h => (spR_un _ _ _ h).elim fun xs hx => rcvT hx) m0_asksBook h rfl (by decide) rfl rfl ⟨rfl, by decide, by decide, rfl⟩ q1142 q1144 qs45 q128 q1145
theorem so_ranX {V : Vy} {C : Cf} {M1 : Mm} {s : Sl} (hb : bookOK V s) (h : ranX V C M1) : ∀ i : Nat, i < (s.1.2 / 3).toNat → M1 28 (3 * (s.2 (3 * i + 1)).toNat + (s.2 (3 * i)).toNat) = sgP V C (s.2 (3 * i + 1)).toNat (s.2 (3 * i)).toNat := by
  intro i hi
  obtain ⟨⟨y1, y2⟩, ⟨y3, y4⟩, -⟩ := hb.1.2 i hi
  rw [(h.2.2.1 _ _ (by omega) (by omega)).2.2.2.1]
  exact sag_fst ((sim_run _).1 _)
def P0_isSo (rs : List (Nat × Nat)) (s : Int) (M : Mm) : Prop := okY (vX M) ∧ okCf (vX M) (cX M) ∧ baseI M ∧ okSX rs M ∧ (0 ≤ s ∧ s ≤ 3) ∧ rowOK rs (M (8 + s.toNat) 0) ∧ bookOK (vX M) (slX rs M s.toNat)
def R0_isSo (rs : List (Nat × Nat)) (s : Int) (M : Mm) (v : Int) (M1 : Mm) : Prop := frm tRows M M1 ∧ (wX M M1 ∧ ∀ j, ¬ j = 8 → M1 0 j = M 0 j) ∧ ranX (vX M) (nC (vX M) (cX M)) M1 ∧ v = b01 (soP (sgP (vX M) (nC (vX M) (cX M))) (slX rs M s.toNat))
def sp0_isSo (rs : List (Nat × Nat)) : Spec := spR true [0] 1 (fun x M => P0_isSo rs (x 0) M) (fun x M v M1 => R0_isSo rs (x 0) M v M1)
theorem c0_isSo {rs : List (Nat × Nat)} {s : Int} {M : Mm} {Q : Option AV → Mm → Prop} : sp0_isSo rs [ar 0, ai s] M Q = (P0_isSo rs s M ∧ ∀ (v : Int) (M1 : Mm), R0_isSo rs s M v M1 → Q (some (ai v)) M1) := rfl
def cs0_isSo (rs : List (Nat × Nat)) : List (Nat × Nat × Nat × Spec) := [(253, 1, 1, (sp0_lays rs)), (324, 1, 1, (sp6_size rs)), (358, 1, 3, (sp0_number rs))]
def J0_isSo_6 (rs : List (Nat × Nat)) (s : Int) (M : Mm) (m : Nat) (s_ : Int) (i : Int) (M1 : Mm) : Prop := s = s_ ∧ (frm tRows M M1 ∧ (wX M M1 ∧ ∀ j, ¬ j = 8 → M1 0 j = M 0 j) ∧ ranX (vX M) (nC (vX M) (cX M)) M1) ∧ ∃ a : Nat, i = 3 * (a : Int) ∧ 3 * (a : Int) ≤ (slX rs M s.toNat).1.2 ∧ (∀ j : Nat, j < a → sgP (vX M) (nC (vX M) (cX M)) ((slX rs M s.toNat).2 (3 * j + 1)).toNat ((slX rs M s.toNat).2 (3 * j)).toNat = (slX rs M s.toNat).2 (3 * j + 2)) ∧ m = 20 - a
set_option maxHeartbeats 4000000 in
set_option maxRecDepth 100000 in
theorem in0_isSo {rs : List (Nat × Nat)} {s : Int} {M : Mm} {Q : Option AV → Mm → Prop} (hM : okM (sh8 rs) M) (h_s : i32 s) (hP : P0_isSo rs s M) (hQ : ∀ (v : Int) (M1 : Mm), R0_isSo rs s M v M1 → Q (some (ai v)) M1) (I_6 : List AV → Mm → Prop) (hI_6 : ∀ (m_ : Nat) (y_s_ : Int) (y_i : Int) (M2 : Mm), J0_isSo_6 rs s M m_ y_s_ y_i M2 → I_6 [ar 0, ai y_s_, ai y_i] M2) : wp (tb0 (csL (cs0_isSo rs))) (sh8 rs) 3 2 cX0_isSo [(6, [0, 1, 2], I_6)] Q 400 0 [(0, ar 0), (1, ai s)] [] M := by
  obtain ⟨hY, hC, hB, hS, hs, hr, hk⟩ := id hP
  simp only [e_wp dX0_isSo_0 rfl, e_wp dX0_isSo_1 rfl, e_wp dX0_isSo_4 rfl, e_wp dX0_isSo_5 rfl, e_wp dX0_isSo_6 rfl, e_wp dX0_isSo_7 rfl, e_wp dX0_isSo_8 rfl, e_wp dX0_isSo_11 rfl, e_wp dX0_isSo_12 rfl, e_wp dX0_isSo_13 rfl, e_wp dX0_isSo_16 rfl, e_wp dX0_isSo_19 rfl, e_wp dX0_isSo_20 rfl, e_wp dX0_isSo_23 rfl, e_wp dX0_isSo_24 rfl, e_wp dX0_isSo_25 rfl, e_wp dX0_isSo_26 rfl, e_wp dX0_isSo_27 rfl, e_wp dX0_isSo_28 rfl, e_wp dX0_isSo_29 rfl, e_wp dX0_isSo_32 rfl, e_wp dX0_isSo_33 rfl, e_wp dX0_isSo_34 rfl, e_wp dX0_isSo_35 rfl, e_wp dX0_isSo_36 rfl, e_wp dX0_isSo_39 rfl, e_wp dX0_isSo_40 rfl, e_wp dX0_isSo_41 rfl, e_wp dX0_isSo_42 rfl, e_wp dX0_isSo_43 rfl, e_wp dX0_isSo_44 rfl, e_wp dX0_isSo_45 rfl, e_wp dX0_isSo_46 rfl, e_wp dX0_isSo_49 rfl, e_wp dX0_isSo_52 rfl, e_wp dX0_isSo_53 rfl, e_wp dX0_isSo_54 rfl, e_wp dX0_isSo_57 rfl, e_wp dX0_isSo_60 rfl, e_wp dX0_isSo_61 rfl, c0_lays, cs0_isSo, g0_110, c6_size, P6_size, V6_size, g0_92, c0_number, P0_number, V0_number, a8_13, w8_13, a8_14, w8_14, a8_15, w8_15, a8_16, w8_16, a8_17, w8_17, a8_18, w8_18, a8_19, w8_19, a8_20, w8_20, a8_21, w8_21, a8_22, w8_22, a8_23, w8_23, a8_24, w8_24, a8_25, w8_25, a8_26, w8_26, a8_27, w8_27, a8_28, w8_28, a8_29, w8_29, a8_30, w8_30, a8_31, w8_31, a8_32, w8_32, a8_33, w8_33, a8_34, w8_34, a8_35, w8_35, a8_36, w8_36, a8_37, w8_37, a8_38, w8_38, a8_39, w8_39, a8_40, w8_40, a8_12, w8_12, a8_6, a8_7, e_iconst, e_bipush, e_sipush, e_lconst_0, e_lconst_1, e_iload, e_iload_0, e_iload_1, e_iload_2, e_iload_3, e_lload, e_lload_0, e_lload_1, e_lload_2, e_lload_3, e_aload, e_aload_0, e_aload_1, e_aload_2, e_aload_3, e_istore, e_istore_0, e_istore_1, e_istore_2, e_istore_3, e_astore, e_astore_0, e_astore_1, e_astore_2, e_astore_3, e_lstore, e_lstore_0, e_lstore_1, e_lstore_2, e_lstore_3, e_iinc, e_iadd, e_isub, e_imul, e_ladd, e_lsub, e_lmul, e_idiv, e_irem, e_ldiv, e_lrem, e_ineg, e_lneg, e_iand, e_ior, e_ixor, e_ishl, e_ishr, e_iushr, e_lcmp, e_i2l, e_l2i, e_i2b, e_i2s, e_dup_i, e_dup_r, e_pop_i, e_pop_r, e_dup2_l, e_dup2_ir, e_dup2_ii, e_ifeq, e_ifne, e_iflt, e_ifge, e_ifgt, e_ifle, e_iceq, e_icne, e_iclt, e_icge, e_icgt, e_icle, e_goto, e_switch, e_invokevirtual, e_invokestatic, e_invokespecial, e_ret0, e_ret1, e_ret2, e_ret3, ldI_s, ldL_s, ldR_s, clO_s, ctP_s, ctS_s, mgo_0, mgo_s, pjc_s, pj_0, pj_s, lk_s, rm1_0, rm1_i, rm1_r, rm1_l, rm2_0, rm2_i, rm2_r, rm2_l, csL_s, lc_lt, lc_ge, lc_gt, lc_le, lc_eq, b01_0, b01_1, b01_01, b01_n, up2_o, up2_s, up2_u, ne_eq, reduceCtorEq, Nat.reduceAdd, Nat.reduceEqDiff, Nat.reduceLT, Nat.reduceLeDiff, Int.reduceLE, Int.reduceLT, Int.reduceAdd, Int.reduceNeg, Int.reduceMul, Int.reduceSub, Int.reduceEq, Int.reduceToNat, Int.reduceNatCast, Int.cast_ofNat_Int, ↓reduceIte, and_self, List.drop_succ_cons, List.drop_zero, List.take_succ_cons, List.take_zero, List.length_cons, List.length_nil, List.reverse_cons, List.reverse_nil, List.nil_append, List.cons_append, Option.toList, true_and, and_true, or_false, false_or, or_true, true_or, forall_const, Classical.not_not, not_false_eq_true, not_true_eq_false, false_implies, true_implies, implies_true, imp_self]
  exact ⟨⟨hY, hC, hB⟩, fun M1 hR => hI_6 (20 - 0) _ _ _ ⟨rfl, hR, 0, rfl, hk.2.1, fun j hj => by omega, rfl⟩⟩
set_option maxHeartbeats 4000000 in
set_option maxRecDepth 100000 in
theorem at0_isSo_6 {rs : List (Nat × Nat)} {s : Int} {M : Mm} {Q : Option AV → Mm → Prop} (hM : okM (sh8 rs) M) (h_s : i32 s) (hP : P0_isSo rs s M) (hQ : ∀ (v : Int) (M1 : Mm), R0_isSo rs s M v M1 → Q (some (ai v)) M1) {m : Nat} {s_ i : Int} {M1 : Mm} (hM1 : okM (sh8 rs) M1) (h_s_ : i32 s_) (h_i : i32 i) (hJ : J0_isSo_6 rs s M m s_ i M1) (I_6 : List AV → Mm → Prop) (hI_6 : ∀ (m_ : Nat) (y_s_ : Int) (y_i : Int) (M2 : Mm), m_ < m → J0_isSo_6 rs s M m_ y_s_ y_i M2 → I_6 [ar 0, ai y_s_, ai y_i] M2) : wp (tb0 (csL (cs0_isSo rs))) (sh8 rs) 3 2 cX0_isSo [(6, [0, 1, 2], I_6)] Q 400 6 [(0, ar 0), (1, ai s_), (2, ai i)] [] M1 := by
  obtain ⟨rfl, ⟨z1, z2, z3⟩, a, rfl, ha, hb, rfl⟩ := hJ
  obtain ⟨hY, hC, hB, hS, hs, hr, hk⟩ := id hP
  have hB1 : baseI M1 := base_f z1 (by decide) (by decide) hB
  have hf := fval_s hB1 hs
  have e80 : M1 (8 + s.toNat) 0 = M (8 + s.toNat) 0 := congrFun (z1 _ (by simp only [List.mem_cons, List.not_mem_nil, or_false]; omega)) 0
  have hr41 := hr.1
  have er : M1 (M (8 + s.toNat) 0).toNat = M (M (8 + s.toNat) 0).toNat := z1 _ (by simp only [List.mem_cons, List.not_mem_nil, or_false]; omega)
  have hrn := (sh8_row hr).2.2
  have en := n_slX hr
  have hso := so_ranX hk z3
  obtain ⟨hk1, hk2, hk3, hn3, hn4⟩ := id hk
  have hm3 : (slX rs M s.toNat).1.2 = 3 * ((slX rs M s.toNat).1.2 / 3) := by
    have := Int.tmod_eq_emod_of_nonneg (a := (slX rs M s.toNat).1.2) (b := 3) (by omega)
    have := hk1.1
    omega
  have i0 : (3 * (a : Int)).toNat = 3 * a := by omega
  have i1 : (3 * (a : Int) + 1).toNat = 3 * a + 1 := by omega
  have i2 : (3 * (a : Int) + 2).toNat = 3 * a + 2 := by omega
  have hslp : slP rs ((8 + s.toNat : Nat) : Int) M1 := ⟨by omega, by rw [Int.toNat_natCast, e80]; exact hr⟩
  simp only [e_wp dX0_isSo_0 rfl, e_wp dX0_isSo_1 rfl, e_wp dX0_isSo_4 rfl, e_wp dX0_isSo_5 rfl, e_wp dX0_isSo_6 rfl, e_wp dX0_isSo_7 rfl, e_wp dX0_isSo_8 rfl, e_wp dX0_isSo_11 rfl, e_wp dX0_isSo_12 rfl, e_wp dX0_isSo_13 rfl, e_wp dX0_isSo_16 rfl, e_wp dX0_isSo_19 rfl, e_wp dX0_isSo_20 rfl, e_wp dX0_isSo_23 rfl, e_wp dX0_isSo_24 rfl, e_wp dX0_isSo_25 rfl, e_wp dX0_isSo_26 rfl, e_wp dX0_isSo_27 rfl, e_wp dX0_isSo_28 rfl, e_wp dX0_isSo_29 rfl, e_wp dX0_isSo_32 rfl, e_wp dX0_isSo_33 rfl, e_wp dX0_isSo_34 rfl, e_wp dX0_isSo_35 rfl, e_wp dX0_isSo_36 rfl, e_wp dX0_isSo_39 rfl, e_wp dX0_isSo_40 rfl, e_wp dX0_isSo_41 rfl, e_wp dX0_isSo_42 rfl, e_wp dX0_isSo_43 rfl, e_wp dX0_isSo_44 rfl, e_wp dX0_isSo_45 rfl, e_wp dX0_isSo_46 rfl, e_wp dX0_isSo_49 rfl, e_wp dX0_isSo_52 rfl, e_wp dX0_isSo_53 rfl, e_wp dX0_isSo_54 rfl, e_wp dX0_isSo_57 rfl, e_wp dX0_isSo_60 rfl, e_wp dX0_isSo_61 rfl, c0_lays, cs0_isSo, g0_110, c6_size, P6_size, V6_size, g0_92, c0_number, P0_number, V0_number, a8_13, w8_13, a8_14, w8_14, a8_15, w8_15, a8_16, w8_16, a8_17, w8_17, a8_18, w8_18, a8_19, w8_19, a8_20, w8_20, a8_21, w8_21, a8_22, w8_22, a8_23, w8_23, a8_24, w8_24, a8_25, w8_25, a8_26, w8_26, a8_27, w8_27, a8_28, w8_28, a8_29, w8_29, a8_30, w8_30, a8_31, w8_31, a8_32, w8_32, a8_33, w8_33, a8_34, w8_34, a8_35, w8_35, a8_36, w8_36, a8_37, w8_37, a8_38, w8_38, a8_39, w8_39, a8_40, w8_40, a8_12, w8_12, a8_6, a8_7, e_iconst, e_bipush, e_sipush, e_lconst_0, e_lconst_1, e_iload, e_iload_0, e_iload_1, e_iload_2, e_iload_3, e_lload, e_lload_0, e_lload_1, e_lload_2, e_lload_3, e_aload, e_aload_0, e_aload_1, e_aload_2, e_aload_3, e_istore, e_istore_0, e_istore_1, e_istore_2, e_istore_3, e_astore, e_astore_0, e_astore_1, e_astore_2, e_astore_3, e_lstore, e_lstore_0, e_lstore_1, e_lstore_2, e_lstore_3, e_iinc, e_iadd, e_isub, e_imul, e_ladd, e_lsub, e_lmul, e_idiv, e_irem, e_ldiv, e_lrem, e_ineg, e_lneg, e_iand, e_ior, e_ixor, e_ishl, e_ishr, e_iushr, e_lcmp, e_i2l, e_l2i, e_i2b, e_i2s, e_dup_i, e_dup_r, e_pop_i, e_pop_r, e_dup2_l, e_dup2_ir, e_dup2_ii, e_ifeq, e_ifne, e_iflt, e_ifge, e_ifgt, e_ifle, e_iceq, e_icne, e_iclt, e_icge, e_icgt, e_icle, e_goto, e_switch, e_invokevirtual, e_invokestatic, e_invokespecial, e_ret0, e_ret1, e_ret2, e_ret3, ldI_s, ldL_s, ldR_s, clO_s, ctP_s, ctS_s, mgo_0, mgo_s, pjc_s, pj_0, pj_s, lk_s, rm1_0, rm1_i, rm1_r, rm1_l, rm2_0, rm2_i, rm2_r, rm2_l, csL_s, lc_lt, lc_ge, lc_gt, lc_le, lc_eq, b01_0, b01_1, b01_01, b01_n, up2_o, up2_s, up2_u, ne_eq, reduceCtorEq, Nat.reduceAdd, Nat.reduceEqDiff, Nat.reduceLT, Nat.reduceLeDiff, Int.reduceLE, Int.reduceLT, Int.reduceAdd, Int.reduceNeg, Int.reduceMul, Int.reduceSub, Int.reduceEq, Int.reduceToNat, Int.reduceNatCast, Int.cast_ofNat_Int, ↓reduceIte, and_self, List.drop_succ_cons, List.drop_zero, List.take_succ_cons, List.take_zero, List.length_cons, List.length_nil, List.reverse_cons, List.reverse_nil, List.nil_append, List.cons_append, Option.toList, true_and, and_true, or_false, false_or, or_true, true_or, forall_const, Classical.not_not, not_false_eq_true, not_true_eq_false, false_implies, true_implies, implies_true, imp_self, hf, Int.toNat_natCast, i0, i1, i2]
  rw [e80, er]
  refine ⟨by omega, hslp, fun q => ?_, fun q => ?_⟩
  · refine hQ _ _ ⟨z1, z2, z3, (b01_t fun j hj => hb j ?_).symm⟩
    have : j < ((slX rs M s.toNat).1.2 / 3).toNat := hj
    omega
  · have w2 := hk1.2 a (by omega)
    have w3 := hso a (by omega)
    unfold tripP at w2
    rw [slX_k hr (by omega), slX_k hr (by omega)] at w3
    rw [slX_k hr (by omega), slX_k hr (by omega), slX_k hr (by omega)] at w2
    obtain ⟨⟨y1, y2⟩, ⟨y3, y4⟩, y5, y6⟩ := w2
    generalize hx0 : M (M (8 + s.toNat) 0).toNat (3 * a) = x0 at *
    generalize hx1 : M (M (8 + s.toNat) 0).toNat (3 * a + 1) = x1 at *
    generalize hx2 : M (M (8 + s.toNat) 0).toNat (3 * a + 2) = x2 at *
    rw [bm_id (x := x1) (by omega) (by omega), bm_id (x := x0) (by omega) (by omega), bm_id (x := x2) (by omega) (by omega), show (3 * x1 + x0).toNat = 3 * x1.toNat + x0.toNat by omega, w3]
    refine ⟨by omega, ⟨hB1, hs, hr, by omega, by omega⟩, by omega, ⟨hB1, hs, hr, by omega, by omega⟩, by omega, by omega, by omega, ⟨hB1, hs, hr, by omega, by omega⟩, fun z => ⟨by omega, ?_⟩, fun z => ?_⟩
    · refine hI_6 (20 - (a + 1)) _ _ _ (by omega) ⟨rfl, ⟨z1, z2, z3⟩, a + 1, by omega, by omega, fun j hj => ?_, rfl⟩
      by_cases e : j = a
      · subst e
        rw [slX_k hr (by omega), slX_k hr (by omega), slX_k hr (by omega), hx0, hx1, hx2]
        exact z
      · exact hb j (by omega)
    · refine hQ _ _ ⟨z1, z2, z3, (b01_f fun w => z ?_).symm⟩
      have w4 := w a (by show a < ((slX rs M s.toNat).1.2 / 3).toNat; omega)
      rw [slX_k hr (by omega), slX_k hr (by omega), slX_k hr (by omega), hx0, hx1, hx2] at w4
      exact w4
set_option maxHeartbeats 4000000 in
set_option maxRecDepth 100000 in
theorem m0_isSo {rs : List (Nat × Nat)} : MOK cl8 (sh8 rs) tyl8 Nws8 6 yX0_isSo cX0_isSo 3 (some .boolean) (sp0_isSo rs) := by
  refine mok_of (own := RX0) (tb := tb0 (csL (cs0_isSo rs))) (rt := 2) (fuel := 400) (fun avs M Q => [(6, [0, 1, 2], fun m_ vs M1 => ∃ y_s_ : Int, ∃ y_i : Int, vs = [ar 0, ai y_s_, ai y_i] ∧ J0_isSo_6 rs (pa true [0] avs 0) M m_ y_s_ y_i M1)]) (by decide) rfl nws8_ok (tbOK0 _) rfl (csL_all ?_) ?_ ?_ ?_
  · intro q hq
    simp only [cs0_isSo, List.mem_cons, List.not_mem_nil, or_false] at hq
    rcases hq with rfl | rfl | rfl
    · exact cg0_lays (by decide)
    · exact cg6_size (by decide)
    · exact cg0_number (by decide)
  · intro avs M Q hsp
    obtain ⟨xs, hx⟩ := spR_un _ _ _ hsp
    obtain ⟨e, hl⟩ := unA_mkT hx
    obtain ⟨s, rfl⟩ := len1 hl
    have e : avs = [ar 0, ai s] := e
    subst e
    simp [szL, isL]
  · intro avs M Q hM hav hsp
    obtain ⟨xs, hx⟩ := spR_un _ _ _ hsp
    obtain ⟨e, hl⟩ := unA_mkT hx
    obtain ⟨s, rfl⟩ := len1 hl
    have e : avs = [ar 0, ai s] := e
    subst e
    exact in0_isSo hM (hav (ai s) (by simp)) hsp.1 hsp.2 _ (fun m_ y_s_ y_i M2 hJ => ⟨m_, y_s_, y_i, rfl, hJ⟩)
  · intro avs M Q hM hav hsp q hq m_ vs M1 hM1 hv hJ
    obtain ⟨xs, hx⟩ := spR_un _ _ _ hsp
    obtain ⟨e, hl⟩ := unA_mkT hx
    obtain ⟨s, rfl⟩ := len1 hl
    have e : avs = [ar 0, ai s] := e
    subst e
    simp only [List.mem_cons, List.not_mem_nil, or_false] at hq
    rcases hq with rfl
    · obtain ⟨y_s_, y_i, rfl, hJ⟩ := hJ
      exact at0_isSo_6 hM (hav (ai s) (by simp)) hsp.1 hsp.2 hM1 (hv (1, ai y_s_) (List.mem_of_getElem? (i := 1) rfl)) (hv (2, ai y_i) (List.mem_of_getElem? (i := 2) rfl)) hJ _ (fun m2 z_s_ z_i M2 hm hJ2 => ⟨m2, hm, z_s_, z_i, rfl, hJ2⟩)
theorem cg0_isSo {rs : List (Nat × Nat)} {lvl : Nat} (h : 6 < lvl) : CG RX0 cl8 (sh8 rs) tyl8 Nws8 lvl 1 370 2 (sp0_isSo rs) := cg_V (sg := [0]) nws8_ok spR_mono spR_un m0_isSo h rfl (by decide) rfl rfl ⟨rfl, by decide, by decide, rfl⟩ q1151 q1153 qs47 q128 q1154
