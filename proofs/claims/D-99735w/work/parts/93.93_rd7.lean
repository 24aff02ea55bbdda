/-! The reader: a whole valley -/
def outZ (y : Vy × Ps) (r : Option AV) (M1 : Mm) : Prop := match y with
  | (V, .inr _) => r = some (ar 1) ∧ vZ M1 = V
  | (_, .inl e) => r = some an ∧ gE e M1
theorem outZ_n {V : Vy} {p : Nat} {r : Option AV} {M1 : Mm} : outZ (V, .inr p) r M1 = (r = some (ar 1) ∧ vZ M1 = V) := rfl
theorem outZ_e {V : Vy} {e : Int × Int} {r : Option AV} {M1 : Mm} : outZ (V, .inl e) r M1 = (r = some an ∧ gE e M1) := rfl
theorem end_y {T : Nat → Int} {n q : Nat} (h : (tkP T n q).1 = 3) : endS T n (.inr q) = .inr (tkP T n q).2.2 := if_pos h
theorem end_n {T : Nat → Int} {n q : Nat} (h : ¬ (tkP T n q).1 = 3) : endS T n (.inr q) = .inl (1, ((tkP T n q).2.1 : Int)) := if_neg h
/-- the reading of a line has failed -/
theorem rd_fail {T : Nat → Int} {n p k : Nat} {V : Vy} {e : Int × Int} (h : ¬ (tkP T n p).1 = 0) (he : (lineE T n V (.inr p)).2 = .inl e) : ∃ W, readS T n (k + 1) V (.inr p) = (W, .inl e) := by
  rw [read_s h, he]
  exact ⟨_, read_inl k⟩
theorem zdR_tk {M M1 : Mm} {q : Nat} (h : zat M M1 q) : M1 0 5 = 320 + (tkP (M 3) (zN M) q).1 ∧ M1 0 3 = ((tkP (M 3) (zN M) q).2.1 : Int) ∧ zTk M1 q = tkP (M 3) (zN M) q := by
  have t := zkV_T h.1
  have e : zTk M1 q = tkP (M 3) (zN M) q := by
    show tkP (M1 3) (zN M1) q = _
    rw [t.1, t.2.1]
  have h5 := h.2.2.2.1
  have h3 := h.2.2.2.2.1
  rw [e] at h5 h3
  exact ⟨h5, h3, e⟩
def PR_read (M : Mm) : Prop := zI M ∧ zdR M 0 ∧ vZ M = fun _ _ => 0
def RR_read (M : Mm) (r : Option AV) (M1 : Mm) : Prop := zkV M M1 ∧ outZ (readA (M 3) (zN M)) r M1
def spR_read : Spec := spX true [] (fun x M => PR_read M) (fun x M r M1 => RR_read M r M1)
theorem cR_read {M : Mm} {Q : Option AV → Mm → Prop} : spR_read [ar 0] M Q = (PR_read M ∧ ∀ (r : Option AV) (M1 : Mm), RR_read M r M1 → Q r M1) := rfl
def csR_read : List (Nat × Nat × Nat × Spec) := []
def xsR_read : List (Nat × Nat × Nat × Spec) := [(290, 0, 0, spTok 0), (750, 0, 0, spTok 3), (4, 3, 2, spAcmp true), (1905, 1, 1, spR_first), (1935, 1, 1, spR_line), (385, 1, 1, spR_next), (1035, 4, 2, spWrong)]
def JR_read_0 (M : Mm) (m : Nat) (M1 : Mm) : Prop := ∃ (k p : Nat) (V : Vy), readA (M 3) (zN M) = readS (M 3) (zN M) k V (.inr p) ∧ zat M M1 p ∧ vZ M1 = V ∧ rdI (zN M) V (.inr p) ∧ zN M + 1 ≤ k + p ∧ m = 2 * (zN M + 1 - p)
def JR_read_31 (M : Mm) (m : Nat) (M1 : Mm) : Prop := ∃ (k p q : Nat) (V : Vy), readA (M 3) (zN M) = readS (M 3) (zN M) (k + 1) V (.inr p) ∧ zat M M1 q ∧ (bodyS (M 3) (zN M) V (.inr p)).2 = .inr q ∧ vZ M1 = (bodyS (M 3) (zN M) V (.inr p)).1 ∧ rdI (zN M) V (.inr p) ∧ zN M + 1 ≤ k + 1 + p ∧ ¬ (tkP (M 3) (zN M) p).1 = 0 ∧ m = 2 * (zN M + 1 - p) - 1
set_option maxHeartbeats 4000000 in
set_option maxRecDepth 100000 in
theorem atR_read_0 {M : Mm} {Q : Option AV → Mm → Prop} (hM : okM shR M) (hP : PR_read M) (hQ : ∀ (r : Option AV) (M1 : Mm), RR_read M r M1 → Q r M1) {m : Nat} {M1 : Mm} (hM1 : okM shR M1) (hJ : JR_read_0 M m M1) (I_0 : List AV → Mm → Prop) (hI_0 : ∀ (m_ : Nat) (M2 : Mm), m_ < m → JR_read_0 M m_ M2 → I_0 [ar 0] M2) (I_31 : List AV → Mm → Prop) (hI_31 : ∀ (m_ : Nat) (M2 : Mm), m_ < m → JR_read_31 M m_ M2 → I_31 [ar 0] M2) : wpx (tbR (csL csR_read)) (csL xsR_read) shR 1 4 cX8_read [(0, [0], I_0), (31, [0], I_31)] (retX Q) (fun _ M1 => Q (some an) M1) 400 false 0 [(0, ar 0)] [] M1 := by
  obtain ⟨k, p, V, hA, z1, hV, hI, hk, rfl⟩ := hJ
  obtain ⟨h1, h2, h3⟩ := id hP
  obtain ⟨t5, t3, te⟩ := zdR_tk z1
  have hg := zdR_rg z1.2.2
  have hf := fval_p (x := M1 0 5) (by omega)
  have tT := zkV_T z1.1
  have hpn : p ≤ zN M := hI.2.2.1
  have v8 : M1 1 3 = V 0 8 := by rw [← hV]; rfl
  have hc : cntZ M1 := by rw [cntZ_V, hV]; exact hI.1
  simp only [e_wpy (k := 9) dX8_read_0 rfl rfl rfl, e_wpy (k := 9) dX8_read_1 rfl rfl rfl, e_wpy (k := 290) dX8_read_4 rfl rfl rfl, e_wpy (k := 4) dX8_read_7 rfl rfl rfl, e_wpy (k := 9) dX8_read_10 rfl rfl rfl, e_wpy (k := 9) dX8_read_11 rfl rfl rfl, e_wpy (k := 9) dX8_read_14 rfl rfl rfl, e_wpy (k := 9) dX8_read_17 rfl rfl rfl, e_wpy (k := 9) dX8_read_20 rfl rfl rfl, e_wpy (k := 1905) dX8_read_21 rfl rfl rfl, e_wpy (k := 9) dX8_read_24 rfl rfl rfl, e_wpy (k := 9) dX8_read_27 rfl rfl rfl, e_wpy (k := 1935) dX8_read_28 rfl rfl rfl, e_wpy (k := 9) dX8_read_31 rfl rfl rfl, e_wpy (k := 9) dX8_read_32 rfl rfl rfl, e_wpy (k := 750) dX8_read_35 rfl rfl rfl, e_wpy (k := 4) dX8_read_38 rfl rfl rfl, e_wpy (k := 9) dX8_read_41 rfl rfl rfl, e_wpy (k := 9) dX8_read_42 rfl rfl rfl, e_wpy (k := 1035) dX8_read_43 rfl rfl rfl, e_wpy (k := 9) dX8_read_46 rfl rfl rfl, e_wpy (k := 9) dX8_read_47 rfl rfl rfl, e_wpy (k := 385) dX8_read_48 rfl rfl rfl, e_wpy (k := 9) dX8_read_51 rfl rfl rfl, e_wpy (k := 9) dX8_read_52 rfl rfl rfl, e_wpy (k := 9) dX8_read_55 rfl rfl rfl, e_wpy (k := 9) dX8_read_56 rfl rfl rfl, e_wpy (k := 9) dX8_read_59 rfl rfl rfl, e_wpy (k := 9) dX8_read_60 rfl rfl rfl, e_wpy (k := 9) dX8_read_61 rfl rfl rfl, e_wpy (k := 9) dX8_read_64 rfl rfl rfl, e_wpy (k := 9) dX8_read_67 rfl rfl rfl, e_wpy (k := 9) dX8_read_68 rfl rfl rfl, e_wpx dX8_read_71 rfl, xoff_a, ex_null_n, ex_null_r, ex_nonn_n, ex_nonn_r, ex_aret, xel_n, xel_s, xgo_0, xgo_1x, xgo_1v, xgo_1i, xgo_1l, xgo_1r, xgo_2, xgo_3, xgo_4, xgo_5x, xgo_5v, xgo_5i, xgo_5l, xgd_5, xgd_0, xgd_1, xgd_2, xgd_3, xgd_4, ath_y, xct_f, xct_t, xna_f, csL_n, Nat.reduceMul, retX_i, retX_l, retX_r, retX_v, cTok, cAeq, cR_first, PR_first, cR_line, PR_line, cR_next, PR_next, cWrong, xsR_read, dX8_read_46, gR_35, gR_25, gR_187, csR_read, pR_187, e_iconst, e_bipush, e_sipush, e_lconst_0, e_lconst_1, e_iload, e_iload_0, e_iload_1, e_iload_2, e_iload_3, e_lload, e_lload_0, e_lload_1, e_lload_2, e_lload_3, e_aload, e_aload_0, e_aload_1, e_aload_2, e_aload_3, e_istore, e_istore_0, e_istore_1, e_istore_2, e_istore_3, e_astore, e_astore_0, e_astore_1, e_astore_2, e_astore_3, e_lstore, e_lstore_0, e_lstore_1, e_lstore_2, e_lstore_3, e_iinc, e_iadd, e_isub, e_imul, e_ladd, e_lsub, e_lmul, e_idiv, e_irem, e_ldiv, e_lrem, e_ineg, e_lneg, e_iand, e_ior, e_ixor, e_ishl, e_ishr, e_iushr, e_lcmp, e_i2l, e_l2i, e_i2b, e_i2s, e_dup_i, e_dup_r, e_pop_i, e_pop_r, e_dup2_l, e_dup2_ir, e_dup2_ii, e_ifeq, e_ifne, e_iflt, e_ifge, e_ifgt, e_ifle, e_iceq, e_icne, e_iclt, e_icge, e_icgt, e_icle, e_goto, e_switch, e_invokevirtual, e_invokestatic, e_invokespecial, e_ret0, e_ret1, e_ret2, e_ret3, ldI_s, ldL_s, ldR_s, clO_s, ctP_s, ctS_s, mgo_0, mgo_s, pjc_s, pj_0, pj_s, lk_s, rm1_0, rm1_i, rm1_r, rm1_l, rm2_0, rm2_i, rm2_r, rm2_l, csL_s, lc_lt, lc_ge, lc_gt, lc_le, lc_eq, b01_0, b01_1, b01_01, b01_n, up2_o, up2_s, up2_u, ne_eq, reduceCtorEq, Nat.reduceAdd, Nat.reduceEqDiff, Nat.reduceLT, Nat.reduceLeDiff, Int.reduceLE, Int.reduceLT, Int.reduceAdd, Int.reduceNeg, Int.reduceMul, Int.reduceSub, Int.reduceEq, Int.reduceToNat, Int.reduceNatCast, Int.cast_ofNat_Int, ↓reduceIte, and_self, List.drop_succ_cons, List.drop_zero, List.take_succ_cons, List.take_zero, List.length_cons, List.length_nil, List.reverse_cons, List.reverse_nil, List.nil_append, List.cons_append, Option.toList, true_and, and_true, or_false, false_or, or_true, true_or, forall_const, Classical.not_not, not_false_eq_true, not_true_eq_false, false_implies, true_implies, implies_true, imp_self, hf]
  refine ⟨by omega, fun q => ?_, fun q => ?_⟩
  · have e0 : (tkP (M 3) (zN M) p).1 = 0 := by omega
    refine hQ _ _ ⟨z1.1, ?_⟩
    rw [hA, read_end e0, outZ_n]
    exact ⟨rfl, hV⟩
  · have e0 : ¬ (tkP (M 3) (zN M) p).1 = 0 := by omega
    obtain ⟨k, rfl⟩ : ∃ k', k = k' + 1 := ⟨k - 1, by omega⟩
    have bad : ∀ (M2 : Mm) (e : Int × Int), zkV M1 M2 → (bodyS (M 3) (zN M) V (.inr p)).2 = .inl e → gE e M2 → Q (some an) M2 := by
      intro M2 e hv hy g
      refine hQ _ _ ⟨zkV_tr z1.1 hv, ?_⟩
      obtain ⟨W, hW⟩ := rd_fail (k := k) e0 (by show endS (M 3) (zN M) (bodyS (M 3) (zN M) V (.inr p)).2 = .inl e; rw [hy]; rfl)
      rw [hA, hW, outZ_e]
      exact ⟨rfl, g⟩
    have good : ∀ (M2 : Mm) (q : Nat), zkV M1 M2 → (bodyS (M 3) (zN M) V (.inr p)).2 = .inr q → zdR M2 q → vZ M2 = (bodyS (M 3) (zN M) V (.inr p)).1 → I_31 [ar 0] M2 := by
      intro M2 q2 hv hy hz hV2
      exact hI_31 _ _ (by omega) ⟨k, p, q2, V, hA, ⟨zkV_tr z1.1 hv, (zkV_T hv).2.2 z1.2.1, hz⟩, hy, hV2, hI, hk, e0, rfl⟩
    refine ⟨fun q2 => ⟨p, ⟨z1.2.1, z1.2.2, hc⟩, fun r M2 hR => ?_⟩, fun q2 => ⟨p, ⟨z1.2.1, z1.2.2⟩, fun r M2 hR => ?_⟩⟩
    · obtain ⟨hv, ho, hw⟩ := hR
      have hb : bodyS (M 3) (zN M) V (.inr p) = lineS (M 3) (zN M) V (.inr p) := if_neg (by omega)
      rw [tT.1, tT.2.1, hV, ← hb] at ho hw
      cases hy : (bodyS (M 3) (zN M) V (.inr p)).2 with
      | inl e =>
        rw [hy] at ho
        obtain ⟨rfl, g⟩ := ho
        simp only [xgo_1x]
        exact bad M2 e hv hy g
      | inr q5 =>
        rw [hy] at ho
        obtain ⟨rfl, g⟩ := ho
        simp only [e_wpy (k := 9) dX8_read_31 rfl rfl rfl, xoff_a, ex_null_n, ex_null_r, ex_nonn_n, ex_nonn_r, ex_aret, xel_n, xel_s, xgo_0, xgo_1x, xgo_1v, xgo_1i, xgo_1l, xgo_1r, xgo_2, xgo_3, xgo_4, xgo_5x, xgo_5v, xgo_5i, xgo_5l, xgd_5, xgd_0, xgd_1, xgd_2, xgd_3, xgd_4, ath_y, xct_f, xct_t, xna_f, csL_n, Nat.reduceMul, retX_i, retX_l, retX_r, retX_v, cTok, cAeq, cR_first, PR_first, cR_line, PR_line, cR_next, PR_next, cWrong, xsR_read, dX8_read_46, gR_35, gR_25, gR_187, csR_read, pR_187, e_iconst, e_bipush, e_sipush, e_lconst_0, e_lconst_1, e_iload, e_iload_0, e_iload_1, e_iload_2, e_iload_3, e_lload, e_lload_0, e_lload_1, e_lload_2, e_lload_3, e_aload, e_aload_0, e_aload_1, e_aload_2, e_aload_3, e_istore, e_istore_0, e_istore_1, e_istore_2, e_istore_3, e_astore, e_astore_0, e_astore_1, e_astore_2, e_astore_3, e_lstore, e_lstore_0, e_lstore_1, e_lstore_2, e_lstore_3, e_iinc, e_iadd, e_isub, e_imul, e_ladd, e_lsub, e_lmul, e_idiv, e_irem, e_ldiv, e_lrem, e_ineg, e_lneg, e_iand, e_ior, e_ixor, e_ishl, e_ishr, e_iushr, e_lcmp, e_i2l, e_l2i, e_i2b, e_i2s, e_dup_i, e_dup_r, e_pop_i, e_pop_r, e_dup2_l, e_dup2_ir, e_dup2_ii, e_ifeq, e_ifne, e_iflt, e_ifge, e_ifgt, e_ifle, e_iceq, e_icne, e_iclt, e_icge, e_icgt, e_icle, e_goto, e_switch, e_invokevirtual, e_invokestatic, e_invokespecial, e_ret0, e_ret1, e_ret2, e_ret3, ldI_s, ldL_s, ldR_s, clO_s, ctP_s, ctS_s, mgo_0, mgo_s, pjc_s, pj_0, pj_s, lk_s, rm1_0, rm1_i, rm1_r, rm1_l, rm2_0, rm2_i, rm2_r, rm2_l, csL_s, lc_lt, lc_ge, lc_gt, lc_le, lc_eq, b01_0, b01_1, b01_01, b01_n, up2_o, up2_s, up2_u, ne_eq, reduceCtorEq, Nat.reduceAdd, Nat.reduceEqDiff, Nat.reduceLT, Nat.reduceLeDiff, Int.reduceLE, Int.reduceLT, Int.reduceAdd, Int.reduceNeg, Int.reduceMul, Int.reduceSub, Int.reduceEq, Int.reduceToNat, Int.reduceNatCast, Int.cast_ofNat_Int, ↓reduceIte, and_self, List.drop_succ_cons, List.drop_zero, List.take_succ_cons, List.take_zero, List.length_cons, List.length_nil, List.reverse_cons, List.reverse_nil, List.nil_append, List.cons_append, Option.toList, true_and, and_true, or_false, false_or, or_true, true_or, forall_const, Classical.not_not, not_false_eq_true, not_true_eq_false, false_implies, true_implies, implies_true, imp_self]
        exact good M2 q5 hv hy g (hw ⟨q5, hy⟩)
    · obtain ⟨hv, ho, hw⟩ := hR
      have hb : bodyS (M 3) (zN M) V (.inr p) = firstS (M 3) (zN M) V (.inr p) := if_pos (by omega)
      rw [tT.1, tT.2.1, hV, ← hb] at ho hw
      cases hy : (bodyS (M 3) (zN M) V (.inr p)).2 with
      | inl e =>
        rw [hy] at ho
        obtain ⟨rfl, g⟩ := ho
        simp only [xgo_1x]
        exact bad M2 e hv hy g
      | inr q5 =>
        rw [hy] at ho
        obtain ⟨rfl, g⟩ := ho
        simp only [e_wpy (k := 9) dX8_read_24 rfl rfl rfl, xoff_a, ex_null_n, ex_null_r, ex_nonn_n, ex_nonn_r, ex_aret, xel_n, xel_s, xgo_0, xgo_1x, xgo_1v, xgo_1i, xgo_1l, xgo_1r, xgo_2, xgo_3, xgo_4, xgo_5x, xgo_5v, xgo_5i, xgo_5l, xgd_5, xgd_0, xgd_1, xgd_2, xgd_3, xgd_4, ath_y, xct_f, xct_t, xna_f, csL_n, Nat.reduceMul, retX_i, retX_l, retX_r, retX_v, cTok, cAeq, cR_first, PR_first, cR_line, PR_line, cR_next, PR_next, cWrong, xsR_read, dX8_read_46, gR_35, gR_25, gR_187, csR_read, pR_187, e_iconst, e_bipush, e_sipush, e_lconst_0, e_lconst_1, e_iload, e_iload_0, e_iload_1, e_iload_2, e_iload_3, e_lload, e_lload_0, e_lload_1, e_lload_2, e_lload_3, e_aload, e_aload_0, e_aload_1, e_aload_2, e_aload_3, e_istore, e_istore_0, e_istore_1, e_istore_2, e_istore_3, e_astore, e_astore_0, e_astore_1, e_astore_2, e_astore_3, e_lstore, e_lstore_0, e_lstore_1, e_lstore_2, e_lstore_3, e_iinc, e_iadd, e_isub, e_imul, e_ladd, e_lsub, e_lmul, e_idiv, e_irem, e_ldiv, e_lrem, e_ineg, e_lneg, e_iand, e_ior, e_ixor, e_ishl, e_ishr, e_iushr, e_lcmp, e_i2l, e_l2i, e_i2b, e_i2s, e_dup_i, e_dup_r, e_pop_i, e_pop_r, e_dup2_l, e_dup2_ir, e_dup2_ii, e_ifeq, e_ifne, e_iflt, e_ifge, e_ifgt, e_ifle, e_iceq, e_icne, e_iclt, e_icge, e_icgt, e_icle, e_goto, e_switch, e_invokevirtual, e_invokestatic, e_invokespecial, e_ret0, e_ret1, e_ret2, e_ret3, ldI_s, ldL_s, ldR_s, clO_s, ctP_s, ctS_s, mgo_0, mgo_s, pjc_s, pj_0, pj_s, lk_s, rm1_0, rm1_i, rm1_r, rm1_l, rm2_0, rm2_i, rm2_r, rm2_l, csL_s, lc_lt, lc_ge, lc_gt, lc_le, lc_eq, b01_0, b01_1, b01_01, b01_n, up2_o, up2_s, up2_u, ne_eq, reduceCtorEq, Nat.reduceAdd, Nat.reduceEqDiff, Nat.reduceLT, Nat.reduceLeDiff, Int.reduceLE, Int.reduceLT, Int.reduceAdd, Int.reduceNeg, Int.reduceMul, Int.reduceSub, Int.reduceEq, Int.reduceToNat, Int.reduceNatCast, Int.cast_ofNat_Int, ↓reduceIte, and_self, List.drop_succ_cons, List.drop_zero, List.take_succ_cons, List.take_zero, List.length_cons, List.length_nil, List.reverse_cons, List.reverse_nil, List.nil_append, List.cons_append, Option.toList, true_and, and_true, or_false, false_or, or_true, true_or, forall_const, Classical.not_not, not_false_eq_true, not_true_eq_false, false_implies, true_implies, implies_true, imp_self]
        exact good M2 q5 hv hy g (hw ⟨q5, hy⟩)
set_option maxHeartbeats 4000000 in
set_option maxRecDepth 100000 in
theorem atR_read_31 {M : Mm} {Q : Option AV → Mm → Prop} (hM : okM shR M) (hP : PR_read M) (hQ : ∀ (r : Option AV) (M1 : Mm), RR_read M r M1 → Q r M1) {m : Nat} {M1 : Mm} (hM1 : okM shR M1) (hJ : JR_read_31 M m M1) (I_0 : List AV → Mm → Prop) (hI_0 : ∀ (m_ : Nat) (M2 : Mm), m_ < m → JR_read_0 M m_ M2 → I_0 [ar 0] M2) (I_31 : List AV → Mm → Prop) (hI_31 : ∀ (m_ : Nat) (M2 : Mm), m_ < m → JR_read_31 M m_ M2 → I_31 [ar 0] M2) : wpx (tbR (csL csR_read)) (csL xsR_read) shR 1 4 cX8_read [(0, [0], I_0), (31, [0], I_31)] (retX Q) (fun _ M1 => Q (some an) M1) 400 false 31 [(0, ar 0)] [] M1 := by
  obtain ⟨k, p, q, V, hA, z1, hy, hV, hI, hk, h0, rfl⟩ := hJ
  obtain ⟨h1, h2, h3⟩ := id hP
  obtain ⟨t5, t3, te⟩ := zdR_tk z1
  have hg := zdR_rg z1.2.2
  have hf := fval_p (x := M1 0 5) (by omega)
  have v8 : M1 1 3 = V 0 8 := by
    have e : M1 1 3 = vZ M1 0 8 := rfl
    rw [e, hV]
    exact body_08
  simp only [e_wpy (k := 9) dX8_read_0 rfl rfl rfl, e_wpy (k := 9) dX8_read_1 rfl rfl rfl, e_wpy (k := 290) dX8_read_4 rfl rfl rfl, e_wpy (k := 4) dX8_read_7 rfl rfl rfl, e_wpy (k := 9) dX8_read_10 rfl rfl rfl, e_wpy (k := 9) dX8_read_11 rfl rfl rfl, e_wpy (k := 9) dX8_read_14 rfl rfl rfl, e_wpy (k := 9) dX8_read_17 rfl rfl rfl, e_wpy (k := 9) dX8_read_20 rfl rfl rfl, e_wpy (k := 1905) dX8_read_21 rfl rfl rfl, e_wpy (k := 9) dX8_read_24 rfl rfl rfl, e_wpy (k := 9) dX8_read_27 rfl rfl rfl, e_wpy (k := 1935) dX8_read_28 rfl rfl rfl, e_wpy (k := 9) dX8_read_31 rfl rfl rfl, e_wpy (k := 9) dX8_read_32 rfl rfl rfl, e_wpy (k := 750) dX8_read_35 rfl rfl rfl, e_wpy (k := 4) dX8_read_38 rfl rfl rfl, e_wpy (k := 9) dX8_read_41 rfl rfl rfl, e_wpy (k := 9) dX8_read_42 rfl rfl rfl, e_wpy (k := 1035) dX8_read_43 rfl rfl rfl, e_wpy (k := 9) dX8_read_46 rfl rfl rfl, e_wpy (k := 9) dX8_read_47 rfl rfl rfl, e_wpy (k := 385) dX8_read_48 rfl rfl rfl, e_wpy (k := 9) dX8_read_51 rfl rfl rfl, e_wpy (k := 9) dX8_read_52 rfl rfl rfl, e_wpy (k := 9) dX8_read_55 rfl rfl rfl, e_wpy (k := 9) dX8_read_56 rfl rfl rfl, e_wpy (k := 9) dX8_read_59 rfl rfl rfl, e_wpy (k := 9) dX8_read_60 rfl rfl rfl, e_wpy (k := 9) dX8_read_61 rfl rfl rfl, e_wpy (k := 9) dX8_read_64 rfl rfl rfl, e_wpy (k := 9) dX8_read_67 rfl rfl rfl, e_wpy (k := 9) dX8_read_68 rfl rfl rfl, e_wpx dX8_read_71 rfl, xoff_a, ex_null_n, ex_null_r, ex_nonn_n, ex_nonn_r, ex_aret, xel_n, xel_s, xgo_0, xgo_1x, xgo_1v, xgo_1i, xgo_1l, xgo_1r, xgo_2, xgo_3, xgo_4, xgo_5x, xgo_5v, xgo_5i, xgo_5l, xgd_5, xgd_0, xgd_1, xgd_2, xgd_3, xgd_4, ath_y, xct_f, xct_t, xna_f, csL_n, Nat.reduceMul, retX_i, retX_l, retX_r, retX_v, cTok, cAeq, cR_first, PR_first, cR_line, PR_line, cR_next, PR_next, cWrong, xsR_read, dX8_read_46, gR_35, gR_25, gR_187, csR_read, pR_187, e_iconst, e_bipush, e_sipush, e_lconst_0, e_lconst_1, e_iload, e_iload_0, e_iload_1, e_iload_2, e_iload_3, e_lload, e_lload_0, e_lload_1, e_lload_2, e_lload_3, e_aload, e_aload_0, e_aload_1, e_aload_2, e_aload_3, e_istore, e_istore_0, e_istore_1, e_istore_2, e_istore_3, e_astore, e_astore_0, e_astore_1, e_astore_2, e_astore_3, e_lstore, e_lstore_0, e_lstore_1, e_lstore_2, e_lstore_3, e_iinc, e_iadd, e_isub, e_imul, e_ladd, e_lsub, e_lmul, e_idiv, e_irem, e_ldiv, e_lrem, e_ineg, e_lneg, e_iand, e_ior, e_ixor, e_ishl, e_ishr, e_iushr, e_lcmp, e_i2l, e_l2i, e_i2b, e_i2s, e_dup_i, e_dup_r, e_pop_i, e_pop_r, e_dup2_l, e_dup2_ir, e_dup2_ii, e_ifeq, e_ifne, e_iflt, e_ifge, e_ifgt, e_ifle, e_iceq, e_icne, e_iclt, e_icge, e_icgt, e_icle, e_goto, e_switch, e_invokevirtual, e_invokestatic, e_invokespecial, e_ret0, e_ret1, e_ret2, e_ret3, ldI_s, ldL_s, ldR_s, clO_s, ctP_s, ctS_s, mgo_0, mgo_s, pjc_s, pj_0, pj_s, lk_s, rm1_0, rm1_i, rm1_r, rm1_l, rm2_0, rm2_i, rm2_r, rm2_l, csL_s, lc_lt, lc_ge, lc_gt, lc_le, lc_eq, b01_0, b01_1, b01_01, b01_n, up2_o, up2_s, up2_u, ne_eq, reduceCtorEq, Nat.reduceAdd, Nat.reduceEqDiff, Nat.reduceLT, Nat.reduceLeDiff, Int.reduceLE, Int.reduceLT, Int.reduceAdd, Int.reduceNeg, Int.reduceMul, Int.reduceSub, Int.reduceEq, Int.reduceToNat, Int.reduceNatCast, Int.cast_ofNat_Int, ↓reduceIte, and_self, List.drop_succ_cons, List.drop_zero, List.take_succ_cons, List.take_zero, List.length_cons, List.length_nil, List.reverse_cons, List.reverse_nil, List.nil_append, List.cons_append, Option.toList, true_and, and_true, or_false, false_or, or_true, true_or, forall_const, Classical.not_not, not_false_eq_true, not_true_eq_false, false_implies, true_implies, implies_true, imp_self, hf]
  have en : ((zN M : Nat) : Int) = M 0 0 := Int.toNat_of_nonneg h1.1
  refine ⟨by omega, fun q3 => ⟨zdR_nx z1.2.2 z1.2.1, fun r M2 hR => ?_⟩, fun q3 => ?_⟩
  · obtain ⟨rfl, hk2, hz⟩ := hR
    have e3 : (tkP (M 3) (zN M) q).1 = 3 := by omega
    have k8 : M2 1 3 = V 0 8 := by rw [hk2.1 1 (by decide)]; exact v8
    have z5 := z1.2.2.2.2.2.1
    rw [te] at z5
    have he : (lineE (M 3) (zN M) V (.inr p)).2 = .inr (tkP (M 3) (zN M) q).2.2 := by
      show endS (M 3) (zN M) (bodyS (M 3) (zN M) V (.inr p)).2 = _
      rw [hy, end_y e3]
    have hr := rd_s (T := M 3) (by omega : zN M ≤ 700) hI
    rw [he] at hr
    have hr2 := hr.2 _ rfl
    have hI8 := hI.2.1
    simp only [e_wpy (k := 9) dX8_read_51 rfl rfl rfl, e_wpy (k := 9) dX8_read_52 rfl rfl rfl, e_wpy (k := 9) dX8_read_55 rfl rfl rfl, e_wpy (k := 9) dX8_read_56 rfl rfl rfl, e_wpy (k := 9) dX8_read_59 rfl rfl rfl, e_wpy (k := 9) dX8_read_60 rfl rfl rfl, e_wpy (k := 9) dX8_read_61 rfl rfl rfl, e_wpy (k := 9) dX8_read_64 rfl rfl rfl, xoff_a, ex_null_n, ex_null_r, ex_nonn_n, ex_nonn_r, ex_aret, xel_n, xel_s, xgo_0, xgo_1x, xgo_1v, xgo_1i, xgo_1l, xgo_1r, xgo_2, xgo_3, xgo_4, xgo_5x, xgo_5v, xgo_5i, xgo_5l, xgd_5, xgd_0, xgd_1, xgd_2, xgd_3, xgd_4, ath_y, xct_f, xct_t, xna_f, csL_n, Nat.reduceMul, retX_i, retX_l, retX_r, retX_v, cTok, cAeq, cR_first, PR_first, cR_line, PR_line, cR_next, PR_next, cWrong, xsR_read, dX8_read_46, gR_35, gR_25, gR_187, csR_read, pR_187, e_iconst, e_bipush, e_sipush, e_lconst_0, e_lconst_1, e_iload, e_iload_0, e_iload_1, e_iload_2, e_iload_3, e_lload, e_lload_0, e_lload_1, e_lload_2, e_lload_3, e_aload, e_aload_0, e_aload_1, e_aload_2, e_aload_3, e_istore, e_istore_0, e_istore_1, e_istore_2, e_istore_3, e_astore, e_astore_0, e_astore_1, e_astore_2, e_astore_3, e_lstore, e_lstore_0, e_lstore_1, e_lstore_2, e_lstore_3, e_iinc, e_iadd, e_isub, e_imul, e_ladd, e_lsub, e_lmul, e_idiv, e_irem, e_ldiv, e_lrem, e_ineg, e_lneg, e_iand, e_ior, e_ixor, e_ishl, e_ishr, e_iushr, e_lcmp, e_i2l, e_l2i, e_i2b, e_i2s, e_dup_i, e_dup_r, e_pop_i, e_pop_r, e_dup2_l, e_dup2_ir, e_dup2_ii, e_ifeq, e_ifne, e_iflt, e_ifge, e_ifgt, e_ifle, e_iceq, e_icne, e_iclt, e_icge, e_icgt, e_icle, e_goto, e_switch, e_invokevirtual, e_invokestatic, e_invokespecial, e_ret0, e_ret1, e_ret2, e_ret3, ldI_s, ldL_s, ldR_s, clO_s, ctP_s, ctS_s, mgo_0, mgo_s, pjc_s, pj_0, pj_s, lk_s, rm1_0, rm1_i, rm1_r, rm1_l, rm2_0, rm2_i, rm2_r, rm2_l, csL_s, lc_lt, lc_ge, lc_gt, lc_le, lc_eq, b01_0, b01_1, b01_01, b01_n, up2_o, up2_s, up2_u, ne_eq, reduceCtorEq, Nat.reduceAdd, Nat.reduceEqDiff, Nat.reduceLT, Nat.reduceLeDiff, Int.reduceLE, Int.reduceLT, Int.reduceAdd, Int.reduceNeg, Int.reduceMul, Int.reduceSub, Int.reduceEq, Int.reduceToNat, Int.reduceNatCast, Int.cast_ofNat_Int, ↓reduceIte, and_self, List.drop_succ_cons, List.drop_zero, List.take_succ_cons, List.take_zero, List.length_cons, List.length_nil, List.reverse_cons, List.reverse_nil, List.nil_append, List.cons_append, Option.toList, true_and, and_true, or_false, false_or, or_true, true_or, forall_const, Classical.not_not, not_false_eq_true, not_true_eq_false, false_implies, true_implies, implies_true, imp_self, k8]
    refine ⟨by omega, hI_0 _ _ ?_ ⟨k, (tkP (M 3) (zN M) q).2.2, (lineE (M 3) (zN M) V (.inr p)).1, ?_, zat_u (k := 1) (j := 3) (x := V 0 8 + 1) ⟨zkV_K z1.1 hk2, (zkK_T hk2).2.2 z1.2.1, hz _ z5⟩ (by decide) (by decide), ?_, hr.1, by omega, rfl⟩⟩
    · have := hI.2.2.1
      omega
    · rw [hA, read_s h0, he]
    · rw [vZ_0 (c := 8) (by decide), vZ_K hk2, hV]
      rfl
  · refine hQ _ _ ⟨zkV_K z1.1 gh3_K, ?_⟩
    obtain ⟨W, hW⟩ := rd_fail (k := k) h0 (by show endS (M 3) (zN M) (bodyS (M 3) (zN M) V (.inr p)).2 = .inl (1, ((tkP (M 3) (zN M) q).2.1 : Int)); rw [hy, end_n (by omega)])
    rw [hA, hW, outZ_e]
    obtain ⟨g1, g2, g3⟩ := @gh3_0 M1 1 (M1 0 3)
    exact ⟨rfl, g1, g2, g3.trans t3⟩
set_option maxHeartbeats 4000000 in
set_option maxRecDepth 100000 in
theorem inR_read {M : Mm} {Q : Option AV → Mm → Prop} (hM : okM shR M) (hP : PR_read M) (hQ : ∀ (r : Option AV) (M1 : Mm), RR_read M r M1 → Q r M1) (I_0 : List AV → Mm → Prop) (hI_0 : ∀ (m_ : Nat) (M2 : Mm), JR_read_0 M m_ M2 → I_0 [ar 0] M2) (I_31 : List AV → Mm → Prop) (hI_31 : ∀ (m_ : Nat) (M2 : Mm), JR_read_31 M m_ M2 → I_31 [ar 0] M2) : wpx (tbR (csL csR_read)) (csL xsR_read) shR 1 4 cX8_read [(0, [0], I_0), (31, [0], I_31)] (retX Q) (fun _ M1 => Q (some an) M1) 400 false 0 [(0, ar 0)] [] M := by
  obtain ⟨h1, h2, h3⟩ := id hP
  exact atR_read_0 hM hP hQ (m := 2 * (zN M + 1 - 0)) (M1 := M) hM ⟨zN M + 1, 0, fun _ _ => 0, rfl, ⟨zkV_rf, h1, h2⟩, h3, rd_0, by omega, rfl⟩ I_0 (fun m_ M2 _ h => hI_0 m_ M2 h) I_31 (fun m_ M2 _ h => hI_31 m_ M2 h)
set_option maxHeartbeats 4000000 in
set_option maxRecDepth 100000 in
theorem mR_read : MOKX clR shR tylR NwsR exR flR 11 1 8 yX8_read cX8_read 1 (some (.object "SagMemory$Valley")) spR_read := by
  refine mokX_of (own := RX8) (fl := flR) (tb := tbR (csL csR_read)) (xt := csL xsR_read) (rt := 4) (fuel := 400) (fun avs M Q => [(0, [0], fun m_ vs M1 => vs = [ar 0] ∧ JR_read_0 M m_ M1), (31, [0], fun m_ vs M1 => vs = [ar 0] ∧ JR_read_31 M m_ M1)]) (by decide) rfl nwsR_ok (tbOKR _) ⟨_, rfl⟩ (csL_all ?_) (csY_all ?_) ?_ ?_ ?_
  · intro q hq; cases hq
  · intro q hq
    simp only [xsR_read, List.mem_cons, List.not_mem_nil, or_false] at hq
    rcases hq with rfl | rfl | rfl | rfl | rfl | rfl | rfl
    · exact Or.inr ⟨(by decide : ¬ ((0 : Nat) = 2 ∨ (0 : Nat) = 5)), cxe_tok (x := 29) (j := 0) (by decide) q523⟩
    · exact Or.inr ⟨(by decide : ¬ ((0 : Nat) = 2 ∨ (0 : Nat) = 5)), cxe_tok (x := 75) (j := 3) (by decide) q542⟩
    · exact Or.inr ⟨(by decide : ¬ ((3 : Nat) = 2 ∨ (3 : Nat) = 5)), cxe_aeq⟩
    · exact Or.inr ⟨(by decide : ¬ ((1 : Nat) = 2 ∨ (1 : Nat) = 5)), cxeR_first (by decide)⟩
    · exact Or.inr ⟨(by decide : ¬ ((1 : Nat) = 2 ∨ (1 : Nat) = 5)), cxeR_line (by decide)⟩
    · exact Or.inr ⟨(by decide : ¬ ((1 : Nat) = 2 ∨ (1 : Nat) = 5)), cxeR_next (by decide)⟩
    · exact Or.inr ⟨(by decide : ¬ ((4 : Nat) = 2 ∨ (4 : Nat) = 5)), cxe_wrong (by decide)⟩
  · intro avs M Q hsp
    obtain ⟨xs, hx⟩ := spX_un _ _ _ hsp
    obtain ⟨e, hl⟩ := unA_mkT hx
    obtain rfl := len0 hl
    have e : avs = [ar 0] := e
    subst e
    simp [szL, isL]
  · intro avs M Q hM hav hsp
    obtain ⟨xs, hx⟩ := spX_un _ _ _ hsp
    obtain ⟨e, hl⟩ := unA_mkT hx
    obtain rfl := len0 hl
    have e : avs = [ar 0] := e
    subst e
    exact inR_read hM hsp.1 hsp.2 _ (fun m_ M2 hJ => ⟨m_, rfl, hJ⟩) _ (fun m_ M2 hJ => ⟨m_, rfl, hJ⟩)
  · intro avs M Q hM hav hsp q hq m_ vs M1 hM1 hv hJ
    obtain ⟨xs, hx⟩ := spX_un _ _ _ hsp
    obtain ⟨e, hl⟩ := unA_mkT hx
    obtain rfl := len0 hl
    have e : avs = [ar 0] := e
    subst e
    simp only [List.mem_cons, List.not_mem_nil, or_false] at hq
    rcases hq with rfl | rfl
    · obtain ⟨rfl, hJ⟩ := hJ
      exact atR_read_0 hM hsp.1 hsp.2 hM1 hJ _ (fun m2 M2 hm hJ2 => ⟨m2, hm, rfl, hJ2⟩) _ (fun m2 M2 hm hJ2 => ⟨m2, hm, rfl, hJ2⟩)
    · obtain ⟨rfl, hJ⟩ := hJ
      exact atR_read_31 hM hsp.1 hsp.2 hM1 hJ _ (fun m2 M2 hm hJ2 => ⟨m2, hm, rfl, hJ2⟩) _ (fun m2 M2 hm hJ2 => ⟨m2, hm, rfl, hJ2⟩)
