/-! The reader: lines -/
def zkV (M M1 : Mm) : Prop := frm [0, 1, 4, 5, 6, 7, 8, 9, 10] M M1 ∧ (∀ j, j < 900000 → ¬ (2 ≤ j ∧ j ≤ 5) → M1 0 j = M 0 j) ∧ M1 1 9 = M 1 9
def gE (e : Int × Int) (M1 : Mm) : Prop := M1 0 900000 = 4 ∧ M1 0 900001 = e.1 ∧ M1 0 900002 = e.2
def zat (M M1 : Mm) (p : Nat) : Prop := zkV M M1 ∧ zI M1 ∧ zdR M1 p
theorem zkV_rf {M : Mm} : zkV M M := ⟨frm_rf, fun _ _ _ => rfl, rfl⟩
theorem zkV_tr {M M1 M2 : Mm} (h : zkV M M1) (h2 : zkV M1 M2) : zkV M M2 := ⟨frm_tr h.1 h2.1 (fun _ z => z), fun j a b => (h2.2.1 j a b).trans (h.2.1 j a b), h2.2.2.trans h.2.2⟩
theorem zkV_k {M M1 : Mm} (h : zkK M M1) : zkV M M1 := ⟨frm_w h.1 (by decide), h.2, congrFun (h.1 1 (by decide)) 9⟩
theorem zkV_K {M M1 M2 : Mm} (h : zkV M M1) (h2 : zkK M1 M2) : zkV M M2 := zkV_tr h (zkV_k h2)
theorem zkV_u {M M1 : Mm} {k j : Nat} {x : Int} (h : zkV M M1) (hk : k ∈ [1, 4, 5, 6, 7, 8, 9, 10]) (h9 : ¬ (k = 1 ∧ j = 9)) : zkV M (up2 M1 k j x) := by
  have h0 : ¬ (0 = k) := fun z => by subst z; exact absurd hk (by decide)
  refine ⟨frm_up h.1 (List.mem_cons_of_mem _ hk), fun i a b => ?_, ?_⟩
  · rw [up2_o h0]; exact h.2.1 i a b
  · rw [up2_r, if_neg (fun z => h9 ⟨z.1.symm, z.2.symm⟩)]; exact h.2.2
theorem zkV_T {M M1 : Mm} (h : zkV M M1) : M1 3 = M 3 ∧ zN M1 = zN M ∧ (zI M → zI M1) := by
  have h0 := h.2.1 0 (by decide) (by decide)
  exact ⟨h.1 3 (by decide), by show (M1 0 0).toNat = _; rw [h0], fun z => by show 0 ≤ M1 0 0 ∧ M1 0 0 ≤ 700; rw [h0]; exact z⟩
theorem zdR_u {M : Mm} {k j p : Nat} {x : Int} (h : zdR M p) (hk : k ∈ [1, 4, 5, 6, 7, 8, 9, 10]) : zdR (up2 M k j x) p := by
  have e0 : up2 M k j x 0 = M 0 := up2_ne (fun z => by subst z; exact absurd hk (by decide))
  have e3 : up2 M k j x 3 = M 3 := up2_ne (fun z => by subst z; exact absurd hk (by decide))
  unfold zdR zTk zN
  rw [e0, e3]
  exact h
theorem zat_u {M M1 : Mm} {k j p : Nat} {x : Int} (h : zat M M1 p) (hk : k ∈ [1, 4, 5, 6, 7, 8, 9, 10]) (h9 : ¬ (k = 1 ∧ j = 9)) : zat M (up2 M1 k j x) p := by
  refine ⟨zkV_u h.1 hk h9, ?_, zdR_u h.2.2 hk⟩
  show 0 ≤ up2 M1 k j x 0 0 ∧ up2 M1 k j x 0 0 ≤ 700
  rw [up2_o (fun z => by subst z; exact absurd hk (by decide))]
  exact h.2.1
theorem step_I {M M1 M2 : Mm} {p : Nat} {y : Int × Ps} {r : Option AV} (h : zat M M1 p) (hk : zkK M1 M2) (ho : outI y r M2) : (∃ v e, y = (v, .inl e) ∧ r = some an ∧ zkV M M2 ∧ gE e M2) ∨ ∃ v q, y = (v, .inr q) ∧ r = some (ai v) ∧ zat M M2 q := by
  obtain ⟨v, e | q⟩ := y
  · exact Or.inl ⟨v, e, rfl, ho.1, zkV_K h.1 hk, ho.2⟩
  · exact Or.inr ⟨v, q, rfl, ho.1, zkV_K h.1 hk, (zkK_T hk).2.2 h.2.1, ho.2⟩
theorem step_V {M M1 M2 : Mm} {p : Nat} {y : Ps} {r : Option AV} (h : zat M M1 p) (hk : zkK M1 M2) (ho : outV y r M2) : (∃ e, y = .inl e ∧ r = some an ∧ zkV M M2 ∧ gE e M2) ∨ ∃ q, y = .inr q ∧ r = none ∧ zat M M2 q := by
  obtain e | q := y
  · exact Or.inl ⟨e, rfl, ho.1, zkV_K h.1 hk, ho.2⟩
  · exact Or.inr ⟨q, rfl, ho.1, zkV_K h.1 hk, (zkK_T hk).2.2 h.2.1, ho.2⟩
theorem fin_e {y : Ps} {e : Int × Int} {r : Option AV} {M1 : Mm} {X : Prop} (h : y = .inl e) (hr : r = some an) (g : gE e M1) : outV y r M1 ∧ ((∃ q, y = .inr q) → X) := by
  subst h
  exact ⟨⟨hr, g⟩, fun z => z.elim fun q z => by cases z⟩
theorem fin_n {y : Ps} {q : Nat} {r : Option AV} {M1 : Mm} {X : Prop} (h : y = .inr q) (hr : r = none) (g : zdR M1 q) (hX : X) : outV y r M1 ∧ ((∃ q, y = .inr q) → X) := by
  subst h
  exact ⟨⟨hr, g⟩, fun _ => hX⟩
theorem vZ_0 {M : Mm} {k c : Nat} {x : Int} (hkc : (k = 0 ∧ c = 0) ∨ (k = 1 ∧ c = 1) ∨ (k = 2 ∧ c = 2) ∨ (k = 3 ∧ c = 8)) : vZ (up2 M 1 k x) = up2 (vZ M) 0 c x := by
  unfold vZ
  rw [up2_ne (k' := 4) (by decide), up2_ne (k' := 5) (by decide), up2_ne (k' := 6) (by decide), up2_ne (k' := 7) (by decide), up2_ne (k' := 8) (by decide), up2_ne (k' := 9) (by decide), up2_ne (k' := 10) (by decide), up2_ne (k' := 11) (by decide)]
  exact vZr_0 hkc up2_s (fun j hj => up2_n hj)
def cntZ (M : Mm) : Prop := (0 ≤ M 1 4 ∧ M 1 4 ≤ 3) ∧ (0 ≤ M 1 5 ∧ M 1 5 ≤ 7) ∧ (0 ≤ M 1 6 ∧ M 1 6 ≤ 5) ∧ 0 ≤ M 1 8 ∧ M 1 8 ≤ 4
theorem cntZ_V {M : Mm} : cntZ M ↔ cntV (vZ M) := Iff.rfl
def PR_first (p : Nat) (M : Mm) : Prop := zI M ∧ zdR M p
def RR_first (p : Nat) (M : Mm) (r : Option AV) (M1 : Mm) : Prop := zkV M M1 ∧ outV (firstS (M 3) (zN M) (vZ M) (.inr p)).2 r M1 ∧ ((∃ q, (firstS (M 3) (zN M) (vZ M) (.inr p)).2 = .inr q) → vZ M1 = (firstS (M 3) (zN M) (vZ M) (.inr p)).1)
def spR_first : Spec := spXG true [] (fun x p M => PR_first p M) (fun x p M r M1 => RR_first p M r M1)
theorem cR_first {M : Mm} {Q : Option AV → Mm → Prop} : spR_first [ar 0] M Q = (∃ p : Nat, PR_first p M ∧ ∀ (r : Option AV) (M1 : Mm), RR_first p M r M1 → Q r M1) := rfl
def csR_first : List (Nat × Nat × Nat × Spec) := []
def xsR_first : List (Nat × Nat × Nat × Spec) := [(1143, 0, 0, spTxt 0), (1153, 0, 0, spTxt 1), (1233, 0, 0, spTxt 2), (1273, 0, 0, spTxt 3), (1075, 1, 2, spR_needs), (1175, 1, 4, spR_told)]
set_option maxHeartbeats 4000000 in
set_option maxRecDepth 100000 in
theorem inR_first {p : Nat} {M : Mm} {Q : Option AV → Mm → Prop} (hM : okM shR M) (hP : PR_first p M) (hQ : ∀ (r : Option AV) (M1 : Mm), RR_first p M r M1 → Q r M1) : wpx (tbR (csL csR_first)) (csL xsR_first) shR 1 0 cX8_first [] (retX Q) (fun _ M1 => Q (some an) M1) 400 false 0 [(0, ar 0)] [] M := by
  obtain ⟨h1, h2⟩ := id hP
  have z0 : zat M M p := ⟨zkV_rf, h1, h2⟩
  simp only [e_wpy (k := 9) dX8_first_0 rfl rfl rfl, e_wpy (k := 1143) dX8_first_1 rfl rfl rfl, e_wpy (k := 1075) dX8_first_3 rfl rfl rfl, e_wpy (k := 9) dX8_first_6 rfl rfl rfl, e_wpy (k := 9) dX8_first_7 rfl rfl rfl, e_wpy (k := 9) dX8_first_10 rfl rfl rfl, e_wpy (k := 1153) dX8_first_11 rfl rfl rfl, e_wpy (k := 9) dX8_first_13 rfl rfl rfl, e_wpy (k := 9) dX8_first_14 rfl rfl rfl, e_wpy (k := 1175) dX8_first_15 rfl rfl rfl, e_wpy (k := 9) dX8_first_18 rfl rfl rfl, e_wpy (k := 9) dX8_first_21 rfl rfl rfl, e_wpy (k := 9) dX8_first_22 rfl rfl rfl, e_wpy (k := 9) dX8_first_25 rfl rfl rfl, e_wpy (k := 1233) dX8_first_26 rfl rfl rfl, e_wpy (k := 9) dX8_first_28 rfl rfl rfl, e_wpy (k := 9) dX8_first_29 rfl rfl rfl, e_wpy (k := 1175) dX8_first_31 rfl rfl rfl, e_wpy (k := 9) dX8_first_34 rfl rfl rfl, e_wpy (k := 9) dX8_first_37 rfl rfl rfl, e_wpy (k := 9) dX8_first_38 rfl rfl rfl, e_wpy (k := 9) dX8_first_41 rfl rfl rfl, e_wpy (k := 1273) dX8_first_42 rfl rfl rfl, e_wpy (k := 9) dX8_first_44 rfl rfl rfl, e_wpy (k := 9) dX8_first_45 rfl rfl rfl, e_wpy (k := 1175) dX8_first_47 rfl rfl rfl, e_wpy (k := 9) dX8_first_50 rfl rfl rfl, e_wpy (k := 9) dX8_first_53 rfl rfl rfl, xoff_a, ex_null_n, ex_null_r, ex_nonn_n, ex_nonn_r, ex_aret, xel_n, xel_s, xgo_0, xgo_1x, xgo_1v, xgo_1i, xgo_1l, xgo_1r, xgo_2, xgo_3, xgo_4, xgo_5x, xgo_5v, xgo_5i, xgo_5l, xgd_5, xgd_0, xgd_1, xgd_2, xgd_3, xgd_4, ath_y, xct_f, xct_t, xna_f, csL_n, Nat.reduceMul, retX_i, retX_l, retX_r, retX_v, cTxt, cR_needs, PR_needs, cR_told, PR_told, xsR_first, csR_first, gR_25, pR_121, pR_125, pR_129, e_iconst, e_bipush, e_sipush, e_lconst_0, e_lconst_1, e_iload, e_iload_0, e_iload_1, e_iload_2, e_iload_3, e_lload, e_lload_0, e_lload_1, e_lload_2, e_lload_3, e_aload, e_aload_0, e_aload_1, e_aload_2, e_aload_3, e_istore, e_istore_0, e_istore_1, e_istore_2, e_istore_3, e_astore, e_astore_0, e_astore_1, e_astore_2, e_astore_3, e_lstore, e_lstore_0, e_lstore_1, e_lstore_2, e_lstore_3, e_iinc, e_iadd, e_isub, e_imul, e_ladd, e_lsub, e_lmul, e_idiv, e_irem, e_ldiv, e_lrem, e_ineg, e_lneg, e_iand, e_ior, e_ixor, e_ishl, e_ishr, e_iushr, e_lcmp, e_i2l, e_l2i, e_i2b, e_i2s, e_dup_i, e_dup_r, e_pop_i, e_pop_r, e_dup2_l, e_dup2_ir, e_dup2_ii, e_ifeq, e_ifne, e_iflt, e_ifge, e_ifgt, e_ifle, e_iceq, e_icne, e_iclt, e_icge, e_icgt, e_icle, e_goto, e_switch, e_invokevirtual, e_invokestatic, e_invokespecial, e_ret0, e_ret1, e_ret2, e_ret3, ldI_s, ldL_s, ldR_s, clO_s, ctP_s, ctS_s, mgo_0, mgo_s, pjc_s, pj_0, pj_s, lk_s, rm1_0, rm1_i, rm1_r, rm1_l, rm2_0, rm2_i, rm2_r, rm2_l, csL_s, lc_lt, lc_ge, lc_gt, lc_le, lc_eq, b01_0, b01_1, b01_01, b01_n, up2_o, up2_s, up2_u, ne_eq, reduceCtorEq, Nat.reduceAdd, Nat.reduceEqDiff, Nat.reduceLT, Nat.reduceLeDiff, Int.reduceLE, Int.reduceLT, Int.reduceAdd, Int.reduceNeg, Int.reduceMul, Int.reduceSub, Int.reduceEq, Int.reduceToNat, Int.reduceNatCast, Int.cast_ofNat_Int, ↓reduceIte, and_self, List.drop_succ_cons, List.drop_zero, List.take_succ_cons, List.take_zero, List.length_cons, List.length_nil, List.reverse_cons, List.reverse_nil, List.nil_append, List.cons_append, Option.toList, true_and, and_true, or_false, false_or, or_true, true_or, forall_const, Classical.not_not, not_false_eq_true, not_true_eq_false, false_implies, true_implies, implies_true, imp_self]
  refine ⟨p, ⟨z0.2.1, z0.2.2⟩, fun r M1 hR => ?_⟩
  obtain ⟨hk1, ho⟩ := hR
  have ho : outV (askS (M 3) (zN M) wValley (.inr p)) r M1 := ho
  skip
  rcases step_V z0 hk1 ho with ⟨e, y1, rfl, kx, g⟩ | ⟨q1, y1, rfl, z1⟩
  · simp only [xgo_1x]
    exact hQ _ _ ⟨kx, fin_e (by show (told (M 3) (zN M) wOdds 0 10 (told (M 3) (zN M) wFrost 1 50 (told (M 3) (zN M) wLaw 0 3 (askS (M 3) (zN M) wValley (.inr p))).2).2).2 = _; rw [y1]; rfl) rfl g⟩
  simp only [e_wpy (k := 9) dX8_first_6 rfl rfl rfl, e_wpy (k := 9) dX8_first_7 rfl rfl rfl, e_wpy (k := 9) dX8_first_10 rfl rfl rfl, e_wpy (k := 1153) dX8_first_11 rfl rfl rfl, e_wpy (k := 9) dX8_first_13 rfl rfl rfl, e_wpy (k := 9) dX8_first_14 rfl rfl rfl, e_wpy (k := 1175) dX8_first_15 rfl rfl rfl, xoff_a, ex_null_n, ex_null_r, ex_nonn_n, ex_nonn_r, ex_aret, xel_n, xel_s, xgo_0, xgo_1x, xgo_1v, xgo_1i, xgo_1l, xgo_1r, xgo_2, xgo_3, xgo_4, xgo_5x, xgo_5v, xgo_5i, xgo_5l, xgd_5, xgd_0, xgd_1, xgd_2, xgd_3, xgd_4, ath_y, xct_f, xct_t, xna_f, csL_n, Nat.reduceMul, retX_i, retX_l, retX_r, retX_v, cTxt, cR_needs, PR_needs, cR_told, PR_told, xsR_first, csR_first, gR_25, pR_121, pR_125, pR_129, e_iconst, e_bipush, e_sipush, e_lconst_0, e_lconst_1, e_iload, e_iload_0, e_iload_1, e_iload_2, e_iload_3, e_lload, e_lload_0, e_lload_1, e_lload_2, e_lload_3, e_aload, e_aload_0, e_aload_1, e_aload_2, e_aload_3, e_istore, e_istore_0, e_istore_1, e_istore_2, e_istore_3, e_astore, e_astore_0, e_astore_1, e_astore_2, e_astore_3, e_lstore, e_lstore_0, e_lstore_1, e_lstore_2, e_lstore_3, e_iinc, e_iadd, e_isub, e_imul, e_ladd, e_lsub, e_lmul, e_idiv, e_irem, e_ldiv, e_lrem, e_ineg, e_lneg, e_iand, e_ior, e_ixor, e_ishl, e_ishr, e_iushr, e_lcmp, e_i2l, e_l2i, e_i2b, e_i2s, e_dup_i, e_dup_r, e_pop_i, e_pop_r, e_dup2_l, e_dup2_ir, e_dup2_ii, e_ifeq, e_ifne, e_iflt, e_ifge, e_ifgt, e_ifle, e_iceq, e_icne, e_iclt, e_icge, e_icgt, e_icle, e_goto, e_switch, e_invokevirtual, e_invokestatic, e_invokespecial, e_ret0, e_ret1, e_ret2, e_ret3, ldI_s, ldL_s, ldR_s, clO_s, ctP_s, ctS_s, mgo_0, mgo_s, pjc_s, pj_0, pj_s, lk_s, rm1_0, rm1_i, rm1_r, rm1_l, rm2_0, rm2_i, rm2_r, rm2_l, csL_s, lc_lt, lc_ge, lc_gt, lc_le, lc_eq, b01_0, b01_1, b01_01, b01_n, up2_o, up2_s, up2_u, ne_eq, reduceCtorEq, Nat.reduceAdd, Nat.reduceEqDiff, Nat.reduceLT, Nat.reduceLeDiff, Int.reduceLE, Int.reduceLT, Int.reduceAdd, Int.reduceNeg, Int.reduceMul, Int.reduceSub, Int.reduceEq, Int.reduceToNat, Int.reduceNatCast, Int.cast_ofNat_Int, ↓reduceIte, and_self, List.drop_succ_cons, List.drop_zero, List.take_succ_cons, List.take_zero, List.length_cons, List.length_nil, List.reverse_cons, List.reverse_nil, List.nil_append, List.cons_append, Option.toList, true_and, and_true, or_false, false_or, or_true, true_or, forall_const, Classical.not_not, not_false_eq_true, not_true_eq_false, false_implies, true_implies, implies_true, imp_self]
  refine ⟨q1, ⟨z1.2.1, z1.2.2⟩, fun r M2 hR => ?_⟩
  obtain ⟨hk2, ho⟩ := hR
  have ho : outI (told (M1 3) (zN M1) wLaw 0 3 (.inr q1)) r M2 := ho
  rw [(zkV_T z1.1).1, (zkV_T z1.1).2.1] at ho
  rcases step_I z1 hk2 ho with ⟨v2, e, y2, rfl, kx, g⟩ | ⟨v2, q2, y2, rfl, z2⟩
  · simp only [xgo_1x]
    exact hQ _ _ ⟨kx, fin_e (by show (told (M 3) (zN M) wOdds 0 10 (told (M 3) (zN M) wFrost 1 50 (told (M 3) (zN M) wLaw 0 3 (askS (M 3) (zN M) wValley (.inr p))).2).2).2 = _; rw [y1, y2]; rfl) rfl g⟩
  have u2 := zat_u (k := 1) (j := 0) (x := v2) z2 (by decide) (by decide)
  simp only [e_wpy (k := 9) dX8_first_18 rfl rfl rfl, e_wpy (k := 9) dX8_first_21 rfl rfl rfl, e_wpy (k := 9) dX8_first_22 rfl rfl rfl, e_wpy (k := 9) dX8_first_25 rfl rfl rfl, e_wpy (k := 1233) dX8_first_26 rfl rfl rfl, e_wpy (k := 9) dX8_first_28 rfl rfl rfl, e_wpy (k := 9) dX8_first_29 rfl rfl rfl, e_wpy (k := 1175) dX8_first_31 rfl rfl rfl, xoff_a, ex_null_n, ex_null_r, ex_nonn_n, ex_nonn_r, ex_aret, xel_n, xel_s, xgo_0, xgo_1x, xgo_1v, xgo_1i, xgo_1l, xgo_1r, xgo_2, xgo_3, xgo_4, xgo_5x, xgo_5v, xgo_5i, xgo_5l, xgd_5, xgd_0, xgd_1, xgd_2, xgd_3, xgd_4, ath_y, xct_f, xct_t, xna_f, csL_n, Nat.reduceMul, retX_i, retX_l, retX_r, retX_v, cTxt, cR_needs, PR_needs, cR_told, PR_told, xsR_first, csR_first, gR_25, pR_121, pR_125, pR_129, e_iconst, e_bipush, e_sipush, e_lconst_0, e_lconst_1, e_iload, e_iload_0, e_iload_1, e_iload_2, e_iload_3, e_lload, e_lload_0, e_lload_1, e_lload_2, e_lload_3, e_aload, e_aload_0, e_aload_1, e_aload_2, e_aload_3, e_istore, e_istore_0, e_istore_1, e_istore_2, e_istore_3, e_astore, e_astore_0, e_astore_1, e_astore_2, e_astore_3, e_lstore, e_lstore_0, e_lstore_1, e_lstore_2, e_lstore_3, e_iinc, e_iadd, e_isub, e_imul, e_ladd, e_lsub, e_lmul, e_idiv, e_irem, e_ldiv, e_lrem, e_ineg, e_lneg, e_iand, e_ior, e_ixor, e_ishl, e_ishr, e_iushr, e_lcmp, e_i2l, e_l2i, e_i2b, e_i2s, e_dup_i, e_dup_r, e_pop_i, e_pop_r, e_dup2_l, e_dup2_ir, e_dup2_ii, e_ifeq, e_ifne, e_iflt, e_ifge, e_ifgt, e_ifle, e_iceq, e_icne, e_iclt, e_icge, e_icgt, e_icle, e_goto, e_switch, e_invokevirtual, e_invokestatic, e_invokespecial, e_ret0, e_ret1, e_ret2, e_ret3, ldI_s, ldL_s, ldR_s, clO_s, ctP_s, ctS_s, mgo_0, mgo_s, pjc_s, pj_0, pj_s, lk_s, rm1_0, rm1_i, rm1_r, rm1_l, rm2_0, rm2_i, rm2_r, rm2_l, csL_s, lc_lt, lc_ge, lc_gt, lc_le, lc_eq, b01_0, b01_1, b01_01, b01_n, up2_o, up2_s, up2_u, ne_eq, reduceCtorEq, Nat.reduceAdd, Nat.reduceEqDiff, Nat.reduceLT, Nat.reduceLeDiff, Int.reduceLE, Int.reduceLT, Int.reduceAdd, Int.reduceNeg, Int.reduceMul, Int.reduceSub, Int.reduceEq, Int.reduceToNat, Int.reduceNatCast, Int.cast_ofNat_Int, ↓reduceIte, and_self, List.drop_succ_cons, List.drop_zero, List.take_succ_cons, List.take_zero, List.length_cons, List.length_nil, List.reverse_cons, List.reverse_nil, List.nil_append, List.cons_append, Option.toList, true_and, and_true, or_false, false_or, or_true, true_or, forall_const, Classical.not_not, not_false_eq_true, not_true_eq_false, false_implies, true_implies, implies_true, imp_self]
  refine ⟨q2, ⟨u2.2.1, u2.2.2⟩, fun r M3 hR => ?_⟩
  obtain ⟨hk3, ho⟩ := hR
  have ho : outI (told ((up2 M2 1 0 v2) 3) (zN (up2 M2 1 0 v2)) wFrost 1 50 (.inr q2)) r M3 := ho
  rw [(zkV_T u2.1).1, (zkV_T u2.1).2.1] at ho
  rcases step_I u2 hk3 ho with ⟨v3, e, y3, rfl, kx, g⟩ | ⟨v3, q3, y3, rfl, z3⟩
  · simp only [xgo_1x]
    exact hQ _ _ ⟨kx, fin_e (by show (told (M 3) (zN M) wOdds 0 10 (told (M 3) (zN M) wFrost 1 50 (told (M 3) (zN M) wLaw 0 3 (askS (M 3) (zN M) wValley (.inr p))).2).2).2 = _; rw [y1, y2, y3]; rfl) rfl g⟩
  have u3 := zat_u (k := 1) (j := 1) (x := v3) z3 (by decide) (by decide)
  simp only [e_wpy (k := 9) dX8_first_34 rfl rfl rfl, e_wpy (k := 9) dX8_first_37 rfl rfl rfl, e_wpy (k := 9) dX8_first_38 rfl rfl rfl, e_wpy (k := 9) dX8_first_41 rfl rfl rfl, e_wpy (k := 1273) dX8_first_42 rfl rfl rfl, e_wpy (k := 9) dX8_first_44 rfl rfl rfl, e_wpy (k := 9) dX8_first_45 rfl rfl rfl, e_wpy (k := 1175) dX8_first_47 rfl rfl rfl, xoff_a, ex_null_n, ex_null_r, ex_nonn_n, ex_nonn_r, ex_aret, xel_n, xel_s, xgo_0, xgo_1x, xgo_1v, xgo_1i, xgo_1l, xgo_1r, xgo_2, xgo_3, xgo_4, xgo_5x, xgo_5v, xgo_5i, xgo_5l, xgd_5, xgd_0, xgd_1, xgd_2, xgd_3, xgd_4, ath_y, xct_f, xct_t, xna_f, csL_n, Nat.reduceMul, retX_i, retX_l, retX_r, retX_v, cTxt, cR_needs, PR_needs, cR_told, PR_told, xsR_first, csR_first, gR_25, pR_121, pR_125, pR_129, e_iconst, e_bipush, e_sipush, e_lconst_0, e_lconst_1, e_iload, e_iload_0, e_iload_1, e_iload_2, e_iload_3, e_lload, e_lload_0, e_lload_1, e_lload_2, e_lload_3, e_aload, e_aload_0, e_aload_1, e_aload_2, e_aload_3, e_istore, e_istore_0, e_istore_1, e_istore_2, e_istore_3, e_astore, e_astore_0, e_astore_1, e_astore_2, e_astore_3, e_lstore, e_lstore_0, e_lstore_1, e_lstore_2, e_lstore_3, e_iinc, e_iadd, e_isub, e_imul, e_ladd, e_lsub, e_lmul, e_idiv, e_irem, e_ldiv, e_lrem, e_ineg, e_lneg, e_iand, e_ior, e_ixor, e_ishl, e_ishr, e_iushr, e_lcmp, e_i2l, e_l2i, e_i2b, e_i2s, e_dup_i, e_dup_r, e_pop_i, e_pop_r, e_dup2_l, e_dup2_ir, e_dup2_ii, e_ifeq, e_ifne, e_iflt, e_ifge, e_ifgt, e_ifle, e_iceq, e_icne, e_iclt, e_icge, e_icgt, e_icle, e_goto, e_switch, e_invokevirtual, e_invokestatic, e_invokespecial, e_ret0, e_ret1, e_ret2, e_ret3, ldI_s, ldL_s, ldR_s, clO_s, ctP_s, ctS_s, mgo_0, mgo_s, pjc_s, pj_0, pj_s, lk_s, rm1_0, rm1_i, rm1_r, rm1_l, rm2_0, rm2_i, rm2_r, rm2_l, csL_s, lc_lt, lc_ge, lc_gt, lc_le, lc_eq, b01_0, b01_1, b01_01, b01_n, up2_o, up2_s, up2_u, ne_eq, reduceCtorEq, Nat.reduceAdd, Nat.reduceEqDiff, Nat.reduceLT, Nat.reduceLeDiff, Int.reduceLE, Int.reduceLT, Int.reduceAdd, Int.reduceNeg, Int.reduceMul, Int.reduceSub, Int.reduceEq, Int.reduceToNat, Int.reduceNatCast, Int.cast_ofNat_Int, ↓reduceIte, and_self, List.drop_succ_cons, List.drop_zero, List.take_succ_cons, List.take_zero, List.length_cons, List.length_nil, List.reverse_cons, List.reverse_nil, List.nil_append, List.cons_append, Option.toList, true_and, and_true, or_false, false_or, or_true, true_or, forall_const, Classical.not_not, not_false_eq_true, not_true_eq_false, false_implies, true_implies, implies_true, imp_self]
  refine ⟨q3, ⟨u3.2.1, u3.2.2⟩, fun r M4 hR => ?_⟩
  obtain ⟨hk4, ho⟩ := hR
  have ho : outI (told ((up2 M3 1 1 v3) 3) (zN (up2 M3 1 1 v3)) wOdds 0 10 (.inr q3)) r M4 := ho
  rw [(zkV_T u3.1).1, (zkV_T u3.1).2.1] at ho
  rcases step_I u3 hk4 ho with ⟨v4, e, y4, rfl, kx, g⟩ | ⟨v4, q4, y4, rfl, z4⟩
  · simp only [xgo_1x]
    exact hQ _ _ ⟨kx, fin_e (by show (told (M 3) (zN M) wOdds 0 10 (told (M 3) (zN M) wFrost 1 50 (told (M 3) (zN M) wLaw 0 3 (askS (M 3) (zN M) wValley (.inr p))).2).2).2 = _; rw [y1, y2, y3, y4]) rfl g⟩
  have u4 := zat_u (k := 1) (j := 2) (x := v4) z4 (by decide) (by decide)
  simp only [e_wpy (k := 9) dX8_first_50 rfl rfl rfl, e_wpy (k := 9) dX8_first_53 rfl rfl rfl, xoff_a, ex_null_n, ex_null_r, ex_nonn_n, ex_nonn_r, ex_aret, xel_n, xel_s, xgo_0, xgo_1x, xgo_1v, xgo_1i, xgo_1l, xgo_1r, xgo_2, xgo_3, xgo_4, xgo_5x, xgo_5v, xgo_5i, xgo_5l, xgd_5, xgd_0, xgd_1, xgd_2, xgd_3, xgd_4, ath_y, xct_f, xct_t, xna_f, csL_n, Nat.reduceMul, retX_i, retX_l, retX_r, retX_v, cTxt, cR_needs, PR_needs, cR_told, PR_told, xsR_first, csR_first, gR_25, pR_121, pR_125, pR_129, e_iconst, e_bipush, e_sipush, e_lconst_0, e_lconst_1, e_iload, e_iload_0, e_iload_1, e_iload_2, e_iload_3, e_lload, e_lload_0, e_lload_1, e_lload_2, e_lload_3, e_aload, e_aload_0, e_aload_1, e_aload_2, e_aload_3, e_istore, e_istore_0, e_istore_1, e_istore_2, e_istore_3, e_astore, e_astore_0, e_astore_1, e_astore_2, e_astore_3, e_lstore, e_lstore_0, e_lstore_1, e_lstore_2, e_lstore_3, e_iinc, e_iadd, e_isub, e_imul, e_ladd, e_lsub, e_lmul, e_idiv, e_irem, e_ldiv, e_lrem, e_ineg, e_lneg, e_iand, e_ior, e_ixor, e_ishl, e_ishr, e_iushr, e_lcmp, e_i2l, e_l2i, e_i2b, e_i2s, e_dup_i, e_dup_r, e_pop_i, e_pop_r, e_dup2_l, e_dup2_ir, e_dup2_ii, e_ifeq, e_ifne, e_iflt, e_ifge, e_ifgt, e_ifle, e_iceq, e_icne, e_iclt, e_icge, e_icgt, e_icle, e_goto, e_switch, e_invokevirtual, e_invokestatic, e_invokespecial, e_ret0, e_ret1, e_ret2, e_ret3, ldI_s, ldL_s, ldR_s, clO_s, ctP_s, ctS_s, mgo_0, mgo_s, pjc_s, pj_0, pj_s, lk_s, rm1_0, rm1_i, rm1_r, rm1_l, rm2_0, rm2_i, rm2_r, rm2_l, csL_s, lc_lt, lc_ge, lc_gt, lc_le, lc_eq, b01_0, b01_1, b01_01, b01_n, up2_o, up2_s, up2_u, ne_eq, reduceCtorEq, Nat.reduceAdd, Nat.reduceEqDiff, Nat.reduceLT, Nat.reduceLeDiff, Int.reduceLE, Int.reduceLT, Int.reduceAdd, Int.reduceNeg, Int.reduceMul, Int.reduceSub, Int.reduceEq, Int.reduceToNat, Int.reduceNatCast, Int.cast_ofNat_Int, ↓reduceIte, and_self, List.drop_succ_cons, List.drop_zero, List.take_succ_cons, List.take_zero, List.length_cons, List.length_nil, List.reverse_cons, List.reverse_nil, List.nil_append, List.cons_append, Option.toList, true_and, and_true, or_false, false_or, or_true, true_or, forall_const, Classical.not_not, not_false_eq_true, not_true_eq_false, false_implies, true_implies, implies_true, imp_self]
  refine hQ _ _ ⟨u4.1, fin_n (q := q4) (by show (told (M 3) (zN M) wOdds 0 10 (told (M 3) (zN M) wFrost 1 50 (told (M 3) (zN M) wLaw 0 3 (askS (M 3) (zN M) wValley (.inr p))).2).2).2 = _; rw [y1, y2, y3, y4]) rfl u4.2.2 ?_⟩
  rw [vZ_0 (c := 2) (by decide), vZ_K hk4, vZ_0 (c := 1) (by decide), vZ_K hk3, vZ_0 (c := 0) (by decide), vZ_K hk2, vZ_K hk1]
  show _ = up2 (up2 (up2 (vZ M) 0 0 (told (M 3) (zN M) wLaw 0 3 (askS (M 3) (zN M) wValley (.inr p))).1) 0 1 (told (M 3) (zN M) wFrost 1 50 (told (M 3) (zN M) wLaw 0 3 (askS (M 3) (zN M) wValley (.inr p))).2).1) 0 2 (told (M 3) (zN M) wOdds 0 10 (told (M 3) (zN M) wFrost 1 50 (told (M 3) (zN M) wLaw 0 3 (askS (M 3) (zN M) wValley (.inr p))).2).2).1
  rw [y1, y2, y3, y4]
set_option maxHeartbeats 4000000 in
set_option maxRecDepth 100000 in
theorem mR_first : MOKX clR shR tylR NwsR exR flR 9 1 8 yX8_first cX8_first 1 none spR_first := by
  refine mokX_of (own := RX8) (fl := flR) (tb := tbR (csL csR_first)) (xt := csL xsR_first) (rt := 0) (fuel := 400) (fun avs M Q => []) (by decide) rfl nwsR_ok (tbOKR _) rfl (csL_all ?_) (csY_all ?_) ?_ ?_ ?_
  · intro q hq; cases hq
  · intro q hq
    simp only [xsR_first, List.mem_cons, List.not_mem_nil, or_false] at hq
    rcases hq with rfl | rfl | rfl | rfl | rfl | rfl
    · exact Or.inr ⟨(by decide : ¬ ((0 : Nat) = 2 ∨ (0 : Nat) = 5)), cxe_txt (i := 0) (by decide)⟩
    · exact Or.inr ⟨(by decide : ¬ ((0 : Nat) = 2 ∨ (0 : Nat) = 5)), cxe_txt (i := 1) (by decide)⟩
    · exact Or.inr ⟨(by decide : ¬ ((0 : Nat) = 2 ∨ (0 : Nat) = 5)), cxe_txt (i := 2) (by decide)⟩
    · exact Or.inr ⟨(by decide : ¬ ((0 : Nat) = 2 ∨ (0 : Nat) = 5)), cxe_txt (i := 3) (by decide)⟩
    · exact Or.inr ⟨(by decide : ¬ ((1 : Nat) = 2 ∨ (1 : Nat) = 5)), cxeR_needs (by decide)⟩
    · exact Or.inr ⟨(by decide : ¬ ((1 : Nat) = 2 ∨ (1 : Nat) = 5)), cxeR_told (by decide)⟩
  · intro avs M Q hsp
    obtain ⟨xs, hx⟩ := spXG_un _ _ _ hsp
    obtain ⟨e, hl⟩ := unA_mkT hx
    obtain rfl := len0 hl
    have e : avs = [ar 0] := e
    subst e
    obtain ⟨p, hsp⟩ := hsp
    simp [szL, isL]
  · intro avs M Q hM hav hsp
    obtain ⟨xs, hx⟩ := spXG_un _ _ _ hsp
    obtain ⟨e, hl⟩ := unA_mkT hx
    obtain rfl := len0 hl
    have e : avs = [ar 0] := e
    subst e
    obtain ⟨p, hsp⟩ := hsp
    exact inR_first hM hsp.1 hsp.2
  · intro avs M Q hM hav hsp q hq m_ vs M1 hM1 hv hJ
    obtain ⟨xs, hx⟩ := spXG_un _ _ _ hsp
    obtain ⟨e, hl⟩ := unA_mkT hx
    obtain rfl := len0 hl
    have e : avs = [ar 0] := e
    subst e
    obtain ⟨p, hsp⟩ := hsp
    cases hq
theorem cxeR_first {lvl : Nat} (h : 9 < lvl) : CXE RX8 clR shR tylR NwsR exR flR lvl 1 8 1905 1 1 spR_first := cxe_VX (k := 0) (n' := 0) nwsR_ok exR_ok spXG_mono (fun avs M Q h => (spXG_un _ _ _ h).elim fun xs hx => rcvT (sg := []) hx) mR_first h rfl (by decide) rfl rfl ⟨rfl, by decide, by decide, rfl⟩ q572 q574 qs3 q139 q575
theorem ward_e {T : Nat → Int} {n : Nat} {V : Vy} {x : Ps} {e : Int × Int} (h : wardX T n V x = .inl e) : (wardS T n V x).2 = .inl e := by
  show (if isI T n wHalt (wardX T n V x) = 1 then ((-1 : Int), takeS T n wHalt (wardX T n V x)) else numS T n 0 (V 0 3 - 1) (ownS T n (wardA T n V x).1 (wardX T n V x))).2 = _
  rw [h]
  rfl
theorem ward_o {T : Nat → Int} {n : Nat} {V : Vy} {x : Ps} {q : Nat} (h : wardX T n V x = .inr q) (h2 : (tkP T n q).1 = 2) (h3 : numN T n q = (wardA T n V x).1) : (wardS T n V x).2 = .inl (2, ((tkP T n q).2.1 : Int)) := by
  show (if isI T n wHalt (wardX T n V x) = 1 then ((-1 : Int), takeS T n wHalt (wardX T n V x)) else numS T n 0 (V 0 3 - 1) (ownS T n (wardA T n V x).1 (wardX T n V x))).2 = _
  rw [h]
  rw [if_neg (fun z => by have z := ((isS_r T n).mp z).1; omega)]
  show (numS T n 0 (V 0 3 - 1) (if (tkP T n q).1 = 2 ∧ numN T n q = (wardA T n V x).1 then failS T n 2 (.inr q) else .inr q)).2 = _
  rw [if_pos ⟨h2, h3⟩]
  rfl
theorem ward_h {T : Nat → Int} {n : Nat} {V : Vy} {x : Ps} {q : Nat} (h : wardX T n V x = .inr q) (h2 : isW T n wHalt q) : wardS T n V x = (addV V 5 [(5, (wardA T n V x).1), (6, (wardO T n V x).1), (7, -1)], .inr (tkP T n q).2.2) := by
  have h4 : wardT T n V x = (-1, .inr (tkP T n q).2.2) := by
    unfold wardT
    rw [h, if_pos ((isS_r T n).mpr h2)]
    show ((-1 : Int), if isW T n wHalt q then Sum.inr (tkP T n q).2.2 else Sum.inr q) = _
    rw [if_pos h2]
  unfold wardS
  rw [h4]
theorem ward_n {T : Nat → Int} {n : Nat} {V : Vy} {x : Ps} {q : Nat} {y : Int × Ps} (h : wardX T n V x = .inr q) (h2 : ¬ isW T n wHalt q) (h3 : ¬ ((tkP T n q).1 = 2 ∧ numN T n q = (wardA T n V x).1)) (h4 : numS T n 0 (V 0 3 - 1) (.inr q) = y) : wardS T n V x = (addV V 5 [(5, (wardA T n V x).1), (6, (wardO T n V x).1), (7, y.1)], y.2) := by
  have h4 : wardT T n V x = y := by
    unfold wardT
    rw [h, if_neg (fun z => h2 ((isS_r T n).mp z))]
    show numS T n 0 (V 0 3 - 1) (if (tkP T n q).1 = 2 ∧ numN T n q = (wardA T n V x).1 then failS T n 2 (.inr q) else .inr q) = _
    rw [if_neg h3, h4]
  unfold wardS
  rw [h4]
theorem numS_rg {T : Nat → Int} {n p q : Nat} {lo hi v : Int} (h : numS T n lo hi (.inr p) = (v, .inr q)) : lo ≤ v ∧ v ≤ hi := by
  have h1 := (num_ok (T := T) (n := n) (lo := lo) (hi := hi) (x := .inr p) (q := q) (by rw [h])).1
  rw [h] at h1
  exact h1
theorem told_rg {T : Nat → Int} {n p q : Nat} {w : List Int} {lo hi v : Int} (h : told T n w lo hi (.inr p) = (v, .inr q)) : lo ≤ v ∧ v ≤ hi := by
  have h1 := (told_ok (T := T) (n := n) (w := w) (lo := lo) (hi := hi) (x := .inr p) (q := q) (by rw [h])).1
  rw [h] at h1
  exact h1
def PR_newWard (p : Nat) (M : Mm) : Prop := zI M ∧ zdR M p ∧ (0 ≤ M 1 6 ∧ M 1 6 ≤ 4) ∧ 0 ≤ M 1 4 ∧ M 1 4 ≤ 3
def RR_newWard (p : Nat) (M : Mm) (r : Option AV) (M1 : Mm) : Prop := zkV M M1 ∧ outV (wardS (M 3) (zN M) (vZ M) (.inr p)).2 r M1 ∧ ((∃ q, (wardS (M 3) (zN M) (vZ M) (.inr p)).2 = .inr q) → vZ M1 = (wardS (M 3) (zN M) (vZ M) (.inr p)).1)
def spR_newWard : Spec := spXG true [] (fun x p M => PR_newWard p M) (fun x p M r M1 => RR_newWard p M r M1)
theorem cR_newWard {M : Mm} {Q : Option AV → Mm → Prop} : spR_newWard [ar 0] M Q = (∃ p : Nat, PR_newWard p M ∧ ∀ (r : Option AV) (M1 : Mm), RR_newWard p M r M1 → Q r M1) := rfl
def csR_newWard : List (Nat × Nat × Nat × Spec) := []
def xsR_newWard : List (Nat × Nat × Nat × Spec) := [(1433, 0, 0, spTxt 4), (1443, 0, 0, spTxt 5), (1483, 0, 0, spTxt 6), (1075, 1, 2, spR_needs), (1175, 1, 4, spR_told), (1115, 1, 3, spR_number), (1005, 1, 2, spR_takes), (1035, 4, 2, spWrong), (14, 3, 2, spAcmp false), (720, 0, 0, spTok 2)]
def JR_newWard_87 (p : Nat) (M : Mm) (m : Nat) (w_ : Int) (M1 : Mm) : Prop := w_ = M 1 6 ∧ m = 0 ∧ ∃ (q3 : Nat) (v1 v2 : Int), wardX (M 3) (zN M) (vZ M) (.inr p) = .inr q3 ∧ (wardA (M 3) (zN M) (vZ M) (.inr p)).1 = v1 ∧ (wardO (M 3) (zN M) (vZ M) (.inr p)).1 = v2 ∧ zat M M1 q3 ∧ ¬ ((tkP (M 3) (zN M) q3).1 = 2 ∧ numN (M 3) (zN M) q3 = v1) ∧ M1 1 = M 1 ∧ M1 8 = up2 M 8 (M 1 6).toNat v1 8 ∧ M1 9 = up2 M 9 (M 1 6).toNat v2 9 ∧ ∀ k, k ∈ [4, 5, 6, 7, 10, 11] → M1 k = M k
set_option maxHeartbeats 4000000 in
set_option maxRecDepth 100000 in
theorem inR_newWard {p : Nat} {M : Mm} {Q : Option AV → Mm → Prop} (hM : okM shR M) (hP : PR_newWard p M) (hQ : ∀ (r : Option AV) (M1 : Mm), RR_newWard p M r M1 → Q r M1) (I_87 : List AV → Mm → Prop) (hI_87 : ∀ (m_ : Nat) (y_w_ : Int) (M2 : Mm), JR_newWard_87 p M m_ y_w_ M2 → I_87 [ar 0, ai y_w_] M2) : wpx (tbR (csL csR_newWard)) (csL xsR_newWard) shR 2 0 cX8_newWard [(87, [0, 1], I_87)] (retX Q) (fun _ M1 => Q (some an) M1) 400 false 0 [(0, ar 0)] [] M := by
  obtain ⟨h1, h2, h3, h4⟩ := id hP
  have z0 : zat M M p := ⟨zkV_rf, h1, h2⟩
  have eA : wardA (M 3) (zN M) (vZ M) (.inr p) = numS (M 3) (zN M) 0 (M 1 4 - 1) (.inr p) := rfl
  simp only [e_wpy (k := 9) dX8_newWard_0 rfl rfl rfl, e_wpy (k := 9) dX8_newWard_1 rfl rfl rfl, e_wpy (k := 9) dX8_newWard_4 rfl rfl rfl, e_wpy (k := 9) dX8_newWard_7 rfl rfl rfl, e_wpy (k := 9) dX8_newWard_8 rfl rfl rfl, e_wpy (k := 9) dX8_newWard_9 rfl rfl rfl, e_wpy (k := 9) dX8_newWard_12 rfl rfl rfl, e_wpy (k := 9) dX8_newWard_15 rfl rfl rfl, e_wpy (k := 9) dX8_newWard_16 rfl rfl rfl, e_wpy (k := 9) dX8_newWard_17 rfl rfl rfl, e_wpy (k := 9) dX8_newWard_18 rfl rfl rfl, e_wpy (k := 9) dX8_newWard_19 rfl rfl rfl, e_wpy (k := 9) dX8_newWard_22 rfl rfl rfl, e_wpy (k := 9) dX8_newWard_25 rfl rfl rfl, e_wpy (k := 9) dX8_newWard_26 rfl rfl rfl, e_wpy (k := 1115) dX8_newWard_27 rfl rfl rfl, e_wpy (k := 58) dX8_newWard_30 rfl rfl rfl, e_wpy (k := 9) dX8_newWard_31 rfl rfl rfl, e_wpy (k := 9) dX8_newWard_32 rfl rfl rfl, e_wpy (k := 9) dX8_newWard_35 rfl rfl rfl, e_wpy (k := 9) dX8_newWard_38 rfl rfl rfl, e_wpy (k := 9) dX8_newWard_39 rfl rfl rfl, e_wpy (k := 1433) dX8_newWard_40 rfl rfl rfl, e_wpy (k := 9) dX8_newWard_42 rfl rfl rfl, e_wpy (k := 9) dX8_newWard_43 rfl rfl rfl, e_wpy (k := 1175) dX8_newWard_45 rfl rfl rfl, e_wpy (k := 58) dX8_newWard_48 rfl rfl rfl, e_wpy (k := 9) dX8_newWard_49 rfl rfl rfl, e_wpy (k := 1443) dX8_newWard_50 rfl rfl rfl, e_wpy (k := 1075) dX8_newWard_52 rfl rfl rfl, e_wpy (k := 9) dX8_newWard_55 rfl rfl rfl, e_wpy (k := 9) dX8_newWard_56 rfl rfl rfl, e_wpy (k := 720) dX8_newWard_59 rfl rfl rfl, e_wpy (k := 14) dX8_newWard_62 rfl rfl rfl, e_wpy (k := 9) dX8_newWard_65 rfl rfl rfl, e_wpy (k := 9) dX8_newWard_66 rfl rfl rfl, e_wpy (k := 9) dX8_newWard_69 rfl rfl rfl, e_wpy (k := 9) dX8_newWard_70 rfl rfl rfl, e_wpy (k := 9) dX8_newWard_73 rfl rfl rfl, e_wpy (k := 9) dX8_newWard_76 rfl rfl rfl, e_wpy (k := 48) dX8_newWard_77 rfl rfl rfl, e_wpy (k := 9) dX8_newWard_78 rfl rfl rfl, e_wpy (k := 9) dX8_newWard_81 rfl rfl rfl, e_wpy (k := 9) dX8_newWard_82 rfl rfl rfl, e_wpy (k := 1035) dX8_newWard_83 rfl rfl rfl, e_wpy (k := 9) dX8_newWard_86 rfl rfl rfl, e_wpy (k := 9) dX8_newWard_87 rfl rfl rfl, e_wpy (k := 9) dX8_newWard_88 rfl rfl rfl, e_wpy (k := 9) dX8_newWard_91 rfl rfl rfl, e_wpy (k := 9) dX8_newWard_94 rfl rfl rfl, e_wpy (k := 9) dX8_newWard_95 rfl rfl rfl, e_wpy (k := 1483) dX8_newWard_96 rfl rfl rfl, e_wpy (k := 1005) dX8_newWard_98 rfl rfl rfl, e_wpy (k := 9) dX8_newWard_101 rfl rfl rfl, e_wpy (k := 9) dX8_newWard_104 rfl rfl rfl, e_wpy (k := 9) dX8_newWard_105 rfl rfl rfl, e_wpy (k := 9) dX8_newWard_108 rfl rfl rfl, e_wpy (k := 9) dX8_newWard_109 rfl rfl rfl, e_wpy (k := 9) dX8_newWard_110 rfl rfl rfl, e_wpy (k := 9) dX8_newWard_111 rfl rfl rfl, e_wpy (k := 9) dX8_newWard_114 rfl rfl rfl, e_wpy (k := 9) dX8_newWard_117 rfl rfl rfl, e_wpy (k := 9) dX8_newWard_118 rfl rfl rfl, e_wpy (k := 1115) dX8_newWard_119 rfl rfl rfl, e_wpy (k := 58) dX8_newWard_122 rfl rfl rfl, e_wpy (k := 9) dX8_newWard_123 rfl rfl rfl, e_wpy (k := 9) dX8_newWard_124 rfl rfl rfl, e_wpy (k := 9) dX8_newWard_127 rfl rfl rfl, e_wpy (k := 9) dX8_newWard_128 rfl rfl rfl, e_wpy (k := 9) dX8_newWard_131 rfl rfl rfl, e_wpy (k := 9) dX8_newWard_132 rfl rfl rfl, e_wpy (k := 9) dX8_newWard_133 rfl rfl rfl, e_wpy (k := 9) dX8_newWard_136 rfl rfl rfl, xoff_a, ex_null_n, ex_null_r, ex_nonn_n, ex_nonn_r, ex_aret, xel_n, xel_s, xgo_0, xgo_1x, xgo_1v, xgo_1i, xgo_1l, xgo_1r, xgo_2, xgo_3, xgo_4, xgo_5x, xgo_5v, xgo_5i, xgo_5l, xgd_5, xgd_0, xgd_1, xgd_2, xgd_3, xgd_4, ath_y, xct_f, xct_t, xna_f, csL_n, Nat.reduceMul, retX_i, retX_l, retX_r, retX_v, cTxt, cR_needs, PR_needs, cR_told, PR_told, cR_number, PR_number, cR_takes, PR_takes, cWrong, cAne, cTok, xsR_newWard, dX8_newWard_86, gR_25, gR_131, gR_134, gR_137, csR_newWard, gR_140, gR_35, gR_62, gR_146, pR_131, aR_4, wR_4, aR_5, wR_5, aR_6, wR_6, aR_7, wR_7, aR_8, wR_8, aR_9, wR_9, aR_10, wR_10, aR_11, wR_11, aR_3, e_iconst, e_bipush, e_sipush, e_lconst_0, e_lconst_1, e_iload, e_iload_0, e_iload_1, e_iload_2, e_iload_3, e_lload, e_lload_0, e_lload_1, e_lload_2, e_lload_3, e_aload, e_aload_0, e_aload_1, e_aload_2, e_aload_3, e_istore, e_istore_0, e_istore_1, e_istore_2, e_istore_3, e_astore, e_astore_0, e_astore_1, e_astore_2, e_astore_3, e_lstore, e_lstore_0, e_lstore_1, e_lstore_2, e_lstore_3, e_iinc, e_iadd, e_isub, e_imul, e_ladd, e_lsub, e_lmul, e_idiv, e_irem, e_ldiv, e_lrem, e_ineg, e_lneg, e_iand, e_ior, e_ixor, e_ishl, e_ishr, e_iushr, e_lcmp, e_i2l, e_l2i, e_i2b, e_i2s, e_dup_i, e_dup_r, e_pop_i, e_pop_r, e_dup2_l, e_dup2_ir, e_dup2_ii, e_ifeq, e_ifne, e_iflt, e_ifge, e_ifgt, e_ifle, e_iceq, e_icne, e_iclt, e_icge, e_icgt, e_icle, e_goto, e_switch, e_invokevirtual, e_invokestatic, e_invokespecial, e_ret0, e_ret1, e_ret2, e_ret3, ldI_s, ldL_s, ldR_s, clO_s, ctP_s, ctS_s, mgo_0, mgo_s, pjc_s, pj_0, pj_s, lk_s, rm1_0, rm1_i, rm1_r, rm1_l, rm2_0, rm2_i, rm2_r, rm2_l, csL_s, lc_lt, lc_ge, lc_gt, lc_le, lc_eq, b01_0, b01_1, b01_01, b01_n, up2_o, up2_s, up2_u, ne_eq, reduceCtorEq, Nat.reduceAdd, Nat.reduceEqDiff, Nat.reduceLT, Nat.reduceLeDiff, Int.reduceLE, Int.reduceLT, Int.reduceAdd, Int.reduceNeg, Int.reduceMul, Int.reduceSub, Int.reduceEq, Int.reduceToNat, Int.reduceNatCast, Int.cast_ofNat_Int, ↓reduceIte, and_self, List.drop_succ_cons, List.drop_zero, List.take_succ_cons, List.take_zero, List.length_cons, List.length_nil, List.reverse_cons, List.reverse_nil, List.nil_append, List.cons_append, Option.toList, true_and, and_true, or_false, false_or, or_true, true_or, forall_const, Classical.not_not, not_false_eq_true, not_true_eq_false, false_implies, true_implies, implies_true, imp_self]
  refine ⟨by omega, ?_⟩
  have hp9 : M 1 4 - 1 ≤ 1000 := by omega
  refine ⟨p, ⟨z0.2.1, z0.2.2, hp9⟩, fun r M1 hR => ?_⟩
  obtain ⟨hk1, ho⟩ := hR
  have ho : outI (numS (M 3) (zN M) 0 (M 1 4 - 1) (.inr p)) r M1 := ho
  skip
  rcases step_I z0 hk1 ho with ⟨v1, e, y1, rfl, kx, g⟩ | ⟨v1, q1, y1, rfl, z1⟩
  · simp only [xgo_1x]
    exact hQ _ _ ⟨kx, fin_e (by exact ward_e (by show askS (M 3) (zN M) wTo (told (M 3) (zN M) wOver 0 99 (numS (M 3) (zN M) 0 (M 1 4 - 1) (.inr p)).2).2 = _; rw [y1]; rfl)) rfl g⟩
  have b1 := numS_rg y1
  simp only [e_wpy (k := 58) dX8_newWard_30 rfl rfl rfl, e_wpy (k := 9) dX8_newWard_31 rfl rfl rfl, e_wpy (k := 9) dX8_newWard_32 rfl rfl rfl, e_wpy (k := 9) dX8_newWard_35 rfl rfl rfl, e_wpy (k := 9) dX8_newWard_38 rfl rfl rfl, e_wpy (k := 9) dX8_newWard_39 rfl rfl rfl, e_wpy (k := 1433) dX8_newWard_40 rfl rfl rfl, e_wpy (k := 9) dX8_newWard_42 rfl rfl rfl, e_wpy (k := 9) dX8_newWard_43 rfl rfl rfl, e_wpy (k := 1175) dX8_newWard_45 rfl rfl rfl, xoff_a, ex_null_n, ex_null_r, ex_nonn_n, ex_nonn_r, ex_aret, xel_n, xel_s, xgo_0, xgo_1x, xgo_1v, xgo_1i, xgo_1l, xgo_1r, xgo_2, xgo_3, xgo_4, xgo_5x, xgo_5v, xgo_5i, xgo_5l, xgd_5, xgd_0, xgd_1, xgd_2, xgd_3, xgd_4, ath_y, xct_f, xct_t, xna_f, csL_n, Nat.reduceMul, retX_i, retX_l, retX_r, retX_v, cTxt, cR_needs, PR_needs, cR_told, PR_told, cR_number, PR_number, cR_takes, PR_takes, cWrong, cAne, cTok, xsR_newWard, dX8_newWard_86, gR_25, gR_131, gR_134, gR_137, csR_newWard, gR_140, gR_35, gR_62, gR_146, pR_131, aR_4, wR_4, aR_5, wR_5, aR_6, wR_6, aR_7, wR_7, aR_8, wR_8, aR_9, wR_9, aR_10, wR_10, aR_11, wR_11, aR_3, e_iconst, e_bipush, e_sipush, e_lconst_0, e_lconst_1, e_iload, e_iload_0, e_iload_1, e_iload_2, e_iload_3, e_lload, e_lload_0, e_lload_1, e_lload_2, e_lload_3, e_aload, e_aload_0, e_aload_1, e_aload_2, e_aload_3, e_istore, e_istore_0, e_istore_1, e_istore_2, e_istore_3, e_astore, e_astore_0, e_astore_1, e_astore_2, e_astore_3, e_lstore, e_lstore_0, e_lstore_1, e_lstore_2, e_lstore_3, e_iinc, e_iadd, e_isub, e_imul, e_ladd, e_lsub, e_lmul, e_idiv, e_irem, e_ldiv, e_lrem, e_ineg, e_lneg, e_iand, e_ior, e_ixor, e_ishl, e_ishr, e_iushr, e_lcmp, e_i2l, e_l2i, e_i2b, e_i2s, e_dup_i, e_dup_r, e_pop_i, e_pop_r, e_dup2_l, e_dup2_ir, e_dup2_ii, e_ifeq, e_ifne, e_iflt, e_ifge, e_ifgt, e_ifle, e_iceq, e_icne, e_iclt, e_icge, e_icgt, e_icle, e_goto, e_switch, e_invokevirtual, e_invokestatic, e_invokespecial, e_ret0, e_ret1, e_ret2, e_ret3, ldI_s, ldL_s, ldR_s, clO_s, ctP_s, ctS_s, mgo_0, mgo_s, pjc_s, pj_0, pj_s, lk_s, rm1_0, rm1_i, rm1_r, rm1_l, rm2_0, rm2_i, rm2_r, rm2_l, csL_s, lc_lt, lc_ge, lc_gt, lc_le, lc_eq, b01_0, b01_1, b01_01, b01_n, up2_o, up2_s, up2_u, ne_eq, reduceCtorEq, Nat.reduceAdd, Nat.reduceEqDiff, Nat.reduceLT, Nat.reduceLeDiff, Int.reduceLE, Int.reduceLT, Int.reduceAdd, Int.reduceNeg, Int.reduceMul, Int.reduceSub, Int.reduceEq, Int.reduceToNat, Int.reduceNatCast, Int.cast_ofNat_Int, ↓reduceIte, and_self, List.drop_succ_cons, List.drop_zero, List.take_succ_cons, List.take_zero, List.length_cons, List.length_nil, List.reverse_cons, List.reverse_nil, List.nil_append, List.cons_append, Option.toList, true_and, and_true, or_false, false_or, or_true, true_or, forall_const, Classical.not_not, not_false_eq_true, not_true_eq_false, false_implies, true_implies, implies_true, imp_self]
  refine ⟨by omega, ?_⟩
  have u1 := zat_u (k := 8) (j := (M 1 6).toNat) (x := v1) z1 (by decide) (by omega)
  refine ⟨q1, ⟨u1.2.1, u1.2.2⟩, fun r M2 hR => ?_⟩
  obtain ⟨hk2, ho⟩ := hR
  have ho : outI (told ((up2 M1 8 (M 1 6).toNat v1) 3) (zN (up2 M1 8 (M 1 6).toNat v1)) wOver 0 99 (.inr q1)) r M2 := ho
  rw [(zkV_T u1.1).1, (zkV_T u1.1).2.1] at ho
  rcases step_I u1 hk2 ho with ⟨v2, e, y2, rfl, kx, g⟩ | ⟨v2, q2, y2, rfl, z2⟩
  · simp only [xgo_1x]
    exact hQ _ _ ⟨kx, fin_e (by exact ward_e (by show askS (M 3) (zN M) wTo (told (M 3) (zN M) wOver 0 99 (numS (M 3) (zN M) 0 (M 1 4 - 1) (.inr p)).2).2 = _; rw [y1, y2]; rfl)) rfl g⟩
  simp only [e_wpy (k := 58) dX8_newWard_48 rfl rfl rfl, e_wpy (k := 9) dX8_newWard_49 rfl rfl rfl, e_wpy (k := 1443) dX8_newWard_50 rfl rfl rfl, e_wpy (k := 1075) dX8_newWard_52 rfl rfl rfl, xoff_a, ex_null_n, ex_null_r, ex_nonn_n, ex_nonn_r, ex_aret, xel_n, xel_s, xgo_0, xgo_1x, xgo_1v, xgo_1i, xgo_1l, xgo_1r, xgo_2, xgo_3, xgo_4, xgo_5x, xgo_5v, xgo_5i, xgo_5l, xgd_5, xgd_0, xgd_1, xgd_2, xgd_3, xgd_4, ath_y, xct_f, xct_t, xna_f, csL_n, Nat.reduceMul, retX_i, retX_l, retX_r, retX_v, cTxt, cR_needs, PR_needs, cR_told, PR_told, cR_number, PR_number, cR_takes, PR_takes, cWrong, cAne, cTok, xsR_newWard, dX8_newWard_86, gR_25, gR_131, gR_134, gR_137, csR_newWard, gR_140, gR_35, gR_62, gR_146, pR_131, aR_4, wR_4, aR_5, wR_5, aR_6, wR_6, aR_7, wR_7, aR_8, wR_8, aR_9, wR_9, aR_10, wR_10, aR_11, wR_11, aR_3, e_iconst, e_bipush, e_sipush, e_lconst_0, e_lconst_1, e_iload, e_iload_0, e_iload_1, e_iload_2, e_iload_3, e_lload, e_lload_0, e_lload_1, e_lload_2, e_lload_3, e_aload, e_aload_0, e_aload_1, e_aload_2, e_aload_3, e_istore, e_istore_0, e_istore_1, e_istore_2, e_istore_3, e_astore, e_astore_0, e_astore_1, e_astore_2, e_astore_3, e_lstore, e_lstore_0, e_lstore_1, e_lstore_2, e_lstore_3, e_iinc, e_iadd, e_isub, e_imul, e_ladd, e_lsub, e_lmul, e_idiv, e_irem, e_ldiv, e_lrem, e_ineg, e_lneg, e_iand, e_ior, e_ixor, e_ishl, e_ishr, e_iushr, e_lcmp, e_i2l, e_l2i, e_i2b, e_i2s, e_dup_i, e_dup_r, e_pop_i, e_pop_r, e_dup2_l, e_dup2_ir, e_dup2_ii, e_ifeq, e_ifne, e_iflt, e_ifge, e_ifgt, e_ifle, e_iceq, e_icne, e_iclt, e_icge, e_icgt, e_icle, e_goto, e_switch, e_invokevirtual, e_invokestatic, e_invokespecial, e_ret0, e_ret1, e_ret2, e_ret3, ldI_s, ldL_s, ldR_s, clO_s, ctP_s, ctS_s, mgo_0, mgo_s, pjc_s, pj_0, pj_s, lk_s, rm1_0, rm1_i, rm1_r, rm1_l, rm2_0, rm2_i, rm2_r, rm2_l, csL_s, lc_lt, lc_ge, lc_gt, lc_le, lc_eq, b01_0, b01_1, b01_01, b01_n, up2_o, up2_s, up2_u, ne_eq, reduceCtorEq, Nat.reduceAdd, Nat.reduceEqDiff, Nat.reduceLT, Nat.reduceLeDiff, Int.reduceLE, Int.reduceLT, Int.reduceAdd, Int.reduceNeg, Int.reduceMul, Int.reduceSub, Int.reduceEq, Int.reduceToNat, Int.reduceNatCast, Int.cast_ofNat_Int, ↓reduceIte, and_self, List.drop_succ_cons, List.drop_zero, List.take_succ_cons, List.take_zero, List.length_cons, List.length_nil, List.reverse_cons, List.reverse_nil, List.nil_append, List.cons_append, Option.toList, true_and, and_true, or_false, false_or, or_true, true_or, forall_const, Classical.not_not, not_false_eq_true, not_true_eq_false, false_implies, true_implies, implies_true, imp_self]
  refine ⟨by omega, ?_⟩
  have u2 := zat_u (k := 9) (j := (M 1 6).toNat) (x := v2) z2 (by decide) (by omega)
  refine ⟨q2, ⟨u2.2.1, u2.2.2⟩, fun r M3 hR => ?_⟩
  obtain ⟨hk3, ho⟩ := hR
  have ho : outV (askS ((up2 M2 9 (M 1 6).toNat v2) 3) (zN (up2 M2 9 (M 1 6).toNat v2)) wTo (.inr q2)) r M3 := ho
  rw [(zkV_T u2.1).1, (zkV_T u2.1).2.1] at ho
  rcases step_V u2 hk3 ho with ⟨e, y3, rfl, kx, g⟩ | ⟨q3, y3, rfl, z3⟩
  · simp only [xgo_1x]
    exact hQ _ _ ⟨kx, fin_e (by exact ward_e (by show askS (M 3) (zN M) wTo (told (M 3) (zN M) wOver 0 99 (numS (M 3) (zN M) 0 (M 1 4 - 1) (.inr p)).2).2 = _; rw [y1, y2, y3])) rfl g⟩
  have hX : wardX (M 3) (zN M) (vZ M) (.inr p) = .inr q3 := by
    show askS (M 3) (zN M) wTo (told (M 3) (zN M) wOver 0 99 (numS (M 3) (zN M) 0 (M 1 4 - 1) (.inr p)).2).2 = _
    rw [y1, y2, y3]
  have hA1 : (wardA (M 3) (zN M) (vZ M) (.inr p)).1 = v1 := by rw [eA, y1]
  have hO1 : (wardO (M 3) (zN M) (vZ M) (.inr p)).1 = v2 := by
    show (told (M 3) (zN M) wOver 0 99 (wardA (M 3) (zN M) (vZ M) (.inr p)).2).1 = v2
    rw [eA, y1, y2]
  have t3 := zkV_T z3.1
  have g3 := zdR_rg z3.2.2
  have hf := fval_p (x := M3 0 5) (by omega)
  have r8 : M3 8 (M 1 6).toNat = v1 := by
    rw [hk3.1 8 (by decide), up2_ne (k' := 8) (by decide), hk2.1 8 (by decide), up2_s]
  have w6 : M3 1 6 = M 1 6 := by
    rw [hk3.1 1 (by decide), up2_ne (k' := 1) (by decide), hk2.1 1 (by decide), up2_ne (k' := 1) (by decide), hk1.1 1 (by decide)]
  have e5 : M3 0 5 = 320 + (tkP (M 3) (zN M) q3).1 := by
    have := z3.2.2.2.1
    rw [this]
    show 320 + (tkP (M3 3) (zN M3) q3).1 = _
    rw [t3.1, t3.2.1]
  have e4 : (tkP (M 3) (zN M) q3).1 = 2 → vR (M3 0 4) (numN (M 3) (zN M) q3) := by
    have := z3.2.2.2.2.2.2.2
    have e : zTk M3 q3 = tkP (M 3) (zN M) q3 := by
      show tkP (M3 3) (zN M3) q3 = _
      rw [t3.1, t3.2.1]
    rw [e, t3.1, t3.2.1] at this
    exact this
  have e3 : M3 0 3 = ((tkP (M 3) (zN M) q3).2.1 : Int) := by
    have := z3.2.2.2.2.1
    rw [this]
    show ((tkP (M3 3) (zN M3) q3).2.1 : Int) = _
    rw [t3.1, t3.2.1]
  have x1 : M3 1 = M 1 := by rw [hk3.1 1 (by decide), up2_ne (k' := 1) (by decide), hk2.1 1 (by decide), up2_ne (k' := 1) (by decide), hk1.1 1 (by decide)]
  have x8 : M3 8 = up2 M 8 (M 1 6).toNat v1 8 := by
    rw [hk3.1 8 (by decide), up2_ne (k' := 8) (by decide), hk2.1 8 (by decide)]
    funext j
    rw [up2_r, up2_r, hk1.1 8 (by decide)]
  have x9 : M3 9 = up2 M 9 (M 1 6).toNat v2 9 := by
    rw [hk3.1 9 (by decide)]
    funext j
    rw [up2_r, up2_r, hk2.1 9 (by decide), up2_ne (k' := 9) (by decide), hk1.1 9 (by decide)]
  have xo : ∀ k, k ∈ [4, 5, 6, 7, 10, 11] → M3 k = M k := fun k hk => by
    have a1 : k ∉ [0] := fun z => by simp only [List.mem_cons, List.not_mem_nil, or_false] at hk z; omega
    have a2 : ¬ k = 8 ∧ ¬ k = 9 := by simp only [List.mem_cons, List.not_mem_nil, or_false] at hk; omega
    rw [hk3.1 k a1, up2_ne a2.2, hk2.1 k a1, up2_ne a2.1, hk1.1 k a1]
  simp only [e_wpy (k := 9) dX8_newWard_55 rfl rfl rfl, e_wpy (k := 9) dX8_newWard_56 rfl rfl rfl, e_wpy (k := 720) dX8_newWard_59 rfl rfl rfl, e_wpy (k := 14) dX8_newWard_62 rfl rfl rfl, e_wpy (k := 9) dX8_newWard_65 rfl rfl rfl, e_wpy (k := 9) dX8_newWard_66 rfl rfl rfl, e_wpy (k := 9) dX8_newWard_69 rfl rfl rfl, e_wpy (k := 9) dX8_newWard_70 rfl rfl rfl, e_wpy (k := 9) dX8_newWard_73 rfl rfl rfl, e_wpy (k := 9) dX8_newWard_76 rfl rfl rfl, e_wpy (k := 48) dX8_newWard_77 rfl rfl rfl, e_wpy (k := 9) dX8_newWard_78 rfl rfl rfl, e_wpy (k := 9) dX8_newWard_81 rfl rfl rfl, e_wpy (k := 9) dX8_newWard_82 rfl rfl rfl, e_wpy (k := 1035) dX8_newWard_83 rfl rfl rfl, e_wpy (k := 9) dX8_newWard_86 rfl rfl rfl, xoff_a, ex_null_n, ex_null_r, ex_nonn_n, ex_nonn_r, ex_aret, xel_n, xel_s, xgo_0, xgo_1x, xgo_1v, xgo_1i, xgo_1l, xgo_1r, xgo_2, xgo_3, xgo_4, xgo_5x, xgo_5v, xgo_5i, xgo_5l, xgd_5, xgd_0, xgd_1, xgd_2, xgd_3, xgd_4, ath_y, xct_f, xct_t, xna_f, csL_n, Nat.reduceMul, retX_i, retX_l, retX_r, retX_v, cTxt, cR_needs, PR_needs, cR_told, PR_told, cR_number, PR_number, cR_takes, PR_takes, cWrong, cAne, cTok, xsR_newWard, dX8_newWard_86, gR_25, gR_131, gR_134, gR_137, csR_newWard, gR_140, gR_35, gR_62, gR_146, pR_131, aR_4, wR_4, aR_5, wR_5, aR_6, wR_6, aR_7, wR_7, aR_8, wR_8, aR_9, wR_9, aR_10, wR_10, aR_11, wR_11, aR_3, e_iconst, e_bipush, e_sipush, e_lconst_0, e_lconst_1, e_iload, e_iload_0, e_iload_1, e_iload_2, e_iload_3, e_lload, e_lload_0, e_lload_1, e_lload_2, e_lload_3, e_aload, e_aload_0, e_aload_1, e_aload_2, e_aload_3, e_istore, e_istore_0, e_istore_1, e_istore_2, e_istore_3, e_astore, e_astore_0, e_astore_1, e_astore_2, e_astore_3, e_lstore, e_lstore_0, e_lstore_1, e_lstore_2, e_lstore_3, e_iinc, e_iadd, e_isub, e_imul, e_ladd, e_lsub, e_lmul, e_idiv, e_irem, e_ldiv, e_lrem, e_ineg, e_lneg, e_iand, e_ior, e_ixor, e_ishl, e_ishr, e_iushr, e_lcmp, e_i2l, e_l2i, e_i2b, e_i2s, e_dup_i, e_dup_r, e_pop_i, e_pop_r, e_dup2_l, e_dup2_ir, e_dup2_ii, e_ifeq, e_ifne, e_iflt, e_ifge, e_ifgt, e_ifle, e_iceq, e_icne, e_iclt, e_icge, e_icgt, e_icle, e_goto, e_switch, e_invokevirtual, e_invokestatic, e_invokespecial, e_ret0, e_ret1, e_ret2, e_ret3, ldI_s, ldL_s, ldR_s, clO_s, ctP_s, ctS_s, mgo_0, mgo_s, pjc_s, pj_0, pj_s, lk_s, rm1_0, rm1_i, rm1_r, rm1_l, rm2_0, rm2_i, rm2_r, rm2_l, csL_s, lc_lt, lc_ge, lc_gt, lc_le, lc_eq, b01_0, b01_1, b01_01, b01_n, up2_o, up2_s, up2_u, ne_eq, reduceCtorEq, Nat.reduceAdd, Nat.reduceEqDiff, Nat.reduceLT, Nat.reduceLeDiff, Int.reduceLE, Int.reduceLT, Int.reduceAdd, Int.reduceNeg, Int.reduceMul, Int.reduceSub, Int.reduceEq, Int.reduceToNat, Int.reduceNatCast, Int.cast_ofNat_Int, ↓reduceIte, and_self, List.drop_succ_cons, List.drop_zero, List.take_succ_cons, List.take_zero, List.length_cons, List.length_nil, List.reverse_cons, List.reverse_nil, List.nil_append, List.cons_append, Option.toList, true_and, and_true, or_false, false_or, or_true, true_or, forall_const, Classical.not_not, not_false_eq_true, not_true_eq_false, false_implies, true_implies, implies_true, imp_self, hf, r8]
  refine ⟨by omega, fun q => hI_87 0 _ _ ⟨rfl, rfl, q3, v1, v2, hX, hA1, hO1, z3, fun z => by omega, x1, x8, x9, xo⟩, fun q => ⟨by omega, fun q2 => ?_, fun q2 => ?_⟩⟩
  · refine hI_87 0 _ _ ⟨rfl, rfl, q3, v1, v2, hX, hA1, hO1, z3, fun z => q2 ?_, x1, x8, x9, xo⟩
    have e := vR_eq (e4 z.1) (by omega)
    omega
  · have k2 : (tkP (M 3) (zN M) q3).1 = 2 := by omega
    have e : numN (M 3) (zN M) q3 = v1 := by
      rcases e4 k2 with e | ⟨e1, -⟩ <;> omega
    refine hQ _ _ ⟨zkV_K z3.1 gh3_K, fin_e (ward_o hX k2 (e.trans hA1.symm)) rfl ?_⟩
    obtain ⟨g1, g2, g3⟩ := @gh3_0 M3 2 (M3 0 3)
    exact ⟨g1, g2, g3.trans e3⟩
set_option maxHeartbeats 4000000 in
set_option maxRecDepth 100000 in
theorem atR_newWard_87 {p : Nat} {M : Mm} {Q : Option AV → Mm → Prop} (hM : okM shR M) (hP : PR_newWard p M) (hQ : ∀ (r : Option AV) (M1 : Mm), RR_newWard p M r M1 → Q r M1) {m : Nat} {w_ : Int} {M1 : Mm} (hM1 : okM shR M1) (h_w_ : i32 w_) (hJ : JR_newWard_87 p M m w_ M1) (I_87 : List AV → Mm → Prop) (hI_87 : ∀ (m_ : Nat) (y_w_ : Int) (M2 : Mm), m_ < m → JR_newWard_87 p M m_ y_w_ M2 → I_87 [ar 0, ai y_w_] M2) : wpx (tbR (csL csR_newWard)) (csL xsR_newWard) shR 2 0 cX8_newWard [(87, [0, 1], I_87)] (retX Q) (fun _ M1 => Q (some an) M1) 400 false 87 [(0, ar 0), (1, ai w_)] [] M1 := by
  obtain ⟨rfl, rfl, q3, v1, v2, hX, hA1, hO1, z3, hno, x1, x8, x9, xo⟩ := hJ
  obtain ⟨h1, h2, h3, h4⟩ := id hP
  have t3 := zkV_T z3.1
  have w6 : M1 1 6 = M 1 6 := by rw [x1]
  have w4 : M1 1 4 = M 1 4 := by rw [x1]
  simp only [e_wpy (k := 9) dX8_newWard_87 rfl rfl rfl, e_wpy (k := 9) dX8_newWard_88 rfl rfl rfl, e_wpy (k := 9) dX8_newWard_91 rfl rfl rfl, e_wpy (k := 9) dX8_newWard_94 rfl rfl rfl, e_wpy (k := 9) dX8_newWard_95 rfl rfl rfl, e_wpy (k := 1483) dX8_newWard_96 rfl rfl rfl, e_wpy (k := 1005) dX8_newWard_98 rfl rfl rfl, xoff_a, ex_null_n, ex_null_r, ex_nonn_n, ex_nonn_r, ex_aret, xel_n, xel_s, xgo_0, xgo_1x, xgo_1v, xgo_1i, xgo_1l, xgo_1r, xgo_2, xgo_3, xgo_4, xgo_5x, xgo_5v, xgo_5i, xgo_5l, xgd_5, xgd_0, xgd_1, xgd_2, xgd_3, xgd_4, ath_y, xct_f, xct_t, xna_f, csL_n, Nat.reduceMul, retX_i, retX_l, retX_r, retX_v, cTxt, cR_needs, PR_needs, cR_told, PR_told, cR_number, PR_number, cR_takes, PR_takes, cWrong, cAne, cTok, xsR_newWard, dX8_newWard_86, gR_25, gR_131, gR_134, gR_137, csR_newWard, gR_140, gR_35, gR_62, gR_146, pR_131, aR_4, wR_4, aR_5, wR_5, aR_6, wR_6, aR_7, wR_7, aR_8, wR_8, aR_9, wR_9, aR_10, wR_10, aR_11, wR_11, aR_3, e_iconst, e_bipush, e_sipush, e_lconst_0, e_lconst_1, e_iload, e_iload_0, e_iload_1, e_iload_2, e_iload_3, e_lload, e_lload_0, e_lload_1, e_lload_2, e_lload_3, e_aload, e_aload_0, e_aload_1, e_aload_2, e_aload_3, e_istore, e_istore_0, e_istore_1, e_istore_2, e_istore_3, e_astore, e_astore_0, e_astore_1, e_astore_2, e_astore_3, e_lstore, e_lstore_0, e_lstore_1, e_lstore_2, e_lstore_3, e_iinc, e_iadd, e_isub, e_imul, e_ladd, e_lsub, e_lmul, e_idiv, e_irem, e_ldiv, e_lrem, e_ineg, e_lneg, e_iand, e_ior, e_ixor, e_ishl, e_ishr, e_iushr, e_lcmp, e_i2l, e_l2i, e_i2b, e_i2s, e_dup_i, e_dup_r, e_pop_i, e_pop_r, e_dup2_l, e_dup2_ir, e_dup2_ii, e_ifeq, e_ifne, e_iflt, e_ifge, e_ifgt, e_ifle, e_iceq, e_icne, e_iclt, e_icge, e_icgt, e_icle, e_goto, e_switch, e_invokevirtual, e_invokestatic, e_invokespecial, e_ret0, e_ret1, e_ret2, e_ret3, ldI_s, ldL_s, ldR_s, clO_s, ctP_s, ctS_s, mgo_0, mgo_s, pjc_s, pj_0, pj_s, lk_s, rm1_0, rm1_i, rm1_r, rm1_l, rm2_0, rm2_i, rm2_r, rm2_l, csL_s, lc_lt, lc_ge, lc_gt, lc_le, lc_eq, b01_0, b01_1, b01_01, b01_n, up2_o, up2_s, up2_u, ne_eq, reduceCtorEq, Nat.reduceAdd, Nat.reduceEqDiff, Nat.reduceLT, Nat.reduceLeDiff, Int.reduceLE, Int.reduceLT, Int.reduceAdd, Int.reduceNeg, Int.reduceMul, Int.reduceSub, Int.reduceEq, Int.reduceToNat, Int.reduceNatCast, Int.cast_ofNat_Int, ↓reduceIte, and_self, List.drop_succ_cons, List.drop_zero, List.take_succ_cons, List.take_zero, List.length_cons, List.length_nil, List.reverse_cons, List.reverse_nil, List.nil_append, List.cons_append, Option.toList, true_and, and_true, or_false, false_or, or_true, true_or, forall_const, Classical.not_not, not_false_eq_true, not_true_eq_false, false_implies, true_implies, implies_true, imp_self, w6]
  refine ⟨q3, ⟨z3.2.1, z3.2.2⟩, fun r M4 hR => ?_⟩
  obtain ⟨hk4, hR⟩ := hR
  have hR : (isW (M1 3) (zN M1) wHalt q3 ∧ r = some (ai 1) ∧ zdR M4 (zTk M1 q3).2.2) ∨ (¬ isW (M1 3) (zN M1) wHalt q3 ∧ r = some (ai 0) ∧ M4 = M1) := hR
  rw [t3.1, t3.2.1, show zTk M1 q3 = tkP (M 3) (zN M) q3 by show tkP (M1 3) (zN M1) q3 = _; rw [t3.1, t3.2.1]] at hR
  have fin : ∀ (M5 : Mm) (v5 : Int) (q5 : Nat), zat M M5 q5 → (∀ k, k ∉ [0] → M5 k = M1 k) → wardS (M 3) (zN M) (vZ M) (.inr p) = (addV (vZ M) 5 [(5, v1), (6, v2), (7, v5)], .inr q5) → Q none (up2 (up2 M5 10 (M 1 6).toNat v5) 1 6 (M 1 6 + 1)) := by
    intro M5 v5 q5 z5 o5 hw
    have u5 := zat_u (k := 1) (j := 6) (x := M 1 6 + 1) (zat_u (k := 10) (j := (M 1 6).toNat) (x := v5) z5 (by decide) (by omega)) (by decide) (by decide)
    refine hQ _ _ ⟨u5.1, fin_n (q := q5) (by rw [hw]) rfl u5.2.2 ?_⟩
    rw [hw]
    unfold vZ
    rw [up2_ne (k' := 4) (by decide), up2_ne (k' := 4) (by decide), up2_ne (k' := 5) (by decide), up2_ne (k' := 5) (by decide), up2_ne (k' := 6) (by decide), up2_ne (k' := 6) (by decide), up2_ne (k' := 7) (by decide), up2_ne (k' := 7) (by decide), up2_ne (k' := 8) (by decide), up2_ne (k' := 8) (by decide), up2_ne (k' := 9) (by decide), up2_ne (k' := 9) (by decide), up2_ne (k' := 10) (by decide), up2_ne (k' := 11) (by decide), up2_ne (k' := 11) (by decide),
      o5 4 (by decide), o5 5 (by decide), o5 6 (by decide), o5 7 (by decide), o5 8 (by decide), o5 9 (by decide), o5 11 (by decide), xo 4 (by decide), xo 5 (by decide), xo 6 (by decide), xo 7 (by decide), xo 11 (by decide), x8, x9]
    refine vZr_w (n := (M 1 6).toNat) (by omega) (by rw [up2_s]; omega) (fun j hj => ?_) (fun j => ?_) (fun j => ?_) (fun j => ?_)
    · rw [up2_n hj, up2_ne (k' := 1) (by decide), o5 1 (by decide), x1]
    · exact up2_row
    · exact up2_row
    · rw [up2_row, o5 10 (by decide), xo 10 (by decide)]
  rcases hR with ⟨hw, rfl, hz⟩ | ⟨hw, rfl, rfl⟩
  · have k1 : M4 1 = M 1 := (hk4.1 1 (by decide)).trans x1
    have k6 : M4 1 6 = M 1 6 := by rw [k1]
    simp only [e_wpy (k := 9) dX8_newWard_101 rfl rfl rfl, e_wpy (k := 9) dX8_newWard_104 rfl rfl rfl, e_wpy (k := 9) dX8_newWard_105 rfl rfl rfl, e_wpy (k := 9) dX8_newWard_108 rfl rfl rfl, e_wpy (k := 9) dX8_newWard_109 rfl rfl rfl, e_wpy (k := 9) dX8_newWard_110 rfl rfl rfl, e_wpy (k := 9) dX8_newWard_111 rfl rfl rfl, e_wpy (k := 9) dX8_newWard_114 rfl rfl rfl, e_wpy (k := 9) dX8_newWard_117 rfl rfl rfl, e_wpy (k := 9) dX8_newWard_118 rfl rfl rfl, e_wpy (k := 1115) dX8_newWard_119 rfl rfl rfl, e_wpy (k := 58) dX8_newWard_122 rfl rfl rfl, e_wpy (k := 9) dX8_newWard_123 rfl rfl rfl, e_wpy (k := 9) dX8_newWard_124 rfl rfl rfl, e_wpy (k := 9) dX8_newWard_127 rfl rfl rfl, e_wpy (k := 9) dX8_newWard_128 rfl rfl rfl, e_wpy (k := 9) dX8_newWard_131 rfl rfl rfl, e_wpy (k := 9) dX8_newWard_132 rfl rfl rfl, e_wpy (k := 9) dX8_newWard_133 rfl rfl rfl, e_wpy (k := 9) dX8_newWard_136 rfl rfl rfl, xoff_a, ex_null_n, ex_null_r, ex_nonn_n, ex_nonn_r, ex_aret, xel_n, xel_s, xgo_0, xgo_1x, xgo_1v, xgo_1i, xgo_1l, xgo_1r, xgo_2, xgo_3, xgo_4, xgo_5x, xgo_5v, xgo_5i, xgo_5l, xgd_5, xgd_0, xgd_1, xgd_2, xgd_3, xgd_4, ath_y, xct_f, xct_t, xna_f, csL_n, Nat.reduceMul, retX_i, retX_l, retX_r, retX_v, cTxt, cR_needs, PR_needs, cR_told, PR_told, cR_number, PR_number, cR_takes, PR_takes, cWrong, cAne, cTok, xsR_newWard, dX8_newWard_86, gR_25, gR_131, gR_134, gR_137, csR_newWard, gR_140, gR_35, gR_62, gR_146, pR_131, aR_4, wR_4, aR_5, wR_5, aR_6, wR_6, aR_7, wR_7, aR_8, wR_8, aR_9, wR_9, aR_10, wR_10, aR_11, wR_11, aR_3, e_iconst, e_bipush, e_sipush, e_lconst_0, e_lconst_1, e_iload, e_iload_0, e_iload_1, e_iload_2, e_iload_3, e_lload, e_lload_0, e_lload_1, e_lload_2, e_lload_3, e_aload, e_aload_0, e_aload_1, e_aload_2, e_aload_3, e_istore, e_istore_0, e_istore_1, e_istore_2, e_istore_3, e_astore, e_astore_0, e_astore_1, e_astore_2, e_astore_3, e_lstore, e_lstore_0, e_lstore_1, e_lstore_2, e_lstore_3, e_iinc, e_iadd, e_isub, e_imul, e_ladd, e_lsub, e_lmul, e_idiv, e_irem, e_ldiv, e_lrem, e_ineg, e_lneg, e_iand, e_ior, e_ixor, e_ishl, e_ishr, e_iushr, e_lcmp, e_i2l, e_l2i, e_i2b, e_i2s, e_dup_i, e_dup_r, e_pop_i, e_pop_r, e_dup2_l, e_dup2_ir, e_dup2_ii, e_ifeq, e_ifne, e_iflt, e_ifge, e_ifgt, e_ifle, e_iceq, e_icne, e_iclt, e_icge, e_icgt, e_icle, e_goto, e_switch, e_invokevirtual, e_invokestatic, e_invokespecial, e_ret0, e_ret1, e_ret2, e_ret3, ldI_s, ldL_s, ldR_s, clO_s, ctP_s, ctS_s, mgo_0, mgo_s, pjc_s, pj_0, pj_s, lk_s, rm1_0, rm1_i, rm1_r, rm1_l, rm2_0, rm2_i, rm2_r, rm2_l, csL_s, lc_lt, lc_ge, lc_gt, lc_le, lc_eq, b01_0, b01_1, b01_01, b01_n, up2_o, up2_s, up2_u, ne_eq, reduceCtorEq, Nat.reduceAdd, Nat.reduceEqDiff, Nat.reduceLT, Nat.reduceLeDiff, Int.reduceLE, Int.reduceLT, Int.reduceAdd, Int.reduceNeg, Int.reduceMul, Int.reduceSub, Int.reduceEq, Int.reduceToNat, Int.reduceNatCast, Int.cast_ofNat_Int, ↓reduceIte, and_self, List.drop_succ_cons, List.drop_zero, List.take_succ_cons, List.take_zero, List.length_cons, List.length_nil, List.reverse_cons, List.reverse_nil, List.nil_append, List.cons_append, Option.toList, true_and, and_true, or_false, false_or, or_true, true_or, forall_const, Classical.not_not, not_false_eq_true, not_true_eq_false, false_implies, true_implies, implies_true, imp_self, k6, up2_o]
    refine ⟨by omega, by omega, fin M4 (-1) _ ⟨zkV_K z3.1 hk4, (zkK_T hk4).2.2 z3.2.1, hz⟩ (fun k hk => hk4.1 k hk) ?_⟩
    rw [ward_h hX hw, hA1, hO1]
  · simp only [e_wpy (k := 9) dX8_newWard_101 rfl rfl rfl, e_wpy (k := 9) dX8_newWard_104 rfl rfl rfl, e_wpy (k := 9) dX8_newWard_105 rfl rfl rfl, e_wpy (k := 9) dX8_newWard_108 rfl rfl rfl, e_wpy (k := 9) dX8_newWard_109 rfl rfl rfl, e_wpy (k := 9) dX8_newWard_110 rfl rfl rfl, e_wpy (k := 9) dX8_newWard_111 rfl rfl rfl, e_wpy (k := 9) dX8_newWard_114 rfl rfl rfl, e_wpy (k := 9) dX8_newWard_117 rfl rfl rfl, e_wpy (k := 9) dX8_newWard_118 rfl rfl rfl, e_wpy (k := 1115) dX8_newWard_119 rfl rfl rfl, xoff_a, ex_null_n, ex_null_r, ex_nonn_n, ex_nonn_r, ex_aret, xel_n, xel_s, xgo_0, xgo_1x, xgo_1v, xgo_1i, xgo_1l, xgo_1r, xgo_2, xgo_3, xgo_4, xgo_5x, xgo_5v, xgo_5i, xgo_5l, xgd_5, xgd_0, xgd_1, xgd_2, xgd_3, xgd_4, ath_y, xct_f, xct_t, xna_f, csL_n, Nat.reduceMul, retX_i, retX_l, retX_r, retX_v, cTxt, cR_needs, PR_needs, cR_told, PR_told, cR_number, PR_number, cR_takes, PR_takes, cWrong, cAne, cTok, xsR_newWard, dX8_newWard_86, gR_25, gR_131, gR_134, gR_137, csR_newWard, gR_140, gR_35, gR_62, gR_146, pR_131, aR_4, wR_4, aR_5, wR_5, aR_6, wR_6, aR_7, wR_7, aR_8, wR_8, aR_9, wR_9, aR_10, wR_10, aR_11, wR_11, aR_3, e_iconst, e_bipush, e_sipush, e_lconst_0, e_lconst_1, e_iload, e_iload_0, e_iload_1, e_iload_2, e_iload_3, e_lload, e_lload_0, e_lload_1, e_lload_2, e_lload_3, e_aload, e_aload_0, e_aload_1, e_aload_2, e_aload_3, e_istore, e_istore_0, e_istore_1, e_istore_2, e_istore_3, e_astore, e_astore_0, e_astore_1, e_astore_2, e_astore_3, e_lstore, e_lstore_0, e_lstore_1, e_lstore_2, e_lstore_3, e_iinc, e_iadd, e_isub, e_imul, e_ladd, e_lsub, e_lmul, e_idiv, e_irem, e_ldiv, e_lrem, e_ineg, e_lneg, e_iand, e_ior, e_ixor, e_ishl, e_ishr, e_iushr, e_lcmp, e_i2l, e_l2i, e_i2b, e_i2s, e_dup_i, e_dup_r, e_pop_i, e_pop_r, e_dup2_l, e_dup2_ir, e_dup2_ii, e_ifeq, e_ifne, e_iflt, e_ifge, e_ifgt, e_ifle, e_iceq, e_icne, e_iclt, e_icge, e_icgt, e_icle, e_goto, e_switch, e_invokevirtual, e_invokestatic, e_invokespecial, e_ret0, e_ret1, e_ret2, e_ret3, ldI_s, ldL_s, ldR_s, clO_s, ctP_s, ctS_s, mgo_0, mgo_s, pjc_s, pj_0, pj_s, lk_s, rm1_0, rm1_i, rm1_r, rm1_l, rm2_0, rm2_i, rm2_r, rm2_l, csL_s, lc_lt, lc_ge, lc_gt, lc_le, lc_eq, b01_0, b01_1, b01_01, b01_n, up2_o, up2_s, up2_u, ne_eq, reduceCtorEq, Nat.reduceAdd, Nat.reduceEqDiff, Nat.reduceLT, Nat.reduceLeDiff, Int.reduceLE, Int.reduceLT, Int.reduceAdd, Int.reduceNeg, Int.reduceMul, Int.reduceSub, Int.reduceEq, Int.reduceToNat, Int.reduceNatCast, Int.cast_ofNat_Int, ↓reduceIte, and_self, List.drop_succ_cons, List.drop_zero, List.take_succ_cons, List.take_zero, List.length_cons, List.length_nil, List.reverse_cons, List.reverse_nil, List.nil_append, List.cons_append, Option.toList, true_and, and_true, or_false, false_or, or_true, true_or, forall_const, Classical.not_not, not_false_eq_true, not_true_eq_false, false_implies, true_implies, implies_true, imp_self, w4, w6]
    refine ⟨by omega, q3, ⟨z3.2.1, z3.2.2, by omega⟩, fun r M5 hR => ?_⟩
    obtain ⟨hk5, ho⟩ := hR
    have ho : outI (numS (M4 3) (zN M4) 0 (M 1 4 - 1) (.inr q3)) r M5 := ho
    rw [t3.1, t3.2.1] at ho
    rcases step_I z3 hk5 ho with ⟨v5, e, y5, rfl, kx, g⟩ | ⟨v5, q5, y5, rfl, z5⟩
    · simp only [xgo_1x]
      exact hQ _ _ ⟨kx, fin_e (by rw [ward_n hX hw (by rw [hA1]; exact hno) y5]) rfl g⟩
    · have k1 : M5 1 = M 1 := (hk5.1 1 (by decide)).trans x1
      have k6 : M5 1 6 = M 1 6 := by rw [k1]
      simp only [e_wpy (k := 58) dX8_newWard_122 rfl rfl rfl, e_wpy (k := 9) dX8_newWard_123 rfl rfl rfl, e_wpy (k := 9) dX8_newWard_124 rfl rfl rfl, e_wpy (k := 9) dX8_newWard_127 rfl rfl rfl, e_wpy (k := 9) dX8_newWard_128 rfl rfl rfl, e_wpy (k := 9) dX8_newWard_131 rfl rfl rfl, e_wpy (k := 9) dX8_newWard_132 rfl rfl rfl, e_wpy (k := 9) dX8_newWard_133 rfl rfl rfl, e_wpy (k := 9) dX8_newWard_136 rfl rfl rfl, xoff_a, ex_null_n, ex_null_r, ex_nonn_n, ex_nonn_r, ex_aret, xel_n, xel_s, xgo_0, xgo_1x, xgo_1v, xgo_1i, xgo_1l, xgo_1r, xgo_2, xgo_3, xgo_4, xgo_5x, xgo_5v, xgo_5i, xgo_5l, xgd_5, xgd_0, xgd_1, xgd_2, xgd_3, xgd_4, ath_y, xct_f, xct_t, xna_f, csL_n, Nat.reduceMul, retX_i, retX_l, retX_r, retX_v, cTxt, cR_needs, PR_needs, cR_told, PR_told, cR_number, PR_number, cR_takes, PR_takes, cWrong, cAne, cTok, xsR_newWard, dX8_newWard_86, gR_25, gR_131, gR_134, gR_137, csR_newWard, gR_140, gR_35, gR_62, gR_146, pR_131, aR_4, wR_4, aR_5, wR_5, aR_6, wR_6, aR_7, wR_7, aR_8, wR_8, aR_9, wR_9, aR_10, wR_10, aR_11, wR_11, aR_3, e_iconst, e_bipush, e_sipush, e_lconst_0, e_lconst_1, e_iload, e_iload_0, e_iload_1, e_iload_2, e_iload_3, e_lload, e_lload_0, e_lload_1, e_lload_2, e_lload_3, e_aload, e_aload_0, e_aload_1, e_aload_2, e_aload_3, e_istore, e_istore_0, e_istore_1, e_istore_2, e_istore_3, e_astore, e_astore_0, e_astore_1, e_astore_2, e_astore_3, e_lstore, e_lstore_0, e_lstore_1, e_lstore_2, e_lstore_3, e_iinc, e_iadd, e_isub, e_imul, e_ladd, e_lsub, e_lmul, e_idiv, e_irem, e_ldiv, e_lrem, e_ineg, e_lneg, e_iand, e_ior, e_ixor, e_ishl, e_ishr, e_iushr, e_lcmp, e_i2l, e_l2i, e_i2b, e_i2s, e_dup_i, e_dup_r, e_pop_i, e_pop_r, e_dup2_l, e_dup2_ir, e_dup2_ii, e_ifeq, e_ifne, e_iflt, e_ifge, e_ifgt, e_ifle, e_iceq, e_icne, e_iclt, e_icge, e_icgt, e_icle, e_goto, e_switch, e_invokevirtual, e_invokestatic, e_invokespecial, e_ret0, e_ret1, e_ret2, e_ret3, ldI_s, ldL_s, ldR_s, clO_s, ctP_s, ctS_s, mgo_0, mgo_s, pjc_s, pj_0, pj_s, lk_s, rm1_0, rm1_i, rm1_r, rm1_l, rm2_0, rm2_i, rm2_r, rm2_l, csL_s, lc_lt, lc_ge, lc_gt, lc_le, lc_eq, b01_0, b01_1, b01_01, b01_n, up2_o, up2_s, up2_u, ne_eq, reduceCtorEq, Nat.reduceAdd, Nat.reduceEqDiff, Nat.reduceLT, Nat.reduceLeDiff, Int.reduceLE, Int.reduceLT, Int.reduceAdd, Int.reduceNeg, Int.reduceMul, Int.reduceSub, Int.reduceEq, Int.reduceToNat, Int.reduceNatCast, Int.cast_ofNat_Int, ↓reduceIte, and_self, List.drop_succ_cons, List.drop_zero, List.take_succ_cons, List.take_zero, List.length_cons, List.length_nil, List.reverse_cons, List.reverse_nil, List.nil_append, List.cons_append, Option.toList, true_and, and_true, or_false, false_or, or_true, true_or, forall_const, Classical.not_not, not_false_eq_true, not_true_eq_false, false_implies, true_implies, implies_true, imp_self, k6, up2_o]
      refine ⟨by omega, by omega, fin M5 v5 q5 z5 (fun k hk => hk5.1 k hk) ?_⟩
      rw [ward_n hX hw (by rw [hA1]; exact hno) y5, hA1, hO1]
set_option maxHeartbeats 4000000 in
set_option maxRecDepth 100000 in
theorem mR_newWard : MOKX clR shR tylR NwsR exR flR 9 1 8 yX8_newWard cX8_newWard 2 none spR_newWard := by
  refine mokX_of (own := RX8) (fl := flR) (tb := tbR (csL csR_newWard)) (xt := csL xsR_newWard) (rt := 0) (fuel := 400) (fun avs M Q => [(87, [0, 1], fun m_ vs M1 => ∃ p : Nat, (PR_newWard p M ∧ ∀ (r_ : Option AV) (M2_ : Mm), RR_newWard p M r_ M2_ → Q r_ M2_) ∧ ∃ y_w_ : Int, vs = [ar 0, ai y_w_] ∧ JR_newWard_87 p M m_ y_w_ M1)]) (by decide) rfl nwsR_ok (tbOKR _) rfl (csL_all ?_) (csY_all ?_) ?_ ?_ ?_
  · intro q hq; cases hq
  · intro q hq
    simp only [xsR_newWard, List.mem_cons, List.not_mem_nil, or_false] at hq
    rcases hq with rfl | rfl | rfl | rfl | rfl | rfl | rfl | rfl | rfl | rfl
    · exact Or.inr ⟨(by decide : ¬ ((0 : Nat) = 2 ∨ (0 : Nat) = 5)), cxe_txt (i := 4) (by decide)⟩
    · exact Or.inr ⟨(by decide : ¬ ((0 : Nat) = 2 ∨ (0 : Nat) = 5)), cxe_txt (i := 5) (by decide)⟩
    · exact Or.inr ⟨(by decide : ¬ ((0 : Nat) = 2 ∨ (0 : Nat) = 5)), cxe_txt (i := 6) (by decide)⟩
    · exact Or.inr ⟨(by decide : ¬ ((1 : Nat) = 2 ∨ (1 : Nat) = 5)), cxeR_needs (by decide)⟩
    · exact Or.inr ⟨(by decide : ¬ ((1 : Nat) = 2 ∨ (1 : Nat) = 5)), cxeR_told (by decide)⟩
    · exact Or.inr ⟨(by decide : ¬ ((1 : Nat) = 2 ∨ (1 : Nat) = 5)), cxeR_number (by decide)⟩
    · exact Or.inr ⟨(by decide : ¬ ((1 : Nat) = 2 ∨ (1 : Nat) = 5)), cxeR_takes (by decide)⟩
    · exact Or.inr ⟨(by decide : ¬ ((4 : Nat) = 2 ∨ (4 : Nat) = 5)), cxe_wrong (by decide)⟩
    · exact Or.inr ⟨(by decide : ¬ ((3 : Nat) = 2 ∨ (3 : Nat) = 5)), cxe_ane⟩
    · exact Or.inr ⟨(by decide : ¬ ((0 : Nat) = 2 ∨ (0 : Nat) = 5)), cxe_tok (x := 72) (j := 2) (by decide) q540⟩
  · intro avs M Q hsp
    obtain ⟨xs, hx⟩ := spXG_un _ _ _ hsp
    obtain ⟨e, hl⟩ := unA_mkT hx
    obtain rfl := len0 hl
    have e : avs = [ar 0] := e
    subst e
    obtain ⟨p, hsp⟩ := hsp
    simp [szL, isL]
  · intro avs M Q hM hav hsp
    obtain ⟨xs, hx⟩ := spXG_un _ _ _ hsp
    obtain ⟨e, hl⟩ := unA_mkT hx
    obtain rfl := len0 hl
    have e : avs = [ar 0] := e
    subst e
    obtain ⟨p, hsp⟩ := hsp
    exact inR_newWard hM hsp.1 hsp.2 _ (fun m_ y_w_ M2 hJ => ⟨m_, p, hsp, y_w_, rfl, hJ⟩)
  · intro avs M Q hM hav hsp q hq m_ vs M1 hM1 hv hJ
    obtain ⟨xs, hx⟩ := spXG_un _ _ _ hsp
    obtain ⟨e, hl⟩ := unA_mkT hx
    obtain rfl := len0 hl
    have e : avs = [ar 0] := e
    subst e
    obtain ⟨p, hsp⟩ := hsp
    simp only [List.mem_cons, List.not_mem_nil, or_false] at hq
    rcases hq with rfl
    · obtain ⟨p, hsp, y_w_, rfl, hJ⟩ := hJ
      exact atR_newWard_87 hM hsp.1 hsp.2 hM1 (hv (1, ai y_w_) (List.mem_of_getElem? (i := 1) rfl)) hJ _ (fun m2 z_w_ M2 hm hJ2 => ⟨m2, hm, p, hsp, z_w_, rfl, hJ2⟩)
theorem cxeR_newWard {lvl : Nat} (h : 9 < lvl) : CXE RX8 clR shR tylR NwsR exR flR lvl 1 8 1775 1 1 spR_newWard := cxe_VX (k := 0) (n' := 0) nwsR_ok exR_ok spXG_mono (fun avs M Q h => (spXG_un _ _ _ h).elim fun xs hx => rcvT (sg := []) hx) mR_newWard h rfl (by decide) rfl rfl ⟨rfl, by decide, by decide, rfl⟩ q750 q752 qs14 q139 q753
