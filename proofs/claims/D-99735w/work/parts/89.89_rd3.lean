/-! The reader: words -/
theorem stk_eq {f : Nat → Int} : ∀ {n : Nat} {w : List Int}, stk f n = w ↔ (n = w.length ∧ ∀ k, k < n → f k = w.getD (w.length - 1 - k) 0) := by
  intro n
  induction n with
  | zero =>
    intro w
    cases w with
    | nil => exact ⟨fun _ => ⟨rfl, fun k hk => absurd hk (by omega)⟩, fun _ => rfl⟩
    | cons c w => exact ⟨fun h => (by cases h), fun h => absurd h.1 (by simp)⟩
  | succ n ih =>
    intro w
    cases w with
    | nil => exact ⟨fun h => (by cases h), fun h => absurd h.1 (by simp)⟩
    | cons c w =>
      show f n :: stk f n = c :: w ↔ _
      rw [List.cons.injEq, ih, List.length_cons]
      constructor
      · rintro ⟨h1, h2, h3⟩
        refine ⟨by omega, fun k hk => ?_⟩
        by_cases e : k = n
        · rw [e, show w.length + 1 - 1 - n = 0 by omega]
          exact h1
        · have h4 := h3 k (by omega)
          rw [h4, show w.length + 1 - 1 - k = (w.length - 1 - k) + 1 by omega]
          rfl
      · rintro ⟨h1, h2⟩
        refine ⟨?_, by omega, fun k hk => ?_⟩
        · have h3 := h2 n (by omega)
          rw [show w.length + 1 - 1 - n = 0 by omega] at h3
          exact h3
        · have h3 := h2 k (by omega)
          rw [show w.length + 1 - 1 - k = (w.length - 1 - k) + 1 by omega] at h3
          exact h3
theorem isW_eq {T : Nat → Int} {n p i : Nat} : isW T n (sW i) p ↔ ((tkP T n p).1 = 1 ∧ (tkP T n p).2.2 - (tkP T n p).2.1 = (sW i).length ∧ ∀ k, k < (sW i).length → T ((tkP T n p).2.1 + k) = chW i k) := by
  show (tkP T n p).1 = 1 ∧ stk (fun k => T ((tkP T n p).2.1 + k)) ((tkP T n p).2.2 - (tkP T n p).2.1) = sW i ↔ _
  rw [stk_eq]
  constructor
  · rintro ⟨h1, h2, h3⟩
    exact ⟨h1, h2, fun k hk => h3 k (by omega)⟩
  · rintro ⟨h1, h2, h3⟩
    exact ⟨h1, h2, fun k hk => h3 k (by omega)⟩
/-- by the fields -/
theorem zdR_W {M : Mm} {p i : Nat} (h : zdR M p) : isW (M 3) (zN M) (sW i) p ↔ (M 0 5 = 321 ∧ M 0 2 - M 0 3 = ((sW i).length : Int) ∧ ∀ k, k < (sW i).length → M 3 ((M 0 3).toNat + k) = chW i k) := by
  obtain ⟨h1, h2, h3, h4, -, -⟩ := h
  have hb := (tkP_rg (T := M 3) h1).2
  rw [isW_eq, h3, h4, h2, Int.toNat_natCast]
  show (_ ∧ _ ∧ _) ↔ _
  constructor
  · rintro ⟨a, b, c⟩
    exact ⟨by show 320 + (tkP (M 3) (zN M) p).1 = 321; omega, by show ((tkP (M 3) (zN M) p).2.2 : Int) - ((tkP (M 3) (zN M) p).2.1 : Int) = _; omega, c⟩
  · rintro ⟨a, b, c⟩
    have a : 320 + (tkP (M 3) (zN M) p).1 = 321 := a
    have b : ((tkP (M 3) (zN M) p).2.2 : Int) - ((tkP (M 3) (zN M) p).2.1 : Int) = ((sW i).length : Int) := b
    exact ⟨by omega, by omega, c⟩
theorem zdR_rg {M : Mm} {p : Nat} (h : zdR M p) : (320 ≤ M 0 5 ∧ M 0 5 ≤ 324) ∧ (0 ≤ M 0 3 ∧ M 0 3 ≤ M 0 2) ∧ M 0 2 ≤ (zN M : Int) := by
  obtain ⟨h1, h2, h3, h4, -, -⟩ := h
  have hb := tkP_rg (T := M 3) h1
  have h2 : M 0 5 = 320 + (tkP (M 3) (zN M) p).1 := h2
  have h3 : M 0 3 = ((tkP (M 3) (zN M) p).2.1 : Int) := h3
  have h4 : M 0 2 = ((tkP (M 3) (zN M) p).2.2 : Int) := h4
  omega
abbrev xW (w : Int) : Nat := w.toNat - 300
def PR_is (w : Int) (M : Mm) : Prop := zI M ∧ (∃ p, zdR M p) ∧ 300 ≤ w ∧ w < 314
def RR_is (w : Int) (M : Mm) (r : Option AV) (M1 : Mm) : Prop := ∃ v : Int, r = some (ai v) ∧ M1 = M ∧ (v = 0 ∨ v = 1) ∧ ∀ p, zdR M p → (v = 1 ↔ isW (M 3) (zN M) (sW (xW w)) p)
def spR_is : Spec := spX true [2] (fun x M => PR_is (x 0) M) (fun x M r M1 => RR_is (x 0) M r M1)
theorem cR_is {w : Nat} {M : Mm} {Q : Option AV → Mm → Prop} : spR_is [ar 0, ar w] M Q = (PR_is (w : Int) M ∧ ∀ (r : Option AV) (M1 : Mm), RR_is (w : Int) M r M1 → Q r M1) := rfl
def csR_is : List (Nat × Nat × Nat × Spec) := []
def xsR_is : List (Nat × Nat × Nat × Spec) := [(590, 0, 0, spTok 1), (14, 3, 2, spAcmp false), (865, 0, 1, spTl), (925, 0, 2, spTc)]
def JR_is_30 (w : Int) (M : Mm) (m : Nat) (k : Int) (M1 : Mm) : Prop := M1 = M ∧ M 0 5 = 321 ∧ M 0 2 - M 0 3 = ((sW (xW w)).length : Int) ∧ ∃ i : Nat, k = i ∧ i ≤ (sW (xW w)).length ∧ (∀ j, j < i → M 3 ((M 0 3).toNat + j) = chW (xW w) j) ∧ m = (sW (xW w)).length - i
set_option maxHeartbeats 4000000 in
set_option maxRecDepth 100000 in
theorem inR_is {w : Int} {M : Mm} {Q : Option AV → Mm → Prop} (hM : okM shR M) (hP : PR_is w M) (hQ : ∀ (r : Option AV) (M1 : Mm), RR_is w M r M1 → Q r M1) (I_30 : List AV → Mm → Prop) (hI_30 : ∀ (m_ : Nat) (y_k : Int) (M2 : Mm), JR_is_30 w M m_ y_k M2 → I_30 [ar 0, ar w.toNat, ai y_k] M2) : wpx (tbR (csL csR_is)) (csL xsR_is) shR 3 2 cX8_is [(30, [0, 1, 2], I_30)] (retX Q) (fun _ M1 => Q (some an) M1) 400 false 0 [(0, ar 0), (1, ar w.toNat)] [] M := by
  obtain ⟨h1, ⟨p0, h2⟩, h3⟩ := id hP
  have hg := zdR_rg h2
  have en : ((zN M : Nat) : Int) = M 0 0 := Int.toNat_of_nonneg h1.1
  have hf := fval_p (x := M 0 5) (by omega)
  have hl := sW_len (i := xW w) (by show w.toNat - 300 < 14; omega)
  simp only [e_wpy (k := 9) dX8_is_0 rfl rfl rfl, e_wpy (k := 9) dX8_is_1 rfl rfl rfl, e_wpy (k := 590) dX8_is_4 rfl rfl rfl, e_wpy (k := 14) dX8_is_7 rfl rfl rfl, e_wpy (k := 9) dX8_is_10 rfl rfl rfl, e_wpy (k := 9) dX8_is_11 rfl rfl rfl, e_wpy (k := 9) dX8_is_14 rfl rfl rfl, e_wpy (k := 9) dX8_is_15 rfl rfl rfl, e_wpy (k := 9) dX8_is_18 rfl rfl rfl, e_wpy (k := 9) dX8_is_19 rfl rfl rfl, e_wpy (k := 865) dX8_is_20 rfl rfl rfl, e_wpy (k := 9) dX8_is_23 rfl rfl rfl, e_wpy (k := 9) dX8_is_26 rfl rfl rfl, e_wpy (k := 9) dX8_is_27 rfl rfl rfl, e_wpy (k := 9) dX8_is_28 rfl rfl rfl, e_wpy (k := 9) dX8_is_29 rfl rfl rfl, e_wpy (k := 9) dX8_is_30 rfl rfl rfl, e_wpy (k := 9) dX8_is_31 rfl rfl rfl, e_wpy (k := 865) dX8_is_32 rfl rfl rfl, e_wpy (k := 9) dX8_is_35 rfl rfl rfl, e_wpy (k := 9) dX8_is_38 rfl rfl rfl, e_wpy (k := 9) dX8_is_39 rfl rfl rfl, e_wpy (k := 9) dX8_is_42 rfl rfl rfl, e_wpy (k := 9) dX8_is_45 rfl rfl rfl, e_wpy (k := 9) dX8_is_46 rfl rfl rfl, e_wpy (k := 9) dX8_is_49 rfl rfl rfl, e_wpy (k := 9) dX8_is_50 rfl rfl rfl, e_wpy (k := 28) dX8_is_51 rfl rfl rfl, e_wpy (k := 9) dX8_is_52 rfl rfl rfl, e_wpy (k := 9) dX8_is_53 rfl rfl rfl, e_wpy (k := 925) dX8_is_54 rfl rfl rfl, e_wpy (k := 9) dX8_is_57 rfl rfl rfl, e_wpy (k := 9) dX8_is_60 rfl rfl rfl, e_wpy (k := 9) dX8_is_61 rfl rfl rfl, e_wpy (k := 9) dX8_is_62 rfl rfl rfl, e_wpy (k := 9) dX8_is_65 rfl rfl rfl, e_wpy (k := 9) dX8_is_68 rfl rfl rfl, e_wpy (k := 9) dX8_is_69 rfl rfl rfl, xoff_a, ex_null_n, ex_null_r, ex_nonn_n, ex_nonn_r, ex_aret, xel_n, xel_s, xgo_0, xgo_1x, xgo_1v, xgo_1i, xgo_1l, xgo_1r, xgo_2, xgo_3, xgo_4, xgo_5x, xgo_5v, xgo_5i, xgo_5l, xgd_5, xgd_0, xgd_1, xgd_2, xgd_3, xgd_4, ath_y, xct_f, xct_t, xna_f, csL_n, Nat.reduceMul, retX_i, retX_l, retX_r, retX_v, cTok, cAne, cTl, cTc, xsR_is, gR_35, gR_41, gR_52, csR_is, gR_3, gR_44, aR_4, wR_4, aR_5, wR_5, aR_6, wR_6, aR_7, wR_7, aR_8, wR_8, aR_9, wR_9, aR_10, wR_10, aR_11, wR_11, aR_3, e_iconst, e_bipush, e_sipush, e_lconst_0, e_lconst_1, e_iload, e_iload_0, e_iload_1, e_iload_2, e_iload_3, e_lload, e_lload_0, e_lload_1, e_lload_2, e_lload_3, e_aload, e_aload_0, e_aload_1, e_aload_2, e_aload_3, e_istore, e_istore_0, e_istore_1, e_istore_2, e_istore_3, e_astore, e_astore_0, e_astore_1, e_astore_2, e_astore_3, e_lstore, e_lstore_0, e_lstore_1, e_lstore_2, e_lstore_3, e_iinc, e_iadd, e_isub, e_imul, e_ladd, e_lsub, e_lmul, e_idiv, e_irem, e_ldiv, e_lrem, e_ineg, e_lneg, e_iand, e_ior, e_ixor, e_ishl, e_ishr, e_iushr, e_lcmp, e_i2l, e_l2i, e_i2b, e_i2s, e_dup_i, e_dup_r, e_pop_i, e_pop_r, e_dup2_l, e_dup2_ir, e_dup2_ii, e_ifeq, e_ifne, e_iflt, e_ifge, e_ifgt, e_ifle, e_iceq, e_icne, e_iclt, e_icge, e_icgt, e_icle, e_goto, e_switch, e_invokevirtual, e_invokestatic, e_invokespecial, e_ret0, e_ret1, e_ret2, e_ret3, ldI_s, ldL_s, ldR_s, clO_s, ctP_s, ctS_s, mgo_0, mgo_s, pjc_s, pj_0, pj_s, lk_s, rm1_0, rm1_i, rm1_r, rm1_l, rm2_0, rm2_i, rm2_r, rm2_l, csL_s, lc_lt, lc_ge, lc_gt, lc_le, lc_eq, b01_0, b01_1, b01_01, b01_n, up2_o, up2_s, up2_u, ne_eq, reduceCtorEq, Nat.reduceAdd, Nat.reduceEqDiff, Nat.reduceLT, Nat.reduceLeDiff, Int.reduceLE, Int.reduceLT, Int.reduceAdd, Int.reduceNeg, Int.reduceMul, Int.reduceSub, Int.reduceEq, Int.reduceToNat, Int.reduceNatCast, Int.cast_ofNat_Int, ↓reduceIte, and_self, List.drop_succ_cons, List.drop_zero, List.take_succ_cons, List.take_zero, List.length_cons, List.length_nil, List.reverse_cons, List.reverse_nil, List.nil_append, List.cons_append, Option.toList, true_and, and_true, or_false, false_or, or_true, true_or, forall_const, Classical.not_not, not_false_eq_true, not_true_eq_false, false_implies, true_implies, implies_true, imp_self, hf]
  refine ⟨by omega, fun q => hQ _ _ ⟨0, rfl, rfl, Or.inl rfl, fun p hp => ⟨fun z => absurd z (by omega), fun z => absurd ((zdR_W hp).mp z).1 (by omega)⟩⟩, fun q => ⟨by omega, by omega, fun z => ?_, fun z => hQ _ _ ⟨0, rfl, rfl, Or.inl rfl, fun p hp => ⟨fun y => absurd y (by omega), fun y => absurd ((zdR_W hp).mp y).2.1 z⟩⟩⟩⟩
  exact hI_30 _ _ _ ⟨rfl, by omega, z, 0, rfl, Nat.zero_le _, fun j hj => absurd hj (by omega), rfl⟩
set_option maxHeartbeats 4000000 in
set_option maxRecDepth 100000 in
theorem atR_is_30 {w : Int} {M : Mm} {Q : Option AV → Mm → Prop} (hM : okM shR M) (hP : PR_is w M) (hQ : ∀ (r : Option AV) (M1 : Mm), RR_is w M r M1 → Q r M1) {m : Nat} {k : Int} {M1 : Mm} (hM1 : okM shR M1) (h_k : i32 k) (hJ : JR_is_30 w M m k M1) (I_30 : List AV → Mm → Prop) (hI_30 : ∀ (m_ : Nat) (y_k : Int) (M2 : Mm), m_ < m → JR_is_30 w M m_ y_k M2 → I_30 [ar 0, ar w.toNat, ai y_k] M2) : wpx (tbR (csL csR_is)) (csL xsR_is) shR 3 2 cX8_is [(30, [0, 1, 2], I_30)] (retX Q) (fun _ M1 => Q (some an) M1) 400 false 30 [(0, ar 0), (1, ar w.toNat), (2, ai k)] [] M1 := by
  obtain ⟨rfl, h5, h23, i, rfl, hil, hi, rfl⟩ := hJ
  obtain ⟨h1, ⟨p0, h2⟩, h3⟩ := id hP
  have hg := zdR_rg h2
  have en : ((zN M1 : Nat) : Int) = M1 0 0 := Int.toNat_of_nonneg h1.1
  have hl := sW_len (i := xW w) (by show w.toNat - 300 < 14; omega)
  simp only [e_wpy (k := 9) dX8_is_0 rfl rfl rfl, e_wpy (k := 9) dX8_is_1 rfl rfl rfl, e_wpy (k := 590) dX8_is_4 rfl rfl rfl, e_wpy (k := 14) dX8_is_7 rfl rfl rfl, e_wpy (k := 9) dX8_is_10 rfl rfl rfl, e_wpy (k := 9) dX8_is_11 rfl rfl rfl, e_wpy (k := 9) dX8_is_14 rfl rfl rfl, e_wpy (k := 9) dX8_is_15 rfl rfl rfl, e_wpy (k := 9) dX8_is_18 rfl rfl rfl, e_wpy (k := 9) dX8_is_19 rfl rfl rfl, e_wpy (k := 865) dX8_is_20 rfl rfl rfl, e_wpy (k := 9) dX8_is_23 rfl rfl rfl, e_wpy (k := 9) dX8_is_26 rfl rfl rfl, e_wpy (k := 9) dX8_is_27 rfl rfl rfl, e_wpy (k := 9) dX8_is_28 rfl rfl rfl, e_wpy (k := 9) dX8_is_29 rfl rfl rfl, e_wpy (k := 9) dX8_is_30 rfl rfl rfl, e_wpy (k := 9) dX8_is_31 rfl rfl rfl, e_wpy (k := 865) dX8_is_32 rfl rfl rfl, e_wpy (k := 9) dX8_is_35 rfl rfl rfl, e_wpy (k := 9) dX8_is_38 rfl rfl rfl, e_wpy (k := 9) dX8_is_39 rfl rfl rfl, e_wpy (k := 9) dX8_is_42 rfl rfl rfl, e_wpy (k := 9) dX8_is_45 rfl rfl rfl, e_wpy (k := 9) dX8_is_46 rfl rfl rfl, e_wpy (k := 9) dX8_is_49 rfl rfl rfl, e_wpy (k := 9) dX8_is_50 rfl rfl rfl, e_wpy (k := 28) dX8_is_51 rfl rfl rfl, e_wpy (k := 9) dX8_is_52 rfl rfl rfl, e_wpy (k := 9) dX8_is_53 rfl rfl rfl, e_wpy (k := 925) dX8_is_54 rfl rfl rfl, e_wpy (k := 9) dX8_is_57 rfl rfl rfl, e_wpy (k := 9) dX8_is_60 rfl rfl rfl, e_wpy (k := 9) dX8_is_61 rfl rfl rfl, e_wpy (k := 9) dX8_is_62 rfl rfl rfl, e_wpy (k := 9) dX8_is_65 rfl rfl rfl, e_wpy (k := 9) dX8_is_68 rfl rfl rfl, e_wpy (k := 9) dX8_is_69 rfl rfl rfl, xoff_a, ex_null_n, ex_null_r, ex_nonn_n, ex_nonn_r, ex_aret, xel_n, xel_s, xgo_0, xgo_1x, xgo_1v, xgo_1i, xgo_1l, xgo_1r, xgo_2, xgo_3, xgo_4, xgo_5x, xgo_5v, xgo_5i, xgo_5l, xgd_5, xgd_0, xgd_1, xgd_2, xgd_3, xgd_4, ath_y, xct_f, xct_t, xna_f, csL_n, Nat.reduceMul, retX_i, retX_l, retX_r, retX_v, cTok, cAne, cTl, cTc, xsR_is, gR_35, gR_41, gR_52, csR_is, gR_3, gR_44, aR_4, wR_4, aR_5, wR_5, aR_6, wR_6, aR_7, wR_7, aR_8, wR_8, aR_9, wR_9, aR_10, wR_10, aR_11, wR_11, aR_3, e_iconst, e_bipush, e_sipush, e_lconst_0, e_lconst_1, e_iload, e_iload_0, e_iload_1, e_iload_2, e_iload_3, e_lload, e_lload_0, e_lload_1, e_lload_2, e_lload_3, e_aload, e_aload_0, e_aload_1, e_aload_2, e_aload_3, e_istore, e_istore_0, e_istore_1, e_istore_2, e_istore_3, e_astore, e_astore_0, e_astore_1, e_astore_2, e_astore_3, e_lstore, e_lstore_0, e_lstore_1, e_lstore_2, e_lstore_3, e_iinc, e_iadd, e_isub, e_imul, e_ladd, e_lsub, e_lmul, e_idiv, e_irem, e_ldiv, e_lrem, e_ineg, e_lneg, e_iand, e_ior, e_ixor, e_ishl, e_ishr, e_iushr, e_lcmp, e_i2l, e_l2i, e_i2b, e_i2s, e_dup_i, e_dup_r, e_pop_i, e_pop_r, e_dup2_l, e_dup2_ir, e_dup2_ii, e_ifeq, e_ifne, e_iflt, e_ifge, e_ifgt, e_ifle, e_iceq, e_icne, e_iclt, e_icge, e_icgt, e_icle, e_goto, e_switch, e_invokevirtual, e_invokestatic, e_invokespecial, e_ret0, e_ret1, e_ret2, e_ret3, ldI_s, ldL_s, ldR_s, clO_s, ctP_s, ctS_s, mgo_0, mgo_s, pjc_s, pj_0, pj_s, lk_s, rm1_0, rm1_i, rm1_r, rm1_l, rm2_0, rm2_i, rm2_r, rm2_l, csL_s, lc_lt, lc_ge, lc_gt, lc_le, lc_eq, b01_0, b01_1, b01_01, b01_n, up2_o, up2_s, up2_u, ne_eq, reduceCtorEq, Nat.reduceAdd, Nat.reduceEqDiff, Nat.reduceLT, Nat.reduceLeDiff, Int.reduceLE, Int.reduceLT, Int.reduceAdd, Int.reduceNeg, Int.reduceMul, Int.reduceSub, Int.reduceEq, Int.reduceToNat, Int.reduceNatCast, Int.cast_ofNat_Int, ↓reduceIte, and_self, List.drop_succ_cons, List.drop_zero, List.take_succ_cons, List.take_zero, List.length_cons, List.length_nil, List.reverse_cons, List.reverse_nil, List.nil_append, List.cons_append, Option.toList, true_and, and_true, or_false, false_or, or_true, true_or, forall_const, Classical.not_not, not_false_eq_true, not_true_eq_false, false_implies, true_implies, implies_true, imp_self, Int.toNat_natCast]
  have h23 : M1 0 2 - M1 0 3 = ((sW (w.toNat - 300)).length : Int) := h23
  have hl : (sW (w.toNat - 300)).length ≤ 7 := hl
  have hil : i ≤ (sW (w.toNat - 300)).length := hil
  have ea : (M1 0 3 + (i : Int)).toNat = (M1 0 3).toNat + i := by omega
  rw [ea]
  refine ⟨by omega, fun q => ?_, fun q => ⟨by omega, by omega, by omega, fun z => ⟨by omega, ?_⟩, fun z => ?_⟩⟩
  · exact hQ _ _ ⟨1, rfl, rfl, Or.inr rfl, fun p hp => ⟨fun _ => (zdR_W hp).mpr ⟨h5, h23, fun k hk => hi k (by have hk : k < (sW (w.toNat - 300)).length := hk; omega)⟩, fun _ => rfl⟩⟩
  · refine hI_30 _ _ _ ?_ ⟨rfl, h5, h23, i + 1, rfl, by show i + 1 ≤ (sW (w.toNat - 300)).length; omega, fun j hj => ?_, rfl⟩
    · show (sW (w.toNat - 300)).length - (i + 1) < (sW (w.toNat - 300)).length - i
      omega
    · by_cases e : j = i
      · rw [e]; exact z
      · exact hi j (by omega)
  · exact hQ _ _ ⟨0, rfl, rfl, Or.inl rfl, fun p hp => ⟨fun y => absurd y (by omega), fun y => absurd (((zdR_W hp).mp y).2.2 i (by show i < (sW (w.toNat - 300)).length; omega)) z⟩⟩
set_option maxHeartbeats 4000000 in
set_option maxRecDepth 100000 in
theorem mR_is : MOKX clR shR tylR NwsR exR flR 5 1 8 yX8_is cX8_is 3 (some .boolean) spR_is := by
  refine mokX_of (own := RX8) (fl := flR) (tb := tbR (csL csR_is)) (xt := csL xsR_is) (rt := 2) (fuel := 400) (fun avs M Q => [(30, [0, 1, 2], fun m_ vs M1 => ∃ y_k : Int, vs = [ar 0, ar (pa true [2] avs 0).toNat, ai y_k] ∧ JR_is_30 (pa true [2] avs 0) M m_ y_k M1)]) (by decide) rfl nwsR_ok (tbOKR _) rfl (csL_all ?_) (csY_all ?_) ?_ ?_ ?_
  · intro q hq; cases hq
  · intro q hq
    simp only [xsR_is, List.mem_cons, List.not_mem_nil, or_false] at hq
    rcases hq with rfl | rfl | rfl | rfl
    · exact Or.inr ⟨(by decide : ¬ ((0 : Nat) = 2 ∨ (0 : Nat) = 5)), cxe_tok (x := 59) (j := 1) (by decide) q534⟩
    · exact Or.inr ⟨(by decide : ¬ ((3 : Nat) = 2 ∨ (3 : Nat) = 5)), cxe_ane⟩
    · exact Or.inr ⟨(by decide : ¬ ((0 : Nat) = 2 ∨ (0 : Nat) = 5)), cxe_tl (by decide)⟩
    · exact Or.inr ⟨(by decide : ¬ ((0 : Nat) = 2 ∨ (0 : Nat) = 5)), cxe_tc (by decide)⟩
  · intro avs M Q hsp
    obtain ⟨xs, hx⟩ := spX_un _ _ _ hsp
    obtain ⟨e, hl⟩ := unA_mkT hx
    obtain ⟨w, rfl⟩ := len1 hl
    have e : avs = [ar 0, ar w.toNat] := e
    subst e
    simp [szL, isL]
  · intro avs M Q hM hav hsp
    obtain ⟨xs, hx⟩ := spX_un _ _ _ hsp
    obtain ⟨e, hl⟩ := unA_mkT hx
    obtain ⟨w, rfl⟩ := len1 hl
    have e : avs = [ar 0, ar w.toNat] := e
    subst e
    exact inR_is (w := ((w.toNat : Nat) : Int)) hM hsp.1 hsp.2 _ (fun m_ y_k M2 hJ => ⟨m_, y_k, rfl, hJ⟩)
  · intro avs M Q hM hav hsp q hq m_ vs M1 hM1 hv hJ
    obtain ⟨xs, hx⟩ := spX_un _ _ _ hsp
    obtain ⟨e, hl⟩ := unA_mkT hx
    obtain ⟨w, rfl⟩ := len1 hl
    have e : avs = [ar 0, ar w.toNat] := e
    subst e
    simp only [List.mem_cons, List.not_mem_nil, or_false] at hq
    rcases hq with rfl
    · obtain ⟨y_k, rfl, hJ⟩ := hJ
      exact atR_is_30 (w := ((w.toNat : Nat) : Int)) hM hsp.1 hsp.2 hM1 (hv (2, ai y_k) (List.mem_of_getElem? (i := 2) rfl)) hJ _ (fun m2 z_k M2 hm hJ2 => ⟨m2, hm, z_k, rfl, hJ2⟩)
theorem cxeR_is {lvl : Nat} (h : 5 < lvl) : CXE RX8 clR shR tylR NwsR exR flR lvl 1 8 965 1 2 spR_is := cxe_VX (k := 0) (n' := 1) nwsR_ok exR_ok spX_mono (fun avs M Q h => (spX_un _ _ _ h).elim fun xs hx => rcvT (sg := [2]) hx) mR_is h rfl (by decide) rfl rfl ⟨rfl, by decide, by decide, rfl⟩ q585 q587 qs6 q139 q588
/-- what a reading that may fail leaves: a number, nothing -/
def outI (y : Int × Ps) (r : Option AV) (M1 : Mm) : Prop := match y with
  | (v, .inr p) => r = some (ai v) ∧ zdR M1 p
  | (_, .inl e) => r = some an ∧ M1 0 900000 = 4 ∧ M1 0 900001 = e.1 ∧ M1 0 900002 = e.2
def outV (y : Ps) (r : Option AV) (M1 : Mm) : Prop := match y with
  | .inr p => r = none ∧ zdR M1 p
  | .inl e => r = some an ∧ M1 0 900000 = 4 ∧ M1 0 900001 = e.1 ∧ M1 0 900002 = e.2
theorem gh3_K {M : Mm} {k w : Int} : zkK M (gh3 M k w) := ⟨frm_up (frm_up (frm_up frm_rf (by decide)) (by decide)) (by decide), fun j hj _ => by
  unfold gh3
  rw [up2_n (by omega), up2_n (by omega), up2_n (by omega)]⟩
theorem zkK_T {M M1 : Mm} (h : zkK M M1) : M1 3 = M 3 ∧ zN M1 = zN M ∧ (zI M → zI M1) := by
  have h0 := h.2 0 (by decide) (by decide)
  exact ⟨h.1 3 (by decide), by show (M1 0 0).toNat = _; rw [h0], fun z => by show 0 ≤ M1 0 0 ∧ M1 0 0 ≤ 700; rw [h0]; exact z⟩
/-- as next asks -/
theorem zdR_nx {M : Mm} {p : Nat} (h : zdR M p) (h1 : zI M) : zI M ∧ (0 ≤ M 0 2 ∧ M 0 2 ≤ M 0 0) ∧ 0 ≤ M 0 4 ∧ M 0 4 ≤ 99999 := by
  have hg := zdR_rg h
  have en : ((zN M : Nat) : Int) = M 0 0 := Int.toNat_of_nonneg h1.1
  exact ⟨h1, by omega, h.2.2.2.2.1⟩
theorem outI_n {v : Int} {p : Nat} {r : Option AV} {M1 : Mm} : outI (v, .inr p) r M1 = (r = some (ai v) ∧ zdR M1 p) := rfl
theorem outI_e {v : Int} {e : Int × Int} {r : Option AV} {M1 : Mm} : outI (v, .inl e) r M1 = (r = some an ∧ M1 0 900000 = 4 ∧ M1 0 900001 = e.1 ∧ M1 0 900002 = e.2) := rfl
theorem outV_n {p : Nat} {r : Option AV} {M1 : Mm} : outV (.inr p) r M1 = (r = none ∧ zdR M1 p) := rfl
theorem outV_e {e : Int × Int} {r : Option AV} {M1 : Mm} : outV (.inl e) r M1 = (r = some an ∧ M1 0 900000 = 4 ∧ M1 0 900001 = e.1 ∧ M1 0 900002 = e.2) := rfl
def PR_takes (w : Int) (p : Nat) (M : Mm) : Prop := zI M ∧ zdR M p ∧ 300 ≤ w ∧ w < 314
def RR_takes (w : Int) (p : Nat) (M : Mm) (r : Option AV) (M1 : Mm) : Prop := zkK M M1 ∧ ((isW (M 3) (zN M) (sW (xW w)) p ∧ r = some (ai 1) ∧ zdR M1 (zTk M p).2.2) ∨ (¬ isW (M 3) (zN M) (sW (xW w)) p ∧ r = some (ai 0) ∧ M1 = M))
def spR_takes : Spec := spXG true [2] (fun x p M => PR_takes (x 0) p M) (fun x p M r M1 => RR_takes (x 0) p M r M1)
theorem cR_takes {w : Nat} {M : Mm} {Q : Option AV → Mm → Prop} : spR_takes [ar 0, ar w] M Q = (∃ p : Nat, PR_takes (w : Int) p M ∧ ∀ (r : Option AV) (M1 : Mm), RR_takes (w : Int) p M r M1 → Q r M1) := rfl
def csR_takes : List (Nat × Nat × Nat × Spec) := []
def xsR_takes : List (Nat × Nat × Nat × Spec) := [(965, 1, 2, spR_is), (385, 1, 1, spR_next)]
set_option maxHeartbeats 4000000 in
set_option maxRecDepth 100000 in
theorem inR_takes {w : Int} {p : Nat} {M : Mm} {Q : Option AV → Mm → Prop} (hM : okM shR M) (hP : PR_takes w p M) (hQ : ∀ (r : Option AV) (M1 : Mm), RR_takes w p M r M1 → Q r M1) : wpx (tbR (csL csR_takes)) (csL xsR_takes) shR 3 2 cX8_takes [] (retX Q) (fun _ M1 => Q (some an) M1) 400 false 0 [(0, ar 0), (1, ar w.toNat)] [] M := by
  obtain ⟨h1, h2, h3⟩ := id hP
  obtain ⟨w, rfl⟩ := Int.eq_ofNat_of_zero_le (by omega : 0 ≤ w)
  simp only [e_wpy (k := 9) dX8_takes_0 rfl rfl rfl, e_wpy (k := 9) dX8_takes_1 rfl rfl rfl, e_wpy (k := 965) dX8_takes_2 rfl rfl rfl, e_wpy (k := 9) dX8_takes_5 rfl rfl rfl, e_wpy (k := 9) dX8_takes_6 rfl rfl rfl, e_wpy (k := 9) dX8_takes_7 rfl rfl rfl, e_wpy (k := 9) dX8_takes_10 rfl rfl rfl, e_wpy (k := 385) dX8_takes_11 rfl rfl rfl, e_wpy (k := 9) dX8_takes_14 rfl rfl rfl, e_wpy (k := 9) dX8_takes_15 rfl rfl rfl, xoff_a, ex_null_n, ex_null_r, ex_nonn_n, ex_nonn_r, ex_aret, xel_n, xel_s, xgo_0, xgo_1x, xgo_1v, xgo_1i, xgo_1l, xgo_1r, xgo_2, xgo_3, xgo_4, xgo_5x, xgo_5v, xgo_5i, xgo_5l, xgd_5, xgd_0, xgd_1, xgd_2, xgd_3, xgd_4, ath_y, xct_f, xct_t, xna_f, csL_n, Nat.reduceMul, retX_i, retX_l, retX_r, retX_v, cR_is, PR_is, cR_next, PR_next, xsR_takes, csR_takes, e_iconst, e_bipush, e_sipush, e_lconst_0, e_lconst_1, e_iload, e_iload_0, e_iload_1, e_iload_2, e_iload_3, e_lload, e_lload_0, e_lload_1, e_lload_2, e_lload_3, e_aload, e_aload_0, e_aload_1, e_aload_2, e_aload_3, e_istore, e_istore_0, e_istore_1, e_istore_2, e_istore_3, e_astore, e_astore_0, e_astore_1, e_astore_2, e_astore_3, e_lstore, e_lstore_0, e_lstore_1, e_lstore_2, e_lstore_3, e_iinc, e_iadd, e_isub, e_imul, e_ladd, e_lsub, e_lmul, e_idiv, e_irem, e_ldiv, e_lrem, e_ineg, e_lneg, e_iand, e_ior, e_ixor, e_ishl, e_ishr, e_iushr, e_lcmp, e_i2l, e_l2i, e_i2b, e_i2s, e_dup_i, e_dup_r, e_pop_i, e_pop_r, e_dup2_l, e_dup2_ir, e_dup2_ii, e_ifeq, e_ifne, e_iflt, e_ifge, e_ifgt, e_ifle, e_iceq, e_icne, e_iclt, e_icge, e_icgt, e_icle, e_goto, e_switch, e_invokevirtual, e_invokestatic, e_invokespecial, e_ret0, e_ret1, e_ret2, e_ret3, ldI_s, ldL_s, ldR_s, clO_s, ctP_s, ctS_s, mgo_0, mgo_s, pjc_s, pj_0, pj_s, lk_s, rm1_0, rm1_i, rm1_r, rm1_l, rm2_0, rm2_i, rm2_r, rm2_l, csL_s, lc_lt, lc_ge, lc_gt, lc_le, lc_eq, b01_0, b01_1, b01_01, b01_n, up2_o, up2_s, up2_u, ne_eq, reduceCtorEq, Nat.reduceAdd, Nat.reduceEqDiff, Nat.reduceLT, Nat.reduceLeDiff, Int.reduceLE, Int.reduceLT, Int.reduceAdd, Int.reduceNeg, Int.reduceMul, Int.reduceSub, Int.reduceEq, Int.reduceToNat, Int.reduceNatCast, Int.cast_ofNat_Int, ↓reduceIte, and_self, List.drop_succ_cons, List.drop_zero, List.take_succ_cons, List.take_zero, List.length_cons, List.length_nil, List.reverse_cons, List.reverse_nil, List.nil_append, List.cons_append, Option.toList, true_and, and_true, or_false, false_or, or_true, true_or, forall_const, Classical.not_not, not_false_eq_true, not_true_eq_false, false_implies, true_implies, implies_true, imp_self, Int.toNat_natCast]
  refine ⟨⟨h1, ⟨p, h2⟩, h3⟩, fun r M1 hR => ?_⟩
  obtain ⟨v, rfl, rfl, h01, hv⟩ := hR
  have hv := hv p h2
  simp only [e_wpy (k := 9) dX8_takes_5 rfl rfl rfl, e_wpy (k := 9) dX8_takes_6 rfl rfl rfl, e_wpy (k := 9) dX8_takes_7 rfl rfl rfl, e_wpy (k := 9) dX8_takes_10 rfl rfl rfl, e_wpy (k := 385) dX8_takes_11 rfl rfl rfl, e_wpy (k := 9) dX8_takes_14 rfl rfl rfl, e_wpy (k := 9) dX8_takes_15 rfl rfl rfl, xoff_a, ex_null_n, ex_null_r, ex_nonn_n, ex_nonn_r, ex_aret, xel_n, xel_s, xgo_0, xgo_1x, xgo_1v, xgo_1i, xgo_1l, xgo_1r, xgo_2, xgo_3, xgo_4, xgo_5x, xgo_5v, xgo_5i, xgo_5l, xgd_5, xgd_0, xgd_1, xgd_2, xgd_3, xgd_4, ath_y, xct_f, xct_t, xna_f, csL_n, Nat.reduceMul, retX_i, retX_l, retX_r, retX_v, cR_is, PR_is, cR_next, PR_next, xsR_takes, csR_takes, e_iconst, e_bipush, e_sipush, e_lconst_0, e_lconst_1, e_iload, e_iload_0, e_iload_1, e_iload_2, e_iload_3, e_lload, e_lload_0, e_lload_1, e_lload_2, e_lload_3, e_aload, e_aload_0, e_aload_1, e_aload_2, e_aload_3, e_istore, e_istore_0, e_istore_1, e_istore_2, e_istore_3, e_astore, e_astore_0, e_astore_1, e_astore_2, e_astore_3, e_lstore, e_lstore_0, e_lstore_1, e_lstore_2, e_lstore_3, e_iinc, e_iadd, e_isub, e_imul, e_ladd, e_lsub, e_lmul, e_idiv, e_irem, e_ldiv, e_lrem, e_ineg, e_lneg, e_iand, e_ior, e_ixor, e_ishl, e_ishr, e_iushr, e_lcmp, e_i2l, e_l2i, e_i2b, e_i2s, e_dup_i, e_dup_r, e_pop_i, e_pop_r, e_dup2_l, e_dup2_ir, e_dup2_ii, e_ifeq, e_ifne, e_iflt, e_ifge, e_ifgt, e_ifle, e_iceq, e_icne, e_iclt, e_icge, e_icgt, e_icle, e_goto, e_switch, e_invokevirtual, e_invokestatic, e_invokespecial, e_ret0, e_ret1, e_ret2, e_ret3, ldI_s, ldL_s, ldR_s, clO_s, ctP_s, ctS_s, mgo_0, mgo_s, pjc_s, pj_0, pj_s, lk_s, rm1_0, rm1_i, rm1_r, rm1_l, rm2_0, rm2_i, rm2_r, rm2_l, csL_s, lc_lt, lc_ge, lc_gt, lc_le, lc_eq, b01_0, b01_1, b01_01, b01_n, up2_o, up2_s, up2_u, ne_eq, reduceCtorEq, Nat.reduceAdd, Nat.reduceEqDiff, Nat.reduceLT, Nat.reduceLeDiff, Int.reduceLE, Int.reduceLT, Int.reduceAdd, Int.reduceNeg, Int.reduceMul, Int.reduceSub, Int.reduceEq, Int.reduceToNat, Int.reduceNatCast, Int.cast_ofNat_Int, ↓reduceIte, and_self, List.drop_succ_cons, List.drop_zero, List.take_succ_cons, List.take_zero, List.length_cons, List.length_nil, List.reverse_cons, List.reverse_nil, List.nil_append, List.cons_append, Option.toList, true_and, and_true, or_false, false_or, or_true, true_or, forall_const, Classical.not_not, not_false_eq_true, not_true_eq_false, false_implies, true_implies, implies_true, imp_self, Int.toNat_natCast]
  refine ⟨fun q => ?_, fun q => ⟨zdR_nx h2 h1, fun r M2 hR => ?_⟩⟩
  · subst q
    exact ⟨Or.inl rfl, hQ _ _ ⟨zkK_rf, Or.inr ⟨fun z => absurd (hv.mpr z) (by omega), rfl, rfl⟩⟩⟩
  · obtain ⟨rfl, hk, hz⟩ := hR
    have e1 : v = 1 := by omega
    subst e1
    simp only [e_wpy (k := 9) dX8_takes_14 rfl rfl rfl, e_wpy (k := 9) dX8_takes_15 rfl rfl rfl, xoff_a, ex_null_n, ex_null_r, ex_nonn_n, ex_nonn_r, ex_aret, xel_n, xel_s, xgo_0, xgo_1x, xgo_1v, xgo_1i, xgo_1l, xgo_1r, xgo_2, xgo_3, xgo_4, xgo_5x, xgo_5v, xgo_5i, xgo_5l, xgd_5, xgd_0, xgd_1, xgd_2, xgd_3, xgd_4, ath_y, xct_f, xct_t, xna_f, csL_n, Nat.reduceMul, retX_i, retX_l, retX_r, retX_v, cR_is, PR_is, cR_next, PR_next, xsR_takes, csR_takes, e_iconst, e_bipush, e_sipush, e_lconst_0, e_lconst_1, e_iload, e_iload_0, e_iload_1, e_iload_2, e_iload_3, e_lload, e_lload_0, e_lload_1, e_lload_2, e_lload_3, e_aload, e_aload_0, e_aload_1, e_aload_2, e_aload_3, e_istore, e_istore_0, e_istore_1, e_istore_2, e_istore_3, e_astore, e_astore_0, e_astore_1, e_astore_2, e_astore_3, e_lstore, e_lstore_0, e_lstore_1, e_lstore_2, e_lstore_3, e_iinc, e_iadd, e_isub, e_imul, e_ladd, e_lsub, e_lmul, e_idiv, e_irem, e_ldiv, e_lrem, e_ineg, e_lneg, e_iand, e_ior, e_ixor, e_ishl, e_ishr, e_iushr, e_lcmp, e_i2l, e_l2i, e_i2b, e_i2s, e_dup_i, e_dup_r, e_pop_i, e_pop_r, e_dup2_l, e_dup2_ir, e_dup2_ii, e_ifeq, e_ifne, e_iflt, e_ifge, e_ifgt, e_ifle, e_iceq, e_icne, e_iclt, e_icge, e_icgt, e_icle, e_goto, e_switch, e_invokevirtual, e_invokestatic, e_invokespecial, e_ret0, e_ret1, e_ret2, e_ret3, ldI_s, ldL_s, ldR_s, clO_s, ctP_s, ctS_s, mgo_0, mgo_s, pjc_s, pj_0, pj_s, lk_s, rm1_0, rm1_i, rm1_r, rm1_l, rm2_0, rm2_i, rm2_r, rm2_l, csL_s, lc_lt, lc_ge, lc_gt, lc_le, lc_eq, b01_0, b01_1, b01_01, b01_n, up2_o, up2_s, up2_u, ne_eq, reduceCtorEq, Nat.reduceAdd, Nat.reduceEqDiff, Nat.reduceLT, Nat.reduceLeDiff, Int.reduceLE, Int.reduceLT, Int.reduceAdd, Int.reduceNeg, Int.reduceMul, Int.reduceSub, Int.reduceEq, Int.reduceToNat, Int.reduceNatCast, Int.cast_ofNat_Int, ↓reduceIte, and_self, List.drop_succ_cons, List.drop_zero, List.take_succ_cons, List.take_zero, List.length_cons, List.length_nil, List.reverse_cons, List.reverse_nil, List.nil_append, List.cons_append, Option.toList, true_and, and_true, or_false, false_or, or_true, true_or, forall_const, Classical.not_not, not_false_eq_true, not_true_eq_false, false_implies, true_implies, implies_true, imp_self]
    exact hQ _ _ ⟨hk, Or.inl ⟨hv.mp rfl, rfl, hz _ h2.2.2.2.1⟩⟩
set_option maxHeartbeats 4000000 in
set_option maxRecDepth 100000 in
theorem mR_takes : MOKX clR shR tylR NwsR exR flR 6 1 8 yX8_takes cX8_takes 3 (some .boolean) spR_takes := by
  refine mokX_of (own := RX8) (fl := flR) (tb := tbR (csL csR_takes)) (xt := csL xsR_takes) (rt := 2) (fuel := 400) (fun avs M Q => []) (by decide) rfl nwsR_ok (tbOKR _) rfl (csL_all ?_) (csY_all ?_) ?_ ?_ ?_
  · intro q hq; cases hq
  · intro q hq
    simp only [xsR_takes, List.mem_cons, List.not_mem_nil, or_false] at hq
    rcases hq with rfl | rfl
    · exact Or.inr ⟨(by decide : ¬ ((1 : Nat) = 2 ∨ (1 : Nat) = 5)), cxeR_is (by decide)⟩
    · exact Or.inr ⟨(by decide : ¬ ((1 : Nat) = 2 ∨ (1 : Nat) = 5)), cxeR_next (by decide)⟩
  · intro avs M Q hsp
    obtain ⟨xs, hx⟩ := spXG_un _ _ _ hsp
    obtain ⟨e, hl⟩ := unA_mkT hx
    obtain ⟨w, rfl⟩ := len1 hl
    have e : avs = [ar 0, ar w.toNat] := e
    subst e
    obtain ⟨p, hsp⟩ := hsp
    simp [szL, isL]
  · intro avs M Q hM hav hsp
    obtain ⟨xs, hx⟩ := spXG_un _ _ _ hsp
    obtain ⟨e, hl⟩ := unA_mkT hx
    obtain ⟨w, rfl⟩ := len1 hl
    have e : avs = [ar 0, ar w.toNat] := e
    subst e
    obtain ⟨p, hsp⟩ := hsp
    exact inR_takes (w := ((w.toNat : Nat) : Int)) hM hsp.1 hsp.2
  · intro avs M Q hM hav hsp q hq m_ vs M1 hM1 hv hJ
    obtain ⟨xs, hx⟩ := spXG_un _ _ _ hsp
    obtain ⟨e, hl⟩ := unA_mkT hx
    obtain ⟨w, rfl⟩ := len1 hl
    have e : avs = [ar 0, ar w.toNat] := e
    subst e
    obtain ⟨p, hsp⟩ := hsp
    cases hq
theorem cxeR_takes {lvl : Nat} (h : 6 < lvl) : CXE RX8 clR shR tylR NwsR exR flR lvl 1 8 1005 1 2 spR_takes := cxe_VX (k := 0) (n' := 1) nwsR_ok exR_ok spXG_mono (fun avs M Q h => (spXG_un _ _ _ h).elim fun xs hx => rcvT (sg := [2]) hx) mR_takes h rfl (by decide) rfl rfl ⟨rfl, by decide, by decide, rfl⟩ q581 q583 qs5 q139 q584
theorem askS_y {T : Nat → Int} {n p : Nat} {w : List Int} (h : isW T n w p) : askS T n w (.inr p) = .inr (tkP T n p).2.2 := if_pos h
theorem askS_n {T : Nat → Int} {n p : Nat} {w : List Int} (h : ¬ isW T n w p) : askS T n w (.inr p) = .inl (1, ((tkP T n p).2.1 : Int)) := if_neg h
theorem numS_g {T : Nat → Int} {n p : Nat} {lo hi : Int} (h : (tkP T n p).1 = 2) (h2 : lo ≤ numN T n p ∧ numN T n p ≤ hi) : numS T n lo hi (.inr p) = (numN T n p, .inr (tkP T n p).2.2) := (if_pos h).trans (if_pos h2)
theorem numS_h {T : Nat → Int} {n p : Nat} {lo hi : Int} (h : (tkP T n p).1 = 2) (h2 : ¬ (lo ≤ numN T n p ∧ numN T n p ≤ hi)) : numS T n lo hi (.inr p) = (lo, .inl (2, ((tkP T n p).2.1 : Int))) := (if_pos h).trans (if_neg h2)
theorem numS_k {T : Nat → Int} {n p : Nat} {lo hi : Int} (h : ¬ (tkP T n p).1 = 2) : numS T n lo hi (.inr p) = (lo, .inl (1, ((tkP T n p).2.1 : Int))) := if_neg h
def PR_needs (w : Int) (p : Nat) (M : Mm) : Prop := zI M ∧ zdR M p ∧ 300 ≤ w ∧ w < 314
def RR_needs (w : Int) (p : Nat) (M : Mm) (r : Option AV) (M1 : Mm) : Prop := zkK M M1 ∧ outV (askS (M 3) (zN M) (sW (xW w)) (.inr p)) r M1
def spR_needs : Spec := spXG true [2] (fun x p M => PR_needs (x 0) p M) (fun x p M r M1 => RR_needs (x 0) p M r M1)
theorem cR_needs {w : Nat} {M : Mm} {Q : Option AV → Mm → Prop} : spR_needs [ar 0, ar w] M Q = (∃ p : Nat, PR_needs (w : Int) p M ∧ ∀ (r : Option AV) (M1 : Mm), RR_needs (w : Int) p M r M1 → Q r M1) := rfl
def csR_needs : List (Nat × Nat × Nat × Spec) := []
def xsR_needs : List (Nat × Nat × Nat × Spec) := [(1005, 1, 2, spR_takes), (1035, 4, 2, spWrong)]
set_option maxHeartbeats 4000000 in
set_option maxRecDepth 100000 in
theorem inR_needs {w : Int} {p : Nat} {M : Mm} {Q : Option AV → Mm → Prop} (hM : okM shR M) (hP : PR_needs w p M) (hQ : ∀ (r : Option AV) (M1 : Mm), RR_needs w p M r M1 → Q r M1) : wpx (tbR (csL csR_needs)) (csL xsR_needs) shR 2 0 cX8_needs [] (retX Q) (fun _ M1 => Q (some an) M1) 400 false 0 [(0, ar 0), (1, ar w.toNat)] [] M := by
  obtain ⟨h1, h2, h3⟩ := id hP
  obtain ⟨w, rfl⟩ := Int.eq_ofNat_of_zero_le (by omega : 0 ≤ w)
  simp only [e_wpy (k := 9) dX8_needs_0 rfl rfl rfl, e_wpy (k := 9) dX8_needs_1 rfl rfl rfl, e_wpy (k := 1005) dX8_needs_2 rfl rfl rfl, e_wpy (k := 9) dX8_needs_5 rfl rfl rfl, e_wpy (k := 9) dX8_needs_8 rfl rfl rfl, e_wpy (k := 9) dX8_needs_9 rfl rfl rfl, e_wpy (k := 1035) dX8_needs_10 rfl rfl rfl, e_wpy (k := 9) dX8_needs_13 rfl rfl rfl, e_wpy (k := 9) dX8_needs_14 rfl rfl rfl, xoff_a, ex_null_n, ex_null_r, ex_nonn_n, ex_nonn_r, ex_aret, xel_n, xel_s, xgo_0, xgo_1x, xgo_1v, xgo_1i, xgo_1l, xgo_1r, xgo_2, xgo_3, xgo_4, xgo_5x, xgo_5v, xgo_5i, xgo_5l, xgd_5, xgd_0, xgd_1, xgd_2, xgd_3, xgd_4, ath_y, xct_f, xct_t, xna_f, csL_n, Nat.reduceMul, retX_i, retX_l, retX_r, retX_v, cR_takes, PR_takes, cWrong, xsR_needs, dX8_needs_13, csR_needs, e_iconst, e_bipush, e_sipush, e_lconst_0, e_lconst_1, e_iload, e_iload_0, e_iload_1, e_iload_2, e_iload_3, e_lload, e_lload_0, e_lload_1, e_lload_2, e_lload_3, e_aload, e_aload_0, e_aload_1, e_aload_2, e_aload_3, e_istore, e_istore_0, e_istore_1, e_istore_2, e_istore_3, e_astore, e_astore_0, e_astore_1, e_astore_2, e_astore_3, e_lstore, e_lstore_0, e_lstore_1, e_lstore_2, e_lstore_3, e_iinc, e_iadd, e_isub, e_imul, e_ladd, e_lsub, e_lmul, e_idiv, e_irem, e_ldiv, e_lrem, e_ineg, e_lneg, e_iand, e_ior, e_ixor, e_ishl, e_ishr, e_iushr, e_lcmp, e_i2l, e_l2i, e_i2b, e_i2s, e_dup_i, e_dup_r, e_pop_i, e_pop_r, e_dup2_l, e_dup2_ir, e_dup2_ii, e_ifeq, e_ifne, e_iflt, e_ifge, e_ifgt, e_ifle, e_iceq, e_icne, e_iclt, e_icge, e_icgt, e_icle, e_goto, e_switch, e_invokevirtual, e_invokestatic, e_invokespecial, e_ret0, e_ret1, e_ret2, e_ret3, ldI_s, ldL_s, ldR_s, clO_s, ctP_s, ctS_s, mgo_0, mgo_s, pjc_s, pj_0, pj_s, lk_s, rm1_0, rm1_i, rm1_r, rm1_l, rm2_0, rm2_i, rm2_r, rm2_l, csL_s, lc_lt, lc_ge, lc_gt, lc_le, lc_eq, b01_0, b01_1, b01_01, b01_n, up2_o, up2_s, up2_u, ne_eq, reduceCtorEq, Nat.reduceAdd, Nat.reduceEqDiff, Nat.reduceLT, Nat.reduceLeDiff, Int.reduceLE, Int.reduceLT, Int.reduceAdd, Int.reduceNeg, Int.reduceMul, Int.reduceSub, Int.reduceEq, Int.reduceToNat, Int.reduceNatCast, Int.cast_ofNat_Int, ↓reduceIte, and_self, List.drop_succ_cons, List.drop_zero, List.take_succ_cons, List.take_zero, List.length_cons, List.length_nil, List.reverse_cons, List.reverse_nil, List.nil_append, List.cons_append, Option.toList, true_and, and_true, or_false, false_or, or_true, true_or, forall_const, Classical.not_not, not_false_eq_true, not_true_eq_false, false_implies, true_implies, implies_true, imp_self, Int.toNat_natCast]
  refine ⟨p, ⟨h1, h2, h3⟩, fun r M1 hR => ?_⟩
  obtain ⟨hk, ⟨hw, rfl, hz⟩ | ⟨hw, rfl, rfl⟩⟩ := hR
  · simp only [e_wpy (k := 9) dX8_needs_5 rfl rfl rfl, e_wpy (k := 9) dX8_needs_8 rfl rfl rfl, e_wpy (k := 9) dX8_needs_9 rfl rfl rfl, e_wpy (k := 1035) dX8_needs_10 rfl rfl rfl, e_wpy (k := 9) dX8_needs_13 rfl rfl rfl, e_wpy (k := 9) dX8_needs_14 rfl rfl rfl, xoff_a, ex_null_n, ex_null_r, ex_nonn_n, ex_nonn_r, ex_aret, xel_n, xel_s, xgo_0, xgo_1x, xgo_1v, xgo_1i, xgo_1l, xgo_1r, xgo_2, xgo_3, xgo_4, xgo_5x, xgo_5v, xgo_5i, xgo_5l, xgd_5, xgd_0, xgd_1, xgd_2, xgd_3, xgd_4, ath_y, xct_f, xct_t, xna_f, csL_n, Nat.reduceMul, retX_i, retX_l, retX_r, retX_v, cR_takes, PR_takes, cWrong, xsR_needs, dX8_needs_13, csR_needs, e_iconst, e_bipush, e_sipush, e_lconst_0, e_lconst_1, e_iload, e_iload_0, e_iload_1, e_iload_2, e_iload_3, e_lload, e_lload_0, e_lload_1, e_lload_2, e_lload_3, e_aload, e_aload_0, e_aload_1, e_aload_2, e_aload_3, e_istore, e_istore_0, e_istore_1, e_istore_2, e_istore_3, e_astore, e_astore_0, e_astore_1, e_astore_2, e_astore_3, e_lstore, e_lstore_0, e_lstore_1, e_lstore_2, e_lstore_3, e_iinc, e_iadd, e_isub, e_imul, e_ladd, e_lsub, e_lmul, e_idiv, e_irem, e_ldiv, e_lrem, e_ineg, e_lneg, e_iand, e_ior, e_ixor, e_ishl, e_ishr, e_iushr, e_lcmp, e_i2l, e_l2i, e_i2b, e_i2s, e_dup_i, e_dup_r, e_pop_i, e_pop_r, e_dup2_l, e_dup2_ir, e_dup2_ii, e_ifeq, e_ifne, e_iflt, e_ifge, e_ifgt, e_ifle, e_iceq, e_icne, e_iclt, e_icge, e_icgt, e_icle, e_goto, e_switch, e_invokevirtual, e_invokestatic, e_invokespecial, e_ret0, e_ret1, e_ret2, e_ret3, ldI_s, ldL_s, ldR_s, clO_s, ctP_s, ctS_s, mgo_0, mgo_s, pjc_s, pj_0, pj_s, lk_s, rm1_0, rm1_i, rm1_r, rm1_l, rm2_0, rm2_i, rm2_r, rm2_l, csL_s, lc_lt, lc_ge, lc_gt, lc_le, lc_eq, b01_0, b01_1, b01_01, b01_n, up2_o, up2_s, up2_u, ne_eq, reduceCtorEq, Nat.reduceAdd, Nat.reduceEqDiff, Nat.reduceLT, Nat.reduceLeDiff, Int.reduceLE, Int.reduceLT, Int.reduceAdd, Int.reduceNeg, Int.reduceMul, Int.reduceSub, Int.reduceEq, Int.reduceToNat, Int.reduceNatCast, Int.cast_ofNat_Int, ↓reduceIte, and_self, List.drop_succ_cons, List.drop_zero, List.take_succ_cons, List.take_zero, List.length_cons, List.length_nil, List.reverse_cons, List.reverse_nil, List.nil_append, List.cons_append, Option.toList, true_and, and_true, or_false, false_or, or_true, true_or, forall_const, Classical.not_not, not_false_eq_true, not_true_eq_false, false_implies, true_implies, implies_true, imp_self]
    refine hQ _ _ ⟨hk, ?_⟩
    rw [askS_y hw]
    exact ⟨rfl, hz⟩
  · simp only [e_wpy (k := 9) dX8_needs_5 rfl rfl rfl, e_wpy (k := 9) dX8_needs_8 rfl rfl rfl, e_wpy (k := 9) dX8_needs_9 rfl rfl rfl, e_wpy (k := 1035) dX8_needs_10 rfl rfl rfl, e_wpy (k := 9) dX8_needs_13 rfl rfl rfl, e_wpy (k := 9) dX8_needs_14 rfl rfl rfl, xoff_a, ex_null_n, ex_null_r, ex_nonn_n, ex_nonn_r, ex_aret, xel_n, xel_s, xgo_0, xgo_1x, xgo_1v, xgo_1i, xgo_1l, xgo_1r, xgo_2, xgo_3, xgo_4, xgo_5x, xgo_5v, xgo_5i, xgo_5l, xgd_5, xgd_0, xgd_1, xgd_2, xgd_3, xgd_4, ath_y, xct_f, xct_t, xna_f, csL_n, Nat.reduceMul, retX_i, retX_l, retX_r, retX_v, cR_takes, PR_takes, cWrong, xsR_needs, dX8_needs_13, csR_needs, e_iconst, e_bipush, e_sipush, e_lconst_0, e_lconst_1, e_iload, e_iload_0, e_iload_1, e_iload_2, e_iload_3, e_lload, e_lload_0, e_lload_1, e_lload_2, e_lload_3, e_aload, e_aload_0, e_aload_1, e_aload_2, e_aload_3, e_istore, e_istore_0, e_istore_1, e_istore_2, e_istore_3, e_astore, e_astore_0, e_astore_1, e_astore_2, e_astore_3, e_lstore, e_lstore_0, e_lstore_1, e_lstore_2, e_lstore_3, e_iinc, e_iadd, e_isub, e_imul, e_ladd, e_lsub, e_lmul, e_idiv, e_irem, e_ldiv, e_lrem, e_ineg, e_lneg, e_iand, e_ior, e_ixor, e_ishl, e_ishr, e_iushr, e_lcmp, e_i2l, e_l2i, e_i2b, e_i2s, e_dup_i, e_dup_r, e_pop_i, e_pop_r, e_dup2_l, e_dup2_ir, e_dup2_ii, e_ifeq, e_ifne, e_iflt, e_ifge, e_ifgt, e_ifle, e_iceq, e_icne, e_iclt, e_icge, e_icgt, e_icle, e_goto, e_switch, e_invokevirtual, e_invokestatic, e_invokespecial, e_ret0, e_ret1, e_ret2, e_ret3, ldI_s, ldL_s, ldR_s, clO_s, ctP_s, ctS_s, mgo_0, mgo_s, pjc_s, pj_0, pj_s, lk_s, rm1_0, rm1_i, rm1_r, rm1_l, rm2_0, rm2_i, rm2_r, rm2_l, csL_s, lc_lt, lc_ge, lc_gt, lc_le, lc_eq, b01_0, b01_1, b01_01, b01_n, up2_o, up2_s, up2_u, ne_eq, reduceCtorEq, Nat.reduceAdd, Nat.reduceEqDiff, Nat.reduceLT, Nat.reduceLeDiff, Int.reduceLE, Int.reduceLT, Int.reduceAdd, Int.reduceNeg, Int.reduceMul, Int.reduceSub, Int.reduceEq, Int.reduceToNat, Int.reduceNatCast, Int.cast_ofNat_Int, ↓reduceIte, and_self, List.drop_succ_cons, List.drop_zero, List.take_succ_cons, List.take_zero, List.length_cons, List.length_nil, List.reverse_cons, List.reverse_nil, List.nil_append, List.cons_append, Option.toList, true_and, and_true, or_false, false_or, or_true, true_or, forall_const, Classical.not_not, not_false_eq_true, not_true_eq_false, false_implies, true_implies, implies_true, imp_self]
    refine hQ _ _ ⟨gh3_K, ?_⟩
    rw [askS_n hw, outV_e]
    obtain ⟨g1, g2, g3⟩ := @gh3_0 M1 1 (M1 0 3)
    exact ⟨rfl, g1, g2, g3.trans h2.2.2.1⟩
set_option maxHeartbeats 4000000 in
set_option maxRecDepth 100000 in
theorem mR_needs : MOKX clR shR tylR NwsR exR flR 7 1 8 yX8_needs cX8_needs 2 none spR_needs := by
  refine mokX_of (own := RX8) (fl := flR) (tb := tbR (csL csR_needs)) (xt := csL xsR_needs) (rt := 0) (fuel := 400) (fun avs M Q => []) (by decide) rfl nwsR_ok (tbOKR _) rfl (csL_all ?_) (csY_all ?_) ?_ ?_ ?_
  · intro q hq; cases hq
  · intro q hq
    simp only [xsR_needs, List.mem_cons, List.not_mem_nil, or_false] at hq
    rcases hq with rfl | rfl
    · exact Or.inr ⟨(by decide : ¬ ((1 : Nat) = 2 ∨ (1 : Nat) = 5)), cxeR_takes (by decide)⟩
    · exact Or.inr ⟨(by decide : ¬ ((4 : Nat) = 2 ∨ (4 : Nat) = 5)), cxe_wrong (by decide)⟩
  · intro avs M Q hsp
    obtain ⟨xs, hx⟩ := spXG_un _ _ _ hsp
    obtain ⟨e, hl⟩ := unA_mkT hx
    obtain ⟨w, rfl⟩ := len1 hl
    have e : avs = [ar 0, ar w.toNat] := e
    subst e
    obtain ⟨p, hsp⟩ := hsp
    simp [szL, isL]
  · intro avs M Q hM hav hsp
    obtain ⟨xs, hx⟩ := spXG_un _ _ _ hsp
    obtain ⟨e, hl⟩ := unA_mkT hx
    obtain ⟨w, rfl⟩ := len1 hl
    have e : avs = [ar 0, ar w.toNat] := e
    subst e
    obtain ⟨p, hsp⟩ := hsp
    exact inR_needs (w := ((w.toNat : Nat) : Int)) hM hsp.1 hsp.2
  · intro avs M Q hM hav hsp q hq m_ vs M1 hM1 hv hJ
    obtain ⟨xs, hx⟩ := spXG_un _ _ _ hsp
    obtain ⟨e, hl⟩ := unA_mkT hx
    obtain ⟨w, rfl⟩ := len1 hl
    have e : avs = [ar 0, ar w.toNat] := e
    subst e
    obtain ⟨p, hsp⟩ := hsp
    cases hq
theorem cxeR_needs {lvl : Nat} (h : 7 < lvl) : CXE RX8 clR shR tylR NwsR exR flR lvl 1 8 1075 1 2 spR_needs := cxe_VX (k := 0) (n' := 1) nwsR_ok exR_ok spXG_mono (fun avs M Q h => (spXG_un _ _ _ h).elim fun xs hx => rcvT (sg := [2]) hx) mR_needs h rfl (by decide) rfl rfl ⟨rfl, by decide, by decide, rfl⟩ q577 q579 qs4 q139 q580
def PR_number (lo : Int) (hi : Int) (p : Nat) (M : Mm) : Prop := zI M ∧ zdR M p ∧ hi ≤ 1000
def RR_number (lo : Int) (hi : Int) (p : Nat) (M : Mm) (r : Option AV) (M1 : Mm) : Prop := zkK M M1 ∧ outI (numS (M 3) (zN M) lo hi (.inr p)) r M1
def spR_number : Spec := spXG true [0, 0] (fun x p M => PR_number (x 0) (x 1) p M) (fun x p M r M1 => RR_number (x 0) (x 1) p M r M1)
theorem cR_number {lo hi : Int} {M : Mm} {Q : Option AV → Mm → Prop} : spR_number [ar 0, ai lo, ai hi] M Q = (∃ p : Nat, PR_number lo hi p M ∧ ∀ (r : Option AV) (M1 : Mm), RR_number lo hi p M r M1 → Q r M1) := rfl
def csR_number : List (Nat × Nat × Nat × Spec) := [(48, 0, 3, spR_isInN)]
def xsR_number : List (Nat × Nat × Nat × Spec) := [(720, 0, 0, spTok 2), (4, 3, 2, spAcmp true), (385, 1, 1, spR_next), (1035, 4, 2, spWrong)]
set_option maxHeartbeats 4000000 in
set_option maxRecDepth 100000 in
theorem inR_number {lo hi : Int} {p : Nat} {M : Mm} {Q : Option AV → Mm → Prop} (hM : okM shR M) (h_lo : i32 lo) (h_hi : i32 hi) (hP : PR_number lo hi p M) (hQ : ∀ (r : Option AV) (M1 : Mm), RR_number lo hi p M r M1 → Q r M1) : wpx (tbR (csL csR_number)) (csL xsR_number) shR 4 1 cX8_number [] (retX Q) (fun _ M1 => Q (some an) M1) 400 false 0 [(0, ar 0), (1, ai lo), (2, ai hi)] [] M := by
  obtain ⟨h1, h2, h3⟩ := id hP
  have hg := zdR_rg h2
  have hf := fval_p (x := M 0 5) (by omega)
  simp only [e_wpy (k := 9) dX8_number_0 rfl rfl rfl, e_wpy (k := 9) dX8_number_1 rfl rfl rfl, e_wpy (k := 720) dX8_number_4 rfl rfl rfl, e_wpy (k := 4) dX8_number_7 rfl rfl rfl, e_wpy (k := 9) dX8_number_10 rfl rfl rfl, e_wpy (k := 9) dX8_number_11 rfl rfl rfl, e_wpy (k := 1035) dX8_number_12 rfl rfl rfl, e_wpy (k := 9) dX8_number_15 rfl rfl rfl, e_wpy (k := 9) dX8_number_16 rfl rfl rfl, e_wpy (k := 9) dX8_number_17 rfl rfl rfl, e_wpy (k := 9) dX8_number_20 rfl rfl rfl, e_wpy (k := 9) dX8_number_21 rfl rfl rfl, e_wpy (k := 9) dX8_number_22 rfl rfl rfl, e_wpy (k := 9) dX8_number_23 rfl rfl rfl, e_wpy (k := 9) dX8_number_24 rfl rfl rfl, e_wpy (k := 486) dX8_number_25 rfl rfl rfl, e_wpy (k := 9) dX8_number_28 rfl rfl rfl, e_wpy (k := 9) dX8_number_31 rfl rfl rfl, e_wpy (k := 9) dX8_number_32 rfl rfl rfl, e_wpy (k := 1035) dX8_number_33 rfl rfl rfl, e_wpy (k := 9) dX8_number_36 rfl rfl rfl, e_wpy (k := 9) dX8_number_37 rfl rfl rfl, e_wpy (k := 9) dX8_number_38 rfl rfl rfl, e_wpy (k := 9) dX8_number_41 rfl rfl rfl, e_wpy (k := 9) dX8_number_42 rfl rfl rfl, e_wpy (k := 385) dX8_number_43 rfl rfl rfl, e_wpy (k := 9) dX8_number_46 rfl rfl rfl, e_wpy (k := 9) dX8_number_47 rfl rfl rfl, xoff_a, ex_null_n, ex_null_r, ex_nonn_n, ex_nonn_r, ex_aret, xel_n, xel_s, xgo_0, xgo_1x, xgo_1v, xgo_1i, xgo_1l, xgo_1r, xgo_2, xgo_3, xgo_4, xgo_5x, xgo_5v, xgo_5i, xgo_5l, xgd_5, xgd_0, xgd_1, xgd_2, xgd_3, xgd_4, ath_y, xct_f, xct_t, xna_f, csL_n, Nat.reduceMul, retX_i, retX_l, retX_r, retX_v, cTok, cAeq, cR_next, PR_next, cWrong, xsR_number, dX8_number_15, dX8_number_36, gR_35, csR_number, gR_62, cR_isInN, PR_isInN, VR_isInN, e_iconst, e_bipush, e_sipush, e_lconst_0, e_lconst_1, e_iload, e_iload_0, e_iload_1, e_iload_2, e_iload_3, e_lload, e_lload_0, e_lload_1, e_lload_2, e_lload_3, e_aload, e_aload_0, e_aload_1, e_aload_2, e_aload_3, e_istore, e_istore_0, e_istore_1, e_istore_2, e_istore_3, e_astore, e_astore_0, e_astore_1, e_astore_2, e_astore_3, e_lstore, e_lstore_0, e_lstore_1, e_lstore_2, e_lstore_3, e_iinc, e_iadd, e_isub, e_imul, e_ladd, e_lsub, e_lmul, e_idiv, e_irem, e_ldiv, e_lrem, e_ineg, e_lneg, e_iand, e_ior, e_ixor, e_ishl, e_ishr, e_iushr, e_lcmp, e_i2l, e_l2i, e_i2b, e_i2s, e_dup_i, e_dup_r, e_pop_i, e_pop_r, e_dup2_l, e_dup2_ir, e_dup2_ii, e_ifeq, e_ifne, e_iflt, e_ifge, e_ifgt, e_ifle, e_iceq, e_icne, e_iclt, e_icge, e_icgt, e_icle, e_goto, e_switch, e_invokevirtual, e_invokestatic, e_invokespecial, e_ret0, e_ret1, e_ret2, e_ret3, ldI_s, ldL_s, ldR_s, clO_s, ctP_s, ctS_s, mgo_0, mgo_s, pjc_s, pj_0, pj_s, lk_s, rm1_0, rm1_i, rm1_r, rm1_l, rm2_0, rm2_i, rm2_r, rm2_l, csL_s, lc_lt, lc_ge, lc_gt, lc_le, lc_eq, b01_0, b01_1, b01_01, b01_n, up2_o, up2_s, up2_u, ne_eq, reduceCtorEq, Nat.reduceAdd, Nat.reduceEqDiff, Nat.reduceLT, Nat.reduceLeDiff, Int.reduceLE, Int.reduceLT, Int.reduceAdd, Int.reduceNeg, Int.reduceMul, Int.reduceSub, Int.reduceEq, Int.reduceToNat, Int.reduceNatCast, Int.cast_ofNat_Int, ↓reduceIte, and_self, List.drop_succ_cons, List.drop_zero, List.take_succ_cons, List.take_zero, List.length_cons, List.length_nil, List.reverse_cons, List.reverse_nil, List.nil_append, List.cons_append, Option.toList, true_and, and_true, or_false, false_or, or_true, true_or, forall_const, Classical.not_not, not_false_eq_true, not_true_eq_false, false_implies, true_implies, implies_true, imp_self, hf]
  have h5 : M 0 5 = 320 + (tkP (M 3) (zN M) p).1 := h2.2.1
  refine ⟨by omega, fun q => ⟨fun q2 => ⟨zdR_nx h2 h1, fun r M1 hR => ?_⟩, fun q2 => ?_⟩, fun q => ?_⟩
  · obtain ⟨rfl, hk, hz⟩ := hR
    have e2 : (tkP (M 3) (zN M) p).1 = 2 := by omega
    have hr := h2.2.2.2.2.2 e2
    have hn := (vR_in hr h3).mp q2
    have he := vR_eq hr (by omega)
    simp only [e_wpy (k := 9) dX8_number_46 rfl rfl rfl, e_wpy (k := 9) dX8_number_47 rfl rfl rfl, xoff_a, ex_null_n, ex_null_r, ex_nonn_n, ex_nonn_r, ex_aret, xel_n, xel_s, xgo_0, xgo_1x, xgo_1v, xgo_1i, xgo_1l, xgo_1r, xgo_2, xgo_3, xgo_4, xgo_5x, xgo_5v, xgo_5i, xgo_5l, xgd_5, xgd_0, xgd_1, xgd_2, xgd_3, xgd_4, ath_y, xct_f, xct_t, xna_f, csL_n, Nat.reduceMul, retX_i, retX_l, retX_r, retX_v, cTok, cAeq, cR_next, PR_next, cWrong, xsR_number, dX8_number_15, dX8_number_36, gR_35, csR_number, gR_62, cR_isInN, PR_isInN, VR_isInN, e_iconst, e_bipush, e_sipush, e_lconst_0, e_lconst_1, e_iload, e_iload_0, e_iload_1, e_iload_2, e_iload_3, e_lload, e_lload_0, e_lload_1, e_lload_2, e_lload_3, e_aload, e_aload_0, e_aload_1, e_aload_2, e_aload_3, e_istore, e_istore_0, e_istore_1, e_istore_2, e_istore_3, e_astore, e_astore_0, e_astore_1, e_astore_2, e_astore_3, e_lstore, e_lstore_0, e_lstore_1, e_lstore_2, e_lstore_3, e_iinc, e_iadd, e_isub, e_imul, e_ladd, e_lsub, e_lmul, e_idiv, e_irem, e_ldiv, e_lrem, e_ineg, e_lneg, e_iand, e_ior, e_ixor, e_ishl, e_ishr, e_iushr, e_lcmp, e_i2l, e_l2i, e_i2b, e_i2s, e_dup_i, e_dup_r, e_pop_i, e_pop_r, e_dup2_l, e_dup2_ir, e_dup2_ii, e_ifeq, e_ifne, e_iflt, e_ifge, e_ifgt, e_ifle, e_iceq, e_icne, e_iclt, e_icge, e_icgt, e_icle, e_goto, e_switch, e_invokevirtual, e_invokestatic, e_invokespecial, e_ret0, e_ret1, e_ret2, e_ret3, ldI_s, ldL_s, ldR_s, clO_s, ctP_s, ctS_s, mgo_0, mgo_s, pjc_s, pj_0, pj_s, lk_s, rm1_0, rm1_i, rm1_r, rm1_l, rm2_0, rm2_i, rm2_r, rm2_l, csL_s, lc_lt, lc_ge, lc_gt, lc_le, lc_eq, b01_0, b01_1, b01_01, b01_n, up2_o, up2_s, up2_u, ne_eq, reduceCtorEq, Nat.reduceAdd, Nat.reduceEqDiff, Nat.reduceLT, Nat.reduceLeDiff, Int.reduceLE, Int.reduceLT, Int.reduceAdd, Int.reduceNeg, Int.reduceMul, Int.reduceSub, Int.reduceEq, Int.reduceToNat, Int.reduceNatCast, Int.cast_ofNat_Int, ↓reduceIte, and_self, List.drop_succ_cons, List.drop_zero, List.take_succ_cons, List.take_zero, List.length_cons, List.length_nil, List.reverse_cons, List.reverse_nil, List.nil_append, List.cons_append, Option.toList, true_and, and_true, or_false, false_or, or_true, true_or, forall_const, Classical.not_not, not_false_eq_true, not_true_eq_false, false_implies, true_implies, implies_true, imp_self]
    refine hQ _ _ ⟨hk, ?_⟩
    rw [numS_g e2 hn, outI_n, he]
    exact ⟨rfl, hz _ h2.2.2.2.1⟩
  · have e2 : (tkP (M 3) (zN M) p).1 = 2 := by omega
    have hr := h2.2.2.2.2.2 e2
    refine hQ _ _ ⟨gh3_K, ?_⟩
    rw [numS_h e2 (fun z => q2 ((vR_in hr h3).mpr z)), outI_e]
    obtain ⟨g1, g2, g3⟩ := @gh3_0 M 2 (M 0 3)
    exact ⟨rfl, g1, g2, g3.trans h2.2.2.1⟩
  · refine hQ _ _ ⟨gh3_K, ?_⟩
    rw [numS_k (by omega), outI_e]
    obtain ⟨g1, g2, g3⟩ := @gh3_0 M 1 (M 0 3)
    exact ⟨rfl, g1, g2, g3.trans h2.2.2.1⟩
set_option maxHeartbeats 4000000 in
set_option maxRecDepth 100000 in
theorem mR_number : MOKX clR shR tylR NwsR exR flR 6 1 8 yX8_number cX8_number 4 (some .int) spR_number := by
  refine mokX_of (own := RX8) (fl := flR) (tb := tbR (csL csR_number)) (xt := csL xsR_number) (rt := 1) (fuel := 400) (fun avs M Q => []) (by decide) rfl nwsR_ok (tbOKR _) rfl (csL_all ?_) (csY_all ?_) ?_ ?_ ?_
  · intro q hq
    simp only [csR_number, List.mem_cons, List.not_mem_nil, or_false] at hq
    rcases hq with rfl
    · exact cgR_isInN (by decide)
  · intro q hq
    simp only [xsR_number, List.mem_cons, List.not_mem_nil, or_false] at hq
    rcases hq with rfl | rfl | rfl | rfl
    · exact Or.inr ⟨(by decide : ¬ ((0 : Nat) = 2 ∨ (0 : Nat) = 5)), cxe_tok (x := 72) (j := 2) (by decide) q540⟩
    · exact Or.inr ⟨(by decide : ¬ ((3 : Nat) = 2 ∨ (3 : Nat) = 5)), cxe_aeq⟩
    · exact Or.inr ⟨(by decide : ¬ ((1 : Nat) = 2 ∨ (1 : Nat) = 5)), cxeR_next (by decide)⟩
    · exact Or.inr ⟨(by decide : ¬ ((4 : Nat) = 2 ∨ (4 : Nat) = 5)), cxe_wrong (by decide)⟩
  · intro avs M Q hsp
    obtain ⟨xs, hx⟩ := spXG_un _ _ _ hsp
    obtain ⟨e, hl⟩ := unA_mkT hx
    obtain ⟨lo, hi, rfl⟩ := len2 hl
    have e : avs = [ar 0, ai lo, ai hi] := e
    subst e
    obtain ⟨p, hsp⟩ := hsp
    simp [szL, isL]
  · intro avs M Q hM hav hsp
    obtain ⟨xs, hx⟩ := spXG_un _ _ _ hsp
    obtain ⟨e, hl⟩ := unA_mkT hx
    obtain ⟨lo, hi, rfl⟩ := len2 hl
    have e : avs = [ar 0, ai lo, ai hi] := e
    subst e
    obtain ⟨p, hsp⟩ := hsp
    exact inR_number hM (hav (ai lo) (by simp)) (hav (ai hi) (by simp)) hsp.1 hsp.2
  · intro avs M Q hM hav hsp q hq m_ vs M1 hM1 hv hJ
    obtain ⟨xs, hx⟩ := spXG_un _ _ _ hsp
    obtain ⟨e, hl⟩ := unA_mkT hx
    obtain ⟨lo, hi, rfl⟩ := len2 hl
    have e : avs = [ar 0, ai lo, ai hi] := e
    subst e
    obtain ⟨p, hsp⟩ := hsp
    cases hq
theorem cxeR_number {lvl : Nat} (h : 6 < lvl) : CXE RX8 clR shR tylR NwsR exR flR lvl 1 8 1115 1 3 spR_number := cxe_VX (k := 0) (n' := 2) nwsR_ok exR_ok spXG_mono (fun avs M Q h => (spXG_un _ _ _ h).elim fun xs hx => rcvT (sg := [0, 0]) hx) mR_number h rfl (by decide) rfl rfl ⟨rfl, by decide, by decide, rfl⟩ q730 q732 qs11 q139 q733
def PR_told (w : Int) (lo : Int) (hi : Int) (p : Nat) (M : Mm) : Prop := zI M ∧ zdR M p ∧ hi ≤ 1000 ∧ 300 ≤ w ∧ w < 314
def RR_told (w : Int) (lo : Int) (hi : Int) (p : Nat) (M : Mm) (r : Option AV) (M1 : Mm) : Prop := zkK M M1 ∧ outI (told (M 3) (zN M) (sW (xW w)) lo hi (.inr p)) r M1
def spR_told : Spec := spXG true [2, 0, 0] (fun x p M => PR_told (x 0) (x 1) (x 2) p M) (fun x p M r M1 => RR_told (x 0) (x 1) (x 2) p M r M1)
theorem cR_told {w : Nat} {lo : Int} {hi : Int} {M : Mm} {Q : Option AV → Mm → Prop} : spR_told [ar 0, ar w, ai lo, ai hi] M Q = (∃ p : Nat, PR_told (w : Int) lo hi p M ∧ ∀ (r : Option AV) (M1 : Mm), RR_told (w : Int) lo hi p M r M1 → Q r M1) := rfl
def csR_told : List (Nat × Nat × Nat × Spec) := []
def xsR_told : List (Nat × Nat × Nat × Spec) := [(1075, 1, 2, spR_needs), (1115, 1, 3, spR_number)]
set_option maxHeartbeats 4000000 in
set_option maxRecDepth 100000 in
theorem inR_told {w lo hi : Int} {p : Nat} {M : Mm} {Q : Option AV → Mm → Prop} (hM : okM shR M) (h_lo : i32 lo) (h_hi : i32 hi) (hP : PR_told w lo hi p M) (hQ : ∀ (r : Option AV) (M1 : Mm), RR_told w lo hi p M r M1 → Q r M1) : wpx (tbR (csL csR_told)) (csL xsR_told) shR 4 1 cX8_told [] (retX Q) (fun _ M1 => Q (some an) M1) 400 false 0 [(0, ar 0), (1, ar w.toNat), (2, ai lo), (3, ai hi)] [] M := by
  obtain ⟨h1, h2, h3, h4⟩ := id hP
  obtain ⟨w, rfl⟩ := Int.eq_ofNat_of_zero_le (by omega : 0 ≤ w)
  simp only [e_wpy (k := 9) dX8_told_0 rfl rfl rfl, e_wpy (k := 9) dX8_told_1 rfl rfl rfl, e_wpy (k := 1075) dX8_told_2 rfl rfl rfl, e_wpy (k := 9) dX8_told_5 rfl rfl rfl, e_wpy (k := 9) dX8_told_6 rfl rfl rfl, e_wpy (k := 9) dX8_told_7 rfl rfl rfl, e_wpy (k := 1115) dX8_told_8 rfl rfl rfl, e_wpy (k := 9) dX8_told_11 rfl rfl rfl, xoff_a, ex_null_n, ex_null_r, ex_nonn_n, ex_nonn_r, ex_aret, xel_n, xel_s, xgo_0, xgo_1x, xgo_1v, xgo_1i, xgo_1l, xgo_1r, xgo_2, xgo_3, xgo_4, xgo_5x, xgo_5v, xgo_5i, xgo_5l, xgd_5, xgd_0, xgd_1, xgd_2, xgd_3, xgd_4, ath_y, xct_f, xct_t, xna_f, csL_n, Nat.reduceMul, retX_i, retX_l, retX_r, retX_v, cR_needs, PR_needs, cR_number, PR_number, xsR_told, csR_told, e_iconst, e_bipush, e_sipush, e_lconst_0, e_lconst_1, e_iload, e_iload_0, e_iload_1, e_iload_2, e_iload_3, e_lload, e_lload_0, e_lload_1, e_lload_2, e_lload_3, e_aload, e_aload_0, e_aload_1, e_aload_2, e_aload_3, e_istore, e_istore_0, e_istore_1, e_istore_2, e_istore_3, e_astore, e_astore_0, e_astore_1, e_astore_2, e_astore_3, e_lstore, e_lstore_0, e_lstore_1, e_lstore_2, e_lstore_3, e_iinc, e_iadd, e_isub, e_imul, e_ladd, e_lsub, e_lmul, e_idiv, e_irem, e_ldiv, e_lrem, e_ineg, e_lneg, e_iand, e_ior, e_ixor, e_ishl, e_ishr, e_iushr, e_lcmp, e_i2l, e_l2i, e_i2b, e_i2s, e_dup_i, e_dup_r, e_pop_i, e_pop_r, e_dup2_l, e_dup2_ir, e_dup2_ii, e_ifeq, e_ifne, e_iflt, e_ifge, e_ifgt, e_ifle, e_iceq, e_icne, e_iclt, e_icge, e_icgt, e_icle, e_goto, e_switch, e_invokevirtual, e_invokestatic, e_invokespecial, e_ret0, e_ret1, e_ret2, e_ret3, ldI_s, ldL_s, ldR_s, clO_s, ctP_s, ctS_s, mgo_0, mgo_s, pjc_s, pj_0, pj_s, lk_s, rm1_0, rm1_i, rm1_r, rm1_l, rm2_0, rm2_i, rm2_r, rm2_l, csL_s, lc_lt, lc_ge, lc_gt, lc_le, lc_eq, b01_0, b01_1, b01_01, b01_n, up2_o, up2_s, up2_u, ne_eq, reduceCtorEq, Nat.reduceAdd, Nat.reduceEqDiff, Nat.reduceLT, Nat.reduceLeDiff, Int.reduceLE, Int.reduceLT, Int.reduceAdd, Int.reduceNeg, Int.reduceMul, Int.reduceSub, Int.reduceEq, Int.reduceToNat, Int.reduceNatCast, Int.cast_ofNat_Int, ↓reduceIte, and_self, List.drop_succ_cons, List.drop_zero, List.take_succ_cons, List.take_zero, List.length_cons, List.length_nil, List.reverse_cons, List.reverse_nil, List.nil_append, List.cons_append, Option.toList, true_and, and_true, or_false, false_or, or_true, true_or, forall_const, Classical.not_not, not_false_eq_true, not_true_eq_false, false_implies, true_implies, implies_true, imp_self, Int.toNat_natCast]
  refine ⟨p, ⟨h1, h2, h4⟩, fun r M1 hR => ?_⟩
  obtain ⟨hk, hR⟩ := hR
  obtain ⟨k3, kN, kI⟩ := zkK_T hk
  by_cases hw : isW (M 3) (zN M) (sW (xW (w : Int))) p
  · rw [askS_y hw, outV_n] at hR
    obtain ⟨rfl, hz⟩ := hR
    simp only [e_wpy (k := 9) dX8_told_5 rfl rfl rfl, e_wpy (k := 9) dX8_told_6 rfl rfl rfl, e_wpy (k := 9) dX8_told_7 rfl rfl rfl, e_wpy (k := 1115) dX8_told_8 rfl rfl rfl, e_wpy (k := 9) dX8_told_11 rfl rfl rfl, xoff_a, ex_null_n, ex_null_r, ex_nonn_n, ex_nonn_r, ex_aret, xel_n, xel_s, xgo_0, xgo_1x, xgo_1v, xgo_1i, xgo_1l, xgo_1r, xgo_2, xgo_3, xgo_4, xgo_5x, xgo_5v, xgo_5i, xgo_5l, xgd_5, xgd_0, xgd_1, xgd_2, xgd_3, xgd_4, ath_y, xct_f, xct_t, xna_f, csL_n, Nat.reduceMul, retX_i, retX_l, retX_r, retX_v, cR_needs, PR_needs, cR_number, PR_number, xsR_told, csR_told, e_iconst, e_bipush, e_sipush, e_lconst_0, e_lconst_1, e_iload, e_iload_0, e_iload_1, e_iload_2, e_iload_3, e_lload, e_lload_0, e_lload_1, e_lload_2, e_lload_3, e_aload, e_aload_0, e_aload_1, e_aload_2, e_aload_3, e_istore, e_istore_0, e_istore_1, e_istore_2, e_istore_3, e_astore, e_astore_0, e_astore_1, e_astore_2, e_astore_3, e_lstore, e_lstore_0, e_lstore_1, e_lstore_2, e_lstore_3, e_iinc, e_iadd, e_isub, e_imul, e_ladd, e_lsub, e_lmul, e_idiv, e_irem, e_ldiv, e_lrem, e_ineg, e_lneg, e_iand, e_ior, e_ixor, e_ishl, e_ishr, e_iushr, e_lcmp, e_i2l, e_l2i, e_i2b, e_i2s, e_dup_i, e_dup_r, e_pop_i, e_pop_r, e_dup2_l, e_dup2_ir, e_dup2_ii, e_ifeq, e_ifne, e_iflt, e_ifge, e_ifgt, e_ifle, e_iceq, e_icne, e_iclt, e_icge, e_icgt, e_icle, e_goto, e_switch, e_invokevirtual, e_invokestatic, e_invokespecial, e_ret0, e_ret1, e_ret2, e_ret3, ldI_s, ldL_s, ldR_s, clO_s, ctP_s, ctS_s, mgo_0, mgo_s, pjc_s, pj_0, pj_s, lk_s, rm1_0, rm1_i, rm1_r, rm1_l, rm2_0, rm2_i, rm2_r, rm2_l, csL_s, lc_lt, lc_ge, lc_gt, lc_le, lc_eq, b01_0, b01_1, b01_01, b01_n, up2_o, up2_s, up2_u, ne_eq, reduceCtorEq, Nat.reduceAdd, Nat.reduceEqDiff, Nat.reduceLT, Nat.reduceLeDiff, Int.reduceLE, Int.reduceLT, Int.reduceAdd, Int.reduceNeg, Int.reduceMul, Int.reduceSub, Int.reduceEq, Int.reduceToNat, Int.reduceNatCast, Int.cast_ofNat_Int, ↓reduceIte, and_self, List.drop_succ_cons, List.drop_zero, List.take_succ_cons, List.take_zero, List.length_cons, List.length_nil, List.reverse_cons, List.reverse_nil, List.nil_append, List.cons_append, Option.toList, true_and, and_true, or_false, false_or, or_true, true_or, forall_const, Classical.not_not, not_false_eq_true, not_true_eq_false, false_implies, true_implies, implies_true, imp_self]
    refine ⟨_, ⟨kI h1, hz, h3⟩, fun r M2 hR => ?_⟩
    obtain ⟨hk2, hR⟩ := hR
    rw [k3, kN] at hR
    have hR2 : outI (told (M 3) (zN M) (sW (xW (w : Int))) lo hi (.inr p)) r M2 := by
      show outI (numS (M 3) (zN M) lo hi (askS (M 3) (zN M) (sW (xW (w : Int))) (.inr p))) r M2
      rw [askS_y hw]
      exact hR
    rcases h : told (M 3) (zN M) (sW (xW (w : Int))) lo hi (.inr p) with ⟨v, e | p2⟩ <;> rw [h] at hR2
    · obtain ⟨rfl, g⟩ := hR2
      simp only [xgo_1x]
      exact hQ _ _ ⟨zkK_tr hk hk2, by rw [h]; exact ⟨rfl, g⟩⟩
    · obtain ⟨rfl, hz2⟩ := hR2
      simp only [e_wpy (k := 1115) dX8_told_8 rfl rfl rfl, e_wpy (k := 9) dX8_told_11 rfl rfl rfl, xoff_a, ex_null_n, ex_null_r, ex_nonn_n, ex_nonn_r, ex_aret, xel_n, xel_s, xgo_0, xgo_1x, xgo_1v, xgo_1i, xgo_1l, xgo_1r, xgo_2, xgo_3, xgo_4, xgo_5x, xgo_5v, xgo_5i, xgo_5l, xgd_5, xgd_0, xgd_1, xgd_2, xgd_3, xgd_4, ath_y, xct_f, xct_t, xna_f, csL_n, Nat.reduceMul, retX_i, retX_l, retX_r, retX_v, cR_needs, PR_needs, cR_number, PR_number, xsR_told, csR_told, e_iconst, e_bipush, e_sipush, e_lconst_0, e_lconst_1, e_iload, e_iload_0, e_iload_1, e_iload_2, e_iload_3, e_lload, e_lload_0, e_lload_1, e_lload_2, e_lload_3, e_aload, e_aload_0, e_aload_1, e_aload_2, e_aload_3, e_istore, e_istore_0, e_istore_1, e_istore_2, e_istore_3, e_astore, e_astore_0, e_astore_1, e_astore_2, e_astore_3, e_lstore, e_lstore_0, e_lstore_1, e_lstore_2, e_lstore_3, e_iinc, e_iadd, e_isub, e_imul, e_ladd, e_lsub, e_lmul, e_idiv, e_irem, e_ldiv, e_lrem, e_ineg, e_lneg, e_iand, e_ior, e_ixor, e_ishl, e_ishr, e_iushr, e_lcmp, e_i2l, e_l2i, e_i2b, e_i2s, e_dup_i, e_dup_r, e_pop_i, e_pop_r, e_dup2_l, e_dup2_ir, e_dup2_ii, e_ifeq, e_ifne, e_iflt, e_ifge, e_ifgt, e_ifle, e_iceq, e_icne, e_iclt, e_icge, e_icgt, e_icle, e_goto, e_switch, e_invokevirtual, e_invokestatic, e_invokespecial, e_ret0, e_ret1, e_ret2, e_ret3, ldI_s, ldL_s, ldR_s, clO_s, ctP_s, ctS_s, mgo_0, mgo_s, pjc_s, pj_0, pj_s, lk_s, rm1_0, rm1_i, rm1_r, rm1_l, rm2_0, rm2_i, rm2_r, rm2_l, csL_s, lc_lt, lc_ge, lc_gt, lc_le, lc_eq, b01_0, b01_1, b01_01, b01_n, up2_o, up2_s, up2_u, ne_eq, reduceCtorEq, Nat.reduceAdd, Nat.reduceEqDiff, Nat.reduceLT, Nat.reduceLeDiff, Int.reduceLE, Int.reduceLT, Int.reduceAdd, Int.reduceNeg, Int.reduceMul, Int.reduceSub, Int.reduceEq, Int.reduceToNat, Int.reduceNatCast, Int.cast_ofNat_Int, ↓reduceIte, and_self, List.drop_succ_cons, List.drop_zero, List.take_succ_cons, List.take_zero, List.length_cons, List.length_nil, List.reverse_cons, List.reverse_nil, List.nil_append, List.cons_append, Option.toList, true_and, and_true, or_false, false_or, or_true, true_or, forall_const, Classical.not_not, not_false_eq_true, not_true_eq_false, false_implies, true_implies, implies_true, imp_self]
      exact hQ _ _ ⟨zkK_tr hk hk2, by rw [h]; exact ⟨rfl, hz2⟩⟩
  · rw [askS_n hw, outV_e] at hR
    obtain ⟨rfl, g⟩ := hR
    simp only [xgo_1x]
    refine hQ _ _ ⟨hk, ?_⟩
    show outI (numS (M 3) (zN M) lo hi (askS (M 3) (zN M) (sW (xW (w : Int))) (.inr p))) _ M1
    rw [askS_n hw]
    exact ⟨rfl, g⟩
set_option maxHeartbeats 4000000 in
set_option maxRecDepth 100000 in
theorem mR_told : MOKX clR shR tylR NwsR exR flR 8 1 8 yX8_told cX8_told 4 (some .int) spR_told := by
  refine mokX_of (own := RX8) (fl := flR) (tb := tbR (csL csR_told)) (xt := csL xsR_told) (rt := 1) (fuel := 400) (fun avs M Q => []) (by decide) rfl nwsR_ok (tbOKR _) rfl (csL_all ?_) (csY_all ?_) ?_ ?_ ?_
  · intro q hq; cases hq
  · intro q hq
    simp only [xsR_told, List.mem_cons, List.not_mem_nil, or_false] at hq
    rcases hq with rfl | rfl
    · exact Or.inr ⟨(by decide : ¬ ((1 : Nat) = 2 ∨ (1 : Nat) = 5)), cxeR_needs (by decide)⟩
    · exact Or.inr ⟨(by decide : ¬ ((1 : Nat) = 2 ∨ (1 : Nat) = 5)), cxeR_number (by decide)⟩
  · intro avs M Q hsp
    obtain ⟨xs, hx⟩ := spXG_un _ _ _ hsp
    obtain ⟨e, hl⟩ := unA_mkT hx
    obtain ⟨w, lo, hi, rfl⟩ := len3 hl
    have e : avs = [ar 0, ar w.toNat, ai lo, ai hi] := e
    subst e
    obtain ⟨p, hsp⟩ := hsp
    simp [szL, isL]
  · intro avs M Q hM hav hsp
    obtain ⟨xs, hx⟩ := spXG_un _ _ _ hsp
    obtain ⟨e, hl⟩ := unA_mkT hx
    obtain ⟨w, lo, hi, rfl⟩ := len3 hl
    have e : avs = [ar 0, ar w.toNat, ai lo, ai hi] := e
    subst e
    obtain ⟨p, hsp⟩ := hsp
    exact inR_told (w := ((w.toNat : Nat) : Int)) hM (hav (ai lo) (by simp)) (hav (ai hi) (by simp)) hsp.1 hsp.2
  · intro avs M Q hM hav hsp q hq m_ vs M1 hM1 hv hJ
    obtain ⟨xs, hx⟩ := spXG_un _ _ _ hsp
    obtain ⟨e, hl⟩ := unA_mkT hx
    obtain ⟨w, lo, hi, rfl⟩ := len3 hl
    have e : avs = [ar 0, ar w.toNat, ai lo, ai hi] := e
    subst e
    obtain ⟨p, hsp⟩ := hsp
    cases hq
theorem cxeR_told {lvl : Nat} (h : 8 < lvl) : CXE RX8 clR shR tylR NwsR exR flR lvl 1 8 1175 1 4 spR_told := cxe_VX (k := 0) (n' := 3) nwsR_ok exR_ok spXG_mono (fun avs M Q h => (spXG_un _ _ _ h).elim fun xs hx => rcvT (sg := [2, 0, 0]) hx) mR_told h rfl (by decide) rfl rfl ⟨rfl, by decide, by decide, rfl⟩ q726 q728 qs10 q139 q729
def PR_takes_2 (w : Int) (b : Int) (p : Nat) (M : Mm) : Prop := zI M ∧ zdR M p ∧ 300 ≤ w ∧ w < 314
def RR_takes_2 (w : Int) (b : Int) (p : Nat) (M : Mm) (r : Option AV) (M1 : Mm) : Prop := zkK M M1 ∧ ((isW (M 3) (zN M) (sW (xW w)) p ∧ b = 0 ∧ r = some (ai 1) ∧ zdR M1 (zTk M p).2.2) ∨ (isW (M 3) (zN M) (sW (xW w)) p ∧ ¬ b = 0 ∧ outV (failS (M 3) (zN M) 3 (.inr p)) r M1) ∨ (¬ isW (M 3) (zN M) (sW (xW w)) p ∧ r = some (ai 0) ∧ M1 = M))
def spR_takes_2 : Spec := spXG true [2, 0] (fun x p M => PR_takes_2 (x 0) (x 1) p M) (fun x p M r M1 => RR_takes_2 (x 0) (x 1) p M r M1)
theorem cR_takes_2 {w : Nat} {b : Int} {M : Mm} {Q : Option AV → Mm → Prop} : spR_takes_2 [ar 0, ar w, ai b] M Q = (∃ p : Nat, PR_takes_2 (w : Int) b p M ∧ ∀ (r : Option AV) (M1 : Mm), RR_takes_2 (w : Int) b p M r M1 → Q r M1) := rfl
def csR_takes_2 : List (Nat × Nat × Nat × Spec) := []
def xsR_takes_2 : List (Nat × Nat × Nat × Spec) := [(965, 1, 2, spR_is), (1005, 1, 2, spR_takes), (1035, 4, 2, spWrong)]
set_option maxHeartbeats 4000000 in
set_option maxRecDepth 100000 in
theorem inR_takes_2 {w b : Int} {p : Nat} {M : Mm} {Q : Option AV → Mm → Prop} (hM : okM shR M) (h_b : i32 b) (hP : PR_takes_2 w b p M) (hQ : ∀ (r : Option AV) (M1 : Mm), RR_takes_2 w b p M r M1 → Q r M1) : wpx (tbR (csL csR_takes_2)) (csL xsR_takes_2) shR 3 2 cX8_takes_2 [] (retX Q) (fun _ M1 => Q (some an) M1) 400 false 0 [(0, ar 0), (1, ar w.toNat), (2, ai b)] [] M := by
  obtain ⟨h1, h2, h3⟩ := id hP
  obtain ⟨w, rfl⟩ := Int.eq_ofNat_of_zero_le (by omega : 0 ≤ w)
  simp only [e_wpy (k := 9) dX8_takes_2_0 rfl rfl rfl, e_wpy (k := 9) dX8_takes_2_1 rfl rfl rfl, e_wpy (k := 965) dX8_takes_2_2 rfl rfl rfl, e_wpy (k := 9) dX8_takes_2_5 rfl rfl rfl, e_wpy (k := 9) dX8_takes_2_8 rfl rfl rfl, e_wpy (k := 9) dX8_takes_2_9 rfl rfl rfl, e_wpy (k := 9) dX8_takes_2_12 rfl rfl rfl, e_wpy (k := 9) dX8_takes_2_13 rfl rfl rfl, e_wpy (k := 1035) dX8_takes_2_14 rfl rfl rfl, e_wpy (k := 9) dX8_takes_2_17 rfl rfl rfl, e_wpy (k := 9) dX8_takes_2_18 rfl rfl rfl, e_wpy (k := 9) dX8_takes_2_19 rfl rfl rfl, e_wpy (k := 1005) dX8_takes_2_20 rfl rfl rfl, e_wpy (k := 9) dX8_takes_2_23 rfl rfl rfl, xoff_a, ex_null_n, ex_null_r, ex_nonn_n, ex_nonn_r, ex_aret, xel_n, xel_s, xgo_0, xgo_1x, xgo_1v, xgo_1i, xgo_1l, xgo_1r, xgo_2, xgo_3, xgo_4, xgo_5x, xgo_5v, xgo_5i, xgo_5l, xgd_5, xgd_0, xgd_1, xgd_2, xgd_3, xgd_4, ath_y, xct_f, xct_t, xna_f, csL_n, Nat.reduceMul, retX_i, retX_l, retX_r, retX_v, cR_is, PR_is, cR_takes, PR_takes, cWrong, xsR_takes_2, dX8_takes_2_17, csR_takes_2, e_iconst, e_bipush, e_sipush, e_lconst_0, e_lconst_1, e_iload, e_iload_0, e_iload_1, e_iload_2, e_iload_3, e_lload, e_lload_0, e_lload_1, e_lload_2, e_lload_3, e_aload, e_aload_0, e_aload_1, e_aload_2, e_aload_3, e_istore, e_istore_0, e_istore_1, e_istore_2, e_istore_3, e_astore, e_astore_0, e_astore_1, e_astore_2, e_astore_3, e_lstore, e_lstore_0, e_lstore_1, e_lstore_2, e_lstore_3, e_iinc, e_iadd, e_isub, e_imul, e_ladd, e_lsub, e_lmul, e_idiv, e_irem, e_ldiv, e_lrem, e_ineg, e_lneg, e_iand, e_ior, e_ixor, e_ishl, e_ishr, e_iushr, e_lcmp, e_i2l, e_l2i, e_i2b, e_i2s, e_dup_i, e_dup_r, e_pop_i, e_pop_r, e_dup2_l, e_dup2_ir, e_dup2_ii, e_ifeq, e_ifne, e_iflt, e_ifge, e_ifgt, e_ifle, e_iceq, e_icne, e_iclt, e_icge, e_icgt, e_icle, e_goto, e_switch, e_invokevirtual, e_invokestatic, e_invokespecial, e_ret0, e_ret1, e_ret2, e_ret3, ldI_s, ldL_s, ldR_s, clO_s, ctP_s, ctS_s, mgo_0, mgo_s, pjc_s, pj_0, pj_s, lk_s, rm1_0, rm1_i, rm1_r, rm1_l, rm2_0, rm2_i, rm2_r, rm2_l, csL_s, lc_lt, lc_ge, lc_gt, lc_le, lc_eq, b01_0, b01_1, b01_01, b01_n, up2_o, up2_s, up2_u, ne_eq, reduceCtorEq, Nat.reduceAdd, Nat.reduceEqDiff, Nat.reduceLT, Nat.reduceLeDiff, Int.reduceLE, Int.reduceLT, Int.reduceAdd, Int.reduceNeg, Int.reduceMul, Int.reduceSub, Int.reduceEq, Int.reduceToNat, Int.reduceNatCast, Int.cast_ofNat_Int, ↓reduceIte, and_self, List.drop_succ_cons, List.drop_zero, List.take_succ_cons, List.take_zero, List.length_cons, List.length_nil, List.reverse_cons, List.reverse_nil, List.nil_append, List.cons_append, Option.toList, true_and, and_true, or_false, false_or, or_true, true_or, forall_const, Classical.not_not, not_false_eq_true, not_true_eq_false, false_implies, true_implies, implies_true, imp_self, Int.toNat_natCast]
  refine ⟨⟨h1, ⟨p, h2⟩, h3⟩, fun r M1 hR => ?_⟩
  obtain ⟨v, rfl, rfl, h01, hv⟩ := hR
  have hv := hv p h2
  simp only [e_wpy (k := 9) dX8_takes_2_5 rfl rfl rfl, e_wpy (k := 9) dX8_takes_2_8 rfl rfl rfl, e_wpy (k := 9) dX8_takes_2_9 rfl rfl rfl, e_wpy (k := 9) dX8_takes_2_12 rfl rfl rfl, e_wpy (k := 9) dX8_takes_2_13 rfl rfl rfl, e_wpy (k := 1035) dX8_takes_2_14 rfl rfl rfl, e_wpy (k := 9) dX8_takes_2_17 rfl rfl rfl, e_wpy (k := 9) dX8_takes_2_18 rfl rfl rfl, e_wpy (k := 9) dX8_takes_2_19 rfl rfl rfl, e_wpy (k := 1005) dX8_takes_2_20 rfl rfl rfl, e_wpy (k := 9) dX8_takes_2_23 rfl rfl rfl, xoff_a, ex_null_n, ex_null_r, ex_nonn_n, ex_nonn_r, ex_aret, xel_n, xel_s, xgo_0, xgo_1x, xgo_1v, xgo_1i, xgo_1l, xgo_1r, xgo_2, xgo_3, xgo_4, xgo_5x, xgo_5v, xgo_5i, xgo_5l, xgd_5, xgd_0, xgd_1, xgd_2, xgd_3, xgd_4, ath_y, xct_f, xct_t, xna_f, csL_n, Nat.reduceMul, retX_i, retX_l, retX_r, retX_v, cR_is, PR_is, cR_takes, PR_takes, cWrong, xsR_takes_2, dX8_takes_2_17, csR_takes_2, e_iconst, e_bipush, e_sipush, e_lconst_0, e_lconst_1, e_iload, e_iload_0, e_iload_1, e_iload_2, e_iload_3, e_lload, e_lload_0, e_lload_1, e_lload_2, e_lload_3, e_aload, e_aload_0, e_aload_1, e_aload_2, e_aload_3, e_istore, e_istore_0, e_istore_1, e_istore_2, e_istore_3, e_astore, e_astore_0, e_astore_1, e_astore_2, e_astore_3, e_lstore, e_lstore_0, e_lstore_1, e_lstore_2, e_lstore_3, e_iinc, e_iadd, e_isub, e_imul, e_ladd, e_lsub, e_lmul, e_idiv, e_irem, e_ldiv, e_lrem, e_ineg, e_lneg, e_iand, e_ior, e_ixor, e_ishl, e_ishr, e_iushr, e_lcmp, e_i2l, e_l2i, e_i2b, e_i2s, e_dup_i, e_dup_r, e_pop_i, e_pop_r, e_dup2_l, e_dup2_ir, e_dup2_ii, e_ifeq, e_ifne, e_iflt, e_ifge, e_ifgt, e_ifle, e_iceq, e_icne, e_iclt, e_icge, e_icgt, e_icle, e_goto, e_switch, e_invokevirtual, e_invokestatic, e_invokespecial, e_ret0, e_ret1, e_ret2, e_ret3, ldI_s, ldL_s, ldR_s, clO_s, ctP_s, ctS_s, mgo_0, mgo_s, pjc_s, pj_0, pj_s, lk_s, rm1_0, rm1_i, rm1_r, rm1_l, rm2_0, rm2_i, rm2_r, rm2_l, csL_s, lc_lt, lc_ge, lc_gt, lc_le, lc_eq, b01_0, b01_1, b01_01, b01_n, up2_o, up2_s, up2_u, ne_eq, reduceCtorEq, Nat.reduceAdd, Nat.reduceEqDiff, Nat.reduceLT, Nat.reduceLeDiff, Int.reduceLE, Int.reduceLT, Int.reduceAdd, Int.reduceNeg, Int.reduceMul, Int.reduceSub, Int.reduceEq, Int.reduceToNat, Int.reduceNatCast, Int.cast_ofNat_Int, ↓reduceIte, and_self, List.drop_succ_cons, List.drop_zero, List.take_succ_cons, List.take_zero, List.length_cons, List.length_nil, List.reverse_cons, List.reverse_nil, List.nil_append, List.cons_append, Option.toList, true_and, and_true, or_false, false_or, or_true, true_or, forall_const, Classical.not_not, not_false_eq_true, not_true_eq_false, false_implies, true_implies, implies_true, imp_self, Int.toNat_natCast]
  refine ⟨fun q => ⟨p, ⟨h1, h2, h3⟩, fun r M2 hR => ?_⟩, fun q => ⟨fun q2 => ⟨p, ⟨h1, h2, h3⟩, fun r M2 hR => ?_⟩, fun q2 => ?_⟩⟩
  · obtain ⟨hk, ⟨hw, -, -⟩ | ⟨hw, rfl, rfl⟩⟩ := hR
    · exact absurd (hv.mpr hw) (by omega)
    · simp only [e_wpy (k := 9) dX8_takes_2_23 rfl rfl rfl, xoff_a, ex_null_n, ex_null_r, ex_nonn_n, ex_nonn_r, ex_aret, xel_n, xel_s, xgo_0, xgo_1x, xgo_1v, xgo_1i, xgo_1l, xgo_1r, xgo_2, xgo_3, xgo_4, xgo_5x, xgo_5v, xgo_5i, xgo_5l, xgd_5, xgd_0, xgd_1, xgd_2, xgd_3, xgd_4, ath_y, xct_f, xct_t, xna_f, csL_n, Nat.reduceMul, retX_i, retX_l, retX_r, retX_v, cR_is, PR_is, cR_takes, PR_takes, cWrong, xsR_takes_2, dX8_takes_2_17, csR_takes_2, e_iconst, e_bipush, e_sipush, e_lconst_0, e_lconst_1, e_iload, e_iload_0, e_iload_1, e_iload_2, e_iload_3, e_lload, e_lload_0, e_lload_1, e_lload_2, e_lload_3, e_aload, e_aload_0, e_aload_1, e_aload_2, e_aload_3, e_istore, e_istore_0, e_istore_1, e_istore_2, e_istore_3, e_astore, e_astore_0, e_astore_1, e_astore_2, e_astore_3, e_lstore, e_lstore_0, e_lstore_1, e_lstore_2, e_lstore_3, e_iinc, e_iadd, e_isub, e_imul, e_ladd, e_lsub, e_lmul, e_idiv, e_irem, e_ldiv, e_lrem, e_ineg, e_lneg, e_iand, e_ior, e_ixor, e_ishl, e_ishr, e_iushr, e_lcmp, e_i2l, e_l2i, e_i2b, e_i2s, e_dup_i, e_dup_r, e_pop_i, e_pop_r, e_dup2_l, e_dup2_ir, e_dup2_ii, e_ifeq, e_ifne, e_iflt, e_ifge, e_ifgt, e_ifle, e_iceq, e_icne, e_iclt, e_icge, e_icgt, e_icle, e_goto, e_switch, e_invokevirtual, e_invokestatic, e_invokespecial, e_ret0, e_ret1, e_ret2, e_ret3, ldI_s, ldL_s, ldR_s, clO_s, ctP_s, ctS_s, mgo_0, mgo_s, pjc_s, pj_0, pj_s, lk_s, rm1_0, rm1_i, rm1_r, rm1_l, rm2_0, rm2_i, rm2_r, rm2_l, csL_s, lc_lt, lc_ge, lc_gt, lc_le, lc_eq, b01_0, b01_1, b01_01, b01_n, up2_o, up2_s, up2_u, ne_eq, reduceCtorEq, Nat.reduceAdd, Nat.reduceEqDiff, Nat.reduceLT, Nat.reduceLeDiff, Int.reduceLE, Int.reduceLT, Int.reduceAdd, Int.reduceNeg, Int.reduceMul, Int.reduceSub, Int.reduceEq, Int.reduceToNat, Int.reduceNatCast, Int.cast_ofNat_Int, ↓reduceIte, and_self, List.drop_succ_cons, List.drop_zero, List.take_succ_cons, List.take_zero, List.length_cons, List.length_nil, List.reverse_cons, List.reverse_nil, List.nil_append, List.cons_append, Option.toList, true_and, and_true, or_false, false_or, or_true, true_or, forall_const, Classical.not_not, not_false_eq_true, not_true_eq_false, false_implies, true_implies, implies_true, imp_self]
      exact hQ _ _ ⟨hk, Or.inr (Or.inr ⟨hw, rfl, rfl⟩)⟩
  · obtain ⟨hk, ⟨hw, rfl, hz⟩ | ⟨hw, -, -⟩⟩ := hR
    · simp only [e_wpy (k := 9) dX8_takes_2_23 rfl rfl rfl, xoff_a, ex_null_n, ex_null_r, ex_nonn_n, ex_nonn_r, ex_aret, xel_n, xel_s, xgo_0, xgo_1x, xgo_1v, xgo_1i, xgo_1l, xgo_1r, xgo_2, xgo_3, xgo_4, xgo_5x, xgo_5v, xgo_5i, xgo_5l, xgd_5, xgd_0, xgd_1, xgd_2, xgd_3, xgd_4, ath_y, xct_f, xct_t, xna_f, csL_n, Nat.reduceMul, retX_i, retX_l, retX_r, retX_v, cR_is, PR_is, cR_takes, PR_takes, cWrong, xsR_takes_2, dX8_takes_2_17, csR_takes_2, e_iconst, e_bipush, e_sipush, e_lconst_0, e_lconst_1, e_iload, e_iload_0, e_iload_1, e_iload_2, e_iload_3, e_lload, e_lload_0, e_lload_1, e_lload_2, e_lload_3, e_aload, e_aload_0, e_aload_1, e_aload_2, e_aload_3, e_istore, e_istore_0, e_istore_1, e_istore_2, e_istore_3, e_astore, e_astore_0, e_astore_1, e_astore_2, e_astore_3, e_lstore, e_lstore_0, e_lstore_1, e_lstore_2, e_lstore_3, e_iinc, e_iadd, e_isub, e_imul, e_ladd, e_lsub, e_lmul, e_idiv, e_irem, e_ldiv, e_lrem, e_ineg, e_lneg, e_iand, e_ior, e_ixor, e_ishl, e_ishr, e_iushr, e_lcmp, e_i2l, e_l2i, e_i2b, e_i2s, e_dup_i, e_dup_r, e_pop_i, e_pop_r, e_dup2_l, e_dup2_ir, e_dup2_ii, e_ifeq, e_ifne, e_iflt, e_ifge, e_ifgt, e_ifle, e_iceq, e_icne, e_iclt, e_icge, e_icgt, e_icle, e_goto, e_switch, e_invokevirtual, e_invokestatic, e_invokespecial, e_ret0, e_ret1, e_ret2, e_ret3, ldI_s, ldL_s, ldR_s, clO_s, ctP_s, ctS_s, mgo_0, mgo_s, pjc_s, pj_0, pj_s, lk_s, rm1_0, rm1_i, rm1_r, rm1_l, rm2_0, rm2_i, rm2_r, rm2_l, csL_s, lc_lt, lc_ge, lc_gt, lc_le, lc_eq, b01_0, b01_1, b01_01, b01_n, up2_o, up2_s, up2_u, ne_eq, reduceCtorEq, Nat.reduceAdd, Nat.reduceEqDiff, Nat.reduceLT, Nat.reduceLeDiff, Int.reduceLE, Int.reduceLT, Int.reduceAdd, Int.reduceNeg, Int.reduceMul, Int.reduceSub, Int.reduceEq, Int.reduceToNat, Int.reduceNatCast, Int.cast_ofNat_Int, ↓reduceIte, and_self, List.drop_succ_cons, List.drop_zero, List.take_succ_cons, List.take_zero, List.length_cons, List.length_nil, List.reverse_cons, List.reverse_nil, List.nil_append, List.cons_append, Option.toList, true_and, and_true, or_false, false_or, or_true, true_or, forall_const, Classical.not_not, not_false_eq_true, not_true_eq_false, false_implies, true_implies, implies_true, imp_self]
      exact hQ _ _ ⟨hk, Or.inl ⟨hw, q2, rfl, hz⟩⟩
    · exact absurd (hv.mp (by omega)) hw
  · refine hQ _ _ ⟨gh3_K, Or.inr (Or.inl ⟨hv.mp (by omega), q2, ?_⟩)⟩
    obtain ⟨g1, g2, g3⟩ := @gh3_0 M1 3 (M1 0 3)
    exact ⟨rfl, g1, g2, g3.trans h2.2.2.1⟩
set_option maxHeartbeats 4000000 in
set_option maxRecDepth 100000 in
theorem mR_takes_2 : MOKX clR shR tylR NwsR exR flR 7 1 8 yX8_takes_2 cX8_takes_2 3 (some .boolean) spR_takes_2 := by
  refine mokX_of (own := RX8) (fl := flR) (tb := tbR (csL csR_takes_2)) (xt := csL xsR_takes_2) (rt := 2) (fuel := 400) (fun avs M Q => []) (by decide) rfl nwsR_ok (tbOKR _) rfl (csL_all ?_) (csY_all ?_) ?_ ?_ ?_
  · intro q hq; cases hq
  · intro q hq
    simp only [xsR_takes_2, List.mem_cons, List.not_mem_nil, or_false] at hq
    rcases hq with rfl | rfl | rfl
    · exact Or.inr ⟨(by decide : ¬ ((1 : Nat) = 2 ∨ (1 : Nat) = 5)), cxeR_is (by decide)⟩
    · exact Or.inr ⟨(by decide : ¬ ((1 : Nat) = 2 ∨ (1 : Nat) = 5)), cxeR_takes (by decide)⟩
    · exact Or.inr ⟨(by decide : ¬ ((4 : Nat) = 2 ∨ (4 : Nat) = 5)), cxe_wrong (by decide)⟩
  · intro avs M Q hsp
    obtain ⟨xs, hx⟩ := spXG_un _ _ _ hsp
    obtain ⟨e, hl⟩ := unA_mkT hx
    obtain ⟨w, b, rfl⟩ := len2 hl
    have e : avs = [ar 0, ar w.toNat, ai b] := e
    subst e
    obtain ⟨p, hsp⟩ := hsp
    simp [szL, isL]
  · intro avs M Q hM hav hsp
    obtain ⟨xs, hx⟩ := spXG_un _ _ _ hsp
    obtain ⟨e, hl⟩ := unA_mkT hx
    obtain ⟨w, b, rfl⟩ := len2 hl
    have e : avs = [ar 0, ar w.toNat, ai b] := e
    subst e
    obtain ⟨p, hsp⟩ := hsp
    exact inR_takes_2 (w := ((w.toNat : Nat) : Int)) hM (hav (ai b) (by simp)) hsp.1 hsp.2
  · intro avs M Q hM hav hsp q hq m_ vs M1 hM1 hv hJ
    obtain ⟨xs, hx⟩ := spXG_un _ _ _ hsp
    obtain ⟨e, hl⟩ := unA_mkT hx
    obtain ⟨w, b, rfl⟩ := len2 hl
    have e : avs = [ar 0, ar w.toNat, ai b] := e
    subst e
    obtain ⟨p, hsp⟩ := hsp
    cases hq
theorem cxeR_takes_2 {lvl : Nat} (h : 7 < lvl) : CXE RX8 clR shR tylR NwsR exR flR lvl 1 8 1525 1 3 spR_takes_2 := cxe_VX (k := 0) (n' := 2) nwsR_ok exR_ok spXG_mono (fun avs M Q h => (spXG_un _ _ _ h).elim fun xs hx => rcvT (sg := [2, 0]) hx) mR_takes_2 h rfl (by decide) rfl rfl ⟨rfl, by decide, by decide, rfl⟩ q741 q743 qs13 q139 q744
