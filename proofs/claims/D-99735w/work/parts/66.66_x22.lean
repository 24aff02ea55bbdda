/-! SagMemory: shares by all orders of counting -/
def P0_toldBy (rs : List (Nat × Nat)) (b : Int) (M : Mm) : Prop := 0 ≤ M 1 5 ∧ M 1 5 ≤ 7
def V0_toldBy (rs : List (Nat × Nat)) (b : Int) (M : Mm) : Int := toldP (vX M) b (M 1 5).toNat
def sp0_toldBy (rs : List (Nat × Nat)) : Spec := spF true [0] 1 (fun x M => P0_toldBy rs (x 0) M) (fun x M => V0_toldBy rs (x 0) M)
theorem c0_toldBy {rs : List (Nat × Nat)} {b : Int} {M : Mm} {Q : Option AV → Mm → Prop} : sp0_toldBy rs [ar 0, ai b] M Q = (P0_toldBy rs b M ∧ Q (some (ai (V0_toldBy rs b M))) M) := rfl
def cs0_toldBy (rs : List (Nat × Nat)) : List (Nat × Nat × Nat × Spec) := []
def J0_toldBy_4 (rs : List (Nat × Nat)) (b : Int) (M : Mm) (m : Nat) (b_ : Int) (n : Int) (c : Int) (M1 : Mm) : Prop := b = b_ ∧ M = M1 ∧ ∃ a : Nat, c = a ∧ (a : Int) ≤ M 1 5 ∧ n = toldP (vX M) b a ∧ m = 7 - a
set_option maxHeartbeats 4000000 in
set_option maxRecDepth 100000 in
theorem in0_toldBy {rs : List (Nat × Nat)} {b : Int} {M : Mm} {Q : Option AV → Mm → Prop} (hM : okM (sh8 rs) M) (h_b : i32 b) (hP : P0_toldBy rs b M) (hQ : Q (some (ai (V0_toldBy rs b M))) M) (I_4 : List AV → Mm → Prop) (hI_4 : ∀ (m_ : Nat) (y_b_ : Int) (y_n : Int) (y_c : Int) (M2 : Mm), J0_toldBy_4 rs b M m_ y_b_ y_n y_c M2 → I_4 [ar 0, ai y_b_, ai y_n, ai y_c] M2) : wp (tb0 (csL (cs0_toldBy rs))) (sh8 rs) 4 1 cX0_toldBy [(4, [0, 1, 2, 3], I_4)] Q 400 0 [(0, ar 0), (1, ai b)] [] M := by
  have h4 := id hP
  simp only [e_wp dX0_toldBy_0 rfl, e_wp dX0_toldBy_1 rfl, e_wp dX0_toldBy_2 rfl, e_wp dX0_toldBy_3 rfl, e_wp dX0_toldBy_4 rfl, e_wp dX0_toldBy_5 rfl, e_wp dX0_toldBy_6 rfl, e_wp dX0_toldBy_9 rfl, e_wp dX0_toldBy_12 rfl, e_wp dX0_toldBy_15 rfl, e_wp dX0_toldBy_16 rfl, e_wp dX0_toldBy_17 rfl, e_wp dX0_toldBy_20 rfl, e_wp dX0_toldBy_23 rfl, e_wp dX0_toldBy_24 rfl, e_wp dX0_toldBy_25 rfl, e_wp dX0_toldBy_26 rfl, e_wp dX0_toldBy_29 rfl, e_wp dX0_toldBy_30 rfl, e_wp dX0_toldBy_31 rfl, e_wp dX0_toldBy_32 rfl, e_wp dX0_toldBy_35 rfl, e_wp dX0_toldBy_36 rfl, e_wp dX0_toldBy_37 rfl, e_wp dX0_toldBy_38 rfl, e_wp dX0_toldBy_41 rfl, e_wp dX0_toldBy_44 rfl, e_wp dX0_toldBy_45 rfl, g0_10, g0_156, g0_181, a8_13, w8_13, a8_14, w8_14, a8_15, w8_15, a8_16, w8_16, a8_17, w8_17, a8_18, w8_18, a8_19, w8_19, a8_20, w8_20, a8_21, w8_21, a8_22, w8_22, a8_23, w8_23, a8_24, w8_24, a8_25, w8_25, a8_26, w8_26, a8_27, w8_27, a8_28, w8_28, a8_29, w8_29, a8_30, w8_30, a8_31, w8_31, a8_32, w8_32, a8_33, w8_33, a8_34, w8_34, a8_35, w8_35, a8_36, w8_36, a8_37, w8_37, a8_38, w8_38, a8_39, w8_39, a8_40, w8_40, a8_12, w8_12, a8_6, a8_7, e_iconst, e_bipush, e_sipush, e_lconst_0, e_lconst_1, e_iload, e_iload_0, e_iload_1, e_iload_2, e_iload_3, e_lload, e_lload_0, e_lload_1, e_lload_2, e_lload_3, e_aload, e_aload_0, e_aload_1, e_aload_2, e_aload_3, e_istore, e_istore_0, e_istore_1, e_istore_2, e_istore_3, e_astore, e_astore_0, e_astore_1, e_astore_2, e_astore_3, e_lstore, e_lstore_0, e_lstore_1, e_lstore_2, e_lstore_3, e_iinc, e_iadd, e_isub, e_imul, e_ladd, e_lsub, e_lmul, e_idiv, e_irem, e_ldiv, e_lrem, e_ineg, e_lneg, e_iand, e_ior, e_ixor, e_ishl, e_ishr, e_iushr, e_lcmp, e_i2l, e_l2i, e_i2b, e_i2s, e_dup_i, e_dup_r, e_pop_i, e_pop_r, e_dup2_l, e_dup2_ir, e_dup2_ii, e_ifeq, e_ifne, e_iflt, e_ifge, e_ifgt, e_ifle, e_iceq, e_icne, e_iclt, e_icge, e_icgt, e_icle, e_goto, e_switch, e_invokevirtual, e_invokestatic, e_invokespecial, e_ret0, e_ret1, e_ret2, e_ret3, ldI_s, ldL_s, ldR_s, clO_s, ctP_s, ctS_s, mgo_0, mgo_s, pjc_s, pj_0, pj_s, lk_s, rm1_0, rm1_i, rm1_r, rm1_l, rm2_0, rm2_i, rm2_r, rm2_l, csL_s, lc_lt, lc_ge, lc_gt, lc_le, lc_eq, b01_0, b01_1, b01_01, b01_n, up2_o, up2_s, up2_u, ne_eq, reduceCtorEq, Nat.reduceAdd, Nat.reduceEqDiff, Nat.reduceLT, Nat.reduceLeDiff, Int.reduceLE, Int.reduceLT, Int.reduceAdd, Int.reduceNeg, Int.reduceMul, Int.reduceSub, Int.reduceEq, Int.reduceToNat, Int.reduceNatCast, Int.cast_ofNat_Int, ↓reduceIte, and_self, List.drop_succ_cons, List.drop_zero, List.take_succ_cons, List.take_zero, List.length_cons, List.length_nil, List.reverse_cons, List.reverse_nil, List.nil_append, List.cons_append, Option.toList, true_and, and_true, or_false, false_or, or_true, true_or, forall_const, Classical.not_not, not_false_eq_true, not_true_eq_false, false_implies, true_implies, implies_true, imp_self]
  exact hI_4 _ _ _ _ _ ⟨rfl, rfl, 0, rfl, h4.1, rfl, rfl⟩
set_option maxHeartbeats 4000000 in
set_option maxRecDepth 100000 in
theorem at0_toldBy_4 {rs : List (Nat × Nat)} {b : Int} {M : Mm} {Q : Option AV → Mm → Prop} (hM : okM (sh8 rs) M) (h_b : i32 b) (hP : P0_toldBy rs b M) (hQ : Q (some (ai (V0_toldBy rs b M))) M) {m : Nat} {b_ n c : Int} {M1 : Mm} (hM1 : okM (sh8 rs) M1) (h_b_ : i32 b_) (h_n : i32 n) (h_c : i32 c) (hJ : J0_toldBy_4 rs b M m b_ n c M1) (I_4 : List AV → Mm → Prop) (hI_4 : ∀ (m_ : Nat) (y_b_ : Int) (y_n : Int) (y_c : Int) (M2 : Mm), m_ < m → J0_toldBy_4 rs b M m_ y_b_ y_n y_c M2 → I_4 [ar 0, ai y_b_, ai y_n, ai y_c] M2) : wp (tb0 (csL (cs0_toldBy rs))) (sh8 rs) 4 1 cX0_toldBy [(4, [0, 1, 2, 3], I_4)] Q 400 4 [(0, ar 0), (1, ai b_), (2, ai n), (3, ai c)] [] M1 := by
  obtain ⟨rfl, rfl, a, rfl, ha, rfl, rfl⟩ := hJ
  have h4 := id hP
  unfold P0_toldBy at h4
  simp only [e_wp dX0_toldBy_0 rfl, e_wp dX0_toldBy_1 rfl, e_wp dX0_toldBy_2 rfl, e_wp dX0_toldBy_3 rfl, e_wp dX0_toldBy_4 rfl, e_wp dX0_toldBy_5 rfl, e_wp dX0_toldBy_6 rfl, e_wp dX0_toldBy_9 rfl, e_wp dX0_toldBy_12 rfl, e_wp dX0_toldBy_15 rfl, e_wp dX0_toldBy_16 rfl, e_wp dX0_toldBy_17 rfl, e_wp dX0_toldBy_20 rfl, e_wp dX0_toldBy_23 rfl, e_wp dX0_toldBy_24 rfl, e_wp dX0_toldBy_25 rfl, e_wp dX0_toldBy_26 rfl, e_wp dX0_toldBy_29 rfl, e_wp dX0_toldBy_30 rfl, e_wp dX0_toldBy_31 rfl, e_wp dX0_toldBy_32 rfl, e_wp dX0_toldBy_35 rfl, e_wp dX0_toldBy_36 rfl, e_wp dX0_toldBy_37 rfl, e_wp dX0_toldBy_38 rfl, e_wp dX0_toldBy_41 rfl, e_wp dX0_toldBy_44 rfl, e_wp dX0_toldBy_45 rfl, g0_10, g0_156, g0_181, a8_13, w8_13, a8_14, w8_14, a8_15, w8_15, a8_16, w8_16, a8_17, w8_17, a8_18, w8_18, a8_19, w8_19, a8_20, w8_20, a8_21, w8_21, a8_22, w8_22, a8_23, w8_23, a8_24, w8_24, a8_25, w8_25, a8_26, w8_26, a8_27, w8_27, a8_28, w8_28, a8_29, w8_29, a8_30, w8_30, a8_31, w8_31, a8_32, w8_32, a8_33, w8_33, a8_34, w8_34, a8_35, w8_35, a8_36, w8_36, a8_37, w8_37, a8_38, w8_38, a8_39, w8_39, a8_40, w8_40, a8_12, w8_12, a8_6, a8_7, e_iconst, e_bipush, e_sipush, e_lconst_0, e_lconst_1, e_iload, e_iload_0, e_iload_1, e_iload_2, e_iload_3, e_lload, e_lload_0, e_lload_1, e_lload_2, e_lload_3, e_aload, e_aload_0, e_aload_1, e_aload_2, e_aload_3, e_istore, e_istore_0, e_istore_1, e_istore_2, e_istore_3, e_astore, e_astore_0, e_astore_1, e_astore_2, e_astore_3, e_lstore, e_lstore_0, e_lstore_1, e_lstore_2, e_lstore_3, e_iinc, e_iadd, e_isub, e_imul, e_ladd, e_lsub, e_lmul, e_idiv, e_irem, e_ldiv, e_lrem, e_ineg, e_lneg, e_iand, e_ior, e_ixor, e_ishl, e_ishr, e_iushr, e_lcmp, e_i2l, e_l2i, e_i2b, e_i2s, e_dup_i, e_dup_r, e_pop_i, e_pop_r, e_dup2_l, e_dup2_ir, e_dup2_ii, e_ifeq, e_ifne, e_iflt, e_ifge, e_ifgt, e_ifle, e_iceq, e_icne, e_iclt, e_icge, e_icgt, e_icle, e_goto, e_switch, e_invokevirtual, e_invokestatic, e_invokespecial, e_ret0, e_ret1, e_ret2, e_ret3, ldI_s, ldL_s, ldR_s, clO_s, ctP_s, ctS_s, mgo_0, mgo_s, pjc_s, pj_0, pj_s, lk_s, rm1_0, rm1_i, rm1_r, rm1_l, rm2_0, rm2_i, rm2_r, rm2_l, csL_s, lc_lt, lc_ge, lc_gt, lc_le, lc_eq, b01_0, b01_1, b01_01, b01_n, up2_o, up2_s, up2_u, ne_eq, reduceCtorEq, Nat.reduceAdd, Nat.reduceEqDiff, Nat.reduceLT, Nat.reduceLeDiff, Int.reduceLE, Int.reduceLT, Int.reduceAdd, Int.reduceNeg, Int.reduceMul, Int.reduceSub, Int.reduceEq, Int.reduceToNat, Int.reduceNatCast, Int.cast_ofNat_Int, ↓reduceIte, and_self, List.drop_succ_cons, List.drop_zero, List.take_succ_cons, List.take_zero, List.length_cons, List.length_nil, List.reverse_cons, List.reverse_nil, List.nil_append, List.cons_append, Option.toList, true_and, and_true, or_false, false_or, or_true, true_or, forall_const, Classical.not_not, not_false_eq_true, not_true_eq_false, false_implies, true_implies, implies_true, imp_self, Int.toNat_natCast]
  refine ⟨fun q => qeq hQ ?_, fun q => ?_⟩
  · unfold V0_toldBy
    rw [show (M 1 5).toNat = a by omega]
  · have hv := (vX_c M (c := a) q).2
    have go : ∀ x, x = (if M 36 a = b then bshl 1 a else 0) → I_4 [ar 0, ai b, ai (bor (toldP (vX M) b a) x), ai (a + 1)] M := by
      rintro x rfl
      refine hI_4 (7 - (a + 1)) _ _ _ _ (by omega) ⟨rfl, rfl, a + 1, by omega, by omega, ?_, rfl⟩
      rw [← hv]
      rfl
    refine ⟨by omega, fun z => ⟨by omega, go _ (if_neg z).symm⟩, fun z => ⟨by omega, go _ (if_pos z).symm⟩⟩
set_option maxHeartbeats 4000000 in
set_option maxRecDepth 100000 in
theorem m0_toldBy {rs : List (Nat × Nat)} : MOK cl8 (sh8 rs) tyl8 Nws8 0 yX0_toldBy cX0_toldBy 4 (some .int) (sp0_toldBy rs) := by
  refine mok_of (own := RX0) (tb := tb0 (csL (cs0_toldBy rs))) (rt := 1) (fuel := 400) (fun avs M Q => [(4, [0, 1, 2, 3], fun m_ vs M1 => ∃ y_b_ : Int, ∃ y_n : Int, ∃ y_c : Int, vs = [ar 0, ai y_b_, ai y_n, ai y_c] ∧ J0_toldBy_4 rs (pa true [0] avs 0) M m_ y_b_ y_n y_c M1)]) (by decide) rfl nws8_ok (tbOK0 _) rfl (csL_all ?_) ?_ ?_ ?_
  · intro q hq; cases hq
  · intro avs M Q hsp
    obtain ⟨xs, hx⟩ := spF_un _ _ _ hsp
    obtain ⟨e, hl⟩ := unA_mkT hx
    obtain ⟨b, rfl⟩ := len1 hl
    have e : avs = [ar 0, ai b] := e
    subst e
    simp [szL, isL]
  · intro avs M Q hM hav hsp
    obtain ⟨xs, hx⟩ := spF_un _ _ _ hsp
    obtain ⟨e, hl⟩ := unA_mkT hx
    obtain ⟨b, rfl⟩ := len1 hl
    have e : avs = [ar 0, ai b] := e
    subst e
    exact in0_toldBy hM (hav (ai b) (by simp)) hsp.1 hsp.2 _ (fun m_ y_b_ y_n y_c M2 hJ => ⟨m_, y_b_, y_n, y_c, rfl, hJ⟩)
  · intro avs M Q hM hav hsp q hq m_ vs M1 hM1 hv hJ
    obtain ⟨xs, hx⟩ := spF_un _ _ _ hsp
    obtain ⟨e, hl⟩ := unA_mkT hx
    obtain ⟨b, rfl⟩ := len1 hl
    have e : avs = [ar 0, ai b] := e
    subst e
    simp only [List.mem_cons, List.not_mem_nil, or_false] at hq
    rcases hq with rfl
    · obtain ⟨y_b_, y_n, y_c, rfl, hJ⟩ := hJ
      exact at0_toldBy_4 hM (hav (ai b) (by simp)) hsp.1 hsp.2 hM1 (hv (1, ai y_b_) (List.mem_of_getElem? (i := 1) rfl)) (hv (2, ai y_n) (List.mem_of_getElem? (i := 2) rfl)) (hv (3, ai y_c) (List.mem_of_getElem? (i := 3) rfl)) hJ _ (fun m2 z_b_ z_n z_c M2 hm hJ2 => ⟨m2, hm, z_b_, z_n, z_c, rfl, hJ2⟩)
theorem cg0_toldBy {rs : List (Nat × Nat)} {lvl : Nat} (h : 0 < lvl) : CG RX0 cl8 (sh8 rs) tyl8 Nws8 lvl 1 339 2 (sp0_toldBy rs) := cg_V (sg := [0]) nws8_ok spF_mono spF_un m0_toldBy h rfl (by decide) rfl rfl ⟨rfl, by decide, by decide, rfl⟩ q1090 q1092 qs41 q128 q1093
def P0_factorial (rs : List (Nat × Nat)) (n : Int) (M : Mm) : Prop := n ≤ 7
def V0_factorial (rs : List (Nat × Nat)) (n : Int) (M : Mm) : Int := facN n.toNat
def sp0_factorial (rs : List (Nat × Nat)) : Spec := spF false [0] 2 (fun x M => P0_factorial rs (x 0) M) (fun x M => V0_factorial rs (x 0) M)
theorem c0_factorial {rs : List (Nat × Nat)} {n : Int} {M : Mm} {Q : Option AV → Mm → Prop} : sp0_factorial rs [ai n] M Q = (P0_factorial rs n M ∧ Q (some (al (V0_factorial rs n M))) M) := rfl
def cs0_factorial (rs : List (Nat × Nat)) : List (Nat × Nat × Nat × Spec) := []
def J0_factorial_4 (rs : List (Nat × Nat)) (n : Int) (M : Mm) (m : Nat) (n_ : Int) (v : Int) (k : Int) (M1 : Mm) : Prop := n = n_ ∧ M = M1 ∧ ∃ a : Nat, k = a + 2 ∧ v = facN (a + 1) ∧ (a = 0 ∨ (a : Int) + 1 ≤ n) ∧ m = 7 - a
set_option maxHeartbeats 4000000 in
set_option maxRecDepth 100000 in
theorem in0_factorial {rs : List (Nat × Nat)} {n : Int} {M : Mm} {Q : Option AV → Mm → Prop} (hM : okM (sh8 rs) M) (h_n : i32 n) (hP : P0_factorial rs n M) (hQ : Q (some (al (V0_factorial rs n M))) M) (I_4 : List AV → Mm → Prop) (hI_4 : ∀ (m_ : Nat) (y_n_ : Int) (y_v : Int) (y_k : Int) (M2 : Mm), J0_factorial_4 rs n M m_ y_n_ y_v y_k M2 → I_4 [ai y_n_, al y_v, ai y_k] M2) : wp (tb0 (csL (cs0_factorial rs))) (sh8 rs) 4 3 cX0_factorial [(4, [0, 1, 3], I_4)] Q 400 0 [(0, ai n)] [] M := by
  simp only [e_wp dX0_factorial_0 rfl, e_wp dX0_factorial_1 rfl, e_wp dX0_factorial_2 rfl, e_wp dX0_factorial_3 rfl, e_wp dX0_factorial_4 rfl, e_wp dX0_factorial_5 rfl, e_wp dX0_factorial_6 rfl, e_wp dX0_factorial_9 rfl, e_wp dX0_factorial_10 rfl, e_wp dX0_factorial_11 rfl, e_wp dX0_factorial_12 rfl, e_wp dX0_factorial_13 rfl, e_wp dX0_factorial_14 rfl, e_wp dX0_factorial_17 rfl, e_wp dX0_factorial_20 rfl, e_wp dX0_factorial_21 rfl, e_iconst, e_bipush, e_sipush, e_lconst_0, e_lconst_1, e_iload, e_iload_0, e_iload_1, e_iload_2, e_iload_3, e_lload, e_lload_0, e_lload_1, e_lload_2, e_lload_3, e_aload, e_aload_0, e_aload_1, e_aload_2, e_aload_3, e_istore, e_istore_0, e_istore_1, e_istore_2, e_istore_3, e_astore, e_astore_0, e_astore_1, e_astore_2, e_astore_3, e_lstore, e_lstore_0, e_lstore_1, e_lstore_2, e_lstore_3, e_iinc, e_iadd, e_isub, e_imul, e_ladd, e_lsub, e_lmul, e_idiv, e_irem, e_ldiv, e_lrem, e_ineg, e_lneg, e_iand, e_ior, e_ixor, e_ishl, e_ishr, e_iushr, e_lcmp, e_i2l, e_l2i, e_i2b, e_i2s, e_dup_i, e_dup_r, e_pop_i, e_pop_r, e_dup2_l, e_dup2_ir, e_dup2_ii, e_ifeq, e_ifne, e_iflt, e_ifge, e_ifgt, e_ifle, e_iceq, e_icne, e_iclt, e_icge, e_icgt, e_icle, e_goto, e_switch, e_invokevirtual, e_invokestatic, e_invokespecial, e_ret0, e_ret1, e_ret2, e_ret3, ldI_s, ldL_s, ldR_s, clO_s, ctP_s, ctS_s, mgo_0, mgo_s, pjc_s, pj_0, pj_s, lk_s, rm1_0, rm1_i, rm1_r, rm1_l, rm2_0, rm2_i, rm2_r, rm2_l, csL_s, lc_lt, lc_ge, lc_gt, lc_le, lc_eq, b01_0, b01_1, b01_01, b01_n, up2_o, up2_s, up2_u, ne_eq, reduceCtorEq, Nat.reduceAdd, Nat.reduceEqDiff, Nat.reduceLT, Nat.reduceLeDiff, Int.reduceLE, Int.reduceLT, Int.reduceAdd, Int.reduceNeg, Int.reduceMul, Int.reduceSub, Int.reduceEq, Int.reduceToNat, Int.reduceNatCast, Int.cast_ofNat_Int, ↓reduceIte, and_self, List.drop_succ_cons, List.drop_zero, List.take_succ_cons, List.take_zero, List.length_cons, List.length_nil, List.reverse_cons, List.reverse_nil, List.nil_append, List.cons_append, Option.toList, true_and, and_true, or_false, false_or, or_true, true_or, forall_const, Classical.not_not, not_false_eq_true, not_true_eq_false, false_implies, true_implies, implies_true, imp_self]
  exact hI_4 _ _ _ _ _ ⟨rfl, rfl, 0, rfl, rfl, Or.inl rfl, rfl⟩
set_option maxHeartbeats 4000000 in
set_option maxRecDepth 100000 in
theorem at0_factorial_4 {rs : List (Nat × Nat)} {n : Int} {M : Mm} {Q : Option AV → Mm → Prop} (hM : okM (sh8 rs) M) (h_n : i32 n) (hP : P0_factorial rs n M) (hQ : Q (some (al (V0_factorial rs n M))) M) {m : Nat} {n_ v k : Int} {M1 : Mm} (hM1 : okM (sh8 rs) M1) (h_n_ : i32 n_) (h_v : i64 v) (h_k : i32 k) (hJ : J0_factorial_4 rs n M m n_ v k M1) (I_4 : List AV → Mm → Prop) (hI_4 : ∀ (m_ : Nat) (y_n_ : Int) (y_v : Int) (y_k : Int) (M2 : Mm), m_ < m → J0_factorial_4 rs n M m_ y_n_ y_v y_k M2 → I_4 [ai y_n_, al y_v, ai y_k] M2) : wp (tb0 (csL (cs0_factorial rs))) (sh8 rs) 4 3 cX0_factorial [(4, [0, 1, 3], I_4)] Q 400 4 [(0, ai n_), (1, al v), (3, ai k)] [] M1 := by
  obtain ⟨rfl, rfl, a, rfl, rfl, ha, rfl⟩ := hJ
  have h7 : n ≤ 7 := hP
  have b1 := facN_b (n := a + 1) (by omega)
  simp only [e_wp dX0_factorial_0 rfl, e_wp dX0_factorial_1 rfl, e_wp dX0_factorial_2 rfl, e_wp dX0_factorial_3 rfl, e_wp dX0_factorial_4 rfl, e_wp dX0_factorial_5 rfl, e_wp dX0_factorial_6 rfl, e_wp dX0_factorial_9 rfl, e_wp dX0_factorial_10 rfl, e_wp dX0_factorial_11 rfl, e_wp dX0_factorial_12 rfl, e_wp dX0_factorial_13 rfl, e_wp dX0_factorial_14 rfl, e_wp dX0_factorial_17 rfl, e_wp dX0_factorial_20 rfl, e_wp dX0_factorial_21 rfl, e_iconst, e_bipush, e_sipush, e_lconst_0, e_lconst_1, e_iload, e_iload_0, e_iload_1, e_iload_2, e_iload_3, e_lload, e_lload_0, e_lload_1, e_lload_2, e_lload_3, e_aload, e_aload_0, e_aload_1, e_aload_2, e_aload_3, e_istore, e_istore_0, e_istore_1, e_istore_2, e_istore_3, e_astore, e_astore_0, e_astore_1, e_astore_2, e_astore_3, e_lstore, e_lstore_0, e_lstore_1, e_lstore_2, e_lstore_3, e_iinc, e_iadd, e_isub, e_imul, e_ladd, e_lsub, e_lmul, e_idiv, e_irem, e_ldiv, e_lrem, e_ineg, e_lneg, e_iand, e_ior, e_ixor, e_ishl, e_ishr, e_iushr, e_lcmp, e_i2l, e_l2i, e_i2b, e_i2s, e_dup_i, e_dup_r, e_pop_i, e_pop_r, e_dup2_l, e_dup2_ir, e_dup2_ii, e_ifeq, e_ifne, e_iflt, e_ifge, e_ifgt, e_ifle, e_iceq, e_icne, e_iclt, e_icge, e_icgt, e_icle, e_goto, e_switch, e_invokevirtual, e_invokestatic, e_invokespecial, e_ret0, e_ret1, e_ret2, e_ret3, ldI_s, ldL_s, ldR_s, clO_s, ctP_s, ctS_s, mgo_0, mgo_s, pjc_s, pj_0, pj_s, lk_s, rm1_0, rm1_i, rm1_r, rm1_l, rm2_0, rm2_i, rm2_r, rm2_l, csL_s, lc_lt, lc_ge, lc_gt, lc_le, lc_eq, b01_0, b01_1, b01_01, b01_n, up2_o, up2_s, up2_u, ne_eq, reduceCtorEq, Nat.reduceAdd, Nat.reduceEqDiff, Nat.reduceLT, Nat.reduceLeDiff, Int.reduceLE, Int.reduceLT, Int.reduceAdd, Int.reduceNeg, Int.reduceMul, Int.reduceSub, Int.reduceEq, Int.reduceToNat, Int.reduceNatCast, Int.cast_ofNat_Int, ↓reduceIte, and_self, List.drop_succ_cons, List.drop_zero, List.take_succ_cons, List.take_zero, List.length_cons, List.length_nil, List.reverse_cons, List.reverse_nil, List.nil_append, List.cons_append, Option.toList, true_and, and_true, or_false, false_or, or_true, true_or, forall_const, Classical.not_not, not_false_eq_true, not_true_eq_false, false_implies, true_implies, implies_true, imp_self]
  refine ⟨fun q => qel hQ ?_, fun q => ?_⟩
  · unfold V0_factorial
    rcases ha with rfl | ha
    · rcases (show n.toNat = 0 ∨ n.toNat = 1 by omega) with e | e <;> rw [e] <;> rfl
    · rw [show n.toNat = a + 1 by omega]
  · have b2 := facN_b (n := a + 2) (by omega)
    have e : facN (a + 1) * ((a : Int) + 2) = facN (a + 2) := by
      show _ = ((a + 2 : Nat) : Int) * facN (a + 1)
      rw [Int.mul_comm]
      rfl
    rw [e]
    repeat (refine And.intro (by omega) ?_)
    exact hI_4 (7 - (a + 1)) _ _ _ _ (by omega) ⟨rfl, rfl, a + 1, by omega, rfl, Or.inr (by omega), rfl⟩
set_option maxHeartbeats 4000000 in
set_option maxRecDepth 100000 in
theorem m0_factorial {rs : List (Nat × Nat)} : MOK cl8 (sh8 rs) tyl8 Nws8 0 yX0_factorial cX0_factorial 4 (some .long) (sp0_factorial rs) := by
  refine mok_of (own := RX0) (tb := tb0 (csL (cs0_factorial rs))) (rt := 3) (fuel := 400) (fun avs M Q => [(4, [0, 1, 3], fun m_ vs M1 => ∃ y_n_ : Int, ∃ y_v : Int, ∃ y_k : Int, vs = [ai y_n_, al y_v, ai y_k] ∧ J0_factorial_4 rs (pa false [0] avs 0) M m_ y_n_ y_v y_k M1)]) (by decide) rfl nws8_ok (tbOK0 _) rfl (csL_all ?_) ?_ ?_ ?_
  · intro q hq; cases hq
  · intro avs M Q hsp
    obtain ⟨xs, hx⟩ := spF_un _ _ _ hsp
    obtain ⟨e, hl⟩ := unA_mk hx
    obtain ⟨n, rfl⟩ := len1 hl
    have e : avs = [ai n] := e
    subst e
    simp [szL, isL]
  · intro avs M Q hM hav hsp
    obtain ⟨xs, hx⟩ := spF_un _ _ _ hsp
    obtain ⟨e, hl⟩ := unA_mk hx
    obtain ⟨n, rfl⟩ := len1 hl
    have e : avs = [ai n] := e
    subst e
    exact in0_factorial hM (hav (ai n) (by simp)) hsp.1 hsp.2 _ (fun m_ y_n_ y_v y_k M2 hJ => ⟨m_, y_n_, y_v, y_k, rfl, hJ⟩)
  · intro avs M Q hM hav hsp q hq m_ vs M1 hM1 hv hJ
    obtain ⟨xs, hx⟩ := spF_un _ _ _ hsp
    obtain ⟨e, hl⟩ := unA_mk hx
    obtain ⟨n, rfl⟩ := len1 hl
    have e : avs = [ai n] := e
    subst e
    simp only [List.mem_cons, List.not_mem_nil, or_false] at hq
    rcases hq with rfl
    · obtain ⟨y_n_, y_v, y_k, rfl, hJ⟩ := hJ
      exact at0_factorial_4 hM (hav (ai n) (by simp)) hsp.1 hsp.2 hM1 (hv (0, ai y_n_) (List.mem_of_getElem? (i := 0) rfl)) (hv (1, al y_v) (List.mem_of_getElem? (i := 1) rfl)) (hv (3, ai y_k) (List.mem_of_getElem? (i := 2) rfl)) hJ _ (fun m2 z_n_ z_v z_k M2 hm hJ2 => ⟨m2, hm, z_n_, z_v, z_k, rfl, hJ2⟩)
theorem cg0_factorial {rs : List (Nat × Nat)} {lvl : Nat} (h : 0 < lvl) : CG RX0 cl8 (sh8 rs) tyl8 Nws8 lvl 0 395 1 (sp0_factorial rs) := cg_S (sg := [0]) nws8_ok spF_mono spF_un m0_factorial h rfl (by decide) ⟨by decide, by decide, rfl⟩ q1194 q1195 q128 q1196
def P0_divisor (rs : List (Nat × Nat)) (a : Int) (b : Int) (M : Mm) : Prop := (-4000000000000000000 ≤ a ∧ a ≤ 4000000000000000000) ∧ 0 < b ∧ b ≤ 10000000
def V0_divisor (rs : List (Nat × Nat)) (a : Int) (b : Int) (M : Mm) : Int := (Int.gcd a b : Int)
def sp0_divisor (rs : List (Nat × Nat)) : Spec := spF false [1, 1] 2 (fun x M => P0_divisor rs (x 0) (x 1) M) (fun x M => V0_divisor rs (x 0) (x 1) M)
theorem c0_divisor {rs : List (Nat × Nat)} {a b : Int} {M : Mm} {Q : Option AV → Mm → Prop} : sp0_divisor rs [al a, al b] M Q = (P0_divisor rs a b M ∧ Q (some (al (V0_divisor rs a b M))) M) := rfl
def cs0_divisor (rs : List (Nat × Nat)) : List (Nat × Nat × Nat × Spec) := [(387, 0, 1, (sp0_mabs rs))]
def J0_divisor_9 (rs : List (Nat × Nat)) (a : Int) (b : Int) (M : Mm) (m : Nat) (x : Int) (y : Int) (M1 : Mm) : Prop := M = M1 ∧ (0 ≤ x ∧ x ≤ 4000000000000000000) ∧ (0 ≤ y ∧ y ≤ 4000000000000000000) ∧ Int.gcd x y = Int.gcd a b ∧ m = y.toNat
set_option maxHeartbeats 4000000 in
set_option maxRecDepth 100000 in
theorem in0_divisor {rs : List (Nat × Nat)} {a b : Int} {M : Mm} {Q : Option AV → Mm → Prop} (hM : okM (sh8 rs) M) (h_a : i64 a) (h_b : i64 b) (hP : P0_divisor rs a b M) (hQ : Q (some (al (V0_divisor rs a b M))) M) (I_9 : List AV → Mm → Prop) (hI_9 : ∀ (m_ : Nat) (y_x : Int) (y_y : Int) (M2 : Mm), J0_divisor_9 rs a b M m_ y_x y_y M2 → I_9 [al y_x, al y_y] M2) : wp (tb0 (csL (cs0_divisor rs))) (sh8 rs) 10 3 cX0_divisor [(9, [4, 6], I_9)] Q 400 0 [(0, al a), (2, al b)] [] M := by
  obtain ⟨h1, h2⟩ := id hP
  simp only [e_wp dX0_divisor_0 rfl, e_wp dX0_divisor_1 rfl, e_wp dX0_divisor_4 rfl, e_wp dX0_divisor_6 rfl, e_wp dX0_divisor_7 rfl, e_wp dX0_divisor_9 rfl, e_wp dX0_divisor_11 rfl, e_wp dX0_divisor_12 rfl, e_wp dX0_divisor_13 rfl, e_wp dX0_divisor_16 rfl, e_wp dX0_divisor_18 rfl, e_wp dX0_divisor_20 rfl, e_wp dX0_divisor_21 rfl, e_wp dX0_divisor_23 rfl, e_wp dX0_divisor_25 rfl, e_wp dX0_divisor_27 rfl, e_wp dX0_divisor_29 rfl, e_wp dX0_divisor_31 rfl, e_wp dX0_divisor_34 rfl, e_wp dX0_divisor_36 rfl, c0_mabs, P0_mabs, V0_mabs, cs0_divisor, e_iconst, e_bipush, e_sipush, e_lconst_0, e_lconst_1, e_iload, e_iload_0, e_iload_1, e_iload_2, e_iload_3, e_lload, e_lload_0, e_lload_1, e_lload_2, e_lload_3, e_aload, e_aload_0, e_aload_1, e_aload_2, e_aload_3, e_istore, e_istore_0, e_istore_1, e_istore_2, e_istore_3, e_astore, e_astore_0, e_astore_1, e_astore_2, e_astore_3, e_lstore, e_lstore_0, e_lstore_1, e_lstore_2, e_lstore_3, e_iinc, e_iadd, e_isub, e_imul, e_ladd, e_lsub, e_lmul, e_idiv, e_irem, e_ldiv, e_lrem, e_ineg, e_lneg, e_iand, e_ior, e_ixor, e_ishl, e_ishr, e_iushr, e_lcmp, e_i2l, e_l2i, e_i2b, e_i2s, e_dup_i, e_dup_r, e_pop_i, e_pop_r, e_dup2_l, e_dup2_ir, e_dup2_ii, e_ifeq, e_ifne, e_iflt, e_ifge, e_ifgt, e_ifle, e_iceq, e_icne, e_iclt, e_icge, e_icgt, e_icle, e_goto, e_switch, e_invokevirtual, e_invokestatic, e_invokespecial, e_ret0, e_ret1, e_ret2, e_ret3, ldI_s, ldL_s, ldR_s, clO_s, ctP_s, ctS_s, mgo_0, mgo_s, pjc_s, pj_0, pj_s, lk_s, rm1_0, rm1_i, rm1_r, rm1_l, rm2_0, rm2_i, rm2_r, rm2_l, csL_s, lc_lt, lc_ge, lc_gt, lc_le, lc_eq, b01_0, b01_1, b01_01, b01_n, up2_o, up2_s, up2_u, ne_eq, reduceCtorEq, Nat.reduceAdd, Nat.reduceEqDiff, Nat.reduceLT, Nat.reduceLeDiff, Int.reduceLE, Int.reduceLT, Int.reduceAdd, Int.reduceNeg, Int.reduceMul, Int.reduceSub, Int.reduceEq, Int.reduceToNat, Int.reduceNatCast, Int.cast_ofNat_Int, ↓reduceIte, and_self, List.drop_succ_cons, List.drop_zero, List.take_succ_cons, List.take_zero, List.length_cons, List.length_nil, List.reverse_cons, List.reverse_nil, List.nil_append, List.cons_append, Option.toList, true_and, and_true, or_false, false_or, or_true, true_or, forall_const, Classical.not_not, not_false_eq_true, not_true_eq_false, false_implies, true_implies, implies_true, imp_self]
  refine ⟨by omega, ?_⟩
  refine hI_9 _ _ _ _ ⟨rfl, ?_, by omega, ?_, rfl⟩
  · split <;> omega
  · split
    · rfl
    · rw [Int.neg_gcd]
set_option maxHeartbeats 4000000 in
set_option maxRecDepth 100000 in
theorem at0_divisor_9 {rs : List (Nat × Nat)} {a b : Int} {M : Mm} {Q : Option AV → Mm → Prop} (hM : okM (sh8 rs) M) (h_a : i64 a) (h_b : i64 b) (hP : P0_divisor rs a b M) (hQ : Q (some (al (V0_divisor rs a b M))) M) {m : Nat} {x y : Int} {M1 : Mm} (hM1 : okM (sh8 rs) M1) (h_x : i64 x) (h_y : i64 y) (hJ : J0_divisor_9 rs a b M m x y M1) (I_9 : List AV → Mm → Prop) (hI_9 : ∀ (m_ : Nat) (y_x : Int) (y_y : Int) (M2 : Mm), m_ < m → J0_divisor_9 rs a b M m_ y_x y_y M2 → I_9 [al y_x, al y_y] M2) : wp (tb0 (csL (cs0_divisor rs))) (sh8 rs) 10 3 cX0_divisor [(9, [4, 6], I_9)] Q 400 9 [(4, al x), (6, al y)] [] M1 := by
  obtain ⟨rfl, hx, hy, hg, rfl⟩ := hJ
  simp only [e_wp dX0_divisor_0 rfl, e_wp dX0_divisor_1 rfl, e_wp dX0_divisor_4 rfl, e_wp dX0_divisor_6 rfl, e_wp dX0_divisor_7 rfl, e_wp dX0_divisor_9 rfl, e_wp dX0_divisor_11 rfl, e_wp dX0_divisor_12 rfl, e_wp dX0_divisor_13 rfl, e_wp dX0_divisor_16 rfl, e_wp dX0_divisor_18 rfl, e_wp dX0_divisor_20 rfl, e_wp dX0_divisor_21 rfl, e_wp dX0_divisor_23 rfl, e_wp dX0_divisor_25 rfl, e_wp dX0_divisor_27 rfl, e_wp dX0_divisor_29 rfl, e_wp dX0_divisor_31 rfl, e_wp dX0_divisor_34 rfl, e_wp dX0_divisor_36 rfl, c0_mabs, P0_mabs, V0_mabs, cs0_divisor, e_iconst, e_bipush, e_sipush, e_lconst_0, e_lconst_1, e_iload, e_iload_0, e_iload_1, e_iload_2, e_iload_3, e_lload, e_lload_0, e_lload_1, e_lload_2, e_lload_3, e_aload, e_aload_0, e_aload_1, e_aload_2, e_aload_3, e_istore, e_istore_0, e_istore_1, e_istore_2, e_istore_3, e_astore, e_astore_0, e_astore_1, e_astore_2, e_astore_3, e_lstore, e_lstore_0, e_lstore_1, e_lstore_2, e_lstore_3, e_iinc, e_iadd, e_isub, e_imul, e_ladd, e_lsub, e_lmul, e_idiv, e_irem, e_ldiv, e_lrem, e_ineg, e_lneg, e_iand, e_ior, e_ixor, e_ishl, e_ishr, e_iushr, e_lcmp, e_i2l, e_l2i, e_i2b, e_i2s, e_dup_i, e_dup_r, e_pop_i, e_pop_r, e_dup2_l, e_dup2_ir, e_dup2_ii, e_ifeq, e_ifne, e_iflt, e_ifge, e_ifgt, e_ifle, e_iceq, e_icne, e_iclt, e_icge, e_icgt, e_icle, e_goto, e_switch, e_invokevirtual, e_invokestatic, e_invokespecial, e_ret0, e_ret1, e_ret2, e_ret3, ldI_s, ldL_s, ldR_s, clO_s, ctP_s, ctS_s, mgo_0, mgo_s, pjc_s, pj_0, pj_s, lk_s, rm1_0, rm1_i, rm1_r, rm1_l, rm2_0, rm2_i, rm2_r, rm2_l, csL_s, lc_lt, lc_ge, lc_gt, lc_le, lc_eq, b01_0, b01_1, b01_01, b01_n, up2_o, up2_s, up2_u, ne_eq, reduceCtorEq, Nat.reduceAdd, Nat.reduceEqDiff, Nat.reduceLT, Nat.reduceLeDiff, Int.reduceLE, Int.reduceLT, Int.reduceAdd, Int.reduceNeg, Int.reduceMul, Int.reduceSub, Int.reduceEq, Int.reduceToNat, Int.reduceNatCast, Int.cast_ofNat_Int, ↓reduceIte, and_self, List.drop_succ_cons, List.drop_zero, List.take_succ_cons, List.take_zero, List.length_cons, List.length_nil, List.reverse_cons, List.reverse_nil, List.nil_append, List.cons_append, Option.toList, true_and, and_true, or_false, false_or, or_true, true_or, forall_const, Classical.not_not, not_false_eq_true, not_true_eq_false, false_implies, true_implies, implies_true, imp_self]
  refine ⟨fun q => ?_, fun q => ?_⟩
  · subst q
    refine qel hQ ?_
    unfold V0_divisor
    rw [← hg, Int.gcd_zero_right]
    omega
  · have t1 := tdiv_i64 (a := x) (b := y) (by omega)
    have t2 := tmod_i64 (a := x) (b := y) (by omega)
    have t3 := Int.tmod_nonneg y hx.1
    have t4 := Int.tmod_lt_of_pos x (show 0 < y by omega)
    refine ⟨⟨q, by omega⟩, hI_9 _ _ _ _ (by omega) ⟨rfl, hy, by omega, ?_, rfl⟩⟩
    rw [← hg, gcd_s x y]
set_option maxHeartbeats 4000000 in
set_option maxRecDepth 100000 in
theorem m0_divisor {rs : List (Nat × Nat)} : MOK cl8 (sh8 rs) tyl8 Nws8 1 yX0_divisor cX0_divisor 10 (some .long) (sp0_divisor rs) := by
  refine mok_of (own := RX0) (tb := tb0 (csL (cs0_divisor rs))) (rt := 3) (fuel := 400) (fun avs M Q => [(9, [4, 6], fun m_ vs M1 => ∃ y_x : Int, ∃ y_y : Int, vs = [al y_x, al y_y] ∧ J0_divisor_9 rs (pa false [1, 1] avs 0) (pa false [1, 1] avs 1) M m_ y_x y_y M1)]) (by decide) rfl nws8_ok (tbOK0 _) rfl (csL_all ?_) ?_ ?_ ?_
  · intro q hq
    simp only [cs0_divisor, List.mem_cons, List.not_mem_nil, or_false] at hq
    rcases hq with rfl
    · exact cg0_mabs (by decide)
  · intro avs M Q hsp
    obtain ⟨xs, hx⟩ := spF_un _ _ _ hsp
    obtain ⟨e, hl⟩ := unA_mk hx
    obtain ⟨a, b, rfl⟩ := len2 hl
    have e : avs = [al a, al b] := e
    subst e
    simp [szL, isL]
  · intro avs M Q hM hav hsp
    obtain ⟨xs, hx⟩ := spF_un _ _ _ hsp
    obtain ⟨e, hl⟩ := unA_mk hx
    obtain ⟨a, b, rfl⟩ := len2 hl
    have e : avs = [al a, al b] := e
    subst e
    exact in0_divisor hM (hav (al a) (by simp)) (hav (al b) (by simp)) hsp.1 hsp.2 _ (fun m_ y_x y_y M2 hJ => ⟨m_, y_x, y_y, rfl, hJ⟩)
  · intro avs M Q hM hav hsp q hq m_ vs M1 hM1 hv hJ
    obtain ⟨xs, hx⟩ := spF_un _ _ _ hsp
    obtain ⟨e, hl⟩ := unA_mk hx
    obtain ⟨a, b, rfl⟩ := len2 hl
    have e : avs = [al a, al b] := e
    subst e
    simp only [List.mem_cons, List.not_mem_nil, or_false] at hq
    rcases hq with rfl
    · obtain ⟨y_x, y_y, rfl, hJ⟩ := hJ
      exact at0_divisor_9 hM (hav (al a) (by simp)) (hav (al b) (by simp)) hsp.1 hsp.2 hM1 (hv (4, al y_x) (List.mem_of_getElem? (i := 0) rfl)) (hv (6, al y_y) (List.mem_of_getElem? (i := 1) rfl)) hJ _ (fun m2 z_x z_y M2 hm hJ2 => ⟨m2, hm, z_x, z_y, rfl, hJ2⟩)
theorem cg0_divisor {rs : List (Nat × Nat)} {lvl : Nat} (h : 1 < lvl) : CG RX0 cl8 (sh8 rs) tyl8 Nws8 lvl 0 391 2 (sp0_divisor rs) := cg_S (sg := [1, 1]) nws8_ok spF_mono spF_un m0_divisor h rfl (by decide) ⟨by decide, by decide, rfl⟩ q1200 q1201 q128 q1202
def P0_part (rs : List (Nat × Nat)) (a : Int) (b : Int) (w : Int) (M : Mm) : Prop := (-4000000000000000000 ≤ a ∧ a ≤ 4000000000000000000) ∧ 0 < b ∧ b ≤ 10000000
def V0_part (rs : List (Nat × Nat)) (a : Int) (b : Int) (w : Int) (M : Mm) : Int := prtP a b w
def sp0_part (rs : List (Nat × Nat)) : Spec := spF false [1, 1, 0] 2 (fun x M => P0_part rs (x 0) (x 1) (x 2) M) (fun x M => V0_part rs (x 0) (x 1) (x 2) M)
theorem c0_part {rs : List (Nat × Nat)} {a b w : Int} {M : Mm} {Q : Option AV → Mm → Prop} : sp0_part rs [al a, al b, ai w] M Q = (P0_part rs a b w M ∧ Q (some (al (V0_part rs a b w M))) M) := rfl
def cs0_part (rs : List (Nat × Nat)) : List (Nat × Nat × Nat × Spec) := [(391, 0, 2, (sp0_divisor rs))]
set_option maxHeartbeats 4000000 in
set_option maxRecDepth 100000 in
theorem in0_part {rs : List (Nat × Nat)} {a b w : Int} {M : Mm} {Q : Option AV → Mm → Prop} (hM : okM (sh8 rs) M) (h_a : i64 a) (h_b : i64 b) (h_w : i32 w) (hP : P0_part rs a b w M) (hQ : Q (some (al (V0_part rs a b w M))) M) : wp (tb0 (csL (cs0_part rs))) (sh8 rs) 5 3 cX0_part [] Q 400 0 [(0, al a), (2, al b), (4, ai w)] [] M := by
  obtain ⟨h2, h3⟩ := id hP
  have hV : V0_part rs a b w M = (if w = 0 then a else b).tdiv (Int.gcd a b) := rfl
  have t1 := tdiv_i64 (b := (Int.gcd a b : Int)) h2
  have t2 := tdiv_i64 (a := b) (b := (Int.gcd a b : Int)) (by omega)
  have t3 : ¬ ((Int.gcd a b : Nat) : Int) = 0 := by
    have := Int.gcd_pos_of_ne_zero_right a (show b ≠ 0 by omega)
    omega
  simp only [e_wp dX0_part_0 rfl, e_wp dX0_part_2 rfl, e_wp dX0_part_5 rfl, e_wp dX0_part_6 rfl, e_wp dX0_part_9 rfl, e_wp dX0_part_10 rfl, e_wp dX0_part_11 rfl, e_wp dX0_part_12 rfl, e_wp dX0_part_15 rfl, e_wp dX0_part_16 rfl, c0_divisor, P0_divisor, V0_divisor, cs0_part, e_iconst, e_bipush, e_sipush, e_lconst_0, e_lconst_1, e_iload, e_iload_0, e_iload_1, e_iload_2, e_iload_3, e_lload, e_lload_0, e_lload_1, e_lload_2, e_lload_3, e_aload, e_aload_0, e_aload_1, e_aload_2, e_aload_3, e_istore, e_istore_0, e_istore_1, e_istore_2, e_istore_3, e_astore, e_astore_0, e_astore_1, e_astore_2, e_astore_3, e_lstore, e_lstore_0, e_lstore_1, e_lstore_2, e_lstore_3, e_iinc, e_iadd, e_isub, e_imul, e_ladd, e_lsub, e_lmul, e_idiv, e_irem, e_ldiv, e_lrem, e_ineg, e_lneg, e_iand, e_ior, e_ixor, e_ishl, e_ishr, e_iushr, e_lcmp, e_i2l, e_l2i, e_i2b, e_i2s, e_dup_i, e_dup_r, e_pop_i, e_pop_r, e_dup2_l, e_dup2_ir, e_dup2_ii, e_ifeq, e_ifne, e_iflt, e_ifge, e_ifgt, e_ifle, e_iceq, e_icne, e_iclt, e_icge, e_icgt, e_icle, e_goto, e_switch, e_invokevirtual, e_invokestatic, e_invokespecial, e_ret0, e_ret1, e_ret2, e_ret3, ldI_s, ldL_s, ldR_s, clO_s, ctP_s, ctS_s, mgo_0, mgo_s, pjc_s, pj_0, pj_s, lk_s, rm1_0, rm1_i, rm1_r, rm1_l, rm2_0, rm2_i, rm2_r, rm2_l, csL_s, lc_lt, lc_ge, lc_gt, lc_le, lc_eq, b01_0, b01_1, b01_01, b01_n, up2_o, up2_s, up2_u, ne_eq, reduceCtorEq, Nat.reduceAdd, Nat.reduceEqDiff, Nat.reduceLT, Nat.reduceLeDiff, Int.reduceLE, Int.reduceLT, Int.reduceAdd, Int.reduceNeg, Int.reduceMul, Int.reduceSub, Int.reduceEq, Int.reduceToNat, Int.reduceNatCast, Int.cast_ofNat_Int, ↓reduceIte, and_self, List.drop_succ_cons, List.drop_zero, List.take_succ_cons, List.take_zero, List.length_cons, List.length_nil, List.reverse_cons, List.reverse_nil, List.nil_append, List.cons_append, Option.toList, true_and, and_true, or_false, false_or, or_true, true_or, forall_const, Classical.not_not, not_false_eq_true, not_true_eq_false, false_implies, true_implies, implies_true, imp_self]
  refine ⟨fun q => ?_, fun q => ?_⟩
  · refine ⟨⟨h2, h3⟩, ⟨t3, by omega⟩, qel hQ ?_⟩
    rw [hV]
    first | rw [if_neg q] | rw [if_pos q]
  · refine ⟨⟨h2, h3⟩, ⟨t3, by omega⟩, qel hQ ?_⟩
    rw [hV]
    first | rw [if_neg q] | rw [if_pos q]
set_option maxHeartbeats 4000000 in
set_option maxRecDepth 100000 in
theorem m0_part {rs : List (Nat × Nat)} : MOK cl8 (sh8 rs) tyl8 Nws8 2 yX0_part cX0_part 5 (some .long) (sp0_part rs) := by
  refine mok_of (own := RX0) (tb := tb0 (csL (cs0_part rs))) (rt := 3) (fuel := 400) (fun avs M Q => []) (by decide) rfl nws8_ok (tbOK0 _) rfl (csL_all ?_) ?_ ?_ ?_
  · intro q hq
    simp only [cs0_part, List.mem_cons, List.not_mem_nil, or_false] at hq
    rcases hq with rfl
    · exact cg0_divisor (by decide)
  · intro avs M Q hsp
    obtain ⟨xs, hx⟩ := spF_un _ _ _ hsp
    obtain ⟨e, hl⟩ := unA_mk hx
    obtain ⟨a, b, w, rfl⟩ := len3 hl
    have e : avs = [al a, al b, ai w] := e
    subst e
    simp [szL, isL]
  · intro avs M Q hM hav hsp
    obtain ⟨xs, hx⟩ := spF_un _ _ _ hsp
    obtain ⟨e, hl⟩ := unA_mk hx
    obtain ⟨a, b, w, rfl⟩ := len3 hl
    have e : avs = [al a, al b, ai w] := e
    subst e
    exact in0_part hM (hav (al a) (by simp)) (hav (al b) (by simp)) (hav (ai w) (by simp)) hsp.1 hsp.2
  · intro avs M Q hM hav hsp q hq m_ vs M1 hM1 hv hJ
    obtain ⟨xs, hx⟩ := spF_un _ _ _ hsp
    obtain ⟨e, hl⟩ := unA_mk hx
    obtain ⟨a, b, w, rfl⟩ := len3 hl
    have e : avs = [al a, al b, ai w] := e
    subst e
    cases hq
theorem cg0_part {rs : List (Nat × Nat)} {lvl : Nat} (h : 2 < lvl) : CG RX0 cl8 (sh8 rs) tyl8 Nws8 lvl 0 398 3 (sp0_part rs) := cg_S (sg := [1, 1, 0]) nws8_ok spF_mono spF_un m0_part h rfl (by decide) ⟨by decide, by decide, rfl⟩ q1197 q1198 q128 q1199
theorem pow_dec : ∀ n : Fin 8, (2 : Int) ^ n.val = ((2 ^ n.val : Nat) : Int) := by decide
theorem pow_i {n : Nat} (h : n ≤ 7) : (2 : Int) ^ n = ((2 ^ n : Nat) : Int) := pow_dec ⟨n, by omega⟩
theorem borN_dec : ∀ (n : Fin 8) (x : Fin 128) (c : Fin 7), (decide (x.val < 2 ^ n.val → c.val < n.val → 0 ≤ bor (x.val : Int) (bshl 1 (c.val : Int)) ∧ bor (x.val : Int) (bshl 1 (c.val : Int)) < ((2 ^ n.val : Nat) : Int))) = true := by decide +kernel
theorem borN {n x c : Nat} (hn : n ≤ 7) (hx : x < 2 ^ n) (hc : c < n) : 0 ≤ bor (x : Int) (bshl 1 (c : Int)) ∧ bor (x : Int) (bshl 1 (c : Int)) < ((2 ^ n : Nat) : Int) := by
  have hp := pow7 hn
  exact of_decide_eq_true (borN_dec ⟨n, by omega⟩ ⟨x, by omega⟩ ⟨c, by omega⟩) hx hc
theorem keepX_o {M M1 : Mm} {k j : Nat} {x : Int} (h : keepX M M1) (hk : k ∈ sRows) (h0 : k ≠ 0) : keepX M (up2 M1 k j x) := keepX_u h hk (fun e => absurd e h0)
/-- the sag without all but a set -/
def shS (V : Vy) (x : Int) : Int := sagF V (absC (tellP V) (band (allB V) (notI x)))
theorem shS_b {V : Vy} {x : Int} (h : okY V) : 0 ≤ shS V x ∧ shS V x ≤ 2376 := sagA_b h
def P0_share (rs : List (Nat × Nat)) (c : Int) (w : Int) (M : Mm) : Prop := okX M
def R0_share (rs : List (Nat × Nat)) (c : Int) (w : Int) (M : Mm) (v : Int) (M1 : Mm) : Prop := keepX M M1 ∧ v = A_share (vX M) c w
def sp0_share (rs : List (Nat × Nat)) : Spec := spR true [0, 0] 1 (fun x M => P0_share rs (x 0) (x 1) M) (fun x M v M1 => R0_share rs (x 0) (x 1) M v M1)
theorem c0_share {rs : List (Nat × Nat)} {c w : Int} {M : Mm} {Q : Option AV → Mm → Prop} : sp0_share rs [ar 0, ai c, ai w] M Q = (P0_share rs c w M ∧ ∀ (v : Int) (M1 : Mm), R0_share rs c w M v M1 → Q (some (ai v)) M1) := rfl
def cs0_share (rs : List (Nat × Nat)) : List (Nat × Nat × Nat × Spec) := [(159, 1, 2, (sp0_isCart rs)), (170, 0, 2, (sp0_isOneOf rs)), (250, 1, 1, (sp0_asItIs rs)), (336, 1, 1, (sp0_all_2 rs)), (294, 1, 1, (sp0_laysSag rs)), (300, 0, 1, (sp0_bits rs)), (238, 0, 2, (sp0_isOf rs)), (395, 0, 1, (sp0_factorial rs)), (398, 0, 3, (sp0_part rs))]
def J0_share_26 (rs : List (Nat × Nat)) (c : Int) (w : Int) (M : Mm) (m : Nat) (c_ : Int) (w_ : Int) (x : Int) (M1 : Mm) : Prop := c = c_ ∧ w = w_ ∧ (isC (vX M) c ∧ 0 ≤ w ∧ w ≤ 1) ∧ keepX M M1 ∧ exA (vX M) (cX M1) ∧ ∃ a : Nat, x = a ∧ a ≤ 2 ^ (vX M 0 4).toNat ∧ (∀ j : Nat, j < a → M1 31 j = shS (vX M) j) ∧ m = 1000 + (128 - a)
def J0_share_67 (rs : List (Nat × Nat)) (c : Int) (w : Int) (M : Mm) (m : Nat) (c_ : Int) (w_ : Int) (sum : Int) (x : Int) (M1 : Mm) : Prop := c = c_ ∧ w = w_ ∧ (isC (vX M) c ∧ 0 ≤ w ∧ w ≤ 1) ∧ keepX M M1 ∧ (∀ j : Nat, j < 2 ^ (vX M 0 4).toNat → M1 31 j = shS (vX M) j) ∧ ∃ a : Nat, x = a ∧ a ≤ 2 ^ (vX M 0 4).toNat ∧ sum = sumN (shrF (vX M) c) a ∧ m = 128 - a
set_option maxHeartbeats 4000000 in
set_option maxRecDepth 100000 in
theorem in0_share {rs : List (Nat × Nat)} {c w : Int} {M : Mm} {Q : Option AV → Mm → Prop} (hM : okM (sh8 rs) M) (h_c : i32 c) (h_w : i32 w) (hP : P0_share rs c w M) (hQ : ∀ (v : Int) (M1 : Mm), R0_share rs c w M v M1 → Q (some (ai v)) M1) (I_26 : List AV → Mm → Prop) (hI_26 : ∀ (m_ : Nat) (y_c_ : Int) (y_w_ : Int) (y_x : Int) (M2 : Mm), J0_share_26 rs c w M m_ y_c_ y_w_ y_x M2 → I_26 [ar 0, ai y_c_, ai y_w_, ai y_x] M2) (I_67 : List AV → Mm → Prop) (hI_67 : ∀ (m_ : Nat) (y_c_ : Int) (y_w_ : Int) (y_sum : Int) (y_x : Int) (M2 : Mm), J0_share_67 rs c w M m_ y_c_ y_w_ y_sum y_x M2 → I_67 [ar 0, ai y_c_, ai y_w_, al y_sum, ai y_x] M2) : wp (tb0 (csL (cs0_share rs))) (sh8 rs) 7 1 cX0_share [(26, [0, 1, 2, 3], I_26), (67, [0, 1, 2, 3, 5], I_67)] Q 400 0 [(0, ar 0), (1, ai c), (2, ai w)] [] M := by
  obtain ⟨hY, hB⟩ := id hP
  have h4 : 0 ≤ M 1 5 ∧ M 1 5 ≤ 7 := (okY_n hY).2.1
  have e1 : ¬ ((0 ≤ c ∧ c < M 1 5) ∧ 0 ≤ w ∧ w ≤ 1) → A_share (vX M) c w = -2 := fun q => if_neg q
  simp only [e_wp dX0_share_0 rfl, e_wp dX0_share_1 rfl, e_wp dX0_share_2 rfl, e_wp dX0_share_3 rfl, e_wp dX0_share_6 rfl, e_wp dX0_share_9 rfl, e_wp dX0_share_10 rfl, e_wp dX0_share_11 rfl, e_wp dX0_share_14 rfl, e_wp dX0_share_17 rfl, e_wp dX0_share_19 rfl, e_wp dX0_share_20 rfl, e_wp dX0_share_21 rfl, e_wp dX0_share_24 rfl, e_wp dX0_share_25 rfl, e_wp dX0_share_26 rfl, e_wp dX0_share_27 rfl, e_wp dX0_share_28 rfl, e_wp dX0_share_31 rfl, e_wp dX0_share_34 rfl, e_wp dX0_share_35 rfl, e_wp dX0_share_36 rfl, e_wp dX0_share_39 rfl, e_wp dX0_share_40 rfl, e_wp dX0_share_41 rfl, e_wp dX0_share_42 rfl, e_wp dX0_share_43 rfl, e_wp dX0_share_46 rfl, e_wp dX0_share_47 rfl, e_wp dX0_share_50 rfl, e_wp dX0_share_51 rfl, e_wp dX0_share_52 rfl, e_wp dX0_share_55 rfl, e_wp dX0_share_56 rfl, e_wp dX0_share_59 rfl, e_wp dX0_share_62 rfl, e_wp dX0_share_63 rfl, e_wp dX0_share_64 rfl, e_wp dX0_share_65 rfl, e_wp dX0_share_67 rfl, e_wp dX0_share_69 rfl, e_wp dX0_share_70 rfl, e_wp dX0_share_73 rfl, e_wp dX0_share_76 rfl, e_wp dX0_share_78 rfl, e_wp dX0_share_81 rfl, e_wp dX0_share_83 rfl, e_wp dX0_share_85 rfl, e_wp dX0_share_86 rfl, e_wp dX0_share_89 rfl, e_wp dX0_share_92 rfl, e_wp dX0_share_93 rfl, e_wp dX0_share_95 rfl, e_wp dX0_share_98 rfl, e_wp dX0_share_99 rfl, e_wp dX0_share_102 rfl, e_wp dX0_share_105 rfl, e_wp dX0_share_106 rfl, e_wp dX0_share_107 rfl, e_wp dX0_share_109 rfl, e_wp dX0_share_110 rfl, e_wp dX0_share_113 rfl, e_wp dX0_share_114 rfl, e_wp dX0_share_115 rfl, e_wp dX0_share_118 rfl, e_wp dX0_share_120 rfl, e_wp dX0_share_121 rfl, e_wp dX0_share_122 rfl, e_wp dX0_share_123 rfl, e_wp dX0_share_124 rfl, e_wp dX0_share_125 rfl, e_wp dX0_share_126 rfl, e_wp dX0_share_129 rfl, e_wp dX0_share_131 rfl, e_wp dX0_share_132 rfl, e_wp dX0_share_133 rfl, e_wp dX0_share_134 rfl, e_wp dX0_share_135 rfl, e_wp dX0_share_136 rfl, e_wp dX0_share_137 rfl, e_wp dX0_share_140 rfl, e_wp dX0_share_143 rfl, e_wp dX0_share_144 rfl, e_wp dX0_share_145 rfl, e_wp dX0_share_148 rfl, e_wp dX0_share_151 rfl, e_wp dX0_share_154 rfl, e_wp dX0_share_155 rfl, e_wp dX0_share_158 rfl, e_wp dX0_share_159 rfl, c0_isCart, P0_isCart, V0_isCart, cs0_share, c0_isOneOf, P0_isOneOf, V0_isOneOf, c0_asItIs, c0_all_2, P0_all_2, V0_all_2, p0_204, g0_101, c0_laysSag, c0_bits, P0_bits, V0_bits, c0_isOf, P0_isOf, V0_isOf, c0_factorial, P0_factorial, V0_factorial, g0_10, g0_156, c0_part, P0_part, V0_part, a8_13, w8_13, a8_14, w8_14, a8_15, w8_15, a8_16, w8_16, a8_17, w8_17, a8_18, w8_18, a8_19, w8_19, a8_20, w8_20, a8_21, w8_21, a8_22, w8_22, a8_23, w8_23, a8_24, w8_24, a8_25, w8_25, a8_26, w8_26, a8_27, w8_27, a8_28, w8_28, a8_29, w8_29, a8_30, w8_30, a8_31, w8_31, a8_32, w8_32, a8_33, w8_33, a8_34, w8_34, a8_35, w8_35, a8_36, w8_36, a8_37, w8_37, a8_38, w8_38, a8_39, w8_39, a8_40, w8_40, a8_12, w8_12, a8_6, a8_7, e_iconst, e_bipush, e_sipush, e_lconst_0, e_lconst_1, e_iload, e_iload_0, e_iload_1, e_iload_2, e_iload_3, e_lload, e_lload_0, e_lload_1, e_lload_2, e_lload_3, e_aload, e_aload_0, e_aload_1, e_aload_2, e_aload_3, e_istore, e_istore_0, e_istore_1, e_istore_2, e_istore_3, e_astore, e_astore_0, e_astore_1, e_astore_2, e_astore_3, e_lstore, e_lstore_0, e_lstore_1, e_lstore_2, e_lstore_3, e_iinc, e_iadd, e_isub, e_imul, e_ladd, e_lsub, e_lmul, e_idiv, e_irem, e_ldiv, e_lrem, e_ineg, e_lneg, e_iand, e_ior, e_ixor, e_ishl, e_ishr, e_iushr, e_lcmp, e_i2l, e_l2i, e_i2b, e_i2s, e_dup_i, e_dup_r, e_pop_i, e_pop_r, e_dup2_l, e_dup2_ir, e_dup2_ii, e_ifeq, e_ifne, e_iflt, e_ifge, e_ifgt, e_ifle, e_iceq, e_icne, e_iclt, e_icge, e_icgt, e_icle, e_goto, e_switch, e_invokevirtual, e_invokestatic, e_invokespecial, e_ret0, e_ret1, e_ret2, e_ret3, ldI_s, ldL_s, ldR_s, clO_s, ctP_s, ctS_s, mgo_0, mgo_s, pjc_s, pj_0, pj_s, lk_s, rm1_0, rm1_i, rm1_r, rm1_l, rm2_0, rm2_i, rm2_r, rm2_l, csL_s, lc_lt, lc_ge, lc_gt, lc_le, lc_eq, b01_0, b01_1, b01_01, b01_n, up2_o, up2_s, up2_u, ne_eq, reduceCtorEq, Nat.reduceAdd, Nat.reduceEqDiff, Nat.reduceLT, Nat.reduceLeDiff, Int.reduceLE, Int.reduceLT, Int.reduceAdd, Int.reduceNeg, Int.reduceMul, Int.reduceSub, Int.reduceEq, Int.reduceToNat, Int.reduceNatCast, Int.cast_ofNat_Int, ↓reduceIte, and_self, List.drop_succ_cons, List.drop_zero, List.take_succ_cons, List.take_zero, List.length_cons, List.length_nil, List.reverse_cons, List.reverse_nil, List.nil_append, List.cons_append, Option.toList, true_and, and_true, or_false, false_or, or_true, true_or, forall_const, Classical.not_not, not_false_eq_true, not_true_eq_false, false_implies, true_implies, implies_true, imp_self]
  refine ⟨h4, fun q => hQ _ _ ⟨keepX_rf, (e1 (fun z => q z.1)).symm⟩, fun q => ⟨fun z => ⟨⟨hY, hB⟩, fun M1 hR => ?_⟩, fun z => hQ _ _ ⟨keepX_rf, (e1 (by omega)).symm⟩⟩⟩
  obtain ⟨r1, r2, r3⟩ := hR
  exact hI_26 (1000 + (128 - 0)) _ _ _ _ ⟨rfl, rfl, ⟨q, by omega⟩, keepX_tell r1 r2, exA_0 r3, 0, rfl, Nat.zero_le _, fun j hj => by omega, rfl⟩
set_option maxHeartbeats 4000000 in
set_option maxRecDepth 100000 in
theorem at0_share_26 {rs : List (Nat × Nat)} {c w : Int} {M : Mm} {Q : Option AV → Mm → Prop} (hM : okM (sh8 rs) M) (h_c : i32 c) (h_w : i32 w) (hP : P0_share rs c w M) (hQ : ∀ (v : Int) (M1 : Mm), R0_share rs c w M v M1 → Q (some (ai v)) M1) {m : Nat} {c_ w_ x : Int} {M1 : Mm} (hM1 : okM (sh8 rs) M1) (h_c_ : i32 c_) (h_w_ : i32 w_) (h_x : i32 x) (hJ : J0_share_26 rs c w M m c_ w_ x M1) (I_26 : List AV → Mm → Prop) (hI_26 : ∀ (m_ : Nat) (y_c_ : Int) (y_w_ : Int) (y_x : Int) (M2 : Mm), m_ < m → J0_share_26 rs c w M m_ y_c_ y_w_ y_x M2 → I_26 [ar 0, ai y_c_, ai y_w_, ai y_x] M2) (I_67 : List AV → Mm → Prop) (hI_67 : ∀ (m_ : Nat) (y_c_ : Int) (y_w_ : Int) (y_sum : Int) (y_x : Int) (M2 : Mm), m_ < m → J0_share_67 rs c w M m_ y_c_ y_w_ y_sum y_x M2 → I_67 [ar 0, ai y_c_, ai y_w_, al y_sum, ai y_x] M2) : wp (tb0 (csL (cs0_share rs))) (sh8 rs) 7 1 cX0_share [(26, [0, 1, 2, 3], I_26), (67, [0, 1, 2, 3, 5], I_67)] Q 400 26 [(0, ar 0), (1, ai c_), (2, ai w_), (3, ai x)] [] M1 := by
  obtain ⟨rfl, rfl, hq, hk, hC, a, rfl, ha, hs, rfl⟩ := hJ
  obtain ⟨hY, hB⟩ := id hP
  have h4 : 0 ≤ M 1 5 ∧ M 1 5 ≤ 7 := (okY_n hY).2.1
  have hn7 : (vX M 0 4).toNat ≤ 7 := by show (M 1 5).toNat ≤ 7; omega
  have hp := pow7 hn7
  have hp0 := Nat.two_pow_pos (vX M 0 4).toNat
  have ep : (2 : Int) ^ (M 1 5).toNat - 1 = allB (vX M) := by rw [pow_i (by omega)]; rfl
  have eAll : allB (vX M) = ((2 ^ (vX M 0 4).toNat : Nat) : Int) - 1 := rfl
  have e1 := keepX_1 hk
  have k3 : keepX M (up2 M1 0 25 (band (allB (vX M)) (bxor a (-1)))) := keepX_u hk (by decide) (by decide)
  have k4 := exA_u hC (band (allB (vX M)) (notI a))
  simp only [e_wp dX0_share_0 rfl, e_wp dX0_share_1 rfl, e_wp dX0_share_2 rfl, e_wp dX0_share_3 rfl, e_wp dX0_share_6 rfl, e_wp dX0_share_9 rfl, e_wp dX0_share_10 rfl, e_wp dX0_share_11 rfl, e_wp dX0_share_14 rfl, e_wp dX0_share_17 rfl, e_wp dX0_share_19 rfl, e_wp dX0_share_20 rfl, e_wp dX0_share_21 rfl, e_wp dX0_share_24 rfl, e_wp dX0_share_25 rfl, e_wp dX0_share_26 rfl, e_wp dX0_share_27 rfl, e_wp dX0_share_28 rfl, e_wp dX0_share_31 rfl, e_wp dX0_share_34 rfl, e_wp dX0_share_35 rfl, e_wp dX0_share_36 rfl, e_wp dX0_share_39 rfl, e_wp dX0_share_40 rfl, e_wp dX0_share_41 rfl, e_wp dX0_share_42 rfl, e_wp dX0_share_43 rfl, e_wp dX0_share_46 rfl, e_wp dX0_share_47 rfl, e_wp dX0_share_50 rfl, e_wp dX0_share_51 rfl, e_wp dX0_share_52 rfl, e_wp dX0_share_55 rfl, e_wp dX0_share_56 rfl, e_wp dX0_share_59 rfl, e_wp dX0_share_62 rfl, e_wp dX0_share_63 rfl, e_wp dX0_share_64 rfl, e_wp dX0_share_65 rfl, e_wp dX0_share_67 rfl, e_wp dX0_share_69 rfl, e_wp dX0_share_70 rfl, e_wp dX0_share_73 rfl, e_wp dX0_share_76 rfl, e_wp dX0_share_78 rfl, e_wp dX0_share_81 rfl, e_wp dX0_share_83 rfl, e_wp dX0_share_85 rfl, e_wp dX0_share_86 rfl, e_wp dX0_share_89 rfl, e_wp dX0_share_92 rfl, e_wp dX0_share_93 rfl, e_wp dX0_share_95 rfl, e_wp dX0_share_98 rfl, e_wp dX0_share_99 rfl, e_wp dX0_share_102 rfl, e_wp dX0_share_105 rfl, e_wp dX0_share_106 rfl, e_wp dX0_share_107 rfl, e_wp dX0_share_109 rfl, e_wp dX0_share_110 rfl, e_wp dX0_share_113 rfl, e_wp dX0_share_114 rfl, e_wp dX0_share_115 rfl, e_wp dX0_share_118 rfl, e_wp dX0_share_120 rfl, e_wp dX0_share_121 rfl, e_wp dX0_share_122 rfl, e_wp dX0_share_123 rfl, e_wp dX0_share_124 rfl, e_wp dX0_share_125 rfl, e_wp dX0_share_126 rfl, e_wp dX0_share_129 rfl, e_wp dX0_share_131 rfl, e_wp dX0_share_132 rfl, e_wp dX0_share_133 rfl, e_wp dX0_share_134 rfl, e_wp dX0_share_135 rfl, e_wp dX0_share_136 rfl, e_wp dX0_share_137 rfl, e_wp dX0_share_140 rfl, e_wp dX0_share_143 rfl, e_wp dX0_share_144 rfl, e_wp dX0_share_145 rfl, e_wp dX0_share_148 rfl, e_wp dX0_share_151 rfl, e_wp dX0_share_154 rfl, e_wp dX0_share_155 rfl, e_wp dX0_share_158 rfl, e_wp dX0_share_159 rfl, c0_isCart, P0_isCart, V0_isCart, cs0_share, c0_isOneOf, P0_isOneOf, V0_isOneOf, c0_asItIs, c0_all_2, P0_all_2, V0_all_2, p0_204, g0_101, c0_laysSag, c0_bits, P0_bits, V0_bits, c0_isOf, P0_isOf, V0_isOf, c0_factorial, P0_factorial, V0_factorial, g0_10, g0_156, c0_part, P0_part, V0_part, a8_13, w8_13, a8_14, w8_14, a8_15, w8_15, a8_16, w8_16, a8_17, w8_17, a8_18, w8_18, a8_19, w8_19, a8_20, w8_20, a8_21, w8_21, a8_22, w8_22, a8_23, w8_23, a8_24, w8_24, a8_25, w8_25, a8_26, w8_26, a8_27, w8_27, a8_28, w8_28, a8_29, w8_29, a8_30, w8_30, a8_31, w8_31, a8_32, w8_32, a8_33, w8_33, a8_34, w8_34, a8_35, w8_35, a8_36, w8_36, a8_37, w8_37, a8_38, w8_38, a8_39, w8_39, a8_40, w8_40, a8_12, w8_12, a8_6, a8_7, e_iconst, e_bipush, e_sipush, e_lconst_0, e_lconst_1, e_iload, e_iload_0, e_iload_1, e_iload_2, e_iload_3, e_lload, e_lload_0, e_lload_1, e_lload_2, e_lload_3, e_aload, e_aload_0, e_aload_1, e_aload_2, e_aload_3, e_istore, e_istore_0, e_istore_1, e_istore_2, e_istore_3, e_astore, e_astore_0, e_astore_1, e_astore_2, e_astore_3, e_lstore, e_lstore_0, e_lstore_1, e_lstore_2, e_lstore_3, e_iinc, e_iadd, e_isub, e_imul, e_ladd, e_lsub, e_lmul, e_idiv, e_irem, e_ldiv, e_lrem, e_ineg, e_lneg, e_iand, e_ior, e_ixor, e_ishl, e_ishr, e_iushr, e_lcmp, e_i2l, e_l2i, e_i2b, e_i2s, e_dup_i, e_dup_r, e_pop_i, e_pop_r, e_dup2_l, e_dup2_ir, e_dup2_ii, e_ifeq, e_ifne, e_iflt, e_ifge, e_ifgt, e_ifle, e_iceq, e_icne, e_iclt, e_icge, e_icgt, e_icle, e_goto, e_switch, e_invokevirtual, e_invokestatic, e_invokespecial, e_ret0, e_ret1, e_ret2, e_ret3, ldI_s, ldL_s, ldR_s, clO_s, ctP_s, ctS_s, mgo_0, mgo_s, pjc_s, pj_0, pj_s, lk_s, rm1_0, rm1_i, rm1_r, rm1_l, rm2_0, rm2_i, rm2_r, rm2_l, csL_s, lc_lt, lc_ge, lc_gt, lc_le, lc_eq, b01_0, b01_1, b01_01, b01_n, up2_o, up2_s, up2_u, ne_eq, reduceCtorEq, Nat.reduceAdd, Nat.reduceEqDiff, Nat.reduceLT, Nat.reduceLeDiff, Int.reduceLE, Int.reduceLT, Int.reduceAdd, Int.reduceNeg, Int.reduceMul, Int.reduceSub, Int.reduceEq, Int.reduceToNat, Int.reduceNatCast, Int.cast_ofNat_Int, ↓reduceIte, and_self, List.drop_succ_cons, List.drop_zero, List.take_succ_cons, List.take_zero, List.length_cons, List.length_nil, List.reverse_cons, List.reverse_nil, List.nil_append, List.cons_append, Option.toList, true_and, and_true, or_false, false_or, or_true, true_or, forall_const, Classical.not_not, not_false_eq_true, not_true_eq_false, false_implies, true_implies, implies_true, imp_self, e1, ep, Int.toNat_natCast]
  refine ⟨h4, fun q => ?_, fun q => ⟨h4, layS_pre hP k3 k4 (okCf_abs (okCf_tell hY)), fun v M2 hR => ?_⟩⟩
  · exact hI_67 (128 - 0) _ _ _ _ _ (by omega) ⟨rfl, rfl, hq, hk, fun j hj => hs j (by omega), 0, rfl, Nat.zero_le _, rfl, rfl⟩
  · have hf := hR.1
    obtain ⟨s1, s3, -, s2⟩ := layS_use k3 k4 hR
    have s2 : v = shS (vX M) a := s2
    have e31 : M2 31 = M1 31 := (hf _ (by decide)).trans (up2_ne (by decide))
    repeat (refine And.intro (by omega) ?_)
    refine hI_26 (1000 + (128 - (a + 1))) _ _ _ _ (by omega) ⟨rfl, rfl, hq, keepX_o s1 (by decide) (by decide), ?_, a + 1, by omega, by omega, fun j hj => ?_, rfl⟩
    · rw [cX_u (by decide) (by decide) (by decide) (by decide)]
      exact exA_s s3
    · by_cases e : j = a
      · rw [e, up2_s, s2]
      · rw [up2_n e, e31]
        exact hs j (by omega)
set_option maxHeartbeats 4000000 in
set_option maxRecDepth 100000 in
theorem at0_share_67 {rs : List (Nat × Nat)} {c w : Int} {M : Mm} {Q : Option AV → Mm → Prop} (hM : okM (sh8 rs) M) (h_c : i32 c) (h_w : i32 w) (hP : P0_share rs c w M) (hQ : ∀ (v : Int) (M1 : Mm), R0_share rs c w M v M1 → Q (some (ai v)) M1) {m : Nat} {c_ w_ sum x : Int} {M1 : Mm} (hM1 : okM (sh8 rs) M1) (h_c_ : i32 c_) (h_w_ : i32 w_) (h_sum : i64 sum) (h_x : i32 x) (hJ : J0_share_67 rs c w M m c_ w_ sum x M1) (I_26 : List AV → Mm → Prop) (hI_26 : ∀ (m_ : Nat) (y_c_ : Int) (y_w_ : Int) (y_x : Int) (M2 : Mm), m_ < m → J0_share_26 rs c w M m_ y_c_ y_w_ y_x M2 → I_26 [ar 0, ai y_c_, ai y_w_, ai y_x] M2) (I_67 : List AV → Mm → Prop) (hI_67 : ∀ (m_ : Nat) (y_c_ : Int) (y_w_ : Int) (y_sum : Int) (y_x : Int) (M2 : Mm), m_ < m → J0_share_67 rs c w M m_ y_c_ y_w_ y_sum y_x M2 → I_67 [ar 0, ai y_c_, ai y_w_, al y_sum, ai y_x] M2) : wp (tb0 (csL (cs0_share rs))) (sh8 rs) 7 1 cX0_share [(26, [0, 1, 2, 3], I_26), (67, [0, 1, 2, 3, 5], I_67)] Q 400 67 [(0, ar 0), (1, ai c_), (2, ai w_), (3, al sum), (5, ai x)] [] M1 := by
  obtain ⟨rfl, rfl, hq, hk, hs, a, rfl, ha, rfl, rfl⟩ := hJ
  obtain ⟨hY, hB⟩ := id hP
  have h4 : 0 ≤ M 1 5 ∧ M 1 5 ≤ 7 := (okY_n hY).2.1
  have hn7 : (vX M 0 4).toNat ≤ 7 := by show (M 1 5).toNat ≤ 7; omega
  have hp := pow7 hn7
  have hp0 := Nat.two_pow_pos (vX M 0 4).toNat
  have ep : (2 : Int) ^ (M 1 5).toNat - 1 = allB (vX M) := by rw [pow_i (by omega)]; rfl
  have eAll : allB (vX M) = ((2 ^ (vX M 0 4).toNat : Nat) : Int) - 1 := rfl
  have e1 := keepX_1 hk
  have e4 : vX M 0 4 = M 1 5 := rfl
  have hb := shr_b (c := c) hY (n := a) (by omega)
  have hz := szP_b a
  have hfn := facN_b (n := (M 1 5).toNat) (by omega)
  have i1 : M 1 5 - 1 - szP a = M 1 5 - szP a - 1 := by omega
  have hc7 : c < M 1 5 := hq.1.2
  have hc0 := hq.1.1
  simp only [e_wp dX0_share_0 rfl, e_wp dX0_share_1 rfl, e_wp dX0_share_2 rfl, e_wp dX0_share_3 rfl, e_wp dX0_share_6 rfl, e_wp dX0_share_9 rfl, e_wp dX0_share_10 rfl, e_wp dX0_share_11 rfl, e_wp dX0_share_14 rfl, e_wp dX0_share_17 rfl, e_wp dX0_share_19 rfl, e_wp dX0_share_20 rfl, e_wp dX0_share_21 rfl, e_wp dX0_share_24 rfl, e_wp dX0_share_25 rfl, e_wp dX0_share_26 rfl, e_wp dX0_share_27 rfl, e_wp dX0_share_28 rfl, e_wp dX0_share_31 rfl, e_wp dX0_share_34 rfl, e_wp dX0_share_35 rfl, e_wp dX0_share_36 rfl, e_wp dX0_share_39 rfl, e_wp dX0_share_40 rfl, e_wp dX0_share_41 rfl, e_wp dX0_share_42 rfl, e_wp dX0_share_43 rfl, e_wp dX0_share_46 rfl, e_wp dX0_share_47 rfl, e_wp dX0_share_50 rfl, e_wp dX0_share_51 rfl, e_wp dX0_share_52 rfl, e_wp dX0_share_55 rfl, e_wp dX0_share_56 rfl, e_wp dX0_share_59 rfl, e_wp dX0_share_62 rfl, e_wp dX0_share_63 rfl, e_wp dX0_share_64 rfl, e_wp dX0_share_65 rfl, e_wp dX0_share_67 rfl, e_wp dX0_share_69 rfl, e_wp dX0_share_70 rfl, e_wp dX0_share_73 rfl, e_wp dX0_share_76 rfl, e_wp dX0_share_78 rfl, e_wp dX0_share_81 rfl, e_wp dX0_share_83 rfl, e_wp dX0_share_85 rfl, e_wp dX0_share_86 rfl, e_wp dX0_share_89 rfl, e_wp dX0_share_92 rfl, e_wp dX0_share_93 rfl, e_wp dX0_share_95 rfl, e_wp dX0_share_98 rfl, e_wp dX0_share_99 rfl, e_wp dX0_share_102 rfl, e_wp dX0_share_105 rfl, e_wp dX0_share_106 rfl, e_wp dX0_share_107 rfl, e_wp dX0_share_109 rfl, e_wp dX0_share_110 rfl, e_wp dX0_share_113 rfl, e_wp dX0_share_114 rfl, e_wp dX0_share_115 rfl, e_wp dX0_share_118 rfl, e_wp dX0_share_120 rfl, e_wp dX0_share_121 rfl, e_wp dX0_share_122 rfl, e_wp dX0_share_123 rfl, e_wp dX0_share_124 rfl, e_wp dX0_share_125 rfl, e_wp dX0_share_126 rfl, e_wp dX0_share_129 rfl, e_wp dX0_share_131 rfl, e_wp dX0_share_132 rfl, e_wp dX0_share_133 rfl, e_wp dX0_share_134 rfl, e_wp dX0_share_135 rfl, e_wp dX0_share_136 rfl, e_wp dX0_share_137 rfl, e_wp dX0_share_140 rfl, e_wp dX0_share_143 rfl, e_wp dX0_share_144 rfl, e_wp dX0_share_145 rfl, e_wp dX0_share_148 rfl, e_wp dX0_share_151 rfl, e_wp dX0_share_154 rfl, e_wp dX0_share_155 rfl, e_wp dX0_share_158 rfl, e_wp dX0_share_159 rfl, c0_isCart, P0_isCart, V0_isCart, cs0_share, c0_isOneOf, P0_isOneOf, V0_isOneOf, c0_asItIs, c0_all_2, P0_all_2, V0_all_2, p0_204, g0_101, c0_laysSag, c0_bits, P0_bits, V0_bits, c0_isOf, P0_isOf, V0_isOf, c0_factorial, P0_factorial, V0_factorial, g0_10, g0_156, c0_part, P0_part, V0_part, a8_13, w8_13, a8_14, w8_14, a8_15, w8_15, a8_16, w8_16, a8_17, w8_17, a8_18, w8_18, a8_19, w8_19, a8_20, w8_20, a8_21, w8_21, a8_22, w8_22, a8_23, w8_23, a8_24, w8_24, a8_25, w8_25, a8_26, w8_26, a8_27, w8_27, a8_28, w8_28, a8_29, w8_29, a8_30, w8_30, a8_31, w8_31, a8_32, w8_32, a8_33, w8_33, a8_34, w8_34, a8_35, w8_35, a8_36, w8_36, a8_37, w8_37, a8_38, w8_38, a8_39, w8_39, a8_40, w8_40, a8_12, w8_12, a8_6, a8_7, e_iconst, e_bipush, e_sipush, e_lconst_0, e_lconst_1, e_iload, e_iload_0, e_iload_1, e_iload_2, e_iload_3, e_lload, e_lload_0, e_lload_1, e_lload_2, e_lload_3, e_aload, e_aload_0, e_aload_1, e_aload_2, e_aload_3, e_istore, e_istore_0, e_istore_1, e_istore_2, e_istore_3, e_astore, e_astore_0, e_astore_1, e_astore_2, e_astore_3, e_lstore, e_lstore_0, e_lstore_1, e_lstore_2, e_lstore_3, e_iinc, e_iadd, e_isub, e_imul, e_ladd, e_lsub, e_lmul, e_idiv, e_irem, e_ldiv, e_lrem, e_ineg, e_lneg, e_iand, e_ior, e_ixor, e_ishl, e_ishr, e_iushr, e_lcmp, e_i2l, e_l2i, e_i2b, e_i2s, e_dup_i, e_dup_r, e_pop_i, e_pop_r, e_dup2_l, e_dup2_ir, e_dup2_ii, e_ifeq, e_ifne, e_iflt, e_ifge, e_ifgt, e_ifle, e_iceq, e_icne, e_iclt, e_icge, e_icgt, e_icle, e_goto, e_switch, e_invokevirtual, e_invokestatic, e_invokespecial, e_ret0, e_ret1, e_ret2, e_ret3, ldI_s, ldL_s, ldR_s, clO_s, ctP_s, ctS_s, mgo_0, mgo_s, pjc_s, pj_0, pj_s, lk_s, rm1_0, rm1_i, rm1_r, rm1_l, rm2_0, rm2_i, rm2_r, rm2_l, csL_s, lc_lt, lc_ge, lc_gt, lc_le, lc_eq, b01_0, b01_1, b01_01, b01_n, up2_o, up2_s, up2_u, ne_eq, reduceCtorEq, Nat.reduceAdd, Nat.reduceEqDiff, Nat.reduceLT, Nat.reduceLeDiff, Int.reduceLE, Int.reduceLT, Int.reduceAdd, Int.reduceNeg, Int.reduceMul, Int.reduceSub, Int.reduceEq, Int.reduceToNat, Int.reduceNatCast, Int.cast_ofNat_Int, ↓reduceIte, and_self, List.drop_succ_cons, List.drop_zero, List.take_succ_cons, List.take_zero, List.length_cons, List.length_nil, List.reverse_cons, List.reverse_nil, List.nil_append, List.cons_append, Option.toList, true_and, and_true, or_false, false_or, or_true, true_or, forall_const, Classical.not_not, not_false_eq_true, not_true_eq_false, false_implies, true_implies, implies_true, imp_self, e1, ep, i1, Int.toNat_natCast]
  refine ⟨h4, fun q => ?_, fun q => ⟨by omega, fun z => ⟨by omega, ?_⟩, fun z => ?_⟩⟩
  · have ea : a = 2 ^ (vX M 0 4).toNat := by omega
    repeat (refine And.intro (by omega) ?_)
    refine hQ _ _ ⟨hk, ?_⟩
    rw [show A_share (vX M) c w = _ from if_pos hq, ← ea]
    rfl
  · refine hI_67 (128 - (a + 1)) _ _ _ _ _ (by omega) ⟨rfl, rfl, hq, hk, hs, a + 1, by omega, by omega, ?_, rfl⟩
    show sumN (shrF (vX M) c) a = sumN (shrF (vX M) c) a + shrF (vX M) c a
    unfold shrF
    rw [if_pos z]
    omega
  · obtain ⟨m1, -⟩ := shr_bb hY (x := a) (p := 0) (q := 0) (by omega) (by omega) (by omega)
    have ec : ((c.toNat : Nat) : Int) = c := by omega
    have hbo := borN hn7 (x := a) (c := c.toNat) (by omega) (by omega)
    rw [ec] at hbo
    have v1 : M1 31 (bor (a : Int) (bshl 1 c)).toNat = shS (vX M) (bor a (bshl 1 c)) := by
      rw [hs _ (by omega), Int.toNat_of_nonneg hbo.1]
    have v2 : M1 31 a = shS (vX M) a := hs a (by omega)
    have b1 := shS_b hY (x := bor a (bshl 1 c))
    have b2 := shS_b hY (x := a)
    obtain ⟨-, m2⟩ := shr_bb hY (x := a) (p := shS (vX M) (bor a (bshl 1 c))) (q := shS (vX M) a) (by omega) b1 b2
    rw [e4] at m1 m2
    rw [v1, v2]
    repeat (refine And.intro (by omega) ?_)
    refine hI_67 (128 - (a + 1)) _ _ _ _ _ (by omega) ⟨rfl, rfl, hq, hk, hs, a + 1, by omega, by omega, ?_, rfl⟩
    show _ = sumN (shrF (vX M) c) a + shrF (vX M) c a
    unfold shrF
    rw [if_neg z]
    rfl
set_option maxHeartbeats 4000000 in
set_option maxRecDepth 100000 in
theorem m0_share {rs : List (Nat × Nat)} : MOK cl8 (sh8 rs) tyl8 Nws8 7 yX0_share cX0_share 7 (some .int) (sp0_share rs) := by
  refine mok_of (own := RX0) (tb := tb0 (csL (cs0_share rs))) (rt := 1) (fuel := 400) (fun avs M Q => [(26, [0, 1, 2, 3], fun m_ vs M1 => ∃ y_c_ : Int, ∃ y_w_ : Int, ∃ y_x : Int, vs = [ar 0, ai y_c_, ai y_w_, ai y_x] ∧ J0_share_26 rs (pa true [0, 0] avs 0) (pa true [0, 0] avs 1) M m_ y_c_ y_w_ y_x M1), (67, [0, 1, 2, 3, 5], fun m_ vs M1 => ∃ y_c_ : Int, ∃ y_w_ : Int, ∃ y_sum : Int, ∃ y_x : Int, vs = [ar 0, ai y_c_, ai y_w_, al y_sum, ai y_x] ∧ J0_share_67 rs (pa true [0, 0] avs 0) (pa true [0, 0] avs 1) M m_ y_c_ y_w_ y_sum y_x M1)]) (by decide) rfl nws8_ok (tbOK0 _) rfl (csL_all ?_) ?_ ?_ ?_
  · intro q hq
    simp only [cs0_share, List.mem_cons, List.not_mem_nil, or_false] at hq
    rcases hq with rfl | rfl | rfl | rfl | rfl | rfl | rfl | rfl | rfl
    · exact cg0_isCart (by decide)
    · exact cg0_isOneOf (by decide)
    · exact cg0_asItIs (by decide)
    · exact cg0_all_2 (by decide)
    · exact cg0_laysSag (by decide)
    · exact cg0_bits (by decide)
    · exact cg0_isOf (by decide)
    · exact cg0_factorial (by decide)
    · exact cg0_part (by decide)
  · intro avs M Q hsp
    obtain ⟨xs, hx⟩ := spR_un _ _ _ hsp
    obtain ⟨e, hl⟩ := unA_mkT hx
    obtain ⟨c, w, rfl⟩ := len2 hl
    have e : avs = [ar 0, ai c, ai w] := e
    subst e
    simp [szL, isL]
  · intro avs M Q hM hav hsp
    obtain ⟨xs, hx⟩ := spR_un _ _ _ hsp
    obtain ⟨e, hl⟩ := unA_mkT hx
    obtain ⟨c, w, rfl⟩ := len2 hl
    have e : avs = [ar 0, ai c, ai w] := e
    subst e
    exact in0_share hM (hav (ai c) (by simp)) (hav (ai w) (by simp)) hsp.1 hsp.2 _ (fun m_ y_c_ y_w_ y_x M2 hJ => ⟨m_, y_c_, y_w_, y_x, rfl, hJ⟩) _ (fun m_ y_c_ y_w_ y_sum y_x M2 hJ => ⟨m_, y_c_, y_w_, y_sum, y_x, rfl, hJ⟩)
  · intro avs M Q hM hav hsp q hq m_ vs M1 hM1 hv hJ
    obtain ⟨xs, hx⟩ := spR_un _ _ _ hsp
    obtain ⟨e, hl⟩ := unA_mkT hx
    obtain ⟨c, w, rfl⟩ := len2 hl
    have e : avs = [ar 0, ai c, ai w] := e
    subst e
    simp only [List.mem_cons, List.not_mem_nil, or_false] at hq
    rcases hq with rfl | rfl
    · obtain ⟨y_c_, y_w_, y_x, rfl, hJ⟩ := hJ
      exact at0_share_26 hM (hav (ai c) (by simp)) (hav (ai w) (by simp)) hsp.1 hsp.2 hM1 (hv (1, ai y_c_) (List.mem_of_getElem? (i := 1) rfl)) (hv (2, ai y_w_) (List.mem_of_getElem? (i := 2) rfl)) (hv (3, ai y_x) (List.mem_of_getElem? (i := 3) rfl)) hJ _ (fun m2 z_c_ z_w_ z_x M2 hm hJ2 => ⟨m2, hm, z_c_, z_w_, z_x, rfl, hJ2⟩) _ (fun m2 z_c_ z_w_ z_sum z_x M2 hm hJ2 => ⟨m2, hm, z_c_, z_w_, z_sum, z_x, rfl, hJ2⟩)
    · obtain ⟨y_c_, y_w_, y_sum, y_x, rfl, hJ⟩ := hJ
      exact at0_share_67 hM (hav (ai c) (by simp)) (hav (ai w) (by simp)) hsp.1 hsp.2 hM1 (hv (1, ai y_c_) (List.mem_of_getElem? (i := 1) rfl)) (hv (2, ai y_w_) (List.mem_of_getElem? (i := 2) rfl)) (hv (3, al y_sum) (List.mem_of_getElem? (i := 3) rfl)) (hv (5, ai y_x) (List.mem_of_getElem? (i := 4) rfl)) hJ _ (fun m2 z_c_ z_w_ z_x M2 hm hJ2 => ⟨m2, hm, z_c_, z_w_, z_x, rfl, hJ2⟩) _ (fun m2 z_c_ z_w_ z_sum z_x M2 hm hJ2 => ⟨m2, hm, z_c_, z_w_, z_sum, z_x, rfl, hJ2⟩)
