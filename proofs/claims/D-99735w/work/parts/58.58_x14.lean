/-! SagMemory: which carts went over -/
def P0_overOf (rs : List (Nat × Nat)) (b : Int) (M : Mm) : Prop := 0 ≤ M 1 5 ∧ M 1 5 ≤ 7
def V0_overOf (rs : List (Nat × Nat)) (b : Int) (M : Mm) : Int := orN (fun c => if M 19 c = b then bshl 1 c else 0) (M 1 5).toNat
def sp0_overOf (rs : List (Nat × Nat)) : Spec := spF true [0] 1 (fun x M => P0_overOf rs (x 0) M) (fun x M => V0_overOf rs (x 0) M)
theorem c0_overOf {rs : List (Nat × Nat)} {b : Int} {M : Mm} {Q : Option AV → Mm → Prop} : sp0_overOf rs [ar 0, ai b] M Q = (P0_overOf rs b M ∧ Q (some (ai (V0_overOf rs b M))) M) := rfl
def cs0_overOf (rs : List (Nat × Nat)) : List (Nat × Nat × Nat × Spec) := []
def J0_overOf_4 (rs : List (Nat × Nat)) (b : Int) (M : Mm) (m : Nat) (b_ : Int) (n : Int) (c : Int) (M1 : Mm) : Prop := ∃ a : Nat, b = b_ ∧ c = a ∧ (a : Int) ≤ M 1 5 ∧ M = M1 ∧ n = orN (fun c => if M 19 c = b then bshl 1 c else 0) a ∧ m = 7 - a
set_option maxHeartbeats 4000000 in
set_option maxRecDepth 100000 in
theorem in0_overOf {rs : List (Nat × Nat)} {b : Int} {M : Mm} {Q : Option AV → Mm → Prop} (hM : okM (sh8 rs) M) (h_b : i32 b) (hP : P0_overOf rs b M) (hQ : Q (some (ai (V0_overOf rs b M))) M) (I_4 : List AV → Mm → Prop) (hI_4 : ∀ (m_ : Nat) (y_b_ : Int) (y_n : Int) (y_c : Int) (M2 : Mm), J0_overOf_4 rs b M m_ y_b_ y_n y_c M2 → I_4 [ar 0, ai y_b_, ai y_n, ai y_c] M2) : wp (tb0 (csL (cs0_overOf rs))) (sh8 rs) 4 1 cX0_overOf [(4, [0, 1, 2, 3], I_4)] Q 400 0 [(0, ar 0), (1, ai b)] [] M := by
  simp only [e_wp dX0_overOf_0 rfl, e_wp dX0_overOf_1 rfl, e_wp dX0_overOf_2 rfl, e_wp dX0_overOf_3 rfl, e_wp dX0_overOf_4 rfl, e_wp dX0_overOf_5 rfl, e_wp dX0_overOf_6 rfl, e_wp dX0_overOf_9 rfl, e_wp dX0_overOf_12 rfl, e_wp dX0_overOf_15 rfl, e_wp dX0_overOf_16 rfl, e_wp dX0_overOf_17 rfl, e_wp dX0_overOf_20 rfl, e_wp dX0_overOf_21 rfl, e_wp dX0_overOf_22 rfl, e_wp dX0_overOf_23 rfl, e_wp dX0_overOf_26 rfl, e_wp dX0_overOf_27 rfl, e_wp dX0_overOf_28 rfl, e_wp dX0_overOf_29 rfl, e_wp dX0_overOf_32 rfl, e_wp dX0_overOf_33 rfl, e_wp dX0_overOf_34 rfl, e_wp dX0_overOf_35 rfl, e_wp dX0_overOf_38 rfl, e_wp dX0_overOf_41 rfl, e_wp dX0_overOf_42 rfl, g0_10, g0_156, g0_65, a8_13, w8_13, a8_14, w8_14, a8_15, w8_15, a8_16, w8_16, a8_17, w8_17, a8_18, w8_18, a8_19, w8_19, a8_20, w8_20, a8_21, w8_21, a8_22, w8_22, a8_23, w8_23, a8_24, w8_24, a8_25, w8_25, a8_26, w8_26, a8_27, w8_27, a8_28, w8_28, a8_29, w8_29, a8_30, w8_30, a8_31, w8_31, a8_32, w8_32, a8_33, w8_33, a8_34, w8_34, a8_35, w8_35, a8_36, w8_36, a8_37, w8_37, a8_38, w8_38, a8_39, w8_39, a8_40, w8_40, a8_12, w8_12, a8_6, a8_7, e_iconst, e_bipush, e_sipush, e_lconst_0, e_lconst_1, e_iload, e_iload_0, e_iload_1, e_iload_2, e_iload_3, e_lload, e_lload_0, e_lload_1, e_lload_2, e_lload_3, e_aload, e_aload_0, e_aload_1, e_aload_2, e_aload_3, e_istore, e_istore_0, e_istore_1, e_istore_2, e_istore_3, e_astore, e_astore_0, e_astore_1, e_astore_2, e_astore_3, e_lstore, e_lstore_0, e_lstore_1, e_lstore_2, e_lstore_3, e_iinc, e_iadd, e_isub, e_imul, e_ladd, e_lsub, e_lmul, e_idiv, e_irem, e_ldiv, e_lrem, e_ineg, e_lneg, e_iand, e_ior, e_ixor, e_ishl, e_ishr, e_iushr, e_lcmp, e_i2l, e_l2i, e_i2b, e_i2s, e_dup_i, e_dup_r, e_pop_i, e_pop_r, e_dup2_l, e_dup2_ir, e_dup2_ii, e_ifeq, e_ifne, e_iflt, e_ifge, e_ifgt, e_ifle, e_iceq, e_icne, e_iclt, e_icge, e_icgt, e_icle, e_goto, e_switch, e_invokevirtual, e_invokestatic, e_invokespecial, e_ret0, e_ret1, e_ret2, e_ret3, ldI_s, ldL_s, ldR_s, clO_s, ctP_s, ctS_s, mgo_0, mgo_s, pjc_s, pj_0, pj_s, lk_s, rm1_0, rm1_i, rm1_r, rm1_l, rm2_0, rm2_i, rm2_r, rm2_l, csL_s, lc_lt, lc_ge, lc_gt, lc_le, lc_eq, b01_0, b01_1, b01_01, b01_n, up2_o, up2_s, up2_u, ne_eq, reduceCtorEq, Nat.reduceAdd, Nat.reduceEqDiff, Nat.reduceLT, Nat.reduceLeDiff, Int.reduceLE, Int.reduceLT, Int.reduceAdd, Int.reduceNeg, Int.reduceMul, Int.reduceSub, Int.reduceEq, Int.reduceToNat, Int.reduceNatCast, Int.cast_ofNat_Int, ↓reduceIte, and_self, List.drop_succ_cons, List.drop_zero, List.take_succ_cons, List.take_zero, List.length_cons, List.length_nil, List.reverse_cons, List.reverse_nil, List.nil_append, List.cons_append, Option.toList, true_and, and_true, or_false, false_or, or_true, true_or, forall_const, Classical.not_not, not_false_eq_true, not_true_eq_false, false_implies, true_implies, implies_true, imp_self]
  exact hI_4 _ _ _ _ _ ⟨0, rfl, rfl, hP.1, rfl, rfl, rfl⟩
set_option maxHeartbeats 4000000 in
set_option maxRecDepth 100000 in
theorem at0_overOf_4 {rs : List (Nat × Nat)} {b : Int} {M : Mm} {Q : Option AV → Mm → Prop} (hM : okM (sh8 rs) M) (h_b : i32 b) (hP : P0_overOf rs b M) (hQ : Q (some (ai (V0_overOf rs b M))) M) {m : Nat} {b_ n c : Int} {M1 : Mm} (hM1 : okM (sh8 rs) M1) (h_b_ : i32 b_) (h_n : i32 n) (h_c : i32 c) (hJ : J0_overOf_4 rs b M m b_ n c M1) (I_4 : List AV → Mm → Prop) (hI_4 : ∀ (m_ : Nat) (y_b_ : Int) (y_n : Int) (y_c : Int) (M2 : Mm), m_ < m → J0_overOf_4 rs b M m_ y_b_ y_n y_c M2 → I_4 [ar 0, ai y_b_, ai y_n, ai y_c] M2) : wp (tb0 (csL (cs0_overOf rs))) (sh8 rs) 4 1 cX0_overOf [(4, [0, 1, 2, 3], I_4)] Q 400 4 [(0, ar 0), (1, ai b_), (2, ai n), (3, ai c)] [] M1 := by
  obtain ⟨a, rfl, rfl, ha, rfl, rfl, rfl⟩ := hJ
  obtain ⟨h1, h2⟩ := id hP
  simp only [e_wp dX0_overOf_0 rfl, e_wp dX0_overOf_1 rfl, e_wp dX0_overOf_2 rfl, e_wp dX0_overOf_3 rfl, e_wp dX0_overOf_4 rfl, e_wp dX0_overOf_5 rfl, e_wp dX0_overOf_6 rfl, e_wp dX0_overOf_9 rfl, e_wp dX0_overOf_12 rfl, e_wp dX0_overOf_15 rfl, e_wp dX0_overOf_16 rfl, e_wp dX0_overOf_17 rfl, e_wp dX0_overOf_20 rfl, e_wp dX0_overOf_21 rfl, e_wp dX0_overOf_22 rfl, e_wp dX0_overOf_23 rfl, e_wp dX0_overOf_26 rfl, e_wp dX0_overOf_27 rfl, e_wp dX0_overOf_28 rfl, e_wp dX0_overOf_29 rfl, e_wp dX0_overOf_32 rfl, e_wp dX0_overOf_33 rfl, e_wp dX0_overOf_34 rfl, e_wp dX0_overOf_35 rfl, e_wp dX0_overOf_38 rfl, e_wp dX0_overOf_41 rfl, e_wp dX0_overOf_42 rfl, g0_10, g0_156, g0_65, a8_13, w8_13, a8_14, w8_14, a8_15, w8_15, a8_16, w8_16, a8_17, w8_17, a8_18, w8_18, a8_19, w8_19, a8_20, w8_20, a8_21, w8_21, a8_22, w8_22, a8_23, w8_23, a8_24, w8_24, a8_25, w8_25, a8_26, w8_26, a8_27, w8_27, a8_28, w8_28, a8_29, w8_29, a8_30, w8_30, a8_31, w8_31, a8_32, w8_32, a8_33, w8_33, a8_34, w8_34, a8_35, w8_35, a8_36, w8_36, a8_37, w8_37, a8_38, w8_38, a8_39, w8_39, a8_40, w8_40, a8_12, w8_12, a8_6, a8_7, e_iconst, e_bipush, e_sipush, e_lconst_0, e_lconst_1, e_iload, e_iload_0, e_iload_1, e_iload_2, e_iload_3, e_lload, e_lload_0, e_lload_1, e_lload_2, e_lload_3, e_aload, e_aload_0, e_aload_1, e_aload_2, e_aload_3, e_istore, e_istore_0, e_istore_1, e_istore_2, e_istore_3, e_astore, e_astore_0, e_astore_1, e_astore_2, e_astore_3, e_lstore, e_lstore_0, e_lstore_1, e_lstore_2, e_lstore_3, e_iinc, e_iadd, e_isub, e_imul, e_ladd, e_lsub, e_lmul, e_idiv, e_irem, e_ldiv, e_lrem, e_ineg, e_lneg, e_iand, e_ior, e_ixor, e_ishl, e_ishr, e_iushr, e_lcmp, e_i2l, e_l2i, e_i2b, e_i2s, e_dup_i, e_dup_r, e_pop_i, e_pop_r, e_dup2_l, e_dup2_ir, e_dup2_ii, e_ifeq, e_ifne, e_iflt, e_ifge, e_ifgt, e_ifle, e_iceq, e_icne, e_iclt, e_icge, e_icgt, e_icle, e_goto, e_switch, e_invokevirtual, e_invokestatic, e_invokespecial, e_ret0, e_ret1, e_ret2, e_ret3, ldI_s, ldL_s, ldR_s, clO_s, ctP_s, ctS_s, mgo_0, mgo_s, pjc_s, pj_0, pj_s, lk_s, rm1_0, rm1_i, rm1_r, rm1_l, rm2_0, rm2_i, rm2_r, rm2_l, csL_s, lc_lt, lc_ge, lc_gt, lc_le, lc_eq, b01_0, b01_1, b01_01, b01_n, up2_o, up2_s, up2_u, ne_eq, reduceCtorEq, Nat.reduceAdd, Nat.reduceEqDiff, Nat.reduceLT, Nat.reduceLeDiff, Int.reduceLE, Int.reduceLT, Int.reduceAdd, Int.reduceNeg, Int.reduceMul, Int.reduceSub, Int.reduceEq, Int.reduceToNat, Int.reduceNatCast, Int.cast_ofNat_Int, ↓reduceIte, and_self, List.drop_succ_cons, List.drop_zero, List.take_succ_cons, List.take_zero, List.length_cons, List.length_nil, List.reverse_cons, List.reverse_nil, List.nil_append, List.cons_append, Option.toList, true_and, and_true, or_false, false_or, or_true, true_or, forall_const, Classical.not_not, not_false_eq_true, not_true_eq_false, false_implies, true_implies, implies_true, imp_self, Int.toNat_natCast]
  refine ⟨fun q => ?_, fun q => ⟨by omega, fun z => ⟨by omega, ?_⟩, fun z => ⟨by omega, ?_⟩⟩⟩
  · refine qeq hQ ?_
    unfold V0_overOf
    rw [show (M 1 5).toNat = a by omega]
  · refine hI_4 _ _ _ _ _ (by omega) ⟨a + 1, rfl, by omega, by omega, rfl, ?_, rfl⟩
    show _ = bor _ (if M 19 a = b then bshl 1 a else 0)
    rw [if_neg z]
  · refine hI_4 _ _ _ _ _ (by omega) ⟨a + 1, rfl, by omega, by omega, rfl, ?_, rfl⟩
    show _ = bor _ (if M 19 a = b then bshl 1 a else 0)
    rw [if_pos z]
set_option maxHeartbeats 4000000 in
set_option maxRecDepth 100000 in
theorem m0_overOf {rs : List (Nat × Nat)} : MOK cl8 (sh8 rs) tyl8 Nws8 0 yX0_overOf cX0_overOf 4 (some .int) (sp0_overOf rs) := by
  refine mok_of (own := RX0) (tb := tb0 (csL (cs0_overOf rs))) (rt := 1) (fuel := 400) (fun avs M Q => [(4, [0, 1, 2, 3], fun m_ vs M1 => ∃ y_b_ : Int, ∃ y_n : Int, ∃ y_c : Int, vs = [ar 0, ai y_b_, ai y_n, ai y_c] ∧ J0_overOf_4 rs (pa true [0] avs 0) M m_ y_b_ y_n y_c M1)]) (by decide) rfl nws8_ok (tbOK0 _) rfl (csL_all ?_) ?_ ?_ ?_
  · intro q hq; cases hq
  · intro avs M Q hsp
    obtain ⟨xs, hx⟩ := spF_un _ _ _ hsp
    obtain ⟨e, hl⟩ := unA_mkT hx
    obtain ⟨b, rfl⟩ := len1 hl
    have e : avs = [ar 0, ai b] := e
    subst e
    simp [szL, isL]
  · intro avs M Q hM hav hsp
    obtain ⟨xs, hx⟩ := spF_un _ _ _ hsp
    obtain ⟨e, hl⟩ := unA_mkT hx
    obtain ⟨b, rfl⟩ := len1 hl
    have e : avs = [ar 0, ai b] := e
    subst e
    exact in0_overOf hM (hav (ai b) (by simp)) hsp.1 hsp.2 _ (fun m_ y_b_ y_n y_c M2 hJ => ⟨m_, y_b_, y_n, y_c, rfl, hJ⟩)
  · intro avs M Q hM hav hsp q hq m_ vs M1 hM1 hv hJ
    obtain ⟨xs, hx⟩ := spF_un _ _ _ hsp
    obtain ⟨e, hl⟩ := unA_mkT hx
    obtain ⟨b, rfl⟩ := len1 hl
    have e : avs = [ar 0, ai b] := e
    subst e
    simp only [List.mem_cons, List.not_mem_nil, or_false] at hq
    rcases hq with rfl
    · obtain ⟨y_b_, y_n, y_c, rfl, hJ⟩ := hJ
      exact at0_overOf_4 hM (hav (ai b) (by simp)) hsp.1 hsp.2 hM1 (hv (1, ai y_b_) (List.mem_of_getElem? (i := 1) rfl)) (hv (2, ai y_n) (List.mem_of_getElem? (i := 2) rfl)) (hv (3, ai y_c) (List.mem_of_getElem? (i := 3) rfl)) hJ _ (fun m2 z_b_ z_n z_c M2 hm hJ2 => ⟨m2, hm, z_b_, z_n, z_c, rfl, hJ2⟩)
theorem cg0_overOf {rs : List (Nat × Nat)} {lvl : Nat} (h : 0 < lvl) : CG RX0 cl8 (sh8 rs) tyl8 Nws8 lvl 1 274 2 (sp0_overOf rs) := cg_V (sg := [0]) nws8_ok spF_mono spF_un m0_overOf h rfl (by decide) rfl rfl ⟨rfl, by decide, by decide, rfl⟩ q875 q877 qs28 q128 q878
theorem orN_c {f g : Nat → Int} : ∀ {n : Nat}, (∀ k, k < n → f k = g k) → orN f n = orN g n := by
  intro n
  induction n with
  | zero => intro _; rfl
  | succ n ih =>
    intro h
    show bor (orN f n) (f n) = bor (orN g n) (g n)
    rw [ih fun k hk => h k (by omega), h n (by omega)]
theorem over_x {V : Vy} {M1 : Mm} (h4 : 0 ≤ V 0 4) (h : laidX V (tellP V) M1) (b : Int) : orN (fun c => if M1 19 c = b then bshl 1 c else 0) (V 0 4).toNat = orN (fun c => if wentS V (tellP V) (pT V c) c = b then bshl 1 c else 0) (V 0 4).toNat := orN_c fun k hk => by
  rw [(laid_out h (c := k) (by omega)).1]
def P0_over (rs : List (Nat × Nat)) (b : Int) (M : Mm) : Prop := okX M
def R0_over (rs : List (Nat × Nat)) (b : Int) (M : Mm) (v : Int) (M1 : Mm) : Prop := keepX M M1 ∧ v = A_over (vX M) b
def sp0_over (rs : List (Nat × Nat)) : Spec := spR true [0] 1 (fun x M => P0_over rs (x 0) M) (fun x M v M1 => R0_over rs (x 0) M v M1)
theorem c0_over {rs : List (Nat × Nat)} {b : Int} {M : Mm} {Q : Option AV → Mm → Prop} : sp0_over rs [ar 0, ai b] M Q = (P0_over rs b M ∧ ∀ (v : Int) (M1 : Mm), R0_over rs b M v M1 → Q (some (ai v)) M1) := rfl
def cs0_over (rs : List (Nat × Nat)) : List (Nat × Nat × Nat × Spec) := [(271, 1, 2, (sp0_asksBridge rs)), (274, 1, 2, (sp0_overOf rs))]
set_option maxHeartbeats 4000000 in
set_option maxRecDepth 100000 in
theorem in0_over {rs : List (Nat × Nat)} {b : Int} {M : Mm} {Q : Option AV → Mm → Prop} (hM : okM (sh8 rs) M) (h_b : i32 b) (hP : P0_over rs b M) (hQ : ∀ (v : Int) (M1 : Mm), R0_over rs b M v M1 → Q (some (ai v)) M1) : wp (tb0 (csL (cs0_over rs))) (sh8 rs) 2 1 cX0_over [] Q 400 0 [(0, ar 0), (1, ai b)] [] M := by
  obtain ⟨hY, hB⟩ := id hP
  have h4 : 0 ≤ M 1 5 ∧ M 1 5 ≤ 7 := (okY_n hY).2.1
  simp only [e_wp dX0_over_0 rfl, e_wp dX0_over_1 rfl, e_wp dX0_over_2 rfl, e_wp dX0_over_5 rfl, e_wp dX0_over_8 rfl, e_wp dX0_over_9 rfl, e_wp dX0_over_10 rfl, e_wp dX0_over_13 rfl, e_wp dX0_over_16 rfl, e_wp dX0_over_18 rfl, c0_asksBridge, cs0_over, c0_overOf, P0_overOf, V0_overOf, e_iconst, e_bipush, e_sipush, e_lconst_0, e_lconst_1, e_iload, e_iload_0, e_iload_1, e_iload_2, e_iload_3, e_lload, e_lload_0, e_lload_1, e_lload_2, e_lload_3, e_aload, e_aload_0, e_aload_1, e_aload_2, e_aload_3, e_istore, e_istore_0, e_istore_1, e_istore_2, e_istore_3, e_astore, e_astore_0, e_astore_1, e_astore_2, e_astore_3, e_lstore, e_lstore_0, e_lstore_1, e_lstore_2, e_lstore_3, e_iinc, e_iadd, e_isub, e_imul, e_ladd, e_lsub, e_lmul, e_idiv, e_irem, e_ldiv, e_lrem, e_ineg, e_lneg, e_iand, e_ior, e_ixor, e_ishl, e_ishr, e_iushr, e_lcmp, e_i2l, e_l2i, e_i2b, e_i2s, e_dup_i, e_dup_r, e_pop_i, e_pop_r, e_dup2_l, e_dup2_ir, e_dup2_ii, e_ifeq, e_ifne, e_iflt, e_ifge, e_ifgt, e_ifle, e_iceq, e_icne, e_iclt, e_icge, e_icgt, e_icle, e_goto, e_switch, e_invokevirtual, e_invokestatic, e_invokespecial, e_ret0, e_ret1, e_ret2, e_ret3, ldI_s, ldL_s, ldR_s, clO_s, ctP_s, ctS_s, mgo_0, mgo_s, pjc_s, pj_0, pj_s, lk_s, rm1_0, rm1_i, rm1_r, rm1_l, rm2_0, rm2_i, rm2_r, rm2_l, csL_s, lc_lt, lc_ge, lc_gt, lc_le, lc_eq, b01_0, b01_1, b01_01, b01_n, up2_o, up2_s, up2_u, ne_eq, reduceCtorEq, Nat.reduceAdd, Nat.reduceEqDiff, Nat.reduceLT, Nat.reduceLeDiff, Int.reduceLE, Int.reduceLT, Int.reduceAdd, Int.reduceNeg, Int.reduceMul, Int.reduceSub, Int.reduceEq, Int.reduceToNat, Int.reduceNatCast, Int.cast_ofNat_Int, ↓reduceIte, and_self, List.drop_succ_cons, List.drop_zero, List.take_succ_cons, List.take_zero, List.length_cons, List.length_nil, List.reverse_cons, List.reverse_nil, List.nil_append, List.cons_append, Option.toList, true_and, and_true, or_false, false_or, or_true, true_or, forall_const, Classical.not_not, not_false_eq_true, not_true_eq_false, false_implies, true_implies, implies_true, imp_self]
  refine ⟨⟨hY, hB⟩, fun v M1 hR => ?_⟩
  obtain ⟨r1, r2, r3⟩ := hR
  refine ⟨fun z => hQ _ _ ⟨r1, ?_⟩, fun z => ?_⟩
  · rw [r2, b01_0] at z
    exact (if_neg z).symm
  · rw [r2, b01_0] at z
    have z2 := Classical.not_not.mp z
    rw [keepX_1 r1]
    refine ⟨h4, hQ _ _ ⟨r1, ?_⟩⟩
    rw [show (M 1 5) = vX M 0 4 from rfl, over_x h4.1 r3 b]
    exact (if_pos z2).symm
set_option maxHeartbeats 4000000 in
set_option maxRecDepth 100000 in
theorem m0_over {rs : List (Nat × Nat)} : MOK cl8 (sh8 rs) tyl8 Nws8 8 yX0_over cX0_over 2 (some .int) (sp0_over rs) := by
  refine mok_of (own := RX0) (tb := tb0 (csL (cs0_over rs))) (rt := 1) (fuel := 400) (fun avs M Q => []) (by decide) rfl nws8_ok (tbOK0 _) rfl (csL_all ?_) ?_ ?_ ?_
  · intro q hq
    simp only [cs0_over, List.mem_cons, List.not_mem_nil, or_false] at hq
    rcases hq with rfl | rfl
    · exact cg0_asksBridge (by decide)
    · exact cg0_overOf (by decide)
  · intro avs M Q hsp
    obtain ⟨xs, hx⟩ := spR_un _ _ _ hsp
    obtain ⟨e, hl⟩ := unA_mkT hx
    obtain ⟨b, rfl⟩ := len1 hl
    have e : avs = [ar 0, ai b] := e
    subst e
    simp [szL, isL]
  · intro avs M Q hM hav hsp
    obtain ⟨xs, hx⟩ := spR_un _ _ _ hsp
    obtain ⟨e, hl⟩ := unA_mkT hx
    obtain ⟨b, rfl⟩ := len1 hl
    have e : avs = [ar 0, ai b] := e
    subst e
    exact in0_over hM (hav (ai b) (by simp)) hsp.1 hsp.2
  · intro avs M Q hM hav hsp q hq m_ vs M1 hM1 hv hJ
    obtain ⟨xs, hx⟩ := spR_un _ _ _ hsp
    obtain ⟨e, hl⟩ := unA_mkT hx
    obtain ⟨b, rfl⟩ := len1 hl
    have e : avs = [ar 0, ai b] := e
    subst e
    cases hq
def P0_waits (rs : List (Nat × Nat)) (M : Mm) : Prop := okX M
def R0_waits (rs : List (Nat × Nat)) (M : Mm) (v : Int) (M1 : Mm) : Prop := keepX M M1 ∧ v = A_waits (vX M)
def sp0_waits (rs : List (Nat × Nat)) : Spec := spR true [] 1 (fun x M => P0_waits rs M) (fun x M v M1 => R0_waits rs M v M1)
theorem c0_waits {rs : List (Nat × Nat)} {M : Mm} {Q : Option AV → Mm → Prop} : sp0_waits rs [ar 0] M Q = (P0_waits rs M ∧ ∀ (v : Int) (M1 : Mm), R0_waits rs M v M1 → Q (some (ai v)) M1) := rfl
def cs0_waits (rs : List (Nat × Nat)) : List (Nat × Nat × Nat × Spec) := [(260, 1, 1, (sp0_asksValley rs)), (274, 1, 2, (sp0_overOf rs))]
set_option maxHeartbeats 4000000 in
set_option maxRecDepth 100000 in
theorem in0_waits {rs : List (Nat × Nat)} {M : Mm} {Q : Option AV → Mm → Prop} (hM : okM (sh8 rs) M) (hP : P0_waits rs M) (hQ : ∀ (v : Int) (M1 : Mm), R0_waits rs M v M1 → Q (some (ai v)) M1) : wp (tb0 (csL (cs0_waits rs))) (sh8 rs) 1 1 cX0_waits [] Q 400 0 [(0, ar 0)] [] M := by
  obtain ⟨hY, hB⟩ := id hP
  have h4 : 0 ≤ M 1 5 ∧ M 1 5 ≤ 7 := (okY_n hY).2.1
  simp only [e_wp dX0_waits_0 rfl, e_wp dX0_waits_1 rfl, e_wp dX0_waits_4 rfl, e_wp dX0_waits_7 rfl, e_wp dX0_waits_8 rfl, e_wp dX0_waits_9 rfl, e_wp dX0_waits_12 rfl, e_wp dX0_waits_15 rfl, e_wp dX0_waits_17 rfl, c0_asksValley, cs0_waits, c0_overOf, P0_overOf, V0_overOf, e_iconst, e_bipush, e_sipush, e_lconst_0, e_lconst_1, e_iload, e_iload_0, e_iload_1, e_iload_2, e_iload_3, e_lload, e_lload_0, e_lload_1, e_lload_2, e_lload_3, e_aload, e_aload_0, e_aload_1, e_aload_2, e_aload_3, e_istore, e_istore_0, e_istore_1, e_istore_2, e_istore_3, e_astore, e_astore_0, e_astore_1, e_astore_2, e_astore_3, e_lstore, e_lstore_0, e_lstore_1, e_lstore_2, e_lstore_3, e_iinc, e_iadd, e_isub, e_imul, e_ladd, e_lsub, e_lmul, e_idiv, e_irem, e_ldiv, e_lrem, e_ineg, e_lneg, e_iand, e_ior, e_ixor, e_ishl, e_ishr, e_iushr, e_lcmp, e_i2l, e_l2i, e_i2b, e_i2s, e_dup_i, e_dup_r, e_pop_i, e_pop_r, e_dup2_l, e_dup2_ir, e_dup2_ii, e_ifeq, e_ifne, e_iflt, e_ifge, e_ifgt, e_ifle, e_iceq, e_icne, e_iclt, e_icge, e_icgt, e_icle, e_goto, e_switch, e_invokevirtual, e_invokestatic, e_invokespecial, e_ret0, e_ret1, e_ret2, e_ret3, ldI_s, ldL_s, ldR_s, clO_s, ctP_s, ctS_s, mgo_0, mgo_s, pjc_s, pj_0, pj_s, lk_s, rm1_0, rm1_i, rm1_r, rm1_l, rm2_0, rm2_i, rm2_r, rm2_l, csL_s, lc_lt, lc_ge, lc_gt, lc_le, lc_eq, b01_0, b01_1, b01_01, b01_n, up2_o, up2_s, up2_u, ne_eq, reduceCtorEq, Nat.reduceAdd, Nat.reduceEqDiff, Nat.reduceLT, Nat.reduceLeDiff, Int.reduceLE, Int.reduceLT, Int.reduceAdd, Int.reduceNeg, Int.reduceMul, Int.reduceSub, Int.reduceEq, Int.reduceToNat, Int.reduceNatCast, Int.cast_ofNat_Int, ↓reduceIte, and_self, List.drop_succ_cons, List.drop_zero, List.take_succ_cons, List.take_zero, List.length_cons, List.length_nil, List.reverse_cons, List.reverse_nil, List.nil_append, List.cons_append, Option.toList, true_and, and_true, or_false, false_or, or_true, true_or, forall_const, Classical.not_not, not_false_eq_true, not_true_eq_false, false_implies, true_implies, implies_true, imp_self]
  refine ⟨⟨hY, hB⟩, fun v M1 hR => ?_⟩
  obtain ⟨r1, r2, r3⟩ := hR
  refine ⟨fun z => hQ _ _ ⟨r1, ?_⟩, fun z => ?_⟩
  · rw [r2, b01_0] at z
    exact (if_neg z).symm
  · rw [r2, b01_0] at z
    have z2 := Classical.not_not.mp z
    rw [keepX_1 r1]
    refine ⟨h4, hQ _ _ ⟨r1, ?_⟩⟩
    rw [show (M 1 5) = vX M 0 4 from rfl, over_x h4.1 r3 (-1)]
    exact (if_pos z2).symm
set_option maxHeartbeats 4000000 in
set_option maxRecDepth 100000 in
theorem m0_waits {rs : List (Nat × Nat)} : MOK cl8 (sh8 rs) tyl8 Nws8 7 yX0_waits cX0_waits 1 (some .int) (sp0_waits rs) := by
  refine mok_of (own := RX0) (tb := tb0 (csL (cs0_waits rs))) (rt := 1) (fuel := 400) (fun avs M Q => []) (by decide) rfl nws8_ok (tbOK0 _) rfl (csL_all ?_) ?_ ?_ ?_
  · intro q hq
    simp only [cs0_waits, List.mem_cons, List.not_mem_nil, or_false] at hq
    rcases hq with rfl | rfl
    · exact cg0_asksValley (by decide)
    · exact cg0_overOf (by decide)
  · intro avs M Q hsp
    obtain ⟨xs, hx⟩ := spR_un _ _ _ hsp
    obtain ⟨e, hl⟩ := unA_mkT hx
    obtain rfl := len0 hl
    have e : avs = [ar 0] := e
    subst e
    simp [szL, isL]
  · intro avs M Q hM hav hsp
    obtain ⟨xs, hx⟩ := spR_un _ _ _ hsp
    obtain ⟨e, hl⟩ := unA_mkT hx
    obtain rfl := len0 hl
    have e : avs = [ar 0] := e
    subst e
    exact in0_waits hM hsp.1 hsp.2
  · intro avs M Q hM hav hsp q hq m_ vs M1 hM1 hv hJ
    obtain ⟨xs, hx⟩ := spR_un _ _ _ hsp
    obtain ⟨e, hl⟩ := unA_mkT hx
    obtain rfl := len0 hl
    have e : avs = [ar 0] := e
    subst e
    cases hq
