/-! SagMemory: questions of one cart -/
def P0_goes (rs : List (Nat × Nat)) (c : Int) (M : Mm) : Prop := okX M
def R0_goes (rs : List (Nat × Nat)) (c : Int) (M : Mm) (v : Int) (M1 : Mm) : Prop := keepX M M1 ∧ v = A_goes (vX M) c
def sp0_goes (rs : List (Nat × Nat)) : Spec := spR true [0] 1 (fun x M => P0_goes rs (x 0) M) (fun x M v M1 => R0_goes rs (x 0) M v M1)
theorem c0_goes {rs : List (Nat × Nat)} {c : Int} {M : Mm} {Q : Option AV → Mm → Prop} : sp0_goes rs [ar 0, ai c] M Q = (P0_goes rs c M ∧ ∀ (v : Int) (M1 : Mm), R0_goes rs c M v M1 → Q (some (ai v)) M1) := rfl
def cs0_goes (rs : List (Nat × Nat)) : List (Nat × Nat × Nat × Spec) := [(263, 1, 2, (sp0_asksCart rs))]
set_option maxHeartbeats 4000000 in
set_option maxRecDepth 100000 in
theorem in0_goes {rs : List (Nat × Nat)} {c : Int} {M : Mm} {Q : Option AV → Mm → Prop} (hM : okM (sh8 rs) M) (h_c : i32 c) (hP : P0_goes rs c M) (hQ : ∀ (v : Int) (M1 : Mm), R0_goes rs c M v M1 → Q (some (ai v)) M1) : wp (tb0 (csL (cs0_goes rs))) (sh8 rs) 2 1 cX0_goes [] Q 400 0 [(0, ar 0), (1, ai c)] [] M := by
  obtain ⟨hY, hB⟩ := id hP
  have h4 : 0 ≤ M 1 5 ∧ M 1 5 ≤ 7 := (okY_n hY).2.1
  simp only [e_wp dX0_goes_0 rfl, e_wp dX0_goes_1 rfl, e_wp dX0_goes_2 rfl, e_wp dX0_goes_5 rfl, e_wp dX0_goes_8 rfl, e_wp dX0_goes_9 rfl, e_wp dX0_goes_12 rfl, e_wp dX0_goes_13 rfl, e_wp dX0_goes_14 rfl, e_wp dX0_goes_17 rfl, e_wp dX0_goes_19 rfl, c0_asksCart, cs0_goes, g0_65, a8_13, w8_13, a8_14, w8_14, a8_15, w8_15, a8_16, w8_16, a8_17, w8_17, a8_18, w8_18, a8_19, w8_19, a8_20, w8_20, a8_21, w8_21, a8_22, w8_22, a8_23, w8_23, a8_24, w8_24, a8_25, w8_25, a8_26, w8_26, a8_27, w8_27, a8_28, w8_28, a8_29, w8_29, a8_30, w8_30, a8_31, w8_31, a8_32, w8_32, a8_33, w8_33, a8_34, w8_34, a8_35, w8_35, a8_36, w8_36, a8_37, w8_37, a8_38, w8_38, a8_39, w8_39, a8_40, w8_40, a8_12, w8_12, a8_6, a8_7, e_iconst, e_bipush, e_sipush, e_lconst_0, e_lconst_1, e_iload, e_iload_0, e_iload_1, e_iload_2, e_iload_3, e_lload, e_lload_0, e_lload_1, e_lload_2, e_lload_3, e_aload, e_aload_0, e_aload_1, e_aload_2, e_aload_3, e_istore, e_istore_0, e_istore_1, e_istore_2, e_istore_3, e_astore, e_astore_0, e_astore_1, e_astore_2, e_astore_3, e_lstore, e_lstore_0, e_lstore_1, e_lstore_2, e_lstore_3, e_iinc, e_iadd, e_isub, e_imul, e_ladd, e_lsub, e_lmul, e_idiv, e_irem, e_ldiv, e_lrem, e_ineg, e_lneg, e_iand, e_ior, e_ixor, e_ishl, e_ishr, e_iushr, e_lcmp, e_i2l, e_l2i, e_i2b, e_i2s, e_dup_i, e_dup_r, e_pop_i, e_pop_r, e_dup2_l, e_dup2_ir, e_dup2_ii, e_ifeq, e_ifne, e_iflt, e_ifge, e_ifgt, e_ifle, e_iceq, e_icne, e_iclt, e_icge, e_icgt, e_icle, e_goto, e_switch, e_invokevirtual, e_invokestatic, e_invokespecial, e_ret0, e_ret1, e_ret2, e_ret3, ldI_s, ldL_s, ldR_s, clO_s, ctP_s, ctS_s, mgo_0, mgo_s, pjc_s, pj_0, pj_s, lk_s, rm1_0, rm1_i, rm1_r, rm1_l, rm2_0, rm2_i, rm2_r, rm2_l, csL_s, lc_lt, lc_ge, lc_gt, lc_le, lc_eq, b01_0, b01_1, b01_01, b01_n, up2_o, up2_s, up2_u, ne_eq, reduceCtorEq, Nat.reduceAdd, Nat.reduceEqDiff, Nat.reduceLT, Nat.reduceLeDiff, Int.reduceLE, Int.reduceLT, Int.reduceAdd, Int.reduceNeg, Int.reduceMul, Int.reduceSub, Int.reduceEq, Int.reduceToNat, Int.reduceNatCast, Int.cast_ofNat_Int, ↓reduceIte, and_self, List.drop_succ_cons, List.drop_zero, List.take_succ_cons, List.take_zero, List.length_cons, List.length_nil, List.reverse_cons, List.reverse_nil, List.nil_append, List.cons_append, Option.toList, true_and, and_true, or_false, false_or, or_true, true_or, forall_const, Classical.not_not, not_false_eq_true, not_true_eq_false, false_implies, true_implies, implies_true, imp_self]
  refine ⟨⟨hY, hB⟩, fun v M1 hR => ?_⟩
  obtain ⟨r1, r2, r3⟩ := hR
  refine ⟨fun z => hQ _ _ ⟨r1, ?_⟩, fun z => ?_⟩
  · rw [r2, b01_0] at z
    exact (if_neg z).symm
  · rw [r2, b01_0] at z
    have z2 := Classical.not_not.mp z
    have k := laid_out r3 (c := c.toNat) (by show ((c.toNat : Nat) : Int) < M 1 5; omega)
    refine ⟨by omega, hQ _ _ ⟨r1, ?_⟩⟩
    rw [k.1]
    exact (if_pos z2).symm
set_option maxHeartbeats 4000000 in
set_option maxRecDepth 100000 in
theorem m0_goes {rs : List (Nat × Nat)} : MOK cl8 (sh8 rs) tyl8 Nws8 8 yX0_goes cX0_goes 2 (some .int) (sp0_goes rs) := by
  refine mok_of (own := RX0) (tb := tb0 (csL (cs0_goes rs))) (rt := 1) (fuel := 400) (fun avs M Q => []) (by decide) rfl nws8_ok (tbOK0 _) rfl (csL_all ?_) ?_ ?_ ?_
  · intro q hq
    simp only [cs0_goes, List.mem_cons, List.not_mem_nil, or_false] at hq
    rcases hq with rfl
    · exact cg0_asksCart (by decide)
  · intro avs M Q hsp
    obtain ⟨xs, hx⟩ := spR_un _ _ _ hsp
    obtain ⟨e, hl⟩ := unA_mkT hx
    obtain ⟨c, rfl⟩ := len1 hl
    have e : avs = [ar 0, ai c] := e
    subst e
    simp [szL, isL]
  · intro avs M Q hM hav hsp
    obtain ⟨xs, hx⟩ := spR_un _ _ _ hsp
    obtain ⟨e, hl⟩ := unA_mkT hx
    obtain ⟨c, rfl⟩ := len1 hl
    have e : avs = [ar 0, ai c] := e
    subst e
    exact in0_goes hM (hav (ai c) (by simp)) hsp.1 hsp.2
  · intro avs M Q hM hav hsp q hq m_ vs M1 hM1 hv hJ
    obtain ⟨xs, hx⟩ := spR_un _ _ _ hsp
    obtain ⟨e, hl⟩ := unA_mkT hx
    obtain ⟨c, rfl⟩ := len1 hl
    have e : avs = [ar 0, ai c] := e
    subst e
    cases hq
def P0_comes (rs : List (Nat × Nat)) (c : Int) (M : Mm) : Prop := okX M
def R0_comes (rs : List (Nat × Nat)) (c : Int) (M : Mm) (v : Int) (M1 : Mm) : Prop := keepX M M1 ∧ v = A_comes (vX M) c
def sp0_comes (rs : List (Nat × Nat)) : Spec := spR true [0] 1 (fun x M => P0_comes rs (x 0) M) (fun x M v M1 => R0_comes rs (x 0) M v M1)
theorem c0_comes {rs : List (Nat × Nat)} {c : Int} {M : Mm} {Q : Option AV → Mm → Prop} : sp0_comes rs [ar 0, ai c] M Q = (P0_comes rs c M ∧ ∀ (v : Int) (M1 : Mm), R0_comes rs c M v M1 → Q (some (ai v)) M1) := rfl
def cs0_comes (rs : List (Nat × Nat)) : List (Nat × Nat × Nat × Spec) := [(263, 1, 2, (sp0_asksCart rs))]
set_option maxHeartbeats 4000000 in
set_option maxRecDepth 100000 in
theorem in0_comes {rs : List (Nat × Nat)} {c : Int} {M : Mm} {Q : Option AV → Mm → Prop} (hM : okM (sh8 rs) M) (h_c : i32 c) (hP : P0_comes rs c M) (hQ : ∀ (v : Int) (M1 : Mm), R0_comes rs c M v M1 → Q (some (ai v)) M1) : wp (tb0 (csL (cs0_comes rs))) (sh8 rs) 2 1 cX0_comes [] Q 400 0 [(0, ar 0), (1, ai c)] [] M := by
  obtain ⟨hY, hB⟩ := id hP
  have h4 : 0 ≤ M 1 5 ∧ M 1 5 ≤ 7 := (okY_n hY).2.1
  simp only [e_wp dX0_comes_0 rfl, e_wp dX0_comes_1 rfl, e_wp dX0_comes_2 rfl, e_wp dX0_comes_5 rfl, e_wp dX0_comes_8 rfl, e_wp dX0_comes_9 rfl, e_wp dX0_comes_12 rfl, e_wp dX0_comes_13 rfl, e_wp dX0_comes_14 rfl, e_wp dX0_comes_17 rfl, e_wp dX0_comes_19 rfl, c0_asksCart, cs0_comes, g0_68, a8_13, w8_13, a8_14, w8_14, a8_15, w8_15, a8_16, w8_16, a8_17, w8_17, a8_18, w8_18, a8_19, w8_19, a8_20, w8_20, a8_21, w8_21, a8_22, w8_22, a8_23, w8_23, a8_24, w8_24, a8_25, w8_25, a8_26, w8_26, a8_27, w8_27, a8_28, w8_28, a8_29, w8_29, a8_30, w8_30, a8_31, w8_31, a8_32, w8_32, a8_33, w8_33, a8_34, w8_34, a8_35, w8_35, a8_36, w8_36, a8_37, w8_37, a8_38, w8_38, a8_39, w8_39, a8_40, w8_40, a8_12, w8_12, a8_6, a8_7, e_iconst, e_bipush, e_sipush, e_lconst_0, e_lconst_1, e_iload, e_iload_0, e_iload_1, e_iload_2, e_iload_3, e_lload, e_lload_0, e_lload_1, e_lload_2, e_lload_3, e_aload, e_aload_0, e_aload_1, e_aload_2, e_aload_3, e_istore, e_istore_0, e_istore_1, e_istore_2, e_istore_3, e_astore, e_astore_0, e_astore_1, e_astore_2, e_astore_3, e_lstore, e_lstore_0, e_lstore_1, e_lstore_2, e_lstore_3, e_iinc, e_iadd, e_isub, e_imul, e_ladd, e_lsub, e_lmul, e_idiv, e_irem, e_ldiv, e_lrem, e_ineg, e_lneg, e_iand, e_ior, e_ixor, e_ishl, e_ishr, e_iushr, e_lcmp, e_i2l, e_l2i, e_i2b, e_i2s, e_dup_i, e_dup_r, e_pop_i, e_pop_r, e_dup2_l, e_dup2_ir, e_dup2_ii, e_ifeq, e_ifne, e_iflt, e_ifge, e_ifgt, e_ifle, e_iceq, e_icne, e_iclt, e_icge, e_icgt, e_icle, e_goto, e_switch, e_invokevirtual, e_invokestatic, e_invokespecial, e_ret0, e_ret1, e_ret2, e_ret3, ldI_s, ldL_s, ldR_s, clO_s, ctP_s, ctS_s, mgo_0, mgo_s, pjc_s, pj_0, pj_s, lk_s, rm1_0, rm1_i, rm1_r, rm1_l, rm2_0, rm2_i, rm2_r, rm2_l, csL_s, lc_lt, lc_ge, lc_gt, lc_le, lc_eq, b01_0, b01_1, b01_01, b01_n, up2_o, up2_s, up2_u, ne_eq, reduceCtorEq, Nat.reduceAdd, Nat.reduceEqDiff, Nat.reduceLT, Nat.reduceLeDiff, Int.reduceLE, Int.reduceLT, Int.reduceAdd, Int.reduceNeg, Int.reduceMul, Int.reduceSub, Int.reduceEq, Int.reduceToNat, Int.reduceNatCast, Int.cast_ofNat_Int, ↓reduceIte, and_self, List.drop_succ_cons, List.drop_zero, List.take_succ_cons, List.take_zero, List.length_cons, List.length_nil, List.reverse_cons, List.reverse_nil, List.nil_append, List.cons_append, Option.toList, true_and, and_true, or_false, false_or, or_true, true_or, forall_const, Classical.not_not, not_false_eq_true, not_true_eq_false, false_implies, true_implies, implies_true, imp_self]
  refine ⟨⟨hY, hB⟩, fun v M1 hR => ?_⟩
  obtain ⟨r1, r2, r3⟩ := hR
  refine ⟨fun z => hQ _ _ ⟨r1, ?_⟩, fun z => ?_⟩
  · rw [r2, b01_0] at z
    exact (if_neg z).symm
  · rw [r2, b01_0] at z
    have z2 := Classical.not_not.mp z
    have k := laid_out r3 (c := c.toNat) (by show ((c.toNat : Nat) : Int) < M 1 5; omega)
    refine ⟨by omega, hQ _ _ ⟨r1, ?_⟩⟩
    rw [k.2.1]
    exact (if_pos z2).symm
set_option maxHeartbeats 4000000 in
set_option maxRecDepth 100000 in
theorem m0_comes {rs : List (Nat × Nat)} : MOK cl8 (sh8 rs) tyl8 Nws8 8 yX0_comes cX0_comes 2 (some .int) (sp0_comes rs) := by
  refine mok_of (own := RX0) (tb := tb0 (csL (cs0_comes rs))) (rt := 1) (fuel := 400) (fun avs M Q => []) (by decide) rfl nws8_ok (tbOK0 _) rfl (csL_all ?_) ?_ ?_ ?_
  · intro q hq
    simp only [cs0_comes, List.mem_cons, List.not_mem_nil, or_false] at hq
    rcases hq with rfl
    · exact cg0_asksCart (by decide)
  · intro avs M Q hsp
    obtain ⟨xs, hx⟩ := spR_un _ _ _ hsp
    obtain ⟨e, hl⟩ := unA_mkT hx
    obtain ⟨c, rfl⟩ := len1 hl
    have e : avs = [ar 0, ai c] := e
    subst e
    simp [szL, isL]
  · intro avs M Q hM hav hsp
    obtain ⟨xs, hx⟩ := spR_un _ _ _ hsp
    obtain ⟨e, hl⟩ := unA_mkT hx
    obtain ⟨c, rfl⟩ := len1 hl
    have e : avs = [ar 0, ai c] := e
    subst e
    exact in0_comes hM (hav (ai c) (by simp)) hsp.1 hsp.2
  · intro avs M Q hM hav hsp q hq m_ vs M1 hM1 hv hJ
    obtain ⟨xs, hx⟩ := spR_un _ _ _ hsp
    obtain ⟨e, hl⟩ := unA_mkT hx
    obtain ⟨c, rfl⟩ := len1 hl
    have e : avs = [ar 0, ai c] := e
    subst e
    cases hq
def P0_gives (rs : List (Nat × Nat)) (c : Int) (M : Mm) : Prop := okX M
def R0_gives (rs : List (Nat × Nat)) (c : Int) (M : Mm) (v : Int) (M1 : Mm) : Prop := keepX M M1 ∧ v = A_gives (vX M) c
def sp0_gives (rs : List (Nat × Nat)) : Spec := spR true [0] 1 (fun x M => P0_gives rs (x 0) M) (fun x M v M1 => R0_gives rs (x 0) M v M1)
theorem c0_gives {rs : List (Nat × Nat)} {c : Int} {M : Mm} {Q : Option AV → Mm → Prop} : sp0_gives rs [ar 0, ai c] M Q = (P0_gives rs c M ∧ ∀ (v : Int) (M1 : Mm), R0_gives rs c M v M1 → Q (some (ai v)) M1) := rfl
def cs0_gives (rs : List (Nat × Nat)) : List (Nat × Nat × Nat × Spec) := [(263, 1, 2, (sp0_asksCart rs))]
set_option maxHeartbeats 4000000 in
set_option maxRecDepth 100000 in
theorem in0_gives {rs : List (Nat × Nat)} {c : Int} {M : Mm} {Q : Option AV → Mm → Prop} (hM : okM (sh8 rs) M) (h_c : i32 c) (hP : P0_gives rs c M) (hQ : ∀ (v : Int) (M1 : Mm), R0_gives rs c M v M1 → Q (some (ai v)) M1) : wp (tb0 (csL (cs0_gives rs))) (sh8 rs) 2 1 cX0_gives [] Q 400 0 [(0, ar 0), (1, ai c)] [] M := by
  obtain ⟨hY, hB⟩ := id hP
  have h4 : 0 ≤ M 1 5 ∧ M 1 5 ≤ 7 := (okY_n hY).2.1
  simp only [e_wp dX0_gives_0 rfl, e_wp dX0_gives_1 rfl, e_wp dX0_gives_2 rfl, e_wp dX0_gives_5 rfl, e_wp dX0_gives_8 rfl, e_wp dX0_gives_9 rfl, e_wp dX0_gives_12 rfl, e_wp dX0_gives_13 rfl, e_wp dX0_gives_14 rfl, e_wp dX0_gives_17 rfl, e_wp dX0_gives_20 rfl, c0_asksCart, cs0_gives, g0_71, a8_13, w8_13, a8_14, w8_14, a8_15, w8_15, a8_16, w8_16, a8_17, w8_17, a8_18, w8_18, a8_19, w8_19, a8_20, w8_20, a8_21, w8_21, a8_22, w8_22, a8_23, w8_23, a8_24, w8_24, a8_25, w8_25, a8_26, w8_26, a8_27, w8_27, a8_28, w8_28, a8_29, w8_29, a8_30, w8_30, a8_31, w8_31, a8_32, w8_32, a8_33, w8_33, a8_34, w8_34, a8_35, w8_35, a8_36, w8_36, a8_37, w8_37, a8_38, w8_38, a8_39, w8_39, a8_40, w8_40, a8_12, w8_12, a8_6, a8_7, e_iconst, e_bipush, e_sipush, e_lconst_0, e_lconst_1, e_iload, e_iload_0, e_iload_1, e_iload_2, e_iload_3, e_lload, e_lload_0, e_lload_1, e_lload_2, e_lload_3, e_aload, e_aload_0, e_aload_1, e_aload_2, e_aload_3, e_istore, e_istore_0, e_istore_1, e_istore_2, e_istore_3, e_astore, e_astore_0, e_astore_1, e_astore_2, e_astore_3, e_lstore, e_lstore_0, e_lstore_1, e_lstore_2, e_lstore_3, e_iinc, e_iadd, e_isub, e_imul, e_ladd, e_lsub, e_lmul, e_idiv, e_irem, e_ldiv, e_lrem, e_ineg, e_lneg, e_iand, e_ior, e_ixor, e_ishl, e_ishr, e_iushr, e_lcmp, e_i2l, e_l2i, e_i2b, e_i2s, e_dup_i, e_dup_r, e_pop_i, e_pop_r, e_dup2_l, e_dup2_ir, e_dup2_ii, e_ifeq, e_ifne, e_iflt, e_ifge, e_ifgt, e_ifle, e_iceq, e_icne, e_iclt, e_icge, e_icgt, e_icle, e_goto, e_switch, e_invokevirtual, e_invokestatic, e_invokespecial, e_ret0, e_ret1, e_ret2, e_ret3, ldI_s, ldL_s, ldR_s, clO_s, ctP_s, ctS_s, mgo_0, mgo_s, pjc_s, pj_0, pj_s, lk_s, rm1_0, rm1_i, rm1_r, rm1_l, rm2_0, rm2_i, rm2_r, rm2_l, csL_s, lc_lt, lc_ge, lc_gt, lc_le, lc_eq, b01_0, b01_1, b01_01, b01_n, up2_o, up2_s, up2_u, ne_eq, reduceCtorEq, Nat.reduceAdd, Nat.reduceEqDiff, Nat.reduceLT, Nat.reduceLeDiff, Int.reduceLE, Int.reduceLT, Int.reduceAdd, Int.reduceNeg, Int.reduceMul, Int.reduceSub, Int.reduceEq, Int.reduceToNat, Int.reduceNatCast, Int.cast_ofNat_Int, ↓reduceIte, and_self, List.drop_succ_cons, List.drop_zero, List.take_succ_cons, List.take_zero, List.length_cons, List.length_nil, List.reverse_cons, List.reverse_nil, List.nil_append, List.cons_append, Option.toList, true_and, and_true, or_false, false_or, or_true, true_or, forall_const, Classical.not_not, not_false_eq_true, not_true_eq_false, false_implies, true_implies, implies_true, imp_self]
  refine ⟨⟨hY, hB⟩, fun v M1 hR => ?_⟩
  obtain ⟨r1, r2, r3⟩ := hR
  refine ⟨fun z => hQ _ _ ⟨r1, ?_⟩, fun z => ?_⟩
  · rw [r2, b01_0] at z
    exact (if_neg z).symm
  · rw [r2, b01_0] at z
    have z2 := Classical.not_not.mp z
    have k := laid_out r3 (c := c.toNat) (by show ((c.toNat : Nat) : Int) < M 1 5; omega)
    refine ⟨by omega, hQ _ _ ⟨r1, ?_⟩⟩
    rw [k.2.2.1]
    exact (if_pos z2).symm
set_option maxHeartbeats 4000000 in
set_option maxRecDepth 100000 in
theorem m0_gives {rs : List (Nat × Nat)} : MOK cl8 (sh8 rs) tyl8 Nws8 8 yX0_gives cX0_gives 2 (some .int) (sp0_gives rs) := by
  refine mok_of (own := RX0) (tb := tb0 (csL (cs0_gives rs))) (rt := 1) (fuel := 400) (fun avs M Q => []) (by decide) rfl nws8_ok (tbOK0 _) rfl (csL_all ?_) ?_ ?_ ?_
  · intro q hq
    simp only [cs0_gives, List.mem_cons, List.not_mem_nil, or_false] at hq
    rcases hq with rfl
    · exact cg0_asksCart (by decide)
  · intro avs M Q hsp
    obtain ⟨xs, hx⟩ := spR_un _ _ _ hsp
    obtain ⟨e, hl⟩ := unA_mkT hx
    obtain ⟨c, rfl⟩ := len1 hl
    have e : avs = [ar 0, ai c] := e
    subst e
    simp [szL, isL]
  · intro avs M Q hM hav hsp
    obtain ⟨xs, hx⟩ := spR_un _ _ _ hsp
    obtain ⟨e, hl⟩ := unA_mkT hx
    obtain ⟨c, rfl⟩ := len1 hl
    have e : avs = [ar 0, ai c] := e
    subst e
    exact in0_gives hM (hav (ai c) (by simp)) hsp.1 hsp.2
  · intro avs M Q hM hav hsp q hq m_ vs M1 hM1 hv hJ
    obtain ⟨xs, hx⟩ := spR_un _ _ _ hsp
    obtain ⟨e, hl⟩ := unA_mkT hx
    obtain ⟨c, rfl⟩ := len1 hl
    have e : avs = [ar 0, ai c] := e
    subst e
    cases hq
def P0_creak (rs : List (Nat × Nat)) (c : Int) (M : Mm) : Prop := okX M
def R0_creak (rs : List (Nat × Nat)) (c : Int) (M : Mm) (v : Int) (M1 : Mm) : Prop := keepX M M1 ∧ v = A_creak (vX M) c
def sp0_creak (rs : List (Nat × Nat)) : Spec := spR true [0] 1 (fun x M => P0_creak rs (x 0) M) (fun x M v M1 => R0_creak rs (x 0) M v M1)
theorem c0_creak {rs : List (Nat × Nat)} {c : Int} {M : Mm} {Q : Option AV → Mm → Prop} : sp0_creak rs [ar 0, ai c] M Q = (P0_creak rs c M ∧ ∀ (v : Int) (M1 : Mm), R0_creak rs c M v M1 → Q (some (ai v)) M1) := rfl
def cs0_creak (rs : List (Nat × Nat)) : List (Nat × Nat × Nat × Spec) := [(263, 1, 2, (sp0_asksCart rs))]
set_option maxHeartbeats 4000000 in
set_option maxRecDepth 100000 in
theorem in0_creak {rs : List (Nat × Nat)} {c : Int} {M : Mm} {Q : Option AV → Mm → Prop} (hM : okM (sh8 rs) M) (h_c : i32 c) (hP : P0_creak rs c M) (hQ : ∀ (v : Int) (M1 : Mm), R0_creak rs c M v M1 → Q (some (ai v)) M1) : wp (tb0 (csL (cs0_creak rs))) (sh8 rs) 2 1 cX0_creak [] Q 400 0 [(0, ar 0), (1, ai c)] [] M := by
  obtain ⟨hY, hB⟩ := id hP
  have h4 : 0 ≤ M 1 5 ∧ M 1 5 ≤ 7 := (okY_n hY).2.1
  simp only [e_wp dX0_creak_0 rfl, e_wp dX0_creak_1 rfl, e_wp dX0_creak_2 rfl, e_wp dX0_creak_5 rfl, e_wp dX0_creak_8 rfl, e_wp dX0_creak_9 rfl, e_wp dX0_creak_12 rfl, e_wp dX0_creak_13 rfl, e_wp dX0_creak_14 rfl, e_wp dX0_creak_17 rfl, e_wp dX0_creak_19 rfl, c0_asksCart, cs0_creak, g0_74, a8_13, w8_13, a8_14, w8_14, a8_15, w8_15, a8_16, w8_16, a8_17, w8_17, a8_18, w8_18, a8_19, w8_19, a8_20, w8_20, a8_21, w8_21, a8_22, w8_22, a8_23, w8_23, a8_24, w8_24, a8_25, w8_25, a8_26, w8_26, a8_27, w8_27, a8_28, w8_28, a8_29, w8_29, a8_30, w8_30, a8_31, w8_31, a8_32, w8_32, a8_33, w8_33, a8_34, w8_34, a8_35, w8_35, a8_36, w8_36, a8_37, w8_37, a8_38, w8_38, a8_39, w8_39, a8_40, w8_40, a8_12, w8_12, a8_6, a8_7, e_iconst, e_bipush, e_sipush, e_lconst_0, e_lconst_1, e_iload, e_iload_0, e_iload_1, e_iload_2, e_iload_3, e_lload, e_lload_0, e_lload_1, e_lload_2, e_lload_3, e_aload, e_aload_0, e_aload_1, e_aload_2, e_aload_3, e_istore, e_istore_0, e_istore_1, e_istore_2, e_istore_3, e_astore, e_astore_0, e_astore_1, e_astore_2, e_astore_3, e_lstore, e_lstore_0, e_lstore_1, e_lstore_2, e_lstore_3, e_iinc, e_iadd, e_isub, e_imul, e_ladd, e_lsub, e_lmul, e_idiv, e_irem, e_ldiv, e_lrem, e_ineg, e_lneg, e_iand, e_ior, e_ixor, e_ishl, e_ishr, e_iushr, e_lcmp, e_i2l, e_l2i, e_i2b, e_i2s, e_dup_i, e_dup_r, e_pop_i, e_pop_r, e_dup2_l, e_dup2_ir, e_dup2_ii, e_ifeq, e_ifne, e_iflt, e_ifge, e_ifgt, e_ifle, e_iceq, e_icne, e_iclt, e_icge, e_icgt, e_icle, e_goto, e_switch, e_invokevirtual, e_invokestatic, e_invokespecial, e_ret0, e_ret1, e_ret2, e_ret3, ldI_s, ldL_s, ldR_s, clO_s, ctP_s, ctS_s, mgo_0, mgo_s, pjc_s, pj_0, pj_s, lk_s, rm1_0, rm1_i, rm1_r, rm1_l, rm2_0, rm2_i, rm2_r, rm2_l, csL_s, lc_lt, lc_ge, lc_gt, lc_le, lc_eq, b01_0, b01_1, b01_01, b01_n, up2_o, up2_s, up2_u, ne_eq, reduceCtorEq, Nat.reduceAdd, Nat.reduceEqDiff, Nat.reduceLT, Nat.reduceLeDiff, Int.reduceLE, Int.reduceLT, Int.reduceAdd, Int.reduceNeg, Int.reduceMul, Int.reduceSub, Int.reduceEq, Int.reduceToNat, Int.reduceNatCast, Int.cast_ofNat_Int, ↓reduceIte, and_self, List.drop_succ_cons, List.drop_zero, List.take_succ_cons, List.take_zero, List.length_cons, List.length_nil, List.reverse_cons, List.reverse_nil, List.nil_append, List.cons_append, Option.toList, true_and, and_true, or_false, false_or, or_true, true_or, forall_const, Classical.not_not, not_false_eq_true, not_true_eq_false, false_implies, true_implies, implies_true, imp_self]
  refine ⟨⟨hY, hB⟩, fun v M1 hR => ?_⟩
  obtain ⟨r1, r2, r3⟩ := hR
  refine ⟨fun z => hQ _ _ ⟨r1, ?_⟩, fun z => ?_⟩
  · rw [r2, b01_0] at z
    exact (if_neg z).symm
  · rw [r2, b01_0] at z
    have z2 := Classical.not_not.mp z
    have k := laid_out r3 (c := c.toNat) (by show ((c.toNat : Nat) : Int) < M 1 5; omega)
    refine ⟨by omega, hQ _ _ ⟨r1, ?_⟩⟩
    rw [k.2.2.2.1]
    exact (if_pos z2).symm
set_option maxHeartbeats 4000000 in
set_option maxRecDepth 100000 in
theorem m0_creak {rs : List (Nat × Nat)} : MOK cl8 (sh8 rs) tyl8 Nws8 8 yX0_creak cX0_creak 2 (some .int) (sp0_creak rs) := by
  refine mok_of (own := RX0) (tb := tb0 (csL (cs0_creak rs))) (rt := 1) (fuel := 400) (fun avs M Q => []) (by decide) rfl nws8_ok (tbOK0 _) rfl (csL_all ?_) ?_ ?_ ?_
  · intro q hq
    simp only [cs0_creak, List.mem_cons, List.not_mem_nil, or_false] at hq
    rcases hq with rfl
    · exact cg0_asksCart (by decide)
  · intro avs M Q hsp
    obtain ⟨xs, hx⟩ := spR_un _ _ _ hsp
    obtain ⟨e, hl⟩ := unA_mkT hx
    obtain ⟨c, rfl⟩ := len1 hl
    have e : avs = [ar 0, ai c] := e
    subst e
    simp [szL, isL]
  · intro avs M Q hM hav hsp
    obtain ⟨xs, hx⟩ := spR_un _ _ _ hsp
    obtain ⟨e, hl⟩ := unA_mkT hx
    obtain ⟨c, rfl⟩ := len1 hl
    have e : avs = [ar 0, ai c] := e
    subst e
    exact in0_creak hM (hav (ai c) (by simp)) hsp.1 hsp.2
  · intro avs M Q hM hav hsp q hq m_ vs M1 hM1 hv hJ
    obtain ⟨xs, hx⟩ := spR_un _ _ _ hsp
    obtain ⟨e, hl⟩ := unA_mkT hx
    obtain ⟨c, rfl⟩ := len1 hl
    have e : avs = [ar 0, ai c] := e
    subst e
    cases hq
def P0_wipes (rs : List (Nat × Nat)) (c : Int) (M : Mm) : Prop := okX M
def R0_wipes (rs : List (Nat × Nat)) (c : Int) (M : Mm) (v : Int) (M1 : Mm) : Prop := keepX M M1 ∧ v = A_wipes (vX M) c
def sp0_wipes (rs : List (Nat × Nat)) : Spec := spR true [0] 1 (fun x M => P0_wipes rs (x 0) M) (fun x M v M1 => R0_wipes rs (x 0) M v M1)
theorem c0_wipes {rs : List (Nat × Nat)} {c : Int} {M : Mm} {Q : Option AV → Mm → Prop} : sp0_wipes rs [ar 0, ai c] M Q = (P0_wipes rs c M ∧ ∀ (v : Int) (M1 : Mm), R0_wipes rs c M v M1 → Q (some (ai v)) M1) := rfl
def cs0_wipes (rs : List (Nat × Nat)) : List (Nat × Nat × Nat × Spec) := [(263, 1, 2, (sp0_asksCart rs))]
set_option maxHeartbeats 4000000 in
set_option maxRecDepth 100000 in
theorem in0_wipes {rs : List (Nat × Nat)} {c : Int} {M : Mm} {Q : Option AV → Mm → Prop} (hM : okM (sh8 rs) M) (h_c : i32 c) (hP : P0_wipes rs c M) (hQ : ∀ (v : Int) (M1 : Mm), R0_wipes rs c M v M1 → Q (some (ai v)) M1) : wp (tb0 (csL (cs0_wipes rs))) (sh8 rs) 2 1 cX0_wipes [] Q 400 0 [(0, ar 0), (1, ai c)] [] M := by
  obtain ⟨hY, hB⟩ := id hP
  have h4 : 0 ≤ M 1 5 ∧ M 1 5 ≤ 7 := (okY_n hY).2.1
  simp only [e_wp dX0_wipes_0 rfl, e_wp dX0_wipes_1 rfl, e_wp dX0_wipes_2 rfl, e_wp dX0_wipes_5 rfl, e_wp dX0_wipes_8 rfl, e_wp dX0_wipes_9 rfl, e_wp dX0_wipes_12 rfl, e_wp dX0_wipes_13 rfl, e_wp dX0_wipes_14 rfl, e_wp dX0_wipes_17 rfl, e_wp dX0_wipes_19 rfl, c0_asksCart, cs0_wipes, g0_80, a8_13, w8_13, a8_14, w8_14, a8_15, w8_15, a8_16, w8_16, a8_17, w8_17, a8_18, w8_18, a8_19, w8_19, a8_20, w8_20, a8_21, w8_21, a8_22, w8_22, a8_23, w8_23, a8_24, w8_24, a8_25, w8_25, a8_26, w8_26, a8_27, w8_27, a8_28, w8_28, a8_29, w8_29, a8_30, w8_30, a8_31, w8_31, a8_32, w8_32, a8_33, w8_33, a8_34, w8_34, a8_35, w8_35, a8_36, w8_36, a8_37, w8_37, a8_38, w8_38, a8_39, w8_39, a8_40, w8_40, a8_12, w8_12, a8_6, a8_7, e_iconst, e_bipush, e_sipush, e_lconst_0, e_lconst_1, e_iload, e_iload_0, e_iload_1, e_iload_2, e_iload_3, e_lload, e_lload_0, e_lload_1, e_lload_2, e_lload_3, e_aload, e_aload_0, e_aload_1, e_aload_2, e_aload_3, e_istore, e_istore_0, e_istore_1, e_istore_2, e_istore_3, e_astore, e_astore_0, e_astore_1, e_astore_2, e_astore_3, e_lstore, e_lstore_0, e_lstore_1, e_lstore_2, e_lstore_3, e_iinc, e_iadd, e_isub, e_imul, e_ladd, e_lsub, e_lmul, e_idiv, e_irem, e_ldiv, e_lrem, e_ineg, e_lneg, e_iand, e_ior, e_ixor, e_ishl, e_ishr, e_iushr, e_lcmp, e_i2l, e_l2i, e_i2b, e_i2s, e_dup_i, e_dup_r, e_pop_i, e_pop_r, e_dup2_l, e_dup2_ir, e_dup2_ii, e_ifeq, e_ifne, e_iflt, e_ifge, e_ifgt, e_ifle, e_iceq, e_icne, e_iclt, e_icge, e_icgt, e_icle, e_goto, e_switch, e_invokevirtual, e_invokestatic, e_invokespecial, e_ret0, e_ret1, e_ret2, e_ret3, ldI_s, ldL_s, ldR_s, clO_s, ctP_s, ctS_s, mgo_0, mgo_s, pjc_s, pj_0, pj_s, lk_s, rm1_0, rm1_i, rm1_r, rm1_l, rm2_0, rm2_i, rm2_r, rm2_l, csL_s, lc_lt, lc_ge, lc_gt, lc_le, lc_eq, b01_0, b01_1, b01_01, b01_n, up2_o, up2_s, up2_u, ne_eq, reduceCtorEq, Nat.reduceAdd, Nat.reduceEqDiff, Nat.reduceLT, Nat.reduceLeDiff, Int.reduceLE, Int.reduceLT, Int.reduceAdd, Int.reduceNeg, Int.reduceMul, Int.reduceSub, Int.reduceEq, Int.reduceToNat, Int.reduceNatCast, Int.cast_ofNat_Int, ↓reduceIte, and_self, List.drop_succ_cons, List.drop_zero, List.take_succ_cons, List.take_zero, List.length_cons, List.length_nil, List.reverse_cons, List.reverse_nil, List.nil_append, List.cons_append, Option.toList, true_and, and_true, or_false, false_or, or_true, true_or, forall_const, Classical.not_not, not_false_eq_true, not_true_eq_false, false_implies, true_implies, implies_true, imp_self]
  refine ⟨⟨hY, hB⟩, fun v M1 hR => ?_⟩
  obtain ⟨r1, r2, r3⟩ := hR
  refine ⟨fun z => hQ _ _ ⟨r1, ?_⟩, fun z => ?_⟩
  · rw [r2, b01_0] at z
    exact (if_neg z).symm
  · rw [r2, b01_0] at z
    have z2 := Classical.not_not.mp z
    have k := laid_out r3 (c := c.toNat) (by show ((c.toNat : Nat) : Int) < M 1 5; omega)
    refine ⟨by omega, hQ _ _ ⟨r1, ?_⟩⟩
    rw [k.2.2.2.2.1]
    exact (if_pos z2).symm
set_option maxHeartbeats 4000000 in
set_option maxRecDepth 100000 in
theorem m0_wipes {rs : List (Nat × Nat)} : MOK cl8 (sh8 rs) tyl8 Nws8 8 yX0_wipes cX0_wipes 2 (some .int) (sp0_wipes rs) := by
  refine mok_of (own := RX0) (tb := tb0 (csL (cs0_wipes rs))) (rt := 1) (fuel := 400) (fun avs M Q => []) (by decide) rfl nws8_ok (tbOK0 _) rfl (csL_all ?_) ?_ ?_ ?_
  · intro q hq
    simp only [cs0_wipes, List.mem_cons, List.not_mem_nil, or_false] at hq
    rcases hq with rfl
    · exact cg0_asksCart (by decide)
  · intro avs M Q hsp
    obtain ⟨xs, hx⟩ := spR_un _ _ _ hsp
    obtain ⟨e, hl⟩ := unA_mkT hx
    obtain ⟨c, rfl⟩ := len1 hl
    have e : avs = [ar 0, ai c] := e
    subst e
    simp [szL, isL]
  · intro avs M Q hM hav hsp
    obtain ⟨xs, hx⟩ := spR_un _ _ _ hsp
    obtain ⟨e, hl⟩ := unA_mkT hx
    obtain ⟨c, rfl⟩ := len1 hl
    have e : avs = [ar 0, ai c] := e
    subst e
    exact in0_wipes hM (hav (ai c) (by simp)) hsp.1 hsp.2
  · intro avs M Q hM hav hsp q hq m_ vs M1 hM1 hv hJ
    obtain ⟨xs, hx⟩ := spR_un _ _ _ hsp
    obtain ⟨e, hl⟩ := unA_mkT hx
    obtain ⟨c, rfl⟩ := len1 hl
    have e : avs = [ar 0, ai c] := e
    subst e
    cases hq
def P0_pays (rs : List (Nat × Nat)) (c : Int) (M : Mm) : Prop := okX M
def R0_pays (rs : List (Nat × Nat)) (c : Int) (M : Mm) (v : Int) (M1 : Mm) : Prop := keepX M M1 ∧ v = A_pays (vX M) c
def sp0_pays (rs : List (Nat × Nat)) : Spec := spR true [0] 1 (fun x M => P0_pays rs (x 0) M) (fun x M v M1 => R0_pays rs (x 0) M v M1)
theorem c0_pays {rs : List (Nat × Nat)} {c : Int} {M : Mm} {Q : Option AV → Mm → Prop} : sp0_pays rs [ar 0, ai c] M Q = (P0_pays rs c M ∧ ∀ (v : Int) (M1 : Mm), R0_pays rs c M v M1 → Q (some (ai v)) M1) := rfl
def cs0_pays (rs : List (Nat × Nat)) : List (Nat × Nat × Nat × Spec) := [(263, 1, 2, (sp0_asksCart rs))]
set_option maxHeartbeats 4000000 in
set_option maxRecDepth 100000 in
theorem in0_pays {rs : List (Nat × Nat)} {c : Int} {M : Mm} {Q : Option AV → Mm → Prop} (hM : okM (sh8 rs) M) (h_c : i32 c) (hP : P0_pays rs c M) (hQ : ∀ (v : Int) (M1 : Mm), R0_pays rs c M v M1 → Q (some (ai v)) M1) : wp (tb0 (csL (cs0_pays rs))) (sh8 rs) 2 1 cX0_pays [] Q 400 0 [(0, ar 0), (1, ai c)] [] M := by
  obtain ⟨hY, hB⟩ := id hP
  have h4 : 0 ≤ M 1 5 ∧ M 1 5 ≤ 7 := (okY_n hY).2.1
  simp only [e_wp dX0_pays_0 rfl, e_wp dX0_pays_1 rfl, e_wp dX0_pays_2 rfl, e_wp dX0_pays_5 rfl, e_wp dX0_pays_8 rfl, e_wp dX0_pays_9 rfl, e_wp dX0_pays_12 rfl, e_wp dX0_pays_13 rfl, e_wp dX0_pays_14 rfl, e_wp dX0_pays_17 rfl, e_wp dX0_pays_19 rfl, c0_asksCart, cs0_pays, g0_77, a8_13, w8_13, a8_14, w8_14, a8_15, w8_15, a8_16, w8_16, a8_17, w8_17, a8_18, w8_18, a8_19, w8_19, a8_20, w8_20, a8_21, w8_21, a8_22, w8_22, a8_23, w8_23, a8_24, w8_24, a8_25, w8_25, a8_26, w8_26, a8_27, w8_27, a8_28, w8_28, a8_29, w8_29, a8_30, w8_30, a8_31, w8_31, a8_32, w8_32, a8_33, w8_33, a8_34, w8_34, a8_35, w8_35, a8_36, w8_36, a8_37, w8_37, a8_38, w8_38, a8_39, w8_39, a8_40, w8_40, a8_12, w8_12, a8_6, a8_7, e_iconst, e_bipush, e_sipush, e_lconst_0, e_lconst_1, e_iload, e_iload_0, e_iload_1, e_iload_2, e_iload_3, e_lload, e_lload_0, e_lload_1, e_lload_2, e_lload_3, e_aload, e_aload_0, e_aload_1, e_aload_2, e_aload_3, e_istore, e_istore_0, e_istore_1, e_istore_2, e_istore_3, e_astore, e_astore_0, e_astore_1, e_astore_2, e_astore_3, e_lstore, e_lstore_0, e_lstore_1, e_lstore_2, e_lstore_3, e_iinc, e_iadd, e_isub, e_imul, e_ladd, e_lsub, e_lmul, e_idiv, e_irem, e_ldiv, e_lrem, e_ineg, e_lneg, e_iand, e_ior, e_ixor, e_ishl, e_ishr, e_iushr, e_lcmp, e_i2l, e_l2i, e_i2b, e_i2s, e_dup_i, e_dup_r, e_pop_i, e_pop_r, e_dup2_l, e_dup2_ir, e_dup2_ii, e_ifeq, e_ifne, e_iflt, e_ifge, e_ifgt, e_ifle, e_iceq, e_icne, e_iclt, e_icge, e_icgt, e_icle, e_goto, e_switch, e_invokevirtual, e_invokestatic, e_invokespecial, e_ret0, e_ret1, e_ret2, e_ret3, ldI_s, ldL_s, ldR_s, clO_s, ctP_s, ctS_s, mgo_0, mgo_s, pjc_s, pj_0, pj_s, lk_s, rm1_0, rm1_i, rm1_r, rm1_l, rm2_0, rm2_i, rm2_r, rm2_l, csL_s, lc_lt, lc_ge, lc_gt, lc_le, lc_eq, b01_0, b01_1, b01_01, b01_n, up2_o, up2_s, up2_u, ne_eq, reduceCtorEq, Nat.reduceAdd, Nat.reduceEqDiff, Nat.reduceLT, Nat.reduceLeDiff, Int.reduceLE, Int.reduceLT, Int.reduceAdd, Int.reduceNeg, Int.reduceMul, Int.reduceSub, Int.reduceEq, Int.reduceToNat, Int.reduceNatCast, Int.cast_ofNat_Int, ↓reduceIte, and_self, List.drop_succ_cons, List.drop_zero, List.take_succ_cons, List.take_zero, List.length_cons, List.length_nil, List.reverse_cons, List.reverse_nil, List.nil_append, List.cons_append, Option.toList, true_and, and_true, or_false, false_or, or_true, true_or, forall_const, Classical.not_not, not_false_eq_true, not_true_eq_false, false_implies, true_implies, implies_true, imp_self]
  refine ⟨⟨hY, hB⟩, fun v M1 hR => ?_⟩
  obtain ⟨r1, r2, r3⟩ := hR
  refine ⟨fun z => hQ _ _ ⟨r1, ?_⟩, fun z => ?_⟩
  · rw [r2, b01_0] at z
    exact (if_neg z).symm
  · rw [r2, b01_0] at z
    have z2 := Classical.not_not.mp z
    have k := laid_out r3 (c := c.toNat) (by show ((c.toNat : Nat) : Int) < M 1 5; omega)
    refine ⟨by omega, hQ _ _ ⟨r1, ?_⟩⟩
    rw [k.2.2.2.2.2]
    exact (if_pos z2).symm
set_option maxHeartbeats 4000000 in
set_option maxRecDepth 100000 in
theorem m0_pays {rs : List (Nat × Nat)} : MOK cl8 (sh8 rs) tyl8 Nws8 8 yX0_pays cX0_pays 2 (some .int) (sp0_pays rs) := by
  refine mok_of (own := RX0) (tb := tb0 (csL (cs0_pays rs))) (rt := 1) (fuel := 400) (fun avs M Q => []) (by decide) rfl nws8_ok (tbOK0 _) rfl (csL_all ?_) ?_ ?_ ?_
  · intro q hq
    simp only [cs0_pays, List.mem_cons, List.not_mem_nil, or_false] at hq
    rcases hq with rfl
    · exact cg0_asksCart (by decide)
  · intro avs M Q hsp
    obtain ⟨xs, hx⟩ := spR_un _ _ _ hsp
    obtain ⟨e, hl⟩ := unA_mkT hx
    obtain ⟨c, rfl⟩ := len1 hl
    have e : avs = [ar 0, ai c] := e
    subst e
    simp [szL, isL]
  · intro avs M Q hM hav hsp
    obtain ⟨xs, hx⟩ := spR_un _ _ _ hsp
    obtain ⟨e, hl⟩ := unA_mkT hx
    obtain ⟨c, rfl⟩ := len1 hl
    have e : avs = [ar 0, ai c] := e
    subst e
    exact in0_pays hM (hav (ai c) (by simp)) hsp.1 hsp.2
  · intro avs M Q hM hav hsp q hq m_ vs M1 hM1 hv hJ
    obtain ⟨xs, hx⟩ := spR_un _ _ _ hsp
    obtain ⟨e, hl⟩ := unA_mkT hx
    obtain ⟨c, rfl⟩ := len1 hl
    have e : avs = [ar 0, ai c] := e
    subst e
    cases hq
