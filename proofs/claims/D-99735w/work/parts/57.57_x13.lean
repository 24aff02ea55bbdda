/-! SagMemory: questions of one bridge, of a turn -/
def P0_breaks (rs : List (Nat × Nat)) (b : Int) (M : Mm) : Prop := okX M
def R0_breaks (rs : List (Nat × Nat)) (b : Int) (M : Mm) (v : Int) (M1 : Mm) : Prop := keepX M M1 ∧ v = A_breaks (vX M) b
def sp0_breaks (rs : List (Nat × Nat)) : Spec := spR true [0] 1 (fun x M => P0_breaks rs (x 0) M) (fun x M v M1 => R0_breaks rs (x 0) M v M1)
theorem c0_breaks {rs : List (Nat × Nat)} {b : Int} {M : Mm} {Q : Option AV → Mm → Prop} : sp0_breaks rs [ar 0, ai b] M Q = (P0_breaks rs b M ∧ ∀ (v : Int) (M1 : Mm), R0_breaks rs b M v M1 → Q (some (ai v)) M1) := rfl
def cs0_breaks (rs : List (Nat × Nat)) : List (Nat × Nat × Nat × Spec) := [(271, 1, 2, (sp0_asksBridge rs))]
set_option maxHeartbeats 4000000 in
set_option maxRecDepth 100000 in
theorem in0_breaks {rs : List (Nat × Nat)} {b : Int} {M : Mm} {Q : Option AV → Mm → Prop} (hM : okM (sh8 rs) M) (h_b : i32 b) (hP : P0_breaks rs b M) (hQ : ∀ (v : Int) (M1 : Mm), R0_breaks rs b M v M1 → Q (some (ai v)) M1) : wp (tb0 (csL (cs0_breaks rs))) (sh8 rs) 2 1 cX0_breaks [] Q 400 0 [(0, ar 0), (1, ai b)] [] M := by
  obtain ⟨hY, hB⟩ := id hP
  have h3 : 0 ≤ M 1 4 ∧ M 1 4 ≤ 3 := (okY_n hY).1
  have h4 := (okY_n hY).2.1
  simp only [e_wp dX0_breaks_0 rfl, e_wp dX0_breaks_1 rfl, e_wp dX0_breaks_2 rfl, e_wp dX0_breaks_5 rfl, e_wp dX0_breaks_8 rfl, e_wp dX0_breaks_9 rfl, e_wp dX0_breaks_12 rfl, e_wp dX0_breaks_13 rfl, e_wp dX0_breaks_14 rfl, e_wp dX0_breaks_17 rfl, e_wp dX0_breaks_19 rfl, c0_asksBridge, cs0_breaks, g0_83, a8_13, w8_13, a8_14, w8_14, a8_15, w8_15, a8_16, w8_16, a8_17, w8_17, a8_18, w8_18, a8_19, w8_19, a8_20, w8_20, a8_21, w8_21, a8_22, w8_22, a8_23, w8_23, a8_24, w8_24, a8_25, w8_25, a8_26, w8_26, a8_27, w8_27, a8_28, w8_28, a8_29, w8_29, a8_30, w8_30, a8_31, w8_31, a8_32, w8_32, a8_33, w8_33, a8_34, w8_34, a8_35, w8_35, a8_36, w8_36, a8_37, w8_37, a8_38, w8_38, a8_39, w8_39, a8_40, w8_40, a8_12, w8_12, a8_6, a8_7, e_iconst, e_bipush, e_sipush, e_lconst_0, e_lconst_1, e_iload, e_iload_0, e_iload_1, e_iload_2, e_iload_3, e_lload, e_lload_0, e_lload_1, e_lload_2, e_lload_3, e_aload, e_aload_0, e_aload_1, e_aload_2, e_aload_3, e_istore, e_istore_0, e_istore_1, e_istore_2, e_istore_3, e_astore, e_astore_0, e_astore_1, e_astore_2, e_astore_3, e_lstore, e_lstore_0, e_lstore_1, e_lstore_2, e_lstore_3, e_iinc, e_iadd, e_isub, e_imul, e_ladd, e_lsub, e_lmul, e_idiv, e_irem, e_ldiv, e_lrem, e_ineg, e_lneg, e_iand, e_ior, e_ixor, e_ishl, e_ishr, e_iushr, e_lcmp, e_i2l, e_l2i, e_i2b, e_i2s, e_dup_i, e_dup_r, e_pop_i, e_pop_r, e_dup2_l, e_dup2_ir, e_dup2_ii, e_ifeq, e_ifne, e_iflt, e_ifge, e_ifgt, e_ifle, e_iceq, e_icne, e_iclt, e_icge, e_icgt, e_icle, e_goto, e_switch, e_invokevirtual, e_invokestatic, e_invokespecial, e_ret0, e_ret1, e_ret2, e_ret3, ldI_s, ldL_s, ldR_s, clO_s, ctP_s, ctS_s, mgo_0, mgo_s, pjc_s, pj_0, pj_s, lk_s, rm1_0, rm1_i, rm1_r, rm1_l, rm2_0, rm2_i, rm2_r, rm2_l, csL_s, lc_lt, lc_ge, lc_gt, lc_le, lc_eq, b01_0, b01_1, b01_01, b01_n, up2_o, up2_s, up2_u, ne_eq, reduceCtorEq, Nat.reduceAdd, Nat.reduceEqDiff, Nat.reduceLT, Nat.reduceLeDiff, Int.reduceLE, Int.reduceLT, Int.reduceAdd, Int.reduceNeg, Int.reduceMul, Int.reduceSub, Int.reduceEq, Int.reduceToNat, Int.reduceNatCast, Int.cast_ofNat_Int, ↓reduceIte, and_self, List.drop_succ_cons, List.drop_zero, List.take_succ_cons, List.take_zero, List.length_cons, List.length_nil, List.reverse_cons, List.reverse_nil, List.nil_append, List.cons_append, Option.toList, true_and, and_true, or_false, false_or, or_true, true_or, forall_const, Classical.not_not, not_false_eq_true, not_true_eq_false, false_implies, true_implies, implies_true, imp_self]
  refine ⟨⟨hY, hB⟩, fun v M1 hR => ?_⟩
  obtain ⟨r1, r2, r3⟩ := hR
  refine ⟨fun z => hQ _ _ ⟨r1, ?_⟩, fun z => ?_⟩
  · rw [r2, b01_0] at z
    exact (if_neg z).symm
  · rw [r2, b01_0] at z
    have z2 := Classical.not_not.mp z
    have k := laid_end h4.1 r3 (b := b.toNat) (by show ((b.toNat : Nat) : Int) < M 1 4; omega)
    refine ⟨by omega, hQ _ _ ⟨r1, ?_⟩⟩
    rw [k.2.2]
    exact (if_pos z2).symm
set_option maxHeartbeats 4000000 in
set_option maxRecDepth 100000 in
theorem m0_breaks {rs : List (Nat × Nat)} : MOK cl8 (sh8 rs) tyl8 Nws8 8 yX0_breaks cX0_breaks 2 (some .int) (sp0_breaks rs) := by
  refine mok_of (own := RX0) (tb := tb0 (csL (cs0_breaks rs))) (rt := 1) (fuel := 400) (fun avs M Q => []) (by decide) rfl nws8_ok (tbOK0 _) rfl (csL_all ?_) ?_ ?_ ?_
  · intro q hq
    simp only [cs0_breaks, List.mem_cons, List.not_mem_nil, or_false] at hq
    rcases hq with rfl
    · exact cg0_asksBridge (by decide)
  · intro avs M Q hsp
    obtain ⟨xs, hx⟩ := spR_un _ _ _ hsp
    obtain ⟨e, hl⟩ := unA_mkT hx
    obtain ⟨b, rfl⟩ := len1 hl
    have e : avs = [ar 0, ai b] := e
    subst e
    simp [szL, isL]
  · intro avs M Q hM hav hsp
    obtain ⟨xs, hx⟩ := spR_un _ _ _ hsp
    obtain ⟨e, hl⟩ := unA_mkT hx
    obtain ⟨b, rfl⟩ := len1 hl
    have e : avs = [ar 0, ai b] := e
    subst e
    exact in0_breaks hM (hav (ai b) (by simp)) hsp.1 hsp.2
  · intro avs M Q hM hav hsp q hq m_ vs M1 hM1 hv hJ
    obtain ⟨xs, hx⟩ := spR_un _ _ _ hsp
    obtain ⟨e, hl⟩ := unA_mkT hx
    obtain ⟨b, rfl⟩ := len1 hl
    have e : avs = [ar 0, ai b] := e
    subst e
    cases hq
def P0_spare (rs : List (Nat × Nat)) (b : Int) (M : Mm) : Prop := okX M
def R0_spare (rs : List (Nat × Nat)) (b : Int) (M : Mm) (v : Int) (M1 : Mm) : Prop := keepX M M1 ∧ v = A_spare (vX M) b
def sp0_spare (rs : List (Nat × Nat)) : Spec := spR true [0] 1 (fun x M => P0_spare rs (x 0) M) (fun x M v M1 => R0_spare rs (x 0) M v M1)
theorem c0_spare {rs : List (Nat × Nat)} {b : Int} {M : Mm} {Q : Option AV → Mm → Prop} : sp0_spare rs [ar 0, ai b] M Q = (P0_spare rs b M ∧ ∀ (v : Int) (M1 : Mm), R0_spare rs b M v M1 → Q (some (ai v)) M1) := rfl
def cs0_spare (rs : List (Nat × Nat)) : List (Nat × Nat × Nat × Spec) := [(271, 1, 2, (sp0_asksBridge rs)), (218, 1, 2, (sp0_sagOf rs))]
set_option maxHeartbeats 4000000 in
set_option maxRecDepth 100000 in
theorem in0_spare {rs : List (Nat × Nat)} {b : Int} {M : Mm} {Q : Option AV → Mm → Prop} (hM : okM (sh8 rs) M) (h_b : i32 b) (hP : P0_spare rs b M) (hQ : ∀ (v : Int) (M1 : Mm), R0_spare rs b M v M1 → Q (some (ai v)) M1) : wp (tb0 (csL (cs0_spare rs))) (sh8 rs) 2 1 cX0_spare [] Q 400 0 [(0, ar 0), (1, ai b)] [] M := by
  obtain ⟨hY, hB⟩ := id hP
  have h3 : 0 ≤ M 1 4 ∧ M 1 4 ≤ 3 := (okY_n hY).1
  have h4 := (okY_n hY).2.1
  simp only [e_wp dX0_spare_0 rfl, e_wp dX0_spare_1 rfl, e_wp dX0_spare_2 rfl, e_wp dX0_spare_5 rfl, e_wp dX0_spare_8 rfl, e_wp dX0_spare_9 rfl, e_wp dX0_spare_12 rfl, e_wp dX0_spare_15 rfl, e_wp dX0_spare_16 rfl, e_wp dX0_spare_17 rfl, e_wp dX0_spare_18 rfl, e_wp dX0_spare_19 rfl, e_wp dX0_spare_22 rfl, e_wp dX0_spare_23 rfl, e_wp dX0_spare_26 rfl, e_wp dX0_spare_29 rfl, c0_asksBridge, cs0_spare, g0_10, g0_174, c0_sagOf, P0_sagOf, V0_sagOf, a8_13, w8_13, a8_14, w8_14, a8_15, w8_15, a8_16, w8_16, a8_17, w8_17, a8_18, w8_18, a8_19, w8_19, a8_20, w8_20, a8_21, w8_21, a8_22, w8_22, a8_23, w8_23, a8_24, w8_24, a8_25, w8_25, a8_26, w8_26, a8_27, w8_27, a8_28, w8_28, a8_29, w8_29, a8_30, w8_30, a8_31, w8_31, a8_32, w8_32, a8_33, w8_33, a8_34, w8_34, a8_35, w8_35, a8_36, w8_36, a8_37, w8_37, a8_38, w8_38, a8_39, w8_39, a8_40, w8_40, a8_12, w8_12, a8_6, a8_7, e_iconst, e_bipush, e_sipush, e_lconst_0, e_lconst_1, e_iload, e_iload_0, e_iload_1, e_iload_2, e_iload_3, e_lload, e_lload_0, e_lload_1, e_lload_2, e_lload_3, e_aload, e_aload_0, e_aload_1, e_aload_2, e_aload_3, e_istore, e_istore_0, e_istore_1, e_istore_2, e_istore_3, e_astore, e_astore_0, e_astore_1, e_astore_2, e_astore_3, e_lstore, e_lstore_0, e_lstore_1, e_lstore_2, e_lstore_3, e_iinc, e_iadd, e_isub, e_imul, e_ladd, e_lsub, e_lmul, e_idiv, e_irem, e_ldiv, e_lrem, e_ineg, e_lneg, e_iand, e_ior, e_ixor, e_ishl, e_ishr, e_iushr, e_lcmp, e_i2l, e_l2i, e_i2b, e_i2s, e_dup_i, e_dup_r, e_pop_i, e_pop_r, e_dup2_l, e_dup2_ir, e_dup2_ii, e_ifeq, e_ifne, e_iflt, e_ifge, e_ifgt, e_ifle, e_iceq, e_icne, e_iclt, e_icge, e_icgt, e_icle, e_goto, e_switch, e_invokevirtual, e_invokestatic, e_invokespecial, e_ret0, e_ret1, e_ret2, e_ret3, ldI_s, ldL_s, ldR_s, clO_s, ctP_s, ctS_s, mgo_0, mgo_s, pjc_s, pj_0, pj_s, lk_s, rm1_0, rm1_i, rm1_r, rm1_l, rm2_0, rm2_i, rm2_r, rm2_l, csL_s, lc_lt, lc_ge, lc_gt, lc_le, lc_eq, b01_0, b01_1, b01_01, b01_n, up2_o, up2_s, up2_u, ne_eq, reduceCtorEq, Nat.reduceAdd, Nat.reduceEqDiff, Nat.reduceLT, Nat.reduceLeDiff, Int.reduceLE, Int.reduceLT, Int.reduceAdd, Int.reduceNeg, Int.reduceMul, Int.reduceSub, Int.reduceEq, Int.reduceToNat, Int.reduceNatCast, Int.cast_ofNat_Int, ↓reduceIte, and_self, List.drop_succ_cons, List.drop_zero, List.take_succ_cons, List.take_zero, List.length_cons, List.length_nil, List.reverse_cons, List.reverse_nil, List.nil_append, List.cons_append, Option.toList, true_and, and_true, or_false, false_or, or_true, true_or, forall_const, Classical.not_not, not_false_eq_true, not_true_eq_false, false_implies, true_implies, implies_true, imp_self]
  refine ⟨⟨hY, hB⟩, fun v M1 hR => ?_⟩
  obtain ⟨r1, r2, r3⟩ := hR
  refine ⟨fun z => hQ _ _ ⟨r1, ?_⟩, fun z => ?_⟩
  · rw [r2, b01_0] at z
    exact (if_neg z).symm
  · rw [r2, b01_0] at z
    have z2 := Classical.not_not.mp z
    have k := laid_end h4.1 r3 (b := b.toNat) (by show ((b.toNat : Nat) : Int) < M 1 4; omega)
    rw [Int.toNat_of_nonneg z2.1] at k
    have e1 := keepX_1 r1
    have e33 : M1 33 = M 33 := r1.1 _ (by decide)
    have hh := (okY_b hY b.toNat (by show ((b.toNat : Nat) : Int) < M 1 4; omega)).1
    have hv := (vX_b M (b := b.toNat) (by omega)).1
    rw [hv] at hh
    have s1 := sagP_b k.1.2.2
    have s2 := mb_lenX k.1
    have s3 := k.1.2.1
    rw [e33]
    refine ⟨by omega, k.1, by omega, hQ _ _ ⟨r1, ?_⟩⟩
    rw [k.2.1, ← hv]
    exact (if_pos z2).symm
set_option maxHeartbeats 4000000 in
set_option maxRecDepth 100000 in
theorem m0_spare {rs : List (Nat × Nat)} : MOK cl8 (sh8 rs) tyl8 Nws8 8 yX0_spare cX0_spare 2 (some .int) (sp0_spare rs) := by
  refine mok_of (own := RX0) (tb := tb0 (csL (cs0_spare rs))) (rt := 1) (fuel := 400) (fun avs M Q => []) (by decide) rfl nws8_ok (tbOK0 _) rfl (csL_all ?_) ?_ ?_ ?_
  · intro q hq
    simp only [cs0_spare, List.mem_cons, List.not_mem_nil, or_false] at hq
    rcases hq with rfl | rfl
    · exact cg0_asksBridge (by decide)
    · exact cg0_sagOf (by decide)
  · intro avs M Q hsp
    obtain ⟨xs, hx⟩ := spR_un _ _ _ hsp
    obtain ⟨e, hl⟩ := unA_mkT hx
    obtain ⟨b, rfl⟩ := len1 hl
    have e : avs = [ar 0, ai b] := e
    subst e
    simp [szL, isL]
  · intro avs M Q hM hav hsp
    obtain ⟨xs, hx⟩ := spR_un _ _ _ hsp
    obtain ⟨e, hl⟩ := unA_mkT hx
    obtain ⟨b, rfl⟩ := len1 hl
    have e : avs = [ar 0, ai b] := e
    subst e
    exact in0_spare hM (hav (ai b) (by simp)) hsp.1 hsp.2
  · intro avs M Q hM hav hsp q hq m_ vs M1 hM1 hv hJ
    obtain ⟨xs, hx⟩ := spR_un _ _ _ hsp
    obtain ⟨e, hl⟩ := unA_mkT hx
    obtain ⟨b, rfl⟩ := len1 hl
    have e : avs = [ar 0, ai b] := e
    subst e
    cases hq
def P0_deep (rs : List (Nat × Nat)) (b : Int) (t : Int) (M : Mm) : Prop := okX M
def R0_deep (rs : List (Nat × Nat)) (b : Int) (t : Int) (M : Mm) (v : Int) (M1 : Mm) : Prop := keepX M M1 ∧ v = A_deep (vX M) b t
def sp0_deep (rs : List (Nat × Nat)) : Spec := spR true [0, 0] 1 (fun x M => P0_deep rs (x 0) (x 1) M) (fun x M v M1 => R0_deep rs (x 0) (x 1) M v M1)
theorem c0_deep {rs : List (Nat × Nat)} {b t : Int} {M : Mm} {Q : Option AV → Mm → Prop} : sp0_deep rs [ar 0, ai b, ai t] M Q = (P0_deep rs b t M ∧ ∀ (v : Int) (M1 : Mm), R0_deep rs b t M v M1 → Q (some (ai v)) M1) := rfl
def cs0_deep (rs : List (Nat × Nat)) : List (Nat × Nat × Nat × Spec) := [(277, 1, 3, (sp0_asks rs))]
set_option maxHeartbeats 4000000 in
set_option maxRecDepth 100000 in
theorem in0_deep {rs : List (Nat × Nat)} {b t : Int} {M : Mm} {Q : Option AV → Mm → Prop} (hM : okM (sh8 rs) M) (h_b : i32 b) (h_t : i32 t) (hP : P0_deep rs b t M) (hQ : ∀ (v : Int) (M1 : Mm), R0_deep rs b t M v M1 → Q (some (ai v)) M1) : wp (tb0 (csL (cs0_deep rs))) (sh8 rs) 3 1 cX0_deep [] Q 400 0 [(0, ar 0), (1, ai b), (2, ai t)] [] M := by
  obtain ⟨hY, hB⟩ := id hP
  have h3 : 0 ≤ M 1 4 ∧ M 1 4 ≤ 3 := (okY_n hY).1
  have h4 : 0 ≤ M 1 5 ∧ M 1 5 ≤ 7 := (okY_n hY).2.1
  simp only [e_wp dX0_deep_0 rfl, e_wp dX0_deep_1 rfl, e_wp dX0_deep_2 rfl, e_wp dX0_deep_3 rfl, e_wp dX0_deep_6 rfl, e_wp dX0_deep_9 rfl, e_wp dX0_deep_10 rfl, e_wp dX0_deep_13 rfl, e_wp dX0_deep_14 rfl, e_wp dX0_deep_15 rfl, e_wp dX0_deep_16 rfl, e_wp dX0_deep_17 rfl, e_wp dX0_deep_18 rfl, e_wp dX0_deep_19 rfl, e_wp dX0_deep_22 rfl, e_wp dX0_deep_24 rfl, c0_asks, cs0_deep, g0_89, a8_13, w8_13, a8_14, w8_14, a8_15, w8_15, a8_16, w8_16, a8_17, w8_17, a8_18, w8_18, a8_19, w8_19, a8_20, w8_20, a8_21, w8_21, a8_22, w8_22, a8_23, w8_23, a8_24, w8_24, a8_25, w8_25, a8_26, w8_26, a8_27, w8_27, a8_28, w8_28, a8_29, w8_29, a8_30, w8_30, a8_31, w8_31, a8_32, w8_32, a8_33, w8_33, a8_34, w8_34, a8_35, w8_35, a8_36, w8_36, a8_37, w8_37, a8_38, w8_38, a8_39, w8_39, a8_40, w8_40, a8_12, w8_12, a8_6, a8_7, e_iconst, e_bipush, e_sipush, e_lconst_0, e_lconst_1, e_iload, e_iload_0, e_iload_1, e_iload_2, e_iload_3, e_lload, e_lload_0, e_lload_1, e_lload_2, e_lload_3, e_aload, e_aload_0, e_aload_1, e_aload_2, e_aload_3, e_istore, e_istore_0, e_istore_1, e_istore_2, e_istore_3, e_astore, e_astore_0, e_astore_1, e_astore_2, e_astore_3, e_lstore, e_lstore_0, e_lstore_1, e_lstore_2, e_lstore_3, e_iinc, e_iadd, e_isub, e_imul, e_ladd, e_lsub, e_lmul, e_idiv, e_irem, e_ldiv, e_lrem, e_ineg, e_lneg, e_iand, e_ior, e_ixor, e_ishl, e_ishr, e_iushr, e_lcmp, e_i2l, e_l2i, e_i2b, e_i2s, e_dup_i, e_dup_r, e_pop_i, e_pop_r, e_dup2_l, e_dup2_ir, e_dup2_ii, e_ifeq, e_ifne, e_iflt, e_ifge, e_ifgt, e_ifle, e_iceq, e_icne, e_iclt, e_icge, e_icgt, e_icle, e_goto, e_switch, e_invokevirtual, e_invokestatic, e_invokespecial, e_ret0, e_ret1, e_ret2, e_ret3, ldI_s, ldL_s, ldR_s, clO_s, ctP_s, ctS_s, mgo_0, mgo_s, pjc_s, pj_0, pj_s, lk_s, rm1_0, rm1_i, rm1_r, rm1_l, rm2_0, rm2_i, rm2_r, rm2_l, csL_s, lc_lt, lc_ge, lc_gt, lc_le, lc_eq, b01_0, b01_1, b01_01, b01_n, up2_o, up2_s, up2_u, ne_eq, reduceCtorEq, Nat.reduceAdd, Nat.reduceEqDiff, Nat.reduceLT, Nat.reduceLeDiff, Int.reduceLE, Int.reduceLT, Int.reduceAdd, Int.reduceNeg, Int.reduceMul, Int.reduceSub, Int.reduceEq, Int.reduceToNat, Int.reduceNatCast, Int.cast_ofNat_Int, ↓reduceIte, and_self, List.drop_succ_cons, List.drop_zero, List.take_succ_cons, List.take_zero, List.length_cons, List.length_nil, List.reverse_cons, List.reverse_nil, List.nil_append, List.cons_append, Option.toList, true_and, and_true, or_false, false_or, or_true, true_or, forall_const, Classical.not_not, not_false_eq_true, not_true_eq_false, false_implies, true_implies, implies_true, imp_self]
  refine ⟨⟨hY, hB⟩, fun v M1 hR => ?_⟩
  obtain ⟨r1, r2, r3⟩ := hR
  refine ⟨fun z => hQ _ _ ⟨r1, ?_⟩, fun z => ?_⟩
  · rw [r2, b01_0] at z
    exact (if_neg z).symm
  · have z1 := z
    rw [r2, b01_0] at z1
    have z2 := Classical.not_not.mp z1
    have k := laid_tab (r3 (by rw [r2, b01_t z2])) (t := t.toNat) (b := b.toNat) (by show ((t.toNat : Nat) : Int) < M 1 5; omega) (by show ((b.toNat : Nat) : Int) < M 1 4; omega)
    rw [show (3 * t + b).toNat = 3 * t.toNat + b.toNat by omega, k.2.2.1]
    repeat (refine And.intro (by omega) ?_)
    refine hQ _ _ ⟨r1, ?_⟩
    exact (if_pos z2).symm
set_option maxHeartbeats 4000000 in
set_option maxRecDepth 100000 in
theorem m0_deep {rs : List (Nat × Nat)} : MOK cl8 (sh8 rs) tyl8 Nws8 9 yX0_deep cX0_deep 3 (some .int) (sp0_deep rs) := by
  refine mok_of (own := RX0) (tb := tb0 (csL (cs0_deep rs))) (rt := 1) (fuel := 400) (fun avs M Q => []) (by decide) rfl nws8_ok (tbOK0 _) rfl (csL_all ?_) ?_ ?_ ?_
  · intro q hq
    simp only [cs0_deep, List.mem_cons, List.not_mem_nil, or_false] at hq
    rcases hq with rfl
    · exact cg0_asks (by decide)
  · intro avs M Q hsp
    obtain ⟨xs, hx⟩ := spR_un _ _ _ hsp
    obtain ⟨e, hl⟩ := unA_mkT hx
    obtain ⟨b, t, rfl⟩ := len2 hl
    have e : avs = [ar 0, ai b, ai t] := e
    subst e
    simp [szL, isL]
  · intro avs M Q hM hav hsp
    obtain ⟨xs, hx⟩ := spR_un _ _ _ hsp
    obtain ⟨e, hl⟩ := unA_mkT hx
    obtain ⟨b, t, rfl⟩ := len2 hl
    have e : avs = [ar 0, ai b, ai t] := e
    subst e
    exact in0_deep hM (hav (ai b) (by simp)) (hav (ai t) (by simp)) hsp.1 hsp.2
  · intro avs M Q hM hav hsp q hq m_ vs M1 hM1 hv hJ
    obtain ⟨xs, hx⟩ := spR_un _ _ _ hsp
    obtain ⟨e, hl⟩ := unA_mkT hx
    obtain ⟨b, t, rfl⟩ := len2 hl
    have e : avs = [ar 0, ai b, ai t] := e
    subst e
    cases hq
def P0_sag (rs : List (Nat × Nat)) (b : Int) (t : Int) (M : Mm) : Prop := okX M
def R0_sag (rs : List (Nat × Nat)) (b : Int) (t : Int) (M : Mm) (v : Int) (M1 : Mm) : Prop := keepX M M1 ∧ v = A_sag (vX M) b t
def sp0_sag (rs : List (Nat × Nat)) : Spec := spR true [0, 0] 1 (fun x M => P0_sag rs (x 0) (x 1) M) (fun x M v M1 => R0_sag rs (x 0) (x 1) M v M1)
theorem c0_sag {rs : List (Nat × Nat)} {b t : Int} {M : Mm} {Q : Option AV → Mm → Prop} : sp0_sag rs [ar 0, ai b, ai t] M Q = (P0_sag rs b t M ∧ ∀ (v : Int) (M1 : Mm), R0_sag rs b t M v M1 → Q (some (ai v)) M1) := rfl
def cs0_sag (rs : List (Nat × Nat)) : List (Nat × Nat × Nat × Spec) := [(277, 1, 3, (sp0_asks rs))]
set_option maxHeartbeats 4000000 in
set_option maxRecDepth 100000 in
theorem in0_sag {rs : List (Nat × Nat)} {b t : Int} {M : Mm} {Q : Option AV → Mm → Prop} (hM : okM (sh8 rs) M) (h_b : i32 b) (h_t : i32 t) (hP : P0_sag rs b t M) (hQ : ∀ (v : Int) (M1 : Mm), R0_sag rs b t M v M1 → Q (some (ai v)) M1) : wp (tb0 (csL (cs0_sag rs))) (sh8 rs) 3 1 cX0_sag [] Q 400 0 [(0, ar 0), (1, ai b), (2, ai t)] [] M := by
  obtain ⟨hY, hB⟩ := id hP
  have h3 : 0 ≤ M 1 4 ∧ M 1 4 ≤ 3 := (okY_n hY).1
  have h4 : 0 ≤ M 1 5 ∧ M 1 5 ≤ 7 := (okY_n hY).2.1
  simp only [e_wp dX0_sag_0 rfl, e_wp dX0_sag_1 rfl, e_wp dX0_sag_2 rfl, e_wp dX0_sag_3 rfl, e_wp dX0_sag_6 rfl, e_wp dX0_sag_9 rfl, e_wp dX0_sag_10 rfl, e_wp dX0_sag_13 rfl, e_wp dX0_sag_14 rfl, e_wp dX0_sag_15 rfl, e_wp dX0_sag_16 rfl, e_wp dX0_sag_17 rfl, e_wp dX0_sag_18 rfl, e_wp dX0_sag_19 rfl, e_wp dX0_sag_22 rfl, e_wp dX0_sag_24 rfl, c0_asks, cs0_sag, g0_92, a8_13, w8_13, a8_14, w8_14, a8_15, w8_15, a8_16, w8_16, a8_17, w8_17, a8_18, w8_18, a8_19, w8_19, a8_20, w8_20, a8_21, w8_21, a8_22, w8_22, a8_23, w8_23, a8_24, w8_24, a8_25, w8_25, a8_26, w8_26, a8_27, w8_27, a8_28, w8_28, a8_29, w8_29, a8_30, w8_30, a8_31, w8_31, a8_32, w8_32, a8_33, w8_33, a8_34, w8_34, a8_35, w8_35, a8_36, w8_36, a8_37, w8_37, a8_38, w8_38, a8_39, w8_39, a8_40, w8_40, a8_12, w8_12, a8_6, a8_7, e_iconst, e_bipush, e_sipush, e_lconst_0, e_lconst_1, e_iload, e_iload_0, e_iload_1, e_iload_2, e_iload_3, e_lload, e_lload_0, e_lload_1, e_lload_2, e_lload_3, e_aload, e_aload_0, e_aload_1, e_aload_2, e_aload_3, e_istore, e_istore_0, e_istore_1, e_istore_2, e_istore_3, e_astore, e_astore_0, e_astore_1, e_astore_2, e_astore_3, e_lstore, e_lstore_0, e_lstore_1, e_lstore_2, e_lstore_3, e_iinc, e_iadd, e_isub, e_imul, e_ladd, e_lsub, e_lmul, e_idiv, e_irem, e_ldiv, e_lrem, e_ineg, e_lneg, e_iand, e_ior, e_ixor, e_ishl, e_ishr, e_iushr, e_lcmp, e_i2l, e_l2i, e_i2b, e_i2s, e_dup_i, e_dup_r, e_pop_i, e_pop_r, e_dup2_l, e_dup2_ir, e_dup2_ii, e_ifeq, e_ifne, e_iflt, e_ifge, e_ifgt, e_ifle, e_iceq, e_icne, e_iclt, e_icge, e_icgt, e_icle, e_goto, e_switch, e_invokevirtual, e_invokestatic, e_invokespecial, e_ret0, e_ret1, e_ret2, e_ret3, ldI_s, ldL_s, ldR_s, clO_s, ctP_s, ctS_s, mgo_0, mgo_s, pjc_s, pj_0, pj_s, lk_s, rm1_0, rm1_i, rm1_r, rm1_l, rm2_0, rm2_i, rm2_r, rm2_l, csL_s, lc_lt, lc_ge, lc_gt, lc_le, lc_eq, b01_0, b01_1, b01_01, b01_n, up2_o, up2_s, up2_u, ne_eq, reduceCtorEq, Nat.reduceAdd, Nat.reduceEqDiff, Nat.reduceLT, Nat.reduceLeDiff, Int.reduceLE, Int.reduceLT, Int.reduceAdd, Int.reduceNeg, Int.reduceMul, Int.reduceSub, Int.reduceEq, Int.reduceToNat, Int.reduceNatCast, Int.cast_ofNat_Int, ↓reduceIte, and_self, List.drop_succ_cons, List.drop_zero, List.take_succ_cons, List.take_zero, List.length_cons, List.length_nil, List.reverse_cons, List.reverse_nil, List.nil_append, List.cons_append, Option.toList, true_and, and_true, or_false, false_or, or_true, true_or, forall_const, Classical.not_not, not_false_eq_true, not_true_eq_false, false_implies, true_implies, implies_true, imp_self]
  refine ⟨⟨hY, hB⟩, fun v M1 hR => ?_⟩
  obtain ⟨r1, r2, r3⟩ := hR
  refine ⟨fun z => hQ _ _ ⟨r1, ?_⟩, fun z => ?_⟩
  · rw [r2, b01_0] at z
    exact (if_neg z).symm
  · have z1 := z
    rw [r2, b01_0] at z1
    have z2 := Classical.not_not.mp z1
    have k := laid_tab (r3 (by rw [r2, b01_t z2])) (t := t.toNat) (b := b.toNat) (by show ((t.toNat : Nat) : Int) < M 1 5; omega) (by show ((b.toNat : Nat) : Int) < M 1 4; omega)
    rw [show (3 * t + b).toNat = 3 * t.toNat + b.toNat by omega, k.2.2.2.1]
    repeat (refine And.intro (by omega) ?_)
    refine hQ _ _ ⟨r1, ?_⟩
    exact (if_pos z2).symm
set_option maxHeartbeats 4000000 in
set_option maxRecDepth 100000 in
theorem m0_sag {rs : List (Nat × Nat)} : MOK cl8 (sh8 rs) tyl8 Nws8 9 yX0_sag cX0_sag 3 (some .int) (sp0_sag rs) := by
  refine mok_of (own := RX0) (tb := tb0 (csL (cs0_sag rs))) (rt := 1) (fuel := 400) (fun avs M Q => []) (by decide) rfl nws8_ok (tbOK0 _) rfl (csL_all ?_) ?_ ?_ ?_
  · intro q hq
    simp only [cs0_sag, List.mem_cons, List.not_mem_nil, or_false] at hq
    rcases hq with rfl
    · exact cg0_asks (by decide)
  · intro avs M Q hsp
    obtain ⟨xs, hx⟩ := spR_un _ _ _ hsp
    obtain ⟨e, hl⟩ := unA_mkT hx
    obtain ⟨b, t, rfl⟩ := len2 hl
    have e : avs = [ar 0, ai b, ai t] := e
    subst e
    simp [szL, isL]
  · intro avs M Q hM hav hsp
    obtain ⟨xs, hx⟩ := spR_un _ _ _ hsp
    obtain ⟨e, hl⟩ := unA_mkT hx
    obtain ⟨b, t, rfl⟩ := len2 hl
    have e : avs = [ar 0, ai b, ai t] := e
    subst e
    exact in0_sag hM (hav (ai b) (by simp)) (hav (ai t) (by simp)) hsp.1 hsp.2
  · intro avs M Q hM hav hsp q hq m_ vs M1 hM1 hv hJ
    obtain ⟨xs, hx⟩ := spR_un _ _ _ hsp
    obtain ⟨e, hl⟩ := unA_mkT hx
    obtain ⟨b, t, rfl⟩ := len2 hl
    have e : avs = [ar 0, ai b, ai t] := e
    subst e
    cases hq
