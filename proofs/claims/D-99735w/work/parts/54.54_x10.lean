/-! SagMemory: what a question lays -/
/-- the cells that questions write -/
abbrev sRows : List Nat := [0, 13, 14, 15, 16, 17, 18, 19, 20, 21, 22, 23, 24, 25, 26, 27, 28, 29, 30, 31, 32]
/-- what stays whatever is asked -/
def keepX (M M1 : Mm) : Prop := frm sRows M M1 ∧ (∀ j, j ∈ [2, 3, 4] → M1 0 j = M 0 j) ∧ wX M M1
theorem keepX_rf {M : Mm} : keepX M M := ⟨frm_rf, fun _ _ => rfl, wX_eq rfl⟩
theorem keepX_tr {M M1 M2 : Mm} (h : keepX M M1) (h2 : keepX M1 M2) : keepX M M2 := ⟨frm_tr h.1 h2.1 (fun _ h => h), fun j hj => (h2.2.1 j hj).trans (h.2.1 j hj), wX_tr h.2.2 h2.2.2⟩
theorem keepX_v {M M1 : Mm} (h : keepX M M1) : vX M1 = vX M := vX_frm h.1 (by decide)
theorem keepX_1 {M M1 : Mm} (h : keepX M M1) : M1 1 = M 1 := h.1 _ (by decide)
theorem keepX_b {M M1 : Mm} (h : keepX M M1) (hB : baseI M) : baseI M1 := base_f h.1 (by decide) (by decide) hB
theorem keepX_u {M M1 : Mm} {k j : Nat} {x : Int} (h : keepX M M1) (hk : k ∈ sRows) (h0 : k = 0 → j ∉ [2, 3, 4, 8]) : keepX M (up2 M1 k j x) := by
  refine ⟨frm_up h.1 hk, fun j' hj => ?_, wX_tr h.2.2 (wX_eq ?_)⟩
  · by_cases e : k = 0
    · subst e
      rw [up2_n (fun z => h0 rfl (by rw [← z]; revert hj; simp only [List.mem_cons, List.not_mem_nil, or_false]; omega))]
      exact h.2.1 j' hj
    · rw [up2_o (fun z => e z.symm)]
      exact h.2.1 j' hj
  · by_cases e : k = 0
    · subst e
      rw [up2_n (fun z => h0 rfl (by rw [← z]; decide))]
    · rw [up2_o (fun z => e z.symm)]
theorem keepX_tell {M M1 : Mm} (h : frm tellX M M1) (h0 : row0X M M1) : keepX M M1 := ⟨frm_w h (by decide), fun j hj => by
  simp only [List.mem_cons, List.not_mem_nil, or_false] at hj
  exact h0 j (by omega) (by omega) (by omega), wX_eq (h0 8 (by decide) (by decide) (by decide))⟩
theorem keepX_run {M M1 : Mm} (h : frm tRows M M1) (h0 : wX M M1 ∧ ∀ j, ¬ j = 8 → M1 0 j = M 0 j) : keepX M M1 := ⟨frm_w h (by decide), fun j hj => by
  simp only [List.mem_cons, List.not_mem_nil, or_false] at hj
  exact h0.2 j (by omega), h0.1⟩
/-- laid as it is told, and run -/
def laidX (V : Vy) (C : Cf) (M1 : Mm) : Prop := nC V (cX M1) = C ∧ ranX V C M1
theorem laidX_of {M M1 M2 : Mm} (hV : vX M1 = vX M) {C : Cf} (hC : nC (vX M) (cX M1) = C) (h1 : frm tRows M1 M2) (h0 : wX M1 M2 ∧ ∀ j, ¬ j = 8 → M2 0 j = M1 0 j) (hR : ranX (vX M1) (nC (vX M1) (cX M1)) M2) : laidX (vX M) C M2 := by
  rw [hV, hC] at hR
  refine ⟨?_, hR⟩
  rw [cX_e h0.2 (h1 _ (by decide)) (h1 _ (by decide)) (h1 _ (by decide)), hC]
abbrev okX (M : Mm) : Prop := okY (vX M) ∧ baseI M
def P0_asksValley (rs : List (Nat × Nat)) (M : Mm) : Prop := okX M
def R0_asksValley (rs : List (Nat × Nat)) (M : Mm) (v : Int) (M1 : Mm) : Prop := keepX M M1 ∧ v = b01 (0 < M 1 3) ∧ laidX (vX M) (tellP (vX M)) M1
def sp0_asksValley (rs : List (Nat × Nat)) : Spec := spR true [] 1 (fun x M => P0_asksValley rs M) (fun x M v M1 => R0_asksValley rs M v M1)
theorem c0_asksValley {rs : List (Nat × Nat)} {M : Mm} {Q : Option AV → Mm → Prop} : sp0_asksValley rs [ar 0] M Q = (P0_asksValley rs M ∧ ∀ (v : Int) (M1 : Mm), R0_asksValley rs M v M1 → Q (some (ai v)) M1) := rfl
def cs0_asksValley (rs : List (Nat × Nat)) : List (Nat × Nat × Nat × Spec) := [(250, 1, 1, (sp0_asItIs rs)), (253, 1, 1, (sp0_lays rs)), (256, 1, 1, (sp0_isValley rs))]
set_option maxHeartbeats 4000000 in
set_option maxRecDepth 100000 in
theorem in0_asksValley {rs : List (Nat × Nat)} {M : Mm} {Q : Option AV → Mm → Prop} (hM : okM (sh8 rs) M) (hP : P0_asksValley rs M) (hQ : ∀ (v : Int) (M1 : Mm), R0_asksValley rs M v M1 → Q (some (ai v)) M1) : wp (tb0 (csL (cs0_asksValley rs))) (sh8 rs) 1 2 cX0_asksValley [] Q 400 0 [(0, ar 0)] [] M := by
  obtain ⟨hY, hB⟩ := id hP
  simp only [e_wp dX0_asksValley_0 rfl, e_wp dX0_asksValley_1 rfl, e_wp dX0_asksValley_4 rfl, e_wp dX0_asksValley_5 rfl, e_wp dX0_asksValley_8 rfl, e_wp dX0_asksValley_9 rfl, e_wp dX0_asksValley_12 rfl, c0_asItIs, cs0_asksValley, c0_lays, c0_isValley, P0_isValley, V0_isValley, e_iconst, e_bipush, e_sipush, e_lconst_0, e_lconst_1, e_iload, e_iload_0, e_iload_1, e_iload_2, e_iload_3, e_lload, e_lload_0, e_lload_1, e_lload_2, e_lload_3, e_aload, e_aload_0, e_aload_1, e_aload_2, e_aload_3, e_istore, e_istore_0, e_istore_1, e_istore_2, e_istore_3, e_astore, e_astore_0, e_astore_1, e_astore_2, e_astore_3, e_lstore, e_lstore_0, e_lstore_1, e_lstore_2, e_lstore_3, e_iinc, e_iadd, e_isub, e_imul, e_ladd, e_lsub, e_lmul, e_idiv, e_irem, e_ldiv, e_lrem, e_ineg, e_lneg, e_iand, e_ior, e_ixor, e_ishl, e_ishr, e_iushr, e_lcmp, e_i2l, e_l2i, e_i2b, e_i2s, e_dup_i, e_dup_r, e_pop_i, e_pop_r, e_dup2_l, e_dup2_ir, e_dup2_ii, e_ifeq, e_ifne, e_iflt, e_ifge, e_ifgt, e_ifle, e_iceq, e_icne, e_iclt, e_icge, e_icgt, e_icle, e_goto, e_switch, e_invokevirtual, e_invokestatic, e_invokespecial, e_ret0, e_ret1, e_ret2, e_ret3, ldI_s, ldL_s, ldR_s, clO_s, ctP_s, ctS_s, mgo_0, mgo_s, pjc_s, pj_0, pj_s, lk_s, rm1_0, rm1_i, rm1_r, rm1_l, rm2_0, rm2_i, rm2_r, rm2_l, csL_s, lc_lt, lc_ge, lc_gt, lc_le, lc_eq, b01_0, b01_1, b01_01, b01_n, up2_o, up2_s, up2_u, ne_eq, reduceCtorEq, Nat.reduceAdd, Nat.reduceEqDiff, Nat.reduceLT, Nat.reduceLeDiff, Int.reduceLE, Int.reduceLT, Int.reduceAdd, Int.reduceNeg, Int.reduceMul, Int.reduceSub, Int.reduceEq, Int.reduceToNat, Int.reduceNatCast, Int.cast_ofNat_Int, ↓reduceIte, and_self, List.drop_succ_cons, List.drop_zero, List.take_succ_cons, List.take_zero, List.length_cons, List.length_nil, List.reverse_cons, List.reverse_nil, List.nil_append, List.cons_append, Option.toList, true_and, and_true, or_false, false_or, or_true, true_or, forall_const, Classical.not_not, not_false_eq_true, not_true_eq_false, false_implies, true_implies, implies_true, imp_self]
  refine ⟨⟨hY, hB⟩, fun M1 hR => ?_⟩
  obtain ⟨r1, r2, r3⟩ := hR
  have hk := keepX_tell r1 r2
  have eV := keepX_v hk
  have hC : okCf (vX M1) (cX M1) := by rw [eV]; exact okCf_un (by rw [r3]; exact okCf_tell hY)
  refine ⟨⟨by rw [eV]; exact hY, hC, keepX_b hk hB⟩, fun M2 hR2 => ?_⟩
  obtain ⟨q1, q0, q2⟩ := hR2
  have hk2 := keepX_tr hk (keepX_run q1 q0)
  refine ⟨(Classical.em _).symm, hQ _ _ ⟨hk2, ?_, laidX_of eV r3 q1 q0 q2⟩⟩
  rw [keepX_1 hk2]
set_option maxHeartbeats 4000000 in
set_option maxRecDepth 100000 in
theorem m0_asksValley {rs : List (Nat × Nat)} : MOK cl8 (sh8 rs) tyl8 Nws8 6 yX0_asksValley cX0_asksValley 1 (some .boolean) (sp0_asksValley rs) := by
  refine mok_of (own := RX0) (tb := tb0 (csL (cs0_asksValley rs))) (rt := 2) (fuel := 400) (fun avs M Q => []) (by decide) rfl nws8_ok (tbOK0 _) rfl (csL_all ?_) ?_ ?_ ?_
  · intro q hq
    simp only [cs0_asksValley, List.mem_cons, List.not_mem_nil, or_false] at hq
    rcases hq with rfl | rfl | rfl
    · exact cg0_asItIs (by decide)
    · exact cg0_lays (by decide)
    · exact cg0_isValley (by decide)
  · intro avs M Q hsp
    obtain ⟨xs, hx⟩ := spR_un _ _ _ hsp
    obtain ⟨e, hl⟩ := unA_mkT hx
    obtain rfl := len0 hl
    have e : avs = [ar 0] := e
    subst e
    simp [szL, isL]
  · intro avs M Q hM hav hsp
    obtain ⟨xs, hx⟩ := spR_un _ _ _ hsp
    obtain ⟨e, hl⟩ := unA_mkT hx
    obtain rfl := len0 hl
    have e : avs = [ar 0] := e
    subst e
    exact in0_asksValley hM hsp.1 hsp.2
  · intro avs M Q hM hav hsp q hq m_ vs M1 hM1 hv hJ
    obtain ⟨xs, hx⟩ := spR_un _ _ _ hsp
    obtain ⟨e, hl⟩ := unA_mkT hx
    obtain rfl := len0 hl
    have e : avs = [ar 0] := e
    subst e
    cases hq
theorem cg0_asksValley {rs : List (Nat × Nat)} {lvl : Nat} (h : 6 < lvl) : CG RX0 cl8 (sh8 rs) tyl8 Nws8 lvl 1 260 1 (sp0_asksValley rs) := cg_V (sg := []) nws8_ok spR_mono spR_un m0_asksValley h rfl (by decide) rfl rfl ⟨rfl, by decide, by decide, rfl⟩ q804 q806 qs19 q128 q807
def P0_asksCart (rs : List (Nat × Nat)) (c : Int) (M : Mm) : Prop := okX M
def R0_asksCart (rs : List (Nat × Nat)) (c : Int) (M : Mm) (v : Int) (M1 : Mm) : Prop := keepX M M1 ∧ v = b01 (0 ≤ c ∧ c < M 1 5) ∧ laidX (vX M) (tellP (vX M)) M1
def sp0_asksCart (rs : List (Nat × Nat)) : Spec := spR true [0] 1 (fun x M => P0_asksCart rs (x 0) M) (fun x M v M1 => R0_asksCart rs (x 0) M v M1)
theorem c0_asksCart {rs : List (Nat × Nat)} {c : Int} {M : Mm} {Q : Option AV → Mm → Prop} : sp0_asksCart rs [ar 0, ai c] M Q = (P0_asksCart rs c M ∧ ∀ (v : Int) (M1 : Mm), R0_asksCart rs c M v M1 → Q (some (ai v)) M1) := rfl
def cs0_asksCart (rs : List (Nat × Nat)) : List (Nat × Nat × Nat × Spec) := [(260, 1, 1, (sp0_asksValley rs)), (159, 1, 2, (sp0_isCart rs))]
set_option maxHeartbeats 4000000 in
set_option maxRecDepth 100000 in
theorem in0_asksCart {rs : List (Nat × Nat)} {c : Int} {M : Mm} {Q : Option AV → Mm → Prop} (hM : okM (sh8 rs) M) (h_c : i32 c) (hP : P0_asksCart rs c M) (hQ : ∀ (v : Int) (M1 : Mm), R0_asksCart rs c M v M1 → Q (some (ai v)) M1) : wp (tb0 (csL (cs0_asksCart rs))) (sh8 rs) 2 2 cX0_asksCart [] Q 400 0 [(0, ar 0), (1, ai c)] [] M := by
  obtain ⟨hY, hB⟩ := id hP
  have h4 : 0 ≤ M 1 5 ∧ M 1 5 ≤ 7 := (okY_n hY).2.1
  simp only [e_wp dX0_asksCart_0 rfl, e_wp dX0_asksCart_1 rfl, e_wp dX0_asksCart_4 rfl, e_wp dX0_asksCart_5 rfl, e_wp dX0_asksCart_6 rfl, e_wp dX0_asksCart_7 rfl, e_wp dX0_asksCart_8 rfl, e_wp dX0_asksCart_11 rfl, c0_asksValley, cs0_asksCart, c0_isCart, P0_isCart, V0_isCart, e_iconst, e_bipush, e_sipush, e_lconst_0, e_lconst_1, e_iload, e_iload_0, e_iload_1, e_iload_2, e_iload_3, e_lload, e_lload_0, e_lload_1, e_lload_2, e_lload_3, e_aload, e_aload_0, e_aload_1, e_aload_2, e_aload_3, e_istore, e_istore_0, e_istore_1, e_istore_2, e_istore_3, e_astore, e_astore_0, e_astore_1, e_astore_2, e_astore_3, e_lstore, e_lstore_0, e_lstore_1, e_lstore_2, e_lstore_3, e_iinc, e_iadd, e_isub, e_imul, e_ladd, e_lsub, e_lmul, e_idiv, e_irem, e_ldiv, e_lrem, e_ineg, e_lneg, e_iand, e_ior, e_ixor, e_ishl, e_ishr, e_iushr, e_lcmp, e_i2l, e_l2i, e_i2b, e_i2s, e_dup_i, e_dup_r, e_pop_i, e_pop_r, e_dup2_l, e_dup2_ir, e_dup2_ii, e_ifeq, e_ifne, e_iflt, e_ifge, e_ifgt, e_ifle, e_iceq, e_icne, e_iclt, e_icge, e_icgt, e_icle, e_goto, e_switch, e_invokevirtual, e_invokestatic, e_invokespecial, e_ret0, e_ret1, e_ret2, e_ret3, ldI_s, ldL_s, ldR_s, clO_s, ctP_s, ctS_s, mgo_0, mgo_s, pjc_s, pj_0, pj_s, lk_s, rm1_0, rm1_i, rm1_r, rm1_l, rm2_0, rm2_i, rm2_r, rm2_l, csL_s, lc_lt, lc_ge, lc_gt, lc_le, lc_eq, b01_0, b01_1, b01_01, b01_n, up2_o, up2_s, up2_u, ne_eq, reduceCtorEq, Nat.reduceAdd, Nat.reduceEqDiff, Nat.reduceLT, Nat.reduceLeDiff, Int.reduceLE, Int.reduceLT, Int.reduceAdd, Int.reduceNeg, Int.reduceMul, Int.reduceSub, Int.reduceEq, Int.reduceToNat, Int.reduceNatCast, Int.cast_ofNat_Int, ↓reduceIte, and_self, List.drop_succ_cons, List.drop_zero, List.take_succ_cons, List.take_zero, List.length_cons, List.length_nil, List.reverse_cons, List.reverse_nil, List.nil_append, List.cons_append, Option.toList, true_and, and_true, or_false, false_or, or_true, true_or, forall_const, Classical.not_not, not_false_eq_true, not_true_eq_false, false_implies, true_implies, implies_true, imp_self]
  refine ⟨⟨hY, hB⟩, fun v M1 hR => ?_⟩
  obtain ⟨r1, r2, r3⟩ := hR
  rw [keepX_1 r1]
  exact ⟨h4, (Classical.em _).symm, hQ _ _ ⟨r1, rfl, r3⟩⟩
set_option maxHeartbeats 4000000 in
set_option maxRecDepth 100000 in
theorem m0_asksCart {rs : List (Nat × Nat)} : MOK cl8 (sh8 rs) tyl8 Nws8 7 yX0_asksCart cX0_asksCart 2 (some .boolean) (sp0_asksCart rs) := by
  refine mok_of (own := RX0) (tb := tb0 (csL (cs0_asksCart rs))) (rt := 2) (fuel := 400) (fun avs M Q => []) (by decide) rfl nws8_ok (tbOK0 _) rfl (csL_all ?_) ?_ ?_ ?_
  · intro q hq
    simp only [cs0_asksCart, List.mem_cons, List.not_mem_nil, or_false] at hq
    rcases hq with rfl | rfl
    · exact cg0_asksValley (by decide)
    · exact cg0_isCart (by decide)
  · intro avs M Q hsp
    obtain ⟨xs, hx⟩ := spR_un _ _ _ hsp
    obtain ⟨e, hl⟩ := unA_mkT hx
    obtain ⟨c, rfl⟩ := len1 hl
    have e : avs = [ar 0, ai c] := e
    subst e
    simp [szL, isL]
  · intro avs M Q hM hav hsp
    obtain ⟨xs, hx⟩ := spR_un _ _ _ hsp
    obtain ⟨e, hl⟩ := unA_mkT hx
    obtain ⟨c, rfl⟩ := len1 hl
    have e : avs = [ar 0, ai c] := e
    subst e
    exact in0_asksCart hM (hav (ai c) (by simp)) hsp.1 hsp.2
  · intro avs M Q hM hav hsp q hq m_ vs M1 hM1 hv hJ
    obtain ⟨xs, hx⟩ := spR_un _ _ _ hsp
    obtain ⟨e, hl⟩ := unA_mkT hx
    obtain ⟨c, rfl⟩ := len1 hl
    have e : avs = [ar 0, ai c] := e
    subst e
    cases hq
theorem cg0_asksCart {rs : List (Nat × Nat)} {lvl : Nat} (h : 7 < lvl) : CG RX0 cl8 (sh8 rs) tyl8 Nws8 lvl 1 263 2 (sp0_asksCart rs) := cg_V (sg := [0]) nws8_ok spR_mono spR_un m0_asksCart h rfl (by decide) rfl rfl ⟨rfl, by decide, by decide, rfl⟩ q800 q802 qs18 q128 q803
def P0_asksBridge (rs : List (Nat × Nat)) (b : Int) (M : Mm) : Prop := okX M
def R0_asksBridge (rs : List (Nat × Nat)) (b : Int) (M : Mm) (v : Int) (M1 : Mm) : Prop := keepX M M1 ∧ v = b01 (0 ≤ b ∧ b < M 1 4) ∧ laidX (vX M) (tellP (vX M)) M1
def sp0_asksBridge (rs : List (Nat × Nat)) : Spec := spR true [0] 1 (fun x M => P0_asksBridge rs (x 0) M) (fun x M v M1 => R0_asksBridge rs (x 0) M v M1)
theorem c0_asksBridge {rs : List (Nat × Nat)} {b : Int} {M : Mm} {Q : Option AV → Mm → Prop} : sp0_asksBridge rs [ar 0, ai b] M Q = (P0_asksBridge rs b M ∧ ∀ (v : Int) (M1 : Mm), R0_asksBridge rs b M v M1 → Q (some (ai v)) M1) := rfl
def cs0_asksBridge (rs : List (Nat × Nat)) : List (Nat × Nat × Nat × Spec) := [(260, 1, 1, (sp0_asksValley rs)), (167, 1, 2, (sp0_isBridge rs))]
set_option maxHeartbeats 4000000 in
set_option maxRecDepth 100000 in
theorem in0_asksBridge {rs : List (Nat × Nat)} {b : Int} {M : Mm} {Q : Option AV → Mm → Prop} (hM : okM (sh8 rs) M) (h_b : i32 b) (hP : P0_asksBridge rs b M) (hQ : ∀ (v : Int) (M1 : Mm), R0_asksBridge rs b M v M1 → Q (some (ai v)) M1) : wp (tb0 (csL (cs0_asksBridge rs))) (sh8 rs) 2 2 cX0_asksBridge [] Q 400 0 [(0, ar 0), (1, ai b)] [] M := by
  obtain ⟨hY, hB⟩ := id hP
  have h3 : 0 ≤ M 1 4 ∧ M 1 4 ≤ 3 := (okY_n hY).1
  simp only [e_wp dX0_asksBridge_0 rfl, e_wp dX0_asksBridge_1 rfl, e_wp dX0_asksBridge_4 rfl, e_wp dX0_asksBridge_5 rfl, e_wp dX0_asksBridge_6 rfl, e_wp dX0_asksBridge_7 rfl, e_wp dX0_asksBridge_8 rfl, e_wp dX0_asksBridge_11 rfl, c0_asksValley, cs0_asksBridge, c0_isBridge, P0_isBridge, V0_isBridge, e_iconst, e_bipush, e_sipush, e_lconst_0, e_lconst_1, e_iload, e_iload_0, e_iload_1, e_iload_2, e_iload_3, e_lload, e_lload_0, e_lload_1, e_lload_2, e_lload_3, e_aload, e_aload_0, e_aload_1, e_aload_2, e_aload_3, e_istore, e_istore_0, e_istore_1, e_istore_2, e_istore_3, e_astore, e_astore_0, e_astore_1, e_astore_2, e_astore_3, e_lstore, e_lstore_0, e_lstore_1, e_lstore_2, e_lstore_3, e_iinc, e_iadd, e_isub, e_imul, e_ladd, e_lsub, e_lmul, e_idiv, e_irem, e_ldiv, e_lrem, e_ineg, e_lneg, e_iand, e_ior, e_ixor, e_ishl, e_ishr, e_iushr, e_lcmp, e_i2l, e_l2i, e_i2b, e_i2s, e_dup_i, e_dup_r, e_pop_i, e_pop_r, e_dup2_l, e_dup2_ir, e_dup2_ii, e_ifeq, e_ifne, e_iflt, e_ifge, e_ifgt, e_ifle, e_iceq, e_icne, e_iclt, e_icge, e_icgt, e_icle, e_goto, e_switch, e_invokevirtual, e_invokestatic, e_invokespecial, e_ret0, e_ret1, e_ret2, e_ret3, ldI_s, ldL_s, ldR_s, clO_s, ctP_s, ctS_s, mgo_0, mgo_s, pjc_s, pj_0, pj_s, lk_s, rm1_0, rm1_i, rm1_r, rm1_l, rm2_0, rm2_i, rm2_r, rm2_l, csL_s, lc_lt, lc_ge, lc_gt, lc_le, lc_eq, b01_0, b01_1, b01_01, b01_n, up2_o, up2_s, up2_u, ne_eq, reduceCtorEq, Nat.reduceAdd, Nat.reduceEqDiff, Nat.reduceLT, Nat.reduceLeDiff, Int.reduceLE, Int.reduceLT, Int.reduceAdd, Int.reduceNeg, Int.reduceMul, Int.reduceSub, Int.reduceEq, Int.reduceToNat, Int.reduceNatCast, Int.cast_ofNat_Int, ↓reduceIte, and_self, List.drop_succ_cons, List.drop_zero, List.take_succ_cons, List.take_zero, List.length_cons, List.length_nil, List.reverse_cons, List.reverse_nil, List.nil_append, List.cons_append, Option.toList, true_and, and_true, or_false, false_or, or_true, true_or, forall_const, Classical.not_not, not_false_eq_true, not_true_eq_false, false_implies, true_implies, implies_true, imp_self]
  refine ⟨⟨hY, hB⟩, fun v M1 hR => ?_⟩
  obtain ⟨r1, r2, r3⟩ := hR
  rw [keepX_1 r1]
  exact ⟨h3, (Classical.em _).symm, hQ _ _ ⟨r1, rfl, r3⟩⟩
set_option maxHeartbeats 4000000 in
set_option maxRecDepth 100000 in
theorem m0_asksBridge {rs : List (Nat × Nat)} : MOK cl8 (sh8 rs) tyl8 Nws8 7 yX0_asksBridge cX0_asksBridge 2 (some .boolean) (sp0_asksBridge rs) := by
  refine mok_of (own := RX0) (tb := tb0 (csL (cs0_asksBridge rs))) (rt := 2) (fuel := 400) (fun avs M Q => []) (by decide) rfl nws8_ok (tbOK0 _) rfl (csL_all ?_) ?_ ?_ ?_
  · intro q hq
    simp only [cs0_asksBridge, List.mem_cons, List.not_mem_nil, or_false] at hq
    rcases hq with rfl | rfl
    · exact cg0_asksValley (by decide)
    · exact cg0_isBridge (by decide)
  · intro avs M Q hsp
    obtain ⟨xs, hx⟩ := spR_un _ _ _ hsp
    obtain ⟨e, hl⟩ := unA_mkT hx
    obtain ⟨b, rfl⟩ := len1 hl
    have e : avs = [ar 0, ai b] := e
    subst e
    simp [szL, isL]
  · intro avs M Q hM hav hsp
    obtain ⟨xs, hx⟩ := spR_un _ _ _ hsp
    obtain ⟨e, hl⟩ := unA_mkT hx
    obtain ⟨b, rfl⟩ := len1 hl
    have e : avs = [ar 0, ai b] := e
    subst e
    exact in0_asksBridge hM (hav (ai b) (by simp)) hsp.1 hsp.2
  · intro avs M Q hM hav hsp q hq m_ vs M1 hM1 hv hJ
    obtain ⟨xs, hx⟩ := spR_un _ _ _ hsp
    obtain ⟨e, hl⟩ := unA_mkT hx
    obtain ⟨b, rfl⟩ := len1 hl
    have e : avs = [ar 0, ai b] := e
    subst e
    cases hq
theorem cg0_asksBridge {rs : List (Nat × Nat)} {lvl : Nat} (h : 7 < lvl) : CG RX0 cl8 (sh8 rs) tyl8 Nws8 lvl 1 271 2 (sp0_asksBridge rs) := cg_V (sg := [0]) nws8_ok spR_mono spR_un m0_asksBridge h rfl (by decide) rfl rfl ⟨rfl, by decide, by decide, rfl⟩ q871 q873 qs27 q128 q874
/-- an answer by a turn or a bridge: first the bridge, then all is laid -/
def P0_asks (rs : List (Nat × Nat)) (b : Int) (t : Int) (M : Mm) : Prop := okX M
def R0_asks (rs : List (Nat × Nat)) (b : Int) (t : Int) (M : Mm) (v : Int) (M1 : Mm) : Prop := keepX M M1 ∧ v = b01 ((0 ≤ b ∧ b < M 1 4) ∧ 0 ≤ t ∧ t < M 1 5) ∧ (v = 1 → laidX (vX M) (tellP (vX M)) M1)
def sp0_asks (rs : List (Nat × Nat)) : Spec := spR true [0, 0] 1 (fun x M => P0_asks rs (x 0) (x 1) M) (fun x M v M1 => R0_asks rs (x 0) (x 1) M v M1)
theorem c0_asks {rs : List (Nat × Nat)} {b t : Int} {M : Mm} {Q : Option AV → Mm → Prop} : sp0_asks rs [ar 0, ai b, ai t] M Q = (P0_asks rs b t M ∧ ∀ (v : Int) (M1 : Mm), R0_asks rs b t M v M1 → Q (some (ai v)) M1) := rfl
def cs0_asks (rs : List (Nat × Nat)) : List (Nat × Nat × Nat × Spec) := [(167, 1, 2, (sp0_isBridge rs)), (263, 1, 2, (sp0_asksCart rs))]
set_option maxHeartbeats 4000000 in
set_option maxRecDepth 100000 in
theorem in0_asks {rs : List (Nat × Nat)} {b t : Int} {M : Mm} {Q : Option AV → Mm → Prop} (hM : okM (sh8 rs) M) (h_b : i32 b) (h_t : i32 t) (hP : P0_asks rs b t M) (hQ : ∀ (v : Int) (M1 : Mm), R0_asks rs b t M v M1 → Q (some (ai v)) M1) : wp (tb0 (csL (cs0_asks rs))) (sh8 rs) 3 2 cX0_asks [] Q 400 0 [(0, ar 0), (1, ai b), (2, ai t)] [] M := by
  obtain ⟨hY, hB⟩ := id hP
  have h3 : 0 ≤ M 1 4 ∧ M 1 4 ≤ 3 := (okY_n hY).1
  simp only [e_wp dX0_asks_0 rfl, e_wp dX0_asks_1 rfl, e_wp dX0_asks_2 rfl, e_wp dX0_asks_3 rfl, e_wp dX0_asks_6 rfl, e_wp dX0_asks_9 rfl, e_wp dX0_asks_10 rfl, e_wp dX0_asks_11 rfl, e_wp dX0_asks_14 rfl, e_wp dX0_asks_17 rfl, e_wp dX0_asks_18 rfl, e_wp dX0_asks_21 rfl, e_wp dX0_asks_22 rfl, c0_isBridge, P0_isBridge, V0_isBridge, cs0_asks, c0_asksCart, e_iconst, e_bipush, e_sipush, e_lconst_0, e_lconst_1, e_iload, e_iload_0, e_iload_1, e_iload_2, e_iload_3, e_lload, e_lload_0, e_lload_1, e_lload_2, e_lload_3, e_aload, e_aload_0, e_aload_1, e_aload_2, e_aload_3, e_istore, e_istore_0, e_istore_1, e_istore_2, e_istore_3, e_astore, e_astore_0, e_astore_1, e_astore_2, e_astore_3, e_lstore, e_lstore_0, e_lstore_1, e_lstore_2, e_lstore_3, e_iinc, e_iadd, e_isub, e_imul, e_ladd, e_lsub, e_lmul, e_idiv, e_irem, e_ldiv, e_lrem, e_ineg, e_lneg, e_iand, e_ior, e_ixor, e_ishl, e_ishr, e_iushr, e_lcmp, e_i2l, e_l2i, e_i2b, e_i2s, e_dup_i, e_dup_r, e_pop_i, e_pop_r, e_dup2_l, e_dup2_ir, e_dup2_ii, e_ifeq, e_ifne, e_iflt, e_ifge, e_ifgt, e_ifle, e_iceq, e_icne, e_iclt, e_icge, e_icgt, e_icle, e_goto, e_switch, e_invokevirtual, e_invokestatic, e_invokespecial, e_ret0, e_ret1, e_ret2, e_ret3, ldI_s, ldL_s, ldR_s, clO_s, ctP_s, ctS_s, mgo_0, mgo_s, pjc_s, pj_0, pj_s, lk_s, rm1_0, rm1_i, rm1_r, rm1_l, rm2_0, rm2_i, rm2_r, rm2_l, csL_s, lc_lt, lc_ge, lc_gt, lc_le, lc_eq, b01_0, b01_1, b01_01, b01_n, up2_o, up2_s, up2_u, ne_eq, reduceCtorEq, Nat.reduceAdd, Nat.reduceEqDiff, Nat.reduceLT, Nat.reduceLeDiff, Int.reduceLE, Int.reduceLT, Int.reduceAdd, Int.reduceNeg, Int.reduceMul, Int.reduceSub, Int.reduceEq, Int.reduceToNat, Int.reduceNatCast, Int.cast_ofNat_Int, ↓reduceIte, and_self, List.drop_succ_cons, List.drop_zero, List.take_succ_cons, List.take_zero, List.length_cons, List.length_nil, List.reverse_cons, List.reverse_nil, List.nil_append, List.cons_append, Option.toList, true_and, and_true, or_false, false_or, or_true, true_or, forall_const, Classical.not_not, not_false_eq_true, not_true_eq_false, false_implies, true_implies, implies_true, imp_self]
  refine ⟨h3, fun q => hQ _ _ ⟨keepX_rf, (b01_f (fun z => q z.1)).symm, fun z => absurd z (by decide)⟩, fun q => ⟨⟨hY, hB⟩, fun v M1 hR => ?_⟩⟩
  obtain ⟨r1, r2, r3⟩ := hR
  refine ⟨fun z => hQ _ _ ⟨r1, ?_, fun w => absurd w (by decide)⟩, fun z => hQ _ _ ⟨r1, ?_, fun _ => r3⟩⟩
  · rw [r2, b01_0] at z
    exact (b01_f (fun w => z w.2)).symm
  · rw [r2, b01_0] at z
    exact (b01_t ⟨q, Classical.not_not.mp z⟩).symm
set_option maxHeartbeats 4000000 in
set_option maxRecDepth 100000 in
theorem m0_asks {rs : List (Nat × Nat)} : MOK cl8 (sh8 rs) tyl8 Nws8 8 yX0_asks cX0_asks 3 (some .boolean) (sp0_asks rs) := by
  refine mok_of (own := RX0) (tb := tb0 (csL (cs0_asks rs))) (rt := 2) (fuel := 400) (fun avs M Q => []) (by decide) rfl nws8_ok (tbOK0 _) rfl (csL_all ?_) ?_ ?_ ?_
  · intro q hq
    simp only [cs0_asks, List.mem_cons, List.not_mem_nil, or_false] at hq
    rcases hq with rfl | rfl
    · exact cg0_isBridge (by decide)
    · exact cg0_asksCart (by decide)
  · intro avs M Q hsp
    obtain ⟨xs, hx⟩ := spR_un _ _ _ hsp
    obtain ⟨e, hl⟩ := unA_mkT hx
    obtain ⟨b, t, rfl⟩ := len2 hl
    have e : avs = [ar 0, ai b, ai t] := e
    subst e
    simp [szL, isL]
  · intro avs M Q hM hav hsp
    obtain ⟨xs, hx⟩ := spR_un _ _ _ hsp
    obtain ⟨e, hl⟩ := unA_mkT hx
    obtain ⟨b, t, rfl⟩ := len2 hl
    have e : avs = [ar 0, ai b, ai t] := e
    subst e
    exact in0_asks hM (hav (ai b) (by simp)) (hav (ai t) (by simp)) hsp.1 hsp.2
  · intro avs M Q hM hav hsp q hq m_ vs M1 hM1 hv hJ
    obtain ⟨xs, hx⟩ := spR_un _ _ _ hsp
    obtain ⟨e, hl⟩ := unA_mkT hx
    obtain ⟨b, t, rfl⟩ := len2 hl
    have e : avs = [ar 0, ai b, ai t] := e
    subst e
    cases hq
theorem cg0_asks {rs : List (Nat × Nat)} {lvl : Nat} (h : 8 < lvl) : CG RX0 cl8 (sh8 rs) tyl8 Nws8 lvl 1 277 3 (sp0_asks rs) := cg_V (sg := [0, 0]) nws8_ok spR_mono spR_un m0_asks h rfl (by decide) rfl rfl ⟨rfl, by decide, by decide, rfl⟩ q887 q889 qs29 q128 q890
