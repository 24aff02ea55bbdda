/-! SagMemory: the tape; what is done -/
def keepTX (M M1 : Mm) : Prop := frm [0, 12] M M1 ∧ ∀ j, ¬ j = 2 → M1 0 j = M 0 j
theorem keepTX_tr {M M1 M2 : Mm} (h : keepTX M M1) (h2 : keepTX M1 M2) : keepTX M M2 := ⟨frm_tr h.1 h2.1 (by decide), fun j a => (h2.2 j a).trans (h.2 j a)⟩
def P0_puts (rs : List (Nat × Nat)) (v : Int) (M : Mm) : Prop := 0 ≤ M 0 2 ∧ M 0 2 ≤ 696
def R0_puts (rs : List (Nat × Nat)) (v : Int) (M : Mm) (M1 : Mm) : Prop := keepTX M M1 ∧ M1 0 2 = M 0 2 + 4 ∧ M1 12 = putP (M 12) (M 0 2).toNat v 4
def sp0_puts (rs : List (Nat × Nat)) : Spec := spV true [0] (fun x M => P0_puts rs (x 0) M) (fun x M M1 => R0_puts rs (x 0) M M1)
theorem c0_puts {rs : List (Nat × Nat)} {v : Int} {M : Mm} {Q : Option AV → Mm → Prop} : sp0_puts rs [ar 0, ai v] M Q = (P0_puts rs v M ∧ ∀ (M1 : Mm), R0_puts rs v M M1 → Q none M1) := rfl
def cs0_puts (rs : List (Nat × Nat)) : List (Nat × Nat × Nat × Spec) := []
def J0_puts_3 (rs : List (Nat × Nat)) (v : Int) (M : Mm) (m : Nat) (v_ : Int) (k : Int) (M1 : Mm) : Prop := v = v_ ∧ ∃ a : Nat, k = 24 - 8 * (a : Int) ∧ a ≤ 4 ∧ keepTX M M1 ∧ M1 0 2 = M 0 2 + a ∧ M1 12 = putP (M 12) (M 0 2).toNat v a ∧ m = 4 - a
set_option maxHeartbeats 4000000 in
set_option maxRecDepth 100000 in
theorem in0_puts {rs : List (Nat × Nat)} {v : Int} {M : Mm} {Q : Option AV → Mm → Prop} (hM : okM (sh8 rs) M) (h_v : i32 v) (hP : P0_puts rs v M) (hQ : ∀ (M1 : Mm), R0_puts rs v M M1 → Q none M1) (I_3 : List AV → Mm → Prop) (hI_3 : ∀ (m_ : Nat) (y_v_ : Int) (y_k : Int) (M2 : Mm), J0_puts_3 rs v M m_ y_v_ y_k M2 → I_3 [ar 0, ai y_v_, ai y_k] M2) : wp (tb0 (csL (cs0_puts rs))) (sh8 rs) 3 0 cX0_puts [(3, [0, 1, 2], I_3)] Q 400 0 [(0, ar 0), (1, ai v)] [] M := by
  simp only [e_wp dX0_puts_0 rfl, e_wp dX0_puts_2 rfl, e_wp dX0_puts_3 rfl, e_wp dX0_puts_4 rfl, e_wp dX0_puts_7 rfl, e_wp dX0_puts_8 rfl, e_wp dX0_puts_11 rfl, e_wp dX0_puts_12 rfl, e_wp dX0_puts_15 rfl, e_wp dX0_puts_16 rfl, e_wp dX0_puts_17 rfl, e_wp dX0_puts_18 rfl, e_wp dX0_puts_19 rfl, e_wp dX0_puts_20 rfl, e_wp dX0_puts_21 rfl, e_wp dX0_puts_22 rfl, e_wp dX0_puts_25 rfl, e_wp dX0_puts_26 rfl, e_wp dX0_puts_27 rfl, e_wp dX0_puts_30 rfl, e_wp dX0_puts_33 rfl, e_wp dX0_puts_36 rfl, g0_16, g0_121, p0_121, a8_13, w8_13, a8_14, w8_14, a8_15, w8_15, a8_16, w8_16, a8_17, w8_17, a8_18, w8_18, a8_19, w8_19, a8_20, w8_20, a8_21, w8_21, a8_22, w8_22, a8_23, w8_23, a8_24, w8_24, a8_25, w8_25, a8_26, w8_26, a8_27, w8_27, a8_28, w8_28, a8_29, w8_29, a8_30, w8_30, a8_31, w8_31, a8_32, w8_32, a8_33, w8_33, a8_34, w8_34, a8_35, w8_35, a8_36, w8_36, a8_37, w8_37, a8_38, w8_38, a8_39, w8_39, a8_40, w8_40, a8_12, w8_12, a8_6, a8_7, e_iconst, e_bipush, e_sipush, e_lconst_0, e_lconst_1, e_iload, e_iload_0, e_iload_1, e_iload_2, e_iload_3, e_lload, e_lload_0, e_lload_1, e_lload_2, e_lload_3, e_aload, e_aload_0, e_aload_1, e_aload_2, e_aload_3, e_istore, e_istore_0, e_istore_1, e_istore_2, e_istore_3, e_astore, e_astore_0, e_astore_1, e_astore_2, e_astore_3, e_lstore, e_lstore_0, e_lstore_1, e_lstore_2, e_lstore_3, e_iinc, e_iadd, e_isub, e_imul, e_ladd, e_lsub, e_lmul, e_idiv, e_irem, e_ldiv, e_lrem, e_ineg, e_lneg, e_iand, e_ior, e_ixor, e_ishl, e_ishr, e_iushr, e_lcmp, e_i2l, e_l2i, e_i2b, e_i2s, e_dup_i, e_dup_r, e_pop_i, e_pop_r, e_dup2_l, e_dup2_ir, e_dup2_ii, e_ifeq, e_ifne, e_iflt, e_ifge, e_ifgt, e_ifle, e_iceq, e_icne, e_iclt, e_icge, e_icgt, e_icle, e_goto, e_switch, e_invokevirtual, e_invokestatic, e_invokespecial, e_ret0, e_ret1, e_ret2, e_ret3, ldI_s, ldL_s, ldR_s, clO_s, ctP_s, ctS_s, mgo_0, mgo_s, pjc_s, pj_0, pj_s, lk_s, rm1_0, rm1_i, rm1_r, rm1_l, rm2_0, rm2_i, rm2_r, rm2_l, csL_s, lc_lt, lc_ge, lc_gt, lc_le, lc_eq, b01_0, b01_1, b01_01, b01_n, up2_o, up2_s, up2_u, ne_eq, reduceCtorEq, Nat.reduceAdd, Nat.reduceEqDiff, Nat.reduceLT, Nat.reduceLeDiff, Int.reduceLE, Int.reduceLT, Int.reduceAdd, Int.reduceNeg, Int.reduceMul, Int.reduceSub, Int.reduceEq, Int.reduceToNat, Int.reduceNatCast, Int.cast_ofNat_Int, ↓reduceIte, and_self, List.drop_succ_cons, List.drop_zero, List.take_succ_cons, List.take_zero, List.length_cons, List.length_nil, List.reverse_cons, List.reverse_nil, List.nil_append, List.cons_append, Option.toList, true_and, and_true, or_false, false_or, or_true, true_or, forall_const, Classical.not_not, not_false_eq_true, not_true_eq_false, false_implies, true_implies, implies_true, imp_self]
  refine hI_3 (4 - 0) _ _ _ ⟨rfl, 0, by omega, by omega, ⟨frm_rf, fun _ _ => rfl⟩, by omega, ?_, rfl⟩
  funext j
  show _ = if _ then _ else _
  rw [if_neg (by omega)]
set_option maxHeartbeats 4000000 in
set_option maxRecDepth 100000 in
theorem at0_puts_3 {rs : List (Nat × Nat)} {v : Int} {M : Mm} {Q : Option AV → Mm → Prop} (hM : okM (sh8 rs) M) (h_v : i32 v) (hP : P0_puts rs v M) (hQ : ∀ (M1 : Mm), R0_puts rs v M M1 → Q none M1) {m : Nat} {v_ k : Int} {M1 : Mm} (hM1 : okM (sh8 rs) M1) (h_v_ : i32 v_) (h_k : i32 k) (hJ : J0_puts_3 rs v M m v_ k M1) (I_3 : List AV → Mm → Prop) (hI_3 : ∀ (m_ : Nat) (y_v_ : Int) (y_k : Int) (M2 : Mm), m_ < m → J0_puts_3 rs v M m_ y_v_ y_k M2 → I_3 [ar 0, ai y_v_, ai y_k] M2) : wp (tb0 (csL (cs0_puts rs))) (sh8 rs) 3 0 cX0_puts [(3, [0, 1, 2], I_3)] Q 400 3 [(0, ar 0), (1, ai v_), (2, ai k)] [] M1 := by
  obtain ⟨rfl, a, rfl, ha, hk, ht, hf, rfl⟩ := hJ
  have hP' : 0 ≤ M 0 2 ∧ M 0 2 ≤ 696 := hP
  simp only [e_wp dX0_puts_0 rfl, e_wp dX0_puts_2 rfl, e_wp dX0_puts_3 rfl, e_wp dX0_puts_4 rfl, e_wp dX0_puts_7 rfl, e_wp dX0_puts_8 rfl, e_wp dX0_puts_11 rfl, e_wp dX0_puts_12 rfl, e_wp dX0_puts_15 rfl, e_wp dX0_puts_16 rfl, e_wp dX0_puts_17 rfl, e_wp dX0_puts_18 rfl, e_wp dX0_puts_19 rfl, e_wp dX0_puts_20 rfl, e_wp dX0_puts_21 rfl, e_wp dX0_puts_22 rfl, e_wp dX0_puts_25 rfl, e_wp dX0_puts_26 rfl, e_wp dX0_puts_27 rfl, e_wp dX0_puts_30 rfl, e_wp dX0_puts_33 rfl, e_wp dX0_puts_36 rfl, g0_16, g0_121, p0_121, a8_13, w8_13, a8_14, w8_14, a8_15, w8_15, a8_16, w8_16, a8_17, w8_17, a8_18, w8_18, a8_19, w8_19, a8_20, w8_20, a8_21, w8_21, a8_22, w8_22, a8_23, w8_23, a8_24, w8_24, a8_25, w8_25, a8_26, w8_26, a8_27, w8_27, a8_28, w8_28, a8_29, w8_29, a8_30, w8_30, a8_31, w8_31, a8_32, w8_32, a8_33, w8_33, a8_34, w8_34, a8_35, w8_35, a8_36, w8_36, a8_37, w8_37, a8_38, w8_38, a8_39, w8_39, a8_40, w8_40, a8_12, w8_12, a8_6, a8_7, e_iconst, e_bipush, e_sipush, e_lconst_0, e_lconst_1, e_iload, e_iload_0, e_iload_1, e_iload_2, e_iload_3, e_lload, e_lload_0, e_lload_1, e_lload_2, e_lload_3, e_aload, e_aload_0, e_aload_1, e_aload_2, e_aload_3, e_istore, e_istore_0, e_istore_1, e_istore_2, e_istore_3, e_astore, e_astore_0, e_astore_1, e_astore_2, e_astore_3, e_lstore, e_lstore_0, e_lstore_1, e_lstore_2, e_lstore_3, e_iinc, e_iadd, e_isub, e_imul, e_ladd, e_lsub, e_lmul, e_idiv, e_irem, e_ldiv, e_lrem, e_ineg, e_lneg, e_iand, e_ior, e_ixor, e_ishl, e_ishr, e_iushr, e_lcmp, e_i2l, e_l2i, e_i2b, e_i2s, e_dup_i, e_dup_r, e_pop_i, e_pop_r, e_dup2_l, e_dup2_ir, e_dup2_ii, e_ifeq, e_ifne, e_iflt, e_ifge, e_ifgt, e_ifle, e_iceq, e_icne, e_iclt, e_icge, e_icgt, e_icle, e_goto, e_switch, e_invokevirtual, e_invokestatic, e_invokespecial, e_ret0, e_ret1, e_ret2, e_ret3, ldI_s, ldL_s, ldR_s, clO_s, ctP_s, ctS_s, mgo_0, mgo_s, pjc_s, pj_0, pj_s, lk_s, rm1_0, rm1_i, rm1_r, rm1_l, rm2_0, rm2_i, rm2_r, rm2_l, csL_s, lc_lt, lc_ge, lc_gt, lc_le, lc_eq, b01_0, b01_1, b01_01, b01_n, up2_o, up2_s, up2_u, ne_eq, reduceCtorEq, Nat.reduceAdd, Nat.reduceEqDiff, Nat.reduceLT, Nat.reduceLeDiff, Int.reduceLE, Int.reduceLT, Int.reduceAdd, Int.reduceNeg, Int.reduceMul, Int.reduceSub, Int.reduceEq, Int.reduceToNat, Int.reduceNatCast, Int.cast_ofNat_Int, ↓reduceIte, and_self, List.drop_succ_cons, List.drop_zero, List.take_succ_cons, List.take_zero, List.length_cons, List.length_nil, List.reverse_cons, List.reverse_nil, List.nil_append, List.cons_append, Option.toList, true_and, and_true, or_false, false_or, or_true, true_or, forall_const, Classical.not_not, not_false_eq_true, not_true_eq_false, false_implies, true_implies, implies_true, imp_self, ht]
  refine ⟨fun q => ?_, fun q => ?_⟩
  · have : a = 4 := by omega
    subst this
    exact hQ _ ⟨hk, ht, hf⟩
  · have hb := n_b1 (bshr v (24 - 8 * (a : Int)))
    repeat (refine And.intro (by omega) ?_)
    refine hI_3 (4 - (a + 1)) _ _ _ (by omega) ⟨rfl, a + 1, by omega, by omega, ⟨frm_up (frm_up hk.1 (by decide)) (by decide), fun j h1 => ?_⟩, ?_, ?_, rfl⟩
    · rw [up2_n h1, up2_o (by decide)]; exact hk.2 j h1
    · rw [up2_s]; omega
    · funext j
      have e5 : ∀ x y z, up2 (up2 M1 12 x y) 0 2 z 12 j = up2 M1 12 x y 12 j := fun x y z => up2_o (by decide)
      rw [e5]
      by_cases e : j = (M 0 2 + (a : Int)).toNat
      · rw [← e, up2_s]
        show _ = if _ then _ else _
        rw [if_pos (by omega)]
        unfold byteP
        rw [show (((j - (M 0 2).toNat : Nat)) : Int) = a by omega]
      · rw [up2_n e, hf]
        show (if _ then _ else _) = (if _ then _ else _)
        by_cases z : (M 0 2).toNat ≤ j ∧ j < (M 0 2).toNat + a
        · rw [if_pos z, if_pos (by omega)]
        · rw [if_neg z, if_neg (by omega)]
set_option maxHeartbeats 4000000 in
set_option maxRecDepth 100000 in
theorem m0_puts {rs : List (Nat × Nat)} : MOK cl8 (sh8 rs) tyl8 Nws8 0 yX0_puts cX0_puts 3 none (sp0_puts rs) := by
  refine mok_of (own := RX0) (tb := tb0 (csL (cs0_puts rs))) (rt := 0) (fuel := 400) (fun avs M Q => [(3, [0, 1, 2], fun m_ vs M1 => ∃ y_v_ : Int, ∃ y_k : Int, vs = [ar 0, ai y_v_, ai y_k] ∧ J0_puts_3 rs (pa true [0] avs 0) M m_ y_v_ y_k M1)]) (by decide) rfl nws8_ok (tbOK0 _) rfl (csL_all ?_) ?_ ?_ ?_
  · intro q hq; cases hq
  · intro avs M Q hsp
    obtain ⟨xs, hx⟩ := spV_un _ _ _ hsp
    obtain ⟨e, hl⟩ := unA_mkT hx
    obtain ⟨v, rfl⟩ := len1 hl
    have e : avs = [ar 0, ai v] := e
    subst e
    simp [szL, isL]
  · intro avs M Q hM hav hsp
    obtain ⟨xs, hx⟩ := spV_un _ _ _ hsp
    obtain ⟨e, hl⟩ := unA_mkT hx
    obtain ⟨v, rfl⟩ := len1 hl
    have e : avs = [ar 0, ai v] := e
    subst e
    exact in0_puts hM (hav (ai v) (by simp)) hsp.1 hsp.2 _ (fun m_ y_v_ y_k M2 hJ => ⟨m_, y_v_, y_k, rfl, hJ⟩)
  · intro avs M Q hM hav hsp q hq m_ vs M1 hM1 hv hJ
    obtain ⟨xs, hx⟩ := spV_un _ _ _ hsp
    obtain ⟨e, hl⟩ := unA_mkT hx
    obtain ⟨v, rfl⟩ := len1 hl
    have e : avs = [ar 0, ai v] := e
    subst e
    simp only [List.mem_cons, List.not_mem_nil, or_false] at hq
    rcases hq with rfl
    · obtain ⟨y_v_, y_k, rfl, hJ⟩ := hJ
      exact at0_puts_3 hM (hav (ai v) (by simp)) hsp.1 hsp.2 hM1 (hv (1, ai y_v_) (List.mem_of_getElem? (i := 1) rfl)) (hv (2, ai y_k) (List.mem_of_getElem? (i := 2) rfl)) hJ _ (fun m2 z_v_ z_k M2 hm hJ2 => ⟨m2, hm, z_v_, z_k, rfl, hJ2⟩)
theorem cg0_puts {rs : List (Nat × Nat)} {lvl : Nat} (h : 0 < lvl) : CG RX0 cl8 (sh8 rs) tyl8 Nws8 lvl 1 124 2 (sp0_puts rs) := cg_V (sg := [0]) nws8_ok spV_mono spV_un m0_puts h rfl (by decide) rfl rfl ⟨rfl, by decide, by decide, rfl⟩ q499 q501 qs0 q128 q502
def P0_feed (rs : List (Nat × Nat)) (a : Int) (b : Int) (c : Int) (d : Int) (f : Int) (M : Mm) : Prop := 0 ≤ M 0 2 ∧ M 0 2 ≤ 700
def R0_feed (rs : List (Nat × Nat)) (a : Int) (b : Int) (c : Int) (d : Int) (f : Int) (M : Mm) (v : Int) (M1 : Mm) : Prop := keepTX M M1 ∧ v = A_feed (M 0 2) ∧ (680 < M 0 2 → M1 0 2 = M 0 2 ∧ M1 12 = M 12) ∧ (¬ 680 < M 0 2 → M1 0 2 = M 0 2 + 20 ∧ M1 12 = fedP (M 12) (M 0 2).toNat [a, b, c, d, f])
def sp0_feed (rs : List (Nat × Nat)) : Spec := spR true [0, 0, 0, 0, 0] 1 (fun x M => P0_feed rs (x 0) (x 1) (x 2) (x 3) (x 4) M) (fun x M v M1 => R0_feed rs (x 0) (x 1) (x 2) (x 3) (x 4) M v M1)
theorem c0_feed {rs : List (Nat × Nat)} {a b c d f : Int} {M : Mm} {Q : Option AV → Mm → Prop} : sp0_feed rs [ar 0, ai a, ai b, ai c, ai d, ai f] M Q = (P0_feed rs a b c d f M ∧ ∀ (v : Int) (M1 : Mm), R0_feed rs a b c d f M v M1 → Q (some (ai v)) M1) := rfl
def cs0_feed (rs : List (Nat × Nat)) : List (Nat × Nat × Nat × Spec) := [(124, 1, 2, (sp0_puts rs))]
set_option maxHeartbeats 4000000 in
set_option maxRecDepth 100000 in
theorem in0_feed {rs : List (Nat × Nat)} {a b c d f : Int} {M : Mm} {Q : Option AV → Mm → Prop} (hM : okM (sh8 rs) M) (h_a : i32 a) (h_b : i32 b) (h_c : i32 c) (h_d : i32 d) (h_f : i32 f) (hP : P0_feed rs a b c d f M) (hQ : ∀ (v : Int) (M1 : Mm), R0_feed rs a b c d f M v M1 → Q (some (ai v)) M1) : wp (tb0 (csL (cs0_feed rs))) (sh8 rs) 6 1 cX0_feed [] Q 400 0 [(0, ar 0), (1, ai a), (2, ai b), (3, ai c), (4, ai d), (5, ai f)] [] M := by
  have hk0 : keepTX M M := ⟨frm_rf, fun _ _ => rfl⟩
  have hP' : 0 ≤ M 0 2 ∧ M 0 2 ≤ 700 := hP
  simp only [e_wp dX0_feed_0 rfl, e_wp dX0_feed_1 rfl, e_wp dX0_feed_4 rfl, e_wp dX0_feed_6 rfl, e_wp dX0_feed_7 rfl, e_wp dX0_feed_10 rfl, e_wp dX0_feed_13 rfl, e_wp dX0_feed_14 rfl, e_wp dX0_feed_15 rfl, e_wp dX0_feed_16 rfl, e_wp dX0_feed_17 rfl, e_wp dX0_feed_20 rfl, e_wp dX0_feed_21 rfl, e_wp dX0_feed_22 rfl, e_wp dX0_feed_25 rfl, e_wp dX0_feed_26 rfl, e_wp dX0_feed_27 rfl, e_wp dX0_feed_30 rfl, e_wp dX0_feed_31 rfl, e_wp dX0_feed_33 rfl, e_wp dX0_feed_36 rfl, e_wp dX0_feed_37 rfl, e_wp dX0_feed_39 rfl, e_wp dX0_feed_42 rfl, e_wp dX0_feed_43 rfl, e_wp dX0_feed_46 rfl, g0_121, c0_puts, cs0_feed, e_iconst, e_bipush, e_sipush, e_lconst_0, e_lconst_1, e_iload, e_iload_0, e_iload_1, e_iload_2, e_iload_3, e_lload, e_lload_0, e_lload_1, e_lload_2, e_lload_3, e_aload, e_aload_0, e_aload_1, e_aload_2, e_aload_3, e_istore, e_istore_0, e_istore_1, e_istore_2, e_istore_3, e_astore, e_astore_0, e_astore_1, e_astore_2, e_astore_3, e_lstore, e_lstore_0, e_lstore_1, e_lstore_2, e_lstore_3, e_iinc, e_iadd, e_isub, e_imul, e_ladd, e_lsub, e_lmul, e_idiv, e_irem, e_ldiv, e_lrem, e_ineg, e_lneg, e_iand, e_ior, e_ixor, e_ishl, e_ishr, e_iushr, e_lcmp, e_i2l, e_l2i, e_i2b, e_i2s, e_dup_i, e_dup_r, e_pop_i, e_pop_r, e_dup2_l, e_dup2_ir, e_dup2_ii, e_ifeq, e_ifne, e_iflt, e_ifge, e_ifgt, e_ifle, e_iceq, e_icne, e_iclt, e_icge, e_icgt, e_icle, e_goto, e_switch, e_invokevirtual, e_invokestatic, e_invokespecial, e_ret0, e_ret1, e_ret2, e_ret3, ldI_s, ldL_s, ldR_s, clO_s, ctP_s, ctS_s, mgo_0, mgo_s, pjc_s, pj_0, pj_s, lk_s, rm1_0, rm1_i, rm1_r, rm1_l, rm2_0, rm2_i, rm2_r, rm2_l, csL_s, lc_lt, lc_ge, lc_gt, lc_le, lc_eq, b01_0, b01_1, b01_01, b01_n, up2_o, up2_s, up2_u, ne_eq, reduceCtorEq, Nat.reduceAdd, Nat.reduceEqDiff, Nat.reduceLT, Nat.reduceLeDiff, Int.reduceLE, Int.reduceLT, Int.reduceAdd, Int.reduceNeg, Int.reduceMul, Int.reduceSub, Int.reduceEq, Int.reduceToNat, Int.reduceNatCast, Int.cast_ofNat_Int, ↓reduceIte, and_self, List.drop_succ_cons, List.drop_zero, List.take_succ_cons, List.take_zero, List.length_cons, List.length_nil, List.reverse_cons, List.reverse_nil, List.nil_append, List.cons_append, Option.toList, true_and, and_true, or_false, false_or, or_true, true_or, forall_const, Classical.not_not, not_false_eq_true, not_true_eq_false, false_implies, true_implies, implies_true, imp_self]
  refine ⟨by omega, fun q => ?_, fun q => ?_⟩
  · refine ⟨⟨by omega, by omega⟩, fun M1 R1 => ?_⟩
    obtain ⟨k1, t1, f1⟩ := R1
    refine ⟨⟨by omega, by omega⟩, fun M2 R2 => ?_⟩
    obtain ⟨k2, t2, f2⟩ := R2
    refine ⟨⟨by omega, by omega⟩, fun M3 R3 => ?_⟩
    obtain ⟨k3, t3, f3⟩ := R3
    refine ⟨⟨by omega, by omega⟩, fun M4 R4 => ?_⟩
    obtain ⟨k4, t4, f4⟩ := R4
    refine ⟨⟨by omega, by omega⟩, fun M5 R5 => ?_⟩
    obtain ⟨k5, t5, f5⟩ := R5
    have ht : M5 0 2 = M 0 2 + 20 := by omega
    refine hQ _ _ ⟨keepTX_tr k1 (keepTX_tr k2 (keepTX_tr k3 (keepTX_tr k4 k5))), ?_, fun z => absurd z (by omega), fun _ => ⟨ht, ?_⟩⟩
    · rw [ht]; exact (if_neg (by omega)).symm
    · rw [f5, f4, f3, f2, f1, t4, t3, t2, t1]
      show _ = putP (putP (putP (putP (putP (M 12) (M 0 2).toNat a 4) ((M 0 2).toNat + 4) b 4) ((M 0 2).toNat + 4 + 4) c 4) ((M 0 2).toNat + 4 + 4 + 4) d 4) ((M 0 2).toNat + 4 + 4 + 4 + 4) f 4
      have i1 : (M 0 2 + 4).toNat = (M 0 2).toNat + 4 := by omega
      have i2 : (M 0 2 + 4 + 4).toNat = (M 0 2).toNat + 4 + 4 := by omega
      have i3 : (M 0 2 + 4 + 4 + 4).toNat = (M 0 2).toNat + 4 + 4 + 4 := by omega
      have i4 : (M 0 2 + 4 + 4 + 4 + 4).toNat = (M 0 2).toNat + 4 + 4 + 4 + 4 := by omega
      rw [i1, i2, i3, i4]
  · exact hQ _ _ ⟨hk0, (if_pos (by omega)).symm, fun _ => ⟨rfl, rfl⟩, fun z => absurd z (by omega)⟩
set_option maxHeartbeats 4000000 in
set_option maxRecDepth 100000 in
theorem m0_feed {rs : List (Nat × Nat)} : MOK cl8 (sh8 rs) tyl8 Nws8 1 yX0_feed cX0_feed 6 (some .int) (sp0_feed rs) := by
  refine mok_of (own := RX0) (tb := tb0 (csL (cs0_feed rs))) (rt := 1) (fuel := 400) (fun avs M Q => []) (by decide) rfl nws8_ok (tbOK0 _) rfl (csL_all ?_) ?_ ?_ ?_
  · intro q hq
    simp only [cs0_feed, List.mem_cons, List.not_mem_nil, or_false] at hq
    rcases hq with rfl
    · exact cg0_puts (by decide)
  · intro avs M Q hsp
    obtain ⟨xs, hx⟩ := spR_un _ _ _ hsp
    obtain ⟨e, hl⟩ := unA_mkT hx
    obtain ⟨a, b, c, d, f, rfl⟩ := len5 hl
    have e : avs = [ar 0, ai a, ai b, ai c, ai d, ai f] := e
    subst e
    simp [szL, isL]
  · intro avs M Q hM hav hsp
    obtain ⟨xs, hx⟩ := spR_un _ _ _ hsp
    obtain ⟨e, hl⟩ := unA_mkT hx
    obtain ⟨a, b, c, d, f, rfl⟩ := len5 hl
    have e : avs = [ar 0, ai a, ai b, ai c, ai d, ai f] := e
    subst e
    exact in0_feed hM (hav (ai a) (by simp)) (hav (ai b) (by simp)) (hav (ai c) (by simp)) (hav (ai d) (by simp)) (hav (ai f) (by simp)) hsp.1 hsp.2
  · intro avs M Q hM hav hsp q hq m_ vs M1 hM1 hv hJ
    obtain ⟨xs, hx⟩ := spR_un _ _ _ hsp
    obtain ⟨e, hl⟩ := unA_mkT hx
    obtain ⟨a, b, c, d, f, rfl⟩ := len5 hl
    have e : avs = [ar 0, ai a, ai b, ai c, ai d, ai f] := e
    subst e
    cases hq
def P0_end (rs : List (Nat × Nat)) (n : Int) (M : Mm) : Prop := True
def R0_end (rs : List (Nat × Nat)) (n : Int) (M : Mm) (v : Int) (M1 : Mm) : Prop := keepTX M M1 ∧ v = A_end (M 0 2) n ∧ M1 12 = M 12 ∧ M1 0 2 = (if 0 ≤ n ∧ n ≤ M 0 2 then n else M 0 2)
def sp0_end (rs : List (Nat × Nat)) : Spec := spR true [0] 1 (fun x M => P0_end rs (x 0) M) (fun x M v M1 => R0_end rs (x 0) M v M1)
theorem c0_end {rs : List (Nat × Nat)} {n : Int} {M : Mm} {Q : Option AV → Mm → Prop} : sp0_end rs [ar 0, ai n] M Q = (P0_end rs n M ∧ ∀ (v : Int) (M1 : Mm), R0_end rs n M v M1 → Q (some (ai v)) M1) := rfl
def cs0_end (rs : List (Nat × Nat)) : List (Nat × Nat × Nat × Spec) := [(128, 0, 3, (sp0_isIn rs))]
set_option maxHeartbeats 4000000 in
set_option maxRecDepth 100000 in
theorem in0_end {rs : List (Nat × Nat)} {n : Int} {M : Mm} {Q : Option AV → Mm → Prop} (hM : okM (sh8 rs) M) (h_n : i32 n) (hP : P0_end rs n M) (hQ : ∀ (v : Int) (M1 : Mm), R0_end rs n M v M1 → Q (some (ai v)) M1) : wp (tb0 (csL (cs0_end rs))) (sh8 rs) 2 1 cX0_end [] Q 400 0 [(0, ar 0), (1, ai n)] [] M := by
  simp only [e_wp dX0_end_0 rfl, e_wp dX0_end_1 rfl, e_wp dX0_end_2 rfl, e_wp dX0_end_3 rfl, e_wp dX0_end_4 rfl, e_wp dX0_end_7 rfl, e_wp dX0_end_8 rfl, e_wp dX0_end_11 rfl, e_wp dX0_end_14 rfl, e_wp dX0_end_15 rfl, e_wp dX0_end_16 rfl, e_wp dX0_end_17 rfl, e_wp dX0_end_18 rfl, e_wp dX0_end_21 rfl, e_wp dX0_end_22 rfl, g0_121, c0_isIn, P0_isIn, V0_isIn, cs0_end, p0_121, e_iconst, e_bipush, e_sipush, e_lconst_0, e_lconst_1, e_iload, e_iload_0, e_iload_1, e_iload_2, e_iload_3, e_lload, e_lload_0, e_lload_1, e_lload_2, e_lload_3, e_aload, e_aload_0, e_aload_1, e_aload_2, e_aload_3, e_istore, e_istore_0, e_istore_1, e_istore_2, e_istore_3, e_astore, e_astore_0, e_astore_1, e_astore_2, e_astore_3, e_lstore, e_lstore_0, e_lstore_1, e_lstore_2, e_lstore_3, e_iinc, e_iadd, e_isub, e_imul, e_ladd, e_lsub, e_lmul, e_idiv, e_irem, e_ldiv, e_lrem, e_ineg, e_lneg, e_iand, e_ior, e_ixor, e_ishl, e_ishr, e_iushr, e_lcmp, e_i2l, e_l2i, e_i2b, e_i2s, e_dup_i, e_dup_r, e_pop_i, e_pop_r, e_dup2_l, e_dup2_ir, e_dup2_ii, e_ifeq, e_ifne, e_iflt, e_ifge, e_ifgt, e_ifle, e_iceq, e_icne, e_iclt, e_icge, e_icgt, e_icle, e_goto, e_switch, e_invokevirtual, e_invokestatic, e_invokespecial, e_ret0, e_ret1, e_ret2, e_ret3, ldI_s, ldL_s, ldR_s, clO_s, ctP_s, ctS_s, mgo_0, mgo_s, pjc_s, pj_0, pj_s, lk_s, rm1_0, rm1_i, rm1_r, rm1_l, rm2_0, rm2_i, rm2_r, rm2_l, csL_s, lc_lt, lc_ge, lc_gt, lc_le, lc_eq, b01_0, b01_1, b01_01, b01_n, up2_o, up2_s, up2_u, ne_eq, reduceCtorEq, Nat.reduceAdd, Nat.reduceEqDiff, Nat.reduceLT, Nat.reduceLeDiff, Int.reduceLE, Int.reduceLT, Int.reduceAdd, Int.reduceNeg, Int.reduceMul, Int.reduceSub, Int.reduceEq, Int.reduceToNat, Int.reduceNatCast, Int.cast_ofNat_Int, ↓reduceIte, and_self, List.drop_succ_cons, List.drop_zero, List.take_succ_cons, List.take_zero, List.length_cons, List.length_nil, List.reverse_cons, List.reverse_nil, List.nil_append, List.cons_append, Option.toList, true_and, and_true, or_false, false_or, or_true, true_or, forall_const, Classical.not_not, not_false_eq_true, not_true_eq_false, false_implies, true_implies, implies_true, imp_self]
  refine ⟨fun q => hQ _ _ ⟨⟨frm_up frm_rf (by decide), fun j h => up2_n h⟩, (if_pos q).symm, rfl, ?_⟩, fun q => hQ _ _ ⟨⟨frm_rf, fun _ _ => rfl⟩, (if_neg q).symm, rfl, (if_neg q).symm⟩⟩
  rw [if_pos q, up2_s]
set_option maxHeartbeats 4000000 in
set_option maxRecDepth 100000 in
theorem m0_end {rs : List (Nat × Nat)} : MOK cl8 (sh8 rs) tyl8 Nws8 1 yX0_end cX0_end 2 (some .int) (sp0_end rs) := by
  refine mok_of (own := RX0) (tb := tb0 (csL (cs0_end rs))) (rt := 1) (fuel := 400) (fun avs M Q => []) (by decide) rfl nws8_ok (tbOK0 _) rfl (csL_all ?_) ?_ ?_ ?_
  · intro q hq
    simp only [cs0_end, List.mem_cons, List.not_mem_nil, or_false] at hq
    rcases hq with rfl
    · exact cg0_isIn (by decide)
  · intro avs M Q hsp
    obtain ⟨xs, hx⟩ := spR_un _ _ _ hsp
    obtain ⟨e, hl⟩ := unA_mkT hx
    obtain ⟨n, rfl⟩ := len1 hl
    have e : avs = [ar 0, ai n] := e
    subst e
    simp [szL, isL]
  · intro avs M Q hM hav hsp
    obtain ⟨xs, hx⟩ := spR_un _ _ _ hsp
    obtain ⟨e, hl⟩ := unA_mkT hx
    obtain ⟨n, rfl⟩ := len1 hl
    have e : avs = [ar 0, ai n] := e
    subst e
    exact in0_end hM (hav (ai n) (by simp)) hsp.1 hsp.2
  · intro avs M Q hM hav hsp q hq m_ vs M1 hM1 hv hJ
    obtain ⟨xs, hx⟩ := spR_un _ _ _ hsp
    obtain ⟨e, hl⟩ := unA_mkT hx
    obtain ⟨n, rfl⟩ := len1 hl
    have e : avs = [ar 0, ai n] := e
    subst e
    cases hq
def P0_fault (rs : List (Nat × Nat)) (w : Int) (M : Mm) : Prop := True
def V0_fault (rs : List (Nat × Nat)) (w : Int) (M : Mm) : Int := A_fault (M 0 3) (M 0 4) w
def sp0_fault (rs : List (Nat × Nat)) : Spec := spF true [0] 1 (fun x M => P0_fault rs (x 0) M) (fun x M => V0_fault rs (x 0) M)
theorem c0_fault {rs : List (Nat × Nat)} {w : Int} {M : Mm} {Q : Option AV → Mm → Prop} : sp0_fault rs [ar 0, ai w] M Q = (P0_fault rs w M ∧ Q (some (ai (V0_fault rs w M))) M) := rfl
def cs0_fault (rs : List (Nat × Nat)) : List (Nat × Nat × Nat × Spec) := []
set_option maxHeartbeats 4000000 in
set_option maxRecDepth 100000 in
theorem in0_fault {rs : List (Nat × Nat)} {w : Int} {M : Mm} {Q : Option AV → Mm → Prop} (hM : okM (sh8 rs) M) (h_w : i32 w) (hP : P0_fault rs w M) (hQ : Q (some (ai (V0_fault rs w M))) M) : wp (tb0 (csL (cs0_fault rs))) (sh8 rs) 2 1 cX0_fault [] Q 400 0 [(0, ar 0), (1, ai w)] [] M := by
  simp only [e_wp dX0_fault_0 rfl, e_wp dX0_fault_1 rfl, e_wp dX0_fault_4 rfl, e_wp dX0_fault_5 rfl, e_wp dX0_fault_8 rfl, e_wp dX0_fault_11 rfl, e_wp dX0_fault_12 rfl, e_wp dX0_fault_13 rfl, e_wp dX0_fault_16 rfl, e_wp dX0_fault_17 rfl, e_wp dX0_fault_20 rfl, e_wp dX0_fault_23 rfl, e_wp dX0_fault_24 rfl, g0_139, g0_20, e_iconst, e_bipush, e_sipush, e_lconst_0, e_lconst_1, e_iload, e_iload_0, e_iload_1, e_iload_2, e_iload_3, e_lload, e_lload_0, e_lload_1, e_lload_2, e_lload_3, e_aload, e_aload_0, e_aload_1, e_aload_2, e_aload_3, e_istore, e_istore_0, e_istore_1, e_istore_2, e_istore_3, e_astore, e_astore_0, e_astore_1, e_astore_2, e_astore_3, e_lstore, e_lstore_0, e_lstore_1, e_lstore_2, e_lstore_3, e_iinc, e_iadd, e_isub, e_imul, e_ladd, e_lsub, e_lmul, e_idiv, e_irem, e_ldiv, e_lrem, e_ineg, e_lneg, e_iand, e_ior, e_ixor, e_ishl, e_ishr, e_iushr, e_lcmp, e_i2l, e_l2i, e_i2b, e_i2s, e_dup_i, e_dup_r, e_pop_i, e_pop_r, e_dup2_l, e_dup2_ir, e_dup2_ii, e_ifeq, e_ifne, e_iflt, e_ifge, e_ifgt, e_ifle, e_iceq, e_icne, e_iclt, e_icge, e_icgt, e_icle, e_goto, e_switch, e_invokevirtual, e_invokestatic, e_invokespecial, e_ret0, e_ret1, e_ret2, e_ret3, ldI_s, ldL_s, ldR_s, clO_s, ctP_s, ctS_s, mgo_0, mgo_s, pjc_s, pj_0, pj_s, lk_s, rm1_0, rm1_i, rm1_r, rm1_l, rm2_0, rm2_i, rm2_r, rm2_l, csL_s, lc_lt, lc_ge, lc_gt, lc_le, lc_eq, b01_0, b01_1, b01_01, b01_n, up2_o, up2_s, up2_u, ne_eq, reduceCtorEq, Nat.reduceAdd, Nat.reduceEqDiff, Nat.reduceLT, Nat.reduceLeDiff, Int.reduceLE, Int.reduceLT, Int.reduceAdd, Int.reduceNeg, Int.reduceMul, Int.reduceSub, Int.reduceEq, Int.reduceToNat, Int.reduceNatCast, Int.cast_ofNat_Int, ↓reduceIte, and_self, List.drop_succ_cons, List.drop_zero, List.take_succ_cons, List.take_zero, List.length_cons, List.length_nil, List.reverse_cons, List.reverse_nil, List.nil_append, List.cons_append, Option.toList, true_and, and_true, or_false, false_or, or_true, true_or, forall_const, Classical.not_not, not_false_eq_true, not_true_eq_false, false_implies, true_implies, implies_true, imp_self]
  refine ⟨fun q => ⟨fun z => qeq hQ ?_, fun z => qeq hQ ?_⟩, fun q => qeq hQ ?_⟩
  · show (if _ then _ else _) = _
    rw [if_neg q]
    first | rw [if_pos z] | rw [if_neg z]
  · show (if _ then _ else _) = _
    rw [if_neg q]
    first | rw [if_pos z] | rw [if_neg z]
  · exact if_pos q
set_option maxHeartbeats 4000000 in
set_option maxRecDepth 100000 in
theorem m0_fault {rs : List (Nat × Nat)} : MOK cl8 (sh8 rs) tyl8 Nws8 0 yX0_fault cX0_fault 2 (some .int) (sp0_fault rs) := by
  refine mok_of (own := RX0) (tb := tb0 (csL (cs0_fault rs))) (rt := 1) (fuel := 400) (fun avs M Q => []) (by decide) rfl nws8_ok (tbOK0 _) rfl (csL_all ?_) ?_ ?_ ?_
  · intro q hq; cases hq
  · intro avs M Q hsp
    obtain ⟨xs, hx⟩ := spF_un _ _ _ hsp
    obtain ⟨e, hl⟩ := unA_mkT hx
    obtain ⟨w, rfl⟩ := len1 hl
    have e : avs = [ar 0, ai w] := e
    subst e
    simp [szL, isL]
  · intro avs M Q hM hav hsp
    obtain ⟨xs, hx⟩ := spF_un _ _ _ hsp
    obtain ⟨e, hl⟩ := unA_mkT hx
    obtain ⟨w, rfl⟩ := len1 hl
    have e : avs = [ar 0, ai w] := e
    subst e
    exact in0_fault hM (hav (ai w) (by simp)) hsp.1 hsp.2
  · intro avs M Q hM hav hsp q hq m_ vs M1 hM1 hv hJ
    obtain ⟨xs, hx⟩ := spF_un _ _ _ hsp
    obtain ⟨e, hl⟩ := unA_mkT hx
    obtain ⟨w, rfl⟩ := len1 hl
    have e : avs = [ar 0, ai w] := e
    subst e
    cases hq
/-- what stays whatever is done -/
def keepD (M M1 : Mm) : Prop := frm [0, 1, 13, 14, 15, 16, 17, 18, 19, 20, 21, 22, 23, 24, 25, 26, 27, 28, 29, 30, 31, 32, 33, 40] M M1 ∧ (∀ j, j ∈ [2, 3, 4] → M1 0 j = M 0 j) ∧ wX M M1
theorem keepD_of {M M1 : Mm} (h : keepX M M1) : keepD M M1 := ⟨frm_w h.1 (by decide), h.2.1, h.2.2⟩
theorem keepD_u {M M1 : Mm} {k j : Nat} {x : Int} (h : keepD M M1) (hk : k ∈ [1, 33, 40]) : keepD M (up2 M1 k j x) := by
  have h0 : k ≠ 0 := fun e => by subst e; revert hk; decide
  refine ⟨frm_up h.1 (by revert hk; simp only [List.mem_cons, List.not_mem_nil, or_false]; omega), fun j' hj => ?_, wX_tr h.2.2 (wX_eq ?_)⟩
  · rw [up2_o h0.symm]; exact h.2.1 j' hj
  · rw [up2_o h0.symm]
theorem keepD_b {M M1 : Mm} (h : keepD M M1) (hB : baseI M) : baseI M1 := base_f h.1 (by decide) (by decide) hB
theorem vX_hi (M : Mm) (k j : Nat) : vX M (k + 12) j = 0 := rfl
theorem do_o {V : Vy} {w c b : Int} {i j : Nat} (h : i ≠ 0 ∧ i ≠ 9 ∧ i ≠ 10 ∧ i ≠ 11) : doP V w c b i j = V i j := by
  unfold doP
  rw [if_neg (fun z => h.1 z.1), if_neg (fun z => h.2.1 z.1), if_neg (fun z => h.2.2.1 z.1), if_neg (fun z => h.2.2.2 z.1)]
theorem vX_act {M : Mm} {a : Int} (h : 0 ≤ M 1 9) : vX (up2 (up2 M 40 (M 1 9).toNat a) 1 9 (M 1 9 + 1)) = doP (vX M) (actK a) (actC a) (actB a) := by
  obtain ⟨M2, h2⟩ : ∃ M2, M2 = up2 (up2 M 40 (M 1 9).toNat a) 1 9 (M 1 9 + 1) := ⟨_, rfl⟩
  rw [← h2]
  have ea : ∀ j : Nat, M2 40 j = if (j : Int) = M 1 9 then a else M 40 j := by
    intro j
    rw [h2, up2_o (by decide)]
    by_cases e : (j : Int) = M 1 9
    · rw [if_pos e, ← e, Int.toNat_natCast, up2_s]
    · rw [if_neg e, up2_n (by omega)]
  have e9 : M2 1 9 = M 1 9 + 1 := by rw [h2]; exact up2_s
  have e1 : ∀ j, ¬ j = 9 → M2 1 j = M 1 j := fun j hj => by rw [h2, up2_n hj, up2_o (by decide)]
  have eo : ∀ k, k ≠ 1 → k ≠ 40 → M2 k = M k := fun k a b => by rw [h2, up2_ne a, up2_ne b]
  have key : ∀ (f : Int → Int) (j : Nat), (if (j : Int) < M 1 9 + 1 then f (if (j : Int) = M 1 9 then a else M 40 j) else 0) = if (j : Int) = M 1 9 then f a else (if (j : Int) < M 1 9 then f (M 40 j) else 0) := by
    intro f j
    by_cases e : (j : Int) = M 1 9
    · rw [if_pos e, if_pos e, if_pos (by omega)]
    · rw [if_neg e, if_neg e]
      by_cases q : (j : Int) < M 1 9
      · rw [if_pos q, if_pos (by omega)]
      · rw [if_neg q, if_neg (by omega)]
  funext i j
  match i with
  | 0 =>
    by_cases e : j = 7
    · subst e
      show M2 1 9 = (if (0 : Nat) = 0 ∧ (7 : Nat) = 7 then M 1 9 + 1 else _)
      rw [if_pos ⟨rfl, rfl⟩]
      exact e9
    · have q : doP (vX M) (actK a) (actC a) (actB a) 0 j = vX M 0 j := by
        unfold doP
        rw [if_neg (fun z => e z.2), if_neg (fun z => absurd z.1 (by decide)), if_neg (fun z => absurd z.1 (by decide)), if_neg (fun z => absurd z.1 (by decide))]
      rw [q]
      show (if j = 0 then M2 1 0 else if j = 1 then M2 1 1 else if j = 2 then M2 1 2 else if j = 3 then M2 1 4 else if j = 4 then M2 1 5 else if j = 5 then M2 1 6 else if j = 6 then M2 1 8 else if j = 7 then M2 1 9 else if j = 8 then M2 1 3 else 0) = (if j = 0 then M 1 0 else if j = 1 then M 1 1 else if j = 2 then M 1 2 else if j = 3 then M 1 4 else if j = 4 then M 1 5 else if j = 5 then M 1 6 else if j = 6 then M 1 8 else if j = 7 then M 1 9 else if j = 8 then M 1 3 else 0)
      rw [e1 0 (by decide), e1 1 (by decide), e1 2 (by decide), e1 3 (by decide), e1 4 (by decide), e1 5 (by decide), e1 6 (by decide), e1 8 (by decide)]
      simp only [if_neg e]
  | 1 =>
    show _ = doP (vX M) (actK a) (actC a) (actB a) 1 j
    rw [do_o (by decide)]
    show (if (j : Int) < M2 1 4 then M2 33 j else 0) = (if (j : Int) < M 1 4 then M 33 j else 0)
    rw [e1 4 (by decide), eo 33 (by decide) (by decide)]
  | 2 =>
    show _ = doP (vX M) (actK a) (actC a) (actB a) 2 j
    rw [do_o (by decide)]
    show (if (j : Int) < M2 1 4 then M2 34 j else 0) = (if (j : Int) < M 1 4 then M 34 j else 0)
    rw [e1 4 (by decide), eo 34 (by decide) (by decide)]
  | 3 =>
    show _ = doP (vX M) (actK a) (actC a) (actB a) 3 j
    rw [do_o (by decide)]
    show (if (j : Int) < M2 1 5 then M2 35 j else 0) = (if (j : Int) < M 1 5 then M 35 j else 0)
    rw [e1 5 (by decide), eo 35 (by decide) (by decide)]
  | 4 =>
    show _ = doP (vX M) (actK a) (actC a) (actB a) 4 j
    rw [do_o (by decide)]
    show (if (j : Int) < M2 1 5 then M2 36 j else 0) = (if (j : Int) < M 1 5 then M 36 j else 0)
    rw [e1 5 (by decide), eo 36 (by decide) (by decide)]
  | 5 =>
    show _ = doP (vX M) (actK a) (actC a) (actB a) 5 j
    rw [do_o (by decide)]
    show (if (j : Int) < M2 1 6 then M2 37 j else 0) = (if (j : Int) < M 1 6 then M 37 j else 0)
    rw [e1 6 (by decide), eo 37 (by decide) (by decide)]
  | 6 =>
    show _ = doP (vX M) (actK a) (actC a) (actB a) 6 j
    rw [do_o (by decide)]
    show (if (j : Int) < M2 1 6 then M2 38 j else 0) = (if (j : Int) < M 1 6 then M 38 j else 0)
    rw [e1 6 (by decide), eo 38 (by decide) (by decide)]
  | 7 =>
    show _ = doP (vX M) (actK a) (actC a) (actB a) 7 j
    rw [do_o (by decide)]
    show (if (j : Int) < M2 1 6 then M2 39 j else 0) = (if (j : Int) < M 1 6 then M 39 j else 0)
    rw [e1 6 (by decide), eo 39 (by decide) (by decide)]
  | 8 =>
    show _ = doP (vX M) (actK a) (actC a) (actB a) 8 j
    rw [do_o (by decide)]
    show (if j = 0 then M2 1 7 else 0) = (if j = 0 then M 1 7 else 0)
    rw [e1 7 (by decide)]
  | 9 =>
    rw [(do_9 (V := vX M) (j := j)).1]
    show (if (j : Int) < M2 1 9 then actK (M2 40 j) else 0) = (if (j : Int) = M 1 9 then actK a else (if (j : Int) < M 1 9 then actK (M 40 j) else 0))
    rw [e9, ea, key actK]
  | 10 =>
    rw [(do_9 (V := vX M) (j := j)).2.1]
    show (if (j : Int) < M2 1 9 then actC (M2 40 j) else 0) = (if (j : Int) = M 1 9 then actC a else (if (j : Int) < M 1 9 then actC (M 40 j) else 0))
    rw [e9, ea, key actC]
  | 11 =>
    rw [(do_9 (V := vX M) (j := j)).2.2]
    show (if (j : Int) < M2 1 9 then actB (M2 40 j) else 0) = (if (j : Int) = M 1 9 then actB a else (if (j : Int) < M 1 9 then actB (M 40 j) else 0))
    rw [e9, ea, key actB]
  | i + 12 =>
    show (0 : Int) = doP (vX M) (actK a) (actC a) (actB a) (i + 12) j
    rw [do_o (by omega)]
    rfl
/-- fewer acts -/
theorem vX_few {M : Mm} {x : Int} (hx : 0 ≤ x ∧ x ≤ M 1 9) : vX (up2 M 1 9 x) = fun (i j : Nat) => if i = 0 ∧ j = 7 then x else if (i = 9 ∨ i = 10 ∨ i = 11) ∧ x ≤ (j : Int) then 0 else vX M i j := by
  obtain ⟨M2, h2⟩ : ∃ M2, M2 = up2 M 1 9 x := ⟨_, rfl⟩
  rw [← h2]
  have e9 : M2 1 9 = x := by rw [h2]; exact up2_s
  have e1 : ∀ j, ¬ j = 9 → M2 1 j = M 1 j := fun j hj => by rw [h2, up2_n hj]
  have eo : ∀ k, k ≠ 1 → k ≠ 0 → M2 k = M k := fun k a _ => by rw [h2, up2_ne a]
  have key : ∀ (f : Int → Int) (j : Nat), (if (j : Int) < x then f (M 40 j) else 0) = if x ≤ (j : Int) then 0 else (if (j : Int) < M 1 9 then f (M 40 j) else 0) := by
    intro f j
    by_cases e : x ≤ (j : Int)
    · rw [if_pos e, if_neg (by omega)]
    · rw [if_neg e, if_pos (by omega), if_pos (by omega)]
  funext i j
  match i with
  | 0 =>
    by_cases e : j = 7
    · subst e
      show M2 1 9 = (if (0 : Nat) = 0 ∧ (7 : Nat) = 7 then x else _)
      rw [if_pos ⟨rfl, rfl⟩]
      exact e9
    · show _ = (if 0 = 0 ∧ j = 7 then x else if (0 = 9 ∨ 0 = 10 ∨ 0 = 11) ∧ x ≤ (j : Int) then 0 else vX M 0 j)
      rw [if_neg (fun z => e z.2), if_neg (fun z => by omega)]
      show (if j = 0 then M2 1 0 else if j = 1 then M2 1 1 else if j = 2 then M2 1 2 else if j = 3 then M2 1 4 else if j = 4 then M2 1 5 else if j = 5 then M2 1 6 else if j = 6 then M2 1 8 else if j = 7 then M2 1 9 else if j = 8 then M2 1 3 else 0) = (if j = 0 then M 1 0 else if j = 1 then M 1 1 else if j = 2 then M 1 2 else if j = 3 then M 1 4 else if j = 4 then M 1 5 else if j = 5 then M 1 6 else if j = 6 then M 1 8 else if j = 7 then M 1 9 else if j = 8 then M 1 3 else 0)
      rw [e1 0 (by decide), e1 1 (by decide), e1 2 (by decide), e1 3 (by decide), e1 4 (by decide), e1 5 (by decide), e1 6 (by decide), e1 8 (by decide)]
      simp only [if_neg e]
  | 1 =>
    show _ = (if 1 = 0 ∧ j = 7 then x else if (1 = 9 ∨ 1 = 10 ∨ 1 = 11) ∧ x ≤ (j : Int) then 0 else vX M 1 j)
    rw [if_neg (fun z => absurd z.1 (by decide)), if_neg (fun z => absurd z.1 (by decide))]
    show (if (j : Int) < M2 1 4 then M2 33 j else 0) = (if (j : Int) < M 1 4 then M 33 j else 0)
    rw [e1 4 (by decide), eo 33 (by decide) (by decide)]
  | 2 =>
    show _ = (if 2 = 0 ∧ j = 7 then x else if (2 = 9 ∨ 2 = 10 ∨ 2 = 11) ∧ x ≤ (j : Int) then 0 else vX M 2 j)
    rw [if_neg (fun z => absurd z.1 (by decide)), if_neg (fun z => absurd z.1 (by decide))]
    show (if (j : Int) < M2 1 4 then M2 34 j else 0) = (if (j : Int) < M 1 4 then M 34 j else 0)
    rw [e1 4 (by decide), eo 34 (by decide) (by decide)]
  | 3 =>
    show _ = (if 3 = 0 ∧ j = 7 then x else if (3 = 9 ∨ 3 = 10 ∨ 3 = 11) ∧ x ≤ (j : Int) then 0 else vX M 3 j)
    rw [if_neg (fun z => absurd z.1 (by decide)), if_neg (fun z => absurd z.1 (by decide))]
    show (if (j : Int) < M2 1 5 then M2 35 j else 0) = (if (j : Int) < M 1 5 then M 35 j else 0)
    rw [e1 5 (by decide), eo 35 (by decide) (by decide)]
  | 4 =>
    show _ = (if 4 = 0 ∧ j = 7 then x else if (4 = 9 ∨ 4 = 10 ∨ 4 = 11) ∧ x ≤ (j : Int) then 0 else vX M 4 j)
    rw [if_neg (fun z => absurd z.1 (by decide)), if_neg (fun z => absurd z.1 (by decide))]
    show (if (j : Int) < M2 1 5 then M2 36 j else 0) = (if (j : Int) < M 1 5 then M 36 j else 0)
    rw [e1 5 (by decide), eo 36 (by decide) (by decide)]
  | 5 =>
    show _ = (if 5 = 0 ∧ j = 7 then x else if (5 = 9 ∨ 5 = 10 ∨ 5 = 11) ∧ x ≤ (j : Int) then 0 else vX M 5 j)
    rw [if_neg (fun z => absurd z.1 (by decide)), if_neg (fun z => absurd z.1 (by decide))]
    show (if (j : Int) < M2 1 6 then M2 37 j else 0) = (if (j : Int) < M 1 6 then M 37 j else 0)
    rw [e1 6 (by decide), eo 37 (by decide) (by decide)]
  | 6 =>
    show _ = (if 6 = 0 ∧ j = 7 then x else if (6 = 9 ∨ 6 = 10 ∨ 6 = 11) ∧ x ≤ (j : Int) then 0 else vX M 6 j)
    rw [if_neg (fun z => absurd z.1 (by decide)), if_neg (fun z => absurd z.1 (by decide))]
    show (if (j : Int) < M2 1 6 then M2 38 j else 0) = (if (j : Int) < M 1 6 then M 38 j else 0)
    rw [e1 6 (by decide), eo 38 (by decide) (by decide)]
  | 7 =>
    show _ = (if 7 = 0 ∧ j = 7 then x else if (7 = 9 ∨ 7 = 10 ∨ 7 = 11) ∧ x ≤ (j : Int) then 0 else vX M 7 j)
    rw [if_neg (fun z => absurd z.1 (by decide)), if_neg (fun z => absurd z.1 (by decide))]
    show (if (j : Int) < M2 1 6 then M2 39 j else 0) = (if (j : Int) < M 1 6 then M 39 j else 0)
    rw [e1 6 (by decide), eo 39 (by decide) (by decide)]
  | 8 =>
    show _ = (if 8 = 0 ∧ j = 7 then x else if (8 = 9 ∨ 8 = 10 ∨ 8 = 11) ∧ x ≤ (j : Int) then 0 else vX M 8 j)
    rw [if_neg (fun z => absurd z.1 (by decide)), if_neg (fun z => absurd z.1 (by decide))]
    show (if j = 0 then M2 1 7 else 0) = (if j = 0 then M 1 7 else 0)
    rw [e1 7 (by decide)]
  | 9 =>
    show (if (j : Int) < M2 1 9 then actK (M2 40 j) else 0) = (if 9 = 0 ∧ j = 7 then x else if (9 = 9 ∨ 9 = 10 ∨ 9 = 11) ∧ x ≤ (j : Int) then 0 else (if (j : Int) < M 1 9 then actK (M 40 j) else 0))
    rw [e9, eo 40 (by decide) (by decide), key actK, if_neg (show ¬ ((9 : Nat) = 0 ∧ j = 7) from fun z => absurd z.1 (by decide))]
    by_cases q : x ≤ (j : Int)
    · rw [if_pos q, if_pos ⟨by decide, q⟩]
    · rw [if_neg q, if_neg (show ¬ (((9 : Nat) = 9 ∨ (9 : Nat) = 10 ∨ (9 : Nat) = 11) ∧ x ≤ (j : Int)) from fun z => q z.2)]
  | 10 =>
    show (if (j : Int) < M2 1 9 then actC (M2 40 j) else 0) = (if 10 = 0 ∧ j = 7 then x else if (10 = 9 ∨ 10 = 10 ∨ 10 = 11) ∧ x ≤ (j : Int) then 0 else (if (j : Int) < M 1 9 then actC (M 40 j) else 0))
    rw [e9, eo 40 (by decide) (by decide), key actC, if_neg (show ¬ ((10 : Nat) = 0 ∧ j = 7) from fun z => absurd z.1 (by decide))]
    by_cases q : x ≤ (j : Int)
    · rw [if_pos q, if_pos ⟨by decide, q⟩]
    · rw [if_neg q, if_neg (show ¬ (((10 : Nat) = 9 ∨ (10 : Nat) = 10 ∨ (10 : Nat) = 11) ∧ x ≤ (j : Int)) from fun z => q z.2)]
  | 11 =>
    show (if (j : Int) < M2 1 9 then actB (M2 40 j) else 0) = (if 11 = 0 ∧ j = 7 then x else if (11 = 9 ∨ 11 = 10 ∨ 11 = 11) ∧ x ≤ (j : Int) then 0 else (if (j : Int) < M 1 9 then actB (M 40 j) else 0))
    rw [e9, eo 40 (by decide) (by decide), key actB, if_neg (show ¬ ((11 : Nat) = 0 ∧ j = 7) from fun z => absurd z.1 (by decide))]
    by_cases q : x ≤ (j : Int)
    · rw [if_pos q, if_pos ⟨by decide, q⟩]
    · rw [if_neg q, if_neg (show ¬ (((11 : Nat) = 9 ∨ (11 : Nat) = 10 ∨ (11 : Nat) = 11) ∧ x ≤ (j : Int)) from fun z => q z.2)]
  | i + 12 =>
    show (0 : Int) = (if i + 12 = 0 ∧ j = 7 then x else if (i + 12 = 9 ∨ i + 12 = 10 ∨ i + 12 = 11) ∧ x ≤ (j : Int) then 0 else 0)
    rw [if_neg (by omega), if_neg (by omega)]
theorem vX_hold {M : Mm} {b : Nat} {n : Int} (hb : (b : Int) < M 1 4) : vX (up2 M 33 b n) = up2 (vX M) 1 b n := by
  funext i j
  match i with
  | 0 => rfl
  | 1 =>
    show (if (j : Int) < M 1 4 then up2 M 33 b n 33 j else 0) = if 1 = 1 ∧ j = b then n else (if (j : Int) < M 1 4 then M 33 j else 0)
    by_cases e : j = b
    · rw [e, if_pos hb, up2_s, if_pos ⟨rfl, rfl⟩]
    · rw [up2_n e, if_neg (fun z : (1 : Nat) = 1 ∧ j = b => e z.2)]
  | 2 => rfl
  | 3 => rfl
  | 4 => rfl
  | 5 => rfl
  | 6 => rfl
  | 7 => rfl
  | 8 => rfl
  | 9 => rfl
  | 10 => rfl
  | 11 => rfl
  | i + 12 => rfl
def P0_keeps_2 (rs : List (Nat × Nat)) (a : Int) (w : Int) (M : Mm) : Prop := 0 ≤ M 1 9 ∧ M 1 9 ≤ 30
def R0_keeps_2 (rs : List (Nat × Nat)) (a : Int) (w : Int) (M : Mm) (v : Int) (M1 : Mm) : Prop := (M 1 9 = 30 → M1 = M ∧ v = -5) ∧ (¬ M 1 9 = 30 → M1 = up2 (up2 M 40 (M 1 9).toNat a) 1 9 (M 1 9 + 1) ∧ v = w)
def sp0_keeps_2 (rs : List (Nat × Nat)) : Spec := spR true [0, 0] 1 (fun x M => P0_keeps_2 rs (x 0) (x 1) M) (fun x M v M1 => R0_keeps_2 rs (x 0) (x 1) M v M1)
theorem c0_keeps_2 {rs : List (Nat × Nat)} {a w : Int} {M : Mm} {Q : Option AV → Mm → Prop} : sp0_keeps_2 rs [ar 0, ai a, ai w] M Q = (P0_keeps_2 rs a w M ∧ ∀ (v : Int) (M1 : Mm), R0_keeps_2 rs a w M v M1 → Q (some (ai v)) M1) := rfl
def cs0_keeps_2 (rs : List (Nat × Nat)) : List (Nat × Nat × Nat × Spec) := []
set_option maxHeartbeats 4000000 in
set_option maxRecDepth 100000 in
theorem in0_keeps_2 {rs : List (Nat × Nat)} {a w : Int} {M : Mm} {Q : Option AV → Mm → Prop} (hM : okM (sh8 rs) M) (h_a : i32 a) (h_w : i32 w) (hP : P0_keeps_2 rs a w M) (hQ : ∀ (v : Int) (M1 : Mm), R0_keeps_2 rs a w M v M1 → Q (some (ai v)) M1) : wp (tb0 (csL (cs0_keeps_2 rs))) (sh8 rs) 3 1 cX0_keeps_2 [] Q 400 0 [(0, ar 0), (1, ai a), (2, ai w)] [] M := by
  have h7 : 0 ≤ M 1 9 ∧ M 1 9 ≤ 30 := hP
  simp only [e_wp dX0_keeps_2_0 rfl, e_wp dX0_keeps_2_1 rfl, e_wp dX0_keeps_2_4 rfl, e_wp dX0_keeps_2_7 rfl, e_wp dX0_keeps_2_9 rfl, e_wp dX0_keeps_2_12 rfl, e_wp dX0_keeps_2_14 rfl, e_wp dX0_keeps_2_15 rfl, e_wp dX0_keeps_2_16 rfl, e_wp dX0_keeps_2_19 rfl, e_wp dX0_keeps_2_22 rfl, e_wp dX0_keeps_2_23 rfl, e_wp dX0_keeps_2_26 rfl, e_wp dX0_keeps_2_29 rfl, e_wp dX0_keeps_2_30 rfl, e_wp dX0_keeps_2_31 rfl, e_wp dX0_keeps_2_32 rfl, e_wp dX0_keeps_2_35 rfl, e_wp dX0_keeps_2_36 rfl, e_wp dX0_keeps_2_39 rfl, e_wp dX0_keeps_2_40 rfl, e_wp dX0_keeps_2_41 rfl, e_wp dX0_keeps_2_44 rfl, e_wp dX0_keeps_2_45 rfl, g0_10, g0_209, g0_212, p0_209, a8_13, w8_13, a8_14, w8_14, a8_15, w8_15, a8_16, w8_16, a8_17, w8_17, a8_18, w8_18, a8_19, w8_19, a8_20, w8_20, a8_21, w8_21, a8_22, w8_22, a8_23, w8_23, a8_24, w8_24, a8_25, w8_25, a8_26, w8_26, a8_27, w8_27, a8_28, w8_28, a8_29, w8_29, a8_30, w8_30, a8_31, w8_31, a8_32, w8_32, a8_33, w8_33, a8_34, w8_34, a8_35, w8_35, a8_36, w8_36, a8_37, w8_37, a8_38, w8_38, a8_39, w8_39, a8_40, w8_40, a8_12, w8_12, a8_6, a8_7, e_iconst, e_bipush, e_sipush, e_lconst_0, e_lconst_1, e_iload, e_iload_0, e_iload_1, e_iload_2, e_iload_3, e_lload, e_lload_0, e_lload_1, e_lload_2, e_lload_3, e_aload, e_aload_0, e_aload_1, e_aload_2, e_aload_3, e_istore, e_istore_0, e_istore_1, e_istore_2, e_istore_3, e_astore, e_astore_0, e_astore_1, e_astore_2, e_astore_3, e_lstore, e_lstore_0, e_lstore_1, e_lstore_2, e_lstore_3, e_iinc, e_iadd, e_isub, e_imul, e_ladd, e_lsub, e_lmul, e_idiv, e_irem, e_ldiv, e_lrem, e_ineg, e_lneg, e_iand, e_ior, e_ixor, e_ishl, e_ishr, e_iushr, e_lcmp, e_i2l, e_l2i, e_i2b, e_i2s, e_dup_i, e_dup_r, e_pop_i, e_pop_r, e_dup2_l, e_dup2_ir, e_dup2_ii, e_ifeq, e_ifne, e_iflt, e_ifge, e_ifgt, e_ifle, e_iceq, e_icne, e_iclt, e_icge, e_icgt, e_icle, e_goto, e_switch, e_invokevirtual, e_invokestatic, e_invokespecial, e_ret0, e_ret1, e_ret2, e_ret3, ldI_s, ldL_s, ldR_s, clO_s, ctP_s, ctS_s, mgo_0, mgo_s, pjc_s, pj_0, pj_s, lk_s, rm1_0, rm1_i, rm1_r, rm1_l, rm2_0, rm2_i, rm2_r, rm2_l, csL_s, lc_lt, lc_ge, lc_gt, lc_le, lc_eq, b01_0, b01_1, b01_01, b01_n, up2_o, up2_s, up2_u, ne_eq, reduceCtorEq, Nat.reduceAdd, Nat.reduceEqDiff, Nat.reduceLT, Nat.reduceLeDiff, Int.reduceLE, Int.reduceLT, Int.reduceAdd, Int.reduceNeg, Int.reduceMul, Int.reduceSub, Int.reduceEq, Int.reduceToNat, Int.reduceNatCast, Int.cast_ofNat_Int, ↓reduceIte, and_self, List.drop_succ_cons, List.drop_zero, List.take_succ_cons, List.take_zero, List.length_cons, List.length_nil, List.reverse_cons, List.reverse_nil, List.nil_append, List.cons_append, Option.toList, true_and, and_true, or_false, false_or, or_true, true_or, forall_const, Classical.not_not, not_false_eq_true, not_true_eq_false, false_implies, true_implies, implies_true, imp_self]
  refine ⟨fun q => ?_, fun q => hQ _ _ ⟨fun _ => ⟨rfl, rfl⟩, fun z => absurd q z⟩⟩
  repeat (refine And.intro (by omega) ?_)
  exact hQ _ _ ⟨fun z => absurd z q, fun _ => ⟨rfl, rfl⟩⟩
set_option maxHeartbeats 4000000 in
set_option maxRecDepth 100000 in
theorem m0_keeps_2 {rs : List (Nat × Nat)} : MOK cl8 (sh8 rs) tyl8 Nws8 0 yX0_keeps_2 cX0_keeps_2 3 (some .int) (sp0_keeps_2 rs) := by
  refine mok_of (own := RX0) (tb := tb0 (csL (cs0_keeps_2 rs))) (rt := 1) (fuel := 400) (fun avs M Q => []) (by decide) rfl nws8_ok (tbOK0 _) rfl (csL_all ?_) ?_ ?_ ?_
  · intro q hq; cases hq
  · intro avs M Q hsp
    obtain ⟨xs, hx⟩ := spR_un _ _ _ hsp
    obtain ⟨e, hl⟩ := unA_mkT hx
    obtain ⟨a, w, rfl⟩ := len2 hl
    have e : avs = [ar 0, ai a, ai w] := e
    subst e
    simp [szL, isL]
  · intro avs M Q hM hav hsp
    obtain ⟨xs, hx⟩ := spR_un _ _ _ hsp
    obtain ⟨e, hl⟩ := unA_mkT hx
    obtain ⟨a, w, rfl⟩ := len2 hl
    have e : avs = [ar 0, ai a, ai w] := e
    subst e
    exact in0_keeps_2 hM (hav (ai a) (by simp)) (hav (ai w) (by simp)) hsp.1 hsp.2
  · intro avs M Q hM hav hsp q hq m_ vs M1 hM1 hv hJ
    obtain ⟨xs, hx⟩ := spR_un _ _ _ hsp
    obtain ⟨e, hl⟩ := unA_mkT hx
    obtain ⟨a, w, rfl⟩ := len2 hl
    have e : avs = [ar 0, ai a, ai w] := e
    subst e
    cases hq
theorem cg0_keeps_2 {rs : List (Nat × Nat)} {lvl : Nat} (h : 0 < lvl) : CG RX0 cl8 (sh8 rs) tyl8 Nws8 lvl 1 457 3 (sp0_keeps_2 rs) := cg_V (sg := [0, 0]) nws8_ok spR_mono spR_un m0_keeps_2 h rfl (by decide) rfl rfl ⟨rfl, by decide, by decide, rfl⟩ q1269 q1271 qs56 q128 q1272
def P0_send (rs : List (Nat × Nat)) (c : Int) (b : Int) (M : Mm) : Prop := okX M
def R0_send (rs : List (Nat × Nat)) (c : Int) (b : Int) (M : Mm) (v : Int) (M1 : Mm) : Prop := keepD M M1 ∧ v = A_send (vX M) c b ∧ vX M1 = N_send (vX M) c b
def sp0_send (rs : List (Nat × Nat)) : Spec := spR true [0, 0] 1 (fun x M => P0_send rs (x 0) (x 1) M) (fun x M v M1 => R0_send rs (x 0) (x 1) M v M1)
theorem c0_send {rs : List (Nat × Nat)} {c b : Int} {M : Mm} {Q : Option AV → Mm → Prop} : sp0_send rs [ar 0, ai c, ai b] M Q = (P0_send rs c b M ∧ ∀ (v : Int) (M1 : Mm), R0_send rs c b M v M1 → Q (some (ai v)) M1) := rfl
def cs0_send (rs : List (Nat × Nat)) : List (Nat × Nat × Nat × Spec) := [(159, 1, 2, (sp0_isCart rs)), (167, 1, 2, (sp0_isBridge rs)), (250, 1, 1, (sp0_asItIs rs)), (457, 1, 3, (sp0_keeps_2 rs))]
set_option maxHeartbeats 4000000 in
set_option maxRecDepth 100000 in
theorem in0_send {rs : List (Nat × Nat)} {c b : Int} {M : Mm} {Q : Option AV → Mm → Prop} (hM : okM (sh8 rs) M) (h_c : i32 c) (h_b : i32 b) (hP : P0_send rs c b M) (hQ : ∀ (v : Int) (M1 : Mm), R0_send rs c b M v M1 → Q (some (ai v)) M1) : wp (tb0 (csL (cs0_send rs))) (sh8 rs) 3 1 cX0_send [] Q 400 0 [(0, ar 0), (1, ai c), (2, ai b)] [] M := by
  obtain ⟨hY, hB⟩ := id hP
  have h3 : 0 ≤ M 1 4 ∧ M 1 4 ≤ 3 := (okY_n hY).1
  have h4 : 0 ≤ M 1 5 ∧ M 1 5 ≤ 7 := (okY_n hY).2.1
  have h7 : 0 ≤ M 1 9 ∧ M 1 9 ≤ 30 := hY.2.2.2.2.2.2.2.1
  have no : ¬ ((0 ≤ c ∧ c < M 1 5) ∧ (b = -1 ∨ 0 ≤ b ∧ b < M 1 4)) → Q (some (ai (-2))) M := fun q => hQ _ _ ⟨keepD_of keepX_rf, (if_neg q).symm, (if_neg (fun z => q z.1)).symm⟩
  have yes : ((0 ≤ c ∧ c < M 1 5) ∧ (b = -1 ∨ 0 ≤ b ∧ b < M 1 4)) → ∀ M1 v M2, R0_asItIs rs M M1 → R0_keeps_2 rs (100 * c + b + 1) (M1 17 c.toNat) M1 v M2 → keepD M M2 ∧ v = A_send (vX M) c b ∧ vX M2 = N_send (vX M) c b := by
    intro q M1 v M2 hR hR2
    obtain ⟨r1, r2, r3⟩ := hR
    have hk := keepX_tell r1 r2
    have e1 := keepX_1 hk
    obtain ⟨s1, s2⟩ := hR2
    rw [e1] at s1 s2
    have e7 : vX M 0 7 = M 1 9 := rfl
    have eA : A_send (vX M) c b = if M 1 9 = 30 then -5 else byF (vX M) (M 1 9).toNat c.toNat := if_pos q
    by_cases z : M 1 9 = 30
    · obtain ⟨rfl, rfl⟩ := s1 z
      refine ⟨keepD_of hk, by rw [eA, if_pos z], ?_⟩
      rw [keepX_v hk]
      exact (if_neg (fun y => y.2 z)).symm
    · obtain ⟨rfl, rfl⟩ := s2 z
      refine ⟨keepD_u (keepD_u (keepD_of hk) (by decide)) (by decide), ?_, ?_⟩
      · rw [eA, if_neg z]
        have x : nC (vX M) (cX M1) 2 c.toNat = byF (vX M) (M 1 9).toNat c.toNat := by
          rw [r3]
          exact if_pos (show ((c.toNat : Nat) : Int) < M 1 5 by omega)
        exact (nC_s (C := cX M1) (i := 2) (by decide) (show ((c.toNat : Nat) : Int) < M 1 5 by omega)).symm.trans x
      · have ev := vX_act (M := M1) (a := 100 * c + b + 1) (by rw [e1]; omega)
        rw [e1, keepX_v hk] at ev
        rw [ev]
        have k1 : actK (100 * c + b + 1) = 0 := if_pos (by omega)
        have k2 : actC (100 * c + b + 1) = c := (if_pos (by omega)).trans (by omega)
        have k3 : actB (100 * c + b + 1) = b := (if_pos (by omega)).trans (by omega)
        rw [k1, k2, k3]
        exact (if_pos ⟨q, z⟩).symm
  simp only [e_wp dX0_send_0 rfl, e_wp dX0_send_1 rfl, e_wp dX0_send_2 rfl, e_wp dX0_send_3 rfl, e_wp dX0_send_6 rfl, e_wp dX0_send_9 rfl, e_wp dX0_send_10 rfl, e_wp dX0_send_11 rfl, e_wp dX0_send_14 rfl, e_wp dX0_send_15 rfl, e_wp dX0_send_16 rfl, e_wp dX0_send_17 rfl, e_wp dX0_send_20 rfl, e_wp dX0_send_23 rfl, e_wp dX0_send_25 rfl, e_wp dX0_send_26 rfl, e_wp dX0_send_27 rfl, e_wp dX0_send_30 rfl, e_wp dX0_send_31 rfl, e_wp dX0_send_33 rfl, e_wp dX0_send_34 rfl, e_wp dX0_send_35 rfl, e_wp dX0_send_36 rfl, e_wp dX0_send_37 rfl, e_wp dX0_send_38 rfl, e_wp dX0_send_39 rfl, e_wp dX0_send_40 rfl, e_wp dX0_send_43 rfl, e_wp dX0_send_44 rfl, e_wp dX0_send_45 rfl, e_wp dX0_send_48 rfl, c0_isCart, P0_isCart, V0_isCart, cs0_send, c0_isBridge, P0_isBridge, V0_isBridge, c0_asItIs, g0_59, c0_keeps_2, a8_13, w8_13, a8_14, w8_14, a8_15, w8_15, a8_16, w8_16, a8_17, w8_17, a8_18, w8_18, a8_19, w8_19, a8_20, w8_20, a8_21, w8_21, a8_22, w8_22, a8_23, w8_23, a8_24, w8_24, a8_25, w8_25, a8_26, w8_26, a8_27, w8_27, a8_28, w8_28, a8_29, w8_29, a8_30, w8_30, a8_31, w8_31, a8_32, w8_32, a8_33, w8_33, a8_34, w8_34, a8_35, w8_35, a8_36, w8_36, a8_37, w8_37, a8_38, w8_38, a8_39, w8_39, a8_40, w8_40, a8_12, w8_12, a8_6, a8_7, e_iconst, e_bipush, e_sipush, e_lconst_0, e_lconst_1, e_iload, e_iload_0, e_iload_1, e_iload_2, e_iload_3, e_lload, e_lload_0, e_lload_1, e_lload_2, e_lload_3, e_aload, e_aload_0, e_aload_1, e_aload_2, e_aload_3, e_istore, e_istore_0, e_istore_1, e_istore_2, e_istore_3, e_astore, e_astore_0, e_astore_1, e_astore_2, e_astore_3, e_lstore, e_lstore_0, e_lstore_1, e_lstore_2, e_lstore_3, e_iinc, e_iadd, e_isub, e_imul, e_ladd, e_lsub, e_lmul, e_idiv, e_irem, e_ldiv, e_lrem, e_ineg, e_lneg, e_iand, e_ior, e_ixor, e_ishl, e_ishr, e_iushr, e_lcmp, e_i2l, e_l2i, e_i2b, e_i2s, e_dup_i, e_dup_r, e_pop_i, e_pop_r, e_dup2_l, e_dup2_ir, e_dup2_ii, e_ifeq, e_ifne, e_iflt, e_ifge, e_ifgt, e_ifle, e_iceq, e_icne, e_iclt, e_icge, e_icgt, e_icle, e_goto, e_switch, e_invokevirtual, e_invokestatic, e_invokespecial, e_ret0, e_ret1, e_ret2, e_ret3, ldI_s, ldL_s, ldR_s, clO_s, ctP_s, ctS_s, mgo_0, mgo_s, pjc_s, pj_0, pj_s, lk_s, rm1_0, rm1_i, rm1_r, rm1_l, rm2_0, rm2_i, rm2_r, rm2_l, csL_s, lc_lt, lc_ge, lc_gt, lc_le, lc_eq, b01_0, b01_1, b01_01, b01_n, up2_o, up2_s, up2_u, ne_eq, reduceCtorEq, Nat.reduceAdd, Nat.reduceEqDiff, Nat.reduceLT, Nat.reduceLeDiff, Int.reduceLE, Int.reduceLT, Int.reduceAdd, Int.reduceNeg, Int.reduceMul, Int.reduceSub, Int.reduceEq, Int.reduceToNat, Int.reduceNatCast, Int.cast_ofNat_Int, ↓reduceIte, and_self, List.drop_succ_cons, List.drop_zero, List.take_succ_cons, List.take_zero, List.length_cons, List.length_nil, List.reverse_cons, List.reverse_nil, List.nil_append, List.cons_append, Option.toList, true_and, and_true, or_false, false_or, or_true, true_or, forall_const, Classical.not_not, not_false_eq_true, not_true_eq_false, false_implies, true_implies, implies_true, imp_self]
  refine ⟨h4, fun q => no (fun z => q z.1), fun q => ⟨fun z => ⟨⟨hY, hB⟩, fun M1 hR => ?_⟩, fun z => ⟨h3, fun y => ⟨⟨hY, hB⟩, fun M1 hR => ?_⟩, fun y => no (by omega)⟩⟩⟩
  · have e1 := keepX_1 (keepX_tell hR.1 hR.2.1)
    repeat (refine And.intro (by omega) ?_)
    refine ⟨by show 0 ≤ M1 1 9 ∧ M1 1 9 ≤ 30; rw [e1]; exact h7, fun v M2 hR2 => hQ _ _ (yes ⟨q, Or.inl z⟩ M1 v M2 hR hR2)⟩
  · have e1 := keepX_1 (keepX_tell hR.1 hR.2.1)
    repeat (refine And.intro (by omega) ?_)
    refine ⟨by show 0 ≤ M1 1 9 ∧ M1 1 9 ≤ 30; rw [e1]; exact h7, fun v M2 hR2 => hQ _ _ (yes ⟨q, Or.inr y⟩ M1 v M2 hR hR2)⟩
set_option maxHeartbeats 4000000 in
set_option maxRecDepth 100000 in
theorem m0_send {rs : List (Nat × Nat)} : MOK cl8 (sh8 rs) tyl8 Nws8 2 yX0_send cX0_send 3 (some .int) (sp0_send rs) := by
  refine mok_of (own := RX0) (tb := tb0 (csL (cs0_send rs))) (rt := 1) (fuel := 400) (fun avs M Q => []) (by decide) rfl nws8_ok (tbOK0 _) rfl (csL_all ?_) ?_ ?_ ?_
  · intro q hq
    simp only [cs0_send, List.mem_cons, List.not_mem_nil, or_false] at hq
    rcases hq with rfl | rfl | rfl | rfl
    · exact cg0_isCart (by decide)
    · exact cg0_isBridge (by decide)
    · exact cg0_asItIs (by decide)
    · exact cg0_keeps_2 (by decide)
  · intro avs M Q hsp
    obtain ⟨xs, hx⟩ := spR_un _ _ _ hsp
    obtain ⟨e, hl⟩ := unA_mkT hx
    obtain ⟨c, b, rfl⟩ := len2 hl
    have e : avs = [ar 0, ai c, ai b] := e
    subst e
    simp [szL, isL]
  · intro avs M Q hM hav hsp
    obtain ⟨xs, hx⟩ := spR_un _ _ _ hsp
    obtain ⟨e, hl⟩ := unA_mkT hx
    obtain ⟨c, b, rfl⟩ := len2 hl
    have e : avs = [ar 0, ai c, ai b] := e
    subst e
    exact in0_send hM (hav (ai c) (by simp)) (hav (ai b) (by simp)) hsp.1 hsp.2
  · intro avs M Q hM hav hsp q hq m_ vs M1 hM1 hv hJ
    obtain ⟨xs, hx⟩ := spR_un _ _ _ hsp
    obtain ⟨e, hl⟩ := unA_mkT hx
    obtain ⟨c, b, rfl⟩ := len2 hl
    have e : avs = [ar 0, ai c, ai b] := e
    subst e
    cases hq
def P0_freeze (rs : List (Nat × Nat)) (c : Int) (n : Int) (M : Mm) : Prop := okX M
def R0_freeze (rs : List (Nat × Nat)) (c : Int) (n : Int) (M : Mm) (v : Int) (M1 : Mm) : Prop := keepD M M1 ∧ v = A_freeze (vX M) c n ∧ vX M1 = N_freeze (vX M) c n
def sp0_freeze (rs : List (Nat × Nat)) : Spec := spR true [0, 0] 1 (fun x M => P0_freeze rs (x 0) (x 1) M) (fun x M v M1 => R0_freeze rs (x 0) (x 1) M v M1)
theorem c0_freeze {rs : List (Nat × Nat)} {c n : Int} {M : Mm} {Q : Option AV → Mm → Prop} : sp0_freeze rs [ar 0, ai c, ai n] M Q = (P0_freeze rs c n M ∧ ∀ (v : Int) (M1 : Mm), R0_freeze rs c n M v M1 → Q (some (ai v)) M1) := rfl
def cs0_freeze (rs : List (Nat × Nat)) : List (Nat × Nat × Nat × Spec) := [(159, 1, 2, (sp0_isCart rs)), (170, 0, 2, (sp0_isOneOf rs)), (250, 1, 1, (sp0_asItIs rs)), (457, 1, 3, (sp0_keeps_2 rs))]
set_option maxHeartbeats 4000000 in
set_option maxRecDepth 100000 in
theorem in0_freeze {rs : List (Nat × Nat)} {c n : Int} {M : Mm} {Q : Option AV → Mm → Prop} (hM : okM (sh8 rs) M) (h_c : i32 c) (h_n : i32 n) (hP : P0_freeze rs c n M) (hQ : ∀ (v : Int) (M1 : Mm), R0_freeze rs c n M v M1 → Q (some (ai v)) M1) : wp (tb0 (csL (cs0_freeze rs))) (sh8 rs) 3 1 cX0_freeze [] Q 400 0 [(0, ar 0), (1, ai c), (2, ai n)] [] M := by
  obtain ⟨hY, hB⟩ := id hP
  have h4 : 0 ≤ M 1 5 ∧ M 1 5 ≤ 7 := (okY_n hY).2.1
  have h7 : 0 ≤ M 1 9 ∧ M 1 9 ≤ 30 := hY.2.2.2.2.2.2.2.1
  have no : ¬ ((0 ≤ c ∧ c < M 1 5) ∧ 0 ≤ n ∧ n ≤ 1) → Q (some (ai (-2))) M := fun q => hQ _ _ ⟨keepD_of keepX_rf, (if_neg q).symm, (if_neg (fun z => q z.1)).symm⟩
  have yes : ((0 ≤ c ∧ c < M 1 5) ∧ 0 ≤ n ∧ n ≤ 1) → ∀ M1 v M2, R0_asItIs rs M M1 → R0_keeps_2 rs (1000 + 2 * c + n) (band (bshr (M1 0 24) c) 1) M1 v M2 → keepD M M2 ∧ v = A_freeze (vX M) c n ∧ vX M2 = N_freeze (vX M) c n := by
    intro q M1 v M2 hR hR2
    obtain ⟨r1, r2, r3⟩ := hR
    have hk := keepX_tell r1 r2
    have e1 := keepX_1 hk
    obtain ⟨s1, s2⟩ := hR2
    rw [e1] at s1 s2
    have eA : A_freeze (vX M) c n = if M 1 9 = 30 then -5 else b01 (bitP (coldF (vX M) (M 1 9).toNat) c) := if_pos q
    by_cases z : M 1 9 = 30
    · obtain ⟨rfl, rfl⟩ := s1 z
      refine ⟨keepD_of hk, by rw [eA, if_pos z], ?_⟩
      rw [keepX_v hk]
      exact (if_neg (fun y => y.2 z)).symm
    · obtain ⟨rfl, rfl⟩ := s2 z
      refine ⟨keepD_u (keepD_u (keepD_of hk) (by decide)) (by decide), ?_, ?_⟩
      · have e : M1 0 24 = coldF (vX M) (M 1 9).toNat := congrFun (congrFun r3 0) 1
        rw [eA, if_neg z, e]
        exact bit_01 _ _
      · have ev := vX_act (M := M1) (a := 1000 + 2 * c + n) (by rw [e1]; omega)
        rw [e1, keepX_v hk] at ev
        rw [ev]
        have k1 : actK (1000 + 2 * c + n) = if n = 1 then 1 else 2 := by
          refine (if_neg (by omega)).trans ?_
          by_cases y : n = 1
          · rw [if_pos y, if_pos (by omega)]
          · rw [if_neg y, if_neg (by omega)]
        have k2 : actC (1000 + 2 * c + n) = c := (if_neg (by omega)).trans (by omega)
        have k3 : actB (1000 + 2 * c + n) = 0 := if_neg (by omega)
        rw [k1, k2, k3]
        exact (if_pos ⟨q, z⟩).symm
  simp only [e_wp dX0_freeze_0 rfl, e_wp dX0_freeze_1 rfl, e_wp dX0_freeze_2 rfl, e_wp dX0_freeze_3 rfl, e_wp dX0_freeze_6 rfl, e_wp dX0_freeze_9 rfl, e_wp dX0_freeze_10 rfl, e_wp dX0_freeze_11 rfl, e_wp dX0_freeze_14 rfl, e_wp dX0_freeze_17 rfl, e_wp dX0_freeze_19 rfl, e_wp dX0_freeze_20 rfl, e_wp dX0_freeze_21 rfl, e_wp dX0_freeze_24 rfl, e_wp dX0_freeze_25 rfl, e_wp dX0_freeze_28 rfl, e_wp dX0_freeze_29 rfl, e_wp dX0_freeze_30 rfl, e_wp dX0_freeze_31 rfl, e_wp dX0_freeze_32 rfl, e_wp dX0_freeze_33 rfl, e_wp dX0_freeze_34 rfl, e_wp dX0_freeze_35 rfl, e_wp dX0_freeze_38 rfl, e_wp dX0_freeze_39 rfl, e_wp dX0_freeze_40 rfl, e_wp dX0_freeze_41 rfl, e_wp dX0_freeze_42 rfl, e_wp dX0_freeze_45 rfl, c0_isCart, P0_isCart, V0_isCart, cs0_freeze, c0_isOneOf, P0_isOneOf, V0_isOneOf, c0_asItIs, g0_203, c0_keeps_2, e_iconst, e_bipush, e_sipush, e_lconst_0, e_lconst_1, e_iload, e_iload_0, e_iload_1, e_iload_2, e_iload_3, e_lload, e_lload_0, e_lload_1, e_lload_2, e_lload_3, e_aload, e_aload_0, e_aload_1, e_aload_2, e_aload_3, e_istore, e_istore_0, e_istore_1, e_istore_2, e_istore_3, e_astore, e_astore_0, e_astore_1, e_astore_2, e_astore_3, e_lstore, e_lstore_0, e_lstore_1, e_lstore_2, e_lstore_3, e_iinc, e_iadd, e_isub, e_imul, e_ladd, e_lsub, e_lmul, e_idiv, e_irem, e_ldiv, e_lrem, e_ineg, e_lneg, e_iand, e_ior, e_ixor, e_ishl, e_ishr, e_iushr, e_lcmp, e_i2l, e_l2i, e_i2b, e_i2s, e_dup_i, e_dup_r, e_pop_i, e_pop_r, e_dup2_l, e_dup2_ir, e_dup2_ii, e_ifeq, e_ifne, e_iflt, e_ifge, e_ifgt, e_ifle, e_iceq, e_icne, e_iclt, e_icge, e_icgt, e_icle, e_goto, e_switch, e_invokevirtual, e_invokestatic, e_invokespecial, e_ret0, e_ret1, e_ret2, e_ret3, ldI_s, ldL_s, ldR_s, clO_s, ctP_s, ctS_s, mgo_0, mgo_s, pjc_s, pj_0, pj_s, lk_s, rm1_0, rm1_i, rm1_r, rm1_l, rm2_0, rm2_i, rm2_r, rm2_l, csL_s, lc_lt, lc_ge, lc_gt, lc_le, lc_eq, b01_0, b01_1, b01_01, b01_n, up2_o, up2_s, up2_u, ne_eq, reduceCtorEq, Nat.reduceAdd, Nat.reduceEqDiff, Nat.reduceLT, Nat.reduceLeDiff, Int.reduceLE, Int.reduceLT, Int.reduceAdd, Int.reduceNeg, Int.reduceMul, Int.reduceSub, Int.reduceEq, Int.reduceToNat, Int.reduceNatCast, Int.cast_ofNat_Int, ↓reduceIte, and_self, List.drop_succ_cons, List.drop_zero, List.take_succ_cons, List.take_zero, List.length_cons, List.length_nil, List.reverse_cons, List.reverse_nil, List.nil_append, List.cons_append, Option.toList, true_and, and_true, or_false, false_or, or_true, true_or, forall_const, Classical.not_not, not_false_eq_true, not_true_eq_false, false_implies, true_implies, implies_true, imp_self]
  refine ⟨h4, fun q => no (fun z => q z.1), fun q => ⟨fun z => ⟨⟨hY, hB⟩, fun M1 hR => ?_⟩, fun z => no (by omega)⟩⟩
  have e1 := keepX_1 (keepX_tell hR.1 hR.2.1)
  repeat (refine And.intro (by omega) ?_)
  refine ⟨by show 0 ≤ M1 1 9 ∧ M1 1 9 ≤ 30; rw [e1]; exact h7, fun v M2 hR2 => hQ _ _ (yes ⟨q, by omega⟩ M1 v M2 hR hR2)⟩
set_option maxHeartbeats 4000000 in
set_option maxRecDepth 100000 in
theorem m0_freeze {rs : List (Nat × Nat)} : MOK cl8 (sh8 rs) tyl8 Nws8 2 yX0_freeze cX0_freeze 3 (some .int) (sp0_freeze rs) := by
  refine mok_of (own := RX0) (tb := tb0 (csL (cs0_freeze rs))) (rt := 1) (fuel := 400) (fun avs M Q => []) (by decide) rfl nws8_ok (tbOK0 _) rfl (csL_all ?_) ?_ ?_ ?_
  · intro q hq
    simp only [cs0_freeze, List.mem_cons, List.not_mem_nil, or_false] at hq
    rcases hq with rfl | rfl | rfl | rfl
    · exact cg0_isCart (by decide)
    · exact cg0_isOneOf (by decide)
    · exact cg0_asItIs (by decide)
    · exact cg0_keeps_2 (by decide)
  · intro avs M Q hsp
    obtain ⟨xs, hx⟩ := spR_un _ _ _ hsp
    obtain ⟨e, hl⟩ := unA_mkT hx
    obtain ⟨c, n, rfl⟩ := len2 hl
    have e : avs = [ar 0, ai c, ai n] := e
    subst e
    simp [szL, isL]
  · intro avs M Q hM hav hsp
    obtain ⟨xs, hx⟩ := spR_un _ _ _ hsp
    obtain ⟨e, hl⟩ := unA_mkT hx
    obtain ⟨c, n, rfl⟩ := len2 hl
    have e : avs = [ar 0, ai c, ai n] := e
    subst e
    exact in0_freeze hM (hav (ai c) (by simp)) (hav (ai n) (by simp)) hsp.1 hsp.2
  · intro avs M Q hM hav hsp q hq m_ vs M1 hM1 hv hJ
    obtain ⟨xs, hx⟩ := spR_un _ _ _ hsp
    obtain ⟨e, hl⟩ := unA_mkT hx
    obtain ⟨c, n, rfl⟩ := len2 hl
    have e : avs = [ar 0, ai c, ai n] := e
    subst e
    cases hq
def P0_undo (rs : List (Nat × Nat)) (M : Mm) : Prop := okX M
def R0_undo (rs : List (Nat × Nat)) (M : Mm) (v : Int) (M1 : Mm) : Prop := keepD M M1 ∧ v = A_undo (vX M) ∧ vX M1 = N_undo (vX M)
def sp0_undo (rs : List (Nat × Nat)) : Spec := spR true [] 1 (fun x M => P0_undo rs M) (fun x M v M1 => R0_undo rs M v M1)
theorem c0_undo {rs : List (Nat × Nat)} {M : Mm} {Q : Option AV → Mm → Prop} : sp0_undo rs [ar 0] M Q = (P0_undo rs M ∧ ∀ (v : Int) (M1 : Mm), R0_undo rs M v M1 → Q (some (ai v)) M1) := rfl
def cs0_undo (rs : List (Nat × Nat)) : List (Nat × Nat × Nat × Spec) := [(256, 1, 1, (sp0_isValley rs))]
set_option maxHeartbeats 4000000 in
set_option maxRecDepth 100000 in
theorem in0_undo {rs : List (Nat × Nat)} {M : Mm} {Q : Option AV → Mm → Prop} (hM : okM (sh8 rs) M) (hP : P0_undo rs M) (hQ : ∀ (v : Int) (M1 : Mm), R0_undo rs M v M1 → Q (some (ai v)) M1) : wp (tb0 (csL (cs0_undo rs))) (sh8 rs) 1 1 cX0_undo [] Q 400 0 [(0, ar 0)] [] M := by
  obtain ⟨hY, hB⟩ := id hP
  have h7 : 0 ≤ M 1 9 ∧ M 1 9 ≤ 30 := hY.2.2.2.2.2.2.2.1
  simp only [e_wp dX0_undo_0 rfl, e_wp dX0_undo_1 rfl, e_wp dX0_undo_4 rfl, e_wp dX0_undo_7 rfl, e_wp dX0_undo_9 rfl, e_wp dX0_undo_10 rfl, e_wp dX0_undo_11 rfl, e_wp dX0_undo_14 rfl, e_wp dX0_undo_17 rfl, e_wp dX0_undo_20 rfl, e_wp dX0_undo_22 rfl, e_wp dX0_undo_23 rfl, e_wp dX0_undo_24 rfl, e_wp dX0_undo_27 rfl, e_wp dX0_undo_28 rfl, e_wp dX0_undo_31 rfl, e_wp dX0_undo_32 rfl, e_wp dX0_undo_33 rfl, e_wp dX0_undo_36 rfl, e_wp dX0_undo_37 rfl, e_wp dX0_undo_40 rfl, e_wp dX0_undo_43 rfl, c0_isValley, P0_isValley, V0_isValley, cs0_undo, g0_10, g0_209, p0_209, e_iconst, e_bipush, e_sipush, e_lconst_0, e_lconst_1, e_iload, e_iload_0, e_iload_1, e_iload_2, e_iload_3, e_lload, e_lload_0, e_lload_1, e_lload_2, e_lload_3, e_aload, e_aload_0, e_aload_1, e_aload_2, e_aload_3, e_istore, e_istore_0, e_istore_1, e_istore_2, e_istore_3, e_astore, e_astore_0, e_astore_1, e_astore_2, e_astore_3, e_lstore, e_lstore_0, e_lstore_1, e_lstore_2, e_lstore_3, e_iinc, e_iadd, e_isub, e_imul, e_ladd, e_lsub, e_lmul, e_idiv, e_irem, e_ldiv, e_lrem, e_ineg, e_lneg, e_iand, e_ior, e_ixor, e_ishl, e_ishr, e_iushr, e_lcmp, e_i2l, e_l2i, e_i2b, e_i2s, e_dup_i, e_dup_r, e_pop_i, e_pop_r, e_dup2_l, e_dup2_ir, e_dup2_ii, e_ifeq, e_ifne, e_iflt, e_ifge, e_ifgt, e_ifle, e_iceq, e_icne, e_iclt, e_icge, e_icgt, e_icle, e_goto, e_switch, e_invokevirtual, e_invokestatic, e_invokespecial, e_ret0, e_ret1, e_ret2, e_ret3, ldI_s, ldL_s, ldR_s, clO_s, ctP_s, ctS_s, mgo_0, mgo_s, pjc_s, pj_0, pj_s, lk_s, rm1_0, rm1_i, rm1_r, rm1_l, rm2_0, rm2_i, rm2_r, rm2_l, csL_s, lc_lt, lc_ge, lc_gt, lc_le, lc_eq, b01_0, b01_1, b01_01, b01_n, up2_o, up2_s, up2_u, ne_eq, reduceCtorEq, Nat.reduceAdd, Nat.reduceEqDiff, Nat.reduceLT, Nat.reduceLeDiff, Int.reduceLE, Int.reduceLT, Int.reduceAdd, Int.reduceNeg, Int.reduceMul, Int.reduceSub, Int.reduceEq, Int.reduceToNat, Int.reduceNatCast, Int.cast_ofNat_Int, ↓reduceIte, and_self, List.drop_succ_cons, List.drop_zero, List.take_succ_cons, List.take_zero, List.length_cons, List.length_nil, List.reverse_cons, List.reverse_nil, List.nil_append, List.cons_append, Option.toList, true_and, and_true, or_false, false_or, or_true, true_or, forall_const, Classical.not_not, not_false_eq_true, not_true_eq_false, false_implies, true_implies, implies_true, imp_self]
  refine ⟨fun q => ⟨fun z => ?_, fun z => ?_⟩, fun q => hQ _ _ ⟨keepD_of keepX_rf, (if_neg (by show ¬ 0 < M 1 3; omega)).symm, (if_neg (fun y => absurd y.1 (by show ¬ 0 < M 1 3; omega))).symm⟩⟩
  · repeat (refine And.intro (by omega) ?_)
    refine hQ _ _ ⟨keepD_u (keepD_of keepX_rf) (by decide), ((if_pos q).trans (if_neg z)).symm, ?_⟩
    rw [vX_few (by omega)]
    exact (if_pos (show 0 < vX M 0 8 ∧ ¬ vX M 0 7 = 0 from ⟨q, z⟩)).symm
  · exact hQ _ _ ⟨keepD_of keepX_rf, ((if_pos q).trans (if_pos z)).symm, (if_neg (fun y => y.2 z)).symm⟩
set_option maxHeartbeats 4000000 in
set_option maxRecDepth 100000 in
theorem m0_undo {rs : List (Nat × Nat)} : MOK cl8 (sh8 rs) tyl8 Nws8 1 yX0_undo cX0_undo 1 (some .int) (sp0_undo rs) := by
  refine mok_of (own := RX0) (tb := tb0 (csL (cs0_undo rs))) (rt := 1) (fuel := 400) (fun avs M Q => []) (by decide) rfl nws8_ok (tbOK0 _) rfl (csL_all ?_) ?_ ?_ ?_
  · intro q hq
    simp only [cs0_undo, List.mem_cons, List.not_mem_nil, or_false] at hq
    rcases hq with rfl
    · exact cg0_isValley (by decide)
  · intro avs M Q hsp
    obtain ⟨xs, hx⟩ := spR_un _ _ _ hsp
    obtain ⟨e, hl⟩ := unA_mkT hx
    obtain rfl := len0 hl
    have e : avs = [ar 0] := e
    subst e
    simp [szL, isL]
  · intro avs M Q hM hav hsp
    obtain ⟨xs, hx⟩ := spR_un _ _ _ hsp
    obtain ⟨e, hl⟩ := unA_mkT hx
    obtain rfl := len0 hl
    have e : avs = [ar 0] := e
    subst e
    exact in0_undo hM hsp.1 hsp.2
  · intro avs M Q hM hav hsp q hq m_ vs M1 hM1 hv hJ
    obtain ⟨xs, hx⟩ := spR_un _ _ _ hsp
    obtain ⟨e, hl⟩ := unA_mkT hx
    obtain rfl := len0 hl
    have e : avs = [ar 0] := e
    subst e
    cases hq
def P0_anew (rs : List (Nat × Nat)) (M : Mm) : Prop := okX M
def R0_anew (rs : List (Nat × Nat)) (M : Mm) (v : Int) (M1 : Mm) : Prop := keepD M M1 ∧ v = A_anew (vX M) ∧ vX M1 = N_anew (vX M)
def sp0_anew (rs : List (Nat × Nat)) : Spec := spR true [] 1 (fun x M => P0_anew rs M) (fun x M v M1 => R0_anew rs M v M1)
theorem c0_anew {rs : List (Nat × Nat)} {M : Mm} {Q : Option AV → Mm → Prop} : sp0_anew rs [ar 0] M Q = (P0_anew rs M ∧ ∀ (v : Int) (M1 : Mm), R0_anew rs M v M1 → Q (some (ai v)) M1) := rfl
def cs0_anew (rs : List (Nat × Nat)) : List (Nat × Nat × Nat × Spec) := [(256, 1, 1, (sp0_isValley rs))]
set_option maxHeartbeats 4000000 in
set_option maxRecDepth 100000 in
theorem in0_anew {rs : List (Nat × Nat)} {M : Mm} {Q : Option AV → Mm → Prop} (hM : okM (sh8 rs) M) (hP : P0_anew rs M) (hQ : ∀ (v : Int) (M1 : Mm), R0_anew rs M v M1 → Q (some (ai v)) M1) : wp (tb0 (csL (cs0_anew rs))) (sh8 rs) 2 1 cX0_anew [] Q 400 0 [(0, ar 0)] [] M := by
  obtain ⟨hY, hB⟩ := id hP
  have h7 : 0 ≤ M 1 9 ∧ M 1 9 ≤ 30 := hY.2.2.2.2.2.2.2.1
  simp only [e_wp dX0_anew_0 rfl, e_wp dX0_anew_1 rfl, e_wp dX0_anew_4 rfl, e_wp dX0_anew_7 rfl, e_wp dX0_anew_9 rfl, e_wp dX0_anew_10 rfl, e_wp dX0_anew_11 rfl, e_wp dX0_anew_14 rfl, e_wp dX0_anew_17 rfl, e_wp dX0_anew_18 rfl, e_wp dX0_anew_19 rfl, e_wp dX0_anew_22 rfl, e_wp dX0_anew_23 rfl, e_wp dX0_anew_26 rfl, e_wp dX0_anew_27 rfl, c0_isValley, P0_isValley, V0_isValley, cs0_anew, g0_10, g0_209, p0_209, e_iconst, e_bipush, e_sipush, e_lconst_0, e_lconst_1, e_iload, e_iload_0, e_iload_1, e_iload_2, e_iload_3, e_lload, e_lload_0, e_lload_1, e_lload_2, e_lload_3, e_aload, e_aload_0, e_aload_1, e_aload_2, e_aload_3, e_istore, e_istore_0, e_istore_1, e_istore_2, e_istore_3, e_astore, e_astore_0, e_astore_1, e_astore_2, e_astore_3, e_lstore, e_lstore_0, e_lstore_1, e_lstore_2, e_lstore_3, e_iinc, e_iadd, e_isub, e_imul, e_ladd, e_lsub, e_lmul, e_idiv, e_irem, e_ldiv, e_lrem, e_ineg, e_lneg, e_iand, e_ior, e_ixor, e_ishl, e_ishr, e_iushr, e_lcmp, e_i2l, e_l2i, e_i2b, e_i2s, e_dup_i, e_dup_r, e_pop_i, e_pop_r, e_dup2_l, e_dup2_ir, e_dup2_ii, e_ifeq, e_ifne, e_iflt, e_ifge, e_ifgt, e_ifle, e_iceq, e_icne, e_iclt, e_icge, e_icgt, e_icle, e_goto, e_switch, e_invokevirtual, e_invokestatic, e_invokespecial, e_ret0, e_ret1, e_ret2, e_ret3, ldI_s, ldL_s, ldR_s, clO_s, ctP_s, ctS_s, mgo_0, mgo_s, pjc_s, pj_0, pj_s, lk_s, rm1_0, rm1_i, rm1_r, rm1_l, rm2_0, rm2_i, rm2_r, rm2_l, csL_s, lc_lt, lc_ge, lc_gt, lc_le, lc_eq, b01_0, b01_1, b01_01, b01_n, up2_o, up2_s, up2_u, ne_eq, reduceCtorEq, Nat.reduceAdd, Nat.reduceEqDiff, Nat.reduceLT, Nat.reduceLeDiff, Int.reduceLE, Int.reduceLT, Int.reduceAdd, Int.reduceNeg, Int.reduceMul, Int.reduceSub, Int.reduceEq, Int.reduceToNat, Int.reduceNatCast, Int.cast_ofNat_Int, ↓reduceIte, and_self, List.drop_succ_cons, List.drop_zero, List.take_succ_cons, List.take_zero, List.length_cons, List.length_nil, List.reverse_cons, List.reverse_nil, List.nil_append, List.cons_append, Option.toList, true_and, and_true, or_false, false_or, or_true, true_or, forall_const, Classical.not_not, not_false_eq_true, not_true_eq_false, false_implies, true_implies, implies_true, imp_self]
  refine ⟨fun q => ?_, fun q => hQ _ _ ⟨keepD_of keepX_rf, (if_neg (by show ¬ 0 < M 1 3; omega)).symm, (if_neg (by show ¬ 0 < M 1 3; omega)).symm⟩⟩
  refine hQ _ _ ⟨keepD_u (keepD_of keepX_rf) (by decide), (if_pos q).symm, ?_⟩
  rw [vX_few (by omega), show N_anew (vX M) = anewP (vX M) from if_pos q]
  funext i j
  show _ = if i = 0 ∧ j = 7 then 0 else if i = 9 ∨ i = 10 ∨ i = 11 then 0 else vX M i j
  by_cases e : i = 0 ∧ j = 7
  · rw [if_pos e, if_pos e]
  · rw [if_neg e, if_neg e]
    by_cases q : i = 9 ∨ i = 10 ∨ i = 11
    · rw [if_pos q, if_pos ⟨q, by omega⟩]
    · rw [if_neg q, if_neg (fun w => q w.1)]
set_option maxHeartbeats 4000000 in
set_option maxRecDepth 100000 in
theorem m0_anew {rs : List (Nat × Nat)} : MOK cl8 (sh8 rs) tyl8 Nws8 1 yX0_anew cX0_anew 2 (some .int) (sp0_anew rs) := by
  refine mok_of (own := RX0) (tb := tb0 (csL (cs0_anew rs))) (rt := 1) (fuel := 400) (fun avs M Q => []) (by decide) rfl nws8_ok (tbOK0 _) rfl (csL_all ?_) ?_ ?_ ?_
  · intro q hq
    simp only [cs0_anew, List.mem_cons, List.not_mem_nil, or_false] at hq
    rcases hq with rfl
    · exact cg0_isValley (by decide)
  · intro avs M Q hsp
    obtain ⟨xs, hx⟩ := spR_un _ _ _ hsp
    obtain ⟨e, hl⟩ := unA_mkT hx
    obtain rfl := len0 hl
    have e : avs = [ar 0] := e
    subst e
    simp [szL, isL]
  · intro avs M Q hM hav hsp
    obtain ⟨xs, hx⟩ := spR_un _ _ _ hsp
    obtain ⟨e, hl⟩ := unA_mkT hx
    obtain rfl := len0 hl
    have e : avs = [ar 0] := e
    subst e
    exact in0_anew hM hsp.1 hsp.2
  · intro avs M Q hM hav hsp q hq m_ vs M1 hM1 hv hJ
    obtain ⟨xs, hx⟩ := spR_un _ _ _ hsp
    obtain ⟨e, hl⟩ := unA_mkT hx
    obtain rfl := len0 hl
    have e : avs = [ar 0] := e
    subst e
    cases hq
def P0_rate (rs : List (Nat × Nat)) (b : Int) (n : Int) (M : Mm) : Prop := okX M
def R0_rate (rs : List (Nat × Nat)) (b : Int) (n : Int) (M : Mm) (v : Int) (M1 : Mm) : Prop := keepD M M1 ∧ v = A_rate (vX M) b n ∧ vX M1 = N_rate (vX M) b n
def sp0_rate (rs : List (Nat × Nat)) : Spec := spR true [0, 0] 1 (fun x M => P0_rate rs (x 0) (x 1) M) (fun x M v M1 => R0_rate rs (x 0) (x 1) M v M1)
theorem c0_rate {rs : List (Nat × Nat)} {b n : Int} {M : Mm} {Q : Option AV → Mm → Prop} : sp0_rate rs [ar 0, ai b, ai n] M Q = (P0_rate rs b n M ∧ ∀ (v : Int) (M1 : Mm), R0_rate rs b n M v M1 → Q (some (ai v)) M1) := rfl
def cs0_rate (rs : List (Nat × Nat)) : List (Nat × Nat × Nat × Spec) := [(167, 1, 2, (sp0_isBridge rs)), (128, 0, 3, (sp0_isIn rs))]
set_option maxHeartbeats 4000000 in
set_option maxRecDepth 100000 in
theorem in0_rate {rs : List (Nat × Nat)} {b n : Int} {M : Mm} {Q : Option AV → Mm → Prop} (hM : okM (sh8 rs) M) (h_b : i32 b) (h_n : i32 n) (hP : P0_rate rs b n M) (hQ : ∀ (v : Int) (M1 : Mm), R0_rate rs b n M v M1 → Q (some (ai v)) M1) : wp (tb0 (csL (cs0_rate rs))) (sh8 rs) 4 1 cX0_rate [] Q 400 0 [(0, ar 0), (1, ai b), (2, ai n)] [] M := by
  obtain ⟨hY, hB⟩ := id hP
  have h3 : 0 ≤ M 1 4 ∧ M 1 4 ≤ 3 := (okY_n hY).1
  have h7 : 0 ≤ M 1 9 ∧ M 1 9 ≤ 30 := hY.2.2.2.2.2.2.2.1
  have no : ∀ x, x = -2 → ¬ ((0 ≤ b ∧ b < M 1 4) ∧ 1 ≤ n ∧ n ≤ 300) → Q (some (ai x)) M := by
    rintro x rfl q
    exact hQ _ _ ⟨keepD_of keepX_rf, (if_neg q).symm, (if_neg (fun z => q z.1)).symm⟩
  simp only [e_wp dX0_rate_0 rfl, e_wp dX0_rate_1 rfl, e_wp dX0_rate_2 rfl, e_wp dX0_rate_3 rfl, e_wp dX0_rate_6 rfl, e_wp dX0_rate_9 rfl, e_wp dX0_rate_10 rfl, e_wp dX0_rate_11 rfl, e_wp dX0_rate_12 rfl, e_wp dX0_rate_15 rfl, e_wp dX0_rate_18 rfl, e_wp dX0_rate_21 rfl, e_wp dX0_rate_23 rfl, e_wp dX0_rate_24 rfl, e_wp dX0_rate_25 rfl, e_wp dX0_rate_28 rfl, e_wp dX0_rate_31 rfl, e_wp dX0_rate_34 rfl, e_wp dX0_rate_36 rfl, e_wp dX0_rate_37 rfl, e_wp dX0_rate_38 rfl, e_wp dX0_rate_41 rfl, e_wp dX0_rate_44 rfl, e_wp dX0_rate_45 rfl, e_wp dX0_rate_46 rfl, e_wp dX0_rate_47 rfl, e_wp dX0_rate_48 rfl, e_wp dX0_rate_51 rfl, e_wp dX0_rate_54 rfl, e_wp dX0_rate_55 rfl, e_wp dX0_rate_56 rfl, e_wp dX0_rate_57 rfl, e_wp dX0_rate_58 rfl, c0_isBridge, P0_isBridge, V0_isBridge, cs0_rate, k0_459, c0_isIn, P0_isIn, V0_isIn, g0_10, g0_209, g0_174, a8_13, w8_13, a8_14, w8_14, a8_15, w8_15, a8_16, w8_16, a8_17, w8_17, a8_18, w8_18, a8_19, w8_19, a8_20, w8_20, a8_21, w8_21, a8_22, w8_22, a8_23, w8_23, a8_24, w8_24, a8_25, w8_25, a8_26, w8_26, a8_27, w8_27, a8_28, w8_28, a8_29, w8_29, a8_30, w8_30, a8_31, w8_31, a8_32, w8_32, a8_33, w8_33, a8_34, w8_34, a8_35, w8_35, a8_36, w8_36, a8_37, w8_37, a8_38, w8_38, a8_39, w8_39, a8_40, w8_40, a8_12, w8_12, a8_6, a8_7, e_iconst, e_bipush, e_sipush, e_lconst_0, e_lconst_1, e_iload, e_iload_0, e_iload_1, e_iload_2, e_iload_3, e_lload, e_lload_0, e_lload_1, e_lload_2, e_lload_3, e_aload, e_aload_0, e_aload_1, e_aload_2, e_aload_3, e_istore, e_istore_0, e_istore_1, e_istore_2, e_istore_3, e_astore, e_astore_0, e_astore_1, e_astore_2, e_astore_3, e_lstore, e_lstore_0, e_lstore_1, e_lstore_2, e_lstore_3, e_iinc, e_iadd, e_isub, e_imul, e_ladd, e_lsub, e_lmul, e_idiv, e_irem, e_ldiv, e_lrem, e_ineg, e_lneg, e_iand, e_ior, e_ixor, e_ishl, e_ishr, e_iushr, e_lcmp, e_i2l, e_l2i, e_i2b, e_i2s, e_dup_i, e_dup_r, e_pop_i, e_pop_r, e_dup2_l, e_dup2_ir, e_dup2_ii, e_ifeq, e_ifne, e_iflt, e_ifge, e_ifgt, e_ifle, e_iceq, e_icne, e_iclt, e_icge, e_icgt, e_icle, e_goto, e_switch, e_invokevirtual, e_invokestatic, e_invokespecial, e_ret0, e_ret1, e_ret2, e_ret3, ldI_s, ldL_s, ldR_s, clO_s, ctP_s, ctS_s, mgo_0, mgo_s, pjc_s, pj_0, pj_s, lk_s, rm1_0, rm1_i, rm1_r, rm1_l, rm2_0, rm2_i, rm2_r, rm2_l, csL_s, lc_lt, lc_ge, lc_gt, lc_le, lc_eq, b01_0, b01_1, b01_01, b01_n, up2_o, up2_s, up2_u, ne_eq, reduceCtorEq, Nat.reduceAdd, Nat.reduceEqDiff, Nat.reduceLT, Nat.reduceLeDiff, Int.reduceLE, Int.reduceLT, Int.reduceAdd, Int.reduceNeg, Int.reduceMul, Int.reduceSub, Int.reduceEq, Int.reduceToNat, Int.reduceNatCast, Int.cast_ofNat_Int, ↓reduceIte, and_self, List.drop_succ_cons, List.drop_zero, List.take_succ_cons, List.take_zero, List.length_cons, List.length_nil, List.reverse_cons, List.reverse_nil, List.nil_append, List.cons_append, Option.toList, true_and, and_true, or_false, false_or, or_true, true_or, forall_const, Classical.not_not, not_false_eq_true, not_true_eq_false, false_implies, true_implies, implies_true, imp_self]
  refine ⟨h3, fun q => no _ rfl (fun z => q z.1), fun q => ⟨fun z => ⟨fun y => ?_, fun y => ?_⟩, fun z => no _ rfl (fun y => z y.2)⟩⟩
  · repeat (refine And.intro (by omega) ?_)
    have v1 := (vX_b M (b := b.toNat) (by omega)).1
    refine hQ _ _ ⟨keepD_u (keepD_of keepX_rf) (by decide), ?_, ?_⟩
    · rw [← v1]
      exact ((if_pos ⟨q, z⟩).trans (if_neg (by show ¬ 0 < M 1 9; omega))).symm
    · rw [vX_hold (by omega)]
      exact (if_pos ⟨⟨q, z⟩, by show ¬ 0 < M 1 9; omega⟩).symm
  · exact hQ _ _ ⟨keepD_of keepX_rf, ((if_pos ⟨q, z⟩).trans (if_pos y)).symm, (if_neg (fun u => u.2 y)).symm⟩
set_option maxHeartbeats 4000000 in
set_option maxRecDepth 100000 in
theorem m0_rate {rs : List (Nat × Nat)} : MOK cl8 (sh8 rs) tyl8 Nws8 2 yX0_rate cX0_rate 4 (some .int) (sp0_rate rs) := by
  refine mok_of (own := RX0) (tb := tb0 (csL (cs0_rate rs))) (rt := 1) (fuel := 400) (fun avs M Q => []) (by decide) rfl nws8_ok (tbOK0 _) rfl (csL_all ?_) ?_ ?_ ?_
  · intro q hq
    simp only [cs0_rate, List.mem_cons, List.not_mem_nil, or_false] at hq
    rcases hq with rfl | rfl
    · exact cg0_isBridge (by decide)
    · exact cg0_isIn (by decide)
  · intro avs M Q hsp
    obtain ⟨xs, hx⟩ := spR_un _ _ _ hsp
    obtain ⟨e, hl⟩ := unA_mkT hx
    obtain ⟨b, n, rfl⟩ := len2 hl
    have e : avs = [ar 0, ai b, ai n] := e
    subst e
    simp [szL, isL]
  · intro avs M Q hM hav hsp
    obtain ⟨xs, hx⟩ := spR_un _ _ _ hsp
    obtain ⟨e, hl⟩ := unA_mkT hx
    obtain ⟨b, n, rfl⟩ := len2 hl
    have e : avs = [ar 0, ai b, ai n] := e
    subst e
    exact in0_rate hM (hav (ai b) (by simp)) (hav (ai n) (by simp)) hsp.1 hsp.2
  · intro avs M Q hM hav hsp q hq m_ vs M1 hM1 hv hJ
    obtain ⟨xs, hx⟩ := spR_un _ _ _ hsp
    obtain ⟨e, hl⟩ := unA_mkT hx
    obtain ⟨b, n, rfl⟩ := len2 hl
    have e : avs = [ar 0, ai b, ai n] := e
    subst e
    cases hq
