/-! SagMemoryModel: the tape -/
def byteP (v : Int) (i : Nat) : Int := (bshr v (24 - 8 * (i : Int))).bmod 256
def putP (f : Nat → Int) (t : Nat) (v : Int) (n : Nat) : Nat → Int := fun j => if t ≤ j ∧ j < t + n then byteP v (j - t) else f j
def fedP (f : Nat → Int) (t : Nat) : List Int → Nat → Int
  | [] => f
  | v :: l => fedP (putP f t v 4) (t + 4) l
/-- all but the tape -/
def keepT (M M1 : Mm) : Prop := frm [0, 5] M M1 ∧ ∀ j, ¬ j = 0 → ¬ j = 6 → M1 0 j = M 0 j
theorem keepT_tr {M M1 M2 : Mm} (h : keepT M M1) (h2 : keepT M1 M2) : keepT M M2 := ⟨frm_tr h.1 h2.1 (by decide), fun j a b => (h2.2 j a b).trans (h.2 j a b)⟩
theorem keepT_v {M M1 : Mm} (h : keepT M M1) (s : Nat) : vS s M1 = vS s M := vS_frm h.1 (by decide)
def P7_four (v : Int) (M : Mm) : Prop := 0 ≤ M 0 6 ∧ M 0 6 ≤ 696
def R7_four (v : Int) (M : Mm) (M1 : Mm) : Prop := keepT M M1 ∧ M1 0 6 = M 0 6 + 4 ∧ M1 5 = putP (M 5) (M 0 6).toNat v 4
def sp7_four : Spec := spV true [0] (fun x M => P7_four (x 0) M) (fun x M M1 => R7_four (x 0) M M1)
theorem c7_four {v : Int} {M : Mm} {Q : Option AV → Mm → Prop} : sp7_four [ar 0, ai v] M Q = (P7_four v M ∧ ∀ (M1 : Mm), R7_four v M M1 → Q none M1) := rfl
def cs7_four : List (Nat × Nat × Nat × Spec) := []
def J7_four_3 (v : Int) (M : Mm) (m : Nat) (v_ : Int) (k : Int) (M1 : Mm) : Prop := v = v_ ∧ ∃ a : Nat, k = 24 - 8 * (a : Int) ∧ a ≤ 4 ∧ keepT M M1 ∧ M1 0 6 = M 0 6 + a ∧ M1 5 = putP (M 5) (M 0 6).toNat v a ∧ m = 4 - a
set_option maxHeartbeats 4000000 in
set_option maxRecDepth 100000 in
theorem in7_four {v : Int} {M : Mm} {Q : Option AV → Mm → Prop} (hM : okM sh7 M) (h_v : i32 v) (hP : P7_four v M) (hQ : ∀ (M1 : Mm), R7_four v M M1 → Q none M1) (I_3 : List AV → Mm → Prop) (hI_3 : ∀ (m_ : Nat) (y_v_ : Int) (y_k : Int) (M2 : Mm), J7_four_3 v M m_ y_v_ y_k M2 → I_3 [ar 0, ai y_v_, ai y_k] M2) : wp (tb7 (csL cs7_four)) sh7 3 0 cX7_four [(3, [0, 1, 2], I_3)] Q 400 0 [(0, ar 0), (1, ai v)] [] M := by
  simp only [e_wp dX7_four_0 rfl, e_wp dX7_four_2 rfl, e_wp dX7_four_3 rfl, e_wp dX7_four_4 rfl, e_wp dX7_four_7 rfl, e_wp dX7_four_8 rfl, e_wp dX7_four_11 rfl, e_wp dX7_four_12 rfl, e_wp dX7_four_15 rfl, e_wp dX7_four_16 rfl, e_wp dX7_four_17 rfl, e_wp dX7_four_18 rfl, e_wp dX7_four_19 rfl, e_wp dX7_four_20 rfl, e_wp dX7_four_21 rfl, e_wp dX7_four_22 rfl, e_wp dX7_four_25 rfl, e_wp dX7_four_26 rfl, e_wp dX7_four_27 rfl, e_wp dX7_four_30 rfl, e_wp dX7_four_33 rfl, e_wp dX7_four_36 rfl, g7_23, g7_133, p7_133, a7_1, w7_1, a7_2, w7_2, a7_3, w7_3, a7_4, w7_4, a7_5, w7_5, a7_6, w7_6, a7_7, w7_7, a7_8, w7_8, a7_9, w7_9, a7_10, w7_10, a7_11, w7_11, a7_12, w7_12, a7_13, w7_13, a7_14, w7_14, a7_15, w7_15, a7_16, w7_16, a7_17, w7_17, a7_18, w7_18, a7_19, w7_19, a7_20, w7_20, a7_21, w7_21, a7_22, w7_22, a7_23, w7_23, a7_24, w7_24, a7_25, w7_25, a7_26, w7_26, a7_27, w7_27, a7_28, w7_28, a7_29, w7_29, a7_30, w7_30, a7_31, w7_31, a7_32, w7_32, a7_33, w7_33, e_iconst, e_bipush, e_sipush, e_lconst_0, e_lconst_1, e_iload, e_iload_0, e_iload_1, e_iload_2, e_iload_3, e_lload, e_lload_0, e_lload_1, e_lload_2, e_lload_3, e_aload, e_aload_0, e_aload_1, e_aload_2, e_aload_3, e_istore, e_istore_0, e_istore_1, e_istore_2, e_istore_3, e_astore, e_astore_0, e_astore_1, e_astore_2, e_astore_3, e_lstore, e_lstore_0, e_lstore_1, e_lstore_2, e_lstore_3, e_iinc, e_iadd, e_isub, e_imul, e_ladd, e_lsub, e_lmul, e_idiv, e_irem, e_ldiv, e_lrem, e_ineg, e_lneg, e_iand, e_ior, e_ixor, e_ishl, e_ishr, e_iushr, e_lcmp, e_i2l, e_l2i, e_i2b, e_i2s, e_dup_i, e_dup_r, e_pop_i, e_pop_r, e_dup2_l, e_dup2_ir, e_dup2_ii, e_ifeq, e_ifne, e_iflt, e_ifge, e_ifgt, e_ifle, e_iceq, e_icne, e_iclt, e_icge, e_icgt, e_icle, e_goto, e_switch, e_invokevirtual, e_invokestatic, e_invokespecial, e_ret0, e_ret1, e_ret2, e_ret3, ldI_s, ldL_s, ldR_s, clO_s, ctP_s, ctS_s, mgo_0, mgo_s, pjc_s, pj_0, pj_s, lk_s, rm1_0, rm1_i, rm1_r, rm1_l, rm2_0, rm2_i, rm2_r, rm2_l, csL_s, lc_lt, lc_ge, lc_gt, lc_le, lc_eq, b01_0, b01_1, b01_01, b01_n, up2_o, up2_s, up2_u, ne_eq, reduceCtorEq, Nat.reduceAdd, Nat.reduceEqDiff, Nat.reduceLT, Nat.reduceLeDiff, Int.reduceLE, Int.reduceLT, Int.reduceAdd, Int.reduceNeg, Int.reduceMul, Int.reduceSub, Int.reduceEq, Int.reduceToNat, Int.reduceNatCast, Int.cast_ofNat_Int, ↓reduceIte, and_self, List.drop_succ_cons, List.drop_zero, List.take_succ_cons, List.take_zero, List.length_cons, List.length_nil, List.reverse_cons, List.reverse_nil, List.nil_append, List.cons_append, Option.toList, true_and, and_true, or_false, false_or, or_true, true_or, forall_const, Classical.not_not, not_false_eq_true, not_true_eq_false, false_implies, true_implies, implies_true, imp_self]
  refine hI_3 (4 - 0) _ _ _ ⟨rfl, 0, by omega, by omega, ⟨frm_rf, fun _ _ _ => rfl⟩, by omega, ?_, rfl⟩
  funext j
  show _ = if _ then _ else _
  rw [if_neg (by omega)]
set_option maxHeartbeats 4000000 in
set_option maxRecDepth 100000 in
theorem at7_four_3 {v : Int} {M : Mm} {Q : Option AV → Mm → Prop} (hM : okM sh7 M) (h_v : i32 v) (hP : P7_four v M) (hQ : ∀ (M1 : Mm), R7_four v M M1 → Q none M1) {m : Nat} {v_ k : Int} {M1 : Mm} (hM1 : okM sh7 M1) (h_v_ : i32 v_) (h_k : i32 k) (hJ : J7_four_3 v M m v_ k M1) (I_3 : List AV → Mm → Prop) (hI_3 : ∀ (m_ : Nat) (y_v_ : Int) (y_k : Int) (M2 : Mm), m_ < m → J7_four_3 v M m_ y_v_ y_k M2 → I_3 [ar 0, ai y_v_, ai y_k] M2) : wp (tb7 (csL cs7_four)) sh7 3 0 cX7_four [(3, [0, 1, 2], I_3)] Q 400 3 [(0, ar 0), (1, ai v_), (2, ai k)] [] M1 := by
  obtain ⟨rfl, a, rfl, ha, hk, ht, hf, rfl⟩ := hJ
  have hP' : 0 ≤ M 0 6 ∧ M 0 6 ≤ 696 := hP
  simp only [e_wp dX7_four_0 rfl, e_wp dX7_four_2 rfl, e_wp dX7_four_3 rfl, e_wp dX7_four_4 rfl, e_wp dX7_four_7 rfl, e_wp dX7_four_8 rfl, e_wp dX7_four_11 rfl, e_wp dX7_four_12 rfl, e_wp dX7_four_15 rfl, e_wp dX7_four_16 rfl, e_wp dX7_four_17 rfl, e_wp dX7_four_18 rfl, e_wp dX7_four_19 rfl, e_wp dX7_four_20 rfl, e_wp dX7_four_21 rfl, e_wp dX7_four_22 rfl, e_wp dX7_four_25 rfl, e_wp dX7_four_26 rfl, e_wp dX7_four_27 rfl, e_wp dX7_four_30 rfl, e_wp dX7_four_33 rfl, e_wp dX7_four_36 rfl, g7_23, g7_133, p7_133, a7_1, w7_1, a7_2, w7_2, a7_3, w7_3, a7_4, w7_4, a7_5, w7_5, a7_6, w7_6, a7_7, w7_7, a7_8, w7_8, a7_9, w7_9, a7_10, w7_10, a7_11, w7_11, a7_12, w7_12, a7_13, w7_13, a7_14, w7_14, a7_15, w7_15, a7_16, w7_16, a7_17, w7_17, a7_18, w7_18, a7_19, w7_19, a7_20, w7_20, a7_21, w7_21, a7_22, w7_22, a7_23, w7_23, a7_24, w7_24, a7_25, w7_25, a7_26, w7_26, a7_27, w7_27, a7_28, w7_28, a7_29, w7_29, a7_30, w7_30, a7_31, w7_31, a7_32, w7_32, a7_33, w7_33, e_iconst, e_bipush, e_sipush, e_lconst_0, e_lconst_1, e_iload, e_iload_0, e_iload_1, e_iload_2, e_iload_3, e_lload, e_lload_0, e_lload_1, e_lload_2, e_lload_3, e_aload, e_aload_0, e_aload_1, e_aload_2, e_aload_3, e_istore, e_istore_0, e_istore_1, e_istore_2, e_istore_3, e_astore, e_astore_0, e_astore_1, e_astore_2, e_astore_3, e_lstore, e_lstore_0, e_lstore_1, e_lstore_2, e_lstore_3, e_iinc, e_iadd, e_isub, e_imul, e_ladd, e_lsub, e_lmul, e_idiv, e_irem, e_ldiv, e_lrem, e_ineg, e_lneg, e_iand, e_ior, e_ixor, e_ishl, e_ishr, e_iushr, e_lcmp, e_i2l, e_l2i, e_i2b, e_i2s, e_dup_i, e_dup_r, e_pop_i, e_pop_r, e_dup2_l, e_dup2_ir, e_dup2_ii, e_ifeq, e_ifne, e_iflt, e_ifge, e_ifgt, e_ifle, e_iceq, e_icne, e_iclt, e_icge, e_icgt, e_icle, e_goto, e_switch, e_invokevirtual, e_invokestatic, e_invokespecial, e_ret0, e_ret1, e_ret2, e_ret3, ldI_s, ldL_s, ldR_s, clO_s, ctP_s, ctS_s, mgo_0, mgo_s, pjc_s, pj_0, pj_s, lk_s, rm1_0, rm1_i, rm1_r, rm1_l, rm2_0, rm2_i, rm2_r, rm2_l, csL_s, lc_lt, lc_ge, lc_gt, lc_le, lc_eq, b01_0, b01_1, b01_01, b01_n, up2_o, up2_s, up2_u, ne_eq, reduceCtorEq, Nat.reduceAdd, Nat.reduceEqDiff, Nat.reduceLT, Nat.reduceLeDiff, Int.reduceLE, Int.reduceLT, Int.reduceAdd, Int.reduceNeg, Int.reduceMul, Int.reduceSub, Int.reduceEq, Int.reduceToNat, Int.reduceNatCast, Int.cast_ofNat_Int, ↓reduceIte, and_self, List.drop_succ_cons, List.drop_zero, List.take_succ_cons, List.take_zero, List.length_cons, List.length_nil, List.reverse_cons, List.reverse_nil, List.nil_append, List.cons_append, Option.toList, true_and, and_true, or_false, false_or, or_true, true_or, forall_const, Classical.not_not, not_false_eq_true, not_true_eq_false, false_implies, true_implies, implies_true, imp_self, ht]
  refine ⟨fun q => ?_, fun q => ?_⟩
  · have : a = 4 := by omega
    subst this
    exact hQ _ ⟨hk, ht, hf⟩
  · have hb := n_b1 (bshr v (24 - 8 * (a : Int)))
    repeat (refine And.intro (by omega) ?_)
    refine hI_3 (4 - (a + 1)) _ _ _ (by omega) ⟨rfl, a + 1, by omega, by omega, ⟨frm_up (frm_up hk.1 (by decide)) (by decide), fun j h1 h2 => ?_⟩, ?_, ?_, rfl⟩
    · rw [up2_n h2, up2_o (by decide)]; exact hk.2 j h1 h2
    · rw [up2_s]; omega
    · funext j
      have e5 : ∀ x y z, up2 (up2 M1 5 x y) 0 6 z 5 j = up2 M1 5 x y 5 j := fun x y z => up2_o (by decide)
      rw [e5]
      by_cases e : j = (M 0 6 + (a : Int)).toNat
      · rw [← e, up2_s]
        show _ = if _ then _ else _
        rw [if_pos (by omega)]
        unfold byteP
        rw [show (((j - (M 0 6).toNat : Nat)) : Int) = a by omega]
      · rw [up2_n e, hf]
        show (if _ then _ else _) = (if _ then _ else _)
        by_cases z : (M 0 6).toNat ≤ j ∧ j < (M 0 6).toNat + a
        · rw [if_pos z, if_pos (by omega)]
        · rw [if_neg z, if_neg (by omega)]
set_option maxHeartbeats 4000000 in
set_option maxRecDepth 100000 in
theorem m7_four : MOK cl7 sh7 tyl7 [] 0 yX7_four cX7_four 3 none sp7_four := by
  refine mok_of (own := RX7) (tb := tb7 (csL cs7_four)) (rt := 0) (fuel := 400) (fun avs M Q => [(3, [0, 1, 2], fun m_ vs M1 => ∃ y_v_ : Int, ∃ y_k : Int, vs = [ar 0, ai y_v_, ai y_k] ∧ J7_four_3 (pa true [0] avs 0) M m_ y_v_ y_k M1)]) (by decide) rfl nil_nw (tbOK7 _) rfl (csL_all ?_) ?_ ?_ ?_
  · intro q hq; cases hq
  · intro avs M Q hsp
    obtain ⟨xs, hx⟩ := spV_un _ _ _ hsp
    obtain ⟨e, hl⟩ := unA_mkT hx
    obtain ⟨v, rfl⟩ := len1 hl
    have e : avs = [ar 0, ai v] := e
    subst e
    simp [szL, isL]
  · intro avs M Q hM hav hsp
    obtain ⟨xs, hx⟩ := spV_un _ _ _ hsp
    obtain ⟨e, hl⟩ := unA_mkT hx
    obtain ⟨v, rfl⟩ := len1 hl
    have e : avs = [ar 0, ai v] := e
    subst e
    exact in7_four hM (hav (ai v) (by simp)) hsp.1 hsp.2 _ (fun m_ y_v_ y_k M2 hJ => ⟨m_, y_v_, y_k, rfl, hJ⟩)
  · intro avs M Q hM hav hsp q hq m_ vs M1 hM1 hv hJ
    obtain ⟨xs, hx⟩ := spV_un _ _ _ hsp
    obtain ⟨e, hl⟩ := unA_mkT hx
    obtain ⟨v, rfl⟩ := len1 hl
    have e : avs = [ar 0, ai v] := e
    subst e
    simp only [List.mem_cons, List.not_mem_nil, or_false] at hq
    rcases hq with rfl
    · obtain ⟨y_v_, y_k, rfl, hJ⟩ := hJ
      exact at7_four_3 hM (hav (ai v) (by simp)) hsp.1 hsp.2 hM1 (hv (1, ai y_v_) (List.mem_of_getElem? (i := 1) rfl)) (hv (2, ai y_k) (List.mem_of_getElem? (i := 2) rfl)) hJ _ (fun m2 z_v_ z_k M2 hm hJ2 => ⟨m2, hm, z_v_, z_k, rfl, hJ2⟩)
theorem cg7_four {lvl : Nat} (h : 0 < lvl) : CG RX7 cl7 sh7 tyl7 [] lvl 1 136 2 sp7_four := cg_V (sg := [0]) nil_nw spV_mono spV_un m7_four h rfl (by decide) rfl rfl ⟨rfl, by decide, by decide, rfl⟩ q1685 q1687 qs60 q138 q1688
def A_feed (t : Int) : Int := if 680 < t then -1 else t + 20
def P7_feed (a : Int) (b : Int) (c : Int) (d : Int) (f : Int) (M : Mm) : Prop := 0 ≤ M 0 6 ∧ M 0 6 ≤ 700
def R7_feed (a : Int) (b : Int) (c : Int) (d : Int) (f : Int) (M : Mm) (v : Int) (M1 : Mm) : Prop := keepT M M1 ∧ v = A_feed (M 0 6) ∧ (680 < M 0 6 → M1 0 6 = M 0 6 ∧ M1 5 = M 5) ∧ (¬ 680 < M 0 6 → M1 0 6 = M 0 6 + 20 ∧ M1 5 = fedP (M 5) (M 0 6).toNat [a, b, c, d, f])
def sp7_feed : Spec := spR true [0, 0, 0, 0, 0] 1 (fun x M => P7_feed (x 0) (x 1) (x 2) (x 3) (x 4) M) (fun x M v M1 => R7_feed (x 0) (x 1) (x 2) (x 3) (x 4) M v M1)
theorem c7_feed {a b c d f : Int} {M : Mm} {Q : Option AV → Mm → Prop} : sp7_feed [ar 0, ai a, ai b, ai c, ai d, ai f] M Q = (P7_feed a b c d f M ∧ ∀ (v : Int) (M1 : Mm), R7_feed a b c d f M v M1 → Q (some (ai v)) M1) := rfl
def cs7_feed : List (Nat × Nat × Nat × Spec) := [(136, 1, 2, sp7_four)]
set_option maxHeartbeats 4000000 in
set_option maxRecDepth 100000 in
theorem in7_feed {a b c d f : Int} {M : Mm} {Q : Option AV → Mm → Prop} (hM : okM sh7 M) (h_a : i32 a) (h_b : i32 b) (h_c : i32 c) (h_d : i32 d) (h_f : i32 f) (hP : P7_feed a b c d f M) (hQ : ∀ (v : Int) (M1 : Mm), R7_feed a b c d f M v M1 → Q (some (ai v)) M1) : wp (tb7 (csL cs7_feed)) sh7 6 1 cX7_feed [] Q 400 0 [(0, ar 0), (1, ai a), (2, ai b), (3, ai c), (4, ai d), (5, ai f)] [] M := by
  have hk0 : keepT M (up2 M 0 0 0) := ⟨frm_up frm_rf (by decide), fun j h _ => up2_n h⟩
  have e6 : up2 M 0 0 0 0 6 = M 0 6 := up2_n (by decide)
  have hP' : 0 ≤ M 0 6 ∧ M 0 6 ≤ 700 := hP
  simp only [e_wp dX7_feed_0 rfl, e_wp dX7_feed_1 rfl, e_wp dX7_feed_2 rfl, e_wp dX7_feed_5 rfl, e_wp dX7_feed_6 rfl, e_wp dX7_feed_9 rfl, e_wp dX7_feed_11 rfl, e_wp dX7_feed_12 rfl, e_wp dX7_feed_15 rfl, e_wp dX7_feed_18 rfl, e_wp dX7_feed_19 rfl, e_wp dX7_feed_20 rfl, e_wp dX7_feed_21 rfl, e_wp dX7_feed_22 rfl, e_wp dX7_feed_25 rfl, e_wp dX7_feed_26 rfl, e_wp dX7_feed_27 rfl, e_wp dX7_feed_30 rfl, e_wp dX7_feed_31 rfl, e_wp dX7_feed_32 rfl, e_wp dX7_feed_35 rfl, e_wp dX7_feed_36 rfl, e_wp dX7_feed_38 rfl, e_wp dX7_feed_41 rfl, e_wp dX7_feed_42 rfl, e_wp dX7_feed_44 rfl, e_wp dX7_feed_47 rfl, e_wp dX7_feed_48 rfl, e_wp dX7_feed_51 rfl, p7_116, g7_133, c7_four, cs7_feed, e_iconst, e_bipush, e_sipush, e_lconst_0, e_lconst_1, e_iload, e_iload_0, e_iload_1, e_iload_2, e_iload_3, e_lload, e_lload_0, e_lload_1, e_lload_2, e_lload_3, e_aload, e_aload_0, e_aload_1, e_aload_2, e_aload_3, e_istore, e_istore_0, e_istore_1, e_istore_2, e_istore_3, e_astore, e_astore_0, e_astore_1, e_astore_2, e_astore_3, e_lstore, e_lstore_0, e_lstore_1, e_lstore_2, e_lstore_3, e_iinc, e_iadd, e_isub, e_imul, e_ladd, e_lsub, e_lmul, e_idiv, e_irem, e_ldiv, e_lrem, e_ineg, e_lneg, e_iand, e_ior, e_ixor, e_ishl, e_ishr, e_iushr, e_lcmp, e_i2l, e_l2i, e_i2b, e_i2s, e_dup_i, e_dup_r, e_pop_i, e_pop_r, e_dup2_l, e_dup2_ir, e_dup2_ii, e_ifeq, e_ifne, e_iflt, e_ifge, e_ifgt, e_ifle, e_iceq, e_icne, e_iclt, e_icge, e_icgt, e_icle, e_goto, e_switch, e_invokevirtual, e_invokestatic, e_invokespecial, e_ret0, e_ret1, e_ret2, e_ret3, ldI_s, ldL_s, ldR_s, clO_s, ctP_s, ctS_s, mgo_0, mgo_s, pjc_s, pj_0, pj_s, lk_s, rm1_0, rm1_i, rm1_r, rm1_l, rm2_0, rm2_i, rm2_r, rm2_l, csL_s, lc_lt, lc_ge, lc_gt, lc_le, lc_eq, b01_0, b01_1, b01_01, b01_n, up2_o, up2_s, up2_u, ne_eq, reduceCtorEq, Nat.reduceAdd, Nat.reduceEqDiff, Nat.reduceLT, Nat.reduceLeDiff, Int.reduceLE, Int.reduceLT, Int.reduceAdd, Int.reduceNeg, Int.reduceMul, Int.reduceSub, Int.reduceEq, Int.reduceToNat, Int.reduceNatCast, Int.cast_ofNat_Int, ↓reduceIte, and_self, List.drop_succ_cons, List.drop_zero, List.take_succ_cons, List.take_zero, List.length_cons, List.length_nil, List.reverse_cons, List.reverse_nil, List.nil_append, List.cons_append, Option.toList, true_and, and_true, or_false, false_or, or_true, true_or, forall_const, Classical.not_not, not_false_eq_true, not_true_eq_false, false_implies, true_implies, implies_true, imp_self]
  rw [e6]
  refine ⟨by omega, fun q => ?_, fun q => ?_⟩
  · refine ⟨⟨by rw [e6]; omega, by rw [e6]; omega⟩, fun M1 R1 => ?_⟩
    obtain ⟨k1, t1, f1⟩ := R1
    rw [e6] at t1 f1
    refine ⟨⟨by omega, by omega⟩, fun M2 R2 => ?_⟩
    obtain ⟨k2, t2, f2⟩ := R2
    refine ⟨⟨by omega, by omega⟩, fun M3 R3 => ?_⟩
    obtain ⟨k3, t3, f3⟩ := R3
    refine ⟨⟨by omega, by omega⟩, fun M4 R4 => ?_⟩
    obtain ⟨k4, t4, f4⟩ := R4
    refine ⟨⟨by omega, by omega⟩, fun M5 R5 => ?_⟩
    obtain ⟨k5, t5, f5⟩ := R5
    have ht : M5 0 6 = M 0 6 + 20 := by omega
    refine hQ _ _ ⟨keepT_tr hk0 (keepT_tr k1 (keepT_tr k2 (keepT_tr k3 (keepT_tr k4 k5)))), ?_, fun z => absurd z (by omega), fun _ => ⟨ht, ?_⟩⟩
    · rw [ht]; exact (if_neg (by omega)).symm
    · rw [f5, f4, f3, f2, f1, t4, t3, t2, t1]
      show _ = putP (putP (putP (putP (putP (M 5) (M 0 6).toNat a 4) ((M 0 6).toNat + 4) b 4) ((M 0 6).toNat + 4 + 4) c 4) ((M 0 6).toNat + 4 + 4 + 4) d 4) ((M 0 6).toNat + 4 + 4 + 4 + 4) f 4
      have i1 : (M 0 6 + 4).toNat = (M 0 6).toNat + 4 := by omega
      have i2 : (M 0 6 + 4 + 4).toNat = (M 0 6).toNat + 4 + 4 := by omega
      have i3 : (M 0 6 + 4 + 4 + 4).toNat = (M 0 6).toNat + 4 + 4 + 4 := by omega
      have i4 : (M 0 6 + 4 + 4 + 4 + 4).toNat = (M 0 6).toNat + 4 + 4 + 4 + 4 := by omega
      rw [i1, i2, i3, i4]
      rfl
  · exact hQ _ _ ⟨hk0, (if_pos (by omega)).symm, fun _ => ⟨e6, rfl⟩, fun z => absurd z (by omega)⟩
set_option maxHeartbeats 4000000 in
set_option maxRecDepth 100000 in
theorem m7_feed : MOK cl7 sh7 tyl7 [] 1 yX7_feed cX7_feed 6 (some .int) sp7_feed := by
  refine mok_of (own := RX7) (tb := tb7 (csL cs7_feed)) (rt := 1) (fuel := 400) (fun avs M Q => []) (by decide) rfl nil_nw (tbOK7 _) rfl (csL_all ?_) ?_ ?_ ?_
  · intro q hq
    simp only [cs7_feed, List.mem_cons, List.not_mem_nil, or_false] at hq
    rcases hq with rfl
    · exact cg7_four (by decide)
  · intro avs M Q hsp
    obtain ⟨xs, hx⟩ := spR_un _ _ _ hsp
    obtain ⟨e, hl⟩ := unA_mkT hx
    obtain ⟨a, b, c, d, f, rfl⟩ := len5 hl
    have e : avs = [ar 0, ai a, ai b, ai c, ai d, ai f] := e
    subst e
    simp [szL, isL]
  · intro avs M Q hM hav hsp
    obtain ⟨xs, hx⟩ := spR_un _ _ _ hsp
    obtain ⟨e, hl⟩ := unA_mkT hx
    obtain ⟨a, b, c, d, f, rfl⟩ := len5 hl
    have e : avs = [ar 0, ai a, ai b, ai c, ai d, ai f] := e
    subst e
    exact in7_feed hM (hav (ai a) (by simp)) (hav (ai b) (by simp)) (hav (ai c) (by simp)) (hav (ai d) (by simp)) (hav (ai f) (by simp)) hsp.1 hsp.2
  · intro avs M Q hM hav hsp q hq m_ vs M1 hM1 hv hJ
    obtain ⟨xs, hx⟩ := spR_un _ _ _ hsp
    obtain ⟨e, hl⟩ := unA_mkT hx
    obtain ⟨a, b, c, d, f, rfl⟩ := len5 hl
    have e : avs = [ar 0, ai a, ai b, ai c, ai d, ai f] := e
    subst e
    cases hq
def A_end (t n : Int) : Int := if 0 ≤ n ∧ n ≤ t then n else -1
def P7_end (n : Int) (M : Mm) : Prop := True
def R7_end (n : Int) (M : Mm) (v : Int) (M1 : Mm) : Prop := keepT M M1 ∧ v = A_end (M 0 6) n ∧ M1 5 = M 5 ∧ M1 0 6 = (if 0 ≤ n ∧ n ≤ M 0 6 then n else M 0 6)
def sp7_end : Spec := spR true [0] 1 (fun x M => P7_end (x 0) M) (fun x M v M1 => R7_end (x 0) M v M1)
theorem c7_end {n : Int} {M : Mm} {Q : Option AV → Mm → Prop} : sp7_end [ar 0, ai n] M Q = (P7_end n M ∧ ∀ (v : Int) (M1 : Mm), R7_end n M v M1 → Q (some (ai v)) M1) := rfl
def cs7_end : List (Nat × Nat × Nat × Spec) := [(121, 0, 3, sp7_in)]
set_option maxHeartbeats 4000000 in
set_option maxRecDepth 100000 in
theorem in7_end {n : Int} {M : Mm} {Q : Option AV → Mm → Prop} (hM : okM sh7 M) (h_n : i32 n) (hP : P7_end n M) (hQ : ∀ (v : Int) (M1 : Mm), R7_end n M v M1 → Q (some (ai v)) M1) : wp (tb7 (csL cs7_end)) sh7 2 1 cX7_end [] Q 400 0 [(0, ar 0), (1, ai n)] [] M := by
  have hk0 : keepT M (up2 M 0 0 0) := ⟨frm_up frm_rf (by decide), fun j h _ => up2_n h⟩
  have e6 : up2 M 0 0 0 0 6 = M 0 6 := up2_n (by decide)
  simp only [e_wp dX7_end_0 rfl, e_wp dX7_end_1 rfl, e_wp dX7_end_2 rfl, e_wp dX7_end_5 rfl, e_wp dX7_end_6 rfl, e_wp dX7_end_7 rfl, e_wp dX7_end_8 rfl, e_wp dX7_end_9 rfl, e_wp dX7_end_12 rfl, e_wp dX7_end_13 rfl, e_wp dX7_end_16 rfl, e_wp dX7_end_19 rfl, e_wp dX7_end_20 rfl, e_wp dX7_end_21 rfl, e_wp dX7_end_22 rfl, e_wp dX7_end_23 rfl, e_wp dX7_end_26 rfl, e_wp dX7_end_27 rfl, p7_116, g7_133, c7_in, P7_in, V7_in, cs7_end, p7_133, e_iconst, e_bipush, e_sipush, e_lconst_0, e_lconst_1, e_iload, e_iload_0, e_iload_1, e_iload_2, e_iload_3, e_lload, e_lload_0, e_lload_1, e_lload_2, e_lload_3, e_aload, e_aload_0, e_aload_1, e_aload_2, e_aload_3, e_istore, e_istore_0, e_istore_1, e_istore_2, e_istore_3, e_astore, e_astore_0, e_astore_1, e_astore_2, e_astore_3, e_lstore, e_lstore_0, e_lstore_1, e_lstore_2, e_lstore_3, e_iinc, e_iadd, e_isub, e_imul, e_ladd, e_lsub, e_lmul, e_idiv, e_irem, e_ldiv, e_lrem, e_ineg, e_lneg, e_iand, e_ior, e_ixor, e_ishl, e_ishr, e_iushr, e_lcmp, e_i2l, e_l2i, e_i2b, e_i2s, e_dup_i, e_dup_r, e_pop_i, e_pop_r, e_dup2_l, e_dup2_ir, e_dup2_ii, e_ifeq, e_ifne, e_iflt, e_ifge, e_ifgt, e_ifle, e_iceq, e_icne, e_iclt, e_icge, e_icgt, e_icle, e_goto, e_switch, e_invokevirtual, e_invokestatic, e_invokespecial, e_ret0, e_ret1, e_ret2, e_ret3, ldI_s, ldL_s, ldR_s, clO_s, ctP_s, ctS_s, mgo_0, mgo_s, pjc_s, pj_0, pj_s, lk_s, rm1_0, rm1_i, rm1_r, rm1_l, rm2_0, rm2_i, rm2_r, rm2_l, csL_s, lc_lt, lc_ge, lc_gt, lc_le, lc_eq, b01_0, b01_1, b01_01, b01_n, up2_o, up2_s, up2_u, ne_eq, reduceCtorEq, Nat.reduceAdd, Nat.reduceEqDiff, Nat.reduceLT, Nat.reduceLeDiff, Int.reduceLE, Int.reduceLT, Int.reduceAdd, Int.reduceNeg, Int.reduceMul, Int.reduceSub, Int.reduceEq, Int.reduceToNat, Int.reduceNatCast, Int.cast_ofNat_Int, ↓reduceIte, and_self, List.drop_succ_cons, List.drop_zero, List.take_succ_cons, List.take_zero, List.length_cons, List.length_nil, List.reverse_cons, List.reverse_nil, List.nil_append, List.cons_append, Option.toList, true_and, and_true, or_false, false_or, or_true, true_or, forall_const, Classical.not_not, not_false_eq_true, not_true_eq_false, false_implies, true_implies, implies_true, imp_self]
  rw [e6]
  refine ⟨fun q => hQ _ _ ⟨⟨frm_up hk0.1 (by decide), fun j h1 h2 => ?_⟩, (if_pos q).symm, rfl, ?_⟩, fun q => hQ _ _ ⟨hk0, (if_neg q).symm, rfl, ?_⟩⟩
  · rw [up2_n h2]; exact hk0.2 j h1 h2
  · rw [if_pos q, up2_s]
  · rw [if_neg q]; exact e6
set_option maxHeartbeats 4000000 in
set_option maxRecDepth 100000 in
theorem m7_end : MOK cl7 sh7 tyl7 [] 1 yX7_end cX7_end 2 (some .int) sp7_end := by
  refine mok_of (own := RX7) (tb := tb7 (csL cs7_end)) (rt := 1) (fuel := 400) (fun avs M Q => []) (by decide) rfl nil_nw (tbOK7 _) rfl (csL_all ?_) ?_ ?_ ?_
  · intro q hq
    simp only [cs7_end, List.mem_cons, List.not_mem_nil, or_false] at hq
    rcases hq with rfl
    · exact cg7_in (by decide)
  · intro avs M Q hsp
    obtain ⟨xs, hx⟩ := spR_un _ _ _ hsp
    obtain ⟨e, hl⟩ := unA_mkT hx
    obtain ⟨n, rfl⟩ := len1 hl
    have e : avs = [ar 0, ai n] := e
    subst e
    simp [szL, isL]
  · intro avs M Q hM hav hsp
    obtain ⟨xs, hx⟩ := spR_un _ _ _ hsp
    obtain ⟨e, hl⟩ := unA_mkT hx
    obtain ⟨n, rfl⟩ := len1 hl
    have e : avs = [ar 0, ai n] := e
    subst e
    exact in7_end hM (hav (ai n) (by simp)) hsp.1 hsp.2
  · intro avs M Q hM hav hsp q hq m_ vs M1 hM1 hv hJ
    obtain ⟨xs, hx⟩ := spR_un _ _ _ hsp
    obtain ⟨e, hl⟩ := unA_mkT hx
    obtain ⟨n, rfl⟩ := len1 hl
    have e : avs = [ar 0, ai n] := e
    subst e
    cases hq
def A_fault (f p w : Int) : Int := if w = 0 then f else if w = 1 then p else -1
def P7_fault (w : Int) (M : Mm) : Prop := True
def R7_fault (w : Int) (M : Mm) (v : Int) (M1 : Mm) : Prop := keepM M M1 ∧ v = A_fault (M 0 14) (M 0 15) w
def sp7_fault : Spec := spR true [0] 1 (fun x M => P7_fault (x 0) M) (fun x M v M1 => R7_fault (x 0) M v M1)
theorem c7_fault {w : Int} {M : Mm} {Q : Option AV → Mm → Prop} : sp7_fault [ar 0, ai w] M Q = (P7_fault w M ∧ ∀ (v : Int) (M1 : Mm), R7_fault w M v M1 → Q (some (ai v)) M1) := rfl
def cs7_fault : List (Nat × Nat × Nat × Spec) := []
set_option maxHeartbeats 4000000 in
set_option maxRecDepth 100000 in
theorem in7_fault {w : Int} {M : Mm} {Q : Option AV → Mm → Prop} (hM : okM sh7 M) (h_w : i32 w) (hP : P7_fault w M) (hQ : ∀ (v : Int) (M1 : Mm), R7_fault w M v M1 → Q (some (ai v)) M1) : wp (tb7 (csL cs7_fault)) sh7 2 1 cX7_fault [] Q 400 0 [(0, ar 0), (1, ai w)] [] M := by
  have hk0 : keepM M (up2 M 0 0 0) := keep_u0 keep_rf (by decide)
  have e14 : up2 M 0 0 0 0 14 = M 0 14 := up2_n (by decide)
  have e15 : up2 M 0 0 0 0 15 = M 0 15 := up2_n (by decide)
  simp only [e_wp dX7_fault_0 rfl, e_wp dX7_fault_1 rfl, e_wp dX7_fault_2 rfl, e_wp dX7_fault_5 rfl, e_wp dX7_fault_6 rfl, e_wp dX7_fault_9 rfl, e_wp dX7_fault_10 rfl, e_wp dX7_fault_13 rfl, e_wp dX7_fault_16 rfl, e_wp dX7_fault_17 rfl, e_wp dX7_fault_18 rfl, e_wp dX7_fault_21 rfl, e_wp dX7_fault_22 rfl, e_wp dX7_fault_25 rfl, e_wp dX7_fault_28 rfl, e_wp dX7_fault_29 rfl, p7_116, g7_195, g7_27, e_iconst, e_bipush, e_sipush, e_lconst_0, e_lconst_1, e_iload, e_iload_0, e_iload_1, e_iload_2, e_iload_3, e_lload, e_lload_0, e_lload_1, e_lload_2, e_lload_3, e_aload, e_aload_0, e_aload_1, e_aload_2, e_aload_3, e_istore, e_istore_0, e_istore_1, e_istore_2, e_istore_3, e_astore, e_astore_0, e_astore_1, e_astore_2, e_astore_3, e_lstore, e_lstore_0, e_lstore_1, e_lstore_2, e_lstore_3, e_iinc, e_iadd, e_isub, e_imul, e_ladd, e_lsub, e_lmul, e_idiv, e_irem, e_ldiv, e_lrem, e_ineg, e_lneg, e_iand, e_ior, e_ixor, e_ishl, e_ishr, e_iushr, e_lcmp, e_i2l, e_l2i, e_i2b, e_i2s, e_dup_i, e_dup_r, e_pop_i, e_pop_r, e_dup2_l, e_dup2_ir, e_dup2_ii, e_ifeq, e_ifne, e_iflt, e_ifge, e_ifgt, e_ifle, e_iceq, e_icne, e_iclt, e_icge, e_icgt, e_icle, e_goto, e_switch, e_invokevirtual, e_invokestatic, e_invokespecial, e_ret0, e_ret1, e_ret2, e_ret3, ldI_s, ldL_s, ldR_s, clO_s, ctP_s, ctS_s, mgo_0, mgo_s, pjc_s, pj_0, pj_s, lk_s, rm1_0, rm1_i, rm1_r, rm1_l, rm2_0, rm2_i, rm2_r, rm2_l, csL_s, lc_lt, lc_ge, lc_gt, lc_le, lc_eq, b01_0, b01_1, b01_01, b01_n, up2_o, up2_s, up2_u, ne_eq, reduceCtorEq, Nat.reduceAdd, Nat.reduceEqDiff, Nat.reduceLT, Nat.reduceLeDiff, Int.reduceLE, Int.reduceLT, Int.reduceAdd, Int.reduceNeg, Int.reduceMul, Int.reduceSub, Int.reduceEq, Int.reduceToNat, Int.reduceNatCast, Int.cast_ofNat_Int, ↓reduceIte, and_self, List.drop_succ_cons, List.drop_zero, List.take_succ_cons, List.take_zero, List.length_cons, List.length_nil, List.reverse_cons, List.reverse_nil, List.nil_append, List.cons_append, Option.toList, true_and, and_true, or_false, false_or, or_true, true_or, forall_const, Classical.not_not, not_false_eq_true, not_true_eq_false, false_implies, true_implies, implies_true, imp_self]
  rw [e14, e15]
  refine ⟨fun q => ⟨fun z => hQ _ _ ⟨hk0, ?_⟩, fun z => hQ _ _ ⟨hk0, ?_⟩⟩, fun q => hQ _ _ ⟨hk0, ?_⟩⟩
  · show _ = if _ then _ else _
    rw [if_neg q]
    first | rw [if_pos z] | rw [if_neg z]
  · show _ = if _ then _ else _
    rw [if_neg q]
    first | rw [if_pos z] | rw [if_neg z]
  · exact (if_pos q).symm
set_option maxHeartbeats 4000000 in
set_option maxRecDepth 100000 in
theorem m7_fault : MOK cl7 sh7 tyl7 [] 0 yX7_fault cX7_fault 2 (some .int) sp7_fault := by
  refine mok_of (own := RX7) (tb := tb7 (csL cs7_fault)) (rt := 1) (fuel := 400) (fun avs M Q => []) (by decide) rfl nil_nw (tbOK7 _) rfl (csL_all ?_) ?_ ?_ ?_
  · intro q hq; cases hq
  · intro avs M Q hsp
    obtain ⟨xs, hx⟩ := spR_un _ _ _ hsp
    obtain ⟨e, hl⟩ := unA_mkT hx
    obtain ⟨w, rfl⟩ := len1 hl
    have e : avs = [ar 0, ai w] := e
    subst e
    simp [szL, isL]
  · intro avs M Q hM hav hsp
    obtain ⟨xs, hx⟩ := spR_un _ _ _ hsp
    obtain ⟨e, hl⟩ := unA_mkT hx
    obtain ⟨w, rfl⟩ := len1 hl
    have e : avs = [ar 0, ai w] := e
    subst e
    exact in7_fault hM (hav (ai w) (by simp)) hsp.1 hsp.2
  · intro avs M Q hM hav hsp q hq m_ vs M1 hM1 hv hJ
    obtain ⟨xs, hx⟩ := spR_un _ _ _ hsp
    obtain ⟨e, hl⟩ := unA_mkT hx
    obtain ⟨w, rfl⟩ := len1 hl
    have e : avs = [ar 0, ai w] := e
    subst e
    cases hq
