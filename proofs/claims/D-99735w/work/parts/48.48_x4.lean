/-! SagMemory: where a cart comes to, frost, as it is told -/
def P0_comesTo (rs : List (Nat × Nat)) (c : Int) (M : Mm) : Prop := okY (vX M) ∧ okCf (vX M) (cX M) ∧ 0 ≤ c ∧ c < M 1 5
def V0_comesTo (rs : List (Nat × Nat)) (c : Int) (M : Mm) : Int := toP (vX M) (cX M) c.toNat
def sp0_comesTo (rs : List (Nat × Nat)) : Spec := spF true [0] 1 (fun x M => P0_comesTo rs (x 0) M) (fun x M => V0_comesTo rs (x 0) M)
theorem c0_comesTo {rs : List (Nat × Nat)} {c : Int} {M : Mm} {Q : Option AV → Mm → Prop} : sp0_comesTo rs [ar 0, ai c] M Q = (P0_comesTo rs c M ∧ Q (some (ai (V0_comesTo rs c M))) M) := rfl
def cs0_comesTo (rs : List (Nat × Nat)) : List (Nat × Nat × Nat × Spec) := []
def J0_comesTo_14 (rs : List (Nat × Nat)) (c : Int) (M : Mm) (m : Nat) (c_ : Int) (w : Int) (M1 : Mm) : Prop := c = c_ ∧ M = M1 ∧ ¬ M 17 c.toNat = -1 ∧ ∃ ww : Nat, w = ww ∧ (ww : Int) ≤ M 1 6 ∧ wayR (vX M) (M 17 c.toNat) (M 16 c.toNat) (M 1 6).toNat 0 = wayR (vX M) (M 17 c.toNat) (M 16 c.toNat) ((M 1 6).toNat - ww) ww ∧ m = (M 1 6).toNat - ww
set_option maxHeartbeats 4000000 in
set_option maxRecDepth 100000 in
theorem in0_comesTo {rs : List (Nat × Nat)} {c : Int} {M : Mm} {Q : Option AV → Mm → Prop} (hM : okM (sh8 rs) M) (h_c : i32 c) (hP : P0_comesTo rs c M) (hQ : Q (some (ai (V0_comesTo rs c M))) M) (I_14 : List AV → Mm → Prop) (hI_14 : ∀ (m_ : Nat) (y_c_ : Int) (y_w : Int) (M2 : Mm), J0_comesTo_14 rs c M m_ y_c_ y_w M2 → I_14 [ar 0, ai y_c_, ai y_w] M2) : wp (tb0 (csL (cs0_comesTo rs))) (sh8 rs) 3 1 cX0_comesTo [(14, [0, 1, 2], I_14)] Q 400 0 [(0, ar 0), (1, ai c)] [] M := by
  obtain ⟨h1, h2, h3, h4⟩ := id hP
  have h5 := okY_n h1
  obtain ⟨v3, v4, v5, v1, -⟩ := vX_n M
  rw [v3, v4, v5, v1] at h5
  have eV : V0_comesTo rs c M = if M 17 c.toNat = -1 then -1 else wayR (vX M) (M 17 c.toNat) (M 16 c.toNat) (M 1 6).toNat 0 := rfl
  simp only [e_wp dX0_comesTo_0 rfl, e_wp dX0_comesTo_1 rfl, e_wp dX0_comesTo_4 rfl, e_wp dX0_comesTo_5 rfl, e_wp dX0_comesTo_6 rfl, e_wp dX0_comesTo_7 rfl, e_wp dX0_comesTo_10 rfl, e_wp dX0_comesTo_11 rfl, e_wp dX0_comesTo_12 rfl, e_wp dX0_comesTo_13 rfl, e_wp dX0_comesTo_14 rfl, e_wp dX0_comesTo_15 rfl, e_wp dX0_comesTo_16 rfl, e_wp dX0_comesTo_19 rfl, e_wp dX0_comesTo_22 rfl, e_wp dX0_comesTo_25 rfl, e_wp dX0_comesTo_26 rfl, e_wp dX0_comesTo_29 rfl, e_wp dX0_comesTo_32 rfl, e_wp dX0_comesTo_33 rfl, e_wp dX0_comesTo_34 rfl, e_wp dX0_comesTo_35 rfl, e_wp dX0_comesTo_38 rfl, e_wp dX0_comesTo_39 rfl, e_wp dX0_comesTo_40 rfl, e_wp dX0_comesTo_43 rfl, e_wp dX0_comesTo_44 rfl, e_wp dX0_comesTo_47 rfl, e_wp dX0_comesTo_50 rfl, e_wp dX0_comesTo_51 rfl, e_wp dX0_comesTo_52 rfl, e_wp dX0_comesTo_53 rfl, e_wp dX0_comesTo_56 rfl, e_wp dX0_comesTo_57 rfl, e_wp dX0_comesTo_58 rfl, e_wp dX0_comesTo_61 rfl, e_wp dX0_comesTo_62 rfl, e_wp dX0_comesTo_65 rfl, e_wp dX0_comesTo_68 rfl, e_wp dX0_comesTo_69 rfl, e_wp dX0_comesTo_70 rfl, e_wp dX0_comesTo_71 rfl, e_wp dX0_comesTo_74 rfl, e_wp dX0_comesTo_77 rfl, e_wp dX0_comesTo_78 rfl, e_wp dX0_comesTo_81 rfl, e_wp dX0_comesTo_82 rfl, e_wp dX0_comesTo_83 rfl, g0_59, g0_10, g0_182, g0_185, g0_188, g0_56, g0_191, a8_13, w8_13, a8_14, w8_14, a8_15, w8_15, a8_16, w8_16, a8_17, w8_17, a8_18, w8_18, a8_19, w8_19, a8_20, w8_20, a8_21, w8_21, a8_22, w8_22, a8_23, w8_23, a8_24, w8_24, a8_25, w8_25, a8_26, w8_26, a8_27, w8_27, a8_28, w8_28, a8_29, w8_29, a8_30, w8_30, a8_31, w8_31, a8_32, w8_32, a8_33, w8_33, a8_34, w8_34, a8_35, w8_35, a8_36, w8_36, a8_37, w8_37, a8_38, w8_38, a8_39, w8_39, a8_40, w8_40, a8_12, w8_12, a8_6, a8_7, e_iconst, e_bipush, e_sipush, e_lconst_0, e_lconst_1, e_iload, e_iload_0, e_iload_1, e_iload_2, e_iload_3, e_lload, e_lload_0, e_lload_1, e_lload_2, e_lload_3, e_aload, e_aload_0, e_aload_1, e_aload_2, e_aload_3, e_istore, e_istore_0, e_istore_1, e_istore_2, e_istore_3, e_astore, e_astore_0, e_astore_1, e_astore_2, e_astore_3, e_lstore, e_lstore_0, e_lstore_1, e_lstore_2, e_lstore_3, e_iinc, e_iadd, e_isub, e_imul, e_ladd, e_lsub, e_lmul, e_idiv, e_irem, e_ldiv, e_lrem, e_ineg, e_lneg, e_iand, e_ior, e_ixor, e_ishl, e_ishr, e_iushr, e_lcmp, e_i2l, e_l2i, e_i2b, e_i2s, e_dup_i, e_dup_r, e_pop_i, e_pop_r, e_dup2_l, e_dup2_ir, e_dup2_ii, e_ifeq, e_ifne, e_iflt, e_ifge, e_ifgt, e_ifle, e_iceq, e_icne, e_iclt, e_icge, e_icgt, e_icle, e_goto, e_switch, e_invokevirtual, e_invokestatic, e_invokespecial, e_ret0, e_ret1, e_ret2, e_ret3, ldI_s, ldL_s, ldR_s, clO_s, ctP_s, ctS_s, mgo_0, mgo_s, pjc_s, pj_0, pj_s, lk_s, rm1_0, rm1_i, rm1_r, rm1_l, rm2_0, rm2_i, rm2_r, rm2_l, csL_s, lc_lt, lc_ge, lc_gt, lc_le, lc_eq, b01_0, b01_1, b01_01, b01_n, up2_o, up2_s, up2_u, ne_eq, reduceCtorEq, Nat.reduceAdd, Nat.reduceEqDiff, Nat.reduceLT, Nat.reduceLeDiff, Int.reduceLE, Int.reduceLT, Int.reduceAdd, Int.reduceNeg, Int.reduceMul, Int.reduceSub, Int.reduceEq, Int.reduceToNat, Int.reduceNatCast, Int.cast_ofNat_Int, ↓reduceIte, and_self, List.drop_succ_cons, List.drop_zero, List.take_succ_cons, List.take_zero, List.length_cons, List.length_nil, List.reverse_cons, List.reverse_nil, List.nil_append, List.cons_append, Option.toList, true_and, and_true, or_false, false_or, or_true, true_or, forall_const, Classical.not_not, not_false_eq_true, not_true_eq_false, false_implies, true_implies, implies_true, imp_self]
  refine ⟨by omega, fun q => ?_, fun q => ?_⟩
  · exact hI_14 _ _ _ _ ⟨rfl, rfl, q, 0, rfl, h5.2.2.1.1, rfl, rfl⟩
  · refine qeq hQ ?_
    rw [eV, if_pos q]
set_option maxHeartbeats 4000000 in
set_option maxRecDepth 100000 in
theorem at0_comesTo_14 {rs : List (Nat × Nat)} {c : Int} {M : Mm} {Q : Option AV → Mm → Prop} (hM : okM (sh8 rs) M) (h_c : i32 c) (hP : P0_comesTo rs c M) (hQ : Q (some (ai (V0_comesTo rs c M))) M) {m : Nat} {c_ w : Int} {M1 : Mm} (hM1 : okM (sh8 rs) M1) (h_c_ : i32 c_) (h_w : i32 w) (hJ : J0_comesTo_14 rs c M m c_ w M1) (I_14 : List AV → Mm → Prop) (hI_14 : ∀ (m_ : Nat) (y_c_ : Int) (y_w : Int) (M2 : Mm), m_ < m → J0_comesTo_14 rs c M m_ y_c_ y_w M2 → I_14 [ar 0, ai y_c_, ai y_w] M2) : wp (tb0 (csL (cs0_comesTo rs))) (sh8 rs) 3 1 cX0_comesTo [(14, [0, 1, 2], I_14)] Q 400 14 [(0, ar 0), (1, ai c_), (2, ai w)] [] M1 := by
  obtain ⟨rfl, rfl, q2, ww, rfl, hw, hr, rfl⟩ := hJ
  obtain ⟨h1, h2, h3, h4⟩ := id hP
  have h5 := okY_n h1
  obtain ⟨v3, v4, v5, v1, -⟩ := vX_n M
  rw [v3, v4, v5, v1] at h5
  have eV : V0_comesTo rs c M = if M 17 c.toNat = -1 then -1 else wayR (vX M) (M 17 c.toNat) (M 16 c.toNat) (M 1 6).toNat 0 := rfl
  rw [if_neg q2, hr] at eV
  simp only [e_wp dX0_comesTo_0 rfl, e_wp dX0_comesTo_1 rfl, e_wp dX0_comesTo_4 rfl, e_wp dX0_comesTo_5 rfl, e_wp dX0_comesTo_6 rfl, e_wp dX0_comesTo_7 rfl, e_wp dX0_comesTo_10 rfl, e_wp dX0_comesTo_11 rfl, e_wp dX0_comesTo_12 rfl, e_wp dX0_comesTo_13 rfl, e_wp dX0_comesTo_14 rfl, e_wp dX0_comesTo_15 rfl, e_wp dX0_comesTo_16 rfl, e_wp dX0_comesTo_19 rfl, e_wp dX0_comesTo_22 rfl, e_wp dX0_comesTo_25 rfl, e_wp dX0_comesTo_26 rfl, e_wp dX0_comesTo_29 rfl, e_wp dX0_comesTo_32 rfl, e_wp dX0_comesTo_33 rfl, e_wp dX0_comesTo_34 rfl, e_wp dX0_comesTo_35 rfl, e_wp dX0_comesTo_38 rfl, e_wp dX0_comesTo_39 rfl, e_wp dX0_comesTo_40 rfl, e_wp dX0_comesTo_43 rfl, e_wp dX0_comesTo_44 rfl, e_wp dX0_comesTo_47 rfl, e_wp dX0_comesTo_50 rfl, e_wp dX0_comesTo_51 rfl, e_wp dX0_comesTo_52 rfl, e_wp dX0_comesTo_53 rfl, e_wp dX0_comesTo_56 rfl, e_wp dX0_comesTo_57 rfl, e_wp dX0_comesTo_58 rfl, e_wp dX0_comesTo_61 rfl, e_wp dX0_comesTo_62 rfl, e_wp dX0_comesTo_65 rfl, e_wp dX0_comesTo_68 rfl, e_wp dX0_comesTo_69 rfl, e_wp dX0_comesTo_70 rfl, e_wp dX0_comesTo_71 rfl, e_wp dX0_comesTo_74 rfl, e_wp dX0_comesTo_77 rfl, e_wp dX0_comesTo_78 rfl, e_wp dX0_comesTo_81 rfl, e_wp dX0_comesTo_82 rfl, e_wp dX0_comesTo_83 rfl, g0_59, g0_10, g0_182, g0_185, g0_188, g0_56, g0_191, a8_13, w8_13, a8_14, w8_14, a8_15, w8_15, a8_16, w8_16, a8_17, w8_17, a8_18, w8_18, a8_19, w8_19, a8_20, w8_20, a8_21, w8_21, a8_22, w8_22, a8_23, w8_23, a8_24, w8_24, a8_25, w8_25, a8_26, w8_26, a8_27, w8_27, a8_28, w8_28, a8_29, w8_29, a8_30, w8_30, a8_31, w8_31, a8_32, w8_32, a8_33, w8_33, a8_34, w8_34, a8_35, w8_35, a8_36, w8_36, a8_37, w8_37, a8_38, w8_38, a8_39, w8_39, a8_40, w8_40, a8_12, w8_12, a8_6, a8_7, e_iconst, e_bipush, e_sipush, e_lconst_0, e_lconst_1, e_iload, e_iload_0, e_iload_1, e_iload_2, e_iload_3, e_lload, e_lload_0, e_lload_1, e_lload_2, e_lload_3, e_aload, e_aload_0, e_aload_1, e_aload_2, e_aload_3, e_istore, e_istore_0, e_istore_1, e_istore_2, e_istore_3, e_astore, e_astore_0, e_astore_1, e_astore_2, e_astore_3, e_lstore, e_lstore_0, e_lstore_1, e_lstore_2, e_lstore_3, e_iinc, e_iadd, e_isub, e_imul, e_ladd, e_lsub, e_lmul, e_idiv, e_irem, e_ldiv, e_lrem, e_ineg, e_lneg, e_iand, e_ior, e_ixor, e_ishl, e_ishr, e_iushr, e_lcmp, e_i2l, e_l2i, e_i2b, e_i2s, e_dup_i, e_dup_r, e_pop_i, e_pop_r, e_dup2_l, e_dup2_ir, e_dup2_ii, e_ifeq, e_ifne, e_iflt, e_ifge, e_ifgt, e_ifle, e_iceq, e_icne, e_iclt, e_icge, e_icgt, e_icle, e_goto, e_switch, e_invokevirtual, e_invokestatic, e_invokespecial, e_ret0, e_ret1, e_ret2, e_ret3, ldI_s, ldL_s, ldR_s, clO_s, ctP_s, ctS_s, mgo_0, mgo_s, pjc_s, pj_0, pj_s, lk_s, rm1_0, rm1_i, rm1_r, rm1_l, rm2_0, rm2_i, rm2_r, rm2_l, csL_s, lc_lt, lc_ge, lc_gt, lc_le, lc_eq, b01_0, b01_1, b01_01, b01_n, up2_o, up2_s, up2_u, ne_eq, reduceCtorEq, Nat.reduceAdd, Nat.reduceEqDiff, Nat.reduceLT, Nat.reduceLeDiff, Int.reduceLE, Int.reduceLT, Int.reduceAdd, Int.reduceNeg, Int.reduceMul, Int.reduceSub, Int.reduceEq, Int.reduceToNat, Int.reduceNatCast, Int.cast_ofNat_Int, ↓reduceIte, and_self, List.drop_succ_cons, List.drop_zero, List.take_succ_cons, List.take_zero, List.length_cons, List.length_nil, List.reverse_cons, List.reverse_nil, List.nil_append, List.cons_append, Option.toList, true_and, and_true, or_false, false_or, or_true, true_or, forall_const, Classical.not_not, not_false_eq_true, not_true_eq_false, false_implies, true_implies, implies_true, imp_self, Int.toNat_natCast]
  refine ⟨fun q => ?_, fun q => ?_⟩
  · refine ⟨by omega, qeq hQ ?_⟩
    rw [eV, show (M 1 6).toNat - ww = 0 by omega]
    rfl
  · obtain ⟨w1, w2, w3⟩ := vX_w M q
    have hs : wayR (vX M) (M 17 c.toNat) (M 16 c.toNat) ((M 1 6).toNat - ww) ww = if M 37 ww = M 17 c.toNat ∧ M 38 ww < M 16 c.toNat then M 39 ww else wayR (vX M) (M 17 c.toNat) (M 16 c.toNat) ((M 1 6).toNat - (ww + 1)) (ww + 1) := by
      rw [show (M 1 6).toNat - ww = ((M 1 6).toNat - (ww + 1)) + 1 by omega, ← w1, ← w2, ← w3]
      rfl
    have go : ¬ (M 37 ww = M 17 c.toNat ∧ M 38 ww < M 16 c.toNat) → I_14 [ar 0, ai c, ai (ww + 1)] M := by
      intro z
      refine hI_14 _ _ _ _ ?_ ⟨rfl, rfl, q2, ww + 1, by omega, by omega, ?_, rfl⟩
      · omega
      · rw [hr, hs, if_neg z]
    (repeat' (first | (intro _) | (refine And.intro ?_ ?_))); all_goals (first | omega | exact go (by omega) | skip)
    refine qeq hQ ?_
    rw [eV, hs, if_pos (by omega)]
set_option maxHeartbeats 4000000 in
set_option maxRecDepth 100000 in
theorem m0_comesTo {rs : List (Nat × Nat)} : MOK cl8 (sh8 rs) tyl8 Nws8 0 yX0_comesTo cX0_comesTo 3 (some .int) (sp0_comesTo rs) := by
  refine mok_of (own := RX0) (tb := tb0 (csL (cs0_comesTo rs))) (rt := 1) (fuel := 400) (fun avs M Q => [(14, [0, 1, 2], fun m_ vs M1 => ∃ y_c_ : Int, ∃ y_w : Int, vs = [ar 0, ai y_c_, ai y_w] ∧ J0_comesTo_14 rs (pa true [0] avs 0) M m_ y_c_ y_w M1)]) (by decide) rfl nws8_ok (tbOK0 _) rfl (csL_all ?_) ?_ ?_ ?_
  · intro q hq; cases hq
  · intro avs M Q hsp
    obtain ⟨xs, hx⟩ := spF_un _ _ _ hsp
    obtain ⟨e, hl⟩ := unA_mkT hx
    obtain ⟨c, rfl⟩ := len1 hl
    have e : avs = [ar 0, ai c] := e
    subst e
    simp [szL, isL]
  · intro avs M Q hM hav hsp
    obtain ⟨xs, hx⟩ := spF_un _ _ _ hsp
    obtain ⟨e, hl⟩ := unA_mkT hx
    obtain ⟨c, rfl⟩ := len1 hl
    have e : avs = [ar 0, ai c] := e
    subst e
    exact in0_comesTo hM (hav (ai c) (by simp)) hsp.1 hsp.2 _ (fun m_ y_c_ y_w M2 hJ => ⟨m_, y_c_, y_w, rfl, hJ⟩)
  · intro avs M Q hM hav hsp q hq m_ vs M1 hM1 hv hJ
    obtain ⟨xs, hx⟩ := spF_un _ _ _ hsp
    obtain ⟨e, hl⟩ := unA_mkT hx
    obtain ⟨c, rfl⟩ := len1 hl
    have e : avs = [ar 0, ai c] := e
    subst e
    simp only [List.mem_cons, List.not_mem_nil, or_false] at hq
    rcases hq with rfl
    · obtain ⟨y_c_, y_w, rfl, hJ⟩ := hJ
      exact at0_comesTo_14 hM (hav (ai c) (by simp)) hsp.1 hsp.2 hM1 (hv (1, ai y_c_) (List.mem_of_getElem? (i := 1) rfl)) (hv (2, ai y_w) (List.mem_of_getElem? (i := 2) rfl)) hJ _ (fun m2 z_c_ z_w M2 hm hJ2 => ⟨m2, hm, z_c_, z_w, rfl, hJ2⟩)
theorem cg0_comesTo {rs : List (Nat × Nat)} {lvl : Nat} (h : 0 < lvl) : CG RX0 cl8 (sh8 rs) tyl8 Nws8 lvl 1 244 2 (sp0_comesTo rs) := cg_V (sg := [0]) nws8_ok spF_mono spF_un m0_comesTo h rfl (by decide) rfl rfl ⟨rfl, by decide, by decide, rfl⟩ q819 q821 qs22 q128 q822
/-- what freezes has done to the bridges ahead of b -/
def frzIX (M M1 : Mm) (b : Int) : Prop := frm [13, 14, 15] M M1 ∧ (∀ a, 0 ≤ a → a < b → mbX M1 a = frzP (M 1 1) (mbX M a) ∧ okBX M1 a) ∧ ∀ a, b < a → a < M 1 4 → mbX M1 a = mbX M a ∧ okBX M1 a
def P0_freezes (rs : List (Nat × Nat)) (M : Mm) : Prop := (0 ≤ M 1 4 ∧ M 1 4 ≤ 3) ∧ (0 ≤ M 1 1 ∧ M 1 1 ≤ 50) ∧ ∀ b, 0 ≤ b → b < M 1 4 → okBX M b
def R0_freezes (rs : List (Nat × Nat)) (M : Mm) (M1 : Mm) : Prop := frm [13, 14, 15] M M1 ∧ ∀ b, 0 ≤ b → b < M 1 4 → mbX M1 b = frzP (M 1 1) (mbX M b) ∧ okBX M1 b
def sp0_freezes (rs : List (Nat × Nat)) : Spec := spV true [] (fun x M => P0_freezes rs M) (fun x M M1 => R0_freezes rs M M1)
theorem c0_freezes {rs : List (Nat × Nat)} {M : Mm} {Q : Option AV → Mm → Prop} : sp0_freezes rs [ar 0] M Q = (P0_freezes rs M ∧ ∀ (M1 : Mm), R0_freezes rs M M1 → Q none M1) := rfl
def cs0_freezes (rs : List (Nat × Nat)) : List (Nat × Nat × Nat × Spec) := []
def J0_freezes_2 (rs : List (Nat × Nat)) (M : Mm) (m : Nat) (b_ : Int) (M1 : Mm) : Prop := 0 ≤ b_ ∧ b_ ≤ M 1 4 ∧ frzIX M M1 b_ ∧ (b_ < M 1 4 → mbX M1 b_ = mbX M b_ ∧ okBX M1 b_ ∧ mfX M1 b_ = mfX M b_) ∧ (∀ a, b_ < a → a < M 1 4 → mfX M1 a = mfX M a) ∧ m = ((3 - b_) * 20 + 19).toNat
def J0_freezes_17 (rs : List (Nat × Nat)) (M : Mm) (m : Nat) (b_ : Int) (n : Int) (k : Int) (M1 : Mm) : Prop := (0 ≤ b_ ∧ b_ < M 1 4) ∧ frzIX M M1 b_ ∧ (∀ a, b_ < a → a < M 1 4 → mfX M1 a = mfX M a) ∧ M1 15 b_.toNat = M 15 b_.toNat ∧ (∃ kk nn : Nat, k = kk ∧ n = nn ∧ nn ≤ kk ∧ (kk : Int) ≤ M 15 b_.toNat ∧ frzP (M 1 1) (stk (mfX M b_) kk) = stk (mfX M1 b_) nn ∧ ∀ j, kk ≤ j → (j : Int) < 8 → mfX M1 b_ j = mfX M b_ j) ∧ m = ((3 - b_) * 20 + (8 - k)).toNat
set_option maxHeartbeats 4000000 in
set_option maxRecDepth 100000 in
theorem in0_freezes {rs : List (Nat × Nat)} {M : Mm} {Q : Option AV → Mm → Prop} (hM : okM (sh8 rs) M) (hP : P0_freezes rs M) (hQ : ∀ (M1 : Mm), R0_freezes rs M M1 → Q none M1) (I_2 : List AV → Mm → Prop) (hI_2 : ∀ (m_ : Nat) (y_b_ : Int) (M2 : Mm), J0_freezes_2 rs M m_ y_b_ M2 → I_2 [ar 0, ai y_b_] M2) (I_17 : List AV → Mm → Prop) (hI_17 : ∀ (m_ : Nat) (y_b_ : Int) (y_n : Int) (y_k : Int) (M2 : Mm), J0_freezes_17 rs M m_ y_b_ y_n y_k M2 → I_17 [ar 0, ai y_b_, ai y_n, ai y_k] M2) : wp (tb0 (csL (cs0_freezes rs))) (sh8 rs) 5 0 cX0_freezes [(2, [0, 1], I_2), (17, [0, 1, 2, 3], I_17)] Q 400 0 [(0, ar 0)] [] M := by
  obtain ⟨h0, h1, h2⟩ := id hP
  simp only [e_wp dX0_freezes_0 rfl, e_wp dX0_freezes_1 rfl, e_wp dX0_freezes_2 rfl, e_wp dX0_freezes_3 rfl, e_wp dX0_freezes_4 rfl, e_wp dX0_freezes_7 rfl, e_wp dX0_freezes_10 rfl, e_wp dX0_freezes_13 rfl, e_wp dX0_freezes_14 rfl, e_wp dX0_freezes_15 rfl, e_wp dX0_freezes_16 rfl, e_wp dX0_freezes_17 rfl, e_wp dX0_freezes_18 rfl, e_wp dX0_freezes_19 rfl, e_wp dX0_freezes_22 rfl, e_wp dX0_freezes_23 rfl, e_wp dX0_freezes_24 rfl, e_wp dX0_freezes_27 rfl, e_wp dX0_freezes_28 rfl, e_wp dX0_freezes_31 rfl, e_wp dX0_freezes_33 rfl, e_wp dX0_freezes_34 rfl, e_wp dX0_freezes_35 rfl, e_wp dX0_freezes_36 rfl, e_wp dX0_freezes_37 rfl, e_wp dX0_freezes_38 rfl, e_wp dX0_freezes_39 rfl, e_wp dX0_freezes_42 rfl, e_wp dX0_freezes_45 rfl, e_wp dX0_freezes_46 rfl, e_wp dX0_freezes_48 rfl, e_wp dX0_freezes_50 rfl, e_wp dX0_freezes_53 rfl, e_wp dX0_freezes_56 rfl, e_wp dX0_freezes_57 rfl, e_wp dX0_freezes_60 rfl, e_wp dX0_freezes_62 rfl, e_wp dX0_freezes_63 rfl, e_wp dX0_freezes_64 rfl, e_wp dX0_freezes_65 rfl, e_wp dX0_freezes_66 rfl, e_wp dX0_freezes_68 rfl, e_wp dX0_freezes_69 rfl, e_wp dX0_freezes_70 rfl, e_wp dX0_freezes_73 rfl, e_wp dX0_freezes_75 rfl, e_wp dX0_freezes_76 rfl, e_wp dX0_freezes_77 rfl, e_wp dX0_freezes_78 rfl, e_wp dX0_freezes_79 rfl, e_wp dX0_freezes_80 rfl, e_wp dX0_freezes_83 rfl, e_wp dX0_freezes_85 rfl, e_wp dX0_freezes_86 rfl, e_wp dX0_freezes_87 rfl, e_wp dX0_freezes_88 rfl, e_wp dX0_freezes_89 rfl, e_wp dX0_freezes_90 rfl, e_wp dX0_freezes_91 rfl, e_wp dX0_freezes_94 rfl, e_wp dX0_freezes_97 rfl, e_wp dX0_freezes_100 rfl, e_wp dX0_freezes_101 rfl, e_wp dX0_freezes_104 rfl, e_wp dX0_freezes_105 rfl, e_wp dX0_freezes_106 rfl, e_wp dX0_freezes_107 rfl, e_wp dX0_freezes_110 rfl, e_wp dX0_freezes_113 rfl, g0_10, g0_153, g0_31, g0_24, g0_215, g0_28, a8_13, w8_13, a8_14, w8_14, a8_15, w8_15, a8_16, w8_16, a8_17, w8_17, a8_18, w8_18, a8_19, w8_19, a8_20, w8_20, a8_21, w8_21, a8_22, w8_22, a8_23, w8_23, a8_24, w8_24, a8_25, w8_25, a8_26, w8_26, a8_27, w8_27, a8_28, w8_28, a8_29, w8_29, a8_30, w8_30, a8_31, w8_31, a8_32, w8_32, a8_33, w8_33, a8_34, w8_34, a8_35, w8_35, a8_36, w8_36, a8_37, w8_37, a8_38, w8_38, a8_39, w8_39, a8_40, w8_40, a8_12, w8_12, a8_6, a8_7, e_iconst, e_bipush, e_sipush, e_lconst_0, e_lconst_1, e_iload, e_iload_0, e_iload_1, e_iload_2, e_iload_3, e_lload, e_lload_0, e_lload_1, e_lload_2, e_lload_3, e_aload, e_aload_0, e_aload_1, e_aload_2, e_aload_3, e_istore, e_istore_0, e_istore_1, e_istore_2, e_istore_3, e_astore, e_astore_0, e_astore_1, e_astore_2, e_astore_3, e_lstore, e_lstore_0, e_lstore_1, e_lstore_2, e_lstore_3, e_iinc, e_iadd, e_isub, e_imul, e_ladd, e_lsub, e_lmul, e_idiv, e_irem, e_ldiv, e_lrem, e_ineg, e_lneg, e_iand, e_ior, e_ixor, e_ishl, e_ishr, e_iushr, e_lcmp, e_i2l, e_l2i, e_i2b, e_i2s, e_dup_i, e_dup_r, e_pop_i, e_pop_r, e_dup2_l, e_dup2_ir, e_dup2_ii, e_ifeq, e_ifne, e_iflt, e_ifge, e_ifgt, e_ifle, e_iceq, e_icne, e_iclt, e_icge, e_icgt, e_icle, e_goto, e_switch, e_invokevirtual, e_invokestatic, e_invokespecial, e_ret0, e_ret1, e_ret2, e_ret3, ldI_s, ldL_s, ldR_s, clO_s, ctP_s, ctS_s, mgo_0, mgo_s, pjc_s, pj_0, pj_s, lk_s, rm1_0, rm1_i, rm1_r, rm1_l, rm2_0, rm2_i, rm2_r, rm2_l, csL_s, lc_lt, lc_ge, lc_gt, lc_le, lc_eq, b01_0, b01_1, b01_01, b01_n, up2_o, up2_s, up2_u, ne_eq, reduceCtorEq, Nat.reduceAdd, Nat.reduceEqDiff, Nat.reduceLT, Nat.reduceLeDiff, Int.reduceLE, Int.reduceLT, Int.reduceAdd, Int.reduceNeg, Int.reduceMul, Int.reduceSub, Int.reduceEq, Int.reduceToNat, Int.reduceNatCast, Int.cast_ofNat_Int, ↓reduceIte, and_self, List.drop_succ_cons, List.drop_zero, List.take_succ_cons, List.take_zero, List.length_cons, List.length_nil, List.reverse_cons, List.reverse_nil, List.nil_append, List.cons_append, Option.toList, true_and, and_true, or_false, false_or, or_true, true_or, forall_const, Classical.not_not, not_false_eq_true, not_true_eq_false, false_implies, true_implies, implies_true, imp_self]
  refine hI_2 _ _ _ ⟨by omega, h0.1, ⟨frm_rf, fun a q1 q2 => by omega, fun a q1 q2 => ⟨rfl, h2 a (by omega) q2⟩⟩, fun q => ⟨rfl, h2 _ (by omega) q, rfl⟩, fun _ _ _ => rfl, rfl⟩
set_option maxHeartbeats 4000000 in
set_option maxRecDepth 100000 in
theorem at0_freezes_2 {rs : List (Nat × Nat)} {M : Mm} {Q : Option AV → Mm → Prop} (hM : okM (sh8 rs) M) (hP : P0_freezes rs M) (hQ : ∀ (M1 : Mm), R0_freezes rs M M1 → Q none M1) {m : Nat} {b_ : Int} {M1 : Mm} (hM1 : okM (sh8 rs) M1) (h_b_ : i32 b_) (hJ : J0_freezes_2 rs M m b_ M1) (I_2 : List AV → Mm → Prop) (hI_2 : ∀ (m_ : Nat) (y_b_ : Int) (M2 : Mm), m_ < m → J0_freezes_2 rs M m_ y_b_ M2 → I_2 [ar 0, ai y_b_] M2) (I_17 : List AV → Mm → Prop) (hI_17 : ∀ (m_ : Nat) (y_b_ : Int) (y_n : Int) (y_k : Int) (M2 : Mm), m_ < m → J0_freezes_17 rs M m_ y_b_ y_n y_k M2 → I_17 [ar 0, ai y_b_, ai y_n, ai y_k] M2) : wp (tb0 (csL (cs0_freezes rs))) (sh8 rs) 5 0 cX0_freezes [(2, [0, 1], I_2), (17, [0, 1, 2, 3], I_17)] Q 400 2 [(0, ar 0), (1, ai b_)] [] M1 := by
  obtain ⟨q0, q1, ⟨hf, hA, hB⟩, hC, hD, rfl⟩ := hJ
  obtain ⟨h0, h1, h2⟩ := id hP
  have e7 : M1 1 = M 1 := hf _ (by decide)
  simp only [e_wp dX0_freezes_0 rfl, e_wp dX0_freezes_1 rfl, e_wp dX0_freezes_2 rfl, e_wp dX0_freezes_3 rfl, e_wp dX0_freezes_4 rfl, e_wp dX0_freezes_7 rfl, e_wp dX0_freezes_10 rfl, e_wp dX0_freezes_13 rfl, e_wp dX0_freezes_14 rfl, e_wp dX0_freezes_15 rfl, e_wp dX0_freezes_16 rfl, e_wp dX0_freezes_17 rfl, e_wp dX0_freezes_18 rfl, e_wp dX0_freezes_19 rfl, e_wp dX0_freezes_22 rfl, e_wp dX0_freezes_23 rfl, e_wp dX0_freezes_24 rfl, e_wp dX0_freezes_27 rfl, e_wp dX0_freezes_28 rfl, e_wp dX0_freezes_31 rfl, e_wp dX0_freezes_33 rfl, e_wp dX0_freezes_34 rfl, e_wp dX0_freezes_35 rfl, e_wp dX0_freezes_36 rfl, e_wp dX0_freezes_37 rfl, e_wp dX0_freezes_38 rfl, e_wp dX0_freezes_39 rfl, e_wp dX0_freezes_42 rfl, e_wp dX0_freezes_45 rfl, e_wp dX0_freezes_46 rfl, e_wp dX0_freezes_48 rfl, e_wp dX0_freezes_50 rfl, e_wp dX0_freezes_53 rfl, e_wp dX0_freezes_56 rfl, e_wp dX0_freezes_57 rfl, e_wp dX0_freezes_60 rfl, e_wp dX0_freezes_62 rfl, e_wp dX0_freezes_63 rfl, e_wp dX0_freezes_64 rfl, e_wp dX0_freezes_65 rfl, e_wp dX0_freezes_66 rfl, e_wp dX0_freezes_68 rfl, e_wp dX0_freezes_69 rfl, e_wp dX0_freezes_70 rfl, e_wp dX0_freezes_73 rfl, e_wp dX0_freezes_75 rfl, e_wp dX0_freezes_76 rfl, e_wp dX0_freezes_77 rfl, e_wp dX0_freezes_78 rfl, e_wp dX0_freezes_79 rfl, e_wp dX0_freezes_80 rfl, e_wp dX0_freezes_83 rfl, e_wp dX0_freezes_85 rfl, e_wp dX0_freezes_86 rfl, e_wp dX0_freezes_87 rfl, e_wp dX0_freezes_88 rfl, e_wp dX0_freezes_89 rfl, e_wp dX0_freezes_90 rfl, e_wp dX0_freezes_91 rfl, e_wp dX0_freezes_94 rfl, e_wp dX0_freezes_97 rfl, e_wp dX0_freezes_100 rfl, e_wp dX0_freezes_101 rfl, e_wp dX0_freezes_104 rfl, e_wp dX0_freezes_105 rfl, e_wp dX0_freezes_106 rfl, e_wp dX0_freezes_107 rfl, e_wp dX0_freezes_110 rfl, e_wp dX0_freezes_113 rfl, g0_10, g0_153, g0_31, g0_24, g0_215, g0_28, a8_13, w8_13, a8_14, w8_14, a8_15, w8_15, a8_16, w8_16, a8_17, w8_17, a8_18, w8_18, a8_19, w8_19, a8_20, w8_20, a8_21, w8_21, a8_22, w8_22, a8_23, w8_23, a8_24, w8_24, a8_25, w8_25, a8_26, w8_26, a8_27, w8_27, a8_28, w8_28, a8_29, w8_29, a8_30, w8_30, a8_31, w8_31, a8_32, w8_32, a8_33, w8_33, a8_34, w8_34, a8_35, w8_35, a8_36, w8_36, a8_37, w8_37, a8_38, w8_38, a8_39, w8_39, a8_40, w8_40, a8_12, w8_12, a8_6, a8_7, e_iconst, e_bipush, e_sipush, e_lconst_0, e_lconst_1, e_iload, e_iload_0, e_iload_1, e_iload_2, e_iload_3, e_lload, e_lload_0, e_lload_1, e_lload_2, e_lload_3, e_aload, e_aload_0, e_aload_1, e_aload_2, e_aload_3, e_istore, e_istore_0, e_istore_1, e_istore_2, e_istore_3, e_astore, e_astore_0, e_astore_1, e_astore_2, e_astore_3, e_lstore, e_lstore_0, e_lstore_1, e_lstore_2, e_lstore_3, e_iinc, e_iadd, e_isub, e_imul, e_ladd, e_lsub, e_lmul, e_idiv, e_irem, e_ldiv, e_lrem, e_ineg, e_lneg, e_iand, e_ior, e_ixor, e_ishl, e_ishr, e_iushr, e_lcmp, e_i2l, e_l2i, e_i2b, e_i2s, e_dup_i, e_dup_r, e_pop_i, e_pop_r, e_dup2_l, e_dup2_ir, e_dup2_ii, e_ifeq, e_ifne, e_iflt, e_ifge, e_ifgt, e_ifle, e_iceq, e_icne, e_iclt, e_icge, e_icgt, e_icle, e_goto, e_switch, e_invokevirtual, e_invokestatic, e_invokespecial, e_ret0, e_ret1, e_ret2, e_ret3, ldI_s, ldL_s, ldR_s, clO_s, ctP_s, ctS_s, mgo_0, mgo_s, pjc_s, pj_0, pj_s, lk_s, rm1_0, rm1_i, rm1_r, rm1_l, rm2_0, rm2_i, rm2_r, rm2_l, csL_s, lc_lt, lc_ge, lc_gt, lc_le, lc_eq, b01_0, b01_1, b01_01, b01_n, up2_o, up2_s, up2_u, ne_eq, reduceCtorEq, Nat.reduceAdd, Nat.reduceEqDiff, Nat.reduceLT, Nat.reduceLeDiff, Int.reduceLE, Int.reduceLT, Int.reduceAdd, Int.reduceNeg, Int.reduceMul, Int.reduceSub, Int.reduceEq, Int.reduceToNat, Int.reduceNatCast, Int.cast_ofNat_Int, ↓reduceIte, and_self, List.drop_succ_cons, List.drop_zero, List.take_succ_cons, List.take_zero, List.length_cons, List.length_nil, List.reverse_cons, List.reverse_nil, List.nil_append, List.cons_append, Option.toList, true_and, and_true, or_false, false_or, or_true, true_or, forall_const, Classical.not_not, not_false_eq_true, not_true_eq_false, false_implies, true_implies, implies_true, imp_self, e7]
  refine ⟨fun q => ?_, fun q => ?_⟩
  · exact hQ _ ⟨hf, fun a z1 z2 => hA a z1 (by omega)⟩
  · obtain ⟨c1, c2, c3⟩ := hC q
    have h3 := h2 b_ q0 q
    have c4 : M1 15 b_.toNat = M 15 b_.toNat := by
      have e := congrArg List.length c1
      have a1 : (mbX M1 b_).length = _ := stk_len _ _
      have a2 : (mbX M b_).length = _ := stk_len _ _
      have a3 := c2.2.1
      have a4 := h3.2.1
      omega
    exact hI_17 _ b_ 0 0 _ (by omega) ⟨⟨q0, q⟩, ⟨hf, hA, hB⟩, hD, c4, ⟨0, 0, rfl, rfl, Nat.le_refl _, h3.2.1.1, rfl, fun j _ _ => by rw [c3]⟩, rfl⟩
set_option maxHeartbeats 4000000 in
set_option maxRecDepth 100000 in
theorem at0_freezes_17 {rs : List (Nat × Nat)} {M : Mm} {Q : Option AV → Mm → Prop} (hM : okM (sh8 rs) M) (hP : P0_freezes rs M) (hQ : ∀ (M1 : Mm), R0_freezes rs M M1 → Q none M1) {m : Nat} {b_ n k : Int} {M1 : Mm} (hM1 : okM (sh8 rs) M1) (h_b_ : i32 b_) (h_n : i32 n) (h_k : i32 k) (hJ : J0_freezes_17 rs M m b_ n k M1) (I_2 : List AV → Mm → Prop) (hI_2 : ∀ (m_ : Nat) (y_b_ : Int) (M2 : Mm), m_ < m → J0_freezes_2 rs M m_ y_b_ M2 → I_2 [ar 0, ai y_b_] M2) (I_17 : List AV → Mm → Prop) (hI_17 : ∀ (m_ : Nat) (y_b_ : Int) (y_n : Int) (y_k : Int) (M2 : Mm), m_ < m → J0_freezes_17 rs M m_ y_b_ y_n y_k M2 → I_17 [ar 0, ai y_b_, ai y_n, ai y_k] M2) : wp (tb0 (csL (cs0_freezes rs))) (sh8 rs) 5 0 cX0_freezes [(2, [0, 1], I_2), (17, [0, 1, 2, 3], I_17)] Q 400 17 [(0, ar 0), (1, ai b_), (2, ai n), (3, ai k)] [] M1 := by
  obtain ⟨⟨q0, q1⟩, ⟨hf, hA, hB⟩, hD, hd, ⟨kk, nn, rfl, rfl, hnk, hk, hz, hj⟩, rfl⟩ := hJ
  obtain ⟨h0, h1, h2⟩ := id hP
  have h3 := h2 b_ q0 q1
  have h4 := h3.2.1
  have e7 : M1 1 = M 1 := hf _ (by decide)
  simp only [e_wp dX0_freezes_0 rfl, e_wp dX0_freezes_1 rfl, e_wp dX0_freezes_2 rfl, e_wp dX0_freezes_3 rfl, e_wp dX0_freezes_4 rfl, e_wp dX0_freezes_7 rfl, e_wp dX0_freezes_10 rfl, e_wp dX0_freezes_13 rfl, e_wp dX0_freezes_14 rfl, e_wp dX0_freezes_15 rfl, e_wp dX0_freezes_16 rfl, e_wp dX0_freezes_17 rfl, e_wp dX0_freezes_18 rfl, e_wp dX0_freezes_19 rfl, e_wp dX0_freezes_22 rfl, e_wp dX0_freezes_23 rfl, e_wp dX0_freezes_24 rfl, e_wp dX0_freezes_27 rfl, e_wp dX0_freezes_28 rfl, e_wp dX0_freezes_31 rfl, e_wp dX0_freezes_33 rfl, e_wp dX0_freezes_34 rfl, e_wp dX0_freezes_35 rfl, e_wp dX0_freezes_36 rfl, e_wp dX0_freezes_37 rfl, e_wp dX0_freezes_38 rfl, e_wp dX0_freezes_39 rfl, e_wp dX0_freezes_42 rfl, e_wp dX0_freezes_45 rfl, e_wp dX0_freezes_46 rfl, e_wp dX0_freezes_48 rfl, e_wp dX0_freezes_50 rfl, e_wp dX0_freezes_53 rfl, e_wp dX0_freezes_56 rfl, e_wp dX0_freezes_57 rfl, e_wp dX0_freezes_60 rfl, e_wp dX0_freezes_62 rfl, e_wp dX0_freezes_63 rfl, e_wp dX0_freezes_64 rfl, e_wp dX0_freezes_65 rfl, e_wp dX0_freezes_66 rfl, e_wp dX0_freezes_68 rfl, e_wp dX0_freezes_69 rfl, e_wp dX0_freezes_70 rfl, e_wp dX0_freezes_73 rfl, e_wp dX0_freezes_75 rfl, e_wp dX0_freezes_76 rfl, e_wp dX0_freezes_77 rfl, e_wp dX0_freezes_78 rfl, e_wp dX0_freezes_79 rfl, e_wp dX0_freezes_80 rfl, e_wp dX0_freezes_83 rfl, e_wp dX0_freezes_85 rfl, e_wp dX0_freezes_86 rfl, e_wp dX0_freezes_87 rfl, e_wp dX0_freezes_88 rfl, e_wp dX0_freezes_89 rfl, e_wp dX0_freezes_90 rfl, e_wp dX0_freezes_91 rfl, e_wp dX0_freezes_94 rfl, e_wp dX0_freezes_97 rfl, e_wp dX0_freezes_100 rfl, e_wp dX0_freezes_101 rfl, e_wp dX0_freezes_104 rfl, e_wp dX0_freezes_105 rfl, e_wp dX0_freezes_106 rfl, e_wp dX0_freezes_107 rfl, e_wp dX0_freezes_110 rfl, e_wp dX0_freezes_113 rfl, g0_10, g0_153, g0_31, g0_24, g0_215, g0_28, a8_13, w8_13, a8_14, w8_14, a8_15, w8_15, a8_16, w8_16, a8_17, w8_17, a8_18, w8_18, a8_19, w8_19, a8_20, w8_20, a8_21, w8_21, a8_22, w8_22, a8_23, w8_23, a8_24, w8_24, a8_25, w8_25, a8_26, w8_26, a8_27, w8_27, a8_28, w8_28, a8_29, w8_29, a8_30, w8_30, a8_31, w8_31, a8_32, w8_32, a8_33, w8_33, a8_34, w8_34, a8_35, w8_35, a8_36, w8_36, a8_37, w8_37, a8_38, w8_38, a8_39, w8_39, a8_40, w8_40, a8_12, w8_12, a8_6, a8_7, e_iconst, e_bipush, e_sipush, e_lconst_0, e_lconst_1, e_iload, e_iload_0, e_iload_1, e_iload_2, e_iload_3, e_lload, e_lload_0, e_lload_1, e_lload_2, e_lload_3, e_aload, e_aload_0, e_aload_1, e_aload_2, e_aload_3, e_istore, e_istore_0, e_istore_1, e_istore_2, e_istore_3, e_astore, e_astore_0, e_astore_1, e_astore_2, e_astore_3, e_lstore, e_lstore_0, e_lstore_1, e_lstore_2, e_lstore_3, e_iinc, e_iadd, e_isub, e_imul, e_ladd, e_lsub, e_lmul, e_idiv, e_irem, e_ldiv, e_lrem, e_ineg, e_lneg, e_iand, e_ior, e_ixor, e_ishl, e_ishr, e_iushr, e_lcmp, e_i2l, e_l2i, e_i2b, e_i2s, e_dup_i, e_dup_r, e_pop_i, e_pop_r, e_dup2_l, e_dup2_ir, e_dup2_ii, e_ifeq, e_ifne, e_iflt, e_ifge, e_ifgt, e_ifle, e_iceq, e_icne, e_iclt, e_icge, e_icgt, e_icle, e_goto, e_switch, e_invokevirtual, e_invokestatic, e_invokespecial, e_ret0, e_ret1, e_ret2, e_ret3, ldI_s, ldL_s, ldR_s, clO_s, ctP_s, ctS_s, mgo_0, mgo_s, pjc_s, pj_0, pj_s, lk_s, rm1_0, rm1_i, rm1_r, rm1_l, rm2_0, rm2_i, rm2_r, rm2_l, csL_s, lc_lt, lc_ge, lc_gt, lc_le, lc_eq, b01_0, b01_1, b01_01, b01_n, up2_o, up2_s, up2_u, ne_eq, reduceCtorEq, Nat.reduceAdd, Nat.reduceEqDiff, Nat.reduceLT, Nat.reduceLeDiff, Int.reduceLE, Int.reduceLT, Int.reduceAdd, Int.reduceNeg, Int.reduceMul, Int.reduceSub, Int.reduceEq, Int.reduceToNat, Int.reduceNatCast, Int.cast_ofNat_Int, ↓reduceIte, and_self, List.drop_succ_cons, List.drop_zero, List.take_succ_cons, List.take_zero, List.length_cons, List.length_nil, List.reverse_cons, List.reverse_nil, List.nil_append, List.cons_append, Option.toList, true_and, and_true, or_false, false_or, or_true, true_or, forall_const, Classical.not_not, not_false_eq_true, not_true_eq_false, false_implies, true_implies, implies_true, imp_self, e7, hd]
  refine ⟨by omega, fun q => ?_, fun q => ?_⟩
  · refine ⟨by omega, by omega, ?_⟩
    have ek : (kk : Int) = M 15 b_.toNat := by omega
    have eb : mbX (up2 M1 15 b_.toNat nn) b_ = frzP (M 1 1) (mbX M b_) := by
      rw [mb_upX, ← hz]
      show frzP _ (stk (mfX M b_) kk) = frzP _ (stk (mfX M b_) (M 15 b_.toNat).toNat)
      rw [← ek]
      rfl
    have ob : okBX (up2 M1 15 b_.toNat nn) b_ := ⟨by omega, by rw [up2_s]; omega, by rw [eb]; exact okL_frz h3.2.2 h1.1⟩
    have key : ∀ a, 0 ≤ a → ¬ a = b_ → okBX M1 a → mbX (up2 M1 15 b_.toNat nn) a = mbX M1 a ∧ okBX (up2 M1 15 b_.toNat nn) a := by
      intro a z1 z2 z3
      exact mb_congX z3 (fun k _ => rfl) (up2_n (by omega))
    refine hI_2 _ _ _ (by omega) ⟨by omega, by omega, ⟨frm_up hf (by decide), fun a z1 z2 => ?_, fun a z1 z2 => ?_⟩, fun z => ?_, fun a z1 z2 => ?_, rfl⟩
    · by_cases e : a = b_
      · rw [e]; exact ⟨eb, ob⟩
      · obtain ⟨y1, y2⟩ := hA a z1 (by omega)
        obtain ⟨x1, x2⟩ := key a z1 e y2
        exact ⟨by rw [x1, y1], x2⟩
    · obtain ⟨y1, y2⟩ := hB a (by omega) z2
      obtain ⟨x1, x2⟩ := key a (by omega) (by omega) y2
      exact ⟨by rw [x1, y1], x2⟩
    · obtain ⟨y1, y2⟩ := hB (b_ + 1) (by omega) z
      obtain ⟨x1, x2⟩ := key (b_ + 1) (by omega) (by omega) y2
      exact ⟨by rw [x1, y1], x2, hD _ (by omega) z⟩
    · exact hD a (by omega) z2
  · have hel := mb_elX h3 q
    have ej : mfX M1 b_ kk = mfX M b_ kk := hj kk (Nat.le_refl _) (by omega)
    have e1 : M1 13 (8 * b_ + kk).toNat = M 13 (8 * b_ + kk).toNat := congrArg Prod.fst ej
    have e2 : M1 14 (8 * b_ + kk).toNat = M 14 (8 * b_ + kk).toNat := congrArg Prod.snd ej
    have ez : frzP (M 1 1) (stk (mfX M b_) (kk + 1)) = if M 13 (8 * b_ + kk).toNat - M 1 1 ≤ 0 then frzP (M 1 1) (stk (mfX M b_) kk) else (M 13 (8 * b_ + kk).toNat - M 1 1, M 14 (8 * b_ + kk).toNat) :: frzP (M 1 1) (stk (mfX M b_) kk) := rfl
    rw [e1]
    repeat (refine And.intro (by omega) ?_)
    refine ⟨fun z => ?_, fun z => ?_⟩
    · repeat (refine And.intro (by omega) ?_)
      rw [e2]
      have key : ∀ a, 0 ≤ a → ¬ a = b_ → okBX M1 a → mbX (up2 (up2 M1 13 (8 * b_ + nn).toNat (M 13 (8 * b_ + kk).toNat - M 1 1)) 14 (8 * b_ + nn).toNat (M 14 (8 * b_ + kk).toNat)) a = mbX M1 a ∧ okBX (up2 (up2 M1 13 (8 * b_ + nn).toNat (M 13 (8 * b_ + kk).toNat - M 1 1)) 14 (8 * b_ + nn).toNat (M 14 (8 * b_ + kk).toNat)) a := by
        intro a z1 z2 z3
        exact mb_congX z3 (fun k hk => mf_wX q0 z1 (by omega) hk (fun w => z2 w.1)) (by rw [up2_o (by decide), up2_o (by decide)])
      refine hI_17 _ b_ _ _ _ (by omega) ⟨⟨q0, q1⟩, ⟨frm_up (frm_up hf (by decide)) (by decide), fun a z1 z2 => ?_, fun a z1 z2 => ?_⟩, fun a z1 z2 => ?_, ?_, ⟨kk + 1, nn + 1, by omega, by omega, by omega, by omega, ?_, fun j z1 z2 => ?_⟩, rfl⟩
      · obtain ⟨y1, y2⟩ := hA a z1 z2
        obtain ⟨x1, x2⟩ := key a z1 (by omega) y2
        exact ⟨by rw [x1, y1], x2⟩
      · obtain ⟨y1, y2⟩ := hB a z1 z2
        obtain ⟨x1, x2⟩ := key a (by omega) (by omega) y2
        exact ⟨by rw [x1, y1], x2⟩
      · rw [← hD a z1 z2]
        funext k
        have e : (8 * a + k).toNat ≠ (8 * b_ + nn).toNat := by omega
        unfold mfX
        rw [up2_o (by decide), up2_n e, up2_n e, up2_o (by decide)]
      · rw [up2_o (by decide), up2_o (by decide)]; exact hd
      · rw [ez, if_neg (by omega), hz]
        show _ = mfX _ b_ nn :: stk (mfX _ b_) nn
        rw [mf_sX]
        congr 1
        exact stk_congr fun k hk => (mf_wX q0 q0 (by omega) (by omega) (by omega)).symm
      · rw [mf_wX q0 q0 (by omega) (by omega) (by omega)]
        exact hj j (by omega) z2
    · refine ⟨by omega, ?_⟩
      refine hI_17 _ b_ _ _ _ (by omega) ⟨⟨q0, q1⟩, ⟨hf, hA, hB⟩, hD, hd, ⟨kk + 1, nn, by omega, rfl, by omega, by omega, ?_, fun j z1 z2 => hj j (by omega) z2⟩, rfl⟩
      rw [ez, if_pos (by omega), hz]
set_option maxHeartbeats 4000000 in
set_option maxRecDepth 100000 in
theorem m0_freezes {rs : List (Nat × Nat)} : MOK cl8 (sh8 rs) tyl8 Nws8 0 yX0_freezes cX0_freezes 5 none (sp0_freezes rs) := by
  refine mok_of (own := RX0) (tb := tb0 (csL (cs0_freezes rs))) (rt := 0) (fuel := 400) (fun avs M Q => [(2, [0, 1], fun m_ vs M1 => ∃ y_b_ : Int, vs = [ar 0, ai y_b_] ∧ J0_freezes_2 rs M m_ y_b_ M1), (17, [0, 1, 2, 3], fun m_ vs M1 => ∃ y_b_ : Int, ∃ y_n : Int, ∃ y_k : Int, vs = [ar 0, ai y_b_, ai y_n, ai y_k] ∧ J0_freezes_17 rs M m_ y_b_ y_n y_k M1)]) (by decide) rfl nws8_ok (tbOK0 _) rfl (csL_all ?_) ?_ ?_ ?_
  · intro q hq; cases hq
  · intro avs M Q hsp
    obtain ⟨xs, hx⟩ := spV_un _ _ _ hsp
    obtain ⟨e, hl⟩ := unA_mkT hx
    obtain rfl := len0 hl
    have e : avs = [ar 0] := e
    subst e
    simp [szL, isL]
  · intro avs M Q hM hav hsp
    obtain ⟨xs, hx⟩ := spV_un _ _ _ hsp
    obtain ⟨e, hl⟩ := unA_mkT hx
    obtain rfl := len0 hl
    have e : avs = [ar 0] := e
    subst e
    exact in0_freezes hM hsp.1 hsp.2 _ (fun m_ y_b_ M2 hJ => ⟨m_, y_b_, rfl, hJ⟩) _ (fun m_ y_b_ y_n y_k M2 hJ => ⟨m_, y_b_, y_n, y_k, rfl, hJ⟩)
  · intro avs M Q hM hav hsp q hq m_ vs M1 hM1 hv hJ
    obtain ⟨xs, hx⟩ := spV_un _ _ _ hsp
    obtain ⟨e, hl⟩ := unA_mkT hx
    obtain rfl := len0 hl
    have e : avs = [ar 0] := e
    subst e
    simp only [List.mem_cons, List.not_mem_nil, or_false] at hq
    rcases hq with rfl | rfl
    · obtain ⟨y_b_, rfl, hJ⟩ := hJ
      exact at0_freezes_2 hM hsp.1 hsp.2 hM1 (hv (1, ai y_b_) (List.mem_of_getElem? (i := 1) rfl)) hJ _ (fun m2 z_b_ M2 hm hJ2 => ⟨m2, hm, z_b_, rfl, hJ2⟩) _ (fun m2 z_b_ z_n z_k M2 hm hJ2 => ⟨m2, hm, z_b_, z_n, z_k, rfl, hJ2⟩)
    · obtain ⟨y_b_, y_n, y_k, rfl, hJ⟩ := hJ
      exact at0_freezes_17 hM hsp.1 hsp.2 hM1 (hv (1, ai y_b_) (List.mem_of_getElem? (i := 1) rfl)) (hv (2, ai y_n) (List.mem_of_getElem? (i := 2) rfl)) (hv (3, ai y_k) (List.mem_of_getElem? (i := 3) rfl)) hJ _ (fun m2 z_b_ M2 hm hJ2 => ⟨m2, hm, z_b_, rfl, hJ2⟩) _ (fun m2 z_b_ z_n z_k M2 hm hJ2 => ⟨m2, hm, z_b_, z_n, z_k, rfl, hJ2⟩)
theorem cg0_freezes {rs : List (Nat × Nat)} {lvl : Nat} (h : 0 < lvl) : CG RX0 cl8 (sh8 rs) tyl8 Nws8 lvl 1 241 1 (sp0_freezes rs) := cg_V (sg := []) nws8_ok spV_mono spV_un m0_freezes h rfl (by decide) rfl rfl ⟨rfl, by decide, by decide, rfl⟩ q815 q817 qs21 q128 q818
