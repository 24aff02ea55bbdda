/-! SagMemory: questions that go over bridges or carts -/
def P0_allSag (rs : List (Nat × Nat)) (M : Mm) : Prop := (0 ≤ M 1 4 ∧ M 1 4 ≤ 3) ∧ ∀ b : Nat, (b : Int) < M 1 4 → okBX M b
def V0_allSag (rs : List (Nat × Nat)) (M : Mm) : Int := sumN (fun b => sagP (mbX M b)) (M 1 4).toNat
def sp0_allSag (rs : List (Nat × Nat)) : Spec := spF true [] 1 (fun x M => P0_allSag rs M) (fun x M => V0_allSag rs M)
theorem c0_allSag {rs : List (Nat × Nat)} {M : Mm} {Q : Option AV → Mm → Prop} : sp0_allSag rs [ar 0] M Q = (P0_allSag rs M ∧ Q (some (ai (V0_allSag rs M))) M) := rfl
def cs0_allSag (rs : List (Nat × Nat)) : List (Nat × Nat × Nat × Spec) := [(218, 1, 2, (sp0_sagOf rs))]
def J0_allSag_4 (rs : List (Nat × Nat)) (M : Mm) (m : Nat) (n : Int) (b : Int) (M1 : Mm) : Prop := M = M1 ∧ ∃ a : Nat, b = a ∧ (a : Int) ≤ M 1 4 ∧ n = sumN (fun b => sagP (mbX M b)) a ∧ m = 3 - a
set_option maxHeartbeats 4000000 in
set_option maxRecDepth 100000 in
theorem in0_allSag {rs : List (Nat × Nat)} {M : Mm} {Q : Option AV → Mm → Prop} (hM : okM (sh8 rs) M) (hP : P0_allSag rs M) (hQ : Q (some (ai (V0_allSag rs M))) M) (I_4 : List AV → Mm → Prop) (hI_4 : ∀ (m_ : Nat) (y_n : Int) (y_b : Int) (M2 : Mm), J0_allSag_4 rs M m_ y_n y_b M2 → I_4 [ar 0, ai y_n, ai y_b] M2) : wp (tb0 (csL (cs0_allSag rs))) (sh8 rs) 3 1 cX0_allSag [(4, [0, 1, 2], I_4)] Q 400 0 [(0, ar 0)] [] M := by
  have h3 := hP.1
  simp only [e_wp dX0_allSag_0 rfl, e_wp dX0_allSag_1 rfl, e_wp dX0_allSag_2 rfl, e_wp dX0_allSag_3 rfl, e_wp dX0_allSag_4 rfl, e_wp dX0_allSag_5 rfl, e_wp dX0_allSag_6 rfl, e_wp dX0_allSag_9 rfl, e_wp dX0_allSag_12 rfl, e_wp dX0_allSag_15 rfl, e_wp dX0_allSag_16 rfl, e_wp dX0_allSag_17 rfl, e_wp dX0_allSag_18 rfl, e_wp dX0_allSag_21 rfl, e_wp dX0_allSag_22 rfl, e_wp dX0_allSag_23 rfl, e_wp dX0_allSag_26 rfl, e_wp dX0_allSag_29 rfl, e_wp dX0_allSag_30 rfl, g0_10, g0_153, c0_sagOf, P0_sagOf, V0_sagOf, cs0_allSag, e_iconst, e_bipush, e_sipush, e_lconst_0, e_lconst_1, e_iload, e_iload_0, e_iload_1, e_iload_2, e_iload_3, e_lload, e_lload_0, e_lload_1, e_lload_2, e_lload_3, e_aload, e_aload_0, e_aload_1, e_aload_2, e_aload_3, e_istore, e_istore_0, e_istore_1, e_istore_2, e_istore_3, e_astore, e_astore_0, e_astore_1, e_astore_2, e_astore_3, e_lstore, e_lstore_0, e_lstore_1, e_lstore_2, e_lstore_3, e_iinc, e_iadd, e_isub, e_imul, e_ladd, e_lsub, e_lmul, e_idiv, e_irem, e_ldiv, e_lrem, e_ineg, e_lneg, e_iand, e_ior, e_ixor, e_ishl, e_ishr, e_iushr, e_lcmp, e_i2l, e_l2i, e_i2b, e_i2s, e_dup_i, e_dup_r, e_pop_i, e_pop_r, e_dup2_l, e_dup2_ir, e_dup2_ii, e_ifeq, e_ifne, e_iflt, e_ifge, e_ifgt, e_ifle, e_iceq, e_icne, e_iclt, e_icge, e_icgt, e_icle, e_goto, e_switch, e_invokevirtual, e_invokestatic, e_invokespecial, e_ret0, e_ret1, e_ret2, e_ret3, ldI_s, ldL_s, ldR_s, clO_s, ctP_s, ctS_s, mgo_0, mgo_s, pjc_s, pj_0, pj_s, lk_s, rm1_0, rm1_i, rm1_r, rm1_l, rm2_0, rm2_i, rm2_r, rm2_l, csL_s, lc_lt, lc_ge, lc_gt, lc_le, lc_eq, b01_0, b01_1, b01_01, b01_n, up2_o, up2_s, up2_u, ne_eq, reduceCtorEq, Nat.reduceAdd, Nat.reduceEqDiff, Nat.reduceLT, Nat.reduceLeDiff, Int.reduceLE, Int.reduceLT, Int.reduceAdd, Int.reduceNeg, Int.reduceMul, Int.reduceSub, Int.reduceEq, Int.reduceToNat, Int.reduceNatCast, Int.cast_ofNat_Int, ↓reduceIte, and_self, List.drop_succ_cons, List.drop_zero, List.take_succ_cons, List.take_zero, List.length_cons, List.length_nil, List.reverse_cons, List.reverse_nil, List.nil_append, List.cons_append, Option.toList, true_and, and_true, or_false, false_or, or_true, true_or, forall_const, Classical.not_not, not_false_eq_true, not_true_eq_false, false_implies, true_implies, implies_true, imp_self]
  exact hI_4 _ _ _ _ ⟨rfl, 0, rfl, h3.1, rfl, rfl⟩
set_option maxHeartbeats 4000000 in
set_option maxRecDepth 100000 in
theorem at0_allSag_4 {rs : List (Nat × Nat)} {M : Mm} {Q : Option AV → Mm → Prop} (hM : okM (sh8 rs) M) (hP : P0_allSag rs M) (hQ : Q (some (ai (V0_allSag rs M))) M) {m : Nat} {n b : Int} {M1 : Mm} (hM1 : okM (sh8 rs) M1) (h_n : i32 n) (h_b : i32 b) (hJ : J0_allSag_4 rs M m n b M1) (I_4 : List AV → Mm → Prop) (hI_4 : ∀ (m_ : Nat) (y_n : Int) (y_b : Int) (M2 : Mm), m_ < m → J0_allSag_4 rs M m_ y_n y_b M2 → I_4 [ar 0, ai y_n, ai y_b] M2) : wp (tb0 (csL (cs0_allSag rs))) (sh8 rs) 3 1 cX0_allSag [(4, [0, 1, 2], I_4)] Q 400 4 [(0, ar 0), (1, ai n), (2, ai b)] [] M1 := by
  obtain ⟨rfl, a, rfl, ha, rfl, rfl⟩ := hJ
  have h3 := hP.1
  have hb : ∀ k : Nat, (k : Int) < M 1 4 → 0 ≤ sagP (mbX M k) ∧ sagP (mbX M k) ≤ 792 := by
    intro k hk
    have o := hP.2 k hk
    have s1 := sagP_b o.2.2
    have s2 := mb_lenX o
    have s3 := o.2.1
    omega
  have hs := sumN_b (f := fun b => sagP (mbX M b)) (n := a) (fun k hk => hb k (by omega))
  simp only [e_wp dX0_allSag_0 rfl, e_wp dX0_allSag_1 rfl, e_wp dX0_allSag_2 rfl, e_wp dX0_allSag_3 rfl, e_wp dX0_allSag_4 rfl, e_wp dX0_allSag_5 rfl, e_wp dX0_allSag_6 rfl, e_wp dX0_allSag_9 rfl, e_wp dX0_allSag_12 rfl, e_wp dX0_allSag_15 rfl, e_wp dX0_allSag_16 rfl, e_wp dX0_allSag_17 rfl, e_wp dX0_allSag_18 rfl, e_wp dX0_allSag_21 rfl, e_wp dX0_allSag_22 rfl, e_wp dX0_allSag_23 rfl, e_wp dX0_allSag_26 rfl, e_wp dX0_allSag_29 rfl, e_wp dX0_allSag_30 rfl, g0_10, g0_153, c0_sagOf, P0_sagOf, V0_sagOf, cs0_allSag, e_iconst, e_bipush, e_sipush, e_lconst_0, e_lconst_1, e_iload, e_iload_0, e_iload_1, e_iload_2, e_iload_3, e_lload, e_lload_0, e_lload_1, e_lload_2, e_lload_3, e_aload, e_aload_0, e_aload_1, e_aload_2, e_aload_3, e_istore, e_istore_0, e_istore_1, e_istore_2, e_istore_3, e_astore, e_astore_0, e_astore_1, e_astore_2, e_astore_3, e_lstore, e_lstore_0, e_lstore_1, e_lstore_2, e_lstore_3, e_iinc, e_iadd, e_isub, e_imul, e_ladd, e_lsub, e_lmul, e_idiv, e_irem, e_ldiv, e_lrem, e_ineg, e_lneg, e_iand, e_ior, e_ixor, e_ishl, e_ishr, e_iushr, e_lcmp, e_i2l, e_l2i, e_i2b, e_i2s, e_dup_i, e_dup_r, e_pop_i, e_pop_r, e_dup2_l, e_dup2_ir, e_dup2_ii, e_ifeq, e_ifne, e_iflt, e_ifge, e_ifgt, e_ifle, e_iceq, e_icne, e_iclt, e_icge, e_icgt, e_icle, e_goto, e_switch, e_invokevirtual, e_invokestatic, e_invokespecial, e_ret0, e_ret1, e_ret2, e_ret3, ldI_s, ldL_s, ldR_s, clO_s, ctP_s, ctS_s, mgo_0, mgo_s, pjc_s, pj_0, pj_s, lk_s, rm1_0, rm1_i, rm1_r, rm1_l, rm2_0, rm2_i, rm2_r, rm2_l, csL_s, lc_lt, lc_ge, lc_gt, lc_le, lc_eq, b01_0, b01_1, b01_01, b01_n, up2_o, up2_s, up2_u, ne_eq, reduceCtorEq, Nat.reduceAdd, Nat.reduceEqDiff, Nat.reduceLT, Nat.reduceLeDiff, Int.reduceLE, Int.reduceLT, Int.reduceAdd, Int.reduceNeg, Int.reduceMul, Int.reduceSub, Int.reduceEq, Int.reduceToNat, Int.reduceNatCast, Int.cast_ofNat_Int, ↓reduceIte, and_self, List.drop_succ_cons, List.drop_zero, List.take_succ_cons, List.take_zero, List.length_cons, List.length_nil, List.reverse_cons, List.reverse_nil, List.nil_append, List.cons_append, Option.toList, true_and, and_true, or_false, false_or, or_true, true_or, forall_const, Classical.not_not, not_false_eq_true, not_true_eq_false, false_implies, true_implies, implies_true, imp_self]
  refine ⟨fun q => ?_, fun q => ?_⟩
  · refine qeq hQ ?_
    unfold V0_allSag
    rw [show (M 1 4).toNat = a by omega]
  · have hx := hb a q
    refine ⟨hP.2 a q, ?_⟩
    repeat (refine And.intro (by omega) ?_)
    exact hI_4 (3 - (a + 1)) _ _ _ (by omega) ⟨rfl, a + 1, by omega, by omega, rfl, rfl⟩
set_option maxHeartbeats 4000000 in
set_option maxRecDepth 100000 in
theorem m0_allSag {rs : List (Nat × Nat)} : MOK cl8 (sh8 rs) tyl8 Nws8 1 yX0_allSag cX0_allSag 3 (some .int) (sp0_allSag rs) := by
  refine mok_of (own := RX0) (tb := tb0 (csL (cs0_allSag rs))) (rt := 1) (fuel := 400) (fun avs M Q => [(4, [0, 1, 2], fun m_ vs M1 => ∃ y_n : Int, ∃ y_b : Int, vs = [ar 0, ai y_n, ai y_b] ∧ J0_allSag_4 rs M m_ y_n y_b M1)]) (by decide) rfl nws8_ok (tbOK0 _) rfl (csL_all ?_) ?_ ?_ ?_
  · intro q hq
    simp only [cs0_allSag, List.mem_cons, List.not_mem_nil, or_false] at hq
    rcases hq with rfl
    · exact cg0_sagOf (by decide)
  · intro avs M Q hsp
    obtain ⟨xs, hx⟩ := spF_un _ _ _ hsp
    obtain ⟨e, hl⟩ := unA_mkT hx
    obtain rfl := len0 hl
    have e : avs = [ar 0] := e
    subst e
    simp [szL, isL]
  · intro avs M Q hM hav hsp
    obtain ⟨xs, hx⟩ := spF_un _ _ _ hsp
    obtain ⟨e, hl⟩ := unA_mkT hx
    obtain rfl := len0 hl
    have e : avs = [ar 0] := e
    subst e
    exact in0_allSag hM hsp.1 hsp.2 _ (fun m_ y_n y_b M2 hJ => ⟨m_, y_n, y_b, rfl, hJ⟩)
  · intro avs M Q hM hav hsp q hq m_ vs M1 hM1 hv hJ
    obtain ⟨xs, hx⟩ := spF_un _ _ _ hsp
    obtain ⟨e, hl⟩ := unA_mkT hx
    obtain rfl := len0 hl
    have e : avs = [ar 0] := e
    subst e
    simp only [List.mem_cons, List.not_mem_nil, or_false] at hq
    rcases hq with rfl
    · obtain ⟨y_n, y_b, rfl, hJ⟩ := hJ
      exact at0_allSag_4 hM hsp.1 hsp.2 hM1 (hv (1, ai y_n) (List.mem_of_getElem? (i := 1) rfl)) (hv (2, ai y_b) (List.mem_of_getElem? (i := 2) rfl)) hJ _ (fun m2 z_n z_b M2 hm hJ2 => ⟨m2, hm, z_n, z_b, rfl, hJ2⟩)
theorem cg0_allSag {rs : List (Nat × Nat)} {lvl : Nat} (h : 1 < lvl) : CG RX0 cl8 (sh8 rs) tyl8 Nws8 lvl 1 267 1 (sp0_allSag rs) := cg_V (sg := []) nws8_ok spF_mono spF_un m0_allSag h rfl (by decide) rfl rfl ⟨rfl, by decide, by decide, rfl⟩ q992 q994 qs36 q128 q995
def P0_all (rs : List (Nat × Nat)) (t : Int) (M : Mm) : Prop := okX M
def R0_all (rs : List (Nat × Nat)) (t : Int) (M : Mm) (v : Int) (M1 : Mm) : Prop := keepX M M1 ∧ v = A_all (vX M) t
def sp0_all (rs : List (Nat × Nat)) : Spec := spR true [0] 1 (fun x M => P0_all rs (x 0) M) (fun x M v M1 => R0_all rs (x 0) M v M1)
theorem c0_all {rs : List (Nat × Nat)} {t : Int} {M : Mm} {Q : Option AV → Mm → Prop} : sp0_all rs [ar 0, ai t] M Q = (P0_all rs t M ∧ ∀ (v : Int) (M1 : Mm), R0_all rs t M v M1 → Q (some (ai v)) M1) := rfl
def cs0_all (rs : List (Nat × Nat)) : List (Nat × Nat × Nat × Spec) := [(263, 1, 2, (sp0_asksCart rs))]
def J0_all_15 (rs : List (Nat × Nat)) (t : Int) (M : Mm) (m : Nat) (t_ : Int) (n : Int) (b : Int) (M1 : Mm) : Prop := t = t_ ∧ isC (vX M) t ∧ keepX M M1 ∧ laidX (vX M) (tellP (vX M)) M1 ∧ ∃ a : Nat, b = a ∧ (a : Int) ≤ M 1 4 ∧ n = sumN (fun b => sagP ((rT (vX M) (t.toNat + 1)).1 b)) a ∧ m = 3 - a
set_option maxHeartbeats 4000000 in
set_option maxRecDepth 100000 in
theorem in0_all {rs : List (Nat × Nat)} {t : Int} {M : Mm} {Q : Option AV → Mm → Prop} (hM : okM (sh8 rs) M) (h_t : i32 t) (hP : P0_all rs t M) (hQ : ∀ (v : Int) (M1 : Mm), R0_all rs t M v M1 → Q (some (ai v)) M1) (I_15 : List AV → Mm → Prop) (hI_15 : ∀ (m_ : Nat) (y_t_ : Int) (y_n : Int) (y_b : Int) (M2 : Mm), J0_all_15 rs t M m_ y_t_ y_n y_b M2 → I_15 [ar 0, ai y_t_, ai y_n, ai y_b] M2) : wp (tb0 (csL (cs0_all rs))) (sh8 rs) 4 1 cX0_all [(15, [0, 1, 2, 3], I_15)] Q 400 0 [(0, ar 0), (1, ai t)] [] M := by
  obtain ⟨hY, hB⟩ := id hP
  have h3 : 0 ≤ M 1 4 ∧ M 1 4 ≤ 3 := (okY_n hY).1
  simp only [e_wp dX0_all_0 rfl, e_wp dX0_all_1 rfl, e_wp dX0_all_2 rfl, e_wp dX0_all_5 rfl, e_wp dX0_all_8 rfl, e_wp dX0_all_10 rfl, e_wp dX0_all_11 rfl, e_wp dX0_all_12 rfl, e_wp dX0_all_13 rfl, e_wp dX0_all_14 rfl, e_wp dX0_all_15 rfl, e_wp dX0_all_16 rfl, e_wp dX0_all_17 rfl, e_wp dX0_all_20 rfl, e_wp dX0_all_23 rfl, e_wp dX0_all_26 rfl, e_wp dX0_all_27 rfl, e_wp dX0_all_28 rfl, e_wp dX0_all_31 rfl, e_wp dX0_all_32 rfl, e_wp dX0_all_33 rfl, e_wp dX0_all_34 rfl, e_wp dX0_all_35 rfl, e_wp dX0_all_36 rfl, e_wp dX0_all_37 rfl, e_wp dX0_all_38 rfl, e_wp dX0_all_39 rfl, e_wp dX0_all_42 rfl, e_wp dX0_all_45 rfl, e_wp dX0_all_46 rfl, c0_asksCart, cs0_all, g0_10, g0_153, g0_92, a8_13, w8_13, a8_14, w8_14, a8_15, w8_15, a8_16, w8_16, a8_17, w8_17, a8_18, w8_18, a8_19, w8_19, a8_20, w8_20, a8_21, w8_21, a8_22, w8_22, a8_23, w8_23, a8_24, w8_24, a8_25, w8_25, a8_26, w8_26, a8_27, w8_27, a8_28, w8_28, a8_29, w8_29, a8_30, w8_30, a8_31, w8_31, a8_32, w8_32, a8_33, w8_33, a8_34, w8_34, a8_35, w8_35, a8_36, w8_36, a8_37, w8_37, a8_38, w8_38, a8_39, w8_39, a8_40, w8_40, a8_12, w8_12, a8_6, a8_7, e_iconst, e_bipush, e_sipush, e_lconst_0, e_lconst_1, e_iload, e_iload_0, e_iload_1, e_iload_2, e_iload_3, e_lload, e_lload_0, e_lload_1, e_lload_2, e_lload_3, e_aload, e_aload_0, e_aload_1, e_aload_2, e_aload_3, e_istore, e_istore_0, e_istore_1, e_istore_2, e_istore_3, e_astore, e_astore_0, e_astore_1, e_astore_2, e_astore_3, e_lstore, e_lstore_0, e_lstore_1, e_lstore_2, e_lstore_3, e_iinc, e_iadd, e_isub, e_imul, e_ladd, e_lsub, e_lmul, e_idiv, e_irem, e_ldiv, e_lrem, e_ineg, e_lneg, e_iand, e_ior, e_ixor, e_ishl, e_ishr, e_iushr, e_lcmp, e_i2l, e_l2i, e_i2b, e_i2s, e_dup_i, e_dup_r, e_pop_i, e_pop_r, e_dup2_l, e_dup2_ir, e_dup2_ii, e_ifeq, e_ifne, e_iflt, e_ifge, e_ifgt, e_ifle, e_iceq, e_icne, e_iclt, e_icge, e_icgt, e_icle, e_goto, e_switch, e_invokevirtual, e_invokestatic, e_invokespecial, e_ret0, e_ret1, e_ret2, e_ret3, ldI_s, ldL_s, ldR_s, clO_s, ctP_s, ctS_s, mgo_0, mgo_s, pjc_s, pj_0, pj_s, lk_s, rm1_0, rm1_i, rm1_r, rm1_l, rm2_0, rm2_i, rm2_r, rm2_l, csL_s, lc_lt, lc_ge, lc_gt, lc_le, lc_eq, b01_0, b01_1, b01_01, b01_n, up2_o, up2_s, up2_u, ne_eq, reduceCtorEq, Nat.reduceAdd, Nat.reduceEqDiff, Nat.reduceLT, Nat.reduceLeDiff, Int.reduceLE, Int.reduceLT, Int.reduceAdd, Int.reduceNeg, Int.reduceMul, Int.reduceSub, Int.reduceEq, Int.reduceToNat, Int.reduceNatCast, Int.cast_ofNat_Int, ↓reduceIte, and_self, List.drop_succ_cons, List.drop_zero, List.take_succ_cons, List.take_zero, List.length_cons, List.length_nil, List.reverse_cons, List.reverse_nil, List.nil_append, List.cons_append, Option.toList, true_and, and_true, or_false, false_or, or_true, true_or, forall_const, Classical.not_not, not_false_eq_true, not_true_eq_false, false_implies, true_implies, implies_true, imp_self]
  refine ⟨⟨hY, hB⟩, fun v M1 hR => ?_⟩
  obtain ⟨r1, r2, r3⟩ := hR
  refine ⟨fun z => ?_, fun z => hQ _ _ ⟨r1, ?_⟩⟩
  · rw [r2, b01_0] at z
    exact hI_15 _ _ _ _ _ ⟨rfl, Classical.not_not.mp z, r1, r3, 0, rfl, h3.1, rfl, rfl⟩
  · rw [r2, b01_0] at z
    exact (if_neg z).symm
set_option maxHeartbeats 4000000 in
set_option maxRecDepth 100000 in
theorem at0_all_15 {rs : List (Nat × Nat)} {t : Int} {M : Mm} {Q : Option AV → Mm → Prop} (hM : okM (sh8 rs) M) (h_t : i32 t) (hP : P0_all rs t M) (hQ : ∀ (v : Int) (M1 : Mm), R0_all rs t M v M1 → Q (some (ai v)) M1) {m : Nat} {t_ n b : Int} {M1 : Mm} (hM1 : okM (sh8 rs) M1) (h_t_ : i32 t_) (h_n : i32 n) (h_b : i32 b) (hJ : J0_all_15 rs t M m t_ n b M1) (I_15 : List AV → Mm → Prop) (hI_15 : ∀ (m_ : Nat) (y_t_ : Int) (y_n : Int) (y_b : Int) (M2 : Mm), m_ < m → J0_all_15 rs t M m_ y_t_ y_n y_b M2 → I_15 [ar 0, ai y_t_, ai y_n, ai y_b] M2) : wp (tb0 (csL (cs0_all rs))) (sh8 rs) 4 1 cX0_all [(15, [0, 1, 2, 3], I_15)] Q 400 15 [(0, ar 0), (1, ai t_), (2, ai n), (3, ai b)] [] M1 := by
  obtain ⟨rfl, hc, hk, k2, a, rfl, ha, rfl, rfl⟩ := hJ
  obtain ⟨hY, hB⟩ := id hP
  have h3 : 0 ≤ M 1 4 ∧ M 1 4 ≤ 3 := (okY_n hY).1
  have h4 : 0 ≤ M 1 5 ∧ M 1 5 ≤ 7 := (okY_n hY).2.1
  have e1 := keepX_1 hk
  obtain ⟨u, rfl⟩ := Int.eq_ofNat_of_zero_le hc.1
  have hu : (u : Int) < M 1 5 := hc.2
  rw [Int.toNat_natCast] at *
  have hb : ∀ k : Nat, 0 ≤ sagP ((rT (vX M) (u + 1)).1 k) ∧ sagP ((rT (vX M) (u + 1)).1 k) ≤ 792 := sag_rg hY (by show ((u + 1 : Nat) : Int) ≤ M 1 5; omega)
  have i1 : ((3 : Int) * u + a).toNat = 3 * u + a := by omega
  simp only [e_wp dX0_all_0 rfl, e_wp dX0_all_1 rfl, e_wp dX0_all_2 rfl, e_wp dX0_all_5 rfl, e_wp dX0_all_8 rfl, e_wp dX0_all_10 rfl, e_wp dX0_all_11 rfl, e_wp dX0_all_12 rfl, e_wp dX0_all_13 rfl, e_wp dX0_all_14 rfl, e_wp dX0_all_15 rfl, e_wp dX0_all_16 rfl, e_wp dX0_all_17 rfl, e_wp dX0_all_20 rfl, e_wp dX0_all_23 rfl, e_wp dX0_all_26 rfl, e_wp dX0_all_27 rfl, e_wp dX0_all_28 rfl, e_wp dX0_all_31 rfl, e_wp dX0_all_32 rfl, e_wp dX0_all_33 rfl, e_wp dX0_all_34 rfl, e_wp dX0_all_35 rfl, e_wp dX0_all_36 rfl, e_wp dX0_all_37 rfl, e_wp dX0_all_38 rfl, e_wp dX0_all_39 rfl, e_wp dX0_all_42 rfl, e_wp dX0_all_45 rfl, e_wp dX0_all_46 rfl, c0_asksCart, cs0_all, g0_10, g0_153, g0_92, a8_13, w8_13, a8_14, w8_14, a8_15, w8_15, a8_16, w8_16, a8_17, w8_17, a8_18, w8_18, a8_19, w8_19, a8_20, w8_20, a8_21, w8_21, a8_22, w8_22, a8_23, w8_23, a8_24, w8_24, a8_25, w8_25, a8_26, w8_26, a8_27, w8_27, a8_28, w8_28, a8_29, w8_29, a8_30, w8_30, a8_31, w8_31, a8_32, w8_32, a8_33, w8_33, a8_34, w8_34, a8_35, w8_35, a8_36, w8_36, a8_37, w8_37, a8_38, w8_38, a8_39, w8_39, a8_40, w8_40, a8_12, w8_12, a8_6, a8_7, e_iconst, e_bipush, e_sipush, e_lconst_0, e_lconst_1, e_iload, e_iload_0, e_iload_1, e_iload_2, e_iload_3, e_lload, e_lload_0, e_lload_1, e_lload_2, e_lload_3, e_aload, e_aload_0, e_aload_1, e_aload_2, e_aload_3, e_istore, e_istore_0, e_istore_1, e_istore_2, e_istore_3, e_astore, e_astore_0, e_astore_1, e_astore_2, e_astore_3, e_lstore, e_lstore_0, e_lstore_1, e_lstore_2, e_lstore_3, e_iinc, e_iadd, e_isub, e_imul, e_ladd, e_lsub, e_lmul, e_idiv, e_irem, e_ldiv, e_lrem, e_ineg, e_lneg, e_iand, e_ior, e_ixor, e_ishl, e_ishr, e_iushr, e_lcmp, e_i2l, e_l2i, e_i2b, e_i2s, e_dup_i, e_dup_r, e_pop_i, e_pop_r, e_dup2_l, e_dup2_ir, e_dup2_ii, e_ifeq, e_ifne, e_iflt, e_ifge, e_ifgt, e_ifle, e_iceq, e_icne, e_iclt, e_icge, e_icgt, e_icle, e_goto, e_switch, e_invokevirtual, e_invokestatic, e_invokespecial, e_ret0, e_ret1, e_ret2, e_ret3, ldI_s, ldL_s, ldR_s, clO_s, ctP_s, ctS_s, mgo_0, mgo_s, pjc_s, pj_0, pj_s, lk_s, rm1_0, rm1_i, rm1_r, rm1_l, rm2_0, rm2_i, rm2_r, rm2_l, csL_s, lc_lt, lc_ge, lc_gt, lc_le, lc_eq, b01_0, b01_1, b01_01, b01_n, up2_o, up2_s, up2_u, ne_eq, reduceCtorEq, Nat.reduceAdd, Nat.reduceEqDiff, Nat.reduceLT, Nat.reduceLeDiff, Int.reduceLE, Int.reduceLT, Int.reduceAdd, Int.reduceNeg, Int.reduceMul, Int.reduceSub, Int.reduceEq, Int.reduceToNat, Int.reduceNatCast, Int.cast_ofNat_Int, ↓reduceIte, and_self, List.drop_succ_cons, List.drop_zero, List.take_succ_cons, List.take_zero, List.length_cons, List.length_nil, List.reverse_cons, List.reverse_nil, List.nil_append, List.cons_append, Option.toList, true_and, and_true, or_false, false_or, or_true, true_or, forall_const, Classical.not_not, not_false_eq_true, not_true_eq_false, false_implies, true_implies, implies_true, imp_self, e1, i1]
  refine ⟨fun q => hQ _ _ ⟨hk, ?_⟩, fun q => ?_⟩
  · rw [show A_all (vX M) u = _ from if_pos hc, Int.toNat_natCast, show (vX M 0 3).toNat = a by show (M 1 4).toNat = a; omega]
  · have hs := sumN_b (f := fun b => sagP ((rT (vX M) (u + 1)).1 b)) (n := a) (fun k _ => hb k)
    have hx := hb a
    have ta : M1 28 (3 * u + a) = sagP ((rT (vX M) (u + 1)).1 a) := (laid_tab k2 hc.2 q).2.2.2.1
    rw [ta]
    repeat (refine And.intro (by omega) ?_)
    refine hI_15 (3 - (a + 1)) _ _ _ _ (by omega) ⟨rfl, hc, hk, k2, a + 1, by omega, by omega, ?_, rfl⟩
    rw [Int.toNat_natCast]; first | done | rfl
set_option maxHeartbeats 4000000 in
set_option maxRecDepth 100000 in
theorem m0_all {rs : List (Nat × Nat)} : MOK cl8 (sh8 rs) tyl8 Nws8 8 yX0_all cX0_all 4 (some .int) (sp0_all rs) := by
  refine mok_of (own := RX0) (tb := tb0 (csL (cs0_all rs))) (rt := 1) (fuel := 400) (fun avs M Q => [(15, [0, 1, 2, 3], fun m_ vs M1 => ∃ y_t_ : Int, ∃ y_n : Int, ∃ y_b : Int, vs = [ar 0, ai y_t_, ai y_n, ai y_b] ∧ J0_all_15 rs (pa true [0] avs 0) M m_ y_t_ y_n y_b M1)]) (by decide) rfl nws8_ok (tbOK0 _) rfl (csL_all ?_) ?_ ?_ ?_
  · intro q hq
    simp only [cs0_all, List.mem_cons, List.not_mem_nil, or_false] at hq
    rcases hq with rfl
    · exact cg0_asksCart (by decide)
  · intro avs M Q hsp
    obtain ⟨xs, hx⟩ := spR_un _ _ _ hsp
    obtain ⟨e, hl⟩ := unA_mkT hx
    obtain ⟨t, rfl⟩ := len1 hl
    have e : avs = [ar 0, ai t] := e
    subst e
    simp [szL, isL]
  · intro avs M Q hM hav hsp
    obtain ⟨xs, hx⟩ := spR_un _ _ _ hsp
    obtain ⟨e, hl⟩ := unA_mkT hx
    obtain ⟨t, rfl⟩ := len1 hl
    have e : avs = [ar 0, ai t] := e
    subst e
    exact in0_all hM (hav (ai t) (by simp)) hsp.1 hsp.2 _ (fun m_ y_t_ y_n y_b M2 hJ => ⟨m_, y_t_, y_n, y_b, rfl, hJ⟩)
  · intro avs M Q hM hav hsp q hq m_ vs M1 hM1 hv hJ
    obtain ⟨xs, hx⟩ := spR_un _ _ _ hsp
    obtain ⟨e, hl⟩ := unA_mkT hx
    obtain ⟨t, rfl⟩ := len1 hl
    have e : avs = [ar 0, ai t] := e
    subst e
    simp only [List.mem_cons, List.not_mem_nil, or_false] at hq
    rcases hq with rfl
    · obtain ⟨y_t_, y_n, y_b, rfl, hJ⟩ := hJ
      exact at0_all_15 hM (hav (ai t) (by simp)) hsp.1 hsp.2 hM1 (hv (1, ai y_t_) (List.mem_of_getElem? (i := 1) rfl)) (hv (2, ai y_n) (List.mem_of_getElem? (i := 2) rfl)) (hv (3, ai y_b) (List.mem_of_getElem? (i := 3) rfl)) hJ _ (fun m2 z_t_ z_n z_b M2 hm hJ2 => ⟨m2, hm, z_t_, z_n, z_b, rfl, hJ2⟩)
def P0_deepest (rs : List (Nat × Nat)) (t : Int) (M : Mm) : Prop := okX M
def R0_deepest (rs : List (Nat × Nat)) (t : Int) (M : Mm) (v : Int) (M1 : Mm) : Prop := keepX M M1 ∧ v = A_deepest (vX M) t
def sp0_deepest (rs : List (Nat × Nat)) : Spec := spR true [0] 1 (fun x M => P0_deepest rs (x 0) M) (fun x M v M1 => R0_deepest rs (x 0) M v M1)
theorem c0_deepest {rs : List (Nat × Nat)} {t : Int} {M : Mm} {Q : Option AV → Mm → Prop} : sp0_deepest rs [ar 0, ai t] M Q = (P0_deepest rs t M ∧ ∀ (v : Int) (M1 : Mm), R0_deepest rs t M v M1 → Q (some (ai v)) M1) := rfl
def cs0_deepest (rs : List (Nat × Nat)) : List (Nat × Nat × Nat × Spec) := [(263, 1, 2, (sp0_asksCart rs))]
def J0_deepest_15 (rs : List (Nat × Nat)) (t : Int) (M : Mm) (m : Nat) (t_ : Int) (n : Int) (b : Int) (M1 : Mm) : Prop := t = t_ ∧ isC (vX M) t ∧ keepX M M1 ∧ laidX (vX M) (tellP (vX M)) M1 ∧ ∃ a : Nat, b = a ∧ (a : Int) ≤ M 1 4 ∧ n = dpR (fun b => sagP ((rT (vX M) (t.toNat + 1)).1 b)) a ∧ m = 3 - a
set_option maxHeartbeats 4000000 in
set_option maxRecDepth 100000 in
theorem in0_deepest {rs : List (Nat × Nat)} {t : Int} {M : Mm} {Q : Option AV → Mm → Prop} (hM : okM (sh8 rs) M) (h_t : i32 t) (hP : P0_deepest rs t M) (hQ : ∀ (v : Int) (M1 : Mm), R0_deepest rs t M v M1 → Q (some (ai v)) M1) (I_15 : List AV → Mm → Prop) (hI_15 : ∀ (m_ : Nat) (y_t_ : Int) (y_n : Int) (y_b : Int) (M2 : Mm), J0_deepest_15 rs t M m_ y_t_ y_n y_b M2 → I_15 [ar 0, ai y_t_, ai y_n, ai y_b] M2) : wp (tb0 (csL (cs0_deepest rs))) (sh8 rs) 4 1 cX0_deepest [(15, [0, 1, 2, 3], I_15)] Q 400 0 [(0, ar 0), (1, ai t)] [] M := by
  obtain ⟨hY, hB⟩ := id hP
  have h3 : 0 ≤ M 1 4 ∧ M 1 4 ≤ 3 := (okY_n hY).1
  simp only [e_wp dX0_deepest_0 rfl, e_wp dX0_deepest_1 rfl, e_wp dX0_deepest_2 rfl, e_wp dX0_deepest_5 rfl, e_wp dX0_deepest_8 rfl, e_wp dX0_deepest_10 rfl, e_wp dX0_deepest_11 rfl, e_wp dX0_deepest_12 rfl, e_wp dX0_deepest_13 rfl, e_wp dX0_deepest_14 rfl, e_wp dX0_deepest_15 rfl, e_wp dX0_deepest_16 rfl, e_wp dX0_deepest_17 rfl, e_wp dX0_deepest_20 rfl, e_wp dX0_deepest_23 rfl, e_wp dX0_deepest_26 rfl, e_wp dX0_deepest_27 rfl, e_wp dX0_deepest_28 rfl, e_wp dX0_deepest_31 rfl, e_wp dX0_deepest_32 rfl, e_wp dX0_deepest_35 rfl, e_wp dX0_deepest_36 rfl, e_wp dX0_deepest_37 rfl, e_wp dX0_deepest_38 rfl, e_wp dX0_deepest_39 rfl, e_wp dX0_deepest_40 rfl, e_wp dX0_deepest_41 rfl, e_wp dX0_deepest_42 rfl, e_wp dX0_deepest_45 rfl, e_wp dX0_deepest_46 rfl, e_wp dX0_deepest_47 rfl, e_wp dX0_deepest_48 rfl, e_wp dX0_deepest_49 rfl, e_wp dX0_deepest_50 rfl, e_wp dX0_deepest_51 rfl, e_wp dX0_deepest_54 rfl, e_wp dX0_deepest_55 rfl, e_wp dX0_deepest_56 rfl, e_wp dX0_deepest_59 rfl, e_wp dX0_deepest_62 rfl, e_wp dX0_deepest_63 rfl, c0_asksCart, cs0_deepest, g0_10, g0_153, g0_92, a8_13, w8_13, a8_14, w8_14, a8_15, w8_15, a8_16, w8_16, a8_17, w8_17, a8_18, w8_18, a8_19, w8_19, a8_20, w8_20, a8_21, w8_21, a8_22, w8_22, a8_23, w8_23, a8_24, w8_24, a8_25, w8_25, a8_26, w8_26, a8_27, w8_27, a8_28, w8_28, a8_29, w8_29, a8_30, w8_30, a8_31, w8_31, a8_32, w8_32, a8_33, w8_33, a8_34, w8_34, a8_35, w8_35, a8_36, w8_36, a8_37, w8_37, a8_38, w8_38, a8_39, w8_39, a8_40, w8_40, a8_12, w8_12, a8_6, a8_7, e_iconst, e_bipush, e_sipush, e_lconst_0, e_lconst_1, e_iload, e_iload_0, e_iload_1, e_iload_2, e_iload_3, e_lload, e_lload_0, e_lload_1, e_lload_2, e_lload_3, e_aload, e_aload_0, e_aload_1, e_aload_2, e_aload_3, e_istore, e_istore_0, e_istore_1, e_istore_2, e_istore_3, e_astore, e_astore_0, e_astore_1, e_astore_2, e_astore_3, e_lstore, e_lstore_0, e_lstore_1, e_lstore_2, e_lstore_3, e_iinc, e_iadd, e_isub, e_imul, e_ladd, e_lsub, e_lmul, e_idiv, e_irem, e_ldiv, e_lrem, e_ineg, e_lneg, e_iand, e_ior, e_ixor, e_ishl, e_ishr, e_iushr, e_lcmp, e_i2l, e_l2i, e_i2b, e_i2s, e_dup_i, e_dup_r, e_pop_i, e_pop_r, e_dup2_l, e_dup2_ir, e_dup2_ii, e_ifeq, e_ifne, e_iflt, e_ifge, e_ifgt, e_ifle, e_iceq, e_icne, e_iclt, e_icge, e_icgt, e_icle, e_goto, e_switch, e_invokevirtual, e_invokestatic, e_invokespecial, e_ret0, e_ret1, e_ret2, e_ret3, ldI_s, ldL_s, ldR_s, clO_s, ctP_s, ctS_s, mgo_0, mgo_s, pjc_s, pj_0, pj_s, lk_s, rm1_0, rm1_i, rm1_r, rm1_l, rm2_0, rm2_i, rm2_r, rm2_l, csL_s, lc_lt, lc_ge, lc_gt, lc_le, lc_eq, b01_0, b01_1, b01_01, b01_n, up2_o, up2_s, up2_u, ne_eq, reduceCtorEq, Nat.reduceAdd, Nat.reduceEqDiff, Nat.reduceLT, Nat.reduceLeDiff, Int.reduceLE, Int.reduceLT, Int.reduceAdd, Int.reduceNeg, Int.reduceMul, Int.reduceSub, Int.reduceEq, Int.reduceToNat, Int.reduceNatCast, Int.cast_ofNat_Int, ↓reduceIte, and_self, List.drop_succ_cons, List.drop_zero, List.take_succ_cons, List.take_zero, List.length_cons, List.length_nil, List.reverse_cons, List.reverse_nil, List.nil_append, List.cons_append, Option.toList, true_and, and_true, or_false, false_or, or_true, true_or, forall_const, Classical.not_not, not_false_eq_true, not_true_eq_false, false_implies, true_implies, implies_true, imp_self]
  refine ⟨⟨hY, hB⟩, fun v M1 hR => ?_⟩
  obtain ⟨r1, r2, r3⟩ := hR
  refine ⟨fun z => ?_, fun z => hQ _ _ ⟨r1, ?_⟩⟩
  · rw [r2, b01_0] at z
    exact hI_15 _ _ _ _ _ ⟨rfl, Classical.not_not.mp z, r1, r3, 0, rfl, h3.1, rfl, rfl⟩
  · rw [r2, b01_0] at z
    exact (if_neg z).symm
set_option maxHeartbeats 4000000 in
set_option maxRecDepth 100000 in
theorem at0_deepest_15 {rs : List (Nat × Nat)} {t : Int} {M : Mm} {Q : Option AV → Mm → Prop} (hM : okM (sh8 rs) M) (h_t : i32 t) (hP : P0_deepest rs t M) (hQ : ∀ (v : Int) (M1 : Mm), R0_deepest rs t M v M1 → Q (some (ai v)) M1) {m : Nat} {t_ n b : Int} {M1 : Mm} (hM1 : okM (sh8 rs) M1) (h_t_ : i32 t_) (h_n : i32 n) (h_b : i32 b) (hJ : J0_deepest_15 rs t M m t_ n b M1) (I_15 : List AV → Mm → Prop) (hI_15 : ∀ (m_ : Nat) (y_t_ : Int) (y_n : Int) (y_b : Int) (M2 : Mm), m_ < m → J0_deepest_15 rs t M m_ y_t_ y_n y_b M2 → I_15 [ar 0, ai y_t_, ai y_n, ai y_b] M2) : wp (tb0 (csL (cs0_deepest rs))) (sh8 rs) 4 1 cX0_deepest [(15, [0, 1, 2, 3], I_15)] Q 400 15 [(0, ar 0), (1, ai t_), (2, ai n), (3, ai b)] [] M1 := by
  obtain ⟨rfl, hc, hk, k2, a, rfl, ha, rfl, rfl⟩ := hJ
  obtain ⟨hY, hB⟩ := id hP
  have h3 : 0 ≤ M 1 4 ∧ M 1 4 ≤ 3 := (okY_n hY).1
  have h4 : 0 ≤ M 1 5 ∧ M 1 5 ≤ 7 := (okY_n hY).2.1
  have e1 := keepX_1 hk
  obtain ⟨u, rfl⟩ := Int.eq_ofNat_of_zero_le hc.1
  have hu : (u : Int) < M 1 5 := hc.2
  rw [Int.toNat_natCast] at *
  have hd := dpR_rg (fun b => sagP ((rT (vX M) (u + 1)).1 b)) a
  generalize hg : dpR (fun b => sagP ((rT (vX M) (u + 1)).1 b)) a = d at *
  have i1 : ((3 : Int) * u + a).toNat = 3 * u + a := by omega
  have i2 : ¬ d = -1 → ((3 : Int) * u + d).toNat = 3 * u + d.toNat := by omega
  have es : dpR (fun b => sagP ((rT (vX M) (u + 1)).1 b)) (a + 1) = if d = -1 ∨ sagP ((rT (vX M) (u + 1)).1 d.toNat) < sagP ((rT (vX M) (u + 1)).1 a) then (a : Int) else d := by rw [← hg]; rfl
  have go : ∀ x, x = (if d = -1 ∨ sagP ((rT (vX M) (u + 1)).1 d.toNat) < sagP ((rT (vX M) (u + 1)).1 a) then (a : Int) else d) → (a : Int) < M 1 4 → I_15 [ar 0, ai u, ai x, ai (a + 1)] M1 := by
    intro x hx hq
    exact hI_15 (3 - (a + 1)) _ _ _ _ (by omega) ⟨rfl, hc, hk, k2, a + 1, by omega, by omega, by rw [hx, Int.toNat_natCast, es], rfl⟩
  simp only [e_wp dX0_deepest_0 rfl, e_wp dX0_deepest_1 rfl, e_wp dX0_deepest_2 rfl, e_wp dX0_deepest_5 rfl, e_wp dX0_deepest_8 rfl, e_wp dX0_deepest_10 rfl, e_wp dX0_deepest_11 rfl, e_wp dX0_deepest_12 rfl, e_wp dX0_deepest_13 rfl, e_wp dX0_deepest_14 rfl, e_wp dX0_deepest_15 rfl, e_wp dX0_deepest_16 rfl, e_wp dX0_deepest_17 rfl, e_wp dX0_deepest_20 rfl, e_wp dX0_deepest_23 rfl, e_wp dX0_deepest_26 rfl, e_wp dX0_deepest_27 rfl, e_wp dX0_deepest_28 rfl, e_wp dX0_deepest_31 rfl, e_wp dX0_deepest_32 rfl, e_wp dX0_deepest_35 rfl, e_wp dX0_deepest_36 rfl, e_wp dX0_deepest_37 rfl, e_wp dX0_deepest_38 rfl, e_wp dX0_deepest_39 rfl, e_wp dX0_deepest_40 rfl, e_wp dX0_deepest_41 rfl, e_wp dX0_deepest_42 rfl, e_wp dX0_deepest_45 rfl, e_wp dX0_deepest_46 rfl, e_wp dX0_deepest_47 rfl, e_wp dX0_deepest_48 rfl, e_wp dX0_deepest_49 rfl, e_wp dX0_deepest_50 rfl, e_wp dX0_deepest_51 rfl, e_wp dX0_deepest_54 rfl, e_wp dX0_deepest_55 rfl, e_wp dX0_deepest_56 rfl, e_wp dX0_deepest_59 rfl, e_wp dX0_deepest_62 rfl, e_wp dX0_deepest_63 rfl, c0_asksCart, cs0_deepest, g0_10, g0_153, g0_92, a8_13, w8_13, a8_14, w8_14, a8_15, w8_15, a8_16, w8_16, a8_17, w8_17, a8_18, w8_18, a8_19, w8_19, a8_20, w8_20, a8_21, w8_21, a8_22, w8_22, a8_23, w8_23, a8_24, w8_24, a8_25, w8_25, a8_26, w8_26, a8_27, w8_27, a8_28, w8_28, a8_29, w8_29, a8_30, w8_30, a8_31, w8_31, a8_32, w8_32, a8_33, w8_33, a8_34, w8_34, a8_35, w8_35, a8_36, w8_36, a8_37, w8_37, a8_38, w8_38, a8_39, w8_39, a8_40, w8_40, a8_12, w8_12, a8_6, a8_7, e_iconst, e_bipush, e_sipush, e_lconst_0, e_lconst_1, e_iload, e_iload_0, e_iload_1, e_iload_2, e_iload_3, e_lload, e_lload_0, e_lload_1, e_lload_2, e_lload_3, e_aload, e_aload_0, e_aload_1, e_aload_2, e_aload_3, e_istore, e_istore_0, e_istore_1, e_istore_2, e_istore_3, e_astore, e_astore_0, e_astore_1, e_astore_2, e_astore_3, e_lstore, e_lstore_0, e_lstore_1, e_lstore_2, e_lstore_3, e_iinc, e_iadd, e_isub, e_imul, e_ladd, e_lsub, e_lmul, e_idiv, e_irem, e_ldiv, e_lrem, e_ineg, e_lneg, e_iand, e_ior, e_ixor, e_ishl, e_ishr, e_iushr, e_lcmp, e_i2l, e_l2i, e_i2b, e_i2s, e_dup_i, e_dup_r, e_pop_i, e_pop_r, e_dup2_l, e_dup2_ir, e_dup2_ii, e_ifeq, e_ifne, e_iflt, e_ifge, e_ifgt, e_ifle, e_iceq, e_icne, e_iclt, e_icge, e_icgt, e_icle, e_goto, e_switch, e_invokevirtual, e_invokestatic, e_invokespecial, e_ret0, e_ret1, e_ret2, e_ret3, ldI_s, ldL_s, ldR_s, clO_s, ctP_s, ctS_s, mgo_0, mgo_s, pjc_s, pj_0, pj_s, lk_s, rm1_0, rm1_i, rm1_r, rm1_l, rm2_0, rm2_i, rm2_r, rm2_l, csL_s, lc_lt, lc_ge, lc_gt, lc_le, lc_eq, b01_0, b01_1, b01_01, b01_n, up2_o, up2_s, up2_u, ne_eq, reduceCtorEq, Nat.reduceAdd, Nat.reduceEqDiff, Nat.reduceLT, Nat.reduceLeDiff, Int.reduceLE, Int.reduceLT, Int.reduceAdd, Int.reduceNeg, Int.reduceMul, Int.reduceSub, Int.reduceEq, Int.reduceToNat, Int.reduceNatCast, Int.cast_ofNat_Int, ↓reduceIte, and_self, List.drop_succ_cons, List.drop_zero, List.take_succ_cons, List.take_zero, List.length_cons, List.length_nil, List.reverse_cons, List.reverse_nil, List.nil_append, List.cons_append, Option.toList, true_and, and_true, or_false, false_or, or_true, true_or, forall_const, Classical.not_not, not_false_eq_true, not_true_eq_false, false_implies, true_implies, implies_true, imp_self, e1, i1]
  refine ⟨fun q => hQ _ _ ⟨hk, ?_⟩, fun q => ⟨fun z => ?_, fun z => ?_⟩⟩
  · rw [show A_deepest (vX M) u = _ from if_pos hc, Int.toNat_natCast, show (vX M 0 3).toNat = a by show (M 1 4).toNat = a; omega, hg]
  · exact ⟨by omega, go _ (by rw [if_pos (Or.inl z)]) q⟩
  · have q3 : (a : Int) < vX M 0 3 := q
    have qd : ((d.toNat : Nat) : Int) < vX M 0 3 := by show ((d.toNat : Nat) : Int) < M 1 4; omega
    have ta : M1 28 (3 * u + a) = sagP ((rT (vX M) (u + 1)).1 a) := (laid_tab k2 hc.2 q3).2.2.2.1
    have td : M1 28 (3 * u + d.toNat) = sagP ((rT (vX M) (u + 1)).1 d.toNat) := (laid_tab k2 hc.2 qd).2.2.2.1
    rw [i2 z, ta, td]
    repeat (refine And.intro (by omega) ?_)
    exact ⟨fun w => ⟨by omega, go _ (by rw [if_neg (by omega)]) q⟩, fun w => ⟨by omega, go _ (by rw [if_pos (Or.inr w)]) q⟩⟩
set_option maxHeartbeats 4000000 in
set_option maxRecDepth 100000 in
theorem m0_deepest {rs : List (Nat × Nat)} : MOK cl8 (sh8 rs) tyl8 Nws8 8 yX0_deepest cX0_deepest 4 (some .int) (sp0_deepest rs) := by
  refine mok_of (own := RX0) (tb := tb0 (csL (cs0_deepest rs))) (rt := 1) (fuel := 400) (fun avs M Q => [(15, [0, 1, 2, 3], fun m_ vs M1 => ∃ y_t_ : Int, ∃ y_n : Int, ∃ y_b : Int, vs = [ar 0, ai y_t_, ai y_n, ai y_b] ∧ J0_deepest_15 rs (pa true [0] avs 0) M m_ y_t_ y_n y_b M1)]) (by decide) rfl nws8_ok (tbOK0 _) rfl (csL_all ?_) ?_ ?_ ?_
  · intro q hq
    simp only [cs0_deepest, List.mem_cons, List.not_mem_nil, or_false] at hq
    rcases hq with rfl
    · exact cg0_asksCart (by decide)
  · intro avs M Q hsp
    obtain ⟨xs, hx⟩ := spR_un _ _ _ hsp
    obtain ⟨e, hl⟩ := unA_mkT hx
    obtain ⟨t, rfl⟩ := len1 hl
    have e : avs = [ar 0, ai t] := e
    subst e
    simp [szL, isL]
  · intro avs M Q hM hav hsp
    obtain ⟨xs, hx⟩ := spR_un _ _ _ hsp
    obtain ⟨e, hl⟩ := unA_mkT hx
    obtain ⟨t, rfl⟩ := len1 hl
    have e : avs = [ar 0, ai t] := e
    subst e
    exact in0_deepest hM (hav (ai t) (by simp)) hsp.1 hsp.2 _ (fun m_ y_t_ y_n y_b M2 hJ => ⟨m_, y_t_, y_n, y_b, rfl, hJ⟩)
  · intro avs M Q hM hav hsp q hq m_ vs M1 hM1 hv hJ
    obtain ⟨xs, hx⟩ := spR_un _ _ _ hsp
    obtain ⟨e, hl⟩ := unA_mkT hx
    obtain ⟨t, rfl⟩ := len1 hl
    have e : avs = [ar 0, ai t] := e
    subst e
    simp only [List.mem_cons, List.not_mem_nil, or_false] at hq
    rcases hq with rfl
    · obtain ⟨y_t_, y_n, y_b, rfl, hJ⟩ := hJ
      exact at0_deepest_15 hM (hav (ai t) (by simp)) hsp.1 hsp.2 hM1 (hv (1, ai y_t_) (List.mem_of_getElem? (i := 1) rfl)) (hv (2, ai y_n) (List.mem_of_getElem? (i := 2) rfl)) (hv (3, ai y_b) (List.mem_of_getElem? (i := 3) rfl)) hJ _ (fun m2 z_t_ z_n z_b M2 hm hJ2 => ⟨m2, hm, z_t_, z_n, z_b, rfl, hJ2⟩)
def P0_loudest (rs : List (Nat × Nat)) (M : Mm) : Prop := okX M
def R0_loudest (rs : List (Nat × Nat)) (M : Mm) (v : Int) (M1 : Mm) : Prop := keepX M M1 ∧ v = A_loudest (vX M)
def sp0_loudest (rs : List (Nat × Nat)) : Spec := spR true [] 1 (fun x M => P0_loudest rs M) (fun x M v M1 => R0_loudest rs M v M1)
theorem c0_loudest {rs : List (Nat × Nat)} {M : Mm} {Q : Option AV → Mm → Prop} : sp0_loudest rs [ar 0] M Q = (P0_loudest rs M ∧ ∀ (v : Int) (M1 : Mm), R0_loudest rs M v M1 → Q (some (ai v)) M1) := rfl
def cs0_loudest (rs : List (Nat × Nat)) : List (Nat × Nat × Nat × Spec) := [(260, 1, 1, (sp0_asksValley rs))]
def J0_loudest_14 (rs : List (Nat × Nat)) (M : Mm) (m : Nat) (n : Int) (c : Int) (M1 : Mm) : Prop := 0 < vX M 0 8 ∧ keepX M M1 ∧ laidX (vX M) (tellP (vX M)) M1 ∧ ∃ a : Nat, c = a ∧ (a : Int) ≤ M 1 5 ∧ n = lrR (fun c => creakS (vX M) (tellP (vX M)) (pT (vX M) c) c) a ∧ m = 7 - a
set_option maxHeartbeats 4000000 in
set_option maxRecDepth 100000 in
theorem in0_loudest {rs : List (Nat × Nat)} {M : Mm} {Q : Option AV → Mm → Prop} (hM : okM (sh8 rs) M) (hP : P0_loudest rs M) (hQ : ∀ (v : Int) (M1 : Mm), R0_loudest rs M v M1 → Q (some (ai v)) M1) (I_14 : List AV → Mm → Prop) (hI_14 : ∀ (m_ : Nat) (y_n : Int) (y_c : Int) (M2 : Mm), J0_loudest_14 rs M m_ y_n y_c M2 → I_14 [ar 0, ai y_n, ai y_c] M2) : wp (tb0 (csL (cs0_loudest rs))) (sh8 rs) 3 1 cX0_loudest [(14, [0, 1, 2], I_14)] Q 400 0 [(0, ar 0)] [] M := by
  obtain ⟨hY, hB⟩ := id hP
  have h4 : 0 ≤ M 1 5 ∧ M 1 5 ≤ 7 := (okY_n hY).2.1
  simp only [e_wp dX0_loudest_0 rfl, e_wp dX0_loudest_1 rfl, e_wp dX0_loudest_4 rfl, e_wp dX0_loudest_7 rfl, e_wp dX0_loudest_9 rfl, e_wp dX0_loudest_10 rfl, e_wp dX0_loudest_11 rfl, e_wp dX0_loudest_12 rfl, e_wp dX0_loudest_13 rfl, e_wp dX0_loudest_14 rfl, e_wp dX0_loudest_15 rfl, e_wp dX0_loudest_16 rfl, e_wp dX0_loudest_19 rfl, e_wp dX0_loudest_22 rfl, e_wp dX0_loudest_25 rfl, e_wp dX0_loudest_26 rfl, e_wp dX0_loudest_29 rfl, e_wp dX0_loudest_30 rfl, e_wp dX0_loudest_31 rfl, e_wp dX0_loudest_32 rfl, e_wp dX0_loudest_33 rfl, e_wp dX0_loudest_36 rfl, e_wp dX0_loudest_37 rfl, e_wp dX0_loudest_40 rfl, e_wp dX0_loudest_41 rfl, e_wp dX0_loudest_44 rfl, e_wp dX0_loudest_45 rfl, e_wp dX0_loudest_46 rfl, e_wp dX0_loudest_49 rfl, e_wp dX0_loudest_50 rfl, e_wp dX0_loudest_51 rfl, e_wp dX0_loudest_54 rfl, e_wp dX0_loudest_57 rfl, e_wp dX0_loudest_58 rfl, c0_asksValley, cs0_loudest, g0_10, g0_156, g0_74, a8_13, w8_13, a8_14, w8_14, a8_15, w8_15, a8_16, w8_16, a8_17, w8_17, a8_18, w8_18, a8_19, w8_19, a8_20, w8_20, a8_21, w8_21, a8_22, w8_22, a8_23, w8_23, a8_24, w8_24, a8_25, w8_25, a8_26, w8_26, a8_27, w8_27, a8_28, w8_28, a8_29, w8_29, a8_30, w8_30, a8_31, w8_31, a8_32, w8_32, a8_33, w8_33, a8_34, w8_34, a8_35, w8_35, a8_36, w8_36, a8_37, w8_37, a8_38, w8_38, a8_39, w8_39, a8_40, w8_40, a8_12, w8_12, a8_6, a8_7, e_iconst, e_bipush, e_sipush, e_lconst_0, e_lconst_1, e_iload, e_iload_0, e_iload_1, e_iload_2, e_iload_3, e_lload, e_lload_0, e_lload_1, e_lload_2, e_lload_3, e_aload, e_aload_0, e_aload_1, e_aload_2, e_aload_3, e_istore, e_istore_0, e_istore_1, e_istore_2, e_istore_3, e_astore, e_astore_0, e_astore_1, e_astore_2, e_astore_3, e_lstore, e_lstore_0, e_lstore_1, e_lstore_2, e_lstore_3, e_iinc, e_iadd, e_isub, e_imul, e_ladd, e_lsub, e_lmul, e_idiv, e_irem, e_ldiv, e_lrem, e_ineg, e_lneg, e_iand, e_ior, e_ixor, e_ishl, e_ishr, e_iushr, e_lcmp, e_i2l, e_l2i, e_i2b, e_i2s, e_dup_i, e_dup_r, e_pop_i, e_pop_r, e_dup2_l, e_dup2_ir, e_dup2_ii, e_ifeq, e_ifne, e_iflt, e_ifge, e_ifgt, e_ifle, e_iceq, e_icne, e_iclt, e_icge, e_icgt, e_icle, e_goto, e_switch, e_invokevirtual, e_invokestatic, e_invokespecial, e_ret0, e_ret1, e_ret2, e_ret3, ldI_s, ldL_s, ldR_s, clO_s, ctP_s, ctS_s, mgo_0, mgo_s, pjc_s, pj_0, pj_s, lk_s, rm1_0, rm1_i, rm1_r, rm1_l, rm2_0, rm2_i, rm2_r, rm2_l, csL_s, lc_lt, lc_ge, lc_gt, lc_le, lc_eq, b01_0, b01_1, b01_01, b01_n, up2_o, up2_s, up2_u, ne_eq, reduceCtorEq, Nat.reduceAdd, Nat.reduceEqDiff, Nat.reduceLT, Nat.reduceLeDiff, Int.reduceLE, Int.reduceLT, Int.reduceAdd, Int.reduceNeg, Int.reduceMul, Int.reduceSub, Int.reduceEq, Int.reduceToNat, Int.reduceNatCast, Int.cast_ofNat_Int, ↓reduceIte, and_self, List.drop_succ_cons, List.drop_zero, List.take_succ_cons, List.take_zero, List.length_cons, List.length_nil, List.reverse_cons, List.reverse_nil, List.nil_append, List.cons_append, Option.toList, true_and, and_true, or_false, false_or, or_true, true_or, forall_const, Classical.not_not, not_false_eq_true, not_true_eq_false, false_implies, true_implies, implies_true, imp_self]
  refine ⟨⟨hY, hB⟩, fun v M1 hR => ?_⟩
  obtain ⟨r1, r2, r3⟩ := hR
  refine ⟨fun z => ?_, fun z => hQ _ _ ⟨r1, ?_⟩⟩
  · rw [r2, b01_0] at z
    exact hI_14 _ _ _ _ ⟨Classical.not_not.mp z, r1, r3, 0, rfl, h4.1, rfl, rfl⟩
  · rw [r2, b01_0] at z
    exact (if_neg z).symm
set_option maxHeartbeats 4000000 in
set_option maxRecDepth 100000 in
theorem at0_loudest_14 {rs : List (Nat × Nat)} {M : Mm} {Q : Option AV → Mm → Prop} (hM : okM (sh8 rs) M) (hP : P0_loudest rs M) (hQ : ∀ (v : Int) (M1 : Mm), R0_loudest rs M v M1 → Q (some (ai v)) M1) {m : Nat} {n c : Int} {M1 : Mm} (hM1 : okM (sh8 rs) M1) (h_n : i32 n) (h_c : i32 c) (hJ : J0_loudest_14 rs M m n c M1) (I_14 : List AV → Mm → Prop) (hI_14 : ∀ (m_ : Nat) (y_n : Int) (y_c : Int) (M2 : Mm), m_ < m → J0_loudest_14 rs M m_ y_n y_c M2 → I_14 [ar 0, ai y_n, ai y_c] M2) : wp (tb0 (csL (cs0_loudest rs))) (sh8 rs) 3 1 cX0_loudest [(14, [0, 1, 2], I_14)] Q 400 14 [(0, ar 0), (1, ai n), (2, ai c)] [] M1 := by
  obtain ⟨hc, hk, k2, a, rfl, ha, hd, rfl⟩ := hJ
  obtain ⟨hY, hB⟩ := id hP
  have h4 : 0 ≤ M 1 5 ∧ M 1 5 ≤ 7 := (okY_n hY).2.1
  have e1 := keepX_1 hk
  obtain ⟨f, hf⟩ : ∃ f : Nat → Int, f = fun c => creakS (vX M) (tellP (vX M)) (pT (vX M) c) c := ⟨_, rfl⟩
  have hcr : ∀ c : Nat, (c : Int) < M 1 5 → M1 22 c = f c := fun c hc2 => by rw [(laid_out k2 (c := c) hc2).2.2.2.1, hf]
  have eA : A_loudest (vX M) = lrR f (M 1 5).toNat := (show A_loudest (vX M) = _ from if_pos hc).trans (by rw [hf]; rfl)
  rw [← hf] at hd
  have hr := lrR_rg f a
  have es : lrR f (a + 1) = if (if n = -1 then 0 else f n.toNat) < f a then (a : Int) else n := by rw [hd]; rfl
  rw [← hd] at hr
  have go : ∀ x, x = (if (if n = -1 then 0 else f n.toNat) < f a then (a : Int) else n) → (a : Int) < M 1 5 → I_14 [ar 0, ai x, ai (a + 1)] M1 := by
    intro x hx hq
    exact hI_14 (7 - (a + 1)) _ _ _ (by omega) ⟨hc, hk, k2, a + 1, by omega, by omega, by rw [hx, ← es, hf], rfl⟩
  simp only [e_wp dX0_loudest_0 rfl, e_wp dX0_loudest_1 rfl, e_wp dX0_loudest_4 rfl, e_wp dX0_loudest_7 rfl, e_wp dX0_loudest_9 rfl, e_wp dX0_loudest_10 rfl, e_wp dX0_loudest_11 rfl, e_wp dX0_loudest_12 rfl, e_wp dX0_loudest_13 rfl, e_wp dX0_loudest_14 rfl, e_wp dX0_loudest_15 rfl, e_wp dX0_loudest_16 rfl, e_wp dX0_loudest_19 rfl, e_wp dX0_loudest_22 rfl, e_wp dX0_loudest_25 rfl, e_wp dX0_loudest_26 rfl, e_wp dX0_loudest_29 rfl, e_wp dX0_loudest_30 rfl, e_wp dX0_loudest_31 rfl, e_wp dX0_loudest_32 rfl, e_wp dX0_loudest_33 rfl, e_wp dX0_loudest_36 rfl, e_wp dX0_loudest_37 rfl, e_wp dX0_loudest_40 rfl, e_wp dX0_loudest_41 rfl, e_wp dX0_loudest_44 rfl, e_wp dX0_loudest_45 rfl, e_wp dX0_loudest_46 rfl, e_wp dX0_loudest_49 rfl, e_wp dX0_loudest_50 rfl, e_wp dX0_loudest_51 rfl, e_wp dX0_loudest_54 rfl, e_wp dX0_loudest_57 rfl, e_wp dX0_loudest_58 rfl, c0_asksValley, cs0_loudest, g0_10, g0_156, g0_74, a8_13, w8_13, a8_14, w8_14, a8_15, w8_15, a8_16, w8_16, a8_17, w8_17, a8_18, w8_18, a8_19, w8_19, a8_20, w8_20, a8_21, w8_21, a8_22, w8_22, a8_23, w8_23, a8_24, w8_24, a8_25, w8_25, a8_26, w8_26, a8_27, w8_27, a8_28, w8_28, a8_29, w8_29, a8_30, w8_30, a8_31, w8_31, a8_32, w8_32, a8_33, w8_33, a8_34, w8_34, a8_35, w8_35, a8_36, w8_36, a8_37, w8_37, a8_38, w8_38, a8_39, w8_39, a8_40, w8_40, a8_12, w8_12, a8_6, a8_7, e_iconst, e_bipush, e_sipush, e_lconst_0, e_lconst_1, e_iload, e_iload_0, e_iload_1, e_iload_2, e_iload_3, e_lload, e_lload_0, e_lload_1, e_lload_2, e_lload_3, e_aload, e_aload_0, e_aload_1, e_aload_2, e_aload_3, e_istore, e_istore_0, e_istore_1, e_istore_2, e_istore_3, e_astore, e_astore_0, e_astore_1, e_astore_2, e_astore_3, e_lstore, e_lstore_0, e_lstore_1, e_lstore_2, e_lstore_3, e_iinc, e_iadd, e_isub, e_imul, e_ladd, e_lsub, e_lmul, e_idiv, e_irem, e_ldiv, e_lrem, e_ineg, e_lneg, e_iand, e_ior, e_ixor, e_ishl, e_ishr, e_iushr, e_lcmp, e_i2l, e_l2i, e_i2b, e_i2s, e_dup_i, e_dup_r, e_pop_i, e_pop_r, e_dup2_l, e_dup2_ir, e_dup2_ii, e_ifeq, e_ifne, e_iflt, e_ifge, e_ifgt, e_ifle, e_iceq, e_icne, e_iclt, e_icge, e_icgt, e_icle, e_goto, e_switch, e_invokevirtual, e_invokestatic, e_invokespecial, e_ret0, e_ret1, e_ret2, e_ret3, ldI_s, ldL_s, ldR_s, clO_s, ctP_s, ctS_s, mgo_0, mgo_s, pjc_s, pj_0, pj_s, lk_s, rm1_0, rm1_i, rm1_r, rm1_l, rm2_0, rm2_i, rm2_r, rm2_l, csL_s, lc_lt, lc_ge, lc_gt, lc_le, lc_eq, b01_0, b01_1, b01_01, b01_n, up2_o, up2_s, up2_u, ne_eq, reduceCtorEq, Nat.reduceAdd, Nat.reduceEqDiff, Nat.reduceLT, Nat.reduceLeDiff, Int.reduceLE, Int.reduceLT, Int.reduceAdd, Int.reduceNeg, Int.reduceMul, Int.reduceSub, Int.reduceEq, Int.reduceToNat, Int.reduceNatCast, Int.cast_ofNat_Int, ↓reduceIte, and_self, List.drop_succ_cons, List.drop_zero, List.take_succ_cons, List.take_zero, List.length_cons, List.length_nil, List.reverse_cons, List.reverse_nil, List.nil_append, List.cons_append, Option.toList, true_and, and_true, or_false, false_or, or_true, true_or, forall_const, Classical.not_not, not_false_eq_true, not_true_eq_false, false_implies, true_implies, implies_true, imp_self, e1, Int.toNat_natCast]
  refine ⟨fun q => hQ _ _ ⟨hk, ?_⟩, fun q => ?_⟩
  · rw [eA, show (M 1 5).toNat = a by omega]; exact hd
  · rw [hcr a q]
    refine ⟨by omega, fun z => ?_, fun z => ?_⟩
    · rw [hcr n.toNat (by omega)]
      exact ⟨by omega, fun w => ⟨by omega, go _ (by rw [if_neg (by rw [if_neg z]; omega)]) q⟩, fun w => ⟨by omega, go _ (by rw [if_pos (by rw [if_neg z]; exact w)]) q⟩⟩
    · exact ⟨fun w => ⟨by omega, go _ (by rw [if_neg (by rw [if_pos z]; omega)]) q⟩, fun w => ⟨by omega, go _ (by rw [if_pos (by rw [if_pos z]; exact w)]) q⟩⟩
set_option maxHeartbeats 4000000 in
set_option maxRecDepth 100000 in
theorem m0_loudest {rs : List (Nat × Nat)} : MOK cl8 (sh8 rs) tyl8 Nws8 7 yX0_loudest cX0_loudest 3 (some .int) (sp0_loudest rs) := by
  refine mok_of (own := RX0) (tb := tb0 (csL (cs0_loudest rs))) (rt := 1) (fuel := 400) (fun avs M Q => [(14, [0, 1, 2], fun m_ vs M1 => ∃ y_n : Int, ∃ y_c : Int, vs = [ar 0, ai y_n, ai y_c] ∧ J0_loudest_14 rs M m_ y_n y_c M1)]) (by decide) rfl nws8_ok (tbOK0 _) rfl (csL_all ?_) ?_ ?_ ?_
  · intro q hq
    simp only [cs0_loudest, List.mem_cons, List.not_mem_nil, or_false] at hq
    rcases hq with rfl
    · exact cg0_asksValley (by decide)
  · intro avs M Q hsp
    obtain ⟨xs, hx⟩ := spR_un _ _ _ hsp
    obtain ⟨e, hl⟩ := unA_mkT hx
    obtain rfl := len0 hl
    have e : avs = [ar 0] := e
    subst e
    simp [szL, isL]
  · intro avs M Q hM hav hsp
    obtain ⟨xs, hx⟩ := spR_un _ _ _ hsp
    obtain ⟨e, hl⟩ := unA_mkT hx
    obtain rfl := len0 hl
    have e : avs = [ar 0] := e
    subst e
    exact in0_loudest hM hsp.1 hsp.2 _ (fun m_ y_n y_c M2 hJ => ⟨m_, y_n, y_c, rfl, hJ⟩)
  · intro avs M Q hM hav hsp q hq m_ vs M1 hM1 hv hJ
    obtain ⟨xs, hx⟩ := spR_un _ _ _ hsp
    obtain ⟨e, hl⟩ := unA_mkT hx
    obtain rfl := len0 hl
    have e : avs = [ar 0] := e
    subst e
    simp only [List.mem_cons, List.not_mem_nil, or_false] at hq
    rcases hq with rfl
    · obtain ⟨y_n, y_c, rfl, hJ⟩ := hJ
      exact at0_loudest_14 hM hsp.1 hsp.2 hM1 (hv (1, ai y_n) (List.mem_of_getElem? (i := 1) rfl)) (hv (2, ai y_c) (List.mem_of_getElem? (i := 2) rfl)) hJ _ (fun m2 z_n z_c M2 hm hJ2 => ⟨m2, hm, z_n, z_c, rfl, hJ2⟩)
theorem paysV_b {V : Vy} (h : okY V) {t : Nat} (ht : (t : Int) < V 0 4) : 0 ≤ paysV V t ∧ paysV V t ≤ 900000 := by
  have hC := okCf_tell h
  have g1 := went_rg (S := pT V t) h hC ht
  have g2 : -100000 ≤ giveS (whoM (tellP V)) V (tellP V) (pT V t) t ∧ giveS (whoM (tellP V)) V (tellP V) (pT V t) t ≤ 100000 := give_rg (w := whoM (tellP V)) h hC ht
  unfold paysV
  split
  · omega
  · rename_i z
    have y1 := (okY_b h (wentS V (tellP V) (pT V t) t).toNat (by omega)).2
    generalize giveS (whoM (tellP V)) V (tellP V) (pT V t) t = g at *
    generalize V 2 (wentS V (tellP V) (pT V t) t).toNat = x at *
    have h0 : 0 ≤ g := by omega
    have h1 : 0 ≤ x * g := Int.mul_nonneg y1.1 h0
    have h2 : x * g ≤ 9 * g := Int.mul_le_mul_of_nonneg_right y1.2 h0
    omega
def P0_tolls (rs : List (Nat × Nat)) (M : Mm) : Prop := okX M
def R0_tolls (rs : List (Nat × Nat)) (M : Mm) (v : Int) (M1 : Mm) : Prop := keepX M M1 ∧ v = A_tolls (vX M)
def sp0_tolls (rs : List (Nat × Nat)) : Spec := spR true [] 1 (fun x M => P0_tolls rs M) (fun x M v M1 => R0_tolls rs M v M1)
theorem c0_tolls {rs : List (Nat × Nat)} {M : Mm} {Q : Option AV → Mm → Prop} : sp0_tolls rs [ar 0] M Q = (P0_tolls rs M ∧ ∀ (v : Int) (M1 : Mm), R0_tolls rs M v M1 → Q (some (ai v)) M1) := rfl
def cs0_tolls (rs : List (Nat × Nat)) : List (Nat × Nat × Nat × Spec) := [(260, 1, 1, (sp0_asksValley rs))]
def J0_tolls_14 (rs : List (Nat × Nat)) (M : Mm) (m : Nat) (n : Int) (c : Int) (M1 : Mm) : Prop := 0 < vX M 0 8 ∧ keepX M M1 ∧ laidX (vX M) (tellP (vX M)) M1 ∧ ∃ a : Nat, c = a ∧ (a : Int) ≤ M 1 5 ∧ n = sumN (fun c => paysV (vX M) c) a ∧ m = 7 - a
set_option maxHeartbeats 4000000 in
set_option maxRecDepth 100000 in
theorem in0_tolls {rs : List (Nat × Nat)} {M : Mm} {Q : Option AV → Mm → Prop} (hM : okM (sh8 rs) M) (hP : P0_tolls rs M) (hQ : ∀ (v : Int) (M1 : Mm), R0_tolls rs M v M1 → Q (some (ai v)) M1) (I_14 : List AV → Mm → Prop) (hI_14 : ∀ (m_ : Nat) (y_n : Int) (y_c : Int) (M2 : Mm), J0_tolls_14 rs M m_ y_n y_c M2 → I_14 [ar 0, ai y_n, ai y_c] M2) : wp (tb0 (csL (cs0_tolls rs))) (sh8 rs) 3 1 cX0_tolls [(14, [0, 1, 2], I_14)] Q 400 0 [(0, ar 0)] [] M := by
  obtain ⟨hY, hB⟩ := id hP
  have h4 : 0 ≤ M 1 5 ∧ M 1 5 ≤ 7 := (okY_n hY).2.1
  simp only [e_wp dX0_tolls_0 rfl, e_wp dX0_tolls_1 rfl, e_wp dX0_tolls_4 rfl, e_wp dX0_tolls_7 rfl, e_wp dX0_tolls_9 rfl, e_wp dX0_tolls_10 rfl, e_wp dX0_tolls_11 rfl, e_wp dX0_tolls_12 rfl, e_wp dX0_tolls_13 rfl, e_wp dX0_tolls_14 rfl, e_wp dX0_tolls_15 rfl, e_wp dX0_tolls_16 rfl, e_wp dX0_tolls_19 rfl, e_wp dX0_tolls_22 rfl, e_wp dX0_tolls_25 rfl, e_wp dX0_tolls_26 rfl, e_wp dX0_tolls_27 rfl, e_wp dX0_tolls_30 rfl, e_wp dX0_tolls_31 rfl, e_wp dX0_tolls_32 rfl, e_wp dX0_tolls_33 rfl, e_wp dX0_tolls_34 rfl, e_wp dX0_tolls_37 rfl, e_wp dX0_tolls_40 rfl, e_wp dX0_tolls_41 rfl, c0_asksValley, cs0_tolls, g0_10, g0_156, g0_77, a8_13, w8_13, a8_14, w8_14, a8_15, w8_15, a8_16, w8_16, a8_17, w8_17, a8_18, w8_18, a8_19, w8_19, a8_20, w8_20, a8_21, w8_21, a8_22, w8_22, a8_23, w8_23, a8_24, w8_24, a8_25, w8_25, a8_26, w8_26, a8_27, w8_27, a8_28, w8_28, a8_29, w8_29, a8_30, w8_30, a8_31, w8_31, a8_32, w8_32, a8_33, w8_33, a8_34, w8_34, a8_35, w8_35, a8_36, w8_36, a8_37, w8_37, a8_38, w8_38, a8_39, w8_39, a8_40, w8_40, a8_12, w8_12, a8_6, a8_7, e_iconst, e_bipush, e_sipush, e_lconst_0, e_lconst_1, e_iload, e_iload_0, e_iload_1, e_iload_2, e_iload_3, e_lload, e_lload_0, e_lload_1, e_lload_2, e_lload_3, e_aload, e_aload_0, e_aload_1, e_aload_2, e_aload_3, e_istore, e_istore_0, e_istore_1, e_istore_2, e_istore_3, e_astore, e_astore_0, e_astore_1, e_astore_2, e_astore_3, e_lstore, e_lstore_0, e_lstore_1, e_lstore_2, e_lstore_3, e_iinc, e_iadd, e_isub, e_imul, e_ladd, e_lsub, e_lmul, e_idiv, e_irem, e_ldiv, e_lrem, e_ineg, e_lneg, e_iand, e_ior, e_ixor, e_ishl, e_ishr, e_iushr, e_lcmp, e_i2l, e_l2i, e_i2b, e_i2s, e_dup_i, e_dup_r, e_pop_i, e_pop_r, e_dup2_l, e_dup2_ir, e_dup2_ii, e_ifeq, e_ifne, e_iflt, e_ifge, e_ifgt, e_ifle, e_iceq, e_icne, e_iclt, e_icge, e_icgt, e_icle, e_goto, e_switch, e_invokevirtual, e_invokestatic, e_invokespecial, e_ret0, e_ret1, e_ret2, e_ret3, ldI_s, ldL_s, ldR_s, clO_s, ctP_s, ctS_s, mgo_0, mgo_s, pjc_s, pj_0, pj_s, lk_s, rm1_0, rm1_i, rm1_r, rm1_l, rm2_0, rm2_i, rm2_r, rm2_l, csL_s, lc_lt, lc_ge, lc_gt, lc_le, lc_eq, b01_0, b01_1, b01_01, b01_n, up2_o, up2_s, up2_u, ne_eq, reduceCtorEq, Nat.reduceAdd, Nat.reduceEqDiff, Nat.reduceLT, Nat.reduceLeDiff, Int.reduceLE, Int.reduceLT, Int.reduceAdd, Int.reduceNeg, Int.reduceMul, Int.reduceSub, Int.reduceEq, Int.reduceToNat, Int.reduceNatCast, Int.cast_ofNat_Int, ↓reduceIte, and_self, List.drop_succ_cons, List.drop_zero, List.take_succ_cons, List.take_zero, List.length_cons, List.length_nil, List.reverse_cons, List.reverse_nil, List.nil_append, List.cons_append, Option.toList, true_and, and_true, or_false, false_or, or_true, true_or, forall_const, Classical.not_not, not_false_eq_true, not_true_eq_false, false_implies, true_implies, implies_true, imp_self]
  refine ⟨⟨hY, hB⟩, fun v M1 hR => ?_⟩
  obtain ⟨r1, r2, r3⟩ := hR
  refine ⟨fun z => ?_, fun z => hQ _ _ ⟨r1, ?_⟩⟩
  · rw [r2, b01_0] at z
    exact hI_14 _ _ _ _ ⟨Classical.not_not.mp z, r1, r3, 0, rfl, h4.1, rfl, rfl⟩
  · rw [r2, b01_0] at z
    exact (if_neg z).symm
set_option maxHeartbeats 4000000 in
set_option maxRecDepth 100000 in
theorem at0_tolls_14 {rs : List (Nat × Nat)} {M : Mm} {Q : Option AV → Mm → Prop} (hM : okM (sh8 rs) M) (hP : P0_tolls rs M) (hQ : ∀ (v : Int) (M1 : Mm), R0_tolls rs M v M1 → Q (some (ai v)) M1) {m : Nat} {n c : Int} {M1 : Mm} (hM1 : okM (sh8 rs) M1) (h_n : i32 n) (h_c : i32 c) (hJ : J0_tolls_14 rs M m n c M1) (I_14 : List AV → Mm → Prop) (hI_14 : ∀ (m_ : Nat) (y_n : Int) (y_c : Int) (M2 : Mm), m_ < m → J0_tolls_14 rs M m_ y_n y_c M2 → I_14 [ar 0, ai y_n, ai y_c] M2) : wp (tb0 (csL (cs0_tolls rs))) (sh8 rs) 3 1 cX0_tolls [(14, [0, 1, 2], I_14)] Q 400 14 [(0, ar 0), (1, ai n), (2, ai c)] [] M1 := by
  obtain ⟨hc, hk, k2, a, rfl, ha, rfl, rfl⟩ := hJ
  obtain ⟨hY, hB⟩ := id hP
  have h4 : 0 ≤ M 1 5 ∧ M 1 5 ≤ 7 := (okY_n hY).2.1
  have e1 := keepX_1 hk
  have hs := sumN_b (f := fun c => paysV (vX M) c) (n := a) (fun k hk2 => paysV_b hY (t := k) (by show (k : Int) < M 1 5; omega))
  simp only [e_wp dX0_tolls_0 rfl, e_wp dX0_tolls_1 rfl, e_wp dX0_tolls_4 rfl, e_wp dX0_tolls_7 rfl, e_wp dX0_tolls_9 rfl, e_wp dX0_tolls_10 rfl, e_wp dX0_tolls_11 rfl, e_wp dX0_tolls_12 rfl, e_wp dX0_tolls_13 rfl, e_wp dX0_tolls_14 rfl, e_wp dX0_tolls_15 rfl, e_wp dX0_tolls_16 rfl, e_wp dX0_tolls_19 rfl, e_wp dX0_tolls_22 rfl, e_wp dX0_tolls_25 rfl, e_wp dX0_tolls_26 rfl, e_wp dX0_tolls_27 rfl, e_wp dX0_tolls_30 rfl, e_wp dX0_tolls_31 rfl, e_wp dX0_tolls_32 rfl, e_wp dX0_tolls_33 rfl, e_wp dX0_tolls_34 rfl, e_wp dX0_tolls_37 rfl, e_wp dX0_tolls_40 rfl, e_wp dX0_tolls_41 rfl, c0_asksValley, cs0_tolls, g0_10, g0_156, g0_77, a8_13, w8_13, a8_14, w8_14, a8_15, w8_15, a8_16, w8_16, a8_17, w8_17, a8_18, w8_18, a8_19, w8_19, a8_20, w8_20, a8_21, w8_21, a8_22, w8_22, a8_23, w8_23, a8_24, w8_24, a8_25, w8_25, a8_26, w8_26, a8_27, w8_27, a8_28, w8_28, a8_29, w8_29, a8_30, w8_30, a8_31, w8_31, a8_32, w8_32, a8_33, w8_33, a8_34, w8_34, a8_35, w8_35, a8_36, w8_36, a8_37, w8_37, a8_38, w8_38, a8_39, w8_39, a8_40, w8_40, a8_12, w8_12, a8_6, a8_7, e_iconst, e_bipush, e_sipush, e_lconst_0, e_lconst_1, e_iload, e_iload_0, e_iload_1, e_iload_2, e_iload_3, e_lload, e_lload_0, e_lload_1, e_lload_2, e_lload_3, e_aload, e_aload_0, e_aload_1, e_aload_2, e_aload_3, e_istore, e_istore_0, e_istore_1, e_istore_2, e_istore_3, e_astore, e_astore_0, e_astore_1, e_astore_2, e_astore_3, e_lstore, e_lstore_0, e_lstore_1, e_lstore_2, e_lstore_3, e_iinc, e_iadd, e_isub, e_imul, e_ladd, e_lsub, e_lmul, e_idiv, e_irem, e_ldiv, e_lrem, e_ineg, e_lneg, e_iand, e_ior, e_ixor, e_ishl, e_ishr, e_iushr, e_lcmp, e_i2l, e_l2i, e_i2b, e_i2s, e_dup_i, e_dup_r, e_pop_i, e_pop_r, e_dup2_l, e_dup2_ir, e_dup2_ii, e_ifeq, e_ifne, e_iflt, e_ifge, e_ifgt, e_ifle, e_iceq, e_icne, e_iclt, e_icge, e_icgt, e_icle, e_goto, e_switch, e_invokevirtual, e_invokestatic, e_invokespecial, e_ret0, e_ret1, e_ret2, e_ret3, ldI_s, ldL_s, ldR_s, clO_s, ctP_s, ctS_s, mgo_0, mgo_s, pjc_s, pj_0, pj_s, lk_s, rm1_0, rm1_i, rm1_r, rm1_l, rm2_0, rm2_i, rm2_r, rm2_l, csL_s, lc_lt, lc_ge, lc_gt, lc_le, lc_eq, b01_0, b01_1, b01_01, b01_n, up2_o, up2_s, up2_u, ne_eq, reduceCtorEq, Nat.reduceAdd, Nat.reduceEqDiff, Nat.reduceLT, Nat.reduceLeDiff, Int.reduceLE, Int.reduceLT, Int.reduceAdd, Int.reduceNeg, Int.reduceMul, Int.reduceSub, Int.reduceEq, Int.reduceToNat, Int.reduceNatCast, Int.cast_ofNat_Int, ↓reduceIte, and_self, List.drop_succ_cons, List.drop_zero, List.take_succ_cons, List.take_zero, List.length_cons, List.length_nil, List.reverse_cons, List.reverse_nil, List.nil_append, List.cons_append, Option.toList, true_and, and_true, or_false, false_or, or_true, true_or, forall_const, Classical.not_not, not_false_eq_true, not_true_eq_false, false_implies, true_implies, implies_true, imp_self, e1, Int.toNat_natCast]
  refine ⟨fun q => hQ _ _ ⟨hk, ?_⟩, fun q => ?_⟩
  · rw [show A_tolls (vX M) = _ from if_pos hc, show (vX M 0 4).toNat = a by show (M 1 5).toNat = a; omega]
  · have hx := paysV_b hY (t := a) q
    rw [(laid_out k2 (c := a) q).2.2.2.2.2]
    repeat (refine And.intro (by omega) ?_)
    exact hI_14 (7 - (a + 1)) _ _ _ (by omega) ⟨hc, hk, k2, a + 1, by omega, by omega, rfl, rfl⟩
set_option maxHeartbeats 4000000 in
set_option maxRecDepth 100000 in
theorem m0_tolls {rs : List (Nat × Nat)} : MOK cl8 (sh8 rs) tyl8 Nws8 7 yX0_tolls cX0_tolls 3 (some .int) (sp0_tolls rs) := by
  refine mok_of (own := RX0) (tb := tb0 (csL (cs0_tolls rs))) (rt := 1) (fuel := 400) (fun avs M Q => [(14, [0, 1, 2], fun m_ vs M1 => ∃ y_n : Int, ∃ y_c : Int, vs = [ar 0, ai y_n, ai y_c] ∧ J0_tolls_14 rs M m_ y_n y_c M1)]) (by decide) rfl nws8_ok (tbOK0 _) rfl (csL_all ?_) ?_ ?_ ?_
  · intro q hq
    simp only [cs0_tolls, List.mem_cons, List.not_mem_nil, or_false] at hq
    rcases hq with rfl
    · exact cg0_asksValley (by decide)
  · intro avs M Q hsp
    obtain ⟨xs, hx⟩ := spR_un _ _ _ hsp
    obtain ⟨e, hl⟩ := unA_mkT hx
    obtain rfl := len0 hl
    have e : avs = [ar 0] := e
    subst e
    simp [szL, isL]
  · intro avs M Q hM hav hsp
    obtain ⟨xs, hx⟩ := spR_un _ _ _ hsp
    obtain ⟨e, hl⟩ := unA_mkT hx
    obtain rfl := len0 hl
    have e : avs = [ar 0] := e
    subst e
    exact in0_tolls hM hsp.1 hsp.2 _ (fun m_ y_n y_c M2 hJ => ⟨m_, y_n, y_c, rfl, hJ⟩)
  · intro avs M Q hM hav hsp q hq m_ vs M1 hM1 hv hJ
    obtain ⟨xs, hx⟩ := spR_un _ _ _ hsp
    obtain ⟨e, hl⟩ := unA_mkT hx
    obtain rfl := len0 hl
    have e : avs = [ar 0] := e
    subst e
    simp only [List.mem_cons, List.not_mem_nil, or_false] at hq
    rcases hq with rfl
    · obtain ⟨y_n, y_c, rfl, hJ⟩ := hJ
      exact at0_tolls_14 hM hsp.1 hsp.2 hM1 (hv (1, ai y_n) (List.mem_of_getElem? (i := 1) rfl)) (hv (2, ai y_c) (List.mem_of_getElem? (i := 2) rfl)) hJ _ (fun m2 z_n z_c M2 hm hJ2 => ⟨m2, hm, z_n, z_c, rfl, hJ2⟩)
/-- the first that broke, by carts and by turns -/
theorem brk_x {V : Vy} (h4 : 0 ≤ V 0 4 ∧ V 0 4 ≤ 7) (b : Nat) : ((rT V (V 0 4).toNat).2.1 b = -1 ∧ (rT V (V 0 4).toNat).2.2 b = 100000) ∨ (0 ≤ (rT V (V 0 4).toNat).2.1 b ∧ (rT V (V 0 4).toNat).2.1 b < V 0 4 ∧ (rT V (V 0 4).toNat).2.2 b = (rT V (V 0 4).toNat).2.1 b) := by
  have k := broke_at (w := whoM (tellP V)) (V := V) (C := tellP V) (n := (V 0 4).toNat) (by omega) (fun t ht => tell_3 (by omega)) b
  rw [Int.toNat_of_nonneg h4.1] at k
  exact k
def P0_fails (rs : List (Nat × Nat)) (M : Mm) : Prop := okX M
def R0_fails (rs : List (Nat × Nat)) (M : Mm) (v : Int) (M1 : Mm) : Prop := keepX M M1 ∧ v = A_fails (vX M)
def sp0_fails (rs : List (Nat × Nat)) : Spec := spR true [] 1 (fun x M => P0_fails rs M) (fun x M v M1 => R0_fails rs M v M1)
theorem c0_fails {rs : List (Nat × Nat)} {M : Mm} {Q : Option AV → Mm → Prop} : sp0_fails rs [ar 0] M Q = (P0_fails rs M ∧ ∀ (v : Int) (M1 : Mm), R0_fails rs M v M1 → Q (some (ai v)) M1) := rfl
def cs0_fails (rs : List (Nat × Nat)) : List (Nat × Nat × Nat × Spec) := [(260, 1, 1, (sp0_asksValley rs))]
def J0_fails_14 (rs : List (Nat × Nat)) (M : Mm) (m : Nat) (n : Int) (b : Int) (M1 : Mm) : Prop := 0 < vX M 0 8 ∧ keepX M M1 ∧ laidX (vX M) (tellP (vX M)) M1 ∧ ∃ a : Nat, b = a ∧ (a : Int) ≤ M 1 4 ∧ ((n = -1 ∧ mnR (rT (vX M) (vX M 0 4).toNat).2.2 a = 100000) ∨ (0 ≤ n ∧ n ≤ 6 ∧ mnR (rT (vX M) (vX M 0 4).toNat).2.2 a = n)) ∧ m = 3 - a
set_option maxHeartbeats 4000000 in
set_option maxRecDepth 100000 in
theorem in0_fails {rs : List (Nat × Nat)} {M : Mm} {Q : Option AV → Mm → Prop} (hM : okM (sh8 rs) M) (hP : P0_fails rs M) (hQ : ∀ (v : Int) (M1 : Mm), R0_fails rs M v M1 → Q (some (ai v)) M1) (I_14 : List AV → Mm → Prop) (hI_14 : ∀ (m_ : Nat) (y_n : Int) (y_b : Int) (M2 : Mm), J0_fails_14 rs M m_ y_n y_b M2 → I_14 [ar 0, ai y_n, ai y_b] M2) : wp (tb0 (csL (cs0_fails rs))) (sh8 rs) 3 1 cX0_fails [(14, [0, 1, 2], I_14)] Q 400 0 [(0, ar 0)] [] M := by
  obtain ⟨hY, hB⟩ := id hP
  have h3 : 0 ≤ M 1 4 ∧ M 1 4 ≤ 3 := (okY_n hY).1
  simp only [e_wp dX0_fails_0 rfl, e_wp dX0_fails_1 rfl, e_wp dX0_fails_4 rfl, e_wp dX0_fails_7 rfl, e_wp dX0_fails_9 rfl, e_wp dX0_fails_10 rfl, e_wp dX0_fails_11 rfl, e_wp dX0_fails_12 rfl, e_wp dX0_fails_13 rfl, e_wp dX0_fails_14 rfl, e_wp dX0_fails_15 rfl, e_wp dX0_fails_16 rfl, e_wp dX0_fails_19 rfl, e_wp dX0_fails_22 rfl, e_wp dX0_fails_25 rfl, e_wp dX0_fails_26 rfl, e_wp dX0_fails_29 rfl, e_wp dX0_fails_30 rfl, e_wp dX0_fails_31 rfl, e_wp dX0_fails_32 rfl, e_wp dX0_fails_35 rfl, e_wp dX0_fails_36 rfl, e_wp dX0_fails_37 rfl, e_wp dX0_fails_40 rfl, e_wp dX0_fails_41 rfl, e_wp dX0_fails_44 rfl, e_wp dX0_fails_45 rfl, e_wp dX0_fails_46 rfl, e_wp dX0_fails_47 rfl, e_wp dX0_fails_50 rfl, e_wp dX0_fails_51 rfl, e_wp dX0_fails_54 rfl, e_wp dX0_fails_55 rfl, e_wp dX0_fails_56 rfl, e_wp dX0_fails_57 rfl, e_wp dX0_fails_60 rfl, e_wp dX0_fails_63 rfl, e_wp dX0_fails_64 rfl, c0_asksValley, cs0_fails, g0_10, g0_153, g0_83, a8_13, w8_13, a8_14, w8_14, a8_15, w8_15, a8_16, w8_16, a8_17, w8_17, a8_18, w8_18, a8_19, w8_19, a8_20, w8_20, a8_21, w8_21, a8_22, w8_22, a8_23, w8_23, a8_24, w8_24, a8_25, w8_25, a8_26, w8_26, a8_27, w8_27, a8_28, w8_28, a8_29, w8_29, a8_30, w8_30, a8_31, w8_31, a8_32, w8_32, a8_33, w8_33, a8_34, w8_34, a8_35, w8_35, a8_36, w8_36, a8_37, w8_37, a8_38, w8_38, a8_39, w8_39, a8_40, w8_40, a8_12, w8_12, a8_6, a8_7, e_iconst, e_bipush, e_sipush, e_lconst_0, e_lconst_1, e_iload, e_iload_0, e_iload_1, e_iload_2, e_iload_3, e_lload, e_lload_0, e_lload_1, e_lload_2, e_lload_3, e_aload, e_aload_0, e_aload_1, e_aload_2, e_aload_3, e_istore, e_istore_0, e_istore_1, e_istore_2, e_istore_3, e_astore, e_astore_0, e_astore_1, e_astore_2, e_astore_3, e_lstore, e_lstore_0, e_lstore_1, e_lstore_2, e_lstore_3, e_iinc, e_iadd, e_isub, e_imul, e_ladd, e_lsub, e_lmul, e_idiv, e_irem, e_ldiv, e_lrem, e_ineg, e_lneg, e_iand, e_ior, e_ixor, e_ishl, e_ishr, e_iushr, e_lcmp, e_i2l, e_l2i, e_i2b, e_i2s, e_dup_i, e_dup_r, e_pop_i, e_pop_r, e_dup2_l, e_dup2_ir, e_dup2_ii, e_ifeq, e_ifne, e_iflt, e_ifge, e_ifgt, e_ifle, e_iceq, e_icne, e_iclt, e_icge, e_icgt, e_icle, e_goto, e_switch, e_invokevirtual, e_invokestatic, e_invokespecial, e_ret0, e_ret1, e_ret2, e_ret3, ldI_s, ldL_s, ldR_s, clO_s, ctP_s, ctS_s, mgo_0, mgo_s, pjc_s, pj_0, pj_s, lk_s, rm1_0, rm1_i, rm1_r, rm1_l, rm2_0, rm2_i, rm2_r, rm2_l, csL_s, lc_lt, lc_ge, lc_gt, lc_le, lc_eq, b01_0, b01_1, b01_01, b01_n, up2_o, up2_s, up2_u, ne_eq, reduceCtorEq, Nat.reduceAdd, Nat.reduceEqDiff, Nat.reduceLT, Nat.reduceLeDiff, Int.reduceLE, Int.reduceLT, Int.reduceAdd, Int.reduceNeg, Int.reduceMul, Int.reduceSub, Int.reduceEq, Int.reduceToNat, Int.reduceNatCast, Int.cast_ofNat_Int, ↓reduceIte, and_self, List.drop_succ_cons, List.drop_zero, List.take_succ_cons, List.take_zero, List.length_cons, List.length_nil, List.reverse_cons, List.reverse_nil, List.nil_append, List.cons_append, Option.toList, true_and, and_true, or_false, false_or, or_true, true_or, forall_const, Classical.not_not, not_false_eq_true, not_true_eq_false, false_implies, true_implies, implies_true, imp_self]
  refine ⟨⟨hY, hB⟩, fun v M1 hR => ?_⟩
  obtain ⟨r1, r2, r3⟩ := hR
  refine ⟨fun z => ?_, fun z => hQ _ _ ⟨r1, ?_⟩⟩
  · rw [r2, b01_0] at z
    exact hI_14 _ _ _ _ ⟨Classical.not_not.mp z, r1, r3, 0, rfl, h3.1, Or.inl ⟨rfl, rfl⟩, rfl⟩
  · rw [r2, b01_0] at z
    exact (if_neg z).symm
set_option maxHeartbeats 4000000 in
set_option maxRecDepth 100000 in
theorem at0_fails_14 {rs : List (Nat × Nat)} {M : Mm} {Q : Option AV → Mm → Prop} (hM : okM (sh8 rs) M) (hP : P0_fails rs M) (hQ : ∀ (v : Int) (M1 : Mm), R0_fails rs M v M1 → Q (some (ai v)) M1) {m : Nat} {n b : Int} {M1 : Mm} (hM1 : okM (sh8 rs) M1) (h_n : i32 n) (h_b : i32 b) (hJ : J0_fails_14 rs M m n b M1) (I_14 : List AV → Mm → Prop) (hI_14 : ∀ (m_ : Nat) (y_n : Int) (y_b : Int) (M2 : Mm), m_ < m → J0_fails_14 rs M m_ y_n y_b M2 → I_14 [ar 0, ai y_n, ai y_b] M2) : wp (tb0 (csL (cs0_fails rs))) (sh8 rs) 3 1 cX0_fails [(14, [0, 1, 2], I_14)] Q 400 14 [(0, ar 0), (1, ai n), (2, ai b)] [] M1 := by
  obtain ⟨hc, hk, k2, a, rfl, ha, hn, rfl⟩ := hJ
  obtain ⟨hY, hB⟩ := id hP
  have h3 : 0 ≤ M 1 4 ∧ M 1 4 ≤ 3 := (okY_n hY).1
  have h4 : 0 ≤ M 1 5 ∧ M 1 5 ≤ 7 := (okY_n hY).2.1
  have e1 := keepX_1 hk
  have eA : A_fails (vX M) = if mnR (rT (vX M) (vX M 0 4).toNat).2.2 (M 1 4).toNat = 100000 then -1 else mnR (rT (vX M) (vX M 0 4).toNat).2.2 (M 1 4).toNat := if_pos hc
  have kb := brk_x (V := vX M) h4 a
  have kc : vX M 0 4 ≤ 7 := h4.2
  have es : mnR (rT (vX M) (vX M 0 4).toNat).2.2 (a + 1) = if (rT (vX M) (vX M 0 4).toNat).2.2 a < mnR (rT (vX M) (vX M 0 4).toNat).2.2 a then (rT (vX M) (vX M 0 4).toNat).2.2 a else mnR (rT (vX M) (vX M 0 4).toNat).2.2 a := rfl
  have go : ∀ x, ((x = -1 ∧ mnR (rT (vX M) (vX M 0 4).toNat).2.2 (a + 1) = 100000) ∨ (0 ≤ x ∧ x ≤ 6 ∧ mnR (rT (vX M) (vX M 0 4).toNat).2.2 (a + 1) = x)) → (a : Int) < M 1 4 → I_14 [ar 0, ai x, ai (a + 1)] M1 := by
    intro x hx hq
    exact hI_14 (3 - (a + 1)) _ _ _ (by omega) ⟨hc, hk, k2, a + 1, by omega, by omega, hx, rfl⟩
  rw [es] at go
  simp only [e_wp dX0_fails_0 rfl, e_wp dX0_fails_1 rfl, e_wp dX0_fails_4 rfl, e_wp dX0_fails_7 rfl, e_wp dX0_fails_9 rfl, e_wp dX0_fails_10 rfl, e_wp dX0_fails_11 rfl, e_wp dX0_fails_12 rfl, e_wp dX0_fails_13 rfl, e_wp dX0_fails_14 rfl, e_wp dX0_fails_15 rfl, e_wp dX0_fails_16 rfl, e_wp dX0_fails_19 rfl, e_wp dX0_fails_22 rfl, e_wp dX0_fails_25 rfl, e_wp dX0_fails_26 rfl, e_wp dX0_fails_29 rfl, e_wp dX0_fails_30 rfl, e_wp dX0_fails_31 rfl, e_wp dX0_fails_32 rfl, e_wp dX0_fails_35 rfl, e_wp dX0_fails_36 rfl, e_wp dX0_fails_37 rfl, e_wp dX0_fails_40 rfl, e_wp dX0_fails_41 rfl, e_wp dX0_fails_44 rfl, e_wp dX0_fails_45 rfl, e_wp dX0_fails_46 rfl, e_wp dX0_fails_47 rfl, e_wp dX0_fails_50 rfl, e_wp dX0_fails_51 rfl, e_wp dX0_fails_54 rfl, e_wp dX0_fails_55 rfl, e_wp dX0_fails_56 rfl, e_wp dX0_fails_57 rfl, e_wp dX0_fails_60 rfl, e_wp dX0_fails_63 rfl, e_wp dX0_fails_64 rfl, c0_asksValley, cs0_fails, g0_10, g0_153, g0_83, a8_13, w8_13, a8_14, w8_14, a8_15, w8_15, a8_16, w8_16, a8_17, w8_17, a8_18, w8_18, a8_19, w8_19, a8_20, w8_20, a8_21, w8_21, a8_22, w8_22, a8_23, w8_23, a8_24, w8_24, a8_25, w8_25, a8_26, w8_26, a8_27, w8_27, a8_28, w8_28, a8_29, w8_29, a8_30, w8_30, a8_31, w8_31, a8_32, w8_32, a8_33, w8_33, a8_34, w8_34, a8_35, w8_35, a8_36, w8_36, a8_37, w8_37, a8_38, w8_38, a8_39, w8_39, a8_40, w8_40, a8_12, w8_12, a8_6, a8_7, e_iconst, e_bipush, e_sipush, e_lconst_0, e_lconst_1, e_iload, e_iload_0, e_iload_1, e_iload_2, e_iload_3, e_lload, e_lload_0, e_lload_1, e_lload_2, e_lload_3, e_aload, e_aload_0, e_aload_1, e_aload_2, e_aload_3, e_istore, e_istore_0, e_istore_1, e_istore_2, e_istore_3, e_astore, e_astore_0, e_astore_1, e_astore_2, e_astore_3, e_lstore, e_lstore_0, e_lstore_1, e_lstore_2, e_lstore_3, e_iinc, e_iadd, e_isub, e_imul, e_ladd, e_lsub, e_lmul, e_idiv, e_irem, e_ldiv, e_lrem, e_ineg, e_lneg, e_iand, e_ior, e_ixor, e_ishl, e_ishr, e_iushr, e_lcmp, e_i2l, e_l2i, e_i2b, e_i2s, e_dup_i, e_dup_r, e_pop_i, e_pop_r, e_dup2_l, e_dup2_ir, e_dup2_ii, e_ifeq, e_ifne, e_iflt, e_ifge, e_ifgt, e_ifle, e_iceq, e_icne, e_iclt, e_icge, e_icgt, e_icle, e_goto, e_switch, e_invokevirtual, e_invokestatic, e_invokespecial, e_ret0, e_ret1, e_ret2, e_ret3, ldI_s, ldL_s, ldR_s, clO_s, ctP_s, ctS_s, mgo_0, mgo_s, pjc_s, pj_0, pj_s, lk_s, rm1_0, rm1_i, rm1_r, rm1_l, rm2_0, rm2_i, rm2_r, rm2_l, csL_s, lc_lt, lc_ge, lc_gt, lc_le, lc_eq, b01_0, b01_1, b01_01, b01_n, up2_o, up2_s, up2_u, ne_eq, reduceCtorEq, Nat.reduceAdd, Nat.reduceEqDiff, Nat.reduceLT, Nat.reduceLeDiff, Int.reduceLE, Int.reduceLT, Int.reduceAdd, Int.reduceNeg, Int.reduceMul, Int.reduceSub, Int.reduceEq, Int.reduceToNat, Int.reduceNatCast, Int.cast_ofNat_Int, ↓reduceIte, and_self, List.drop_succ_cons, List.drop_zero, List.take_succ_cons, List.take_zero, List.length_cons, List.length_nil, List.reverse_cons, List.reverse_nil, List.nil_append, List.cons_append, Option.toList, true_and, and_true, or_false, false_or, or_true, true_or, forall_const, Classical.not_not, not_false_eq_true, not_true_eq_false, false_implies, true_implies, implies_true, imp_self, e1, Int.toNat_natCast]
  refine ⟨fun q => hQ _ _ ⟨hk, ?_⟩, fun q => ?_⟩
  · rw [eA, show (M 1 4).toNat = a by omega]
    split <;> omega
  · rw [(laid_end h4.1 k2 (b := a) q).2.2]
    generalize (rT (vX M) (vX M 0 4).toNat).2.1 a = x at *
    generalize (rT (vX M) (vX M 0 4).toNat).2.2 a = y at *
    generalize mnR (rT (vX M) (vX M 0 4).toNat).2.2 a = z at *
    refine ⟨by omega, fun w => ⟨by omega, go _ ?_ q⟩, fun w => ⟨fun p => ⟨by omega, by omega, go _ ?_ q⟩, fun p => ⟨by omega, fun o => ⟨by omega, go _ ?_ q⟩, fun o => ⟨by omega, by omega, go _ ?_ q⟩⟩⟩⟩ <;> split <;> omega
set_option maxHeartbeats 4000000 in
set_option maxRecDepth 100000 in
theorem m0_fails {rs : List (Nat × Nat)} : MOK cl8 (sh8 rs) tyl8 Nws8 7 yX0_fails cX0_fails 3 (some .int) (sp0_fails rs) := by
  refine mok_of (own := RX0) (tb := tb0 (csL (cs0_fails rs))) (rt := 1) (fuel := 400) (fun avs M Q => [(14, [0, 1, 2], fun m_ vs M1 => ∃ y_n : Int, ∃ y_b : Int, vs = [ar 0, ai y_n, ai y_b] ∧ J0_fails_14 rs M m_ y_n y_b M1)]) (by decide) rfl nws8_ok (tbOK0 _) rfl (csL_all ?_) ?_ ?_ ?_
  · intro q hq
    simp only [cs0_fails, List.mem_cons, List.not_mem_nil, or_false] at hq
    rcases hq with rfl
    · exact cg0_asksValley (by decide)
  · intro avs M Q hsp
    obtain ⟨xs, hx⟩ := spR_un _ _ _ hsp
    obtain ⟨e, hl⟩ := unA_mkT hx
    obtain rfl := len0 hl
    have e : avs = [ar 0] := e
    subst e
    simp [szL, isL]
  · intro avs M Q hM hav hsp
    obtain ⟨xs, hx⟩ := spR_un _ _ _ hsp
    obtain ⟨e, hl⟩ := unA_mkT hx
    obtain rfl := len0 hl
    have e : avs = [ar 0] := e
    subst e
    exact in0_fails hM hsp.1 hsp.2 _ (fun m_ y_n y_b M2 hJ => ⟨m_, y_n, y_b, rfl, hJ⟩)
  · intro avs M Q hM hav hsp q hq m_ vs M1 hM1 hv hJ
    obtain ⟨xs, hx⟩ := spR_un _ _ _ hsp
    obtain ⟨e, hl⟩ := unA_mkT hx
    obtain rfl := len0 hl
    have e : avs = [ar 0] := e
    subst e
    simp only [List.mem_cons, List.not_mem_nil, or_false] at hq
    rcases hq with rfl
    · obtain ⟨y_n, y_b, rfl, hJ⟩ := hJ
      exact at0_fails_14 hM hsp.1 hsp.2 hM1 (hv (1, ai y_n) (List.mem_of_getElem? (i := 1) rfl)) (hv (2, ai y_b) (List.mem_of_getElem? (i := 2) rfl)) hJ _ (fun m2 z_n z_b M2 hm hJ2 => ⟨m2, hm, z_n, z_b, rfl, hJ2⟩)
def P0_kept (rs : List (Nat × Nat)) (b : Int) (M : Mm) : Prop := okX M
def R0_kept (rs : List (Nat × Nat)) (b : Int) (M : Mm) (v : Int) (M1 : Mm) : Prop := keepX M M1 ∧ v = A_kept (vX M) b
def sp0_kept (rs : List (Nat × Nat)) : Spec := spR true [0] 1 (fun x M => P0_kept rs (x 0) M) (fun x M v M1 => R0_kept rs (x 0) M v M1)
theorem c0_kept {rs : List (Nat × Nat)} {b : Int} {M : Mm} {Q : Option AV → Mm → Prop} : sp0_kept rs [ar 0, ai b] M Q = (P0_kept rs b M ∧ ∀ (v : Int) (M1 : Mm), R0_kept rs b M v M1 → Q (some (ai v)) M1) := rfl
def cs0_kept (rs : List (Nat × Nat)) : List (Nat × Nat × Nat × Spec) := [(271, 1, 2, (sp0_asksBridge rs))]
def J0_kept_15 (rs : List (Nat × Nat)) (b : Int) (M : Mm) (m : Nat) (b_ : Int) (n : Int) (k : Int) (M1 : Mm) : Prop := b = b_ ∧ isB (vX M) b ∧ keepX M M1 ∧ laidX (vX M) (tellP (vX M)) M1 ∧ ∃ a : Nat, k = a ∧ (a : Int) ≤ M1 15 b.toNat ∧ n = orL (stk (mfX M1 b) a) ∧ m = 8 - a
set_option maxHeartbeats 4000000 in
set_option maxRecDepth 100000 in
theorem in0_kept {rs : List (Nat × Nat)} {b : Int} {M : Mm} {Q : Option AV → Mm → Prop} (hM : okM (sh8 rs) M) (h_b : i32 b) (hP : P0_kept rs b M) (hQ : ∀ (v : Int) (M1 : Mm), R0_kept rs b M v M1 → Q (some (ai v)) M1) (I_15 : List AV → Mm → Prop) (hI_15 : ∀ (m_ : Nat) (y_b_ : Int) (y_n : Int) (y_k : Int) (M2 : Mm), J0_kept_15 rs b M m_ y_b_ y_n y_k M2 → I_15 [ar 0, ai y_b_, ai y_n, ai y_k] M2) : wp (tb0 (csL (cs0_kept rs))) (sh8 rs) 4 1 cX0_kept [(15, [0, 1, 2, 3], I_15)] Q 400 0 [(0, ar 0), (1, ai b)] [] M := by
  obtain ⟨hY, hB⟩ := id hP
  have h3 : 0 ≤ M 1 4 ∧ M 1 4 ≤ 3 := (okY_n hY).1
  have h4 : 0 ≤ M 1 5 ∧ M 1 5 ≤ 7 := (okY_n hY).2.1
  simp only [e_wp dX0_kept_0 rfl, e_wp dX0_kept_1 rfl, e_wp dX0_kept_2 rfl, e_wp dX0_kept_5 rfl, e_wp dX0_kept_8 rfl, e_wp dX0_kept_10 rfl, e_wp dX0_kept_11 rfl, e_wp dX0_kept_12 rfl, e_wp dX0_kept_13 rfl, e_wp dX0_kept_14 rfl, e_wp dX0_kept_15 rfl, e_wp dX0_kept_16 rfl, e_wp dX0_kept_17 rfl, e_wp dX0_kept_20 rfl, e_wp dX0_kept_21 rfl, e_wp dX0_kept_22 rfl, e_wp dX0_kept_25 rfl, e_wp dX0_kept_26 rfl, e_wp dX0_kept_27 rfl, e_wp dX0_kept_28 rfl, e_wp dX0_kept_31 rfl, e_wp dX0_kept_33 rfl, e_wp dX0_kept_34 rfl, e_wp dX0_kept_35 rfl, e_wp dX0_kept_36 rfl, e_wp dX0_kept_37 rfl, e_wp dX0_kept_38 rfl, e_wp dX0_kept_39 rfl, e_wp dX0_kept_40 rfl, e_wp dX0_kept_41 rfl, e_wp dX0_kept_44 rfl, e_wp dX0_kept_47 rfl, e_wp dX0_kept_48 rfl, c0_asksBridge, cs0_kept, g0_31, g0_28, a8_13, w8_13, a8_14, w8_14, a8_15, w8_15, a8_16, w8_16, a8_17, w8_17, a8_18, w8_18, a8_19, w8_19, a8_20, w8_20, a8_21, w8_21, a8_22, w8_22, a8_23, w8_23, a8_24, w8_24, a8_25, w8_25, a8_26, w8_26, a8_27, w8_27, a8_28, w8_28, a8_29, w8_29, a8_30, w8_30, a8_31, w8_31, a8_32, w8_32, a8_33, w8_33, a8_34, w8_34, a8_35, w8_35, a8_36, w8_36, a8_37, w8_37, a8_38, w8_38, a8_39, w8_39, a8_40, w8_40, a8_12, w8_12, a8_6, a8_7, e_iconst, e_bipush, e_sipush, e_lconst_0, e_lconst_1, e_iload, e_iload_0, e_iload_1, e_iload_2, e_iload_3, e_lload, e_lload_0, e_lload_1, e_lload_2, e_lload_3, e_aload, e_aload_0, e_aload_1, e_aload_2, e_aload_3, e_istore, e_istore_0, e_istore_1, e_istore_2, e_istore_3, e_astore, e_astore_0, e_astore_1, e_astore_2, e_astore_3, e_lstore, e_lstore_0, e_lstore_1, e_lstore_2, e_lstore_3, e_iinc, e_iadd, e_isub, e_imul, e_ladd, e_lsub, e_lmul, e_idiv, e_irem, e_ldiv, e_lrem, e_ineg, e_lneg, e_iand, e_ior, e_ixor, e_ishl, e_ishr, e_iushr, e_lcmp, e_i2l, e_l2i, e_i2b, e_i2s, e_dup_i, e_dup_r, e_pop_i, e_pop_r, e_dup2_l, e_dup2_ir, e_dup2_ii, e_ifeq, e_ifne, e_iflt, e_ifge, e_ifgt, e_ifle, e_iceq, e_icne, e_iclt, e_icge, e_icgt, e_icle, e_goto, e_switch, e_invokevirtual, e_invokestatic, e_invokespecial, e_ret0, e_ret1, e_ret2, e_ret3, ldI_s, ldL_s, ldR_s, clO_s, ctP_s, ctS_s, mgo_0, mgo_s, pjc_s, pj_0, pj_s, lk_s, rm1_0, rm1_i, rm1_r, rm1_l, rm2_0, rm2_i, rm2_r, rm2_l, csL_s, lc_lt, lc_ge, lc_gt, lc_le, lc_eq, b01_0, b01_1, b01_01, b01_n, up2_o, up2_s, up2_u, ne_eq, reduceCtorEq, Nat.reduceAdd, Nat.reduceEqDiff, Nat.reduceLT, Nat.reduceLeDiff, Int.reduceLE, Int.reduceLT, Int.reduceAdd, Int.reduceNeg, Int.reduceMul, Int.reduceSub, Int.reduceEq, Int.reduceToNat, Int.reduceNatCast, Int.cast_ofNat_Int, ↓reduceIte, and_self, List.drop_succ_cons, List.drop_zero, List.take_succ_cons, List.take_zero, List.length_cons, List.length_nil, List.reverse_cons, List.reverse_nil, List.nil_append, List.cons_append, Option.toList, true_and, and_true, or_false, false_or, or_true, true_or, forall_const, Classical.not_not, not_false_eq_true, not_true_eq_false, false_implies, true_implies, implies_true, imp_self]
  refine ⟨⟨hY, hB⟩, fun v M1 hR => ?_⟩
  obtain ⟨r1, r2, r3⟩ := hR
  refine ⟨fun z => ?_, fun z => hQ _ _ ⟨r1, ?_⟩⟩
  · rw [r2, b01_0] at z
    have z2 := Classical.not_not.mp z
    have ob := (laid_end h4.1 r3 (b := b.toNat) (by show ((b.toNat : Nat) : Int) < M 1 4; omega)).1.2.1
    rw [Int.toNat_natCast] at ob
    exact hI_15 _ _ _ _ _ ⟨rfl, z2, r1, r3, 0, rfl, ob.1, rfl, rfl⟩
  · rw [r2, b01_0] at z
    exact (if_neg z).symm
set_option maxHeartbeats 4000000 in
set_option maxRecDepth 100000 in
theorem at0_kept_15 {rs : List (Nat × Nat)} {b : Int} {M : Mm} {Q : Option AV → Mm → Prop} (hM : okM (sh8 rs) M) (h_b : i32 b) (hP : P0_kept rs b M) (hQ : ∀ (v : Int) (M1 : Mm), R0_kept rs b M v M1 → Q (some (ai v)) M1) {m : Nat} {b_ n k : Int} {M1 : Mm} (hM1 : okM (sh8 rs) M1) (h_b_ : i32 b_) (h_n : i32 n) (h_k : i32 k) (hJ : J0_kept_15 rs b M m b_ n k M1) (I_15 : List AV → Mm → Prop) (hI_15 : ∀ (m_ : Nat) (y_b_ : Int) (y_n : Int) (y_k : Int) (M2 : Mm), m_ < m → J0_kept_15 rs b M m_ y_b_ y_n y_k M2 → I_15 [ar 0, ai y_b_, ai y_n, ai y_k] M2) : wp (tb0 (csL (cs0_kept rs))) (sh8 rs) 4 1 cX0_kept [(15, [0, 1, 2, 3], I_15)] Q 400 15 [(0, ar 0), (1, ai b_), (2, ai n), (3, ai k)] [] M1 := by
  obtain ⟨rfl, hc, hk, k2, a, rfl, ha, rfl, rfl⟩ := hJ
  obtain ⟨hY, hB⟩ := id hP
  have h3 : 0 ≤ M 1 4 ∧ M 1 4 ≤ 3 := (okY_n hY).1
  have h4 : 0 ≤ M 1 5 ∧ M 1 5 ≤ 7 := (okY_n hY).2.1
  have hb3 : b < M 1 4 := hc.2
  have hb : ((b.toNat : Nat) : Int) = b := Int.toNat_of_nonneg hc.1
  obtain ⟨ob, hs, -⟩ := laid_end h4.1 k2 (b := b.toNat) (by show ((b.toNat : Nat) : Int) < M 1 4; omega)
  rw [hb] at ob hs
  have od := ob.2.1
  simp only [e_wp dX0_kept_0 rfl, e_wp dX0_kept_1 rfl, e_wp dX0_kept_2 rfl, e_wp dX0_kept_5 rfl, e_wp dX0_kept_8 rfl, e_wp dX0_kept_10 rfl, e_wp dX0_kept_11 rfl, e_wp dX0_kept_12 rfl, e_wp dX0_kept_13 rfl, e_wp dX0_kept_14 rfl, e_wp dX0_kept_15 rfl, e_wp dX0_kept_16 rfl, e_wp dX0_kept_17 rfl, e_wp dX0_kept_20 rfl, e_wp dX0_kept_21 rfl, e_wp dX0_kept_22 rfl, e_wp dX0_kept_25 rfl, e_wp dX0_kept_26 rfl, e_wp dX0_kept_27 rfl, e_wp dX0_kept_28 rfl, e_wp dX0_kept_31 rfl, e_wp dX0_kept_33 rfl, e_wp dX0_kept_34 rfl, e_wp dX0_kept_35 rfl, e_wp dX0_kept_36 rfl, e_wp dX0_kept_37 rfl, e_wp dX0_kept_38 rfl, e_wp dX0_kept_39 rfl, e_wp dX0_kept_40 rfl, e_wp dX0_kept_41 rfl, e_wp dX0_kept_44 rfl, e_wp dX0_kept_47 rfl, e_wp dX0_kept_48 rfl, c0_asksBridge, cs0_kept, g0_31, g0_28, a8_13, w8_13, a8_14, w8_14, a8_15, w8_15, a8_16, w8_16, a8_17, w8_17, a8_18, w8_18, a8_19, w8_19, a8_20, w8_20, a8_21, w8_21, a8_22, w8_22, a8_23, w8_23, a8_24, w8_24, a8_25, w8_25, a8_26, w8_26, a8_27, w8_27, a8_28, w8_28, a8_29, w8_29, a8_30, w8_30, a8_31, w8_31, a8_32, w8_32, a8_33, w8_33, a8_34, w8_34, a8_35, w8_35, a8_36, w8_36, a8_37, w8_37, a8_38, w8_38, a8_39, w8_39, a8_40, w8_40, a8_12, w8_12, a8_6, a8_7, e_iconst, e_bipush, e_sipush, e_lconst_0, e_lconst_1, e_iload, e_iload_0, e_iload_1, e_iload_2, e_iload_3, e_lload, e_lload_0, e_lload_1, e_lload_2, e_lload_3, e_aload, e_aload_0, e_aload_1, e_aload_2, e_aload_3, e_istore, e_istore_0, e_istore_1, e_istore_2, e_istore_3, e_astore, e_astore_0, e_astore_1, e_astore_2, e_astore_3, e_lstore, e_lstore_0, e_lstore_1, e_lstore_2, e_lstore_3, e_iinc, e_iadd, e_isub, e_imul, e_ladd, e_lsub, e_lmul, e_idiv, e_irem, e_ldiv, e_lrem, e_ineg, e_lneg, e_iand, e_ior, e_ixor, e_ishl, e_ishr, e_iushr, e_lcmp, e_i2l, e_l2i, e_i2b, e_i2s, e_dup_i, e_dup_r, e_pop_i, e_pop_r, e_dup2_l, e_dup2_ir, e_dup2_ii, e_ifeq, e_ifne, e_iflt, e_ifge, e_ifgt, e_ifle, e_iceq, e_icne, e_iclt, e_icge, e_icgt, e_icle, e_goto, e_switch, e_invokevirtual, e_invokestatic, e_invokespecial, e_ret0, e_ret1, e_ret2, e_ret3, ldI_s, ldL_s, ldR_s, clO_s, ctP_s, ctS_s, mgo_0, mgo_s, pjc_s, pj_0, pj_s, lk_s, rm1_0, rm1_i, rm1_r, rm1_l, rm2_0, rm2_i, rm2_r, rm2_l, csL_s, lc_lt, lc_ge, lc_gt, lc_le, lc_eq, b01_0, b01_1, b01_01, b01_n, up2_o, up2_s, up2_u, ne_eq, reduceCtorEq, Nat.reduceAdd, Nat.reduceEqDiff, Nat.reduceLT, Nat.reduceLeDiff, Int.reduceLE, Int.reduceLT, Int.reduceAdd, Int.reduceNeg, Int.reduceMul, Int.reduceSub, Int.reduceEq, Int.reduceToNat, Int.reduceNatCast, Int.cast_ofNat_Int, ↓reduceIte, and_self, List.drop_succ_cons, List.drop_zero, List.take_succ_cons, List.take_zero, List.length_cons, List.length_nil, List.reverse_cons, List.reverse_nil, List.nil_append, List.cons_append, Option.toList, true_and, and_true, or_false, false_or, or_true, true_or, forall_const, Classical.not_not, not_false_eq_true, not_true_eq_false, false_implies, true_implies, implies_true, imp_self]
  refine ⟨by omega, fun q => hQ _ _ ⟨hk, ?_⟩, fun q => ?_⟩
  · rw [show A_kept (vX M) b = _ from if_pos hc, ← hs]
    show orL (stk (mfX M1 b) a) = orL (stk (mfX M1 b) (M1 15 b.toNat).toNat)
    rw [show (M1 15 b.toNat).toNat = a by omega]
  · repeat (refine And.intro (by omega) ?_)
    exact hI_15 (8 - (a + 1)) _ _ _ _ (by omega) ⟨rfl, hc, hk, k2, a + 1, by omega, by omega, rfl, rfl⟩
set_option maxHeartbeats 4000000 in
set_option maxRecDepth 100000 in
theorem m0_kept {rs : List (Nat × Nat)} : MOK cl8 (sh8 rs) tyl8 Nws8 8 yX0_kept cX0_kept 4 (some .int) (sp0_kept rs) := by
  refine mok_of (own := RX0) (tb := tb0 (csL (cs0_kept rs))) (rt := 1) (fuel := 400) (fun avs M Q => [(15, [0, 1, 2, 3], fun m_ vs M1 => ∃ y_b_ : Int, ∃ y_n : Int, ∃ y_k : Int, vs = [ar 0, ai y_b_, ai y_n, ai y_k] ∧ J0_kept_15 rs (pa true [0] avs 0) M m_ y_b_ y_n y_k M1)]) (by decide) rfl nws8_ok (tbOK0 _) rfl (csL_all ?_) ?_ ?_ ?_
  · intro q hq
    simp only [cs0_kept, List.mem_cons, List.not_mem_nil, or_false] at hq
    rcases hq with rfl
    · exact cg0_asksBridge (by decide)
  · intro avs M Q hsp
    obtain ⟨xs, hx⟩ := spR_un _ _ _ hsp
    obtain ⟨e, hl⟩ := unA_mkT hx
    obtain ⟨b, rfl⟩ := len1 hl
    have e : avs = [ar 0, ai b] := e
    subst e
    simp [szL, isL]
  · intro avs M Q hM hav hsp
    obtain ⟨xs, hx⟩ := spR_un _ _ _ hsp
    obtain ⟨e, hl⟩ := unA_mkT hx
    obtain ⟨b, rfl⟩ := len1 hl
    have e : avs = [ar 0, ai b] := e
    subst e
    exact in0_kept hM (hav (ai b) (by simp)) hsp.1 hsp.2 _ (fun m_ y_b_ y_n y_k M2 hJ => ⟨m_, y_b_, y_n, y_k, rfl, hJ⟩)
  · intro avs M Q hM hav hsp q hq m_ vs M1 hM1 hv hJ
    obtain ⟨xs, hx⟩ := spR_un _ _ _ hsp
    obtain ⟨e, hl⟩ := unA_mkT hx
    obtain ⟨b, rfl⟩ := len1 hl
    have e : avs = [ar 0, ai b] := e
    subst e
    simp only [List.mem_cons, List.not_mem_nil, or_false] at hq
    rcases hq with rfl
    · obtain ⟨y_b_, y_n, y_k, rfl, hJ⟩ := hJ
      exact at0_kept_15 hM (hav (ai b) (by simp)) hsp.1 hsp.2 hM1 (hv (1, ai y_b_) (List.mem_of_getElem? (i := 1) rfl)) (hv (2, ai y_n) (List.mem_of_getElem? (i := 2) rfl)) (hv (3, ai y_k) (List.mem_of_getElem? (i := 3) rfl)) hJ _ (fun m2 z_b_ z_n z_k M2 hm hJ2 => ⟨m2, hm, z_b_, z_n, z_k, rfl, hJ2⟩)
def P0_broken (rs : List (Nat × Nat)) (t : Int) (M : Mm) : Prop := okX M
def R0_broken (rs : List (Nat × Nat)) (t : Int) (M : Mm) (v : Int) (M1 : Mm) : Prop := keepX M M1 ∧ v = A_broken (vX M) t
def sp0_broken (rs : List (Nat × Nat)) : Spec := spR true [0] 1 (fun x M => P0_broken rs (x 0) M) (fun x M v M1 => R0_broken rs (x 0) M v M1)
theorem c0_broken {rs : List (Nat × Nat)} {t : Int} {M : Mm} {Q : Option AV → Mm → Prop} : sp0_broken rs [ar 0, ai t] M Q = (P0_broken rs t M ∧ ∀ (v : Int) (M1 : Mm), R0_broken rs t M v M1 → Q (some (ai v)) M1) := rfl
def cs0_broken (rs : List (Nat × Nat)) : List (Nat × Nat × Nat × Spec) := [(263, 1, 2, (sp0_asksCart rs))]
def J0_broken_15 (rs : List (Nat × Nat)) (t : Int) (M : Mm) (m : Nat) (t_ : Int) (n : Int) (b : Int) (M1 : Mm) : Prop := t = t_ ∧ isC (vX M) t ∧ keepX M M1 ∧ laidX (vX M) (tellP (vX M)) M1 ∧ ∃ a : Nat, b = a ∧ (a : Int) ≤ M 1 4 ∧ n = orN (fun b => if (rT (vX M) (vX M 0 4).toNat).2.2 b ≤ t then bshl 1 b else 0) a ∧ m = 3 - a
set_option maxHeartbeats 4000000 in
set_option maxRecDepth 100000 in
theorem in0_broken {rs : List (Nat × Nat)} {t : Int} {M : Mm} {Q : Option AV → Mm → Prop} (hM : okM (sh8 rs) M) (h_t : i32 t) (hP : P0_broken rs t M) (hQ : ∀ (v : Int) (M1 : Mm), R0_broken rs t M v M1 → Q (some (ai v)) M1) (I_15 : List AV → Mm → Prop) (hI_15 : ∀ (m_ : Nat) (y_t_ : Int) (y_n : Int) (y_b : Int) (M2 : Mm), J0_broken_15 rs t M m_ y_t_ y_n y_b M2 → I_15 [ar 0, ai y_t_, ai y_n, ai y_b] M2) : wp (tb0 (csL (cs0_broken rs))) (sh8 rs) 4 1 cX0_broken [(15, [0, 1, 2, 3], I_15)] Q 400 0 [(0, ar 0), (1, ai t)] [] M := by
  obtain ⟨hY, hB⟩ := id hP
  have h3 : 0 ≤ M 1 4 ∧ M 1 4 ≤ 3 := (okY_n hY).1
  simp only [e_wp dX0_broken_0 rfl, e_wp dX0_broken_1 rfl, e_wp dX0_broken_2 rfl, e_wp dX0_broken_5 rfl, e_wp dX0_broken_8 rfl, e_wp dX0_broken_10 rfl, e_wp dX0_broken_11 rfl, e_wp dX0_broken_12 rfl, e_wp dX0_broken_13 rfl, e_wp dX0_broken_14 rfl, e_wp dX0_broken_15 rfl, e_wp dX0_broken_16 rfl, e_wp dX0_broken_17 rfl, e_wp dX0_broken_20 rfl, e_wp dX0_broken_23 rfl, e_wp dX0_broken_26 rfl, e_wp dX0_broken_27 rfl, e_wp dX0_broken_28 rfl, e_wp dX0_broken_31 rfl, e_wp dX0_broken_32 rfl, e_wp dX0_broken_33 rfl, e_wp dX0_broken_34 rfl, e_wp dX0_broken_37 rfl, e_wp dX0_broken_38 rfl, e_wp dX0_broken_41 rfl, e_wp dX0_broken_42 rfl, e_wp dX0_broken_43 rfl, e_wp dX0_broken_44 rfl, e_wp dX0_broken_47 rfl, e_wp dX0_broken_48 rfl, e_wp dX0_broken_49 rfl, e_wp dX0_broken_50 rfl, e_wp dX0_broken_53 rfl, e_wp dX0_broken_54 rfl, e_wp dX0_broken_55 rfl, e_wp dX0_broken_56 rfl, e_wp dX0_broken_59 rfl, e_wp dX0_broken_62 rfl, e_wp dX0_broken_63 rfl, c0_asksCart, cs0_broken, g0_10, g0_153, g0_83, a8_13, w8_13, a8_14, w8_14, a8_15, w8_15, a8_16, w8_16, a8_17, w8_17, a8_18, w8_18, a8_19, w8_19, a8_20, w8_20, a8_21, w8_21, a8_22, w8_22, a8_23, w8_23, a8_24, w8_24, a8_25, w8_25, a8_26, w8_26, a8_27, w8_27, a8_28, w8_28, a8_29, w8_29, a8_30, w8_30, a8_31, w8_31, a8_32, w8_32, a8_33, w8_33, a8_34, w8_34, a8_35, w8_35, a8_36, w8_36, a8_37, w8_37, a8_38, w8_38, a8_39, w8_39, a8_40, w8_40, a8_12, w8_12, a8_6, a8_7, e_iconst, e_bipush, e_sipush, e_lconst_0, e_lconst_1, e_iload, e_iload_0, e_iload_1, e_iload_2, e_iload_3, e_lload, e_lload_0, e_lload_1, e_lload_2, e_lload_3, e_aload, e_aload_0, e_aload_1, e_aload_2, e_aload_3, e_istore, e_istore_0, e_istore_1, e_istore_2, e_istore_3, e_astore, e_astore_0, e_astore_1, e_astore_2, e_astore_3, e_lstore, e_lstore_0, e_lstore_1, e_lstore_2, e_lstore_3, e_iinc, e_iadd, e_isub, e_imul, e_ladd, e_lsub, e_lmul, e_idiv, e_irem, e_ldiv, e_lrem, e_ineg, e_lneg, e_iand, e_ior, e_ixor, e_ishl, e_ishr, e_iushr, e_lcmp, e_i2l, e_l2i, e_i2b, e_i2s, e_dup_i, e_dup_r, e_pop_i, e_pop_r, e_dup2_l, e_dup2_ir, e_dup2_ii, e_ifeq, e_ifne, e_iflt, e_ifge, e_ifgt, e_ifle, e_iceq, e_icne, e_iclt, e_icge, e_icgt, e_icle, e_goto, e_switch, e_invokevirtual, e_invokestatic, e_invokespecial, e_ret0, e_ret1, e_ret2, e_ret3, ldI_s, ldL_s, ldR_s, clO_s, ctP_s, ctS_s, mgo_0, mgo_s, pjc_s, pj_0, pj_s, lk_s, rm1_0, rm1_i, rm1_r, rm1_l, rm2_0, rm2_i, rm2_r, rm2_l, csL_s, lc_lt, lc_ge, lc_gt, lc_le, lc_eq, b01_0, b01_1, b01_01, b01_n, up2_o, up2_s, up2_u, ne_eq, reduceCtorEq, Nat.reduceAdd, Nat.reduceEqDiff, Nat.reduceLT, Nat.reduceLeDiff, Int.reduceLE, Int.reduceLT, Int.reduceAdd, Int.reduceNeg, Int.reduceMul, Int.reduceSub, Int.reduceEq, Int.reduceToNat, Int.reduceNatCast, Int.cast_ofNat_Int, ↓reduceIte, and_self, List.drop_succ_cons, List.drop_zero, List.take_succ_cons, List.take_zero, List.length_cons, List.length_nil, List.reverse_cons, List.reverse_nil, List.nil_append, List.cons_append, Option.toList, true_and, and_true, or_false, false_or, or_true, true_or, forall_const, Classical.not_not, not_false_eq_true, not_true_eq_false, false_implies, true_implies, implies_true, imp_self]
  refine ⟨⟨hY, hB⟩, fun v M1 hR => ?_⟩
  obtain ⟨r1, r2, r3⟩ := hR
  refine ⟨fun z => ?_, fun z => hQ _ _ ⟨r1, ?_⟩⟩
  · rw [r2, b01_0] at z
    exact hI_15 _ _ _ _ _ ⟨rfl, Classical.not_not.mp z, r1, r3, 0, rfl, h3.1, rfl, rfl⟩
  · rw [r2, b01_0] at z
    exact (if_neg z).symm
set_option maxHeartbeats 4000000 in
set_option maxRecDepth 100000 in
theorem at0_broken_15 {rs : List (Nat × Nat)} {t : Int} {M : Mm} {Q : Option AV → Mm → Prop} (hM : okM (sh8 rs) M) (h_t : i32 t) (hP : P0_broken rs t M) (hQ : ∀ (v : Int) (M1 : Mm), R0_broken rs t M v M1 → Q (some (ai v)) M1) {m : Nat} {t_ n b : Int} {M1 : Mm} (hM1 : okM (sh8 rs) M1) (h_t_ : i32 t_) (h_n : i32 n) (h_b : i32 b) (hJ : J0_broken_15 rs t M m t_ n b M1) (I_15 : List AV → Mm → Prop) (hI_15 : ∀ (m_ : Nat) (y_t_ : Int) (y_n : Int) (y_b : Int) (M2 : Mm), m_ < m → J0_broken_15 rs t M m_ y_t_ y_n y_b M2 → I_15 [ar 0, ai y_t_, ai y_n, ai y_b] M2) : wp (tb0 (csL (cs0_broken rs))) (sh8 rs) 4 1 cX0_broken [(15, [0, 1, 2, 3], I_15)] Q 400 15 [(0, ar 0), (1, ai t_), (2, ai n), (3, ai b)] [] M1 := by
  obtain ⟨rfl, hc, hk, k2, a, rfl, ha, rfl, rfl⟩ := hJ
  obtain ⟨hY, hB⟩ := id hP
  have h3 : 0 ≤ M 1 4 ∧ M 1 4 ≤ 3 := (okY_n hY).1
  have h4 : 0 ≤ M 1 5 ∧ M 1 5 ≤ 7 := (okY_n hY).2.1
  have e1 := keepX_1 hk
  have ht4 : t < M 1 5 := hc.2
  have kb := brk_x (V := vX M) h4 a
  have kc : vX M 0 4 ≤ 7 := h4.2
  simp only [e_wp dX0_broken_0 rfl, e_wp dX0_broken_1 rfl, e_wp dX0_broken_2 rfl, e_wp dX0_broken_5 rfl, e_wp dX0_broken_8 rfl, e_wp dX0_broken_10 rfl, e_wp dX0_broken_11 rfl, e_wp dX0_broken_12 rfl, e_wp dX0_broken_13 rfl, e_wp dX0_broken_14 rfl, e_wp dX0_broken_15 rfl, e_wp dX0_broken_16 rfl, e_wp dX0_broken_17 rfl, e_wp dX0_broken_20 rfl, e_wp dX0_broken_23 rfl, e_wp dX0_broken_26 rfl, e_wp dX0_broken_27 rfl, e_wp dX0_broken_28 rfl, e_wp dX0_broken_31 rfl, e_wp dX0_broken_32 rfl, e_wp dX0_broken_33 rfl, e_wp dX0_broken_34 rfl, e_wp dX0_broken_37 rfl, e_wp dX0_broken_38 rfl, e_wp dX0_broken_41 rfl, e_wp dX0_broken_42 rfl, e_wp dX0_broken_43 rfl, e_wp dX0_broken_44 rfl, e_wp dX0_broken_47 rfl, e_wp dX0_broken_48 rfl, e_wp dX0_broken_49 rfl, e_wp dX0_broken_50 rfl, e_wp dX0_broken_53 rfl, e_wp dX0_broken_54 rfl, e_wp dX0_broken_55 rfl, e_wp dX0_broken_56 rfl, e_wp dX0_broken_59 rfl, e_wp dX0_broken_62 rfl, e_wp dX0_broken_63 rfl, c0_asksCart, cs0_broken, g0_10, g0_153, g0_83, a8_13, w8_13, a8_14, w8_14, a8_15, w8_15, a8_16, w8_16, a8_17, w8_17, a8_18, w8_18, a8_19, w8_19, a8_20, w8_20, a8_21, w8_21, a8_22, w8_22, a8_23, w8_23, a8_24, w8_24, a8_25, w8_25, a8_26, w8_26, a8_27, w8_27, a8_28, w8_28, a8_29, w8_29, a8_30, w8_30, a8_31, w8_31, a8_32, w8_32, a8_33, w8_33, a8_34, w8_34, a8_35, w8_35, a8_36, w8_36, a8_37, w8_37, a8_38, w8_38, a8_39, w8_39, a8_40, w8_40, a8_12, w8_12, a8_6, a8_7, e_iconst, e_bipush, e_sipush, e_lconst_0, e_lconst_1, e_iload, e_iload_0, e_iload_1, e_iload_2, e_iload_3, e_lload, e_lload_0, e_lload_1, e_lload_2, e_lload_3, e_aload, e_aload_0, e_aload_1, e_aload_2, e_aload_3, e_istore, e_istore_0, e_istore_1, e_istore_2, e_istore_3, e_astore, e_astore_0, e_astore_1, e_astore_2, e_astore_3, e_lstore, e_lstore_0, e_lstore_1, e_lstore_2, e_lstore_3, e_iinc, e_iadd, e_isub, e_imul, e_ladd, e_lsub, e_lmul, e_idiv, e_irem, e_ldiv, e_lrem, e_ineg, e_lneg, e_iand, e_ior, e_ixor, e_ishl, e_ishr, e_iushr, e_lcmp, e_i2l, e_l2i, e_i2b, e_i2s, e_dup_i, e_dup_r, e_pop_i, e_pop_r, e_dup2_l, e_dup2_ir, e_dup2_ii, e_ifeq, e_ifne, e_iflt, e_ifge, e_ifgt, e_ifle, e_iceq, e_icne, e_iclt, e_icge, e_icgt, e_icle, e_goto, e_switch, e_invokevirtual, e_invokestatic, e_invokespecial, e_ret0, e_ret1, e_ret2, e_ret3, ldI_s, ldL_s, ldR_s, clO_s, ctP_s, ctS_s, mgo_0, mgo_s, pjc_s, pj_0, pj_s, lk_s, rm1_0, rm1_i, rm1_r, rm1_l, rm2_0, rm2_i, rm2_r, rm2_l, csL_s, lc_lt, lc_ge, lc_gt, lc_le, lc_eq, b01_0, b01_1, b01_01, b01_n, up2_o, up2_s, up2_u, ne_eq, reduceCtorEq, Nat.reduceAdd, Nat.reduceEqDiff, Nat.reduceLT, Nat.reduceLeDiff, Int.reduceLE, Int.reduceLT, Int.reduceAdd, Int.reduceNeg, Int.reduceMul, Int.reduceSub, Int.reduceEq, Int.reduceToNat, Int.reduceNatCast, Int.cast_ofNat_Int, ↓reduceIte, and_self, List.drop_succ_cons, List.drop_zero, List.take_succ_cons, List.take_zero, List.length_cons, List.length_nil, List.reverse_cons, List.reverse_nil, List.nil_append, List.cons_append, Option.toList, true_and, and_true, or_false, false_or, or_true, true_or, forall_const, Classical.not_not, not_false_eq_true, not_true_eq_false, false_implies, true_implies, implies_true, imp_self, e1, Int.toNat_natCast]
  refine ⟨fun q => hQ _ _ ⟨hk, ?_⟩, fun q => ?_⟩
  · rw [show A_broken (vX M) t = _ from if_pos hc, show (vX M 0 3).toNat = a by show (M 1 4).toNat = a; omega]
  · rw [(laid_end h4.1 k2 (b := a) q).2.2]
    have es : ∀ x, x = (if (rT (vX M) (vX M 0 4).toNat).2.2 a ≤ t then bshl 1 a else 0) → I_15 [ar 0, ai t, ai (bor (orN (fun b => if (rT (vX M) (vX M 0 4).toNat).2.2 b ≤ t then bshl 1 b else 0) a) x), ai (a + 1)] M1 := by
      rintro x rfl
      exact hI_15 (3 - (a + 1)) _ _ _ _ (by omega) ⟨rfl, hc, hk, k2, a + 1, by omega, by omega, rfl, rfl⟩
    refine ⟨by omega, fun w => ⟨by omega, es _ (by rw [if_neg (by omega)])⟩, fun w => ⟨by omega, fun p => ⟨by omega, es _ (by rw [if_neg (by omega)])⟩, fun p => ⟨by omega, es _ (by rw [if_pos (by omega)])⟩⟩⟩
set_option maxHeartbeats 4000000 in
set_option maxRecDepth 100000 in
theorem m0_broken {rs : List (Nat × Nat)} : MOK cl8 (sh8 rs) tyl8 Nws8 8 yX0_broken cX0_broken 4 (some .int) (sp0_broken rs) := by
  refine mok_of (own := RX0) (tb := tb0 (csL (cs0_broken rs))) (rt := 1) (fuel := 400) (fun avs M Q => [(15, [0, 1, 2, 3], fun m_ vs M1 => ∃ y_t_ : Int, ∃ y_n : Int, ∃ y_b : Int, vs = [ar 0, ai y_t_, ai y_n, ai y_b] ∧ J0_broken_15 rs (pa true [0] avs 0) M m_ y_t_ y_n y_b M1)]) (by decide) rfl nws8_ok (tbOK0 _) rfl (csL_all ?_) ?_ ?_ ?_
  · intro q hq
    simp only [cs0_broken, List.mem_cons, List.not_mem_nil, or_false] at hq
    rcases hq with rfl
    · exact cg0_asksCart (by decide)
  · intro avs M Q hsp
    obtain ⟨xs, hx⟩ := spR_un _ _ _ hsp
    obtain ⟨e, hl⟩ := unA_mkT hx
    obtain ⟨t, rfl⟩ := len1 hl
    have e : avs = [ar 0, ai t] := e
    subst e
    simp [szL, isL]
  · intro avs M Q hM hav hsp
    obtain ⟨xs, hx⟩ := spR_un _ _ _ hsp
    obtain ⟨e, hl⟩ := unA_mkT hx
    obtain ⟨t, rfl⟩ := len1 hl
    have e : avs = [ar 0, ai t] := e
    subst e
    exact in0_broken hM (hav (ai t) (by simp)) hsp.1 hsp.2 _ (fun m_ y_t_ y_n y_b M2 hJ => ⟨m_, y_t_, y_n, y_b, rfl, hJ⟩)
  · intro avs M Q hM hav hsp q hq m_ vs M1 hM1 hv hJ
    obtain ⟨xs, hx⟩ := spR_un _ _ _ hsp
    obtain ⟨e, hl⟩ := unA_mkT hx
    obtain ⟨t, rfl⟩ := len1 hl
    have e : avs = [ar 0, ai t] := e
    subst e
    simp only [List.mem_cons, List.not_mem_nil, or_false] at hq
    rcases hq with rfl
    · obtain ⟨y_t_, y_n, y_b, rfl, hJ⟩ := hJ
      exact at0_broken_15 hM (hav (ai t) (by simp)) hsp.1 hsp.2 hM1 (hv (1, ai y_t_) (List.mem_of_getElem? (i := 1) rfl)) (hv (2, ai y_n) (List.mem_of_getElem? (i := 2) rfl)) (hv (3, ai y_b) (List.mem_of_getElem? (i := 3) rfl)) hJ _ (fun m2 z_t_ z_n z_b M2 hm hJ2 => ⟨m2, hm, z_t_, z_n, z_b, rfl, hJ2⟩)
def P0_load (rs : List (Nat × Nat)) (b : Int) (t : Int) (k : Int) (M : Mm) : Prop := okX M
def R0_load (rs : List (Nat × Nat)) (b : Int) (t : Int) (k : Int) (M : Mm) (v : Int) (M1 : Mm) : Prop := keepX M M1 ∧ v = A_load (vX M) b t k
def sp0_load (rs : List (Nat × Nat)) : Spec := spR true [0, 0, 0] 1 (fun x M => P0_load rs (x 0) (x 1) (x 2) M) (fun x M v M1 => R0_load rs (x 0) (x 1) (x 2) M v M1)
theorem c0_load {rs : List (Nat × Nat)} {b t k : Int} {M : Mm} {Q : Option AV → Mm → Prop} : sp0_load rs [ar 0, ai b, ai t, ai k] M Q = (P0_load rs b t k M ∧ ∀ (v : Int) (M1 : Mm), R0_load rs b t k M v M1 → Q (some (ai v)) M1) := rfl
def cs0_load (rs : List (Nat × Nat)) : List (Nat × Nat × Nat × Spec) := [(277, 1, 3, (sp0_asks rs)), (128, 0, 3, (sp0_isIn rs))]
set_option maxHeartbeats 4000000 in
set_option maxRecDepth 100000 in
theorem in0_load {rs : List (Nat × Nat)} {b t k : Int} {M : Mm} {Q : Option AV → Mm → Prop} (hM : okM (sh8 rs) M) (h_b : i32 b) (h_t : i32 t) (h_k : i32 k) (hP : P0_load rs b t k M) (hQ : ∀ (v : Int) (M1 : Mm), R0_load rs b t k M v M1 → Q (some (ai v)) M1) : wp (tb0 (csL (cs0_load rs))) (sh8 rs) 4 1 cX0_load [] Q 400 0 [(0, ar 0), (1, ai b), (2, ai t), (3, ai k)] [] M := by
  obtain ⟨hY, hB⟩ := id hP
  have h3 : 0 ≤ M 1 4 ∧ M 1 4 ≤ 3 := (okY_n hY).1
  have h4 : 0 ≤ M 1 5 ∧ M 1 5 ≤ 7 := (okY_n hY).2.1
  simp only [e_wp dX0_load_0 rfl, e_wp dX0_load_1 rfl, e_wp dX0_load_2 rfl, e_wp dX0_load_3 rfl, e_wp dX0_load_6 rfl, e_wp dX0_load_9 rfl, e_wp dX0_load_11 rfl, e_wp dX0_load_12 rfl, e_wp dX0_load_13 rfl, e_wp dX0_load_14 rfl, e_wp dX0_load_15 rfl, e_wp dX0_load_16 rfl, e_wp dX0_load_19 rfl, e_wp dX0_load_20 rfl, e_wp dX0_load_21 rfl, e_wp dX0_load_22 rfl, e_wp dX0_load_23 rfl, e_wp dX0_load_24 rfl, e_wp dX0_load_25 rfl, e_wp dX0_load_26 rfl, e_wp dX0_load_27 rfl, e_wp dX0_load_28 rfl, e_wp dX0_load_31 rfl, e_wp dX0_load_34 rfl, e_wp dX0_load_35 rfl, e_wp dX0_load_38 rfl, e_wp dX0_load_40 rfl, e_wp dX0_load_41 rfl, e_wp dX0_load_42 rfl, e_wp dX0_load_43 rfl, e_wp dX0_load_44 rfl, e_wp dX0_load_45 rfl, e_wp dX0_load_46 rfl, e_wp dX0_load_47 rfl, e_wp dX0_load_48 rfl, e_wp dX0_load_49 rfl, e_wp dX0_load_52 rfl, e_wp dX0_load_53 rfl, c0_asks, cs0_load, g0_89, c0_isIn, P0_isIn, V0_isIn, g0_86, a8_13, w8_13, a8_14, w8_14, a8_15, w8_15, a8_16, w8_16, a8_17, w8_17, a8_18, w8_18, a8_19, w8_19, a8_20, w8_20, a8_21, w8_21, a8_22, w8_22, a8_23, w8_23, a8_24, w8_24, a8_25, w8_25, a8_26, w8_26, a8_27, w8_27, a8_28, w8_28, a8_29, w8_29, a8_30, w8_30, a8_31, w8_31, a8_32, w8_32, a8_33, w8_33, a8_34, w8_34, a8_35, w8_35, a8_36, w8_36, a8_37, w8_37, a8_38, w8_38, a8_39, w8_39, a8_40, w8_40, a8_12, w8_12, a8_6, a8_7, e_iconst, e_bipush, e_sipush, e_lconst_0, e_lconst_1, e_iload, e_iload_0, e_iload_1, e_iload_2, e_iload_3, e_lload, e_lload_0, e_lload_1, e_lload_2, e_lload_3, e_aload, e_aload_0, e_aload_1, e_aload_2, e_aload_3, e_istore, e_istore_0, e_istore_1, e_istore_2, e_istore_3, e_astore, e_astore_0, e_astore_1, e_astore_2, e_astore_3, e_lstore, e_lstore_0, e_lstore_1, e_lstore_2, e_lstore_3, e_iinc, e_iadd, e_isub, e_imul, e_ladd, e_lsub, e_lmul, e_idiv, e_irem, e_ldiv, e_lrem, e_ineg, e_lneg, e_iand, e_ior, e_ixor, e_ishl, e_ishr, e_iushr, e_lcmp, e_i2l, e_l2i, e_i2b, e_i2s, e_dup_i, e_dup_r, e_pop_i, e_pop_r, e_dup2_l, e_dup2_ir, e_dup2_ii, e_ifeq, e_ifne, e_iflt, e_ifge, e_ifgt, e_ifle, e_iceq, e_icne, e_iclt, e_icge, e_icgt, e_icle, e_goto, e_switch, e_invokevirtual, e_invokestatic, e_invokespecial, e_ret0, e_ret1, e_ret2, e_ret3, ldI_s, ldL_s, ldR_s, clO_s, ctP_s, ctS_s, mgo_0, mgo_s, pjc_s, pj_0, pj_s, lk_s, rm1_0, rm1_i, rm1_r, rm1_l, rm2_0, rm2_i, rm2_r, rm2_l, csL_s, lc_lt, lc_ge, lc_gt, lc_le, lc_eq, b01_0, b01_1, b01_01, b01_n, up2_o, up2_s, up2_u, ne_eq, reduceCtorEq, Nat.reduceAdd, Nat.reduceEqDiff, Nat.reduceLT, Nat.reduceLeDiff, Int.reduceLE, Int.reduceLT, Int.reduceAdd, Int.reduceNeg, Int.reduceMul, Int.reduceSub, Int.reduceEq, Int.reduceToNat, Int.reduceNatCast, Int.cast_ofNat_Int, ↓reduceIte, and_self, List.drop_succ_cons, List.drop_zero, List.take_succ_cons, List.take_zero, List.length_cons, List.length_nil, List.reverse_cons, List.reverse_nil, List.nil_append, List.cons_append, Option.toList, true_and, and_true, or_false, false_or, or_true, true_or, forall_const, Classical.not_not, not_false_eq_true, not_true_eq_false, false_implies, true_implies, implies_true, imp_self]
  refine ⟨⟨hY, hB⟩, fun v M1 hR => ?_⟩
  obtain ⟨r1, r2, r3⟩ := hR
  refine ⟨fun z => ?_, fun z => hQ _ _ ⟨r1, ?_⟩⟩
  · have z1 := z
    rw [r2, b01_0] at z1
    have q := Classical.not_not.mp z1
    have k2 := r3 (by rw [r2, b01_t q])
    obtain ⟨a, rfl⟩ := Int.eq_ofNat_of_zero_le q.1.1
    obtain ⟨n, rfl⟩ := Int.eq_ofNat_of_zero_le q.2.1
    have i1 : ((3 : Int) * n + a).toNat = 3 * n + a := by omega
    obtain ⟨t0, t1, t2, t3, t4⟩ := laid_tab k2 (t := n) (b := a) q.2.2 q.1.2
    have eA : A_load (vX M) a n k = _ := if_pos q
    rw [Int.toNat_natCast, Int.toNat_natCast] at eA
    have t0' : ((rT (vX M) (n + 1)).1 a).length ≤ 8 := t0
    have t2' : M1 27 (3 * n + a) = ((rT (vX M) (n + 1)).1 a).length := t2
    rw [i1, t2']
    repeat (refine And.intro (by omega) ?_)
    refine ⟨fun z => hQ _ _ ⟨r1, ?_⟩, fun z => ?_⟩
    · rw [eA, if_neg (by omega)]
    · have i2 : ((8 : Int) * (3 * n + a) + k).toNat = 8 * (3 * n + a) + k.toNat := by omega
      rw [i2]
      repeat (refine And.intro (by omega) ?_)
      refine hQ _ _ ⟨r1, ?_⟩
      rw [eA, if_pos (by omega)]
      exact elP_of t4 k.toNat (by omega)
  · rw [r2, b01_0] at z
    exact (if_neg z).symm
set_option maxHeartbeats 4000000 in
set_option maxRecDepth 100000 in
theorem m0_load {rs : List (Nat × Nat)} : MOK cl8 (sh8 rs) tyl8 Nws8 9 yX0_load cX0_load 4 (some .int) (sp0_load rs) := by
  refine mok_of (own := RX0) (tb := tb0 (csL (cs0_load rs))) (rt := 1) (fuel := 400) (fun avs M Q => []) (by decide) rfl nws8_ok (tbOK0 _) rfl (csL_all ?_) ?_ ?_ ?_
  · intro q hq
    simp only [cs0_load, List.mem_cons, List.not_mem_nil, or_false] at hq
    rcases hq with rfl | rfl
    · exact cg0_asks (by decide)
    · exact cg0_isIn (by decide)
  · intro avs M Q hsp
    obtain ⟨xs, hx⟩ := spR_un _ _ _ hsp
    obtain ⟨e, hl⟩ := unA_mkT hx
    obtain ⟨b, t, k, rfl⟩ := len3 hl
    have e : avs = [ar 0, ai b, ai t, ai k] := e
    subst e
    simp [szL, isL]
  · intro avs M Q hM hav hsp
    obtain ⟨xs, hx⟩ := spR_un _ _ _ hsp
    obtain ⟨e, hl⟩ := unA_mkT hx
    obtain ⟨b, t, k, rfl⟩ := len3 hl
    have e : avs = [ar 0, ai b, ai t, ai k] := e
    subst e
    exact in0_load hM (hav (ai b) (by simp)) (hav (ai t) (by simp)) (hav (ai k) (by simp)) hsp.1 hsp.2
  · intro avs M Q hM hav hsp q hq m_ vs M1 hM1 hv hJ
    obtain ⟨xs, hx⟩ := spR_un _ _ _ hsp
    obtain ⟨e, hl⟩ := unA_mkT hx
    obtain ⟨b, t, k, rfl⟩ := len3 hl
    have e : avs = [ar 0, ai b, ai t, ai k] := e
    subst e
    cases hq
def P0_last (rs : List (Nat × Nat)) (b : Int) (t : Int) (M : Mm) : Prop := okX M
def R0_last (rs : List (Nat × Nat)) (b : Int) (t : Int) (M : Mm) (v : Int) (M1 : Mm) : Prop := keepX M M1 ∧ v = A_last (vX M) b t
def sp0_last (rs : List (Nat × Nat)) : Spec := spR true [0, 0] 1 (fun x M => P0_last rs (x 0) (x 1) M) (fun x M v M1 => R0_last rs (x 0) (x 1) M v M1)
theorem c0_last {rs : List (Nat × Nat)} {b t : Int} {M : Mm} {Q : Option AV → Mm → Prop} : sp0_last rs [ar 0, ai b, ai t] M Q = (P0_last rs b t M ∧ ∀ (v : Int) (M1 : Mm), R0_last rs b t M v M1 → Q (some (ai v)) M1) := rfl
def cs0_last (rs : List (Nat × Nat)) : List (Nat × Nat × Nat × Spec) := [(277, 1, 3, (sp0_asks rs))]
set_option maxHeartbeats 4000000 in
set_option maxRecDepth 100000 in
theorem in0_last {rs : List (Nat × Nat)} {b t : Int} {M : Mm} {Q : Option AV → Mm → Prop} (hM : okM (sh8 rs) M) (h_b : i32 b) (h_t : i32 t) (hP : P0_last rs b t M) (hQ : ∀ (v : Int) (M1 : Mm), R0_last rs b t M v M1 → Q (some (ai v)) M1) : wp (tb0 (csL (cs0_last rs))) (sh8 rs) 4 1 cX0_last [] Q 400 0 [(0, ar 0), (1, ai b), (2, ai t)] [] M := by
  obtain ⟨hY, hB⟩ := id hP
  have h3 : 0 ≤ M 1 4 ∧ M 1 4 ≤ 3 := (okY_n hY).1
  have h4 : 0 ≤ M 1 5 ∧ M 1 5 ≤ 7 := (okY_n hY).2.1
  simp only [e_wp dX0_last_0 rfl, e_wp dX0_last_1 rfl, e_wp dX0_last_2 rfl, e_wp dX0_last_3 rfl, e_wp dX0_last_6 rfl, e_wp dX0_last_9 rfl, e_wp dX0_last_11 rfl, e_wp dX0_last_12 rfl, e_wp dX0_last_13 rfl, e_wp dX0_last_16 rfl, e_wp dX0_last_17 rfl, e_wp dX0_last_18 rfl, e_wp dX0_last_19 rfl, e_wp dX0_last_20 rfl, e_wp dX0_last_21 rfl, e_wp dX0_last_22 rfl, e_wp dX0_last_23 rfl, e_wp dX0_last_24 rfl, e_wp dX0_last_27 rfl, e_wp dX0_last_28 rfl, e_wp dX0_last_31 rfl, e_wp dX0_last_32 rfl, e_wp dX0_last_35 rfl, e_wp dX0_last_37 rfl, e_wp dX0_last_38 rfl, e_wp dX0_last_39 rfl, e_wp dX0_last_40 rfl, e_wp dX0_last_41 rfl, e_wp dX0_last_42 rfl, e_wp dX0_last_43 rfl, e_wp dX0_last_44 rfl, e_wp dX0_last_45 rfl, e_wp dX0_last_46 rfl, e_wp dX0_last_47 rfl, e_wp dX0_last_48 rfl, c0_asks, cs0_last, g0_89, g0_86, a8_13, w8_13, a8_14, w8_14, a8_15, w8_15, a8_16, w8_16, a8_17, w8_17, a8_18, w8_18, a8_19, w8_19, a8_20, w8_20, a8_21, w8_21, a8_22, w8_22, a8_23, w8_23, a8_24, w8_24, a8_25, w8_25, a8_26, w8_26, a8_27, w8_27, a8_28, w8_28, a8_29, w8_29, a8_30, w8_30, a8_31, w8_31, a8_32, w8_32, a8_33, w8_33, a8_34, w8_34, a8_35, w8_35, a8_36, w8_36, a8_37, w8_37, a8_38, w8_38, a8_39, w8_39, a8_40, w8_40, a8_12, w8_12, a8_6, a8_7, e_iconst, e_bipush, e_sipush, e_lconst_0, e_lconst_1, e_iload, e_iload_0, e_iload_1, e_iload_2, e_iload_3, e_lload, e_lload_0, e_lload_1, e_lload_2, e_lload_3, e_aload, e_aload_0, e_aload_1, e_aload_2, e_aload_3, e_istore, e_istore_0, e_istore_1, e_istore_2, e_istore_3, e_astore, e_astore_0, e_astore_1, e_astore_2, e_astore_3, e_lstore, e_lstore_0, e_lstore_1, e_lstore_2, e_lstore_3, e_iinc, e_iadd, e_isub, e_imul, e_ladd, e_lsub, e_lmul, e_idiv, e_irem, e_ldiv, e_lrem, e_ineg, e_lneg, e_iand, e_ior, e_ixor, e_ishl, e_ishr, e_iushr, e_lcmp, e_i2l, e_l2i, e_i2b, e_i2s, e_dup_i, e_dup_r, e_pop_i, e_pop_r, e_dup2_l, e_dup2_ir, e_dup2_ii, e_ifeq, e_ifne, e_iflt, e_ifge, e_ifgt, e_ifle, e_iceq, e_icne, e_iclt, e_icge, e_icgt, e_icle, e_goto, e_switch, e_invokevirtual, e_invokestatic, e_invokespecial, e_ret0, e_ret1, e_ret2, e_ret3, ldI_s, ldL_s, ldR_s, clO_s, ctP_s, ctS_s, mgo_0, mgo_s, pjc_s, pj_0, pj_s, lk_s, rm1_0, rm1_i, rm1_r, rm1_l, rm2_0, rm2_i, rm2_r, rm2_l, csL_s, lc_lt, lc_ge, lc_gt, lc_le, lc_eq, b01_0, b01_1, b01_01, b01_n, up2_o, up2_s, up2_u, ne_eq, reduceCtorEq, Nat.reduceAdd, Nat.reduceEqDiff, Nat.reduceLT, Nat.reduceLeDiff, Int.reduceLE, Int.reduceLT, Int.reduceAdd, Int.reduceNeg, Int.reduceMul, Int.reduceSub, Int.reduceEq, Int.reduceToNat, Int.reduceNatCast, Int.cast_ofNat_Int, ↓reduceIte, and_self, List.drop_succ_cons, List.drop_zero, List.take_succ_cons, List.take_zero, List.length_cons, List.length_nil, List.reverse_cons, List.reverse_nil, List.nil_append, List.cons_append, Option.toList, true_and, and_true, or_false, false_or, or_true, true_or, forall_const, Classical.not_not, not_false_eq_true, not_true_eq_false, false_implies, true_implies, implies_true, imp_self]
  refine ⟨⟨hY, hB⟩, fun v M1 hR => ?_⟩
  obtain ⟨r1, r2, r3⟩ := hR
  refine ⟨fun z => ?_, fun z => hQ _ _ ⟨r1, ?_⟩⟩
  · have z1 := z
    rw [r2, b01_0] at z1
    have q := Classical.not_not.mp z1
    have k2 := r3 (by rw [r2, b01_t q])
    obtain ⟨a, rfl⟩ := Int.eq_ofNat_of_zero_le q.1.1
    obtain ⟨n, rfl⟩ := Int.eq_ofNat_of_zero_le q.2.1
    have i1 : ((3 : Int) * n + a).toNat = 3 * n + a := by omega
    obtain ⟨t0, t1, t2, t3, t4⟩ := laid_tab k2 (t := n) (b := a) q.2.2 q.1.2
    have eA : A_last (vX M) a n = _ := if_pos q
    rw [Int.toNat_natCast, Int.toNat_natCast] at eA
    have t0' : ((rT (vX M) (n + 1)).1 a).length ≤ 8 := t0
    have t2' : M1 27 (3 * n + a) = ((rT (vX M) (n + 1)).1 a).length := t2
    rw [i1, t2']
    repeat (refine And.intro (by omega) ?_)
    refine ⟨fun z => ?_, fun z => hQ _ _ ⟨r1, ?_⟩⟩
    · have i2 : ((8 : Int) * (3 * n + a) + (((rT (vX M) (n + 1)).1 a).length : Int) - 1).toNat = 8 * (3 * n + a) + (((rT (vX M) (n + 1)).1 a).length - 1) := by omega
      rw [i2]
      repeat (refine And.intro (by omega) ?_)
      refine hQ _ _ ⟨r1, ?_⟩
      rw [eA, if_neg (by omega)]
      exact elP_of t4 _ (by omega)
    · rw [eA, if_pos (by omega)]
  · rw [r2, b01_0] at z
    exact (if_neg z).symm
set_option maxHeartbeats 4000000 in
set_option maxRecDepth 100000 in
theorem m0_last {rs : List (Nat × Nat)} : MOK cl8 (sh8 rs) tyl8 Nws8 9 yX0_last cX0_last 4 (some .int) (sp0_last rs) := by
  refine mok_of (own := RX0) (tb := tb0 (csL (cs0_last rs))) (rt := 1) (fuel := 400) (fun avs M Q => []) (by decide) rfl nws8_ok (tbOK0 _) rfl (csL_all ?_) ?_ ?_ ?_
  · intro q hq
    simp only [cs0_last, List.mem_cons, List.not_mem_nil, or_false] at hq
    rcases hq with rfl
    · exact cg0_asks (by decide)
  · intro avs M Q hsp
    obtain ⟨xs, hx⟩ := spR_un _ _ _ hsp
    obtain ⟨e, hl⟩ := unA_mkT hx
    obtain ⟨b, t, rfl⟩ := len2 hl
    have e : avs = [ar 0, ai b, ai t] := e
    subst e
    simp [szL, isL]
  · intro avs M Q hM hav hsp
    obtain ⟨xs, hx⟩ := spR_un _ _ _ hsp
    obtain ⟨e, hl⟩ := unA_mkT hx
    obtain ⟨b, t, rfl⟩ := len2 hl
    have e : avs = [ar 0, ai b, ai t] := e
    subst e
    exact in0_last hM (hav (ai b) (by simp)) (hav (ai t) (by simp)) hsp.1 hsp.2
  · intro avs M Q hM hav hsp q hq m_ vs M1 hM1 hv hJ
    obtain ⟨xs, hx⟩ := spR_un _ _ _ hsp
    obtain ⟨e, hl⟩ := unA_mkT hx
    obtain ⟨b, t, rfl⟩ := len2 hl
    have e : avs = [ar 0, ai b, ai t] := e
    subst e
    cases hq
def P0_ward (rs : List (Nat × Nat)) (w : Int) (k : Int) (M : Mm) : Prop := okX M
def V0_ward (rs : List (Nat × Nat)) (w : Int) (k : Int) (M : Mm) : Int := A_ward (vX M) w k
def sp0_ward (rs : List (Nat × Nat)) : Spec := spF true [0, 0] 1 (fun x M => P0_ward rs (x 0) (x 1) M) (fun x M => V0_ward rs (x 0) (x 1) M)
theorem c0_ward {rs : List (Nat × Nat)} {w k : Int} {M : Mm} {Q : Option AV → Mm → Prop} : sp0_ward rs [ar 0, ai w, ai k] M Q = (P0_ward rs w k M ∧ Q (some (ai (V0_ward rs w k M))) M) := rfl
def cs0_ward (rs : List (Nat × Nat)) : List (Nat × Nat × Nat × Spec) := [(128, 0, 3, (sp0_isIn rs)), (170, 0, 2, (sp0_isOneOf rs))]
set_option maxHeartbeats 4000000 in
set_option maxRecDepth 100000 in
theorem in0_ward {rs : List (Nat × Nat)} {w k : Int} {M : Mm} {Q : Option AV → Mm → Prop} (hM : okM (sh8 rs) M) (h_w : i32 w) (h_k : i32 k) (hP : P0_ward rs w k M) (hQ : Q (some (ai (V0_ward rs w k M))) M) : wp (tb0 (csL (cs0_ward rs))) (sh8 rs) 3 1 cX0_ward [] Q 400 0 [(0, ar 0), (1, ai w), (2, ai k)] [] M := by
  obtain ⟨hY, hB⟩ := id hP
  have h5 : 0 ≤ M 1 6 ∧ M 1 6 ≤ 5 := (okY_n hY).2.2.1
  have k0 : ¬ ((0 ≤ w ∧ w < M 1 6) ∧ 0 ≤ k ∧ k ≤ 2) → Q (some (ai (-2))) M := fun z => qeq hQ (if_neg z)
  have k1 : ((0 ≤ w ∧ w < M 1 6) ∧ 0 ≤ k ∧ k ≤ 2) → k = 0 → Q (some (ai (M 37 w.toNat))) M := fun z y => qeq hQ (by
    rw [← (vX_w M (w := w.toNat) (by omega)).1]
    exact (if_pos z).trans (if_pos y))
  have k2 : ((0 ≤ w ∧ w < M 1 6) ∧ 0 ≤ k ∧ k ≤ 2) → k = 1 → Q (some (ai (M 38 w.toNat))) M := fun z y => qeq hQ (by
    rw [← (vX_w M (w := w.toNat) (by omega)).2.1]
    exact (if_pos z).trans ((if_neg (by omega)).trans (if_pos y)))
  have k3 : ((0 ≤ w ∧ w < M 1 6) ∧ 0 ≤ k ∧ k ≤ 2) → ¬ k = 0 → ¬ k = 1 → Q (some (ai (M 39 w.toNat))) M := fun z y y2 => qeq hQ (by
    rw [← (vX_w M (w := w.toNat) (by omega)).2.2]
    exact (if_pos z).trans ((if_neg y).trans (if_neg y2)))
  simp only [e_wp dX0_ward_0 rfl, e_wp dX0_ward_1 rfl, e_wp dX0_ward_2 rfl, e_wp dX0_ward_3 rfl, e_wp dX0_ward_4 rfl, e_wp dX0_ward_7 rfl, e_wp dX0_ward_10 rfl, e_wp dX0_ward_11 rfl, e_wp dX0_ward_12 rfl, e_wp dX0_ward_13 rfl, e_wp dX0_ward_16 rfl, e_wp dX0_ward_19 rfl, e_wp dX0_ward_20 rfl, e_wp dX0_ward_21 rfl, e_wp dX0_ward_24 rfl, e_wp dX0_ward_27 rfl, e_wp dX0_ward_29 rfl, e_wp dX0_ward_30 rfl, e_wp dX0_ward_31 rfl, e_wp dX0_ward_34 rfl, e_wp dX0_ward_35 rfl, e_wp dX0_ward_38 rfl, e_wp dX0_ward_41 rfl, e_wp dX0_ward_42 rfl, e_wp dX0_ward_43 rfl, e_wp dX0_ward_46 rfl, e_wp dX0_ward_47 rfl, e_wp dX0_ward_48 rfl, e_wp dX0_ward_51 rfl, e_wp dX0_ward_52 rfl, e_wp dX0_ward_55 rfl, e_wp dX0_ward_58 rfl, e_wp dX0_ward_59 rfl, e_wp dX0_ward_60 rfl, e_wp dX0_ward_63 rfl, e_wp dX0_ward_64 rfl, e_wp dX0_ward_67 rfl, e_wp dX0_ward_70 rfl, e_wp dX0_ward_71 rfl, e_wp dX0_ward_72 rfl, g0_10, g0_182, c0_isIn, P0_isIn, V0_isIn, cs0_ward, c0_isOneOf, P0_isOneOf, V0_isOneOf, g0_185, g0_188, g0_191, a8_13, w8_13, a8_14, w8_14, a8_15, w8_15, a8_16, w8_16, a8_17, w8_17, a8_18, w8_18, a8_19, w8_19, a8_20, w8_20, a8_21, w8_21, a8_22, w8_22, a8_23, w8_23, a8_24, w8_24, a8_25, w8_25, a8_26, w8_26, a8_27, w8_27, a8_28, w8_28, a8_29, w8_29, a8_30, w8_30, a8_31, w8_31, a8_32, w8_32, a8_33, w8_33, a8_34, w8_34, a8_35, w8_35, a8_36, w8_36, a8_37, w8_37, a8_38, w8_38, a8_39, w8_39, a8_40, w8_40, a8_12, w8_12, a8_6, a8_7, e_iconst, e_bipush, e_sipush, e_lconst_0, e_lconst_1, e_iload, e_iload_0, e_iload_1, e_iload_2, e_iload_3, e_lload, e_lload_0, e_lload_1, e_lload_2, e_lload_3, e_aload, e_aload_0, e_aload_1, e_aload_2, e_aload_3, e_istore, e_istore_0, e_istore_1, e_istore_2, e_istore_3, e_astore, e_astore_0, e_astore_1, e_astore_2, e_astore_3, e_lstore, e_lstore_0, e_lstore_1, e_lstore_2, e_lstore_3, e_iinc, e_iadd, e_isub, e_imul, e_ladd, e_lsub, e_lmul, e_idiv, e_irem, e_ldiv, e_lrem, e_ineg, e_lneg, e_iand, e_ior, e_ixor, e_ishl, e_ishr, e_iushr, e_lcmp, e_i2l, e_l2i, e_i2b, e_i2s, e_dup_i, e_dup_r, e_pop_i, e_pop_r, e_dup2_l, e_dup2_ir, e_dup2_ii, e_ifeq, e_ifne, e_iflt, e_ifge, e_ifgt, e_ifle, e_iceq, e_icne, e_iclt, e_icge, e_icgt, e_icle, e_goto, e_switch, e_invokevirtual, e_invokestatic, e_invokespecial, e_ret0, e_ret1, e_ret2, e_ret3, ldI_s, ldL_s, ldR_s, clO_s, ctP_s, ctS_s, mgo_0, mgo_s, pjc_s, pj_0, pj_s, lk_s, rm1_0, rm1_i, rm1_r, rm1_l, rm2_0, rm2_i, rm2_r, rm2_l, csL_s, lc_lt, lc_ge, lc_gt, lc_le, lc_eq, b01_0, b01_1, b01_01, b01_n, up2_o, up2_s, up2_u, ne_eq, reduceCtorEq, Nat.reduceAdd, Nat.reduceEqDiff, Nat.reduceLT, Nat.reduceLeDiff, Int.reduceLE, Int.reduceLT, Int.reduceAdd, Int.reduceNeg, Int.reduceMul, Int.reduceSub, Int.reduceEq, Int.reduceToNat, Int.reduceNatCast, Int.cast_ofNat_Int, ↓reduceIte, and_self, List.drop_succ_cons, List.drop_zero, List.take_succ_cons, List.take_zero, List.length_cons, List.length_nil, List.reverse_cons, List.reverse_nil, List.nil_append, List.cons_append, Option.toList, true_and, and_true, or_false, false_or, or_true, true_or, forall_const, Classical.not_not, not_false_eq_true, not_true_eq_false, false_implies, true_implies, implies_true, imp_self]
  (repeat' (first | (intro _) | (refine And.intro ?_ ?_))); all_goals (first | omega | exact k0 (by omega) | exact k1 (by omega) (by omega) | exact k2 (by omega) (by omega) | exact k3 (by omega) (by omega) (by omega))
set_option maxHeartbeats 4000000 in
set_option maxRecDepth 100000 in
theorem m0_ward {rs : List (Nat × Nat)} : MOK cl8 (sh8 rs) tyl8 Nws8 2 yX0_ward cX0_ward 3 (some .int) (sp0_ward rs) := by
  refine mok_of (own := RX0) (tb := tb0 (csL (cs0_ward rs))) (rt := 1) (fuel := 400) (fun avs M Q => []) (by decide) rfl nws8_ok (tbOK0 _) rfl (csL_all ?_) ?_ ?_ ?_
  · intro q hq
    simp only [cs0_ward, List.mem_cons, List.not_mem_nil, or_false] at hq
    rcases hq with rfl | rfl
    · exact cg0_isIn (by decide)
    · exact cg0_isOneOf (by decide)
  · intro avs M Q hsp
    obtain ⟨xs, hx⟩ := spF_un _ _ _ hsp
    obtain ⟨e, hl⟩ := unA_mkT hx
    obtain ⟨w, k, rfl⟩ := len2 hl
    have e : avs = [ar 0, ai w, ai k] := e
    subst e
    simp [szL, isL]
  · intro avs M Q hM hav hsp
    obtain ⟨xs, hx⟩ := spF_un _ _ _ hsp
    obtain ⟨e, hl⟩ := unA_mkT hx
    obtain ⟨w, k, rfl⟩ := len2 hl
    have e : avs = [ar 0, ai w, ai k] := e
    subst e
    exact in0_ward hM (hav (ai w) (by simp)) (hav (ai k) (by simp)) hsp.1 hsp.2
  · intro avs M Q hM hav hsp q hq m_ vs M1 hM1 hv hJ
    obtain ⟨xs, hx⟩ := spF_un _ _ _ hsp
    obtain ⟨e, hl⟩ := unA_mkT hx
    obtain ⟨w, k, rfl⟩ := len2 hl
    have e : avs = [ar 0, ai w, ai k] := e
    subst e
    cases hq
theorem band1 (x : Int) : band x 1 = 0 ∨ band x 1 = 1 := by
  show ((Int32.ofInt x).toBitVec &&& 1#32).toInt = 0 ∨ ((Int32.ofInt x).toBitVec &&& 1#32).toInt = 1
  rw [BitVec.and_one_eq_setWidth_ofBool_getLsbD]
  cases (Int32.ofInt x).toBitVec.getLsbD 0
  · left; decide
  · right; decide
theorem bit_01 (x k : Int) : band (bshr x k) 1 = b01 (bitP x k) := by
  have h1 := band1 (bshr x k)
  by_cases z : bitP x k
  · rw [b01_t z]; exact z
  · rw [b01_f z]
    rcases h1 with h | h
    · exact h
    · exact absurd h z
def P0_cold (rs : List (Nat × Nat)) (c : Int) (M : Mm) : Prop := okX M
def R0_cold (rs : List (Nat × Nat)) (c : Int) (M : Mm) (v : Int) (M1 : Mm) : Prop := keepX M M1 ∧ v = A_cold (vX M) c
def sp0_cold (rs : List (Nat × Nat)) : Spec := spR true [0] 1 (fun x M => P0_cold rs (x 0) M) (fun x M v M1 => R0_cold rs (x 0) M v M1)
theorem c0_cold {rs : List (Nat × Nat)} {c : Int} {M : Mm} {Q : Option AV → Mm → Prop} : sp0_cold rs [ar 0, ai c] M Q = (P0_cold rs c M ∧ ∀ (v : Int) (M1 : Mm), R0_cold rs c M v M1 → Q (some (ai v)) M1) := rfl
def cs0_cold (rs : List (Nat × Nat)) : List (Nat × Nat × Nat × Spec) := [(250, 1, 1, (sp0_asItIs rs)), (159, 1, 2, (sp0_isCart rs))]
set_option maxHeartbeats 4000000 in
set_option maxRecDepth 100000 in
theorem in0_cold {rs : List (Nat × Nat)} {c : Int} {M : Mm} {Q : Option AV → Mm → Prop} (hM : okM (sh8 rs) M) (h_c : i32 c) (hP : P0_cold rs c M) (hQ : ∀ (v : Int) (M1 : Mm), R0_cold rs c M v M1 → Q (some (ai v)) M1) : wp (tb0 (csL (cs0_cold rs))) (sh8 rs) 2 1 cX0_cold [] Q 400 0 [(0, ar 0), (1, ai c)] [] M := by
  obtain ⟨hY, hB⟩ := id hP
  have h4 : 0 ≤ M 1 5 ∧ M 1 5 ≤ 7 := (okY_n hY).2.1
  simp only [e_wp dX0_cold_0 rfl, e_wp dX0_cold_1 rfl, e_wp dX0_cold_4 rfl, e_wp dX0_cold_5 rfl, e_wp dX0_cold_6 rfl, e_wp dX0_cold_7 rfl, e_wp dX0_cold_10 rfl, e_wp dX0_cold_13 rfl, e_wp dX0_cold_14 rfl, e_wp dX0_cold_17 rfl, e_wp dX0_cold_18 rfl, e_wp dX0_cold_19 rfl, e_wp dX0_cold_20 rfl, e_wp dX0_cold_21 rfl, e_wp dX0_cold_24 rfl, e_wp dX0_cold_26 rfl, c0_asItIs, cs0_cold, c0_isCart, P0_isCart, V0_isCart, g0_203, e_iconst, e_bipush, e_sipush, e_lconst_0, e_lconst_1, e_iload, e_iload_0, e_iload_1, e_iload_2, e_iload_3, e_lload, e_lload_0, e_lload_1, e_lload_2, e_lload_3, e_aload, e_aload_0, e_aload_1, e_aload_2, e_aload_3, e_istore, e_istore_0, e_istore_1, e_istore_2, e_istore_3, e_astore, e_astore_0, e_astore_1, e_astore_2, e_astore_3, e_lstore, e_lstore_0, e_lstore_1, e_lstore_2, e_lstore_3, e_iinc, e_iadd, e_isub, e_imul, e_ladd, e_lsub, e_lmul, e_idiv, e_irem, e_ldiv, e_lrem, e_ineg, e_lneg, e_iand, e_ior, e_ixor, e_ishl, e_ishr, e_iushr, e_lcmp, e_i2l, e_l2i, e_i2b, e_i2s, e_dup_i, e_dup_r, e_pop_i, e_pop_r, e_dup2_l, e_dup2_ir, e_dup2_ii, e_ifeq, e_ifne, e_iflt, e_ifge, e_ifgt, e_ifle, e_iceq, e_icne, e_iclt, e_icge, e_icgt, e_icle, e_goto, e_switch, e_invokevirtual, e_invokestatic, e_invokespecial, e_ret0, e_ret1, e_ret2, e_ret3, ldI_s, ldL_s, ldR_s, clO_s, ctP_s, ctS_s, mgo_0, mgo_s, pjc_s, pj_0, pj_s, lk_s, rm1_0, rm1_i, rm1_r, rm1_l, rm2_0, rm2_i, rm2_r, rm2_l, csL_s, lc_lt, lc_ge, lc_gt, lc_le, lc_eq, b01_0, b01_1, b01_01, b01_n, up2_o, up2_s, up2_u, ne_eq, reduceCtorEq, Nat.reduceAdd, Nat.reduceEqDiff, Nat.reduceLT, Nat.reduceLeDiff, Int.reduceLE, Int.reduceLT, Int.reduceAdd, Int.reduceNeg, Int.reduceMul, Int.reduceSub, Int.reduceEq, Int.reduceToNat, Int.reduceNatCast, Int.cast_ofNat_Int, ↓reduceIte, and_self, List.drop_succ_cons, List.drop_zero, List.take_succ_cons, List.take_zero, List.length_cons, List.length_nil, List.reverse_cons, List.reverse_nil, List.nil_append, List.cons_append, Option.toList, true_and, and_true, or_false, false_or, or_true, true_or, forall_const, Classical.not_not, not_false_eq_true, not_true_eq_false, false_implies, true_implies, implies_true, imp_self]
  refine ⟨⟨hY, hB⟩, fun M1 hR => ?_⟩
  obtain ⟨r1, r2, r3⟩ := hR
  have hk := keepX_tell r1 r2
  rw [keepX_1 hk]
  have e : M1 0 24 = coldF (vX M) (vX M 0 7).toNat := congrFun (congrFun r3 0) 1
  refine ⟨h4, fun q => hQ _ _ ⟨hk, (if_neg q).symm⟩, fun q => hQ _ _ ⟨hk, ?_⟩⟩
  rw [e, bit_01]
  exact (if_pos q).symm
set_option maxHeartbeats 4000000 in
set_option maxRecDepth 100000 in
theorem m0_cold {rs : List (Nat × Nat)} : MOK cl8 (sh8 rs) tyl8 Nws8 2 yX0_cold cX0_cold 2 (some .int) (sp0_cold rs) := by
  refine mok_of (own := RX0) (tb := tb0 (csL (cs0_cold rs))) (rt := 1) (fuel := 400) (fun avs M Q => []) (by decide) rfl nws8_ok (tbOK0 _) rfl (csL_all ?_) ?_ ?_ ?_
  · intro q hq
    simp only [cs0_cold, List.mem_cons, List.not_mem_nil, or_false] at hq
    rcases hq with rfl | rfl
    · exact cg0_asItIs (by decide)
    · exact cg0_isCart (by decide)
  · intro avs M Q hsp
    obtain ⟨xs, hx⟩ := spR_un _ _ _ hsp
    obtain ⟨e, hl⟩ := unA_mkT hx
    obtain ⟨c, rfl⟩ := len1 hl
    have e : avs = [ar 0, ai c] := e
    subst e
    simp [szL, isL]
  · intro avs M Q hM hav hsp
    obtain ⟨xs, hx⟩ := spR_un _ _ _ hsp
    obtain ⟨e, hl⟩ := unA_mkT hx
    obtain ⟨c, rfl⟩ := len1 hl
    have e : avs = [ar 0, ai c] := e
    subst e
    exact in0_cold hM (hav (ai c) (by simp)) hsp.1 hsp.2
  · intro avs M Q hM hav hsp q hq m_ vs M1 hM1 hv hJ
    obtain ⟨xs, hx⟩ := spR_un _ _ _ hsp
    obtain ⟨e, hl⟩ := unA_mkT hx
    obtain ⟨c, rfl⟩ := len1 hl
    have e : avs = [ar 0, ai c] := e
    subst e
    cases hq
