/-! SagMemoryModel: who went over, by what a bridge remembers -/
/-- a row of numbers: how wide (-1: none), how many; its numbers -/
abbrev Sl : Type := (Int × Int) × (Nat → Int)
def slM (M : Mm) (s : Nat) : Sl := ((M 1 s, M 2 s), fun k => if (k : Int) < M 2 s then M 3 (60 * s + k) else 0)
def whyP (V : Vy) (sl : Nat → Sl) (s b : Int) : Int := if (0 ≤ s ∧ s ≤ 3) ∧ isB V b then (if (sl s.toNat).1.1 = -1 then -6 else 0) else -2
def P7_whyNot (s : Int) (b : Int) (M : Mm) : Prop := 0 ≤ M 7 3 ∧ M 7 3 ≤ 3
def V7_whyNot (s : Int) (b : Int) (M : Mm) : Int := whyP (vM M) (slM M) s b
def sp7_whyNot : Spec := spF true [0, 0] 1 (fun x M => P7_whyNot (x 0) (x 1) M) (fun x M => V7_whyNot (x 0) (x 1) M)
theorem c7_whyNot {s b : Int} {M : Mm} {Q : Option AV → Mm → Prop} : sp7_whyNot [ar 0, ai s, ai b] M Q = (P7_whyNot s b M ∧ Q (some (ai (V7_whyNot s b M))) M) := rfl
def cs7_whyNot : List (Nat × Nat × Nat × Spec) := [(125, 0, 1, sp7_isSlot), (292, 1, 2, sp7_isBridge)]
set_option maxHeartbeats 4000000 in
set_option maxRecDepth 100000 in
theorem in7_whyNot {s b : Int} {M : Mm} {Q : Option AV → Mm → Prop} (hM : okM sh7 M) (h_s : i32 s) (h_b : i32 b) (hP : P7_whyNot s b M) (hQ : Q (some (ai (V7_whyNot s b M))) M) : wp (tb7 (csL cs7_whyNot)) sh7 3 1 cX7_whyNot [] Q 400 0 [(0, ar 0), (1, ai s), (2, ai b)] [] M := by
  have e1 : ¬ ((0 ≤ s ∧ s ≤ 3) ∧ 0 ≤ b ∧ b < M 7 3) → V7_whyNot s b M = -2 := fun q => if_neg q
  have e2 : ((0 ≤ s ∧ s ≤ 3) ∧ 0 ≤ b ∧ b < M 7 3) → V7_whyNot s b M = (if M 1 s.toNat = -1 then -6 else 0) := fun q => if_pos q
  simp only [e_wp dX7_whyNot_0 rfl, e_wp dX7_whyNot_1 rfl, e_wp dX7_whyNot_4 rfl, e_wp dX7_whyNot_7 rfl, e_wp dX7_whyNot_8 rfl, e_wp dX7_whyNot_9 rfl, e_wp dX7_whyNot_10 rfl, e_wp dX7_whyNot_13 rfl, e_wp dX7_whyNot_16 rfl, e_wp dX7_whyNot_18 rfl, e_wp dX7_whyNot_21 rfl, e_wp dX7_whyNot_22 rfl, e_wp dX7_whyNot_25 rfl, e_wp dX7_whyNot_26 rfl, e_wp dX7_whyNot_27 rfl, e_wp dX7_whyNot_28 rfl, e_wp dX7_whyNot_31 rfl, e_wp dX7_whyNot_33 rfl, e_wp dX7_whyNot_36 rfl, e_wp dX7_whyNot_37 rfl, c7_isSlot, P7_isSlot, V7_isSlot, cs7_whyNot, c7_isBridge, P7_isBridge, V7_isBridge, g7_7, a7_1, w7_1, a7_2, w7_2, a7_3, w7_3, a7_4, w7_4, a7_5, w7_5, a7_6, w7_6, a7_7, w7_7, a7_8, w7_8, a7_9, w7_9, a7_10, w7_10, a7_11, w7_11, a7_12, w7_12, a7_13, w7_13, a7_14, w7_14, a7_15, w7_15, a7_16, w7_16, a7_17, w7_17, a7_18, w7_18, a7_19, w7_19, a7_20, w7_20, a7_21, w7_21, a7_22, w7_22, a7_23, w7_23, a7_24, w7_24, a7_25, w7_25, a7_26, w7_26, a7_27, w7_27, a7_28, w7_28, a7_29, w7_29, a7_30, w7_30, a7_31, w7_31, a7_32, w7_32, a7_33, w7_33, e_iconst, e_bipush, e_sipush, e_lconst_0, e_lconst_1, e_iload, e_iload_0, e_iload_1, e_iload_2, e_iload_3, e_lload, e_lload_0, e_lload_1, e_lload_2, e_lload_3, e_aload, e_aload_0, e_aload_1, e_aload_2, e_aload_3, e_istore, e_istore_0, e_istore_1, e_istore_2, e_istore_3, e_astore, e_astore_0, e_astore_1, e_astore_2, e_astore_3, e_lstore, e_lstore_0, e_lstore_1, e_lstore_2, e_lstore_3, e_iinc, e_iadd, e_isub, e_imul, e_ladd, e_lsub, e_lmul, e_idiv, e_irem, e_ldiv, e_lrem, e_ineg, e_lneg, e_iand, e_ior, e_ixor, e_ishl, e_ishr, e_iushr, e_lcmp, e_i2l, e_l2i, e_i2b, e_i2s, e_dup_i, e_dup_r, e_pop_i, e_pop_r, e_dup2_l, e_dup2_ir, e_dup2_ii, e_ifeq, e_ifne, e_iflt, e_ifge, e_ifgt, e_ifle, e_iceq, e_icne, e_iclt, e_icge, e_icgt, e_icle, e_goto, e_switch, e_invokevirtual, e_invokestatic, e_invokespecial, e_ret0, e_ret1, e_ret2, e_ret3, ldI_s, ldL_s, ldR_s, clO_s, ctP_s, ctS_s, mgo_0, mgo_s, pjc_s, pj_0, pj_s, lk_s, rm1_0, rm1_i, rm1_r, rm1_l, rm2_0, rm2_i, rm2_r, rm2_l, csL_s, lc_lt, lc_ge, lc_gt, lc_le, lc_eq, b01_0, b01_1, b01_01, b01_n, up2_o, up2_s, up2_u, ne_eq, reduceCtorEq, Nat.reduceAdd, Nat.reduceEqDiff, Nat.reduceLT, Nat.reduceLeDiff, Int.reduceLE, Int.reduceLT, Int.reduceAdd, Int.reduceNeg, Int.reduceMul, Int.reduceSub, Int.reduceEq, Int.reduceToNat, Int.reduceNatCast, Int.cast_ofNat_Int, ↓reduceIte, and_self, List.drop_succ_cons, List.drop_zero, List.take_succ_cons, List.take_zero, List.length_cons, List.length_nil, List.reverse_cons, List.reverse_nil, List.nil_append, List.cons_append, Option.toList, true_and, and_true, or_false, false_or, or_true, true_or, forall_const, Classical.not_not, not_false_eq_true, not_true_eq_false, false_implies, true_implies, implies_true, imp_self]
  refine ⟨fun q => qeq hQ (e1 (by omega)), fun q => ⟨hP, fun z => ⟨by omega, fun w => qeq hQ ((e2 ⟨q, z⟩).trans (if_neg w)), fun w => qeq hQ ((e2 ⟨q, z⟩).trans (if_pos w))⟩, fun z => qeq hQ (e1 (by omega))⟩⟩
set_option maxHeartbeats 4000000 in
set_option maxRecDepth 100000 in
theorem m7_whyNot : MOK cl7 sh7 tyl7 [] 2 yX7_whyNot cX7_whyNot 3 (some .int) sp7_whyNot := by
  refine mok_of (own := RX7) (tb := tb7 (csL cs7_whyNot)) (rt := 1) (fuel := 400) (fun avs M Q => []) (by decide) rfl nil_nw (tbOK7 _) rfl (csL_all ?_) ?_ ?_ ?_
  · intro q hq
    simp only [cs7_whyNot, List.mem_cons, List.not_mem_nil, or_false] at hq
    rcases hq with rfl | rfl
    · exact cg7_isSlot (by decide)
    · exact cg7_isBridge (by decide)
  · intro avs M Q hsp
    obtain ⟨xs, hx⟩ := spF_un _ _ _ hsp
    obtain ⟨e, hl⟩ := unA_mkT hx
    obtain ⟨s, b, rfl⟩ := len2 hl
    have e : avs = [ar 0, ai s, ai b] := e
    subst e
    simp [szL, isL]
  · intro avs M Q hM hav hsp
    obtain ⟨xs, hx⟩ := spF_un _ _ _ hsp
    obtain ⟨e, hl⟩ := unA_mkT hx
    obtain ⟨s, b, rfl⟩ := len2 hl
    have e : avs = [ar 0, ai s, ai b] := e
    subst e
    exact in7_whyNot hM (hav (ai s) (by simp)) (hav (ai b) (by simp)) hsp.1 hsp.2
  · intro avs M Q hM hav hsp q hq m_ vs M1 hM1 hv hJ
    obtain ⟨xs, hx⟩ := spF_un _ _ _ hsp
    obtain ⟨e, hl⟩ := unA_mkT hx
    obtain ⟨s, b, rfl⟩ := len2 hl
    have e : avs = [ar 0, ai s, ai b] := e
    subst e
    cases hq
theorem cg7_whyNot {lvl : Nat} (h : 2 < lvl) : CG RX7 cl7 sh7 tyl7 [] lvl 1 416 3 sp7_whyNot := cg_V (sg := [0, 0]) nil_nw spF_mono spF_un m7_whyNot h rfl (by decide) rfl rfl ⟨rfl, by decide, by decide, rfl⟩ q2082 q2084 qs111 q138 q2085
