/-! SagMemoryModel: its leaves -/
def P7_in (v : Int) (lo : Int) (hi : Int) (M : Mm) : Prop := True
def V7_in (v : Int) (lo : Int) (hi : Int) (M : Mm) : Int := b01 (lo ≤ v ∧ v ≤ hi)
def sp7_in : Spec := spF false [1, 1, 1] 1 (fun x M => P7_in (x 0) (x 1) (x 2) M) (fun x M => V7_in (x 0) (x 1) (x 2) M)
theorem c7_in {v lo hi : Int} {M : Mm} {Q : Option AV → Mm → Prop} : sp7_in [al v, al lo, al hi] M Q = (P7_in v lo hi M ∧ Q (some (ai (V7_in v lo hi M))) M) := rfl
def cs7_in : List (Nat × Nat × Nat × Spec) := []
set_option maxHeartbeats 4000000 in
set_option maxRecDepth 100000 in
theorem in7_in {v lo hi : Int} {M : Mm} {Q : Option AV → Mm → Prop} (hM : okM sh7 M) (h_v : i64 v) (h_lo : i64 lo) (h_hi : i64 hi) (hP : P7_in v lo hi M) (hQ : Q (some (ai (V7_in v lo hi M))) M) : wp (tb7 (csL cs7_in)) sh7 6 2 cX7_in [] Q 400 0 [(0, al v), (2, al lo), (4, al hi)] [] M := by
  simp only [e_wp dX7_in_0 rfl, e_wp dX7_in_1 rfl, e_wp dX7_in_2 rfl, e_wp dX7_in_3 rfl, e_wp dX7_in_6 rfl, e_wp dX7_in_7 rfl, e_wp dX7_in_9 rfl, e_wp dX7_in_10 rfl, e_wp dX7_in_13 rfl, e_wp dX7_in_14 rfl, e_wp dX7_in_17 rfl, e_wp dX7_in_18 rfl, e_iconst, e_bipush, e_sipush, e_lconst_0, e_lconst_1, e_iload, e_iload_0, e_iload_1, e_iload_2, e_iload_3, e_lload, e_lload_0, e_lload_1, e_lload_2, e_lload_3, e_aload, e_aload_0, e_aload_1, e_aload_2, e_aload_3, e_istore, e_istore_0, e_istore_1, e_istore_2, e_istore_3, e_astore, e_astore_0, e_astore_1, e_astore_2, e_astore_3, e_lstore, e_lstore_0, e_lstore_1, e_lstore_2, e_lstore_3, e_iinc, e_iadd, e_isub, e_imul, e_ladd, e_lsub, e_lmul, e_idiv, e_irem, e_ldiv, e_lrem, e_ineg, e_lneg, e_iand, e_ior, e_ixor, e_ishl, e_ishr, e_iushr, e_lcmp, e_i2l, e_l2i, e_i2b, e_i2s, e_dup_i, e_dup_r, e_pop_i, e_pop_r, e_dup2_l, e_dup2_ir, e_dup2_ii, e_ifeq, e_ifne, e_iflt, e_ifge, e_ifgt, e_ifle, e_iceq, e_icne, e_iclt, e_icge, e_icgt, e_icle, e_goto, e_switch, e_invokevirtual, e_invokestatic, e_invokespecial, e_ret0, e_ret1, e_ret2, e_ret3, ldI_s, ldL_s, ldR_s, clO_s, ctP_s, ctS_s, mgo_0, mgo_s, pjc_s, pj_0, pj_s, lk_s, rm1_0, rm1_i, rm1_r, rm1_l, rm2_0, rm2_i, rm2_r, rm2_l, csL_s, lc_lt, lc_ge, lc_gt, lc_le, lc_eq, b01_0, b01_1, b01_01, b01_n, up2_o, up2_s, up2_u, ne_eq, reduceCtorEq, Nat.reduceAdd, Nat.reduceEqDiff, Nat.reduceLT, Nat.reduceLeDiff, Int.reduceLE, Int.reduceLT, Int.reduceAdd, Int.reduceNeg, Int.reduceMul, Int.reduceSub, Int.reduceEq, Int.reduceToNat, Int.reduceNatCast, Int.cast_ofNat_Int, ↓reduceIte, and_self, List.drop_succ_cons, List.drop_zero, List.take_succ_cons, List.take_zero, List.length_cons, List.length_nil, List.reverse_cons, List.reverse_nil, List.nil_append, List.cons_append, Option.toList, true_and, and_true, or_false, false_or, or_true, true_or, forall_const, Classical.not_not, not_false_eq_true, not_true_eq_false, false_implies, true_implies, implies_true, imp_self]
  (try unfold P7_in at hP); (try unfold V7_in at hQ); (repeat' (first | (intro _) | (refine And.intro ?_ ?_))); all_goals (first | omega | exact qeq hQ (b01_t (by omega)) | exact qeq hQ (b01_f (by omega)) | exact qeq hQ (b01_c (by omega)) | exact qeq hQ rfl | exact qeq hQ (by omega) | assumption)
set_option maxHeartbeats 4000000 in
set_option maxRecDepth 100000 in
theorem m7_in : MOK cl7 sh7 tyl7 [] 0 yX7_in cX7_in 6 (some .boolean) sp7_in := by
  refine mok_of (own := RX7) (tb := tb7 (csL cs7_in)) (rt := 2) (fuel := 400) (fun avs M Q => []) (by decide) rfl nil_nw (tbOK7 _) rfl (csL_all ?_) ?_ ?_ ?_
  · intro q hq; cases hq
  · intro avs M Q hsp
    obtain ⟨xs, hx⟩ := spF_un _ _ _ hsp
    obtain ⟨e, hl⟩ := unA_mk hx
    obtain ⟨v, lo, hi, rfl⟩ := len3 hl
    have e : avs = [al v, al lo, al hi] := e
    subst e
    simp [szL, isL]
  · intro avs M Q hM hav hsp
    obtain ⟨xs, hx⟩ := spF_un _ _ _ hsp
    obtain ⟨e, hl⟩ := unA_mk hx
    obtain ⟨v, lo, hi, rfl⟩ := len3 hl
    have e : avs = [al v, al lo, al hi] := e
    subst e
    exact in7_in hM (hav (al v) (by simp)) (hav (al lo) (by simp)) (hav (al hi) (by simp)) hsp.1 hsp.2
  · intro avs M Q hM hav hsp q hq m_ vs M1 hM1 hv hJ
    obtain ⟨xs, hx⟩ := spF_un _ _ _ hsp
    obtain ⟨e, hl⟩ := unA_mk hx
    obtain ⟨v, lo, hi, rfl⟩ := len3 hl
    have e : avs = [al v, al lo, al hi] := e
    subst e
    cases hq
theorem cg7_in {lvl : Nat} (h : 0 < lvl) : CG RX7 cl7 sh7 tyl7 [] lvl 0 121 3 sp7_in := cg_S (sg := [1, 1, 1]) nil_nw spF_mono spF_un m7_in h rfl (by decide) ⟨by decide, by decide, rfl⟩ q1667 q1668 q138 q1669
def P7_isSlot (s : Int) (M : Mm) : Prop := True
def V7_isSlot (s : Int) (M : Mm) : Int := b01 (0 ≤ s ∧ s ≤ 3)
def sp7_isSlot : Spec := spF false [0] 1 (fun x M => P7_isSlot (x 0) M) (fun x M => V7_isSlot (x 0) M)
theorem c7_isSlot {s : Int} {M : Mm} {Q : Option AV → Mm → Prop} : sp7_isSlot [ai s] M Q = (P7_isSlot s M ∧ Q (some (ai (V7_isSlot s M))) M) := rfl
def cs7_isSlot : List (Nat × Nat × Nat × Spec) := [(121, 0, 3, sp7_in)]
set_option maxHeartbeats 4000000 in
set_option maxRecDepth 100000 in
theorem in7_isSlot {s : Int} {M : Mm} {Q : Option AV → Mm → Prop} (hM : okM sh7 M) (h_s : i32 s) (hP : P7_isSlot s M) (hQ : Q (some (ai (V7_isSlot s M))) M) : wp (tb7 (csL cs7_isSlot)) sh7 1 2 cX7_isSlot [] Q 400 0 [(0, ai s)] [] M := by
  simp only [e_wp dX7_isSlot_0 rfl, e_wp dX7_isSlot_1 rfl, e_wp dX7_isSlot_2 rfl, e_wp dX7_isSlot_3 rfl, e_wp dX7_isSlot_6 rfl, e_wp dX7_isSlot_9 rfl, k7_119, c7_in, P7_in, V7_in, cs7_isSlot, e_iconst, e_bipush, e_sipush, e_lconst_0, e_lconst_1, e_iload, e_iload_0, e_iload_1, e_iload_2, e_iload_3, e_lload, e_lload_0, e_lload_1, e_lload_2, e_lload_3, e_aload, e_aload_0, e_aload_1, e_aload_2, e_aload_3, e_istore, e_istore_0, e_istore_1, e_istore_2, e_istore_3, e_astore, e_astore_0, e_astore_1, e_astore_2, e_astore_3, e_lstore, e_lstore_0, e_lstore_1, e_lstore_2, e_lstore_3, e_iinc, e_iadd, e_isub, e_imul, e_ladd, e_lsub, e_lmul, e_idiv, e_irem, e_ldiv, e_lrem, e_ineg, e_lneg, e_iand, e_ior, e_ixor, e_ishl, e_ishr, e_iushr, e_lcmp, e_i2l, e_l2i, e_i2b, e_i2s, e_dup_i, e_dup_r, e_pop_i, e_pop_r, e_dup2_l, e_dup2_ir, e_dup2_ii, e_ifeq, e_ifne, e_iflt, e_ifge, e_ifgt, e_ifle, e_iceq, e_icne, e_iclt, e_icge, e_icgt, e_icle, e_goto, e_switch, e_invokevirtual, e_invokestatic, e_invokespecial, e_ret0, e_ret1, e_ret2, e_ret3, ldI_s, ldL_s, ldR_s, clO_s, ctP_s, ctS_s, mgo_0, mgo_s, pjc_s, pj_0, pj_s, lk_s, rm1_0, rm1_i, rm1_r, rm1_l, rm2_0, rm2_i, rm2_r, rm2_l, csL_s, lc_lt, lc_ge, lc_gt, lc_le, lc_eq, b01_0, b01_1, b01_01, b01_n, up2_o, up2_s, up2_u, ne_eq, reduceCtorEq, Nat.reduceAdd, Nat.reduceEqDiff, Nat.reduceLT, Nat.reduceLeDiff, Int.reduceLE, Int.reduceLT, Int.reduceAdd, Int.reduceNeg, Int.reduceMul, Int.reduceSub, Int.reduceEq, Int.reduceToNat, Int.reduceNatCast, Int.cast_ofNat_Int, ↓reduceIte, and_self, List.drop_succ_cons, List.drop_zero, List.take_succ_cons, List.take_zero, List.length_cons, List.length_nil, List.reverse_cons, List.reverse_nil, List.nil_append, List.cons_append, Option.toList, true_and, and_true, or_false, false_or, or_true, true_or, forall_const, Classical.not_not, not_false_eq_true, not_true_eq_false, false_implies, true_implies, implies_true, imp_self]
  (try unfold P7_isSlot at hP); (try unfold V7_isSlot at hQ); (repeat' (first | (intro _) | (refine And.intro ?_ ?_))); all_goals (first | omega | exact qeq hQ (b01_t (by omega)) | exact qeq hQ (b01_f (by omega)) | exact qeq hQ (b01_c (by omega)) | exact qeq hQ rfl | exact qeq hQ (by omega) | assumption)
set_option maxHeartbeats 4000000 in
set_option maxRecDepth 100000 in
theorem m7_isSlot : MOK cl7 sh7 tyl7 [] 1 yX7_isSlot cX7_isSlot 1 (some .boolean) sp7_isSlot := by
  refine mok_of (own := RX7) (tb := tb7 (csL cs7_isSlot)) (rt := 2) (fuel := 400) (fun avs M Q => []) (by decide) rfl nil_nw (tbOK7 _) rfl (csL_all ?_) ?_ ?_ ?_
  · intro q hq
    simp only [cs7_isSlot, List.mem_cons, List.not_mem_nil, or_false] at hq
    rcases hq with rfl
    · exact cg7_in (by decide)
  · intro avs M Q hsp
    obtain ⟨xs, hx⟩ := spF_un _ _ _ hsp
    obtain ⟨e, hl⟩ := unA_mk hx
    obtain ⟨s, rfl⟩ := len1 hl
    have e : avs = [ai s] := e
    subst e
    simp [szL, isL]
  · intro avs M Q hM hav hsp
    obtain ⟨xs, hx⟩ := spF_un _ _ _ hsp
    obtain ⟨e, hl⟩ := unA_mk hx
    obtain ⟨s, rfl⟩ := len1 hl
    have e : avs = [ai s] := e
    subst e
    exact in7_isSlot hM (hav (ai s) (by simp)) hsp.1 hsp.2
  · intro avs M Q hM hav hsp q hq m_ vs M1 hM1 hv hJ
    obtain ⟨xs, hx⟩ := spF_un _ _ _ hsp
    obtain ⟨e, hl⟩ := unA_mk hx
    obtain ⟨s, rfl⟩ := len1 hl
    have e : avs = [ai s] := e
    subst e
    cases hq
theorem cg7_isSlot {lvl : Nat} (h : 1 < lvl) : CG RX7 cl7 sh7 tyl7 [] lvl 0 125 1 sp7_isSlot := cg_S (sg := [0]) nil_nw spF_mono spF_un m7_isSlot h rfl (by decide) ⟨by decide, by decide, rfl⟩ q1663 q1664 q138 q1665
def P7_isHalf (s : Int) (M : Mm) : Prop := True
def V7_isHalf (s : Int) (M : Mm) : Int := b01 (0 ≤ s ∧ s ≤ 1)
def sp7_isHalf : Spec := spF false [0] 1 (fun x M => P7_isHalf (x 0) M) (fun x M => V7_isHalf (x 0) M)
theorem c7_isHalf {s : Int} {M : Mm} {Q : Option AV → Mm → Prop} : sp7_isHalf [ai s] M Q = (P7_isHalf s M ∧ Q (some (ai (V7_isHalf s M))) M) := rfl
def cs7_isHalf : List (Nat × Nat × Nat × Spec) := [(121, 0, 3, sp7_in)]
set_option maxHeartbeats 4000000 in
set_option maxRecDepth 100000 in
theorem in7_isHalf {s : Int} {M : Mm} {Q : Option AV → Mm → Prop} (hM : okM sh7 M) (h_s : i32 s) (hP : P7_isHalf s M) (hQ : Q (some (ai (V7_isHalf s M))) M) : wp (tb7 (csL cs7_isHalf)) sh7 1 2 cX7_isHalf [] Q 400 0 [(0, ai s)] [] M := by
  simp only [e_wp dX7_isHalf_0 rfl, e_wp dX7_isHalf_1 rfl, e_wp dX7_isHalf_2 rfl, e_wp dX7_isHalf_3 rfl, e_wp dX7_isHalf_4 rfl, e_wp dX7_isHalf_7 rfl, c7_in, P7_in, V7_in, cs7_isHalf, e_iconst, e_bipush, e_sipush, e_lconst_0, e_lconst_1, e_iload, e_iload_0, e_iload_1, e_iload_2, e_iload_3, e_lload, e_lload_0, e_lload_1, e_lload_2, e_lload_3, e_aload, e_aload_0, e_aload_1, e_aload_2, e_aload_3, e_istore, e_istore_0, e_istore_1, e_istore_2, e_istore_3, e_astore, e_astore_0, e_astore_1, e_astore_2, e_astore_3, e_lstore, e_lstore_0, e_lstore_1, e_lstore_2, e_lstore_3, e_iinc, e_iadd, e_isub, e_imul, e_ladd, e_lsub, e_lmul, e_idiv, e_irem, e_ldiv, e_lrem, e_ineg, e_lneg, e_iand, e_ior, e_ixor, e_ishl, e_ishr, e_iushr, e_lcmp, e_i2l, e_l2i, e_i2b, e_i2s, e_dup_i, e_dup_r, e_pop_i, e_pop_r, e_dup2_l, e_dup2_ir, e_dup2_ii, e_ifeq, e_ifne, e_iflt, e_ifge, e_ifgt, e_ifle, e_iceq, e_icne, e_iclt, e_icge, e_icgt, e_icle, e_goto, e_switch, e_invokevirtual, e_invokestatic, e_invokespecial, e_ret0, e_ret1, e_ret2, e_ret3, ldI_s, ldL_s, ldR_s, clO_s, ctP_s, ctS_s, mgo_0, mgo_s, pjc_s, pj_0, pj_s, lk_s, rm1_0, rm1_i, rm1_r, rm1_l, rm2_0, rm2_i, rm2_r, rm2_l, csL_s, lc_lt, lc_ge, lc_gt, lc_le, lc_eq, b01_0, b01_1, b01_01, b01_n, up2_o, up2_s, up2_u, ne_eq, reduceCtorEq, Nat.reduceAdd, Nat.reduceEqDiff, Nat.reduceLT, Nat.reduceLeDiff, Int.reduceLE, Int.reduceLT, Int.reduceAdd, Int.reduceNeg, Int.reduceMul, Int.reduceSub, Int.reduceEq, Int.reduceToNat, Int.reduceNatCast, Int.cast_ofNat_Int, ↓reduceIte, and_self, List.drop_succ_cons, List.drop_zero, List.take_succ_cons, List.take_zero, List.length_cons, List.length_nil, List.reverse_cons, List.reverse_nil, List.nil_append, List.cons_append, Option.toList, true_and, and_true, or_false, false_or, or_true, true_or, forall_const, Classical.not_not, not_false_eq_true, not_true_eq_false, false_implies, true_implies, implies_true, imp_self]
  (try unfold P7_isHalf at hP); (try unfold V7_isHalf at hQ); (repeat' (first | (intro _) | (refine And.intro ?_ ?_))); all_goals (first | omega | exact qeq hQ (b01_t (by omega)) | exact qeq hQ (b01_f (by omega)) | exact qeq hQ (b01_c (by omega)) | exact qeq hQ rfl | exact qeq hQ (by omega) | assumption)
set_option maxHeartbeats 4000000 in
set_option maxRecDepth 100000 in
theorem m7_isHalf : MOK cl7 sh7 tyl7 [] 1 yX7_isHalf cX7_isHalf 1 (some .boolean) sp7_isHalf := by
  refine mok_of (own := RX7) (tb := tb7 (csL cs7_isHalf)) (rt := 2) (fuel := 400) (fun avs M Q => []) (by decide) rfl nil_nw (tbOK7 _) rfl (csL_all ?_) ?_ ?_ ?_
  · intro q hq
    simp only [cs7_isHalf, List.mem_cons, List.not_mem_nil, or_false] at hq
    rcases hq with rfl
    · exact cg7_in (by decide)
  · intro avs M Q hsp
    obtain ⟨xs, hx⟩ := spF_un _ _ _ hsp
    obtain ⟨e, hl⟩ := unA_mk hx
    obtain ⟨s, rfl⟩ := len1 hl
    have e : avs = [ai s] := e
    subst e
    simp [szL, isL]
  · intro avs M Q hM hav hsp
    obtain ⟨xs, hx⟩ := spF_un _ _ _ hsp
    obtain ⟨e, hl⟩ := unA_mk hx
    obtain ⟨s, rfl⟩ := len1 hl
    have e : avs = [ai s] := e
    subst e
    exact in7_isHalf hM (hav (ai s) (by simp)) hsp.1 hsp.2
  · intro avs M Q hM hav hsp q hq m_ vs M1 hM1 hv hJ
    obtain ⟨xs, hx⟩ := spF_un _ _ _ hsp
    obtain ⟨e, hl⟩ := unA_mk hx
    obtain ⟨s, rfl⟩ := len1 hl
    have e : avs = [ai s] := e
    subst e
    cases hq
theorem cg7_isHalf {lvl : Nat} (h : 1 < lvl) : CG RX7 cl7 sh7 tyl7 [] lvl 0 342 1 sp7_isHalf := cg_S (sg := [0]) nil_nw spF_mono spF_un m7_isHalf h rfl (by decide) ⟨by decide, by decide, rfl⟩ q1827 q1828 q138 q1829
def P7_isSeed (s : Int) (M : Mm) : Prop := True
def V7_isSeed (s : Int) (M : Mm) : Int := b01 (0 ≤ s ∧ s ≤ 2000000000)
def sp7_isSeed : Spec := spF false [0] 1 (fun x M => P7_isSeed (x 0) M) (fun x M => V7_isSeed (x 0) M)
theorem c7_isSeed {s : Int} {M : Mm} {Q : Option AV → Mm → Prop} : sp7_isSeed [ai s] M Q = (P7_isSeed s M ∧ Q (some (ai (V7_isSeed s M))) M) := rfl
def cs7_isSeed : List (Nat × Nat × Nat × Spec) := [(121, 0, 3, sp7_in)]
set_option maxHeartbeats 4000000 in
set_option maxRecDepth 100000 in
theorem in7_isSeed {s : Int} {M : Mm} {Q : Option AV → Mm → Prop} (hM : okM sh7 M) (h_s : i32 s) (hP : P7_isSeed s M) (hQ : Q (some (ai (V7_isSeed s M))) M) : wp (tb7 (csL cs7_isSeed)) sh7 1 2 cX7_isSeed [] Q 400 0 [(0, ai s)] [] M := by
  simp only [e_wp dX7_isSeed_0 rfl, e_wp dX7_isSeed_1 rfl, e_wp dX7_isSeed_2 rfl, e_wp dX7_isSeed_3 rfl, e_wp dX7_isSeed_6 rfl, e_wp dX7_isSeed_9 rfl, k7_492, c7_in, P7_in, V7_in, cs7_isSeed, e_iconst, e_bipush, e_sipush, e_lconst_0, e_lconst_1, e_iload, e_iload_0, e_iload_1, e_iload_2, e_iload_3, e_lload, e_lload_0, e_lload_1, e_lload_2, e_lload_3, e_aload, e_aload_0, e_aload_1, e_aload_2, e_aload_3, e_istore, e_istore_0, e_istore_1, e_istore_2, e_istore_3, e_astore, e_astore_0, e_astore_1, e_astore_2, e_astore_3, e_lstore, e_lstore_0, e_lstore_1, e_lstore_2, e_lstore_3, e_iinc, e_iadd, e_isub, e_imul, e_ladd, e_lsub, e_lmul, e_idiv, e_irem, e_ldiv, e_lrem, e_ineg, e_lneg, e_iand, e_ior, e_ixor, e_ishl, e_ishr, e_iushr, e_lcmp, e_i2l, e_l2i, e_i2b, e_i2s, e_dup_i, e_dup_r, e_pop_i, e_pop_r, e_dup2_l, e_dup2_ir, e_dup2_ii, e_ifeq, e_ifne, e_iflt, e_ifge, e_ifgt, e_ifle, e_iceq, e_icne, e_iclt, e_icge, e_icgt, e_icle, e_goto, e_switch, e_invokevirtual, e_invokestatic, e_invokespecial, e_ret0, e_ret1, e_ret2, e_ret3, ldI_s, ldL_s, ldR_s, clO_s, ctP_s, ctS_s, mgo_0, mgo_s, pjc_s, pj_0, pj_s, lk_s, rm1_0, rm1_i, rm1_r, rm1_l, rm2_0, rm2_i, rm2_r, rm2_l, csL_s, lc_lt, lc_ge, lc_gt, lc_le, lc_eq, b01_0, b01_1, b01_01, b01_n, up2_o, up2_s, up2_u, ne_eq, reduceCtorEq, Nat.reduceAdd, Nat.reduceEqDiff, Nat.reduceLT, Nat.reduceLeDiff, Int.reduceLE, Int.reduceLT, Int.reduceAdd, Int.reduceNeg, Int.reduceMul, Int.reduceSub, Int.reduceEq, Int.reduceToNat, Int.reduceNatCast, Int.cast_ofNat_Int, ↓reduceIte, and_self, List.drop_succ_cons, List.drop_zero, List.take_succ_cons, List.take_zero, List.length_cons, List.length_nil, List.reverse_cons, List.reverse_nil, List.nil_append, List.cons_append, Option.toList, true_and, and_true, or_false, false_or, or_true, true_or, forall_const, Classical.not_not, not_false_eq_true, not_true_eq_false, false_implies, true_implies, implies_true, imp_self]
  (try unfold P7_isSeed at hP); (try unfold V7_isSeed at hQ); (repeat' (first | (intro _) | (refine And.intro ?_ ?_))); all_goals (first | omega | exact qeq hQ (b01_t (by omega)) | exact qeq hQ (b01_f (by omega)) | exact qeq hQ (b01_c (by omega)) | exact qeq hQ rfl | exact qeq hQ (by omega) | assumption)
set_option maxHeartbeats 4000000 in
set_option maxRecDepth 100000 in
theorem m7_isSeed : MOK cl7 sh7 tyl7 [] 1 yX7_isSeed cX7_isSeed 1 (some .boolean) sp7_isSeed := by
  refine mok_of (own := RX7) (tb := tb7 (csL cs7_isSeed)) (rt := 2) (fuel := 400) (fun avs M Q => []) (by decide) rfl nil_nw (tbOK7 _) rfl (csL_all ?_) ?_ ?_ ?_
  · intro q hq
    simp only [cs7_isSeed, List.mem_cons, List.not_mem_nil, or_false] at hq
    rcases hq with rfl
    · exact cg7_in (by decide)
  · intro avs M Q hsp
    obtain ⟨xs, hx⟩ := spF_un _ _ _ hsp
    obtain ⟨e, hl⟩ := unA_mk hx
    obtain ⟨s, rfl⟩ := len1 hl
    have e : avs = [ai s] := e
    subst e
    simp [szL, isL]
  · intro avs M Q hM hav hsp
    obtain ⟨xs, hx⟩ := spF_un _ _ _ hsp
    obtain ⟨e, hl⟩ := unA_mk hx
    obtain ⟨s, rfl⟩ := len1 hl
    have e : avs = [ai s] := e
    subst e
    exact in7_isSeed hM (hav (ai s) (by simp)) hsp.1 hsp.2
  · intro avs M Q hM hav hsp q hq m_ vs M1 hM1 hv hJ
    obtain ⟨xs, hx⟩ := spF_un _ _ _ hsp
    obtain ⟨e, hl⟩ := unA_mk hx
    obtain ⟨s, rfl⟩ := len1 hl
    have e : avs = [ai s] := e
    subst e
    cases hq
theorem cg7_isSeed {lvl : Nat} (h : 1 < lvl) : CG RX7 cl7 sh7 tyl7 [] lvl 0 494 1 sp7_isSeed := cg_S (sg := [0]) nil_nw spF_mono spF_un m7_isSeed h rfl (by decide) ⟨by decide, by decide, rfl⟩ q2225 q2226 q138 q2227
def P7_bridges (M : Mm) : Prop := True
def V7_bridges (M : Mm) : Int := M 7 3
def sp7_bridges : Spec := spF true [] 1 (fun x M => P7_bridges M) (fun x M => V7_bridges M)
theorem c7_bridges {M : Mm} {Q : Option AV → Mm → Prop} : sp7_bridges [ar 0] M Q = (P7_bridges M ∧ Q (some (ai (V7_bridges M))) M) := rfl
def cs7_bridges : List (Nat × Nat × Nat × Spec) := []
set_option maxHeartbeats 4000000 in
set_option maxRecDepth 100000 in
theorem in7_bridges {M : Mm} {Q : Option AV → Mm → Prop} (hM : okM sh7 M) (hP : P7_bridges M) (hQ : Q (some (ai (V7_bridges M))) M) : wp (tb7 (csL cs7_bridges)) sh7 1 1 cX7_bridges [] Q 400 0 [(0, ar 0)] [] M := by
  simp only [e_wp dX7_bridges_0 rfl, e_wp dX7_bridges_1 rfl, e_wp dX7_bridges_4 rfl, e_wp dX7_bridges_5 rfl, e_wp dX7_bridges_6 rfl, g7_34, a7_1, w7_1, a7_2, w7_2, a7_3, w7_3, a7_4, w7_4, a7_5, w7_5, a7_6, w7_6, a7_7, w7_7, a7_8, w7_8, a7_9, w7_9, a7_10, w7_10, a7_11, w7_11, a7_12, w7_12, a7_13, w7_13, a7_14, w7_14, a7_15, w7_15, a7_16, w7_16, a7_17, w7_17, a7_18, w7_18, a7_19, w7_19, a7_20, w7_20, a7_21, w7_21, a7_22, w7_22, a7_23, w7_23, a7_24, w7_24, a7_25, w7_25, a7_26, w7_26, a7_27, w7_27, a7_28, w7_28, a7_29, w7_29, a7_30, w7_30, a7_31, w7_31, a7_32, w7_32, a7_33, w7_33, e_iconst, e_bipush, e_sipush, e_lconst_0, e_lconst_1, e_iload, e_iload_0, e_iload_1, e_iload_2, e_iload_3, e_lload, e_lload_0, e_lload_1, e_lload_2, e_lload_3, e_aload, e_aload_0, e_aload_1, e_aload_2, e_aload_3, e_istore, e_istore_0, e_istore_1, e_istore_2, e_istore_3, e_astore, e_astore_0, e_astore_1, e_astore_2, e_astore_3, e_lstore, e_lstore_0, e_lstore_1, e_lstore_2, e_lstore_3, e_iinc, e_iadd, e_isub, e_imul, e_ladd, e_lsub, e_lmul, e_idiv, e_irem, e_ldiv, e_lrem, e_ineg, e_lneg, e_iand, e_ior, e_ixor, e_ishl, e_ishr, e_iushr, e_lcmp, e_i2l, e_l2i, e_i2b, e_i2s, e_dup_i, e_dup_r, e_pop_i, e_pop_r, e_dup2_l, e_dup2_ir, e_dup2_ii, e_ifeq, e_ifne, e_iflt, e_ifge, e_ifgt, e_ifle, e_iceq, e_icne, e_iclt, e_icge, e_icgt, e_icle, e_goto, e_switch, e_invokevirtual, e_invokestatic, e_invokespecial, e_ret0, e_ret1, e_ret2, e_ret3, ldI_s, ldL_s, ldR_s, clO_s, ctP_s, ctS_s, mgo_0, mgo_s, pjc_s, pj_0, pj_s, lk_s, rm1_0, rm1_i, rm1_r, rm1_l, rm2_0, rm2_i, rm2_r, rm2_l, csL_s, lc_lt, lc_ge, lc_gt, lc_le, lc_eq, b01_0, b01_1, b01_01, b01_n, up2_o, up2_s, up2_u, ne_eq, reduceCtorEq, Nat.reduceAdd, Nat.reduceEqDiff, Nat.reduceLT, Nat.reduceLeDiff, Int.reduceLE, Int.reduceLT, Int.reduceAdd, Int.reduceNeg, Int.reduceMul, Int.reduceSub, Int.reduceEq, Int.reduceToNat, Int.reduceNatCast, Int.cast_ofNat_Int, ↓reduceIte, and_self, List.drop_succ_cons, List.drop_zero, List.take_succ_cons, List.take_zero, List.length_cons, List.length_nil, List.reverse_cons, List.reverse_nil, List.nil_append, List.cons_append, Option.toList, true_and, and_true, or_false, false_or, or_true, true_or, forall_const, Classical.not_not, not_false_eq_true, not_true_eq_false, false_implies, true_implies, implies_true, imp_self]
  (try unfold P7_bridges at hP); (try unfold V7_bridges at hQ); (repeat' (first | (intro _) | (refine And.intro ?_ ?_))); all_goals (first | omega | exact qeq hQ (b01_t (by omega)) | exact qeq hQ (b01_f (by omega)) | exact qeq hQ (b01_c (by omega)) | exact qeq hQ rfl | exact qeq hQ (by omega) | assumption)
set_option maxHeartbeats 4000000 in
set_option maxRecDepth 100000 in
theorem m7_bridges : MOK cl7 sh7 tyl7 [] 0 yX7_bridges cX7_bridges 1 (some .int) sp7_bridges := by
  refine mok_of (own := RX7) (tb := tb7 (csL cs7_bridges)) (rt := 1) (fuel := 400) (fun avs M Q => []) (by decide) rfl nil_nw (tbOK7 _) rfl (csL_all ?_) ?_ ?_ ?_
  · intro q hq; cases hq
  · intro avs M Q hsp
    obtain ⟨xs, hx⟩ := spF_un _ _ _ hsp
    obtain ⟨e, hl⟩ := unA_mkT hx
    obtain rfl := len0 hl
    have e : avs = [ar 0] := e
    subst e
    simp [szL, isL]
  · intro avs M Q hM hav hsp
    obtain ⟨xs, hx⟩ := spF_un _ _ _ hsp
    obtain ⟨e, hl⟩ := unA_mkT hx
    obtain rfl := len0 hl
    have e : avs = [ar 0] := e
    subst e
    exact in7_bridges hM hsp.1 hsp.2
  · intro avs M Q hM hav hsp q hq m_ vs M1 hM1 hv hJ
    obtain ⟨xs, hx⟩ := spF_un _ _ _ hsp
    obtain ⟨e, hl⟩ := unA_mkT hx
    obtain rfl := len0 hl
    have e : avs = [ar 0] := e
    subst e
    cases hq
theorem cg7_bridges {lvl : Nat} (h : 0 < lvl) : CG RX7 cl7 sh7 tyl7 [] lvl 1 283 1 sp7_bridges := cg_V (sg := []) nil_nw spF_mono spF_un m7_bridges h rfl (by decide) rfl rfl ⟨rfl, by decide, by decide, rfl⟩ q1823 q1825 qs85 q138 q1826
def P7_carts (M : Mm) : Prop := True
def V7_carts (M : Mm) : Int := M 7 4
def sp7_carts : Spec := spF true [] 1 (fun x M => P7_carts M) (fun x M => V7_carts M)
theorem c7_carts {M : Mm} {Q : Option AV → Mm → Prop} : sp7_carts [ar 0] M Q = (P7_carts M ∧ Q (some (ai (V7_carts M))) M) := rfl
def cs7_carts : List (Nat × Nat × Nat × Spec) := []
set_option maxHeartbeats 4000000 in
set_option maxRecDepth 100000 in
theorem in7_carts {M : Mm} {Q : Option AV → Mm → Prop} (hM : okM sh7 M) (hP : P7_carts M) (hQ : Q (some (ai (V7_carts M))) M) : wp (tb7 (csL cs7_carts)) sh7 1 1 cX7_carts [] Q 400 0 [(0, ar 0)] [] M := by
  simp only [e_wp dX7_carts_0 rfl, e_wp dX7_carts_1 rfl, e_wp dX7_carts_4 rfl, e_wp dX7_carts_5 rfl, e_wp dX7_carts_6 rfl, g7_34, a7_1, w7_1, a7_2, w7_2, a7_3, w7_3, a7_4, w7_4, a7_5, w7_5, a7_6, w7_6, a7_7, w7_7, a7_8, w7_8, a7_9, w7_9, a7_10, w7_10, a7_11, w7_11, a7_12, w7_12, a7_13, w7_13, a7_14, w7_14, a7_15, w7_15, a7_16, w7_16, a7_17, w7_17, a7_18, w7_18, a7_19, w7_19, a7_20, w7_20, a7_21, w7_21, a7_22, w7_22, a7_23, w7_23, a7_24, w7_24, a7_25, w7_25, a7_26, w7_26, a7_27, w7_27, a7_28, w7_28, a7_29, w7_29, a7_30, w7_30, a7_31, w7_31, a7_32, w7_32, a7_33, w7_33, e_iconst, e_bipush, e_sipush, e_lconst_0, e_lconst_1, e_iload, e_iload_0, e_iload_1, e_iload_2, e_iload_3, e_lload, e_lload_0, e_lload_1, e_lload_2, e_lload_3, e_aload, e_aload_0, e_aload_1, e_aload_2, e_aload_3, e_istore, e_istore_0, e_istore_1, e_istore_2, e_istore_3, e_astore, e_astore_0, e_astore_1, e_astore_2, e_astore_3, e_lstore, e_lstore_0, e_lstore_1, e_lstore_2, e_lstore_3, e_iinc, e_iadd, e_isub, e_imul, e_ladd, e_lsub, e_lmul, e_idiv, e_irem, e_ldiv, e_lrem, e_ineg, e_lneg, e_iand, e_ior, e_ixor, e_ishl, e_ishr, e_iushr, e_lcmp, e_i2l, e_l2i, e_i2b, e_i2s, e_dup_i, e_dup_r, e_pop_i, e_pop_r, e_dup2_l, e_dup2_ir, e_dup2_ii, e_ifeq, e_ifne, e_iflt, e_ifge, e_ifgt, e_ifle, e_iceq, e_icne, e_iclt, e_icge, e_icgt, e_icle, e_goto, e_switch, e_invokevirtual, e_invokestatic, e_invokespecial, e_ret0, e_ret1, e_ret2, e_ret3, ldI_s, ldL_s, ldR_s, clO_s, ctP_s, ctS_s, mgo_0, mgo_s, pjc_s, pj_0, pj_s, lk_s, rm1_0, rm1_i, rm1_r, rm1_l, rm2_0, rm2_i, rm2_r, rm2_l, csL_s, lc_lt, lc_ge, lc_gt, lc_le, lc_eq, b01_0, b01_1, b01_01, b01_n, up2_o, up2_s, up2_u, ne_eq, reduceCtorEq, Nat.reduceAdd, Nat.reduceEqDiff, Nat.reduceLT, Nat.reduceLeDiff, Int.reduceLE, Int.reduceLT, Int.reduceAdd, Int.reduceNeg, Int.reduceMul, Int.reduceSub, Int.reduceEq, Int.reduceToNat, Int.reduceNatCast, Int.cast_ofNat_Int, ↓reduceIte, and_self, List.drop_succ_cons, List.drop_zero, List.take_succ_cons, List.take_zero, List.length_cons, List.length_nil, List.reverse_cons, List.reverse_nil, List.nil_append, List.cons_append, Option.toList, true_and, and_true, or_false, false_or, or_true, true_or, forall_const, Classical.not_not, not_false_eq_true, not_true_eq_false, false_implies, true_implies, implies_true, imp_self]
  (try unfold P7_carts at hP); (try unfold V7_carts at hQ); (repeat' (first | (intro _) | (refine And.intro ?_ ?_))); all_goals (first | omega | exact qeq hQ (b01_t (by omega)) | exact qeq hQ (b01_f (by omega)) | exact qeq hQ (b01_c (by omega)) | exact qeq hQ rfl | exact qeq hQ (by omega) | assumption)
set_option maxHeartbeats 4000000 in
set_option maxRecDepth 100000 in
theorem m7_carts : MOK cl7 sh7 tyl7 [] 0 yX7_carts cX7_carts 1 (some .int) sp7_carts := by
  refine mok_of (own := RX7) (tb := tb7 (csL cs7_carts)) (rt := 1) (fuel := 400) (fun avs M Q => []) (by decide) rfl nil_nw (tbOK7 _) rfl (csL_all ?_) ?_ ?_ ?_
  · intro q hq; cases hq
  · intro avs M Q hsp
    obtain ⟨xs, hx⟩ := spF_un _ _ _ hsp
    obtain ⟨e, hl⟩ := unA_mkT hx
    obtain rfl := len0 hl
    have e : avs = [ar 0] := e
    subst e
    simp [szL, isL]
  · intro avs M Q hM hav hsp
    obtain ⟨xs, hx⟩ := spF_un _ _ _ hsp
    obtain ⟨e, hl⟩ := unA_mkT hx
    obtain rfl := len0 hl
    have e : avs = [ar 0] := e
    subst e
    exact in7_carts hM hsp.1 hsp.2
  · intro avs M Q hM hav hsp q hq m_ vs M1 hM1 hv hJ
    obtain ⟨xs, hx⟩ := spF_un _ _ _ hsp
    obtain ⟨e, hl⟩ := unA_mkT hx
    obtain rfl := len0 hl
    have e : avs = [ar 0] := e
    subst e
    cases hq
theorem cg7_carts {lvl : Nat} (h : 0 < lvl) : CG RX7 cl7 sh7 tyl7 [] lvl 1 286 1 sp7_carts := cg_V (sg := []) nil_nw spF_mono spF_un m7_carts h rfl (by decide) rfl rfl ⟨rfl, by decide, by decide, rfl⟩ q1838 q1840 qs87 q138 q1841
def P7_isValley (M : Mm) : Prop := True
def V7_isValley (M : Mm) : Int := b01 (0 < M 6 0)
def sp7_isValley : Spec := spF true [] 1 (fun x M => P7_isValley M) (fun x M => V7_isValley M)
theorem c7_isValley {M : Mm} {Q : Option AV → Mm → Prop} : sp7_isValley [ar 0] M Q = (P7_isValley M ∧ Q (some (ai (V7_isValley M))) M) := rfl
def cs7_isValley : List (Nat × Nat × Nat × Spec) := []
set_option maxHeartbeats 4000000 in
set_option maxRecDepth 100000 in
theorem in7_isValley {M : Mm} {Q : Option AV → Mm → Prop} (hM : okM sh7 M) (hP : P7_isValley M) (hQ : Q (some (ai (V7_isValley M))) M) : wp (tb7 (csL cs7_isValley)) sh7 1 2 cX7_isValley [] Q 400 0 [(0, ar 0)] [] M := by
  simp only [e_wp dX7_isValley_0 rfl, e_wp dX7_isValley_1 rfl, e_wp dX7_isValley_4 rfl, e_wp dX7_isValley_5 rfl, e_wp dX7_isValley_6 rfl, e_wp dX7_isValley_9 rfl, e_wp dX7_isValley_10 rfl, e_wp dX7_isValley_13 rfl, e_wp dX7_isValley_14 rfl, g7_31, a7_1, w7_1, a7_2, w7_2, a7_3, w7_3, a7_4, w7_4, a7_5, w7_5, a7_6, w7_6, a7_7, w7_7, a7_8, w7_8, a7_9, w7_9, a7_10, w7_10, a7_11, w7_11, a7_12, w7_12, a7_13, w7_13, a7_14, w7_14, a7_15, w7_15, a7_16, w7_16, a7_17, w7_17, a7_18, w7_18, a7_19, w7_19, a7_20, w7_20, a7_21, w7_21, a7_22, w7_22, a7_23, w7_23, a7_24, w7_24, a7_25, w7_25, a7_26, w7_26, a7_27, w7_27, a7_28, w7_28, a7_29, w7_29, a7_30, w7_30, a7_31, w7_31, a7_32, w7_32, a7_33, w7_33, e_iconst, e_bipush, e_sipush, e_lconst_0, e_lconst_1, e_iload, e_iload_0, e_iload_1, e_iload_2, e_iload_3, e_lload, e_lload_0, e_lload_1, e_lload_2, e_lload_3, e_aload, e_aload_0, e_aload_1, e_aload_2, e_aload_3, e_istore, e_istore_0, e_istore_1, e_istore_2, e_istore_3, e_astore, e_astore_0, e_astore_1, e_astore_2, e_astore_3, e_lstore, e_lstore_0, e_lstore_1, e_lstore_2, e_lstore_3, e_iinc, e_iadd, e_isub, e_imul, e_ladd, e_lsub, e_lmul, e_idiv, e_irem, e_ldiv, e_lrem, e_ineg, e_lneg, e_iand, e_ior, e_ixor, e_ishl, e_ishr, e_iushr, e_lcmp, e_i2l, e_l2i, e_i2b, e_i2s, e_dup_i, e_dup_r, e_pop_i, e_pop_r, e_dup2_l, e_dup2_ir, e_dup2_ii, e_ifeq, e_ifne, e_iflt, e_ifge, e_ifgt, e_ifle, e_iceq, e_icne, e_iclt, e_icge, e_icgt, e_icle, e_goto, e_switch, e_invokevirtual, e_invokestatic, e_invokespecial, e_ret0, e_ret1, e_ret2, e_ret3, ldI_s, ldL_s, ldR_s, clO_s, ctP_s, ctS_s, mgo_0, mgo_s, pjc_s, pj_0, pj_s, lk_s, rm1_0, rm1_i, rm1_r, rm1_l, rm2_0, rm2_i, rm2_r, rm2_l, csL_s, lc_lt, lc_ge, lc_gt, lc_le, lc_eq, b01_0, b01_1, b01_01, b01_n, up2_o, up2_s, up2_u, ne_eq, reduceCtorEq, Nat.reduceAdd, Nat.reduceEqDiff, Nat.reduceLT, Nat.reduceLeDiff, Int.reduceLE, Int.reduceLT, Int.reduceAdd, Int.reduceNeg, Int.reduceMul, Int.reduceSub, Int.reduceEq, Int.reduceToNat, Int.reduceNatCast, Int.cast_ofNat_Int, ↓reduceIte, and_self, List.drop_succ_cons, List.drop_zero, List.take_succ_cons, List.take_zero, List.length_cons, List.length_nil, List.reverse_cons, List.reverse_nil, List.nil_append, List.cons_append, Option.toList, true_and, and_true, or_false, false_or, or_true, true_or, forall_const, Classical.not_not, not_false_eq_true, not_true_eq_false, false_implies, true_implies, implies_true, imp_self]
  (try unfold P7_isValley at hP); (try unfold V7_isValley at hQ); (repeat' (first | (intro _) | (refine And.intro ?_ ?_))); all_goals (first | omega | exact qeq hQ (b01_t (by omega)) | exact qeq hQ (b01_f (by omega)) | exact qeq hQ (b01_c (by omega)) | exact qeq hQ rfl | exact qeq hQ (by omega) | assumption)
set_option maxHeartbeats 4000000 in
set_option maxRecDepth 100000 in
theorem m7_isValley : MOK cl7 sh7 tyl7 [] 0 yX7_isValley cX7_isValley 1 (some .boolean) sp7_isValley := by
  refine mok_of (own := RX7) (tb := tb7 (csL cs7_isValley)) (rt := 2) (fuel := 400) (fun avs M Q => []) (by decide) rfl nil_nw (tbOK7 _) rfl (csL_all ?_) ?_ ?_ ?_
  · intro q hq; cases hq
  · intro avs M Q hsp
    obtain ⟨xs, hx⟩ := spF_un _ _ _ hsp
    obtain ⟨e, hl⟩ := unA_mkT hx
    obtain rfl := len0 hl
    have e : avs = [ar 0] := e
    subst e
    simp [szL, isL]
  · intro avs M Q hM hav hsp
    obtain ⟨xs, hx⟩ := spF_un _ _ _ hsp
    obtain ⟨e, hl⟩ := unA_mkT hx
    obtain rfl := len0 hl
    have e : avs = [ar 0] := e
    subst e
    exact in7_isValley hM hsp.1 hsp.2
  · intro avs M Q hM hav hsp q hq m_ vs M1 hM1 hv hJ
    obtain ⟨xs, hx⟩ := spF_un _ _ _ hsp
    obtain ⟨e, hl⟩ := unA_mkT hx
    obtain rfl := len0 hl
    have e : avs = [ar 0] := e
    subst e
    cases hq
theorem cg7_isValley {lvl : Nat} (h : 0 < lvl) : CG RX7 cl7 sh7 tyl7 [] lvl 1 350 1 sp7_isValley := cg_V (sg := []) nil_nw spF_mono spF_un m7_isValley h rfl (by decide) rfl rfl ⟨rfl, by decide, by decide, rfl⟩ q1914 q1916 qs99 q138 q1917
def P7_isBridge (b : Int) (M : Mm) : Prop := 0 ≤ M 7 3 ∧ M 7 3 ≤ 3
def V7_isBridge (b : Int) (M : Mm) : Int := b01 (0 ≤ b ∧ b < M 7 3)
def sp7_isBridge : Spec := spF true [1] 1 (fun x M => P7_isBridge (x 0) M) (fun x M => V7_isBridge (x 0) M)
theorem c7_isBridge {b : Int} {M : Mm} {Q : Option AV → Mm → Prop} : sp7_isBridge [ar 0, al b] M Q = (P7_isBridge b M ∧ Q (some (ai (V7_isBridge b M))) M) := rfl
def cs7_isBridge : List (Nat × Nat × Nat × Spec) := [(283, 1, 1, sp7_bridges), (121, 0, 3, sp7_in)]
set_option maxHeartbeats 4000000 in
set_option maxRecDepth 100000 in
theorem in7_isBridge {b : Int} {M : Mm} {Q : Option AV → Mm → Prop} (hM : okM sh7 M) (h_b : i64 b) (hP : P7_isBridge b M) (hQ : Q (some (ai (V7_isBridge b M))) M) : wp (tb7 (csL cs7_isBridge)) sh7 3 2 cX7_isBridge [] Q 400 0 [(0, ar 0), (1, al b)] [] M := by
  simp only [e_wp dX7_isBridge_0 rfl, e_wp dX7_isBridge_1 rfl, e_wp dX7_isBridge_2 rfl, e_wp dX7_isBridge_3 rfl, e_wp dX7_isBridge_6 rfl, e_wp dX7_isBridge_7 rfl, e_wp dX7_isBridge_8 rfl, e_wp dX7_isBridge_9 rfl, e_wp dX7_isBridge_12 rfl, c7_bridges, P7_bridges, V7_bridges, cs7_isBridge, c7_in, P7_in, V7_in, e_iconst, e_bipush, e_sipush, e_lconst_0, e_lconst_1, e_iload, e_iload_0, e_iload_1, e_iload_2, e_iload_3, e_lload, e_lload_0, e_lload_1, e_lload_2, e_lload_3, e_aload, e_aload_0, e_aload_1, e_aload_2, e_aload_3, e_istore, e_istore_0, e_istore_1, e_istore_2, e_istore_3, e_astore, e_astore_0, e_astore_1, e_astore_2, e_astore_3, e_lstore, e_lstore_0, e_lstore_1, e_lstore_2, e_lstore_3, e_iinc, e_iadd, e_isub, e_imul, e_ladd, e_lsub, e_lmul, e_idiv, e_irem, e_ldiv, e_lrem, e_ineg, e_lneg, e_iand, e_ior, e_ixor, e_ishl, e_ishr, e_iushr, e_lcmp, e_i2l, e_l2i, e_i2b, e_i2s, e_dup_i, e_dup_r, e_pop_i, e_pop_r, e_dup2_l, e_dup2_ir, e_dup2_ii, e_ifeq, e_ifne, e_iflt, e_ifge, e_ifgt, e_ifle, e_iceq, e_icne, e_iclt, e_icge, e_icgt, e_icle, e_goto, e_switch, e_invokevirtual, e_invokestatic, e_invokespecial, e_ret0, e_ret1, e_ret2, e_ret3, ldI_s, ldL_s, ldR_s, clO_s, ctP_s, ctS_s, mgo_0, mgo_s, pjc_s, pj_0, pj_s, lk_s, rm1_0, rm1_i, rm1_r, rm1_l, rm2_0, rm2_i, rm2_r, rm2_l, csL_s, lc_lt, lc_ge, lc_gt, lc_le, lc_eq, b01_0, b01_1, b01_01, b01_n, up2_o, up2_s, up2_u, ne_eq, reduceCtorEq, Nat.reduceAdd, Nat.reduceEqDiff, Nat.reduceLT, Nat.reduceLeDiff, Int.reduceLE, Int.reduceLT, Int.reduceAdd, Int.reduceNeg, Int.reduceMul, Int.reduceSub, Int.reduceEq, Int.reduceToNat, Int.reduceNatCast, Int.cast_ofNat_Int, ↓reduceIte, and_self, List.drop_succ_cons, List.drop_zero, List.take_succ_cons, List.take_zero, List.length_cons, List.length_nil, List.reverse_cons, List.reverse_nil, List.nil_append, List.cons_append, Option.toList, true_and, and_true, or_false, false_or, or_true, true_or, forall_const, Classical.not_not, not_false_eq_true, not_true_eq_false, false_implies, true_implies, implies_true, imp_self]
  (try unfold P7_isBridge at hP); (try unfold V7_isBridge at hQ); (repeat' (first | (intro _) | (refine And.intro ?_ ?_))); all_goals (first | omega | exact qeq hQ (b01_t (by omega)) | exact qeq hQ (b01_f (by omega)) | exact qeq hQ (b01_c (by omega)) | exact qeq hQ rfl | exact qeq hQ (by omega) | assumption)
set_option maxHeartbeats 4000000 in
set_option maxRecDepth 100000 in
theorem m7_isBridge : MOK cl7 sh7 tyl7 [] 1 yX7_isBridge cX7_isBridge 3 (some .boolean) sp7_isBridge := by
  refine mok_of (own := RX7) (tb := tb7 (csL cs7_isBridge)) (rt := 2) (fuel := 400) (fun avs M Q => []) (by decide) rfl nil_nw (tbOK7 _) rfl (csL_all ?_) ?_ ?_ ?_
  · intro q hq
    simp only [cs7_isBridge, List.mem_cons, List.not_mem_nil, or_false] at hq
    rcases hq with rfl | rfl
    · exact cg7_bridges (by decide)
    · exact cg7_in (by decide)
  · intro avs M Q hsp
    obtain ⟨xs, hx⟩ := spF_un _ _ _ hsp
    obtain ⟨e, hl⟩ := unA_mkT hx
    obtain ⟨b, rfl⟩ := len1 hl
    have e : avs = [ar 0, al b] := e
    subst e
    simp [szL, isL]
  · intro avs M Q hM hav hsp
    obtain ⟨xs, hx⟩ := spF_un _ _ _ hsp
    obtain ⟨e, hl⟩ := unA_mkT hx
    obtain ⟨b, rfl⟩ := len1 hl
    have e : avs = [ar 0, al b] := e
    subst e
    exact in7_isBridge hM (hav (al b) (by simp)) hsp.1 hsp.2
  · intro avs M Q hM hav hsp q hq m_ vs M1 hM1 hv hJ
    obtain ⟨xs, hx⟩ := spF_un _ _ _ hsp
    obtain ⟨e, hl⟩ := unA_mkT hx
    obtain ⟨b, rfl⟩ := len1 hl
    have e : avs = [ar 0, al b] := e
    subst e
    cases hq
theorem cg7_isBridge {lvl : Nat} (h : 1 < lvl) : CG RX7 cl7 sh7 tyl7 [] lvl 1 292 2 sp7_isBridge := cg_V (sg := [1]) nil_nw spF_mono spF_un m7_isBridge h rfl (by decide) rfl rfl ⟨rfl, by decide, by decide, rfl⟩ q1819 q1821 qs84 q138 q1822
def P7_isCart (c : Int) (M : Mm) : Prop := 0 ≤ M 7 4 ∧ M 7 4 ≤ 7
def V7_isCart (c : Int) (M : Mm) : Int := b01 (0 ≤ c ∧ c < M 7 4)
def sp7_isCart : Spec := spF true [1] 1 (fun x M => P7_isCart (x 0) M) (fun x M => V7_isCart (x 0) M)
theorem c7_isCart {c : Int} {M : Mm} {Q : Option AV → Mm → Prop} : sp7_isCart [ar 0, al c] M Q = (P7_isCart c M ∧ Q (some (ai (V7_isCart c M))) M) := rfl
def cs7_isCart : List (Nat × Nat × Nat × Spec) := [(286, 1, 1, sp7_carts), (121, 0, 3, sp7_in)]
set_option maxHeartbeats 4000000 in
set_option maxRecDepth 100000 in
theorem in7_isCart {c : Int} {M : Mm} {Q : Option AV → Mm → Prop} (hM : okM sh7 M) (h_c : i64 c) (hP : P7_isCart c M) (hQ : Q (some (ai (V7_isCart c M))) M) : wp (tb7 (csL cs7_isCart)) sh7 3 2 cX7_isCart [] Q 400 0 [(0, ar 0), (1, al c)] [] M := by
  simp only [e_wp dX7_isCart_0 rfl, e_wp dX7_isCart_1 rfl, e_wp dX7_isCart_2 rfl, e_wp dX7_isCart_3 rfl, e_wp dX7_isCart_6 rfl, e_wp dX7_isCart_7 rfl, e_wp dX7_isCart_8 rfl, e_wp dX7_isCart_9 rfl, e_wp dX7_isCart_12 rfl, c7_carts, P7_carts, V7_carts, cs7_isCart, c7_in, P7_in, V7_in, e_iconst, e_bipush, e_sipush, e_lconst_0, e_lconst_1, e_iload, e_iload_0, e_iload_1, e_iload_2, e_iload_3, e_lload, e_lload_0, e_lload_1, e_lload_2, e_lload_3, e_aload, e_aload_0, e_aload_1, e_aload_2, e_aload_3, e_istore, e_istore_0, e_istore_1, e_istore_2, e_istore_3, e_astore, e_astore_0, e_astore_1, e_astore_2, e_astore_3, e_lstore, e_lstore_0, e_lstore_1, e_lstore_2, e_lstore_3, e_iinc, e_iadd, e_isub, e_imul, e_ladd, e_lsub, e_lmul, e_idiv, e_irem, e_ldiv, e_lrem, e_ineg, e_lneg, e_iand, e_ior, e_ixor, e_ishl, e_ishr, e_iushr, e_lcmp, e_i2l, e_l2i, e_i2b, e_i2s, e_dup_i, e_dup_r, e_pop_i, e_pop_r, e_dup2_l, e_dup2_ir, e_dup2_ii, e_ifeq, e_ifne, e_iflt, e_ifge, e_ifgt, e_ifle, e_iceq, e_icne, e_iclt, e_icge, e_icgt, e_icle, e_goto, e_switch, e_invokevirtual, e_invokestatic, e_invokespecial, e_ret0, e_ret1, e_ret2, e_ret3, ldI_s, ldL_s, ldR_s, clO_s, ctP_s, ctS_s, mgo_0, mgo_s, pjc_s, pj_0, pj_s, lk_s, rm1_0, rm1_i, rm1_r, rm1_l, rm2_0, rm2_i, rm2_r, rm2_l, csL_s, lc_lt, lc_ge, lc_gt, lc_le, lc_eq, b01_0, b01_1, b01_01, b01_n, up2_o, up2_s, up2_u, ne_eq, reduceCtorEq, Nat.reduceAdd, Nat.reduceEqDiff, Nat.reduceLT, Nat.reduceLeDiff, Int.reduceLE, Int.reduceLT, Int.reduceAdd, Int.reduceNeg, Int.reduceMul, Int.reduceSub, Int.reduceEq, Int.reduceToNat, Int.reduceNatCast, Int.cast_ofNat_Int, ↓reduceIte, and_self, List.drop_succ_cons, List.drop_zero, List.take_succ_cons, List.take_zero, List.length_cons, List.length_nil, List.reverse_cons, List.reverse_nil, List.nil_append, List.cons_append, Option.toList, true_and, and_true, or_false, false_or, or_true, true_or, forall_const, Classical.not_not, not_false_eq_true, not_true_eq_false, false_implies, true_implies, implies_true, imp_self]
  (try unfold P7_isCart at hP); (try unfold V7_isCart at hQ); (repeat' (first | (intro _) | (refine And.intro ?_ ?_))); all_goals (first | omega | exact qeq hQ (b01_t (by omega)) | exact qeq hQ (b01_f (by omega)) | exact qeq hQ (b01_c (by omega)) | exact qeq hQ rfl | exact qeq hQ (by omega) | assumption)
set_option maxHeartbeats 4000000 in
set_option maxRecDepth 100000 in
theorem m7_isCart : MOK cl7 sh7 tyl7 [] 1 yX7_isCart cX7_isCart 3 (some .boolean) sp7_isCart := by
  refine mok_of (own := RX7) (tb := tb7 (csL cs7_isCart)) (rt := 2) (fuel := 400) (fun avs M Q => []) (by decide) rfl nil_nw (tbOK7 _) rfl (csL_all ?_) ?_ ?_ ?_
  · intro q hq
    simp only [cs7_isCart, List.mem_cons, List.not_mem_nil, or_false] at hq
    rcases hq with rfl | rfl
    · exact cg7_carts (by decide)
    · exact cg7_in (by decide)
  · intro avs M Q hsp
    obtain ⟨xs, hx⟩ := spF_un _ _ _ hsp
    obtain ⟨e, hl⟩ := unA_mkT hx
    obtain ⟨c, rfl⟩ := len1 hl
    have e : avs = [ar 0, al c] := e
    subst e
    simp [szL, isL]
  · intro avs M Q hM hav hsp
    obtain ⟨xs, hx⟩ := spF_un _ _ _ hsp
    obtain ⟨e, hl⟩ := unA_mkT hx
    obtain ⟨c, rfl⟩ := len1 hl
    have e : avs = [ar 0, al c] := e
    subst e
    exact in7_isCart hM (hav (al c) (by simp)) hsp.1 hsp.2
  · intro avs M Q hM hav hsp q hq m_ vs M1 hM1 hv hJ
    obtain ⟨xs, hx⟩ := spF_un _ _ _ hsp
    obtain ⟨e, hl⟩ := unA_mkT hx
    obtain ⟨c, rfl⟩ := len1 hl
    have e : avs = [ar 0, al c] := e
    subst e
    cases hq
theorem cg7_isCart {lvl : Nat} (h : 1 < lvl) : CG RX7 cl7 sh7 tyl7 [] lvl 1 289 2 sp7_isCart := cg_V (sg := [1]) nil_nw spF_mono spF_un m7_isCart h rfl (by decide) rfl rfl ⟨rfl, by decide, by decide, rfl⟩ q1834 q1836 qs86 q138 q1837
def P7_areTwo (a : Int) (b : Int) (M : Mm) : Prop := 0 ≤ M 7 4 ∧ M 7 4 ≤ 7
def V7_areTwo (a : Int) (b : Int) (M : Mm) : Int := b01 ((0 ≤ a ∧ a < M 7 4) ∧ (0 ≤ b ∧ b < M 7 4) ∧ ¬ a = b)
def sp7_areTwo : Spec := spF true [0, 0] 1 (fun x M => P7_areTwo (x 0) (x 1) M) (fun x M => V7_areTwo (x 0) (x 1) M)
theorem c7_areTwo {a b : Int} {M : Mm} {Q : Option AV → Mm → Prop} : sp7_areTwo [ar 0, ai a, ai b] M Q = (P7_areTwo a b M ∧ Q (some (ai (V7_areTwo a b M))) M) := rfl
def cs7_areTwo : List (Nat × Nat × Nat × Spec) := [(289, 1, 2, sp7_isCart)]
set_option maxHeartbeats 4000000 in
set_option maxRecDepth 100000 in
theorem in7_areTwo {a b : Int} {M : Mm} {Q : Option AV → Mm → Prop} (hM : okM sh7 M) (h_a : i32 a) (h_b : i32 b) (hP : P7_areTwo a b M) (hQ : Q (some (ai (V7_areTwo a b M))) M) : wp (tb7 (csL cs7_areTwo)) sh7 3 2 cX7_areTwo [] Q 400 0 [(0, ar 0), (1, ai a), (2, ai b)] [] M := by
  simp only [e_wp dX7_areTwo_0 rfl, e_wp dX7_areTwo_1 rfl, e_wp dX7_areTwo_2 rfl, e_wp dX7_areTwo_3 rfl, e_wp dX7_areTwo_6 rfl, e_wp dX7_areTwo_9 rfl, e_wp dX7_areTwo_10 rfl, e_wp dX7_areTwo_11 rfl, e_wp dX7_areTwo_12 rfl, e_wp dX7_areTwo_15 rfl, e_wp dX7_areTwo_18 rfl, e_wp dX7_areTwo_19 rfl, e_wp dX7_areTwo_20 rfl, e_wp dX7_areTwo_23 rfl, e_wp dX7_areTwo_24 rfl, e_wp dX7_areTwo_27 rfl, e_wp dX7_areTwo_28 rfl, c7_isCart, P7_isCart, V7_isCart, cs7_areTwo, e_iconst, e_bipush, e_sipush, e_lconst_0, e_lconst_1, e_iload, e_iload_0, e_iload_1, e_iload_2, e_iload_3, e_lload, e_lload_0, e_lload_1, e_lload_2, e_lload_3, e_aload, e_aload_0, e_aload_1, e_aload_2, e_aload_3, e_istore, e_istore_0, e_istore_1, e_istore_2, e_istore_3, e_astore, e_astore_0, e_astore_1, e_astore_2, e_astore_3, e_lstore, e_lstore_0, e_lstore_1, e_lstore_2, e_lstore_3, e_iinc, e_iadd, e_isub, e_imul, e_ladd, e_lsub, e_lmul, e_idiv, e_irem, e_ldiv, e_lrem, e_ineg, e_lneg, e_iand, e_ior, e_ixor, e_ishl, e_ishr, e_iushr, e_lcmp, e_i2l, e_l2i, e_i2b, e_i2s, e_dup_i, e_dup_r, e_pop_i, e_pop_r, e_dup2_l, e_dup2_ir, e_dup2_ii, e_ifeq, e_ifne, e_iflt, e_ifge, e_ifgt, e_ifle, e_iceq, e_icne, e_iclt, e_icge, e_icgt, e_icle, e_goto, e_switch, e_invokevirtual, e_invokestatic, e_invokespecial, e_ret0, e_ret1, e_ret2, e_ret3, ldI_s, ldL_s, ldR_s, clO_s, ctP_s, ctS_s, mgo_0, mgo_s, pjc_s, pj_0, pj_s, lk_s, rm1_0, rm1_i, rm1_r, rm1_l, rm2_0, rm2_i, rm2_r, rm2_l, csL_s, lc_lt, lc_ge, lc_gt, lc_le, lc_eq, b01_0, b01_1, b01_01, b01_n, up2_o, up2_s, up2_u, ne_eq, reduceCtorEq, Nat.reduceAdd, Nat.reduceEqDiff, Nat.reduceLT, Nat.reduceLeDiff, Int.reduceLE, Int.reduceLT, Int.reduceAdd, Int.reduceNeg, Int.reduceMul, Int.reduceSub, Int.reduceEq, Int.reduceToNat, Int.reduceNatCast, Int.cast_ofNat_Int, ↓reduceIte, and_self, List.drop_succ_cons, List.drop_zero, List.take_succ_cons, List.take_zero, List.length_cons, List.length_nil, List.reverse_cons, List.reverse_nil, List.nil_append, List.cons_append, Option.toList, true_and, and_true, or_false, false_or, or_true, true_or, forall_const, Classical.not_not, not_false_eq_true, not_true_eq_false, false_implies, true_implies, implies_true, imp_self]
  (try unfold P7_areTwo at hP); (try unfold V7_areTwo at hQ); (repeat' (first | (intro _) | (refine And.intro ?_ ?_))); all_goals (first | omega | exact qeq hQ (b01_t (by omega)) | exact qeq hQ (b01_f (by omega)) | exact qeq hQ (b01_c (by omega)) | exact qeq hQ rfl | exact qeq hQ (by omega) | assumption)
set_option maxHeartbeats 4000000 in
set_option maxRecDepth 100000 in
theorem m7_areTwo : MOK cl7 sh7 tyl7 [] 2 yX7_areTwo cX7_areTwo 3 (some .boolean) sp7_areTwo := by
  refine mok_of (own := RX7) (tb := tb7 (csL cs7_areTwo)) (rt := 2) (fuel := 400) (fun avs M Q => []) (by decide) rfl nil_nw (tbOK7 _) rfl (csL_all ?_) ?_ ?_ ?_
  · intro q hq
    simp only [cs7_areTwo, List.mem_cons, List.not_mem_nil, or_false] at hq
    rcases hq with rfl
    · exact cg7_isCart (by decide)
  · intro avs M Q hsp
    obtain ⟨xs, hx⟩ := spF_un _ _ _ hsp
    obtain ⟨e, hl⟩ := unA_mkT hx
    obtain ⟨a, b, rfl⟩ := len2 hl
    have e : avs = [ar 0, ai a, ai b] := e
    subst e
    simp [szL, isL]
  · intro avs M Q hM hav hsp
    obtain ⟨xs, hx⟩ := spF_un _ _ _ hsp
    obtain ⟨e, hl⟩ := unA_mkT hx
    obtain ⟨a, b, rfl⟩ := len2 hl
    have e : avs = [ar 0, ai a, ai b] := e
    subst e
    exact in7_areTwo hM (hav (ai a) (by simp)) (hav (ai b) (by simp)) hsp.1 hsp.2
  · intro avs M Q hM hav hsp q hq m_ vs M1 hM1 hv hJ
    obtain ⟨xs, hx⟩ := spF_un _ _ _ hsp
    obtain ⟨e, hl⟩ := unA_mkT hx
    obtain ⟨a, b, rfl⟩ := len2 hl
    have e : avs = [ar 0, ai a, ai b] := e
    subst e
    cases hq
theorem cg7_areTwo {lvl : Nat} (h : 2 < lvl) : CG RX7 cl7 sh7 tyl7 [] lvl 1 463 3 sp7_areTwo := cg_V (sg := [0, 0]) nil_nw spF_mono spF_un m7_areTwo h rfl (by decide) rfl rfl ⟨rfl, by decide, by decide, rfl⟩ q2183 q2185 qs119 q138 q2186
def P7_isThen (b : Int) (t : Int) (M : Mm) : Prop := (0 ≤ M 7 3 ∧ M 7 3 ≤ 3) ∧ 0 ≤ M 7 4 ∧ M 7 4 ≤ 7
def V7_isThen (b : Int) (t : Int) (M : Mm) : Int := b01 ((0 ≤ b ∧ b < M 7 3) ∧ (0 ≤ t ∧ t < M 7 4))
def sp7_isThen : Spec := spF true [0, 0] 1 (fun x M => P7_isThen (x 0) (x 1) M) (fun x M => V7_isThen (x 0) (x 1) M)
theorem c7_isThen {b t : Int} {M : Mm} {Q : Option AV → Mm → Prop} : sp7_isThen [ar 0, ai b, ai t] M Q = (P7_isThen b t M ∧ Q (some (ai (V7_isThen b t M))) M) := rfl
def cs7_isThen : List (Nat × Nat × Nat × Spec) := [(292, 1, 2, sp7_isBridge), (289, 1, 2, sp7_isCart)]
set_option maxHeartbeats 4000000 in
set_option maxRecDepth 100000 in
theorem in7_isThen {b t : Int} {M : Mm} {Q : Option AV → Mm → Prop} (hM : okM sh7 M) (h_b : i32 b) (h_t : i32 t) (hP : P7_isThen b t M) (hQ : Q (some (ai (V7_isThen b t M))) M) : wp (tb7 (csL cs7_isThen)) sh7 3 2 cX7_isThen [] Q 400 0 [(0, ar 0), (1, ai b), (2, ai t)] [] M := by
  simp only [e_wp dX7_isThen_0 rfl, e_wp dX7_isThen_1 rfl, e_wp dX7_isThen_2 rfl, e_wp dX7_isThen_3 rfl, e_wp dX7_isThen_6 rfl, e_wp dX7_isThen_9 rfl, e_wp dX7_isThen_10 rfl, e_wp dX7_isThen_11 rfl, e_wp dX7_isThen_12 rfl, e_wp dX7_isThen_15 rfl, e_wp dX7_isThen_18 rfl, e_wp dX7_isThen_19 rfl, e_wp dX7_isThen_22 rfl, e_wp dX7_isThen_23 rfl, c7_isBridge, P7_isBridge, V7_isBridge, cs7_isThen, c7_isCart, P7_isCart, V7_isCart, e_iconst, e_bipush, e_sipush, e_lconst_0, e_lconst_1, e_iload, e_iload_0, e_iload_1, e_iload_2, e_iload_3, e_lload, e_lload_0, e_lload_1, e_lload_2, e_lload_3, e_aload, e_aload_0, e_aload_1, e_aload_2, e_aload_3, e_istore, e_istore_0, e_istore_1, e_istore_2, e_istore_3, e_astore, e_astore_0, e_astore_1, e_astore_2, e_astore_3, e_lstore, e_lstore_0, e_lstore_1, e_lstore_2, e_lstore_3, e_iinc, e_iadd, e_isub, e_imul, e_ladd, e_lsub, e_lmul, e_idiv, e_irem, e_ldiv, e_lrem, e_ineg, e_lneg, e_iand, e_ior, e_ixor, e_ishl, e_ishr, e_iushr, e_lcmp, e_i2l, e_l2i, e_i2b, e_i2s, e_dup_i, e_dup_r, e_pop_i, e_pop_r, e_dup2_l, e_dup2_ir, e_dup2_ii, e_ifeq, e_ifne, e_iflt, e_ifge, e_ifgt, e_ifle, e_iceq, e_icne, e_iclt, e_icge, e_icgt, e_icle, e_goto, e_switch, e_invokevirtual, e_invokestatic, e_invokespecial, e_ret0, e_ret1, e_ret2, e_ret3, ldI_s, ldL_s, ldR_s, clO_s, ctP_s, ctS_s, mgo_0, mgo_s, pjc_s, pj_0, pj_s, lk_s, rm1_0, rm1_i, rm1_r, rm1_l, rm2_0, rm2_i, rm2_r, rm2_l, csL_s, lc_lt, lc_ge, lc_gt, lc_le, lc_eq, b01_0, b01_1, b01_01, b01_n, up2_o, up2_s, up2_u, ne_eq, reduceCtorEq, Nat.reduceAdd, Nat.reduceEqDiff, Nat.reduceLT, Nat.reduceLeDiff, Int.reduceLE, Int.reduceLT, Int.reduceAdd, Int.reduceNeg, Int.reduceMul, Int.reduceSub, Int.reduceEq, Int.reduceToNat, Int.reduceNatCast, Int.cast_ofNat_Int, ↓reduceIte, and_self, List.drop_succ_cons, List.drop_zero, List.take_succ_cons, List.take_zero, List.length_cons, List.length_nil, List.reverse_cons, List.reverse_nil, List.nil_append, List.cons_append, Option.toList, true_and, and_true, or_false, false_or, or_true, true_or, forall_const, Classical.not_not, not_false_eq_true, not_true_eq_false, false_implies, true_implies, implies_true, imp_self]
  (try unfold P7_isThen at hP); (try unfold V7_isThen at hQ); (repeat' (first | (intro _) | (refine And.intro ?_ ?_))); all_goals (first | omega | exact qeq hQ (b01_t (by omega)) | exact qeq hQ (b01_f (by omega)) | exact qeq hQ (b01_c (by omega)) | exact qeq hQ rfl | exact qeq hQ (by omega) | assumption)
set_option maxHeartbeats 4000000 in
set_option maxRecDepth 100000 in
theorem m7_isThen : MOK cl7 sh7 tyl7 [] 2 yX7_isThen cX7_isThen 3 (some .boolean) sp7_isThen := by
  refine mok_of (own := RX7) (tb := tb7 (csL cs7_isThen)) (rt := 2) (fuel := 400) (fun avs M Q => []) (by decide) rfl nil_nw (tbOK7 _) rfl (csL_all ?_) ?_ ?_ ?_
  · intro q hq
    simp only [cs7_isThen, List.mem_cons, List.not_mem_nil, or_false] at hq
    rcases hq with rfl | rfl
    · exact cg7_isBridge (by decide)
    · exact cg7_isCart (by decide)
  · intro avs M Q hsp
    obtain ⟨xs, hx⟩ := spF_un _ _ _ hsp
    obtain ⟨e, hl⟩ := unA_mkT hx
    obtain ⟨b, t, rfl⟩ := len2 hl
    have e : avs = [ar 0, ai b, ai t] := e
    subst e
    simp [szL, isL]
  · intro avs M Q hM hav hsp
    obtain ⟨xs, hx⟩ := spF_un _ _ _ hsp
    obtain ⟨e, hl⟩ := unA_mkT hx
    obtain ⟨b, t, rfl⟩ := len2 hl
    have e : avs = [ar 0, ai b, ai t] := e
    subst e
    exact in7_isThen hM (hav (ai b) (by simp)) (hav (ai t) (by simp)) hsp.1 hsp.2
  · intro avs M Q hM hav hsp q hq m_ vs M1 hM1 hv hJ
    obtain ⟨xs, hx⟩ := spF_un _ _ _ hsp
    obtain ⟨e, hl⟩ := unA_mkT hx
    obtain ⟨b, t, rfl⟩ := len2 hl
    have e : avs = [ar 0, ai b, ai t] := e
    subst e
    cases hq
theorem cg7_isThen {lvl : Nat} (h : 2 < lvl) : CG RX7 cl7 sh7 tyl7 [] lvl 1 353 3 sp7_isThen := cg_V (sg := [0, 0]) nil_nw spF_mono spF_un m7_isThen h rfl (by decide) rfl rfl ⟨rfl, by decide, by decide, rfl⟩ q1922 q1924 qs100 q138 q1925
def P7_isBit (x : Int) (k : Int) (M : Mm) : Prop := True
def V7_isBit (x : Int) (k : Int) (M : Mm) : Int := b01 (band (bshr x k) 1 = 1)
def sp7_isBit : Spec := spF false [0, 0] 1 (fun x M => P7_isBit (x 0) (x 1) M) (fun x M => V7_isBit (x 0) (x 1) M)
theorem c7_isBit {x k : Int} {M : Mm} {Q : Option AV → Mm → Prop} : sp7_isBit [ai x, ai k] M Q = (P7_isBit x k M ∧ Q (some (ai (V7_isBit x k M))) M) := rfl
def cs7_isBit : List (Nat × Nat × Nat × Spec) := []
set_option maxHeartbeats 4000000 in
set_option maxRecDepth 100000 in
theorem in7_isBit {x k : Int} {M : Mm} {Q : Option AV → Mm → Prop} (hM : okM sh7 M) (h_x : i32 x) (h_k : i32 k) (hP : P7_isBit x k M) (hQ : Q (some (ai (V7_isBit x k M))) M) : wp (tb7 (csL cs7_isBit)) sh7 2 2 cX7_isBit [] Q 400 0 [(0, ai x), (1, ai k)] [] M := by
  simp only [e_wp dX7_isBit_0 rfl, e_wp dX7_isBit_1 rfl, e_wp dX7_isBit_2 rfl, e_wp dX7_isBit_3 rfl, e_wp dX7_isBit_4 rfl, e_wp dX7_isBit_5 rfl, e_wp dX7_isBit_6 rfl, e_wp dX7_isBit_9 rfl, e_wp dX7_isBit_10 rfl, e_wp dX7_isBit_13 rfl, e_wp dX7_isBit_14 rfl, e_iconst, e_bipush, e_sipush, e_lconst_0, e_lconst_1, e_iload, e_iload_0, e_iload_1, e_iload_2, e_iload_3, e_lload, e_lload_0, e_lload_1, e_lload_2, e_lload_3, e_aload, e_aload_0, e_aload_1, e_aload_2, e_aload_3, e_istore, e_istore_0, e_istore_1, e_istore_2, e_istore_3, e_astore, e_astore_0, e_astore_1, e_astore_2, e_astore_3, e_lstore, e_lstore_0, e_lstore_1, e_lstore_2, e_lstore_3, e_iinc, e_iadd, e_isub, e_imul, e_ladd, e_lsub, e_lmul, e_idiv, e_irem, e_ldiv, e_lrem, e_ineg, e_lneg, e_iand, e_ior, e_ixor, e_ishl, e_ishr, e_iushr, e_lcmp, e_i2l, e_l2i, e_i2b, e_i2s, e_dup_i, e_dup_r, e_pop_i, e_pop_r, e_dup2_l, e_dup2_ir, e_dup2_ii, e_ifeq, e_ifne, e_iflt, e_ifge, e_ifgt, e_ifle, e_iceq, e_icne, e_iclt, e_icge, e_icgt, e_icle, e_goto, e_switch, e_invokevirtual, e_invokestatic, e_invokespecial, e_ret0, e_ret1, e_ret2, e_ret3, ldI_s, ldL_s, ldR_s, clO_s, ctP_s, ctS_s, mgo_0, mgo_s, pjc_s, pj_0, pj_s, lk_s, rm1_0, rm1_i, rm1_r, rm1_l, rm2_0, rm2_i, rm2_r, rm2_l, csL_s, lc_lt, lc_ge, lc_gt, lc_le, lc_eq, b01_0, b01_1, b01_01, b01_n, up2_o, up2_s, up2_u, ne_eq, reduceCtorEq, Nat.reduceAdd, Nat.reduceEqDiff, Nat.reduceLT, Nat.reduceLeDiff, Int.reduceLE, Int.reduceLT, Int.reduceAdd, Int.reduceNeg, Int.reduceMul, Int.reduceSub, Int.reduceEq, Int.reduceToNat, Int.reduceNatCast, Int.cast_ofNat_Int, ↓reduceIte, and_self, List.drop_succ_cons, List.drop_zero, List.take_succ_cons, List.take_zero, List.length_cons, List.length_nil, List.reverse_cons, List.reverse_nil, List.nil_append, List.cons_append, Option.toList, true_and, and_true, or_false, false_or, or_true, true_or, forall_const, Classical.not_not, not_false_eq_true, not_true_eq_false, false_implies, true_implies, implies_true, imp_self]
  (try unfold P7_isBit at hP); (try unfold V7_isBit at hQ); (repeat' (first | (intro _) | (refine And.intro ?_ ?_))); all_goals (first | omega | exact qeq hQ (b01_t (by omega)) | exact qeq hQ (b01_f (by omega)) | exact qeq hQ (b01_c (by omega)) | exact qeq hQ rfl | exact qeq hQ (by omega) | assumption)
set_option maxHeartbeats 4000000 in
set_option maxRecDepth 100000 in
theorem m7_isBit : MOK cl7 sh7 tyl7 [] 0 yX7_isBit cX7_isBit 2 (some .boolean) sp7_isBit := by
  refine mok_of (own := RX7) (tb := tb7 (csL cs7_isBit)) (rt := 2) (fuel := 400) (fun avs M Q => []) (by decide) rfl nil_nw (tbOK7 _) rfl (csL_all ?_) ?_ ?_ ?_
  · intro q hq; cases hq
  · intro avs M Q hsp
    obtain ⟨xs, hx⟩ := spF_un _ _ _ hsp
    obtain ⟨e, hl⟩ := unA_mk hx
    obtain ⟨x, k, rfl⟩ := len2 hl
    have e : avs = [ai x, ai k] := e
    subst e
    simp [szL, isL]
  · intro avs M Q hM hav hsp
    obtain ⟨xs, hx⟩ := spF_un _ _ _ hsp
    obtain ⟨e, hl⟩ := unA_mk hx
    obtain ⟨x, k, rfl⟩ := len2 hl
    have e : avs = [ai x, ai k] := e
    subst e
    exact in7_isBit hM (hav (ai x) (by simp)) (hav (ai k) (by simp)) hsp.1 hsp.2
  · intro avs M Q hM hav hsp q hq m_ vs M1 hM1 hv hJ
    obtain ⟨xs, hx⟩ := spF_un _ _ _ hsp
    obtain ⟨e, hl⟩ := unA_mk hx
    obtain ⟨x, k, rfl⟩ := len2 hl
    have e : avs = [ai x, ai k] := e
    subst e
    cases hq
theorem cg7_isBit {lvl : Nat} (h : 0 < lvl) : CG RX7 cl7 sh7 tyl7 [] lvl 0 307 2 sp7_isBit := cg_S (sg := [0, 0]) nil_nw spF_mono spF_un m7_isBit h rfl (by decide) ⟨by decide, by decide, rfl⟩ q1855 q1856 q138 q1857
/-- a bridge's cells, as what it remembers -/
def mf (M : Mm) (b : Int) (k : Nat) : Pr := (M 17 (8 * b + k).toNat, M 18 (8 * b + k).toNat)
def mb (M : Mm) (b : Int) : List Pr := stk (mf M b) (M 19 b.toNat).toNat
def okB (M : Mm) (b : Int) : Prop := (0 ≤ b ∧ b < 3) ∧ (0 ≤ M 19 b.toNat ∧ M 19 b.toNat ≤ 8) ∧ okL (mb M b)
theorem mb_ne {M : Mm} {b : Int} (h : okB M b) : mb M b = [] ↔ M 19 b.toNat = 0 := by
  have h1 := h.2.1
  have h2 := stk_len (mf M b) (M 19 b.toNat).toNat
  constructor
  · intro e
    have e : stk (mf M b) (M 19 b.toNat).toNat = [] := e
    rw [e] at h2
    have : ([] : List Pr).length = 0 := rfl
    omega
  · intro e
    show stk (mf M b) (M 19 b.toNat).toNat = []
    rw [e]
    rfl
theorem mb_s {M : Mm} {b : Int} {n : Nat} (h : M 19 b.toNat = n + 1) : mb M b = mf M b n :: stk (mf M b) n := by
  show stk (mf M b) (M 19 b.toNat).toNat = _
  rw [h]
  rfl
theorem mb_el {M : Mm} {b : Int} (h : okB M b) {k : Nat} (hk : (k : Int) < M 19 b.toNat) : 1 ≤ M 17 (8 * b + k).toNat ∧ M 17 (8 * b + k).toNat ≤ 99 := h.2.2 _ (stk_mem (f := mf M b) (by omega))
theorem mb_last {M : Mm} {b : Int} (h : okB M b) : lastP (mb M b) = if M 19 b.toNat = 0 then 0 else M 17 (8 * b + M 19 b.toNat - 1).toNat := by
  have h1 := h.2.1
  by_cases e : M 19 b.toNat = 0
  · rw [if_pos e, (mb_ne h).mpr e]; rfl
  · rw [if_neg e]
    obtain ⟨n, hn⟩ : ∃ n : Nat, M 19 b.toNat = n + 1 := ⟨(M 19 b.toNat - 1).toNat, by omega⟩
    rw [mb_s hn, hn]
    show M 17 (8 * b + n).toNat = _
    congr 1
    omega
def P7_lastOf (b : Int) (M : Mm) : Prop := okB M b
def V7_lastOf (b : Int) (M : Mm) : Int := lastP (mb M b)
def sp7_lastOf : Spec := spF true [0] 1 (fun x M => P7_lastOf (x 0) M) (fun x M => V7_lastOf (x 0) M)
theorem c7_lastOf {b : Int} {M : Mm} {Q : Option AV → Mm → Prop} : sp7_lastOf [ar 0, ai b] M Q = (P7_lastOf b M ∧ Q (some (ai (V7_lastOf b M))) M) := rfl
def cs7_lastOf : List (Nat × Nat × Nat × Spec) := []
set_option maxHeartbeats 4000000 in
set_option maxRecDepth 100000 in
theorem in7_lastOf {b : Int} {M : Mm} {Q : Option AV → Mm → Prop} (hM : okM sh7 M) (h_b : i32 b) (hP : P7_lastOf b M) (hQ : Q (some (ai (V7_lastOf b M))) M) : wp (tb7 (csL cs7_lastOf)) sh7 2 1 cX7_lastOf [] Q 400 0 [(0, ar 0), (1, ai b)] [] M := by
  obtain ⟨h1, h2, -⟩ := id hP
  unfold V7_lastOf at hQ
  rw [mb_last hP] at hQ
  simp only [e_wp dX7_lastOf_0 rfl, e_wp dX7_lastOf_1 rfl, e_wp dX7_lastOf_4 rfl, e_wp dX7_lastOf_5 rfl, e_wp dX7_lastOf_6 rfl, e_wp dX7_lastOf_9 rfl, e_wp dX7_lastOf_10 rfl, e_wp dX7_lastOf_13 rfl, e_wp dX7_lastOf_14 rfl, e_wp dX7_lastOf_17 rfl, e_wp dX7_lastOf_19 rfl, e_wp dX7_lastOf_20 rfl, e_wp dX7_lastOf_21 rfl, e_wp dX7_lastOf_22 rfl, e_wp dX7_lastOf_25 rfl, e_wp dX7_lastOf_26 rfl, e_wp dX7_lastOf_27 rfl, e_wp dX7_lastOf_28 rfl, e_wp dX7_lastOf_29 rfl, e_wp dX7_lastOf_30 rfl, e_wp dX7_lastOf_31 rfl, g7_71, g7_65, a7_1, w7_1, a7_2, w7_2, a7_3, w7_3, a7_4, w7_4, a7_5, w7_5, a7_6, w7_6, a7_7, w7_7, a7_8, w7_8, a7_9, w7_9, a7_10, w7_10, a7_11, w7_11, a7_12, w7_12, a7_13, w7_13, a7_14, w7_14, a7_15, w7_15, a7_16, w7_16, a7_17, w7_17, a7_18, w7_18, a7_19, w7_19, a7_20, w7_20, a7_21, w7_21, a7_22, w7_22, a7_23, w7_23, a7_24, w7_24, a7_25, w7_25, a7_26, w7_26, a7_27, w7_27, a7_28, w7_28, a7_29, w7_29, a7_30, w7_30, a7_31, w7_31, a7_32, w7_32, a7_33, w7_33, e_iconst, e_bipush, e_sipush, e_lconst_0, e_lconst_1, e_iload, e_iload_0, e_iload_1, e_iload_2, e_iload_3, e_lload, e_lload_0, e_lload_1, e_lload_2, e_lload_3, e_aload, e_aload_0, e_aload_1, e_aload_2, e_aload_3, e_istore, e_istore_0, e_istore_1, e_istore_2, e_istore_3, e_astore, e_astore_0, e_astore_1, e_astore_2, e_astore_3, e_lstore, e_lstore_0, e_lstore_1, e_lstore_2, e_lstore_3, e_iinc, e_iadd, e_isub, e_imul, e_ladd, e_lsub, e_lmul, e_idiv, e_irem, e_ldiv, e_lrem, e_ineg, e_lneg, e_iand, e_ior, e_ixor, e_ishl, e_ishr, e_iushr, e_lcmp, e_i2l, e_l2i, e_i2b, e_i2s, e_dup_i, e_dup_r, e_pop_i, e_pop_r, e_dup2_l, e_dup2_ir, e_dup2_ii, e_ifeq, e_ifne, e_iflt, e_ifge, e_ifgt, e_ifle, e_iceq, e_icne, e_iclt, e_icge, e_icgt, e_icle, e_goto, e_switch, e_invokevirtual, e_invokestatic, e_invokespecial, e_ret0, e_ret1, e_ret2, e_ret3, ldI_s, ldL_s, ldR_s, clO_s, ctP_s, ctS_s, mgo_0, mgo_s, pjc_s, pj_0, pj_s, lk_s, rm1_0, rm1_i, rm1_r, rm1_l, rm2_0, rm2_i, rm2_r, rm2_l, csL_s, lc_lt, lc_ge, lc_gt, lc_le, lc_eq, b01_0, b01_1, b01_01, b01_n, up2_o, up2_s, up2_u, ne_eq, reduceCtorEq, Nat.reduceAdd, Nat.reduceEqDiff, Nat.reduceLT, Nat.reduceLeDiff, Int.reduceLE, Int.reduceLT, Int.reduceAdd, Int.reduceNeg, Int.reduceMul, Int.reduceSub, Int.reduceEq, Int.reduceToNat, Int.reduceNatCast, Int.cast_ofNat_Int, ↓reduceIte, and_self, List.drop_succ_cons, List.drop_zero, List.take_succ_cons, List.take_zero, List.length_cons, List.length_nil, List.reverse_cons, List.reverse_nil, List.nil_append, List.cons_append, Option.toList, true_and, and_true, or_false, false_or, or_true, true_or, forall_const, Classical.not_not, not_false_eq_true, not_true_eq_false, false_implies, true_implies, implies_true, imp_self]
  refine ⟨h1, fun h => ?_, fun h => ?_⟩
  · rw [if_neg h] at hQ
    exact ⟨by omega, by omega, by omega, by omega, by omega, hQ⟩
  · rw [if_pos h] at hQ
    exact hQ
set_option maxHeartbeats 4000000 in
set_option maxRecDepth 100000 in
theorem m7_lastOf : MOK cl7 sh7 tyl7 [] 0 yX7_lastOf cX7_lastOf 2 (some .int) sp7_lastOf := by
  refine mok_of (own := RX7) (tb := tb7 (csL cs7_lastOf)) (rt := 1) (fuel := 400) (fun avs M Q => []) (by decide) rfl nil_nw (tbOK7 _) rfl (csL_all ?_) ?_ ?_ ?_
  · intro q hq; cases hq
  · intro avs M Q hsp
    obtain ⟨xs, hx⟩ := spF_un _ _ _ hsp
    obtain ⟨e, hl⟩ := unA_mkT hx
    obtain ⟨b, rfl⟩ := len1 hl
    have e : avs = [ar 0, ai b] := e
    subst e
    simp [szL, isL]
  · intro avs M Q hM hav hsp
    obtain ⟨xs, hx⟩ := spF_un _ _ _ hsp
    obtain ⟨e, hl⟩ := unA_mkT hx
    obtain ⟨b, rfl⟩ := len1 hl
    have e : avs = [ar 0, ai b] := e
    subst e
    exact in7_lastOf hM (hav (ai b) (by simp)) hsp.1 hsp.2
  · intro avs M Q hM hav hsp q hq m_ vs M1 hM1 hv hJ
    obtain ⟨xs, hx⟩ := spF_un _ _ _ hsp
    obtain ⟨e, hl⟩ := unA_mkT hx
    obtain ⟨b, rfl⟩ := len1 hl
    have e : avs = [ar 0, ai b] := e
    subst e
    cases hq
theorem cg7_lastOf {lvl : Nat} (h : 0 < lvl) : CG RX7 cl7 sh7 tyl7 [] lvl 1 304 2 sp7_lastOf := cg_V (sg := [0]) nil_nw spF_mono spF_un m7_lastOf h rfl (by decide) rfl rfl ⟨rfl, by decide, by decide, rfl⟩ q1890 q1892 qs96 q138 q1893
def P7_sagOf (b : Int) (M : Mm) : Prop := okB M b
def V7_sagOf (b : Int) (M : Mm) : Int := sagP (mb M b)
def sp7_sagOf : Spec := spF true [0] 1 (fun x M => P7_sagOf (x 0) M) (fun x M => V7_sagOf (x 0) M)
theorem c7_sagOf {b : Int} {M : Mm} {Q : Option AV → Mm → Prop} : sp7_sagOf [ar 0, ai b] M Q = (P7_sagOf b M ∧ Q (some (ai (V7_sagOf b M))) M) := rfl
def cs7_sagOf : List (Nat × Nat × Nat × Spec) := []
def J7_sagOf_4 (b : Int) (M : Mm) (m : Nat) (b_ : Int) (n : Int) (k : Int) (M1 : Mm) : Prop := b = b_ ∧ M = M1 ∧ ∃ kk : Nat, k = kk ∧ (kk : Int) ≤ M 19 b.toNat ∧ n = sagP (stk (mf M b) kk) ∧ m = (M 19 b.toNat).toNat - kk
set_option maxHeartbeats 4000000 in
set_option maxRecDepth 100000 in
theorem in7_sagOf {b : Int} {M : Mm} {Q : Option AV → Mm → Prop} (hM : okM sh7 M) (h_b : i32 b) (hP : P7_sagOf b M) (hQ : Q (some (ai (V7_sagOf b M))) M) (I_4 : List AV → Mm → Prop) (hI_4 : ∀ (m_ : Nat) (y_b_ : Int) (y_n : Int) (y_k : Int) (M2 : Mm), J7_sagOf_4 b M m_ y_b_ y_n y_k M2 → I_4 [ar 0, ai y_b_, ai y_n, ai y_k] M2) : wp (tb7 (csL cs7_sagOf)) sh7 4 1 cX7_sagOf [(4, [0, 1, 2, 3], I_4)] Q 400 0 [(0, ar 0), (1, ai b)] [] M := by
  simp only [e_wp dX7_sagOf_0 rfl, e_wp dX7_sagOf_1 rfl, e_wp dX7_sagOf_2 rfl, e_wp dX7_sagOf_3 rfl, e_wp dX7_sagOf_4 rfl, e_wp dX7_sagOf_5 rfl, e_wp dX7_sagOf_6 rfl, e_wp dX7_sagOf_9 rfl, e_wp dX7_sagOf_10 rfl, e_wp dX7_sagOf_11 rfl, e_wp dX7_sagOf_14 rfl, e_wp dX7_sagOf_15 rfl, e_wp dX7_sagOf_16 rfl, e_wp dX7_sagOf_19 rfl, e_wp dX7_sagOf_21 rfl, e_wp dX7_sagOf_22 rfl, e_wp dX7_sagOf_23 rfl, e_wp dX7_sagOf_24 rfl, e_wp dX7_sagOf_25 rfl, e_wp dX7_sagOf_26 rfl, e_wp dX7_sagOf_27 rfl, e_wp dX7_sagOf_28 rfl, e_wp dX7_sagOf_29 rfl, e_wp dX7_sagOf_30 rfl, e_wp dX7_sagOf_31 rfl, e_wp dX7_sagOf_32 rfl, e_wp dX7_sagOf_35 rfl, e_wp dX7_sagOf_38 rfl, e_wp dX7_sagOf_39 rfl, g7_71, g7_65, a7_1, w7_1, a7_2, w7_2, a7_3, w7_3, a7_4, w7_4, a7_5, w7_5, a7_6, w7_6, a7_7, w7_7, a7_8, w7_8, a7_9, w7_9, a7_10, w7_10, a7_11, w7_11, a7_12, w7_12, a7_13, w7_13, a7_14, w7_14, a7_15, w7_15, a7_16, w7_16, a7_17, w7_17, a7_18, w7_18, a7_19, w7_19, a7_20, w7_20, a7_21, w7_21, a7_22, w7_22, a7_23, w7_23, a7_24, w7_24, a7_25, w7_25, a7_26, w7_26, a7_27, w7_27, a7_28, w7_28, a7_29, w7_29, a7_30, w7_30, a7_31, w7_31, a7_32, w7_32, a7_33, w7_33, e_iconst, e_bipush, e_sipush, e_lconst_0, e_lconst_1, e_iload, e_iload_0, e_iload_1, e_iload_2, e_iload_3, e_lload, e_lload_0, e_lload_1, e_lload_2, e_lload_3, e_aload, e_aload_0, e_aload_1, e_aload_2, e_aload_3, e_istore, e_istore_0, e_istore_1, e_istore_2, e_istore_3, e_astore, e_astore_0, e_astore_1, e_astore_2, e_astore_3, e_lstore, e_lstore_0, e_lstore_1, e_lstore_2, e_lstore_3, e_iinc, e_iadd, e_isub, e_imul, e_ladd, e_lsub, e_lmul, e_idiv, e_irem, e_ldiv, e_lrem, e_ineg, e_lneg, e_iand, e_ior, e_ixor, e_ishl, e_ishr, e_iushr, e_lcmp, e_i2l, e_l2i, e_i2b, e_i2s, e_dup_i, e_dup_r, e_pop_i, e_pop_r, e_dup2_l, e_dup2_ir, e_dup2_ii, e_ifeq, e_ifne, e_iflt, e_ifge, e_ifgt, e_ifle, e_iceq, e_icne, e_iclt, e_icge, e_icgt, e_icle, e_goto, e_switch, e_invokevirtual, e_invokestatic, e_invokespecial, e_ret0, e_ret1, e_ret2, e_ret3, ldI_s, ldL_s, ldR_s, clO_s, ctP_s, ctS_s, mgo_0, mgo_s, pjc_s, pj_0, pj_s, lk_s, rm1_0, rm1_i, rm1_r, rm1_l, rm2_0, rm2_i, rm2_r, rm2_l, csL_s, lc_lt, lc_ge, lc_gt, lc_le, lc_eq, b01_0, b01_1, b01_01, b01_n, up2_o, up2_s, up2_u, ne_eq, reduceCtorEq, Nat.reduceAdd, Nat.reduceEqDiff, Nat.reduceLT, Nat.reduceLeDiff, Int.reduceLE, Int.reduceLT, Int.reduceAdd, Int.reduceNeg, Int.reduceMul, Int.reduceSub, Int.reduceEq, Int.reduceToNat, Int.reduceNatCast, Int.cast_ofNat_Int, ↓reduceIte, and_self, List.drop_succ_cons, List.drop_zero, List.take_succ_cons, List.take_zero, List.length_cons, List.length_nil, List.reverse_cons, List.reverse_nil, List.nil_append, List.cons_append, Option.toList, true_and, and_true, or_false, false_or, or_true, true_or, forall_const, Classical.not_not, not_false_eq_true, not_true_eq_false, false_implies, true_implies, implies_true, imp_self]
  exact hI_4 _ _ _ _ _ ⟨rfl, rfl, 0, rfl, hP.2.1.1, rfl, rfl⟩
set_option maxHeartbeats 4000000 in
set_option maxRecDepth 100000 in
theorem at7_sagOf_4 {b : Int} {M : Mm} {Q : Option AV → Mm → Prop} (hM : okM sh7 M) (h_b : i32 b) (hP : P7_sagOf b M) (hQ : Q (some (ai (V7_sagOf b M))) M) {m : Nat} {b_ n k : Int} {M1 : Mm} (hM1 : okM sh7 M1) (h_b_ : i32 b_) (h_n : i32 n) (h_k : i32 k) (hJ : J7_sagOf_4 b M m b_ n k M1) (I_4 : List AV → Mm → Prop) (hI_4 : ∀ (m_ : Nat) (y_b_ : Int) (y_n : Int) (y_k : Int) (M2 : Mm), m_ < m → J7_sagOf_4 b M m_ y_b_ y_n y_k M2 → I_4 [ar 0, ai y_b_, ai y_n, ai y_k] M2) : wp (tb7 (csL cs7_sagOf)) sh7 4 1 cX7_sagOf [(4, [0, 1, 2, 3], I_4)] Q 400 4 [(0, ar 0), (1, ai b_), (2, ai n), (3, ai k)] [] M1 := by
  obtain ⟨rfl, rfl, kk, rfl, hk, rfl, rfl⟩ := hJ
  obtain ⟨h1, h2, h3⟩ := id hP
  simp only [e_wp dX7_sagOf_0 rfl, e_wp dX7_sagOf_1 rfl, e_wp dX7_sagOf_2 rfl, e_wp dX7_sagOf_3 rfl, e_wp dX7_sagOf_4 rfl, e_wp dX7_sagOf_5 rfl, e_wp dX7_sagOf_6 rfl, e_wp dX7_sagOf_9 rfl, e_wp dX7_sagOf_10 rfl, e_wp dX7_sagOf_11 rfl, e_wp dX7_sagOf_14 rfl, e_wp dX7_sagOf_15 rfl, e_wp dX7_sagOf_16 rfl, e_wp dX7_sagOf_19 rfl, e_wp dX7_sagOf_21 rfl, e_wp dX7_sagOf_22 rfl, e_wp dX7_sagOf_23 rfl, e_wp dX7_sagOf_24 rfl, e_wp dX7_sagOf_25 rfl, e_wp dX7_sagOf_26 rfl, e_wp dX7_sagOf_27 rfl, e_wp dX7_sagOf_28 rfl, e_wp dX7_sagOf_29 rfl, e_wp dX7_sagOf_30 rfl, e_wp dX7_sagOf_31 rfl, e_wp dX7_sagOf_32 rfl, e_wp dX7_sagOf_35 rfl, e_wp dX7_sagOf_38 rfl, e_wp dX7_sagOf_39 rfl, g7_71, g7_65, a7_1, w7_1, a7_2, w7_2, a7_3, w7_3, a7_4, w7_4, a7_5, w7_5, a7_6, w7_6, a7_7, w7_7, a7_8, w7_8, a7_9, w7_9, a7_10, w7_10, a7_11, w7_11, a7_12, w7_12, a7_13, w7_13, a7_14, w7_14, a7_15, w7_15, a7_16, w7_16, a7_17, w7_17, a7_18, w7_18, a7_19, w7_19, a7_20, w7_20, a7_21, w7_21, a7_22, w7_22, a7_23, w7_23, a7_24, w7_24, a7_25, w7_25, a7_26, w7_26, a7_27, w7_27, a7_28, w7_28, a7_29, w7_29, a7_30, w7_30, a7_31, w7_31, a7_32, w7_32, a7_33, w7_33, e_iconst, e_bipush, e_sipush, e_lconst_0, e_lconst_1, e_iload, e_iload_0, e_iload_1, e_iload_2, e_iload_3, e_lload, e_lload_0, e_lload_1, e_lload_2, e_lload_3, e_aload, e_aload_0, e_aload_1, e_aload_2, e_aload_3, e_istore, e_istore_0, e_istore_1, e_istore_2, e_istore_3, e_astore, e_astore_0, e_astore_1, e_astore_2, e_astore_3, e_lstore, e_lstore_0, e_lstore_1, e_lstore_2, e_lstore_3, e_iinc, e_iadd, e_isub, e_imul, e_ladd, e_lsub, e_lmul, e_idiv, e_irem, e_ldiv, e_lrem, e_ineg, e_lneg, e_iand, e_ior, e_ixor, e_ishl, e_ishr, e_iushr, e_lcmp, e_i2l, e_l2i, e_i2b, e_i2s, e_dup_i, e_dup_r, e_pop_i, e_pop_r, e_dup2_l, e_dup2_ir, e_dup2_ii, e_ifeq, e_ifne, e_iflt, e_ifge, e_ifgt, e_ifle, e_iceq, e_icne, e_iclt, e_icge, e_icgt, e_icle, e_goto, e_switch, e_invokevirtual, e_invokestatic, e_invokespecial, e_ret0, e_ret1, e_ret2, e_ret3, ldI_s, ldL_s, ldR_s, clO_s, ctP_s, ctS_s, mgo_0, mgo_s, pjc_s, pj_0, pj_s, lk_s, rm1_0, rm1_i, rm1_r, rm1_l, rm2_0, rm2_i, rm2_r, rm2_l, csL_s, lc_lt, lc_ge, lc_gt, lc_le, lc_eq, b01_0, b01_1, b01_01, b01_n, up2_o, up2_s, up2_u, ne_eq, reduceCtorEq, Nat.reduceAdd, Nat.reduceEqDiff, Nat.reduceLT, Nat.reduceLeDiff, Int.reduceLE, Int.reduceLT, Int.reduceAdd, Int.reduceNeg, Int.reduceMul, Int.reduceSub, Int.reduceEq, Int.reduceToNat, Int.reduceNatCast, Int.cast_ofNat_Int, ↓reduceIte, and_self, List.drop_succ_cons, List.drop_zero, List.take_succ_cons, List.take_zero, List.length_cons, List.length_nil, List.reverse_cons, List.reverse_nil, List.nil_append, List.cons_append, Option.toList, true_and, and_true, or_false, false_or, or_true, true_or, forall_const, Classical.not_not, not_false_eq_true, not_true_eq_false, false_implies, true_implies, implies_true, imp_self]
  refine ⟨h1, fun h => ?_, fun h => ?_⟩
  · exact qeq hQ (by unfold V7_sagOf mb; rw [show (M 19 b.toNat).toNat = kk by omega])
  · have h4 := mb_el hP h
    have h5 := @tdiv_b (M 17 (8 * b + kk).toNat) ((kk : Int) + 1) (by omega) (by omega)
    have h6 := sagP_b (stk_okL h3 (k := kk) (by omega))
    rw [stk_len] at h6
    refine ⟨by omega, by omega, by omega, by omega, ⟨by omega, by omega⟩, by omega, by omega, ?_⟩
    refine hI_4 _ _ _ _ _ ?_ ⟨rfl, rfl, kk + 1, by omega, by omega, ?_, rfl⟩
    · omega
    · show _ = sagP (stk (mf M b) kk) + (M 17 (8 * b + kk).toNat).tdiv (((stk (mf M b) kk).length : Int) + 1)
      rw [stk_len]
set_option maxHeartbeats 4000000 in
set_option maxRecDepth 100000 in
theorem m7_sagOf : MOK cl7 sh7 tyl7 [] 0 yX7_sagOf cX7_sagOf 4 (some .int) sp7_sagOf := by
  refine mok_of (own := RX7) (tb := tb7 (csL cs7_sagOf)) (rt := 1) (fuel := 400) (fun avs M Q => [(4, [0, 1, 2, 3], fun m_ vs M1 => ∃ y_b_ : Int, ∃ y_n : Int, ∃ y_k : Int, vs = [ar 0, ai y_b_, ai y_n, ai y_k] ∧ J7_sagOf_4 (pa true [0] avs 0) M m_ y_b_ y_n y_k M1)]) (by decide) rfl nil_nw (tbOK7 _) rfl (csL_all ?_) ?_ ?_ ?_
  · intro q hq; cases hq
  · intro avs M Q hsp
    obtain ⟨xs, hx⟩ := spF_un _ _ _ hsp
    obtain ⟨e, hl⟩ := unA_mkT hx
    obtain ⟨b, rfl⟩ := len1 hl
    have e : avs = [ar 0, ai b] := e
    subst e
    simp [szL, isL]
  · intro avs M Q hM hav hsp
    obtain ⟨xs, hx⟩ := spF_un _ _ _ hsp
    obtain ⟨e, hl⟩ := unA_mkT hx
    obtain ⟨b, rfl⟩ := len1 hl
    have e : avs = [ar 0, ai b] := e
    subst e
    exact in7_sagOf hM (hav (ai b) (by simp)) hsp.1 hsp.2 _ (fun m_ y_b_ y_n y_k M2 hJ => ⟨m_, y_b_, y_n, y_k, rfl, hJ⟩)
  · intro avs M Q hM hav hsp q hq m_ vs M1 hM1 hv hJ
    obtain ⟨xs, hx⟩ := spF_un _ _ _ hsp
    obtain ⟨e, hl⟩ := unA_mkT hx
    obtain ⟨b, rfl⟩ := len1 hl
    have e : avs = [ar 0, ai b] := e
    subst e
    simp only [List.mem_cons, List.not_mem_nil, or_false] at hq
    rcases hq with rfl
    · obtain ⟨y_b_, y_n, y_k, rfl, hJ⟩ := hJ
      exact at7_sagOf_4 hM (hav (ai b) (by simp)) hsp.1 hsp.2 hM1 (hv (1, ai y_b_) (List.mem_of_getElem? (i := 1) rfl)) (hv (2, ai y_n) (List.mem_of_getElem? (i := 2) rfl)) (hv (3, ai y_k) (List.mem_of_getElem? (i := 3) rfl)) hJ _ (fun m2 z_b_ z_n z_k M2 hm hJ2 => ⟨m2, hm, z_b_, z_n, z_k, rfl, hJ2⟩)
theorem cg7_sagOf {lvl : Nat} (h : 0 < lvl) : CG RX7 cl7 sh7 tyl7 [] lvl 1 317 2 sp7_sagOf := cg_V (sg := [0]) nil_nw spF_mono spF_un m7_sagOf h rfl (by decide) rfl rfl ⟨rfl, by decide, by decide, rfl⟩ q1886 q1888 qs95 q138 q1889
