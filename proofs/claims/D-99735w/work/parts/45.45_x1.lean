/-! SagMemory: its leaves -/
def P0_isIn (rs : List (Nat × Nat)) (v : Int) (lo : Int) (hi : Int) (M : Mm) : Prop := True
def V0_isIn (rs : List (Nat × Nat)) (v : Int) (lo : Int) (hi : Int) (M : Mm) : Int := b01 (lo ≤ v ∧ v ≤ hi)
def sp0_isIn (rs : List (Nat × Nat)) : Spec := spF false [1, 1, 1] 1 (fun x M => P0_isIn rs (x 0) (x 1) (x 2) M) (fun x M => V0_isIn rs (x 0) (x 1) (x 2) M)
theorem c0_isIn {rs : List (Nat × Nat)} {v lo hi : Int} {M : Mm} {Q : Option AV → Mm → Prop} : sp0_isIn rs [al v, al lo, al hi] M Q = (P0_isIn rs v lo hi M ∧ Q (some (ai (V0_isIn rs v lo hi M))) M) := rfl
def cs0_isIn (rs : List (Nat × Nat)) : List (Nat × Nat × Nat × Spec) := []
set_option maxHeartbeats 4000000 in
set_option maxRecDepth 100000 in
theorem in0_isIn {rs : List (Nat × Nat)} {v lo hi : Int} {M : Mm} {Q : Option AV → Mm → Prop} (hM : okM (sh8 rs) M) (h_v : i64 v) (h_lo : i64 lo) (h_hi : i64 hi) (hP : P0_isIn rs v lo hi M) (hQ : Q (some (ai (V0_isIn rs v lo hi M))) M) : wp (tb0 (csL (cs0_isIn rs))) (sh8 rs) 6 2 cX0_isIn [] Q 400 0 [(0, al v), (2, al lo), (4, al hi)] [] M := by
  simp only [e_wp dX0_isIn_0 rfl, e_wp dX0_isIn_1 rfl, e_wp dX0_isIn_2 rfl, e_wp dX0_isIn_3 rfl, e_wp dX0_isIn_6 rfl, e_wp dX0_isIn_7 rfl, e_wp dX0_isIn_9 rfl, e_wp dX0_isIn_10 rfl, e_wp dX0_isIn_13 rfl, e_wp dX0_isIn_14 rfl, e_wp dX0_isIn_17 rfl, e_wp dX0_isIn_18 rfl, e_iconst, e_bipush, e_sipush, e_lconst_0, e_lconst_1, e_iload, e_iload_0, e_iload_1, e_iload_2, e_iload_3, e_lload, e_lload_0, e_lload_1, e_lload_2, e_lload_3, e_aload, e_aload_0, e_aload_1, e_aload_2, e_aload_3, e_istore, e_istore_0, e_istore_1, e_istore_2, e_istore_3, e_astore, e_astore_0, e_astore_1, e_astore_2, e_astore_3, e_lstore, e_lstore_0, e_lstore_1, e_lstore_2, e_lstore_3, e_iinc, e_iadd, e_isub, e_imul, e_ladd, e_lsub, e_lmul, e_idiv, e_irem, e_ldiv, e_lrem, e_ineg, e_lneg, e_iand, e_ior, e_ixor, e_ishl, e_ishr, e_iushr, e_lcmp, e_i2l, e_l2i, e_i2b, e_i2s, e_dup_i, e_dup_r, e_pop_i, e_pop_r, e_dup2_l, e_dup2_ir, e_dup2_ii, e_ifeq, e_ifne, e_iflt, e_ifge, e_ifgt, e_ifle, e_iceq, e_icne, e_iclt, e_icge, e_icgt, e_icle, e_goto, e_switch, e_invokevirtual, e_invokestatic, e_invokespecial, e_ret0, e_ret1, e_ret2, e_ret3, ldI_s, ldL_s, ldR_s, clO_s, ctP_s, ctS_s, mgo_0, mgo_s, pjc_s, pj_0, pj_s, lk_s, rm1_0, rm1_i, rm1_r, rm1_l, rm2_0, rm2_i, rm2_r, rm2_l, csL_s, lc_lt, lc_ge, lc_gt, lc_le, lc_eq, b01_0, b01_1, b01_01, b01_n, up2_o, up2_s, up2_u, ne_eq, reduceCtorEq, Nat.reduceAdd, Nat.reduceEqDiff, Nat.reduceLT, Nat.reduceLeDiff, Int.reduceLE, Int.reduceLT, Int.reduceAdd, Int.reduceNeg, Int.reduceMul, Int.reduceSub, Int.reduceEq, Int.reduceToNat, Int.reduceNatCast, Int.cast_ofNat_Int, ↓reduceIte, and_self, List.drop_succ_cons, List.drop_zero, List.take_succ_cons, List.take_zero, List.length_cons, List.length_nil, List.reverse_cons, List.reverse_nil, List.nil_append, List.cons_append, Option.toList, true_and, and_true, or_false, false_or, or_true, true_or, forall_const, Classical.not_not, not_false_eq_true, not_true_eq_false, false_implies, true_implies, implies_true, imp_self]
  (try unfold P0_isIn at hP); (try unfold V0_isIn at hQ); (repeat' (first | (intro _) | (refine And.intro ?_ ?_))); all_goals (first | omega | exact qeq hQ (b01_t (by omega)) | exact qeq hQ (b01_f (by omega)) | exact qeq hQ (b01_c (by omega)) | exact qeq hQ rfl | exact qeq hQ (by omega) | assumption)
set_option maxHeartbeats 4000000 in
set_option maxRecDepth 100000 in
theorem m0_isIn {rs : List (Nat × Nat)} : MOK cl8 (sh8 rs) tyl8 Nws8 0 yX0_isIn cX0_isIn 6 (some .boolean) (sp0_isIn rs) := by
  refine mok_of (own := RX0) (tb := tb0 (csL (cs0_isIn rs))) (rt := 2) (fuel := 400) (fun avs M Q => []) (by decide) rfl nws8_ok (tbOK0 _) rfl (csL_all ?_) ?_ ?_ ?_
  · intro q hq; cases hq
  · intro avs M Q hsp
    obtain ⟨xs, hx⟩ := spF_un _ _ _ hsp
    obtain ⟨e, hl⟩ := unA_mk hx
    obtain ⟨v, lo, hi, rfl⟩ := len3 hl
    have e : avs = [al v, al lo, al hi] := e
    subst e
    simp [szL, isL]
  · intro avs M Q hM hav hsp
    obtain ⟨xs, hx⟩ := spF_un _ _ _ hsp
    obtain ⟨e, hl⟩ := unA_mk hx
    obtain ⟨v, lo, hi, rfl⟩ := len3 hl
    have e : avs = [al v, al lo, al hi] := e
    subst e
    exact in0_isIn hM (hav (al v) (by simp)) (hav (al lo) (by simp)) (hav (al hi) (by simp)) hsp.1 hsp.2
  · intro avs M Q hM hav hsp q hq m_ vs M1 hM1 hv hJ
    obtain ⟨xs, hx⟩ := spF_un _ _ _ hsp
    obtain ⟨e, hl⟩ := unA_mk hx
    obtain ⟨v, lo, hi, rfl⟩ := len3 hl
    have e : avs = [al v, al lo, al hi] := e
    subst e
    cases hq
theorem cg0_isIn {rs : List (Nat × Nat)} {lvl : Nat} (h : 0 < lvl) : CG RX0 cl8 (sh8 rs) tyl8 Nws8 lvl 0 128 3 (sp0_isIn rs) := cg_S (sg := [1, 1, 1]) nws8_ok spF_mono spF_un m0_isIn h rfl (by decide) ⟨by decide, by decide, rfl⟩ q507 q508 q128 q509
def P0_isOf (rs : List (Nat × Nat)) (x : Int) (k : Int) (M : Mm) : Prop := True
def V0_isOf (rs : List (Nat × Nat)) (x : Int) (k : Int) (M : Mm) : Int := b01 (band (bshr x k) 1 = 1)
def sp0_isOf (rs : List (Nat × Nat)) : Spec := spF false [0, 0] 1 (fun x M => P0_isOf rs (x 0) (x 1) M) (fun x M => V0_isOf rs (x 0) (x 1) M)
theorem c0_isOf {rs : List (Nat × Nat)} {x k : Int} {M : Mm} {Q : Option AV → Mm → Prop} : sp0_isOf rs [ai x, ai k] M Q = (P0_isOf rs x k M ∧ Q (some (ai (V0_isOf rs x k M))) M) := rfl
def cs0_isOf (rs : List (Nat × Nat)) : List (Nat × Nat × Nat × Spec) := []
set_option maxHeartbeats 4000000 in
set_option maxRecDepth 100000 in
theorem in0_isOf {rs : List (Nat × Nat)} {x k : Int} {M : Mm} {Q : Option AV → Mm → Prop} (hM : okM (sh8 rs) M) (h_x : i32 x) (h_k : i32 k) (hP : P0_isOf rs x k M) (hQ : Q (some (ai (V0_isOf rs x k M))) M) : wp (tb0 (csL (cs0_isOf rs))) (sh8 rs) 2 2 cX0_isOf [] Q 400 0 [(0, ai x), (1, ai k)] [] M := by
  simp only [e_wp dX0_isOf_0 rfl, e_wp dX0_isOf_1 rfl, e_wp dX0_isOf_2 rfl, e_wp dX0_isOf_3 rfl, e_wp dX0_isOf_4 rfl, e_wp dX0_isOf_5 rfl, e_wp dX0_isOf_6 rfl, e_wp dX0_isOf_9 rfl, e_wp dX0_isOf_10 rfl, e_wp dX0_isOf_13 rfl, e_wp dX0_isOf_14 rfl, e_iconst, e_bipush, e_sipush, e_lconst_0, e_lconst_1, e_iload, e_iload_0, e_iload_1, e_iload_2, e_iload_3, e_lload, e_lload_0, e_lload_1, e_lload_2, e_lload_3, e_aload, e_aload_0, e_aload_1, e_aload_2, e_aload_3, e_istore, e_istore_0, e_istore_1, e_istore_2, e_istore_3, e_astore, e_astore_0, e_astore_1, e_astore_2, e_astore_3, e_lstore, e_lstore_0, e_lstore_1, e_lstore_2, e_lstore_3, e_iinc, e_iadd, e_isub, e_imul, e_ladd, e_lsub, e_lmul, e_idiv, e_irem, e_ldiv, e_lrem, e_ineg, e_lneg, e_iand, e_ior, e_ixor, e_ishl, e_ishr, e_iushr, e_lcmp, e_i2l, e_l2i, e_i2b, e_i2s, e_dup_i, e_dup_r, e_pop_i, e_pop_r, e_dup2_l, e_dup2_ir, e_dup2_ii, e_ifeq, e_ifne, e_iflt, e_ifge, e_ifgt, e_ifle, e_iceq, e_icne, e_iclt, e_icge, e_icgt, e_icle, e_goto, e_switch, e_invokevirtual, e_invokestatic, e_invokespecial, e_ret0, e_ret1, e_ret2, e_ret3, ldI_s, ldL_s, ldR_s, clO_s, ctP_s, ctS_s, mgo_0, mgo_s, pjc_s, pj_0, pj_s, lk_s, rm1_0, rm1_i, rm1_r, rm1_l, rm2_0, rm2_i, rm2_r, rm2_l, csL_s, lc_lt, lc_ge, lc_gt, lc_le, lc_eq, b01_0, b01_1, b01_01, b01_n, up2_o, up2_s, up2_u, ne_eq, reduceCtorEq, Nat.reduceAdd, Nat.reduceEqDiff, Nat.reduceLT, Nat.reduceLeDiff, Int.reduceLE, Int.reduceLT, Int.reduceAdd, Int.reduceNeg, Int.reduceMul, Int.reduceSub, Int.reduceEq, Int.reduceToNat, Int.reduceNatCast, Int.cast_ofNat_Int, ↓reduceIte, and_self, List.drop_succ_cons, List.drop_zero, List.take_succ_cons, List.take_zero, List.length_cons, List.length_nil, List.reverse_cons, List.reverse_nil, List.nil_append, List.cons_append, Option.toList, true_and, and_true, or_false, false_or, or_true, true_or, forall_const, Classical.not_not, not_false_eq_true, not_true_eq_false, false_implies, true_implies, implies_true, imp_self]
  (try unfold P0_isOf at hP); (try unfold V0_isOf at hQ); (repeat' (first | (intro _) | (refine And.intro ?_ ?_))); all_goals (first | omega | exact qeq hQ (b01_t (by omega)) | exact qeq hQ (b01_f (by omega)) | exact qeq hQ (b01_c (by omega)) | exact qeq hQ rfl | exact qeq hQ (by omega) | assumption)
set_option maxHeartbeats 4000000 in
set_option maxRecDepth 100000 in
theorem m0_isOf {rs : List (Nat × Nat)} : MOK cl8 (sh8 rs) tyl8 Nws8 0 yX0_isOf cX0_isOf 2 (some .boolean) (sp0_isOf rs) := by
  refine mok_of (own := RX0) (tb := tb0 (csL (cs0_isOf rs))) (rt := 2) (fuel := 400) (fun avs M Q => []) (by decide) rfl nws8_ok (tbOK0 _) rfl (csL_all ?_) ?_ ?_ ?_
  · intro q hq; cases hq
  · intro avs M Q hsp
    obtain ⟨xs, hx⟩ := spF_un _ _ _ hsp
    obtain ⟨e, hl⟩ := unA_mk hx
    obtain ⟨x, k, rfl⟩ := len2 hl
    have e : avs = [ai x, ai k] := e
    subst e
    simp [szL, isL]
  · intro avs M Q hM hav hsp
    obtain ⟨xs, hx⟩ := spF_un _ _ _ hsp
    obtain ⟨e, hl⟩ := unA_mk hx
    obtain ⟨x, k, rfl⟩ := len2 hl
    have e : avs = [ai x, ai k] := e
    subst e
    exact in0_isOf hM (hav (ai x) (by simp)) (hav (ai k) (by simp)) hsp.1 hsp.2
  · intro avs M Q hM hav hsp q hq m_ vs M1 hM1 hv hJ
    obtain ⟨xs, hx⟩ := spF_un _ _ _ hsp
    obtain ⟨e, hl⟩ := unA_mk hx
    obtain ⟨x, k, rfl⟩ := len2 hl
    have e : avs = [ai x, ai k] := e
    subst e
    cases hq
theorem cg0_isOf {rs : List (Nat × Nat)} {lvl : Nat} (h : 0 < lvl) : CG RX0 cl8 (sh8 rs) tyl8 Nws8 lvl 0 238 2 (sp0_isOf rs) := cg_S (sg := [0, 0]) nws8_ok spF_mono spF_un m0_isOf h rfl (by decide) ⟨by decide, by decide, rfl⟩ q812 q813 q128 q814
def P0_isOneOf (rs : List (Nat × Nat)) (w : Int) (n : Int) (M : Mm) : Prop := 0 ≤ n ∧ n ≤ 100
def V0_isOneOf (rs : List (Nat × Nat)) (w : Int) (n : Int) (M : Mm) : Int := b01 (0 ≤ w ∧ w < n)
def sp0_isOneOf (rs : List (Nat × Nat)) : Spec := spF false [0, 0] 1 (fun x M => P0_isOneOf rs (x 0) (x 1) M) (fun x M => V0_isOneOf rs (x 0) (x 1) M)
theorem c0_isOneOf {rs : List (Nat × Nat)} {w n : Int} {M : Mm} {Q : Option AV → Mm → Prop} : sp0_isOneOf rs [ai w, ai n] M Q = (P0_isOneOf rs w n M ∧ Q (some (ai (V0_isOneOf rs w n M))) M) := rfl
def cs0_isOneOf (rs : List (Nat × Nat)) : List (Nat × Nat × Nat × Spec) := [(128, 0, 3, (sp0_isIn rs))]
set_option maxHeartbeats 4000000 in
set_option maxRecDepth 100000 in
theorem in0_isOneOf {rs : List (Nat × Nat)} {w n : Int} {M : Mm} {Q : Option AV → Mm → Prop} (hM : okM (sh8 rs) M) (h_w : i32 w) (h_n : i32 n) (hP : P0_isOneOf rs w n M) (hQ : Q (some (ai (V0_isOneOf rs w n M))) M) : wp (tb0 (csL (cs0_isOneOf rs))) (sh8 rs) 2 2 cX0_isOneOf [] Q 400 0 [(0, ai w), (1, ai n)] [] M := by
  simp only [e_wp dX0_isOneOf_0 rfl, e_wp dX0_isOneOf_1 rfl, e_wp dX0_isOneOf_2 rfl, e_wp dX0_isOneOf_3 rfl, e_wp dX0_isOneOf_4 rfl, e_wp dX0_isOneOf_5 rfl, e_wp dX0_isOneOf_6 rfl, e_wp dX0_isOneOf_7 rfl, e_wp dX0_isOneOf_10 rfl, c0_isIn, P0_isIn, V0_isIn, cs0_isOneOf, e_iconst, e_bipush, e_sipush, e_lconst_0, e_lconst_1, e_iload, e_iload_0, e_iload_1, e_iload_2, e_iload_3, e_lload, e_lload_0, e_lload_1, e_lload_2, e_lload_3, e_aload, e_aload_0, e_aload_1, e_aload_2, e_aload_3, e_istore, e_istore_0, e_istore_1, e_istore_2, e_istore_3, e_astore, e_astore_0, e_astore_1, e_astore_2, e_astore_3, e_lstore, e_lstore_0, e_lstore_1, e_lstore_2, e_lstore_3, e_iinc, e_iadd, e_isub, e_imul, e_ladd, e_lsub, e_lmul, e_idiv, e_irem, e_ldiv, e_lrem, e_ineg, e_lneg, e_iand, e_ior, e_ixor, e_ishl, e_ishr, e_iushr, e_lcmp, e_i2l, e_l2i, e_i2b, e_i2s, e_dup_i, e_dup_r, e_pop_i, e_pop_r, e_dup2_l, e_dup2_ir, e_dup2_ii, e_ifeq, e_ifne, e_iflt, e_ifge, e_ifgt, e_ifle, e_iceq, e_icne, e_iclt, e_icge, e_icgt, e_icle, e_goto, e_switch, e_invokevirtual, e_invokestatic, e_invokespecial, e_ret0, e_ret1, e_ret2, e_ret3, ldI_s, ldL_s, ldR_s, clO_s, ctP_s, ctS_s, mgo_0, mgo_s, pjc_s, pj_0, pj_s, lk_s, rm1_0, rm1_i, rm1_r, rm1_l, rm2_0, rm2_i, rm2_r, rm2_l, csL_s, lc_lt, lc_ge, lc_gt, lc_le, lc_eq, b01_0, b01_1, b01_01, b01_n, up2_o, up2_s, up2_u, ne_eq, reduceCtorEq, Nat.reduceAdd, Nat.reduceEqDiff, Nat.reduceLT, Nat.reduceLeDiff, Int.reduceLE, Int.reduceLT, Int.reduceAdd, Int.reduceNeg, Int.reduceMul, Int.reduceSub, Int.reduceEq, Int.reduceToNat, Int.reduceNatCast, Int.cast_ofNat_Int, ↓reduceIte, and_self, List.drop_succ_cons, List.drop_zero, List.take_succ_cons, List.take_zero, List.length_cons, List.length_nil, List.reverse_cons, List.reverse_nil, List.nil_append, List.cons_append, Option.toList, true_and, and_true, or_false, false_or, or_true, true_or, forall_const, Classical.not_not, not_false_eq_true, not_true_eq_false, false_implies, true_implies, implies_true, imp_self]
  (try unfold P0_isOneOf at hP); (try unfold V0_isOneOf at hQ); (repeat' (first | (intro _) | (refine And.intro ?_ ?_))); all_goals (first | omega | exact qeq hQ (b01_t (by omega)) | exact qeq hQ (b01_f (by omega)) | exact qeq hQ (b01_c (by omega)) | exact qeq hQ rfl | exact qeq hQ (by omega) | assumption)
set_option maxHeartbeats 4000000 in
set_option maxRecDepth 100000 in
theorem m0_isOneOf {rs : List (Nat × Nat)} : MOK cl8 (sh8 rs) tyl8 Nws8 1 yX0_isOneOf cX0_isOneOf 2 (some .boolean) (sp0_isOneOf rs) := by
  refine mok_of (own := RX0) (tb := tb0 (csL (cs0_isOneOf rs))) (rt := 2) (fuel := 400) (fun avs M Q => []) (by decide) rfl nws8_ok (tbOK0 _) rfl (csL_all ?_) ?_ ?_ ?_
  · intro q hq
    simp only [cs0_isOneOf, List.mem_cons, List.not_mem_nil, or_false] at hq
    rcases hq with rfl
    · exact cg0_isIn (by decide)
  · intro avs M Q hsp
    obtain ⟨xs, hx⟩ := spF_un _ _ _ hsp
    obtain ⟨e, hl⟩ := unA_mk hx
    obtain ⟨w, n, rfl⟩ := len2 hl
    have e : avs = [ai w, ai n] := e
    subst e
    simp [szL, isL]
  · intro avs M Q hM hav hsp
    obtain ⟨xs, hx⟩ := spF_un _ _ _ hsp
    obtain ⟨e, hl⟩ := unA_mk hx
    obtain ⟨w, n, rfl⟩ := len2 hl
    have e : avs = [ai w, ai n] := e
    subst e
    exact in0_isOneOf hM (hav (ai w) (by simp)) (hav (ai n) (by simp)) hsp.1 hsp.2
  · intro avs M Q hM hav hsp q hq m_ vs M1 hM1 hv hJ
    obtain ⟨xs, hx⟩ := spF_un _ _ _ hsp
    obtain ⟨e, hl⟩ := unA_mk hx
    obtain ⟨w, n, rfl⟩ := len2 hl
    have e : avs = [ai w, ai n] := e
    subst e
    cases hq
theorem cg0_isOneOf {rs : List (Nat × Nat)} {lvl : Nat} (h : 1 < lvl) : CG RX0 cl8 (sh8 rs) tyl8 Nws8 lvl 0 170 2 (sp0_isOneOf rs) := cg_S (sg := [0, 0]) nws8_ok spF_mono spF_un m0_isOneOf h rfl (by decide) ⟨by decide, by decide, rfl⟩ q770 q771 q128 q772
def P0_isLaw (rs : List (Nat × Nat)) (l : Int) (M : Mm) : Prop := True
def V0_isLaw (rs : List (Nat × Nat)) (l : Int) (M : Mm) : Int := b01 (0 ≤ l ∧ l ≤ 3)
def sp0_isLaw (rs : List (Nat × Nat)) : Spec := spF false [0] 1 (fun x M => P0_isLaw rs (x 0) M) (fun x M => V0_isLaw rs (x 0) M)
theorem c0_isLaw {rs : List (Nat × Nat)} {l : Int} {M : Mm} {Q : Option AV → Mm → Prop} : sp0_isLaw rs [ai l] M Q = (P0_isLaw rs l M ∧ Q (some (ai (V0_isLaw rs l M))) M) := rfl
def cs0_isLaw (rs : List (Nat × Nat)) : List (Nat × Nat × Nat × Spec) := [(128, 0, 3, (sp0_isIn rs))]
set_option maxHeartbeats 4000000 in
set_option maxRecDepth 100000 in
theorem in0_isLaw {rs : List (Nat × Nat)} {l : Int} {M : Mm} {Q : Option AV → Mm → Prop} (hM : okM (sh8 rs) M) (h_l : i32 l) (hP : P0_isLaw rs l M) (hQ : Q (some (ai (V0_isLaw rs l M))) M) : wp (tb0 (csL (cs0_isLaw rs))) (sh8 rs) 1 2 cX0_isLaw [] Q 400 0 [(0, ai l)] [] M := by
  simp only [e_wp dX0_isLaw_0 rfl, e_wp dX0_isLaw_1 rfl, e_wp dX0_isLaw_2 rfl, e_wp dX0_isLaw_3 rfl, e_wp dX0_isLaw_6 rfl, e_wp dX0_isLaw_9 rfl, k0_163, c0_isIn, P0_isIn, V0_isIn, cs0_isLaw, e_iconst, e_bipush, e_sipush, e_lconst_0, e_lconst_1, e_iload, e_iload_0, e_iload_1, e_iload_2, e_iload_3, e_lload, e_lload_0, e_lload_1, e_lload_2, e_lload_3, e_aload, e_aload_0, e_aload_1, e_aload_2, e_aload_3, e_istore, e_istore_0, e_istore_1, e_istore_2, e_istore_3, e_astore, e_astore_0, e_astore_1, e_astore_2, e_astore_3, e_lstore, e_lstore_0, e_lstore_1, e_lstore_2, e_lstore_3, e_iinc, e_iadd, e_isub, e_imul, e_ladd, e_lsub, e_lmul, e_idiv, e_irem, e_ldiv, e_lrem, e_ineg, e_lneg, e_iand, e_ior, e_ixor, e_ishl, e_ishr, e_iushr, e_lcmp, e_i2l, e_l2i, e_i2b, e_i2s, e_dup_i, e_dup_r, e_pop_i, e_pop_r, e_dup2_l, e_dup2_ir, e_dup2_ii, e_ifeq, e_ifne, e_iflt, e_ifge, e_ifgt, e_ifle, e_iceq, e_icne, e_iclt, e_icge, e_icgt, e_icle, e_goto, e_switch, e_invokevirtual, e_invokestatic, e_invokespecial, e_ret0, e_ret1, e_ret2, e_ret3, ldI_s, ldL_s, ldR_s, clO_s, ctP_s, ctS_s, mgo_0, mgo_s, pjc_s, pj_0, pj_s, lk_s, rm1_0, rm1_i, rm1_r, rm1_l, rm2_0, rm2_i, rm2_r, rm2_l, csL_s, lc_lt, lc_ge, lc_gt, lc_le, lc_eq, b01_0, b01_1, b01_01, b01_n, up2_o, up2_s, up2_u, ne_eq, reduceCtorEq, Nat.reduceAdd, Nat.reduceEqDiff, Nat.reduceLT, Nat.reduceLeDiff, Int.reduceLE, Int.reduceLT, Int.reduceAdd, Int.reduceNeg, Int.reduceMul, Int.reduceSub, Int.reduceEq, Int.reduceToNat, Int.reduceNatCast, Int.cast_ofNat_Int, ↓reduceIte, and_self, List.drop_succ_cons, List.drop_zero, List.take_succ_cons, List.take_zero, List.length_cons, List.length_nil, List.reverse_cons, List.reverse_nil, List.nil_append, List.cons_append, Option.toList, true_and, and_true, or_false, false_or, or_true, true_or, forall_const, Classical.not_not, not_false_eq_true, not_true_eq_false, false_implies, true_implies, implies_true, imp_self]
  (try unfold P0_isLaw at hP); (try unfold V0_isLaw at hQ); (repeat' (first | (intro _) | (refine And.intro ?_ ?_))); all_goals (first | omega | exact qeq hQ (b01_t (by omega)) | exact qeq hQ (b01_f (by omega)) | exact qeq hQ (b01_c (by omega)) | exact qeq hQ rfl | exact qeq hQ (by omega) | assumption)
set_option maxHeartbeats 4000000 in
set_option maxRecDepth 100000 in
theorem m0_isLaw {rs : List (Nat × Nat)} : MOK cl8 (sh8 rs) tyl8 Nws8 1 yX0_isLaw cX0_isLaw 1 (some .boolean) (sp0_isLaw rs) := by
  refine mok_of (own := RX0) (tb := tb0 (csL (cs0_isLaw rs))) (rt := 2) (fuel := 400) (fun avs M Q => []) (by decide) rfl nws8_ok (tbOK0 _) rfl (csL_all ?_) ?_ ?_ ?_
  · intro q hq
    simp only [cs0_isLaw, List.mem_cons, List.not_mem_nil, or_false] at hq
    rcases hq with rfl
    · exact cg0_isIn (by decide)
  · intro avs M Q hsp
    obtain ⟨xs, hx⟩ := spF_un _ _ _ hsp
    obtain ⟨e, hl⟩ := unA_mk hx
    obtain ⟨l, rfl⟩ := len1 hl
    have e : avs = [ai l] := e
    subst e
    simp [szL, isL]
  · intro avs M Q hM hav hsp
    obtain ⟨xs, hx⟩ := spF_un _ _ _ hsp
    obtain ⟨e, hl⟩ := unA_mk hx
    obtain ⟨l, rfl⟩ := len1 hl
    have e : avs = [ai l] := e
    subst e
    exact in0_isLaw hM (hav (ai l) (by simp)) hsp.1 hsp.2
  · intro avs M Q hM hav hsp q hq m_ vs M1 hM1 hv hJ
    obtain ⟨xs, hx⟩ := spF_un _ _ _ hsp
    obtain ⟨e, hl⟩ := unA_mk hx
    obtain ⟨l, rfl⟩ := len1 hl
    have e : avs = [ai l] := e
    subst e
    cases hq
theorem cg0_isLaw {rs : List (Nat × Nat)} {lvl : Nat} (h : 1 < lvl) : CG RX0 cl8 (sh8 rs) tyl8 Nws8 lvl 0 382 1 (sp0_isLaw rs) := cg_S (sg := [0]) nws8_ok spF_mono spF_un m0_isLaw h rfl (by decide) ⟨by decide, by decide, rfl⟩ q1179 q1180 q128 q1181
def P0_isSeed (rs : List (Nat × Nat)) (s : Int) (M : Mm) : Prop := True
def V0_isSeed (rs : List (Nat × Nat)) (s : Int) (M : Mm) : Int := b01 (0 ≤ s ∧ s ≤ 2000000000)
def sp0_isSeed (rs : List (Nat × Nat)) : Spec := spF false [0] 1 (fun x M => P0_isSeed rs (x 0) M) (fun x M => V0_isSeed rs (x 0) M)
theorem c0_isSeed {rs : List (Nat × Nat)} {s : Int} {M : Mm} {Q : Option AV → Mm → Prop} : sp0_isSeed rs [ai s] M Q = (P0_isSeed rs s M ∧ Q (some (ai (V0_isSeed rs s M))) M) := rfl
def cs0_isSeed (rs : List (Nat × Nat)) : List (Nat × Nat × Nat × Spec) := [(128, 0, 3, (sp0_isIn rs))]
set_option maxHeartbeats 4000000 in
set_option maxRecDepth 100000 in
theorem in0_isSeed {rs : List (Nat × Nat)} {s : Int} {M : Mm} {Q : Option AV → Mm → Prop} (hM : okM (sh8 rs) M) (h_s : i32 s) (hP : P0_isSeed rs s M) (hQ : Q (some (ai (V0_isSeed rs s M))) M) : wp (tb0 (csL (cs0_isSeed rs))) (sh8 rs) 1 2 cX0_isSeed [] Q 400 0 [(0, ai s)] [] M := by
  simp only [e_wp dX0_isSeed_0 rfl, e_wp dX0_isSeed_1 rfl, e_wp dX0_isSeed_2 rfl, e_wp dX0_isSeed_3 rfl, e_wp dX0_isSeed_6 rfl, e_wp dX0_isSeed_9 rfl, k0_165, c0_isIn, P0_isIn, V0_isIn, cs0_isSeed, e_iconst, e_bipush, e_sipush, e_lconst_0, e_lconst_1, e_iload, e_iload_0, e_iload_1, e_iload_2, e_iload_3, e_lload, e_lload_0, e_lload_1, e_lload_2, e_lload_3, e_aload, e_aload_0, e_aload_1, e_aload_2, e_aload_3, e_istore, e_istore_0, e_istore_1, e_istore_2, e_istore_3, e_astore, e_astore_0, e_astore_1, e_astore_2, e_astore_3, e_lstore, e_lstore_0, e_lstore_1, e_lstore_2, e_lstore_3, e_iinc, e_iadd, e_isub, e_imul, e_ladd, e_lsub, e_lmul, e_idiv, e_irem, e_ldiv, e_lrem, e_ineg, e_lneg, e_iand, e_ior, e_ixor, e_ishl, e_ishr, e_iushr, e_lcmp, e_i2l, e_l2i, e_i2b, e_i2s, e_dup_i, e_dup_r, e_pop_i, e_pop_r, e_dup2_l, e_dup2_ir, e_dup2_ii, e_ifeq, e_ifne, e_iflt, e_ifge, e_ifgt, e_ifle, e_iceq, e_icne, e_iclt, e_icge, e_icgt, e_icle, e_goto, e_switch, e_invokevirtual, e_invokestatic, e_invokespecial, e_ret0, e_ret1, e_ret2, e_ret3, ldI_s, ldL_s, ldR_s, clO_s, ctP_s, ctS_s, mgo_0, mgo_s, pjc_s, pj_0, pj_s, lk_s, rm1_0, rm1_i, rm1_r, rm1_l, rm2_0, rm2_i, rm2_r, rm2_l, csL_s, lc_lt, lc_ge, lc_gt, lc_le, lc_eq, b01_0, b01_1, b01_01, b01_n, up2_o, up2_s, up2_u, ne_eq, reduceCtorEq, Nat.reduceAdd, Nat.reduceEqDiff, Nat.reduceLT, Nat.reduceLeDiff, Int.reduceLE, Int.reduceLT, Int.reduceAdd, Int.reduceNeg, Int.reduceMul, Int.reduceSub, Int.reduceEq, Int.reduceToNat, Int.reduceNatCast, Int.cast_ofNat_Int, ↓reduceIte, and_self, List.drop_succ_cons, List.drop_zero, List.take_succ_cons, List.take_zero, List.length_cons, List.length_nil, List.reverse_cons, List.reverse_nil, List.nil_append, List.cons_append, Option.toList, true_and, and_true, or_false, false_or, or_true, true_or, forall_const, Classical.not_not, not_false_eq_true, not_true_eq_false, false_implies, true_implies, implies_true, imp_self]
  (try unfold P0_isSeed at hP); (try unfold V0_isSeed at hQ); (repeat' (first | (intro _) | (refine And.intro ?_ ?_))); all_goals (first | omega | exact qeq hQ (b01_t (by omega)) | exact qeq hQ (b01_f (by omega)) | exact qeq hQ (b01_c (by omega)) | exact qeq hQ rfl | exact qeq hQ (by omega) | assumption)
set_option maxHeartbeats 4000000 in
set_option maxRecDepth 100000 in
theorem m0_isSeed {rs : List (Nat × Nat)} : MOK cl8 (sh8 rs) tyl8 Nws8 1 yX0_isSeed cX0_isSeed 1 (some .boolean) (sp0_isSeed rs) := by
  refine mok_of (own := RX0) (tb := tb0 (csL (cs0_isSeed rs))) (rt := 2) (fuel := 400) (fun avs M Q => []) (by decide) rfl nws8_ok (tbOK0 _) rfl (csL_all ?_) ?_ ?_ ?_
  · intro q hq
    simp only [cs0_isSeed, List.mem_cons, List.not_mem_nil, or_false] at hq
    rcases hq with rfl
    · exact cg0_isIn (by decide)
  · intro avs M Q hsp
    obtain ⟨xs, hx⟩ := spF_un _ _ _ hsp
    obtain ⟨e, hl⟩ := unA_mk hx
    obtain ⟨s, rfl⟩ := len1 hl
    have e : avs = [ai s] := e
    subst e
    simp [szL, isL]
  · intro avs M Q hM hav hsp
    obtain ⟨xs, hx⟩ := spF_un _ _ _ hsp
    obtain ⟨e, hl⟩ := unA_mk hx
    obtain ⟨s, rfl⟩ := len1 hl
    have e : avs = [ai s] := e
    subst e
    exact in0_isSeed hM (hav (ai s) (by simp)) hsp.1 hsp.2
  · intro avs M Q hM hav hsp q hq m_ vs M1 hM1 hv hJ
    obtain ⟨xs, hx⟩ := spF_un _ _ _ hsp
    obtain ⟨e, hl⟩ := unA_mk hx
    obtain ⟨s, rfl⟩ := len1 hl
    have e : avs = [ai s] := e
    subst e
    cases hq
theorem cg0_isSeed {rs : List (Nat × Nat)} {lvl : Nat} (h : 1 < lvl) : CG RX0 cl8 (sh8 rs) tyl8 Nws8 lvl 0 448 1 (sp0_isSeed rs) := cg_S (sg := [0]) nws8_ok spF_mono spF_un m0_isSeed h rfl (by decide) ⟨by decide, by decide, rfl⟩ q1247 q1248 q128 q1249
def P0_isSlot (rs : List (Nat × Nat)) (s : Int) (M : Mm) : Prop := True
def V0_isSlot (rs : List (Nat × Nat)) (s : Int) (M : Mm) : Int := b01 (0 ≤ s ∧ s ≤ 3)
def sp0_isSlot (rs : List (Nat × Nat)) : Spec := spF false [0] 1 (fun x M => P0_isSlot rs (x 0) M) (fun x M => V0_isSlot rs (x 0) M)
theorem c0_isSlot {rs : List (Nat × Nat)} {s : Int} {M : Mm} {Q : Option AV → Mm → Prop} : sp0_isSlot rs [ai s] M Q = (P0_isSlot rs s M ∧ Q (some (ai (V0_isSlot rs s M))) M) := rfl
def cs0_isSlot (rs : List (Nat × Nat)) : List (Nat × Nat × Nat × Spec) := [(128, 0, 3, (sp0_isIn rs))]
set_option maxHeartbeats 4000000 in
set_option maxRecDepth 100000 in
theorem in0_isSlot {rs : List (Nat × Nat)} {s : Int} {M : Mm} {Q : Option AV → Mm → Prop} (hM : okM (sh8 rs) M) (h_s : i32 s) (hP : P0_isSlot rs s M) (hQ : Q (some (ai (V0_isSlot rs s M))) M) : wp (tb0 (csL (cs0_isSlot rs))) (sh8 rs) 1 2 cX0_isSlot [] Q 400 0 [(0, ai s)] [] M := by
  simp only [e_wp dX0_isSlot_0 rfl, e_wp dX0_isSlot_1 rfl, e_wp dX0_isSlot_2 rfl, e_wp dX0_isSlot_3 rfl, e_wp dX0_isSlot_6 rfl, e_wp dX0_isSlot_9 rfl, k0_163, c0_isIn, P0_isIn, V0_isIn, cs0_isSlot, e_iconst, e_bipush, e_sipush, e_lconst_0, e_lconst_1, e_iload, e_iload_0, e_iload_1, e_iload_2, e_iload_3, e_lload, e_lload_0, e_lload_1, e_lload_2, e_lload_3, e_aload, e_aload_0, e_aload_1, e_aload_2, e_aload_3, e_istore, e_istore_0, e_istore_1, e_istore_2, e_istore_3, e_astore, e_astore_0, e_astore_1, e_astore_2, e_astore_3, e_lstore, e_lstore_0, e_lstore_1, e_lstore_2, e_lstore_3, e_iinc, e_iadd, e_isub, e_imul, e_ladd, e_lsub, e_lmul, e_idiv, e_irem, e_ldiv, e_lrem, e_ineg, e_lneg, e_iand, e_ior, e_ixor, e_ishl, e_ishr, e_iushr, e_lcmp, e_i2l, e_l2i, e_i2b, e_i2s, e_dup_i, e_dup_r, e_pop_i, e_pop_r, e_dup2_l, e_dup2_ir, e_dup2_ii, e_ifeq, e_ifne, e_iflt, e_ifge, e_ifgt, e_ifle, e_iceq, e_icne, e_iclt, e_icge, e_icgt, e_icle, e_goto, e_switch, e_invokevirtual, e_invokestatic, e_invokespecial, e_ret0, e_ret1, e_ret2, e_ret3, ldI_s, ldL_s, ldR_s, clO_s, ctP_s, ctS_s, mgo_0, mgo_s, pjc_s, pj_0, pj_s, lk_s, rm1_0, rm1_i, rm1_r, rm1_l, rm2_0, rm2_i, rm2_r, rm2_l, csL_s, lc_lt, lc_ge, lc_gt, lc_le, lc_eq, b01_0, b01_1, b01_01, b01_n, up2_o, up2_s, up2_u, ne_eq, reduceCtorEq, Nat.reduceAdd, Nat.reduceEqDiff, Nat.reduceLT, Nat.reduceLeDiff, Int.reduceLE, Int.reduceLT, Int.reduceAdd, Int.reduceNeg, Int.reduceMul, Int.reduceSub, Int.reduceEq, Int.reduceToNat, Int.reduceNatCast, Int.cast_ofNat_Int, ↓reduceIte, and_self, List.drop_succ_cons, List.drop_zero, List.take_succ_cons, List.take_zero, List.length_cons, List.length_nil, List.reverse_cons, List.reverse_nil, List.nil_append, List.cons_append, Option.toList, true_and, and_true, or_false, false_or, or_true, true_or, forall_const, Classical.not_not, not_false_eq_true, not_true_eq_false, false_implies, true_implies, implies_true, imp_self]
  (try unfold P0_isSlot at hP); (try unfold V0_isSlot at hQ); (repeat' (first | (intro _) | (refine And.intro ?_ ?_))); all_goals (first | omega | exact qeq hQ (b01_t (by omega)) | exact qeq hQ (b01_f (by omega)) | exact qeq hQ (b01_c (by omega)) | exact qeq hQ rfl | exact qeq hQ (by omega) | assumption)
set_option maxHeartbeats 4000000 in
set_option maxRecDepth 100000 in
theorem m0_isSlot {rs : List (Nat × Nat)} : MOK cl8 (sh8 rs) tyl8 Nws8 1 yX0_isSlot cX0_isSlot 1 (some .boolean) (sp0_isSlot rs) := by
  refine mok_of (own := RX0) (tb := tb0 (csL (cs0_isSlot rs))) (rt := 2) (fuel := 400) (fun avs M Q => []) (by decide) rfl nws8_ok (tbOK0 _) rfl (csL_all ?_) ?_ ?_ ?_
  · intro q hq
    simp only [cs0_isSlot, List.mem_cons, List.not_mem_nil, or_false] at hq
    rcases hq with rfl
    · exact cg0_isIn (by decide)
  · intro avs M Q hsp
    obtain ⟨xs, hx⟩ := spF_un _ _ _ hsp
    obtain ⟨e, hl⟩ := unA_mk hx
    obtain ⟨s, rfl⟩ := len1 hl
    have e : avs = [ai s] := e
    subst e
    simp [szL, isL]
  · intro avs M Q hM hav hsp
    obtain ⟨xs, hx⟩ := spF_un _ _ _ hsp
    obtain ⟨e, hl⟩ := unA_mk hx
    obtain ⟨s, rfl⟩ := len1 hl
    have e : avs = [ai s] := e
    subst e
    exact in0_isSlot hM (hav (ai s) (by simp)) hsp.1 hsp.2
  · intro avs M Q hM hav hsp q hq m_ vs M1 hM1 hv hJ
    obtain ⟨xs, hx⟩ := spF_un _ _ _ hsp
    obtain ⟨e, hl⟩ := unA_mk hx
    obtain ⟨s, rfl⟩ := len1 hl
    have e : avs = [ai s] := e
    subst e
    cases hq
theorem cg0_isSlot {rs : List (Nat × Nat)} {lvl : Nat} (h : 1 < lvl) : CG RX0 cl8 (sh8 rs) tyl8 Nws8 lvl 0 330 1 (sp0_isSlot rs) := cg_S (sg := [0]) nws8_ok spF_mono spF_un m0_isSlot h rfl (by decide) ⟨by decide, by decide, rfl⟩ q1082 q1083 q128 q1084
def P0_isValley (rs : List (Nat × Nat)) (M : Mm) : Prop := True
def V0_isValley (rs : List (Nat × Nat)) (M : Mm) : Int := b01 (0 < M 1 3)
def sp0_isValley (rs : List (Nat × Nat)) : Spec := spF true [] 1 (fun x M => P0_isValley rs M) (fun x M => V0_isValley rs M)
theorem c0_isValley {rs : List (Nat × Nat)} {M : Mm} {Q : Option AV → Mm → Prop} : sp0_isValley rs [ar 0] M Q = (P0_isValley rs M ∧ Q (some (ai (V0_isValley rs M))) M) := rfl
def cs0_isValley (rs : List (Nat × Nat)) : List (Nat × Nat × Nat × Spec) := []
set_option maxHeartbeats 4000000 in
set_option maxRecDepth 100000 in
theorem in0_isValley {rs : List (Nat × Nat)} {M : Mm} {Q : Option AV → Mm → Prop} (hM : okM (sh8 rs) M) (hP : P0_isValley rs M) (hQ : Q (some (ai (V0_isValley rs M))) M) : wp (tb0 (csL (cs0_isValley rs))) (sh8 rs) 1 2 cX0_isValley [] Q 400 0 [(0, ar 0)] [] M := by
  simp only [e_wp dX0_isValley_0 rfl, e_wp dX0_isValley_1 rfl, e_wp dX0_isValley_4 rfl, e_wp dX0_isValley_7 rfl, e_wp dX0_isValley_10 rfl, e_wp dX0_isValley_11 rfl, e_wp dX0_isValley_14 rfl, e_wp dX0_isValley_15 rfl, g0_10, g0_142, e_iconst, e_bipush, e_sipush, e_lconst_0, e_lconst_1, e_iload, e_iload_0, e_iload_1, e_iload_2, e_iload_3, e_lload, e_lload_0, e_lload_1, e_lload_2, e_lload_3, e_aload, e_aload_0, e_aload_1, e_aload_2, e_aload_3, e_istore, e_istore_0, e_istore_1, e_istore_2, e_istore_3, e_astore, e_astore_0, e_astore_1, e_astore_2, e_astore_3, e_lstore, e_lstore_0, e_lstore_1, e_lstore_2, e_lstore_3, e_iinc, e_iadd, e_isub, e_imul, e_ladd, e_lsub, e_lmul, e_idiv, e_irem, e_ldiv, e_lrem, e_ineg, e_lneg, e_iand, e_ior, e_ixor, e_ishl, e_ishr, e_iushr, e_lcmp, e_i2l, e_l2i, e_i2b, e_i2s, e_dup_i, e_dup_r, e_pop_i, e_pop_r, e_dup2_l, e_dup2_ir, e_dup2_ii, e_ifeq, e_ifne, e_iflt, e_ifge, e_ifgt, e_ifle, e_iceq, e_icne, e_iclt, e_icge, e_icgt, e_icle, e_goto, e_switch, e_invokevirtual, e_invokestatic, e_invokespecial, e_ret0, e_ret1, e_ret2, e_ret3, ldI_s, ldL_s, ldR_s, clO_s, ctP_s, ctS_s, mgo_0, mgo_s, pjc_s, pj_0, pj_s, lk_s, rm1_0, rm1_i, rm1_r, rm1_l, rm2_0, rm2_i, rm2_r, rm2_l, csL_s, lc_lt, lc_ge, lc_gt, lc_le, lc_eq, b01_0, b01_1, b01_01, b01_n, up2_o, up2_s, up2_u, ne_eq, reduceCtorEq, Nat.reduceAdd, Nat.reduceEqDiff, Nat.reduceLT, Nat.reduceLeDiff, Int.reduceLE, Int.reduceLT, Int.reduceAdd, Int.reduceNeg, Int.reduceMul, Int.reduceSub, Int.reduceEq, Int.reduceToNat, Int.reduceNatCast, Int.cast_ofNat_Int, ↓reduceIte, and_self, List.drop_succ_cons, List.drop_zero, List.take_succ_cons, List.take_zero, List.length_cons, List.length_nil, List.reverse_cons, List.reverse_nil, List.nil_append, List.cons_append, Option.toList, true_and, and_true, or_false, false_or, or_true, true_or, forall_const, Classical.not_not, not_false_eq_true, not_true_eq_false, false_implies, true_implies, implies_true, imp_self]
  (try unfold P0_isValley at hP); (try unfold V0_isValley at hQ); (repeat' (first | (intro _) | (refine And.intro ?_ ?_))); all_goals (first | omega | exact qeq hQ (b01_t (by omega)) | exact qeq hQ (b01_f (by omega)) | exact qeq hQ (b01_c (by omega)) | exact qeq hQ rfl | exact qeq hQ (by omega) | assumption)
set_option maxHeartbeats 4000000 in
set_option maxRecDepth 100000 in
theorem m0_isValley {rs : List (Nat × Nat)} : MOK cl8 (sh8 rs) tyl8 Nws8 0 yX0_isValley cX0_isValley 1 (some .boolean) (sp0_isValley rs) := by
  refine mok_of (own := RX0) (tb := tb0 (csL (cs0_isValley rs))) (rt := 2) (fuel := 400) (fun avs M Q => []) (by decide) rfl nws8_ok (tbOK0 _) rfl (csL_all ?_) ?_ ?_ ?_
  · intro q hq; cases hq
  · intro avs M Q hsp
    obtain ⟨xs, hx⟩ := spF_un _ _ _ hsp
    obtain ⟨e, hl⟩ := unA_mkT hx
    obtain rfl := len0 hl
    have e : avs = [ar 0] := e
    subst e
    simp [szL, isL]
  · intro avs M Q hM hav hsp
    obtain ⟨xs, hx⟩ := spF_un _ _ _ hsp
    obtain ⟨e, hl⟩ := unA_mkT hx
    obtain rfl := len0 hl
    have e : avs = [ar 0] := e
    subst e
    exact in0_isValley hM hsp.1 hsp.2
  · intro avs M Q hM hav hsp q hq m_ vs M1 hM1 hv hJ
    obtain ⟨xs, hx⟩ := spF_un _ _ _ hsp
    obtain ⟨e, hl⟩ := unA_mkT hx
    obtain rfl := len0 hl
    have e : avs = [ar 0] := e
    subst e
    cases hq
theorem cg0_isValley {rs : List (Nat × Nat)} {lvl : Nat} (h : 0 < lvl) : CG RX0 cl8 (sh8 rs) tyl8 Nws8 lvl 1 256 1 (sp0_isValley rs) := cg_V (sg := []) nws8_ok spF_mono spF_un m0_isValley h rfl (by decide) rfl rfl ⟨rfl, by decide, by decide, rfl⟩ q859 q861 qs26 q128 q862
def P0_isBridge (rs : List (Nat × Nat)) (b : Int) (M : Mm) : Prop := 0 ≤ M 1 4 ∧ M 1 4 ≤ 3
def V0_isBridge (rs : List (Nat × Nat)) (b : Int) (M : Mm) : Int := b01 (0 ≤ b ∧ b < M 1 4)
def sp0_isBridge (rs : List (Nat × Nat)) : Spec := spF true [1] 1 (fun x M => P0_isBridge rs (x 0) M) (fun x M => V0_isBridge rs (x 0) M)
theorem c0_isBridge {rs : List (Nat × Nat)} {b : Int} {M : Mm} {Q : Option AV → Mm → Prop} : sp0_isBridge rs [ar 0, al b] M Q = (P0_isBridge rs b M ∧ Q (some (ai (V0_isBridge rs b M))) M) := rfl
def cs0_isBridge (rs : List (Nat × Nat)) : List (Nat × Nat × Nat × Spec) := [(128, 0, 3, (sp0_isIn rs))]
set_option maxHeartbeats 4000000 in
set_option maxRecDepth 100000 in
theorem in0_isBridge {rs : List (Nat × Nat)} {b : Int} {M : Mm} {Q : Option AV → Mm → Prop} (hM : okM (sh8 rs) M) (h_b : i64 b) (hP : P0_isBridge rs b M) (hQ : Q (some (ai (V0_isBridge rs b M))) M) : wp (tb0 (csL (cs0_isBridge rs))) (sh8 rs) 3 2 cX0_isBridge [] Q 400 0 [(0, ar 0), (1, al b)] [] M := by
  simp only [e_wp dX0_isBridge_0 rfl, e_wp dX0_isBridge_1 rfl, e_wp dX0_isBridge_2 rfl, e_wp dX0_isBridge_3 rfl, e_wp dX0_isBridge_6 rfl, e_wp dX0_isBridge_9 rfl, e_wp dX0_isBridge_10 rfl, e_wp dX0_isBridge_11 rfl, e_wp dX0_isBridge_12 rfl, e_wp dX0_isBridge_15 rfl, g0_10, g0_153, c0_isIn, P0_isIn, V0_isIn, cs0_isBridge, e_iconst, e_bipush, e_sipush, e_lconst_0, e_lconst_1, e_iload, e_iload_0, e_iload_1, e_iload_2, e_iload_3, e_lload, e_lload_0, e_lload_1, e_lload_2, e_lload_3, e_aload, e_aload_0, e_aload_1, e_aload_2, e_aload_3, e_istore, e_istore_0, e_istore_1, e_istore_2, e_istore_3, e_astore, e_astore_0, e_astore_1, e_astore_2, e_astore_3, e_lstore, e_lstore_0, e_lstore_1, e_lstore_2, e_lstore_3, e_iinc, e_iadd, e_isub, e_imul, e_ladd, e_lsub, e_lmul, e_idiv, e_irem, e_ldiv, e_lrem, e_ineg, e_lneg, e_iand, e_ior, e_ixor, e_ishl, e_ishr, e_iushr, e_lcmp, e_i2l, e_l2i, e_i2b, e_i2s, e_dup_i, e_dup_r, e_pop_i, e_pop_r, e_dup2_l, e_dup2_ir, e_dup2_ii, e_ifeq, e_ifne, e_iflt, e_ifge, e_ifgt, e_ifle, e_iceq, e_icne, e_iclt, e_icge, e_icgt, e_icle, e_goto, e_switch, e_invokevirtual, e_invokestatic, e_invokespecial, e_ret0, e_ret1, e_ret2, e_ret3, ldI_s, ldL_s, ldR_s, clO_s, ctP_s, ctS_s, mgo_0, mgo_s, pjc_s, pj_0, pj_s, lk_s, rm1_0, rm1_i, rm1_r, rm1_l, rm2_0, rm2_i, rm2_r, rm2_l, csL_s, lc_lt, lc_ge, lc_gt, lc_le, lc_eq, b01_0, b01_1, b01_01, b01_n, up2_o, up2_s, up2_u, ne_eq, reduceCtorEq, Nat.reduceAdd, Nat.reduceEqDiff, Nat.reduceLT, Nat.reduceLeDiff, Int.reduceLE, Int.reduceLT, Int.reduceAdd, Int.reduceNeg, Int.reduceMul, Int.reduceSub, Int.reduceEq, Int.reduceToNat, Int.reduceNatCast, Int.cast_ofNat_Int, ↓reduceIte, and_self, List.drop_succ_cons, List.drop_zero, List.take_succ_cons, List.take_zero, List.length_cons, List.length_nil, List.reverse_cons, List.reverse_nil, List.nil_append, List.cons_append, Option.toList, true_and, and_true, or_false, false_or, or_true, true_or, forall_const, Classical.not_not, not_false_eq_true, not_true_eq_false, false_implies, true_implies, implies_true, imp_self]
  (try unfold P0_isBridge at hP); (try unfold V0_isBridge at hQ); (repeat' (first | (intro _) | (refine And.intro ?_ ?_))); all_goals (first | omega | exact qeq hQ (b01_t (by omega)) | exact qeq hQ (b01_f (by omega)) | exact qeq hQ (b01_c (by omega)) | exact qeq hQ rfl | exact qeq hQ (by omega) | assumption)
set_option maxHeartbeats 4000000 in
set_option maxRecDepth 100000 in
theorem m0_isBridge {rs : List (Nat × Nat)} : MOK cl8 (sh8 rs) tyl8 Nws8 1 yX0_isBridge cX0_isBridge 3 (some .boolean) (sp0_isBridge rs) := by
  refine mok_of (own := RX0) (tb := tb0 (csL (cs0_isBridge rs))) (rt := 2) (fuel := 400) (fun avs M Q => []) (by decide) rfl nws8_ok (tbOK0 _) rfl (csL_all ?_) ?_ ?_ ?_
  · intro q hq
    simp only [cs0_isBridge, List.mem_cons, List.not_mem_nil, or_false] at hq
    rcases hq with rfl
    · exact cg0_isIn (by decide)
  · intro avs M Q hsp
    obtain ⟨xs, hx⟩ := spF_un _ _ _ hsp
    obtain ⟨e, hl⟩ := unA_mkT hx
    obtain ⟨b, rfl⟩ := len1 hl
    have e : avs = [ar 0, al b] := e
    subst e
    simp [szL, isL]
  · intro avs M Q hM hav hsp
    obtain ⟨xs, hx⟩ := spF_un _ _ _ hsp
    obtain ⟨e, hl⟩ := unA_mkT hx
    obtain ⟨b, rfl⟩ := len1 hl
    have e : avs = [ar 0, al b] := e
    subst e
    exact in0_isBridge hM (hav (al b) (by simp)) hsp.1 hsp.2
  · intro avs M Q hM hav hsp q hq m_ vs M1 hM1 hv hJ
    obtain ⟨xs, hx⟩ := spF_un _ _ _ hsp
    obtain ⟨e, hl⟩ := unA_mkT hx
    obtain ⟨b, rfl⟩ := len1 hl
    have e : avs = [ar 0, al b] := e
    subst e
    cases hq
theorem cg0_isBridge {rs : List (Nat × Nat)} {lvl : Nat} (h : 1 < lvl) : CG RX0 cl8 (sh8 rs) tyl8 Nws8 lvl 1 167 2 (sp0_isBridge rs) := cg_V (sg := [1]) nws8_ok spF_mono spF_un m0_isBridge h rfl (by decide) rfl rfl ⟨rfl, by decide, by decide, rfl⟩ q766 q768 qs15 q128 q769
def P0_isCart (rs : List (Nat × Nat)) (c : Int) (M : Mm) : Prop := 0 ≤ M 1 5 ∧ M 1 5 ≤ 7
def V0_isCart (rs : List (Nat × Nat)) (c : Int) (M : Mm) : Int := b01 (0 ≤ c ∧ c < M 1 5)
def sp0_isCart (rs : List (Nat × Nat)) : Spec := spF true [1] 1 (fun x M => P0_isCart rs (x 0) M) (fun x M => V0_isCart rs (x 0) M)
theorem c0_isCart {rs : List (Nat × Nat)} {c : Int} {M : Mm} {Q : Option AV → Mm → Prop} : sp0_isCart rs [ar 0, al c] M Q = (P0_isCart rs c M ∧ Q (some (ai (V0_isCart rs c M))) M) := rfl
def cs0_isCart (rs : List (Nat × Nat)) : List (Nat × Nat × Nat × Spec) := [(128, 0, 3, (sp0_isIn rs))]
set_option maxHeartbeats 4000000 in
set_option maxRecDepth 100000 in
theorem in0_isCart {rs : List (Nat × Nat)} {c : Int} {M : Mm} {Q : Option AV → Mm → Prop} (hM : okM (sh8 rs) M) (h_c : i64 c) (hP : P0_isCart rs c M) (hQ : Q (some (ai (V0_isCart rs c M))) M) : wp (tb0 (csL (cs0_isCart rs))) (sh8 rs) 3 2 cX0_isCart [] Q 400 0 [(0, ar 0), (1, al c)] [] M := by
  simp only [e_wp dX0_isCart_0 rfl, e_wp dX0_isCart_1 rfl, e_wp dX0_isCart_2 rfl, e_wp dX0_isCart_3 rfl, e_wp dX0_isCart_6 rfl, e_wp dX0_isCart_9 rfl, e_wp dX0_isCart_10 rfl, e_wp dX0_isCart_11 rfl, e_wp dX0_isCart_12 rfl, e_wp dX0_isCart_15 rfl, g0_10, g0_156, c0_isIn, P0_isIn, V0_isIn, cs0_isCart, e_iconst, e_bipush, e_sipush, e_lconst_0, e_lconst_1, e_iload, e_iload_0, e_iload_1, e_iload_2, e_iload_3, e_lload, e_lload_0, e_lload_1, e_lload_2, e_lload_3, e_aload, e_aload_0, e_aload_1, e_aload_2, e_aload_3, e_istore, e_istore_0, e_istore_1, e_istore_2, e_istore_3, e_astore, e_astore_0, e_astore_1, e_astore_2, e_astore_3, e_lstore, e_lstore_0, e_lstore_1, e_lstore_2, e_lstore_3, e_iinc, e_iadd, e_isub, e_imul, e_ladd, e_lsub, e_lmul, e_idiv, e_irem, e_ldiv, e_lrem, e_ineg, e_lneg, e_iand, e_ior, e_ixor, e_ishl, e_ishr, e_iushr, e_lcmp, e_i2l, e_l2i, e_i2b, e_i2s, e_dup_i, e_dup_r, e_pop_i, e_pop_r, e_dup2_l, e_dup2_ir, e_dup2_ii, e_ifeq, e_ifne, e_iflt, e_ifge, e_ifgt, e_ifle, e_iceq, e_icne, e_iclt, e_icge, e_icgt, e_icle, e_goto, e_switch, e_invokevirtual, e_invokestatic, e_invokespecial, e_ret0, e_ret1, e_ret2, e_ret3, ldI_s, ldL_s, ldR_s, clO_s, ctP_s, ctS_s, mgo_0, mgo_s, pjc_s, pj_0, pj_s, lk_s, rm1_0, rm1_i, rm1_r, rm1_l, rm2_0, rm2_i, rm2_r, rm2_l, csL_s, lc_lt, lc_ge, lc_gt, lc_le, lc_eq, b01_0, b01_1, b01_01, b01_n, up2_o, up2_s, up2_u, ne_eq, reduceCtorEq, Nat.reduceAdd, Nat.reduceEqDiff, Nat.reduceLT, Nat.reduceLeDiff, Int.reduceLE, Int.reduceLT, Int.reduceAdd, Int.reduceNeg, Int.reduceMul, Int.reduceSub, Int.reduceEq, Int.reduceToNat, Int.reduceNatCast, Int.cast_ofNat_Int, ↓reduceIte, and_self, List.drop_succ_cons, List.drop_zero, List.take_succ_cons, List.take_zero, List.length_cons, List.length_nil, List.reverse_cons, List.reverse_nil, List.nil_append, List.cons_append, Option.toList, true_and, and_true, or_false, false_or, or_true, true_or, forall_const, Classical.not_not, not_false_eq_true, not_true_eq_false, false_implies, true_implies, implies_true, imp_self]
  (try unfold P0_isCart at hP); (try unfold V0_isCart at hQ); (repeat' (first | (intro _) | (refine And.intro ?_ ?_))); all_goals (first | omega | exact qeq hQ (b01_t (by omega)) | exact qeq hQ (b01_f (by omega)) | exact qeq hQ (b01_c (by omega)) | exact qeq hQ rfl | exact qeq hQ (by omega) | assumption)
set_option maxHeartbeats 4000000 in
set_option maxRecDepth 100000 in
theorem m0_isCart {rs : List (Nat × Nat)} : MOK cl8 (sh8 rs) tyl8 Nws8 1 yX0_isCart cX0_isCart 3 (some .boolean) (sp0_isCart rs) := by
  refine mok_of (own := RX0) (tb := tb0 (csL (cs0_isCart rs))) (rt := 2) (fuel := 400) (fun avs M Q => []) (by decide) rfl nws8_ok (tbOK0 _) rfl (csL_all ?_) ?_ ?_ ?_
  · intro q hq
    simp only [cs0_isCart, List.mem_cons, List.not_mem_nil, or_false] at hq
    rcases hq with rfl
    · exact cg0_isIn (by decide)
  · intro avs M Q hsp
    obtain ⟨xs, hx⟩ := spF_un _ _ _ hsp
    obtain ⟨e, hl⟩ := unA_mkT hx
    obtain ⟨c, rfl⟩ := len1 hl
    have e : avs = [ar 0, al c] := e
    subst e
    simp [szL, isL]
  · intro avs M Q hM hav hsp
    obtain ⟨xs, hx⟩ := spF_un _ _ _ hsp
    obtain ⟨e, hl⟩ := unA_mkT hx
    obtain ⟨c, rfl⟩ := len1 hl
    have e : avs = [ar 0, al c] := e
    subst e
    exact in0_isCart hM (hav (al c) (by simp)) hsp.1 hsp.2
  · intro avs M Q hM hav hsp q hq m_ vs M1 hM1 hv hJ
    obtain ⟨xs, hx⟩ := spF_un _ _ _ hsp
    obtain ⟨e, hl⟩ := unA_mkT hx
    obtain ⟨c, rfl⟩ := len1 hl
    have e : avs = [ar 0, al c] := e
    subst e
    cases hq
theorem cg0_isCart {rs : List (Nat × Nat)} {lvl : Nat} (h : 1 < lvl) : CG RX0 cl8 (sh8 rs) tyl8 Nws8 lvl 1 159 2 (sp0_isCart rs) := cg_V (sg := [1]) nws8_ok spF_mono spF_un m0_isCart h rfl (by decide) rfl rfl ⟨rfl, by decide, by decide, rfl⟩ q777 q779 qs16 q128 q780
def P0_areTwo (rs : List (Nat × Nat)) (a : Int) (b : Int) (M : Mm) : Prop := 0 ≤ M 1 5 ∧ M 1 5 ≤ 7
def V0_areTwo (rs : List (Nat × Nat)) (a : Int) (b : Int) (M : Mm) : Int := b01 ((0 ≤ a ∧ a < M 1 5) ∧ (0 ≤ b ∧ b < M 1 5) ∧ ¬ a = b)
def sp0_areTwo (rs : List (Nat × Nat)) : Spec := spF true [0, 0] 1 (fun x M => P0_areTwo rs (x 0) (x 1) M) (fun x M => V0_areTwo rs (x 0) (x 1) M)
theorem c0_areTwo {rs : List (Nat × Nat)} {a b : Int} {M : Mm} {Q : Option AV → Mm → Prop} : sp0_areTwo rs [ar 0, ai a, ai b] M Q = (P0_areTwo rs a b M ∧ Q (some (ai (V0_areTwo rs a b M))) M) := rfl
def cs0_areTwo (rs : List (Nat × Nat)) : List (Nat × Nat × Nat × Spec) := [(159, 1, 2, (sp0_isCart rs))]
set_option maxHeartbeats 4000000 in
set_option maxRecDepth 100000 in
theorem in0_areTwo {rs : List (Nat × Nat)} {a b : Int} {M : Mm} {Q : Option AV → Mm → Prop} (hM : okM (sh8 rs) M) (h_a : i32 a) (h_b : i32 b) (hP : P0_areTwo rs a b M) (hQ : Q (some (ai (V0_areTwo rs a b M))) M) : wp (tb0 (csL (cs0_areTwo rs))) (sh8 rs) 3 2 cX0_areTwo [] Q 400 0 [(0, ar 0), (1, ai a), (2, ai b)] [] M := by
  simp only [e_wp dX0_areTwo_0 rfl, e_wp dX0_areTwo_1 rfl, e_wp dX0_areTwo_2 rfl, e_wp dX0_areTwo_3 rfl, e_wp dX0_areTwo_6 rfl, e_wp dX0_areTwo_9 rfl, e_wp dX0_areTwo_10 rfl, e_wp dX0_areTwo_11 rfl, e_wp dX0_areTwo_12 rfl, e_wp dX0_areTwo_15 rfl, e_wp dX0_areTwo_18 rfl, e_wp dX0_areTwo_19 rfl, e_wp dX0_areTwo_20 rfl, e_wp dX0_areTwo_23 rfl, e_wp dX0_areTwo_24 rfl, e_wp dX0_areTwo_27 rfl, e_wp dX0_areTwo_28 rfl, c0_isCart, P0_isCart, V0_isCart, cs0_areTwo, e_iconst, e_bipush, e_sipush, e_lconst_0, e_lconst_1, e_iload, e_iload_0, e_iload_1, e_iload_2, e_iload_3, e_lload, e_lload_0, e_lload_1, e_lload_2, e_lload_3, e_aload, e_aload_0, e_aload_1, e_aload_2, e_aload_3, e_istore, e_istore_0, e_istore_1, e_istore_2, e_istore_3, e_astore, e_astore_0, e_astore_1, e_astore_2, e_astore_3, e_lstore, e_lstore_0, e_lstore_1, e_lstore_2, e_lstore_3, e_iinc, e_iadd, e_isub, e_imul, e_ladd, e_lsub, e_lmul, e_idiv, e_irem, e_ldiv, e_lrem, e_ineg, e_lneg, e_iand, e_ior, e_ixor, e_ishl, e_ishr, e_iushr, e_lcmp, e_i2l, e_l2i, e_i2b, e_i2s, e_dup_i, e_dup_r, e_pop_i, e_pop_r, e_dup2_l, e_dup2_ir, e_dup2_ii, e_ifeq, e_ifne, e_iflt, e_ifge, e_ifgt, e_ifle, e_iceq, e_icne, e_iclt, e_icge, e_icgt, e_icle, e_goto, e_switch, e_invokevirtual, e_invokestatic, e_invokespecial, e_ret0, e_ret1, e_ret2, e_ret3, ldI_s, ldL_s, ldR_s, clO_s, ctP_s, ctS_s, mgo_0, mgo_s, pjc_s, pj_0, pj_s, lk_s, rm1_0, rm1_i, rm1_r, rm1_l, rm2_0, rm2_i, rm2_r, rm2_l, csL_s, lc_lt, lc_ge, lc_gt, lc_le, lc_eq, b01_0, b01_1, b01_01, b01_n, up2_o, up2_s, up2_u, ne_eq, reduceCtorEq, Nat.reduceAdd, Nat.reduceEqDiff, Nat.reduceLT, Nat.reduceLeDiff, Int.reduceLE, Int.reduceLT, Int.reduceAdd, Int.reduceNeg, Int.reduceMul, Int.reduceSub, Int.reduceEq, Int.reduceToNat, Int.reduceNatCast, Int.cast_ofNat_Int, ↓reduceIte, and_self, List.drop_succ_cons, List.drop_zero, List.take_succ_cons, List.take_zero, List.length_cons, List.length_nil, List.reverse_cons, List.reverse_nil, List.nil_append, List.cons_append, Option.toList, true_and, and_true, or_false, false_or, or_true, true_or, forall_const, Classical.not_not, not_false_eq_true, not_true_eq_false, false_implies, true_implies, implies_true, imp_self]
  (try unfold P0_areTwo at hP); (try unfold V0_areTwo at hQ); (repeat' (first | (intro _) | (refine And.intro ?_ ?_))); all_goals (first | omega | exact qeq hQ (b01_t (by omega)) | exact qeq hQ (b01_f (by omega)) | exact qeq hQ (b01_c (by omega)) | exact qeq hQ rfl | exact qeq hQ (by omega) | assumption)
set_option maxHeartbeats 4000000 in
set_option maxRecDepth 100000 in
theorem m0_areTwo {rs : List (Nat × Nat)} : MOK cl8 (sh8 rs) tyl8 Nws8 2 yX0_areTwo cX0_areTwo 3 (some .boolean) (sp0_areTwo rs) := by
  refine mok_of (own := RX0) (tb := tb0 (csL (cs0_areTwo rs))) (rt := 2) (fuel := 400) (fun avs M Q => []) (by decide) rfl nws8_ok (tbOK0 _) rfl (csL_all ?_) ?_ ?_ ?_
  · intro q hq
    simp only [cs0_areTwo, List.mem_cons, List.not_mem_nil, or_false] at hq
    rcases hq with rfl
    · exact cg0_isCart (by decide)
  · intro avs M Q hsp
    obtain ⟨xs, hx⟩ := spF_un _ _ _ hsp
    obtain ⟨e, hl⟩ := unA_mkT hx
    obtain ⟨a, b, rfl⟩ := len2 hl
    have e : avs = [ar 0, ai a, ai b] := e
    subst e
    simp [szL, isL]
  · intro avs M Q hM hav hsp
    obtain ⟨xs, hx⟩ := spF_un _ _ _ hsp
    obtain ⟨e, hl⟩ := unA_mkT hx
    obtain ⟨a, b, rfl⟩ := len2 hl
    have e : avs = [ar 0, ai a, ai b] := e
    subst e
    exact in0_areTwo hM (hav (ai a) (by simp)) (hav (ai b) (by simp)) hsp.1 hsp.2
  · intro avs M Q hM hav hsp q hq m_ vs M1 hM1 hv hJ
    obtain ⟨xs, hx⟩ := spF_un _ _ _ hsp
    obtain ⟨e, hl⟩ := unA_mkT hx
    obtain ⟨a, b, rfl⟩ := len2 hl
    have e : avs = [ar 0, ai a, ai b] := e
    subst e
    cases hq
theorem cg0_areTwo {rs : List (Nat × Nat)} {lvl : Nat} (h : 2 < lvl) : CG RX0 cl8 (sh8 rs) tyl8 Nws8 lvl 1 402 3 (sp0_areTwo rs) := cg_V (sg := [0, 0]) nws8_ok spF_mono spF_un m0_areTwo h rfl (by decide) rfl rfl ⟨rfl, by decide, by decide, rfl⟩ q1214 q1216 qs51 q128 q1217
theorem pow7i_dec : ∀ n : Fin 8, (1 : Int) ≤ 2 ^ n.val ∧ (2 : Int) ^ n.val ≤ 128 := by decide
theorem pow7i {n : Nat} (h : n ≤ 7) : (1 : Int) ≤ 2 ^ n ∧ (2 : Int) ^ n ≤ 128 := pow7i_dec ⟨n, by omega⟩
theorem all_dec : ∀ n : Fin 8, bshl 1 (n.val : Int) = 2 ^ n.val := by decide
def P0_all_2 (rs : List (Nat × Nat)) (M : Mm) : Prop := 0 ≤ M 1 5 ∧ M 1 5 ≤ 7
def V0_all_2 (rs : List (Nat × Nat)) (M : Mm) : Int := 2 ^ (M 1 5).toNat - 1
def sp0_all_2 (rs : List (Nat × Nat)) : Spec := spF true [] 1 (fun x M => P0_all_2 rs M) (fun x M => V0_all_2 rs M)
theorem c0_all_2 {rs : List (Nat × Nat)} {M : Mm} {Q : Option AV → Mm → Prop} : sp0_all_2 rs [ar 0] M Q = (P0_all_2 rs M ∧ Q (some (ai (V0_all_2 rs M))) M) := rfl
def cs0_all_2 (rs : List (Nat × Nat)) : List (Nat × Nat × Nat × Spec) := []
set_option maxHeartbeats 4000000 in
set_option maxRecDepth 100000 in
theorem in0_all_2 {rs : List (Nat × Nat)} {M : Mm} {Q : Option AV → Mm → Prop} (hM : okM (sh8 rs) M) (hP : P0_all_2 rs M) (hQ : Q (some (ai (V0_all_2 rs M))) M) : wp (tb0 (csL (cs0_all_2 rs))) (sh8 rs) 1 1 cX0_all_2 [] Q 400 0 [(0, ar 0)] [] M := by
  unfold V0_all_2 at hQ
  obtain ⟨h1, h2⟩ := id hP
  have h3 := all_dec ⟨(M 1 5).toNat, by omega⟩
  have h3 : bshl 1 (((M 1 5).toNat : Nat) : Int) = 2 ^ (M 1 5).toNat := h3
  rw [show (((M 1 5).toNat : Nat) : Int) = M 1 5 by omega] at h3
  have h4 := pow7i (n := (M 1 5).toNat) (by omega)
  simp only [e_wp dX0_all_2_0 rfl, e_wp dX0_all_2_1 rfl, e_wp dX0_all_2_2 rfl, e_wp dX0_all_2_5 rfl, e_wp dX0_all_2_8 rfl, e_wp dX0_all_2_9 rfl, e_wp dX0_all_2_10 rfl, e_wp dX0_all_2_11 rfl, g0_10, g0_156, e_iconst, e_bipush, e_sipush, e_lconst_0, e_lconst_1, e_iload, e_iload_0, e_iload_1, e_iload_2, e_iload_3, e_lload, e_lload_0, e_lload_1, e_lload_2, e_lload_3, e_aload, e_aload_0, e_aload_1, e_aload_2, e_aload_3, e_istore, e_istore_0, e_istore_1, e_istore_2, e_istore_3, e_astore, e_astore_0, e_astore_1, e_astore_2, e_astore_3, e_lstore, e_lstore_0, e_lstore_1, e_lstore_2, e_lstore_3, e_iinc, e_iadd, e_isub, e_imul, e_ladd, e_lsub, e_lmul, e_idiv, e_irem, e_ldiv, e_lrem, e_ineg, e_lneg, e_iand, e_ior, e_ixor, e_ishl, e_ishr, e_iushr, e_lcmp, e_i2l, e_l2i, e_i2b, e_i2s, e_dup_i, e_dup_r, e_pop_i, e_pop_r, e_dup2_l, e_dup2_ir, e_dup2_ii, e_ifeq, e_ifne, e_iflt, e_ifge, e_ifgt, e_ifle, e_iceq, e_icne, e_iclt, e_icge, e_icgt, e_icle, e_goto, e_switch, e_invokevirtual, e_invokestatic, e_invokespecial, e_ret0, e_ret1, e_ret2, e_ret3, ldI_s, ldL_s, ldR_s, clO_s, ctP_s, ctS_s, mgo_0, mgo_s, pjc_s, pj_0, pj_s, lk_s, rm1_0, rm1_i, rm1_r, rm1_l, rm2_0, rm2_i, rm2_r, rm2_l, csL_s, lc_lt, lc_ge, lc_gt, lc_le, lc_eq, b01_0, b01_1, b01_01, b01_n, up2_o, up2_s, up2_u, ne_eq, reduceCtorEq, Nat.reduceAdd, Nat.reduceEqDiff, Nat.reduceLT, Nat.reduceLeDiff, Int.reduceLE, Int.reduceLT, Int.reduceAdd, Int.reduceNeg, Int.reduceMul, Int.reduceSub, Int.reduceEq, Int.reduceToNat, Int.reduceNatCast, Int.cast_ofNat_Int, ↓reduceIte, and_self, List.drop_succ_cons, List.drop_zero, List.take_succ_cons, List.take_zero, List.length_cons, List.length_nil, List.reverse_cons, List.reverse_nil, List.nil_append, List.cons_append, Option.toList, true_and, and_true, or_false, false_or, or_true, true_or, forall_const, Classical.not_not, not_false_eq_true, not_true_eq_false, false_implies, true_implies, implies_true, imp_self, h3]
  refine ⟨by omega, hQ⟩
set_option maxHeartbeats 4000000 in
set_option maxRecDepth 100000 in
theorem m0_all_2 {rs : List (Nat × Nat)} : MOK cl8 (sh8 rs) tyl8 Nws8 0 yX0_all_2 cX0_all_2 1 (some .int) (sp0_all_2 rs) := by
  refine mok_of (own := RX0) (tb := tb0 (csL (cs0_all_2 rs))) (rt := 1) (fuel := 400) (fun avs M Q => []) (by decide) rfl nws8_ok (tbOK0 _) rfl (csL_all ?_) ?_ ?_ ?_
  · intro q hq; cases hq
  · intro avs M Q hsp
    obtain ⟨xs, hx⟩ := spF_un _ _ _ hsp
    obtain ⟨e, hl⟩ := unA_mkT hx
    obtain rfl := len0 hl
    have e : avs = [ar 0] := e
    subst e
    simp [szL, isL]
  · intro avs M Q hM hav hsp
    obtain ⟨xs, hx⟩ := spF_un _ _ _ hsp
    obtain ⟨e, hl⟩ := unA_mkT hx
    obtain rfl := len0 hl
    have e : avs = [ar 0] := e
    subst e
    exact in0_all_2 hM hsp.1 hsp.2
  · intro avs M Q hM hav hsp q hq m_ vs M1 hM1 hv hJ
    obtain ⟨xs, hx⟩ := spF_un _ _ _ hsp
    obtain ⟨e, hl⟩ := unA_mkT hx
    obtain rfl := len0 hl
    have e : avs = [ar 0] := e
    subst e
    cases hq
theorem cg0_all_2 {rs : List (Nat × Nat)} {lvl : Nat} (h : 0 < lvl) : CG RX0 cl8 (sh8 rs) tyl8 Nws8 lvl 1 336 1 (sp0_all_2 rs) := cg_V (sg := []) nws8_ok spF_mono spF_un m0_all_2 h rfl (by decide) rfl rfl ⟨rfl, by decide, by decide, rfl⟩ q1086 q1088 qs40 q128 q1089
/-- a bridge's cells, as what it remembers -/
def mfX (M : Mm) (b : Int) (k : Nat) : Pr := (M 13 (8 * b + k).toNat, M 14 (8 * b + k).toNat)
def mbX (M : Mm) (b : Int) : List Pr := stk (mfX M b) (M 15 b.toNat).toNat
def okBX (M : Mm) (b : Int) : Prop := (0 ≤ b ∧ b < 3) ∧ (0 ≤ M 15 b.toNat ∧ M 15 b.toNat ≤ 8) ∧ okL (mbX M b)
theorem mb_neX {M : Mm} {b : Int} (h : okBX M b) : mbX M b = [] ↔ M 15 b.toNat = 0 := by
  have h1 := h.2.1
  have h2 := stk_len (mfX M b) (M 15 b.toNat).toNat
  constructor
  · intro e
    have e : stk (mfX M b) (M 15 b.toNat).toNat = [] := e
    rw [e] at h2
    have : ([] : List Pr).length = 0 := rfl
    omega
  · intro e
    show stk (mfX M b) (M 15 b.toNat).toNat = []
    rw [e]
    rfl
theorem mb_sX {M : Mm} {b : Int} {n : Nat} (h : M 15 b.toNat = n + 1) : mbX M b = mfX M b n :: stk (mfX M b) n := by
  show stk (mfX M b) (M 15 b.toNat).toNat = _
  rw [h]
  rfl
theorem mb_elX {M : Mm} {b : Int} (h : okBX M b) {k : Nat} (hk : (k : Int) < M 15 b.toNat) : 1 ≤ M 13 (8 * b + k).toNat ∧ M 13 (8 * b + k).toNat ≤ 99 := h.2.2 _ (stk_mem (f := mfX M b) (by omega))
theorem mb_lastX {M : Mm} {b : Int} (h : okBX M b) : lastP (mbX M b) = if M 15 b.toNat = 0 then 0 else M 13 (8 * b + M 15 b.toNat - 1).toNat := by
  have h1 := h.2.1
  by_cases e : M 15 b.toNat = 0
  · rw [if_pos e, (mb_neX h).mpr e]; rfl
  · rw [if_neg e]
    obtain ⟨n, hn⟩ : ∃ n : Nat, M 15 b.toNat = n + 1 := ⟨(M 15 b.toNat - 1).toNat, by omega⟩
    rw [mb_sX hn, hn]
    show M 13 (8 * b + n).toNat = _
    congr 1
    omega
def P0_lastOf (rs : List (Nat × Nat)) (b : Int) (M : Mm) : Prop := okBX M b
def V0_lastOf (rs : List (Nat × Nat)) (b : Int) (M : Mm) : Int := lastP (mbX M b)
def sp0_lastOf (rs : List (Nat × Nat)) : Spec := spF true [0] 1 (fun x M => P0_lastOf rs (x 0) M) (fun x M => V0_lastOf rs (x 0) M)
theorem c0_lastOf {rs : List (Nat × Nat)} {b : Int} {M : Mm} {Q : Option AV → Mm → Prop} : sp0_lastOf rs [ar 0, ai b] M Q = (P0_lastOf rs b M ∧ Q (some (ai (V0_lastOf rs b M))) M) := rfl
def cs0_lastOf (rs : List (Nat × Nat)) : List (Nat × Nat × Nat × Spec) := []
set_option maxHeartbeats 4000000 in
set_option maxRecDepth 100000 in
theorem in0_lastOf {rs : List (Nat × Nat)} {b : Int} {M : Mm} {Q : Option AV → Mm → Prop} (hM : okM (sh8 rs) M) (h_b : i32 b) (hP : P0_lastOf rs b M) (hQ : Q (some (ai (V0_lastOf rs b M))) M) : wp (tb0 (csL (cs0_lastOf rs))) (sh8 rs) 2 1 cX0_lastOf [] Q 400 0 [(0, ar 0), (1, ai b)] [] M := by
  obtain ⟨h1, h2, -⟩ := id hP
  unfold V0_lastOf at hQ
  rw [mb_lastX hP] at hQ
  simp only [e_wp dX0_lastOf_0 rfl, e_wp dX0_lastOf_1 rfl, e_wp dX0_lastOf_4 rfl, e_wp dX0_lastOf_5 rfl, e_wp dX0_lastOf_6 rfl, e_wp dX0_lastOf_9 rfl, e_wp dX0_lastOf_10 rfl, e_wp dX0_lastOf_13 rfl, e_wp dX0_lastOf_14 rfl, e_wp dX0_lastOf_17 rfl, e_wp dX0_lastOf_19 rfl, e_wp dX0_lastOf_20 rfl, e_wp dX0_lastOf_21 rfl, e_wp dX0_lastOf_22 rfl, e_wp dX0_lastOf_25 rfl, e_wp dX0_lastOf_26 rfl, e_wp dX0_lastOf_27 rfl, e_wp dX0_lastOf_28 rfl, e_wp dX0_lastOf_29 rfl, e_wp dX0_lastOf_30 rfl, e_wp dX0_lastOf_31 rfl, g0_31, g0_24, a8_13, w8_13, a8_14, w8_14, a8_15, w8_15, a8_16, w8_16, a8_17, w8_17, a8_18, w8_18, a8_19, w8_19, a8_20, w8_20, a8_21, w8_21, a8_22, w8_22, a8_23, w8_23, a8_24, w8_24, a8_25, w8_25, a8_26, w8_26, a8_27, w8_27, a8_28, w8_28, a8_29, w8_29, a8_30, w8_30, a8_31, w8_31, a8_32, w8_32, a8_33, w8_33, a8_34, w8_34, a8_35, w8_35, a8_36, w8_36, a8_37, w8_37, a8_38, w8_38, a8_39, w8_39, a8_40, w8_40, a8_12, w8_12, a8_6, a8_7, e_iconst, e_bipush, e_sipush, e_lconst_0, e_lconst_1, e_iload, e_iload_0, e_iload_1, e_iload_2, e_iload_3, e_lload, e_lload_0, e_lload_1, e_lload_2, e_lload_3, e_aload, e_aload_0, e_aload_1, e_aload_2, e_aload_3, e_istore, e_istore_0, e_istore_1, e_istore_2, e_istore_3, e_astore, e_astore_0, e_astore_1, e_astore_2, e_astore_3, e_lstore, e_lstore_0, e_lstore_1, e_lstore_2, e_lstore_3, e_iinc, e_iadd, e_isub, e_imul, e_ladd, e_lsub, e_lmul, e_idiv, e_irem, e_ldiv, e_lrem, e_ineg, e_lneg, e_iand, e_ior, e_ixor, e_ishl, e_ishr, e_iushr, e_lcmp, e_i2l, e_l2i, e_i2b, e_i2s, e_dup_i, e_dup_r, e_pop_i, e_pop_r, e_dup2_l, e_dup2_ir, e_dup2_ii, e_ifeq, e_ifne, e_iflt, e_ifge, e_ifgt, e_ifle, e_iceq, e_icne, e_iclt, e_icge, e_icgt, e_icle, e_goto, e_switch, e_invokevirtual, e_invokestatic, e_invokespecial, e_ret0, e_ret1, e_ret2, e_ret3, ldI_s, ldL_s, ldR_s, clO_s, ctP_s, ctS_s, mgo_0, mgo_s, pjc_s, pj_0, pj_s, lk_s, rm1_0, rm1_i, rm1_r, rm1_l, rm2_0, rm2_i, rm2_r, rm2_l, csL_s, lc_lt, lc_ge, lc_gt, lc_le, lc_eq, b01_0, b01_1, b01_01, b01_n, up2_o, up2_s, up2_u, ne_eq, reduceCtorEq, Nat.reduceAdd, Nat.reduceEqDiff, Nat.reduceLT, Nat.reduceLeDiff, Int.reduceLE, Int.reduceLT, Int.reduceAdd, Int.reduceNeg, Int.reduceMul, Int.reduceSub, Int.reduceEq, Int.reduceToNat, Int.reduceNatCast, Int.cast_ofNat_Int, ↓reduceIte, and_self, List.drop_succ_cons, List.drop_zero, List.take_succ_cons, List.take_zero, List.length_cons, List.length_nil, List.reverse_cons, List.reverse_nil, List.nil_append, List.cons_append, Option.toList, true_and, and_true, or_false, false_or, or_true, true_or, forall_const, Classical.not_not, not_false_eq_true, not_true_eq_false, false_implies, true_implies, implies_true, imp_self]
  refine ⟨h1, fun h => ?_, fun h => ?_⟩
  · rw [if_neg h] at hQ
    exact ⟨by omega, by omega, by omega, by omega, by omega, hQ⟩
  · rw [if_pos h] at hQ
    exact hQ
set_option maxHeartbeats 4000000 in
set_option maxRecDepth 100000 in
theorem m0_lastOf {rs : List (Nat × Nat)} : MOK cl8 (sh8 rs) tyl8 Nws8 0 yX0_lastOf cX0_lastOf 2 (some .int) (sp0_lastOf rs) := by
  refine mok_of (own := RX0) (tb := tb0 (csL (cs0_lastOf rs))) (rt := 1) (fuel := 400) (fun avs M Q => []) (by decide) rfl nws8_ok (tbOK0 _) rfl (csL_all ?_) ?_ ?_ ?_
  · intro q hq; cases hq
  · intro avs M Q hsp
    obtain ⟨xs, hx⟩ := spF_un _ _ _ hsp
    obtain ⟨e, hl⟩ := unA_mkT hx
    obtain ⟨b, rfl⟩ := len1 hl
    have e : avs = [ar 0, ai b] := e
    subst e
    simp [szL, isL]
  · intro avs M Q hM hav hsp
    obtain ⟨xs, hx⟩ := spF_un _ _ _ hsp
    obtain ⟨e, hl⟩ := unA_mkT hx
    obtain ⟨b, rfl⟩ := len1 hl
    have e : avs = [ar 0, ai b] := e
    subst e
    exact in0_lastOf hM (hav (ai b) (by simp)) hsp.1 hsp.2
  · intro avs M Q hM hav hsp q hq m_ vs M1 hM1 hv hJ
    obtain ⟨xs, hx⟩ := spF_un _ _ _ hsp
    obtain ⟨e, hl⟩ := unA_mkT hx
    obtain ⟨b, rfl⟩ := len1 hl
    have e : avs = [ar 0, ai b] := e
    subst e
    cases hq
theorem cg0_lastOf {rs : List (Nat × Nat)} {lvl : Nat} (h : 0 < lvl) : CG RX0 cl8 (sh8 rs) tyl8 Nws8 lvl 1 222 2 (sp0_lastOf rs) := cg_V (sg := [0]) nws8_ok spF_mono spF_un m0_lastOf h rfl (by decide) rfl rfl ⟨rfl, by decide, by decide, rfl⟩ q831 q833 qs25 q128 q834
def P0_sagOf (rs : List (Nat × Nat)) (b : Int) (M : Mm) : Prop := okBX M b
def V0_sagOf (rs : List (Nat × Nat)) (b : Int) (M : Mm) : Int := sagP (mbX M b)
def sp0_sagOf (rs : List (Nat × Nat)) : Spec := spF true [0] 1 (fun x M => P0_sagOf rs (x 0) M) (fun x M => V0_sagOf rs (x 0) M)
theorem c0_sagOf {rs : List (Nat × Nat)} {b : Int} {M : Mm} {Q : Option AV → Mm → Prop} : sp0_sagOf rs [ar 0, ai b] M Q = (P0_sagOf rs b M ∧ Q (some (ai (V0_sagOf rs b M))) M) := rfl
def cs0_sagOf (rs : List (Nat × Nat)) : List (Nat × Nat × Nat × Spec) := []
def J0_sagOf_4 (rs : List (Nat × Nat)) (b : Int) (M : Mm) (m : Nat) (b_ : Int) (n : Int) (k : Int) (M1 : Mm) : Prop := b = b_ ∧ M = M1 ∧ ∃ kk : Nat, k = kk ∧ (kk : Int) ≤ M 15 b.toNat ∧ n = sagP (stk (mfX M b) kk) ∧ m = (M 15 b.toNat).toNat - kk
set_option maxHeartbeats 4000000 in
set_option maxRecDepth 100000 in
theorem in0_sagOf {rs : List (Nat × Nat)} {b : Int} {M : Mm} {Q : Option AV → Mm → Prop} (hM : okM (sh8 rs) M) (h_b : i32 b) (hP : P0_sagOf rs b M) (hQ : Q (some (ai (V0_sagOf rs b M))) M) (I_4 : List AV → Mm → Prop) (hI_4 : ∀ (m_ : Nat) (y_b_ : Int) (y_n : Int) (y_k : Int) (M2 : Mm), J0_sagOf_4 rs b M m_ y_b_ y_n y_k M2 → I_4 [ar 0, ai y_b_, ai y_n, ai y_k] M2) : wp (tb0 (csL (cs0_sagOf rs))) (sh8 rs) 4 1 cX0_sagOf [(4, [0, 1, 2, 3], I_4)] Q 400 0 [(0, ar 0), (1, ai b)] [] M := by
  simp only [e_wp dX0_sagOf_0 rfl, e_wp dX0_sagOf_1 rfl, e_wp dX0_sagOf_2 rfl, e_wp dX0_sagOf_3 rfl, e_wp dX0_sagOf_4 rfl, e_wp dX0_sagOf_5 rfl, e_wp dX0_sagOf_6 rfl, e_wp dX0_sagOf_9 rfl, e_wp dX0_sagOf_10 rfl, e_wp dX0_sagOf_11 rfl, e_wp dX0_sagOf_14 rfl, e_wp dX0_sagOf_15 rfl, e_wp dX0_sagOf_16 rfl, e_wp dX0_sagOf_19 rfl, e_wp dX0_sagOf_21 rfl, e_wp dX0_sagOf_22 rfl, e_wp dX0_sagOf_23 rfl, e_wp dX0_sagOf_24 rfl, e_wp dX0_sagOf_25 rfl, e_wp dX0_sagOf_26 rfl, e_wp dX0_sagOf_27 rfl, e_wp dX0_sagOf_28 rfl, e_wp dX0_sagOf_29 rfl, e_wp dX0_sagOf_30 rfl, e_wp dX0_sagOf_31 rfl, e_wp dX0_sagOf_32 rfl, e_wp dX0_sagOf_35 rfl, e_wp dX0_sagOf_38 rfl, e_wp dX0_sagOf_39 rfl, g0_31, g0_24, a8_13, w8_13, a8_14, w8_14, a8_15, w8_15, a8_16, w8_16, a8_17, w8_17, a8_18, w8_18, a8_19, w8_19, a8_20, w8_20, a8_21, w8_21, a8_22, w8_22, a8_23, w8_23, a8_24, w8_24, a8_25, w8_25, a8_26, w8_26, a8_27, w8_27, a8_28, w8_28, a8_29, w8_29, a8_30, w8_30, a8_31, w8_31, a8_32, w8_32, a8_33, w8_33, a8_34, w8_34, a8_35, w8_35, a8_36, w8_36, a8_37, w8_37, a8_38, w8_38, a8_39, w8_39, a8_40, w8_40, a8_12, w8_12, a8_6, a8_7, e_iconst, e_bipush, e_sipush, e_lconst_0, e_lconst_1, e_iload, e_iload_0, e_iload_1, e_iload_2, e_iload_3, e_lload, e_lload_0, e_lload_1, e_lload_2, e_lload_3, e_aload, e_aload_0, e_aload_1, e_aload_2, e_aload_3, e_istore, e_istore_0, e_istore_1, e_istore_2, e_istore_3, e_astore, e_astore_0, e_astore_1, e_astore_2, e_astore_3, e_lstore, e_lstore_0, e_lstore_1, e_lstore_2, e_lstore_3, e_iinc, e_iadd, e_isub, e_imul, e_ladd, e_lsub, e_lmul, e_idiv, e_irem, e_ldiv, e_lrem, e_ineg, e_lneg, e_iand, e_ior, e_ixor, e_ishl, e_ishr, e_iushr, e_lcmp, e_i2l, e_l2i, e_i2b, e_i2s, e_dup_i, e_dup_r, e_pop_i, e_pop_r, e_dup2_l, e_dup2_ir, e_dup2_ii, e_ifeq, e_ifne, e_iflt, e_ifge, e_ifgt, e_ifle, e_iceq, e_icne, e_iclt, e_icge, e_icgt, e_icle, e_goto, e_switch, e_invokevirtual, e_invokestatic, e_invokespecial, e_ret0, e_ret1, e_ret2, e_ret3, ldI_s, ldL_s, ldR_s, clO_s, ctP_s, ctS_s, mgo_0, mgo_s, pjc_s, pj_0, pj_s, lk_s, rm1_0, rm1_i, rm1_r, rm1_l, rm2_0, rm2_i, rm2_r, rm2_l, csL_s, lc_lt, lc_ge, lc_gt, lc_le, lc_eq, b01_0, b01_1, b01_01, b01_n, up2_o, up2_s, up2_u, ne_eq, reduceCtorEq, Nat.reduceAdd, Nat.reduceEqDiff, Nat.reduceLT, Nat.reduceLeDiff, Int.reduceLE, Int.reduceLT, Int.reduceAdd, Int.reduceNeg, Int.reduceMul, Int.reduceSub, Int.reduceEq, Int.reduceToNat, Int.reduceNatCast, Int.cast_ofNat_Int, ↓reduceIte, and_self, List.drop_succ_cons, List.drop_zero, List.take_succ_cons, List.take_zero, List.length_cons, List.length_nil, List.reverse_cons, List.reverse_nil, List.nil_append, List.cons_append, Option.toList, true_and, and_true, or_false, false_or, or_true, true_or, forall_const, Classical.not_not, not_false_eq_true, not_true_eq_false, false_implies, true_implies, implies_true, imp_self]
  exact hI_4 _ _ _ _ _ ⟨rfl, rfl, 0, rfl, hP.2.1.1, rfl, rfl⟩
set_option maxHeartbeats 4000000 in
set_option maxRecDepth 100000 in
theorem at0_sagOf_4 {rs : List (Nat × Nat)} {b : Int} {M : Mm} {Q : Option AV → Mm → Prop} (hM : okM (sh8 rs) M) (h_b : i32 b) (hP : P0_sagOf rs b M) (hQ : Q (some (ai (V0_sagOf rs b M))) M) {m : Nat} {b_ n k : Int} {M1 : Mm} (hM1 : okM (sh8 rs) M1) (h_b_ : i32 b_) (h_n : i32 n) (h_k : i32 k) (hJ : J0_sagOf_4 rs b M m b_ n k M1) (I_4 : List AV → Mm → Prop) (hI_4 : ∀ (m_ : Nat) (y_b_ : Int) (y_n : Int) (y_k : Int) (M2 : Mm), m_ < m → J0_sagOf_4 rs b M m_ y_b_ y_n y_k M2 → I_4 [ar 0, ai y_b_, ai y_n, ai y_k] M2) : wp (tb0 (csL (cs0_sagOf rs))) (sh8 rs) 4 1 cX0_sagOf [(4, [0, 1, 2, 3], I_4)] Q 400 4 [(0, ar 0), (1, ai b_), (2, ai n), (3, ai k)] [] M1 := by
  obtain ⟨rfl, rfl, kk, rfl, hk, rfl, rfl⟩ := hJ
  obtain ⟨h1, h2, h3⟩ := id hP
  simp only [e_wp dX0_sagOf_0 rfl, e_wp dX0_sagOf_1 rfl, e_wp dX0_sagOf_2 rfl, e_wp dX0_sagOf_3 rfl, e_wp dX0_sagOf_4 rfl, e_wp dX0_sagOf_5 rfl, e_wp dX0_sagOf_6 rfl, e_wp dX0_sagOf_9 rfl, e_wp dX0_sagOf_10 rfl, e_wp dX0_sagOf_11 rfl, e_wp dX0_sagOf_14 rfl, e_wp dX0_sagOf_15 rfl, e_wp dX0_sagOf_16 rfl, e_wp dX0_sagOf_19 rfl, e_wp dX0_sagOf_21 rfl, e_wp dX0_sagOf_22 rfl, e_wp dX0_sagOf_23 rfl, e_wp dX0_sagOf_24 rfl, e_wp dX0_sagOf_25 rfl, e_wp dX0_sagOf_26 rfl, e_wp dX0_sagOf_27 rfl, e_wp dX0_sagOf_28 rfl, e_wp dX0_sagOf_29 rfl, e_wp dX0_sagOf_30 rfl, e_wp dX0_sagOf_31 rfl, e_wp dX0_sagOf_32 rfl, e_wp dX0_sagOf_35 rfl, e_wp dX0_sagOf_38 rfl, e_wp dX0_sagOf_39 rfl, g0_31, g0_24, a8_13, w8_13, a8_14, w8_14, a8_15, w8_15, a8_16, w8_16, a8_17, w8_17, a8_18, w8_18, a8_19, w8_19, a8_20, w8_20, a8_21, w8_21, a8_22, w8_22, a8_23, w8_23, a8_24, w8_24, a8_25, w8_25, a8_26, w8_26, a8_27, w8_27, a8_28, w8_28, a8_29, w8_29, a8_30, w8_30, a8_31, w8_31, a8_32, w8_32, a8_33, w8_33, a8_34, w8_34, a8_35, w8_35, a8_36, w8_36, a8_37, w8_37, a8_38, w8_38, a8_39, w8_39, a8_40, w8_40, a8_12, w8_12, a8_6, a8_7, e_iconst, e_bipush, e_sipush, e_lconst_0, e_lconst_1, e_iload, e_iload_0, e_iload_1, e_iload_2, e_iload_3, e_lload, e_lload_0, e_lload_1, e_lload_2, e_lload_3, e_aload, e_aload_0, e_aload_1, e_aload_2, e_aload_3, e_istore, e_istore_0, e_istore_1, e_istore_2, e_istore_3, e_astore, e_astore_0, e_astore_1, e_astore_2, e_astore_3, e_lstore, e_lstore_0, e_lstore_1, e_lstore_2, e_lstore_3, e_iinc, e_iadd, e_isub, e_imul, e_ladd, e_lsub, e_lmul, e_idiv, e_irem, e_ldiv, e_lrem, e_ineg, e_lneg, e_iand, e_ior, e_ixor, e_ishl, e_ishr, e_iushr, e_lcmp, e_i2l, e_l2i, e_i2b, e_i2s, e_dup_i, e_dup_r, e_pop_i, e_pop_r, e_dup2_l, e_dup2_ir, e_dup2_ii, e_ifeq, e_ifne, e_iflt, e_ifge, e_ifgt, e_ifle, e_iceq, e_icne, e_iclt, e_icge, e_icgt, e_icle, e_goto, e_switch, e_invokevirtual, e_invokestatic, e_invokespecial, e_ret0, e_ret1, e_ret2, e_ret3, ldI_s, ldL_s, ldR_s, clO_s, ctP_s, ctS_s, mgo_0, mgo_s, pjc_s, pj_0, pj_s, lk_s, rm1_0, rm1_i, rm1_r, rm1_l, rm2_0, rm2_i, rm2_r, rm2_l, csL_s, lc_lt, lc_ge, lc_gt, lc_le, lc_eq, b01_0, b01_1, b01_01, b01_n, up2_o, up2_s, up2_u, ne_eq, reduceCtorEq, Nat.reduceAdd, Nat.reduceEqDiff, Nat.reduceLT, Nat.reduceLeDiff, Int.reduceLE, Int.reduceLT, Int.reduceAdd, Int.reduceNeg, Int.reduceMul, Int.reduceSub, Int.reduceEq, Int.reduceToNat, Int.reduceNatCast, Int.cast_ofNat_Int, ↓reduceIte, and_self, List.drop_succ_cons, List.drop_zero, List.take_succ_cons, List.take_zero, List.length_cons, List.length_nil, List.reverse_cons, List.reverse_nil, List.nil_append, List.cons_append, Option.toList, true_and, and_true, or_false, false_or, or_true, true_or, forall_const, Classical.not_not, not_false_eq_true, not_true_eq_false, false_implies, true_implies, implies_true, imp_self]
  refine ⟨h1, fun h => ?_, fun h => ?_⟩
  · exact qeq hQ (by unfold V0_sagOf mbX; rw [show (M 15 b.toNat).toNat = kk by omega])
  · have h4 := mb_elX hP h
    have h5 := @tdiv_b (M 13 (8 * b + kk).toNat) ((kk : Int) + 1) (by omega) (by omega)
    have h6 := sagP_b (stk_okL h3 (k := kk) (by omega))
    rw [stk_len] at h6
    refine ⟨by omega, by omega, by omega, by omega, ⟨by omega, by omega⟩, by omega, by omega, ?_⟩
    refine hI_4 _ _ _ _ _ ?_ ⟨rfl, rfl, kk + 1, by omega, by omega, ?_, rfl⟩
    · omega
    · show _ = sagP (stk (mfX M b) kk) + (M 13 (8 * b + kk).toNat).tdiv (((stk (mfX M b) kk).length : Int) + 1)
      rw [stk_len]
set_option maxHeartbeats 4000000 in
set_option maxRecDepth 100000 in
theorem m0_sagOf {rs : List (Nat × Nat)} : MOK cl8 (sh8 rs) tyl8 Nws8 0 yX0_sagOf cX0_sagOf 4 (some .int) (sp0_sagOf rs) := by
  refine mok_of (own := RX0) (tb := tb0 (csL (cs0_sagOf rs))) (rt := 1) (fuel := 400) (fun avs M Q => [(4, [0, 1, 2, 3], fun m_ vs M1 => ∃ y_b_ : Int, ∃ y_n : Int, ∃ y_k : Int, vs = [ar 0, ai y_b_, ai y_n, ai y_k] ∧ J0_sagOf_4 rs (pa true [0] avs 0) M m_ y_b_ y_n y_k M1)]) (by decide) rfl nws8_ok (tbOK0 _) rfl (csL_all ?_) ?_ ?_ ?_
  · intro q hq; cases hq
  · intro avs M Q hsp
    obtain ⟨xs, hx⟩ := spF_un _ _ _ hsp
    obtain ⟨e, hl⟩ := unA_mkT hx
    obtain ⟨b, rfl⟩ := len1 hl
    have e : avs = [ar 0, ai b] := e
    subst e
    simp [szL, isL]
  · intro avs M Q hM hav hsp
    obtain ⟨xs, hx⟩ := spF_un _ _ _ hsp
    obtain ⟨e, hl⟩ := unA_mkT hx
    obtain ⟨b, rfl⟩ := len1 hl
    have e : avs = [ar 0, ai b] := e
    subst e
    exact in0_sagOf hM (hav (ai b) (by simp)) hsp.1 hsp.2 _ (fun m_ y_b_ y_n y_k M2 hJ => ⟨m_, y_b_, y_n, y_k, rfl, hJ⟩)
  · intro avs M Q hM hav hsp q hq m_ vs M1 hM1 hv hJ
    obtain ⟨xs, hx⟩ := spF_un _ _ _ hsp
    obtain ⟨e, hl⟩ := unA_mkT hx
    obtain ⟨b, rfl⟩ := len1 hl
    have e : avs = [ar 0, ai b] := e
    subst e
    simp only [List.mem_cons, List.not_mem_nil, or_false] at hq
    rcases hq with rfl
    · obtain ⟨y_b_, y_n, y_k, rfl, hJ⟩ := hJ
      exact at0_sagOf_4 hM (hav (ai b) (by simp)) hsp.1 hsp.2 hM1 (hv (1, ai y_b_) (List.mem_of_getElem? (i := 1) rfl)) (hv (2, ai y_n) (List.mem_of_getElem? (i := 2) rfl)) (hv (3, ai y_k) (List.mem_of_getElem? (i := 3) rfl)) hJ _ (fun m2 z_b_ z_n z_k M2 hm hJ2 => ⟨m2, hm, z_b_, z_n, z_k, rfl, hJ2⟩)
theorem cg0_sagOf {rs : List (Nat × Nat)} {lvl : Nat} (h : 0 < lvl) : CG RX0 cl8 (sh8 rs) tyl8 Nws8 lvl 1 218 2 (sp0_sagOf rs) := cg_V (sg := [0]) nws8_ok spF_mono spF_un m0_sagOf h rfl (by decide) rfl rfl ⟨rfl, by decide, by decide, rfl⟩ q827 q829 qs24 q128 q830
theorem mb_upX {M : Mm} {b : Int} {d : Nat} : mbX (up2 M 15 b.toNat d) b = stk (mfX M b) d := by
  show stk (mfX (up2 M 15 b.toNat d) b) (up2 M 15 b.toNat d 15 b.toNat).toNat = _
  rw [up2_s]
  rfl
theorem okB_upX {M : Mm} {b : Int} {d : Nat} (h : okBX M b) (hd : (d : Int) ≤ M 15 b.toNat) : okBX (up2 M 15 b.toNat d) b := by
  obtain ⟨h1, h2, h3⟩ := h
  refine ⟨h1, ?_, ?_⟩
  · rw [up2_s]; omega
  · rw [mb_upX]; exact stk_okL h3 (by omega)
theorem cross_oX {M : Mm} {b b' : Int} {j : Nat} {x : Int} (hb : okBX M b') (hne : ¬ b' = b) (h0 : okBX M b) (hj : j = b.toNat) : mbX (up2 M 15 j x) b' = mbX M b' ∧ okBX (up2 M 15 j x) b' := by
  have e : up2 M 15 j x 15 b'.toNat = M 15 b'.toNat := up2_n (by have := hb.1; have := h0.1; omega)
  have e2 : mbX (up2 M 15 j x) b' = mbX M b' := by
    show stk (mfX (up2 M 15 j x) b') (up2 M 15 j x 15 b'.toNat).toNat = _
    rw [e]
    rfl
  exact ⟨e2, hb.1, by rw [e]; exact hb.2.1, by rw [e2]; exact hb.2.2⟩
/-- a load laid on a bridge's d-th place -/
def pushMX (M : Mm) (b : Int) (d : Nat) (load who : Int) : Mm := up2 (up2 (up2 (up2 M 15 b.toNat d) 13 (8 * b + d).toNat load) 14 (8 * b + d).toNat who) 15 b.toNat (d + 1)
theorem push_bX {M : Mm} {b : Int} {d : Nat} {load who : Int} (hb : 0 ≤ b) : mbX (pushMX M b d load who) b = (load, who) :: stk (mfX M b) d := by
  have e1 : pushMX M b d load who 15 b.toNat = d + 1 := up2_s
  show stk (mfX (pushMX M b d load who) b) (pushMX M b d load who 15 b.toNat).toNat = _
  rw [e1, show ((d : Int) + 1).toNat = d + 1 by omega]
  show mfX (pushMX M b d load who) b d :: stk (mfX (pushMX M b d load who) b) d = _
  congr 1
  · show (pushMX M b d load who 13 (8 * b + d).toNat, pushMX M b d load who 14 (8 * b + d).toNat) = _
    unfold pushMX
    rw [up2_o (by decide), up2_o (by decide), up2_s, up2_o (by decide), up2_s]
  · refine stk_congr fun k hk => ?_
    show (pushMX M b d load who 13 (8 * b + k).toNat, pushMX M b d load who 14 (8 * b + k).toNat) = (M 13 (8 * b + k).toNat, M 14 (8 * b + k).toNat)
    unfold pushMX
    rw [up2_o (by decide), up2_o (by decide), up2_n (by omega), up2_o (by decide), up2_o (by decide), up2_n (by omega), up2_o (by decide), up2_o (by decide)]
theorem push_oX {M : Mm} {b b' : Int} {d : Nat} {load who : Int} (h0 : 0 ≤ b) (hd : d ≤ 7) (hb : okBX M b') (hne : ¬ b' = b) : mbX (pushMX M b d load who) b' = mbX M b' ∧ okBX (pushMX M b d load who) b' := by
  have h1 := hb.1
  have h2 := hb.2.1
  have e1 : pushMX M b d load who 15 b'.toNat = M 15 b'.toNat := by
    unfold pushMX
    rw [up2_n (by omega), up2_o (by decide), up2_o (by decide), up2_n (by omega)]
  have e2 : mbX (pushMX M b d load who) b' = mbX M b' := by
    show stk (mfX (pushMX M b d load who) b') (pushMX M b d load who 15 b'.toNat).toNat = _
    rw [e1]
    refine stk_congr fun k hk => ?_
    show (pushMX M b d load who 13 (8 * b' + k).toNat, pushMX M b d load who 14 (8 * b' + k).toNat) = (M 13 (8 * b' + k).toNat, M 14 (8 * b' + k).toNat)
    unfold pushMX
    rw [up2_o (by decide), up2_o (by decide), up2_n (by omega), up2_o (by decide), up2_o (by decide), up2_n (by omega), up2_o (by decide), up2_o (by decide)]
  exact ⟨e2, h1, by rw [e1]; exact h2, by rw [e2]; exact hb.2.2⟩
theorem mb_congX {M M1 : Mm} {b : Int} (hb : okBX M b) (h1 : ∀ k : Nat, k < 8 → mfX M1 b k = mfX M b k) (h2 : M1 15 b.toNat = M 15 b.toNat) : mbX M1 b = mbX M b ∧ okBX M1 b := by
  have h3 := hb.2.1
  have e2 : mbX M1 b = mbX M b := by
    show stk (mfX M1 b) (M1 15 b.toNat).toNat = _
    rw [h2]
    exact stk_congr fun k hk => h1 k (by omega)
  exact ⟨e2, hb.1, by rw [h2]; exact h3, by rw [e2]; exact hb.2.2⟩
theorem mf_wX {M : Mm} {b b' : Int} {d k : Nat} {x y : Int} (h : 0 ≤ b) (h' : 0 ≤ b') (hd : d < 8) (hk : k < 8) (hne : ¬ (b' = b ∧ k = d)) : mfX (up2 (up2 M 13 (8 * b + d).toNat x) 14 (8 * b + d).toNat y) b' k = mfX M b' k := by
  have e : (8 * b' + k).toNat ≠ (8 * b + d).toNat := by omega
  unfold mfX
  rw [up2_o (by decide), up2_n e, up2_n e, up2_o (by decide)]
theorem mf_sX {M : Mm} {b : Int} {d : Nat} {x y : Int} : mfX (up2 (up2 M 13 (8 * b + d).toNat x) 14 (8 * b + d).toNat y) b d = (x, y) := by
  unfold mfX
  rw [up2_o (by decide), up2_s, up2_s]
