/-! SagMemory: one away, one frost more, by another law -/
theorem abs_cX {M : Mm} {x : Int} : cX (up2 M 0 25 x) = absC (cX M) x := by
  funext i j
  match i with
  | 0 =>
    show (if j = 0 then up2 M 0 25 x 0 10 - 2 else if j = 1 then up2 M 0 25 x 0 24 else up2 M 0 25 x 0 25) = (if (0 : Nat) = 0 ∧ 2 ≤ j then x else (if j = 0 then M 0 10 - 2 else if j = 1 then M 0 24 else M 0 25))
    rw [up2_n (by decide), up2_n (by decide), up2_s]
    by_cases h0 : j = 0
    · rw [if_pos h0, if_neg (by omega), if_pos h0]
    · by_cases h1 : j = 1
      · rw [if_neg h0, if_pos h1, if_neg (by omega), if_neg h0, if_pos h1]
      · rw [if_neg h0, if_neg h1, if_pos ⟨rfl, by omega⟩]
  | 1 => rfl
  | 2 => rfl
  | 3 => rfl
  | i + 4 => rfl
theorem frs_cX {M : Mm} {x : Int} : cX (up2 M 0 24 x) = up2 (cX M) 0 1 x := by
  funext i j
  match i with
  | 0 =>
    show (if j = 0 then up2 M 0 24 x 0 10 - 2 else if j = 1 then up2 M 0 24 x 0 24 else up2 M 0 24 x 0 25) = (if (0 : Nat) = 0 ∧ j = 1 then x else (if j = 0 then M 0 10 - 2 else if j = 1 then M 0 24 else M 0 25))
    rw [up2_n (by decide), up2_s, up2_n (by decide)]
    by_cases h0 : j = 0
    · rw [if_pos h0, if_neg (by omega), if_pos h0]
    · by_cases h1 : j = 1
      · rw [if_neg h0, if_pos h1, if_pos ⟨rfl, h1⟩]
      · rw [if_neg h0, if_neg h1, if_neg (by omega), if_neg h0, if_neg h1]
  | 1 => rfl
  | 2 => rfl
  | 3 => rfl
  | i + 4 => rfl
theorem law_cX {M : Mm} {x : Int} : cX (up2 M 0 10 x) = up2 (cX M) 0 0 (x - 2) := by
  funext i j
  match i with
  | 0 =>
    show (if j = 0 then up2 M 0 10 x 0 10 - 2 else if j = 1 then up2 M 0 10 x 0 24 else up2 M 0 10 x 0 25) = (if (0 : Nat) = 0 ∧ j = 0 then x - 2 else (if j = 0 then M 0 10 - 2 else if j = 1 then M 0 24 else M 0 25))
    rw [up2_s, up2_n (by decide), up2_n (by decide)]
    by_cases h0 : j = 0
    · rw [if_pos h0, if_pos ⟨rfl, h0⟩]
    · simp [h0]
  | 1 => rfl
  | 2 => rfl
  | 3 => rfl
  | i + 4 => rfl
theorem abs_abs {C : Cf} {x y : Int} : absC (absC C x) y = absC C y := by
  funext i j
  unfold absC
  split <;> rfl
/-- told but for who is away, for frosts, for the law -/
abbrev exA (V : Vy) (C : Cf) : Prop := absC (nC V C) 0 = absC (tellP V) 0
abbrev exF (V : Vy) (C : Cf) : Prop := up2 (nC V C) 0 1 0 = up2 (tellP V) 0 1 0
abbrev exL (V : Vy) (C : Cf) : Prop := up2 (nC V C) 0 0 0 = up2 (tellP V) 0 0 0
theorem exA_0 {V : Vy} {C : Cf} (h : nC V C = tellP V) : exA V C := by unfold exA; rw [h]
theorem exF_0 {V : Vy} {C : Cf} (h : nC V C = tellP V) : exF V C := by unfold exF; rw [h]
theorem exL_0 {V : Vy} {C : Cf} (h : nC V C = tellP V) : exL V C := by unfold exL; rw [h]
theorem exA_s {V : Vy} {C : Cf} {x : Int} (h : nC V C = absC (tellP V) x) : exA V C := by unfold exA; rw [h, abs_abs]
theorem exF_s {V : Vy} {C : Cf} {x : Int} (h : nC V C = frsC V x) : exF V C := by unfold exF; rw [h, up2_u]
theorem exL_s {V : Vy} {C : Cf} {x : Int} (h : nC V C = lawC V x) : exL V C := by unfold exL; rw [h, up2_u]
theorem exA_u {V : Vy} {M : Mm} (h : exA V (cX M)) (x : Int) : nC V (cX (up2 M 0 25 x)) = absC (tellP V) x := by
  rw [abs_cX, nC_abs, ← abs_abs (x := 0), h, abs_abs]
theorem exF_u {V : Vy} {M : Mm} (h : exF V (cX M)) (x : Int) : nC V (cX (up2 M 0 24 x)) = frsC V x := by
  rw [frs_cX, nC_u, ← up2_u (x := 0), h, up2_u]
theorem exL_u {V : Vy} {M : Mm} (h : exL V (cX M)) (x : Int) : nC V (cX (up2 M 0 10 (x + 2))) = lawC V x := by
  rw [law_cX, nC_u, ← up2_u (x := 0), h, up2_u, show x + 2 - 2 = x by omega]
theorem layS_pre {rs : List (Nat × Nat)} {M M1 : Mm} {C : Cf} (hP : okX M) (hk : keepX M M1) (hC : nC (vX M) (cX M1) = C) (hok : okCf (vX M) C) : P0_laysSag rs M1 := by
  have eV := keepX_v hk
  refine ⟨by rw [eV]; exact hP.1, ?_, keepX_b hk hP.2⟩
  rw [eV]
  exact okCf_un (by rw [hC]; exact hok)
theorem layS_use {rs : List (Nat × Nat)} {M M1 M2 : Mm} {C : Cf} {v : Int} (hk : keepX M M1) (hC : nC (vX M) (cX M1) = C) (hR : R0_laysSag rs M1 v M2) : keepX M M2 ∧ nC (vX M) (cX M2) = C ∧ ranX (vX M) C M2 ∧ v = sagF (vX M) C := by
  obtain ⟨r1, r2, r3, r4⟩ := hR
  have eV := keepX_v hk
  have eN : nX M1 = C := by
    show nC (vX M1) (cX M1) = _
    rw [eV, hC]
  rw [eV, eN] at r3 r4
  refine ⟨keepX_tr hk (keepX_run r1 r2), ?_, r3, r4⟩
  rw [cX_e r2.2 (r1 _ (by decide)) (r1 _ (by decide)) (r1 _ (by decide)), hC]
theorem allS_pre {M M1 : Mm} {C : Cf} (hP : okX M) (e1 : M1 1 = M 1) (h : ranX (vX M) C M1) : (0 ≤ M1 1 4 ∧ M1 1 4 ≤ 3) ∧ ∀ b : Nat, (b : Int) < M1 1 4 → okBX M1 b := by
  rw [e1]
  exact ⟨(okY_n hP.1).1, fun b hb => (h.1 b hb).1⟩
theorem allS_val {M M1 : Mm} {C : Cf} (e1 : M1 1 = M 1) (h : ranX (vX M) C M1) : sumN (fun b => sagP (mbX M1 b)) (M1 1 4).toNat = sagF (vX M) C := by
  rw [e1]
  exact sag_outX h
def P0_spared (rs : List (Nat × Nat)) (c : Int) (M : Mm) : Prop := okX M
def R0_spared (rs : List (Nat × Nat)) (c : Int) (M : Mm) (v : Int) (M1 : Mm) : Prop := keepX M M1 ∧ v = A_spared (vX M) c
def sp0_spared (rs : List (Nat × Nat)) : Spec := spR true [0] 1 (fun x M => P0_spared rs (x 0) M) (fun x M v M1 => R0_spared rs (x 0) M v M1)
theorem c0_spared {rs : List (Nat × Nat)} {c : Int} {M : Mm} {Q : Option AV → Mm → Prop} : sp0_spared rs [ar 0, ai c] M Q = (P0_spared rs c M ∧ ∀ (v : Int) (M1 : Mm), R0_spared rs c M v M1 → Q (some (ai v)) M1) := rfl
def cs0_spared (rs : List (Nat × Nat)) : List (Nat × Nat × Nat × Spec) := [(263, 1, 2, (sp0_asksCart rs)), (267, 1, 1, (sp0_allSag rs)), (294, 1, 1, (sp0_laysSag rs))]
set_option maxHeartbeats 4000000 in
set_option maxRecDepth 100000 in
theorem in0_spared {rs : List (Nat × Nat)} {c : Int} {M : Mm} {Q : Option AV → Mm → Prop} (hM : okM (sh8 rs) M) (h_c : i32 c) (hP : P0_spared rs c M) (hQ : ∀ (v : Int) (M1 : Mm), R0_spared rs c M v M1 → Q (some (ai v)) M1) : wp (tb0 (csL (cs0_spared rs))) (sh8 rs) 3 1 cX0_spared [] Q 400 0 [(0, ar 0), (1, ai c)] [] M := by
  simp only [e_wp dX0_spared_0 rfl, e_wp dX0_spared_1 rfl, e_wp dX0_spared_2 rfl, e_wp dX0_spared_5 rfl, e_wp dX0_spared_8 rfl, e_wp dX0_spared_11 rfl, e_wp dX0_spared_12 rfl, e_wp dX0_spared_13 rfl, e_wp dX0_spared_16 rfl, e_wp dX0_spared_17 rfl, e_wp dX0_spared_18 rfl, e_wp dX0_spared_19 rfl, e_wp dX0_spared_20 rfl, e_wp dX0_spared_21 rfl, e_wp dX0_spared_24 rfl, e_wp dX0_spared_25 rfl, e_wp dX0_spared_26 rfl, e_wp dX0_spared_29 rfl, e_wp dX0_spared_30 rfl, c0_asksCart, cs0_spared, c0_allSag, P0_allSag, V0_allSag, p0_204, c0_laysSag, e_iconst, e_bipush, e_sipush, e_lconst_0, e_lconst_1, e_iload, e_iload_0, e_iload_1, e_iload_2, e_iload_3, e_lload, e_lload_0, e_lload_1, e_lload_2, e_lload_3, e_aload, e_aload_0, e_aload_1, e_aload_2, e_aload_3, e_istore, e_istore_0, e_istore_1, e_istore_2, e_istore_3, e_astore, e_astore_0, e_astore_1, e_astore_2, e_astore_3, e_lstore, e_lstore_0, e_lstore_1, e_lstore_2, e_lstore_3, e_iinc, e_iadd, e_isub, e_imul, e_ladd, e_lsub, e_lmul, e_idiv, e_irem, e_ldiv, e_lrem, e_ineg, e_lneg, e_iand, e_ior, e_ixor, e_ishl, e_ishr, e_iushr, e_lcmp, e_i2l, e_l2i, e_i2b, e_i2s, e_dup_i, e_dup_r, e_pop_i, e_pop_r, e_dup2_l, e_dup2_ir, e_dup2_ii, e_ifeq, e_ifne, e_iflt, e_ifge, e_ifgt, e_ifle, e_iceq, e_icne, e_iclt, e_icge, e_icgt, e_icle, e_goto, e_switch, e_invokevirtual, e_invokestatic, e_invokespecial, e_ret0, e_ret1, e_ret2, e_ret3, ldI_s, ldL_s, ldR_s, clO_s, ctP_s, ctS_s, mgo_0, mgo_s, pjc_s, pj_0, pj_s, lk_s, rm1_0, rm1_i, rm1_r, rm1_l, rm2_0, rm2_i, rm2_r, rm2_l, csL_s, lc_lt, lc_ge, lc_gt, lc_le, lc_eq, b01_0, b01_1, b01_01, b01_n, up2_o, up2_s, up2_u, ne_eq, reduceCtorEq, Nat.reduceAdd, Nat.reduceEqDiff, Nat.reduceLT, Nat.reduceLeDiff, Int.reduceLE, Int.reduceLT, Int.reduceAdd, Int.reduceNeg, Int.reduceMul, Int.reduceSub, Int.reduceEq, Int.reduceToNat, Int.reduceNatCast, Int.cast_ofNat_Int, ↓reduceIte, and_self, List.drop_succ_cons, List.drop_zero, List.take_succ_cons, List.take_zero, List.length_cons, List.length_nil, List.reverse_cons, List.reverse_nil, List.nil_append, List.cons_append, Option.toList, true_and, and_true, or_false, false_or, or_true, true_or, forall_const, Classical.not_not, not_false_eq_true, not_true_eq_false, false_implies, true_implies, implies_true, imp_self]
  refine ⟨hP, fun v M1 hR => ?_⟩
  obtain ⟨r1, r2, r3⟩ := hR
  refine ⟨fun z => ?_, fun z => hQ _ _ ⟨r1, ?_⟩⟩
  · rw [r2, b01_0] at z
    have q := Classical.not_not.mp z
    have e1 := keepX_1 r1
    rw [allS_val e1 r3.2]
    have k3 : keepX M (up2 M1 0 25 (bshl 1 c)) := keepX_u r1 (by decide) (by decide)
    have k4 := exA_u (exA_0 r3.1) (bshl 1 c)
    have b1 := sagT_b hP.1
    have b2 := sagA_b hP.1 (x := bshl 1 c)
    refine ⟨allS_pre hP e1 r3.2, layS_pre hP k3 k4 (okCf_abs (okCf_tell hP.1)), fun v2 M2 hR2 => ?_⟩
    obtain ⟨s1, -, -, s2⟩ := layS_use k3 k4 hR2
    have b1 : 0 ≤ sagF (vX M) (tellP (vX M)) ∧ sagF (vX M) (tellP (vX M)) ≤ 2376 := b1
    rw [s2]
    refine ⟨by omega, hQ _ _ ⟨s1, ?_⟩⟩
    exact (if_pos q).symm
  · rw [r2, b01_0] at z
    exact (if_neg z).symm
set_option maxHeartbeats 4000000 in
set_option maxRecDepth 100000 in
theorem m0_spared {rs : List (Nat × Nat)} : MOK cl8 (sh8 rs) tyl8 Nws8 8 yX0_spared cX0_spared 3 (some .int) (sp0_spared rs) := by
  refine mok_of (own := RX0) (tb := tb0 (csL (cs0_spared rs))) (rt := 1) (fuel := 400) (fun avs M Q => []) (by decide) rfl nws8_ok (tbOK0 _) rfl (csL_all ?_) ?_ ?_ ?_
  · intro q hq
    simp only [cs0_spared, List.mem_cons, List.not_mem_nil, or_false] at hq
    rcases hq with rfl | rfl | rfl
    · exact cg0_asksCart (by decide)
    · exact cg0_allSag (by decide)
    · exact cg0_laysSag (by decide)
  · intro avs M Q hsp
    obtain ⟨xs, hx⟩ := spR_un _ _ _ hsp
    obtain ⟨e, hl⟩ := unA_mkT hx
    obtain ⟨c, rfl⟩ := len1 hl
    have e : avs = [ar 0, ai c] := e
    subst e
    simp [szL, isL]
  · intro avs M Q hM hav hsp
    obtain ⟨xs, hx⟩ := spR_un _ _ _ hsp
    obtain ⟨e, hl⟩ := unA_mkT hx
    obtain ⟨c, rfl⟩ := len1 hl
    have e : avs = [ar 0, ai c] := e
    subst e
    exact in0_spared hM (hav (ai c) (by simp)) hsp.1 hsp.2
  · intro avs M Q hM hav hsp q hq m_ vs M1 hM1 hv hJ
    obtain ⟨xs, hx⟩ := spR_un _ _ _ hsp
    obtain ⟨e, hl⟩ := unA_mkT hx
    obtain ⟨c, rfl⟩ := len1 hl
    have e : avs = [ar 0, ai c] := e
    subst e
    cases hq
def P0_worst (rs : List (Nat × Nat)) (M : Mm) : Prop := okX M
def R0_worst (rs : List (Nat × Nat)) (M : Mm) (v : Int) (M1 : Mm) : Prop := keepX M M1 ∧ v = A_worst (vX M)
def sp0_worst (rs : List (Nat × Nat)) : Spec := spR true [] 1 (fun x M => P0_worst rs M) (fun x M v M1 => R0_worst rs M v M1)
theorem c0_worst {rs : List (Nat × Nat)} {M : Mm} {Q : Option AV → Mm → Prop} : sp0_worst rs [ar 0] M Q = (P0_worst rs M ∧ ∀ (v : Int) (M1 : Mm), R0_worst rs M v M1 → Q (some (ai v)) M1) := rfl
def cs0_worst (rs : List (Nat × Nat)) : List (Nat × Nat × Nat × Spec) := [(260, 1, 1, (sp0_asksValley rs)), (267, 1, 1, (sp0_allSag rs)), (294, 1, 1, (sp0_laysSag rs))]
def J0_worst_19 (rs : List (Nat × Nat)) (M : Mm) (m : Nat) (best : Int) (least : Int) (c : Int) (M1 : Mm) : Prop := 0 < vX M 0 8 ∧ keepX M M1 ∧ exA (vX M) (cX M1) ∧ ∃ a : Nat, c = a ∧ (a : Int) ≤ M 1 5 ∧ (best, least) = bestN (fun c => sagF (vX M) (absC (tellP (vX M)) (bshl 1 c))) (sagT (vX M)) a ∧ m = 7 - a
set_option maxHeartbeats 4000000 in
set_option maxRecDepth 100000 in
theorem in0_worst {rs : List (Nat × Nat)} {M : Mm} {Q : Option AV → Mm → Prop} (hM : okM (sh8 rs) M) (hP : P0_worst rs M) (hQ : ∀ (v : Int) (M1 : Mm), R0_worst rs M v M1 → Q (some (ai v)) M1) (I_19 : List AV → Mm → Prop) (hI_19 : ∀ (m_ : Nat) (y_best : Int) (y_least : Int) (y_c : Int) (M2 : Mm), J0_worst_19 rs M m_ y_best y_least y_c M2 → I_19 [ar 0, ai y_best, ai y_least, ai y_c] M2) : wp (tb0 (csL (cs0_worst rs))) (sh8 rs) 5 1 cX0_worst [(19, [0, 1, 2, 3], I_19)] Q 400 0 [(0, ar 0)] [] M := by
  have h4 : 0 ≤ M 1 5 ∧ M 1 5 ≤ 7 := (okY_n hP.1).2.1
  simp only [e_wp dX0_worst_0 rfl, e_wp dX0_worst_1 rfl, e_wp dX0_worst_4 rfl, e_wp dX0_worst_7 rfl, e_wp dX0_worst_9 rfl, e_wp dX0_worst_10 rfl, e_wp dX0_worst_11 rfl, e_wp dX0_worst_12 rfl, e_wp dX0_worst_13 rfl, e_wp dX0_worst_16 rfl, e_wp dX0_worst_17 rfl, e_wp dX0_worst_18 rfl, e_wp dX0_worst_19 rfl, e_wp dX0_worst_20 rfl, e_wp dX0_worst_21 rfl, e_wp dX0_worst_24 rfl, e_wp dX0_worst_27 rfl, e_wp dX0_worst_30 rfl, e_wp dX0_worst_31 rfl, e_wp dX0_worst_32 rfl, e_wp dX0_worst_33 rfl, e_wp dX0_worst_34 rfl, e_wp dX0_worst_37 rfl, e_wp dX0_worst_38 rfl, e_wp dX0_worst_41 rfl, e_wp dX0_worst_43 rfl, e_wp dX0_worst_45 rfl, e_wp dX0_worst_46 rfl, e_wp dX0_worst_49 rfl, e_wp dX0_worst_52 rfl, e_wp dX0_worst_54 rfl, e_wp dX0_worst_55 rfl, e_wp dX0_worst_56 rfl, e_wp dX0_worst_57 rfl, e_wp dX0_worst_60 rfl, e_wp dX0_worst_63 rfl, e_wp dX0_worst_64 rfl, c0_asksValley, cs0_worst, c0_allSag, P0_allSag, V0_allSag, g0_10, g0_156, p0_204, c0_laysSag, e_iconst, e_bipush, e_sipush, e_lconst_0, e_lconst_1, e_iload, e_iload_0, e_iload_1, e_iload_2, e_iload_3, e_lload, e_lload_0, e_lload_1, e_lload_2, e_lload_3, e_aload, e_aload_0, e_aload_1, e_aload_2, e_aload_3, e_istore, e_istore_0, e_istore_1, e_istore_2, e_istore_3, e_astore, e_astore_0, e_astore_1, e_astore_2, e_astore_3, e_lstore, e_lstore_0, e_lstore_1, e_lstore_2, e_lstore_3, e_iinc, e_iadd, e_isub, e_imul, e_ladd, e_lsub, e_lmul, e_idiv, e_irem, e_ldiv, e_lrem, e_ineg, e_lneg, e_iand, e_ior, e_ixor, e_ishl, e_ishr, e_iushr, e_lcmp, e_i2l, e_l2i, e_i2b, e_i2s, e_dup_i, e_dup_r, e_pop_i, e_pop_r, e_dup2_l, e_dup2_ir, e_dup2_ii, e_ifeq, e_ifne, e_iflt, e_ifge, e_ifgt, e_ifle, e_iceq, e_icne, e_iclt, e_icge, e_icgt, e_icle, e_goto, e_switch, e_invokevirtual, e_invokestatic, e_invokespecial, e_ret0, e_ret1, e_ret2, e_ret3, ldI_s, ldL_s, ldR_s, clO_s, ctP_s, ctS_s, mgo_0, mgo_s, pjc_s, pj_0, pj_s, lk_s, rm1_0, rm1_i, rm1_r, rm1_l, rm2_0, rm2_i, rm2_r, rm2_l, csL_s, lc_lt, lc_ge, lc_gt, lc_le, lc_eq, b01_0, b01_1, b01_01, b01_n, up2_o, up2_s, up2_u, ne_eq, reduceCtorEq, Nat.reduceAdd, Nat.reduceEqDiff, Nat.reduceLT, Nat.reduceLeDiff, Int.reduceLE, Int.reduceLT, Int.reduceAdd, Int.reduceNeg, Int.reduceMul, Int.reduceSub, Int.reduceEq, Int.reduceToNat, Int.reduceNatCast, Int.cast_ofNat_Int, ↓reduceIte, and_self, List.drop_succ_cons, List.drop_zero, List.take_succ_cons, List.take_zero, List.length_cons, List.length_nil, List.reverse_cons, List.reverse_nil, List.nil_append, List.cons_append, Option.toList, true_and, and_true, or_false, false_or, or_true, true_or, forall_const, Classical.not_not, not_false_eq_true, not_true_eq_false, false_implies, true_implies, implies_true, imp_self]
  refine ⟨hP, fun v M1 hR => ?_⟩
  obtain ⟨r1, r2, r3⟩ := hR
  refine ⟨fun z => ?_, fun z => hQ _ _ ⟨r1, ?_⟩⟩
  · rw [r2, b01_0] at z
    have q := Classical.not_not.mp z
    have e1 := keepX_1 r1
    rw [allS_val e1 r3.2]
    exact ⟨allS_pre hP e1 r3.2, hI_19 _ _ _ _ _ ⟨q, r1, exA_0 r3.1, 0, rfl, h4.1, rfl, rfl⟩⟩
  · rw [r2, b01_0] at z
    exact (if_neg z).symm
set_option maxHeartbeats 4000000 in
set_option maxRecDepth 100000 in
theorem at0_worst_19 {rs : List (Nat × Nat)} {M : Mm} {Q : Option AV → Mm → Prop} (hM : okM (sh8 rs) M) (hP : P0_worst rs M) (hQ : ∀ (v : Int) (M1 : Mm), R0_worst rs M v M1 → Q (some (ai v)) M1) {m : Nat} {best least c : Int} {M1 : Mm} (hM1 : okM (sh8 rs) M1) (h_best : i32 best) (h_least : i32 least) (h_c : i32 c) (hJ : J0_worst_19 rs M m best least c M1) (I_19 : List AV → Mm → Prop) (hI_19 : ∀ (m_ : Nat) (y_best : Int) (y_least : Int) (y_c : Int) (M2 : Mm), m_ < m → J0_worst_19 rs M m_ y_best y_least y_c M2 → I_19 [ar 0, ai y_best, ai y_least, ai y_c] M2) : wp (tb0 (csL (cs0_worst rs))) (sh8 rs) 5 1 cX0_worst [(19, [0, 1, 2, 3], I_19)] Q 400 19 [(0, ar 0), (1, ai best), (2, ai least), (3, ai c)] [] M1 := by
  obtain ⟨hq, hk, hC, a, rfl, ha, hb, rfl⟩ := hJ
  have h4 : 0 ≤ M 1 5 ∧ M 1 5 ≤ 7 := (okY_n hP.1).2.1
  have e1 := keepX_1 hk
  have b2 := sagA_b hP.1 (x := bshl 1 a)
  have k3 : keepX M (up2 M1 0 25 (bshl 1 a)) := keepX_u hk (by decide) (by decide)
  have k4 := exA_u hC (bshl 1 a)
  simp only [e_wp dX0_worst_0 rfl, e_wp dX0_worst_1 rfl, e_wp dX0_worst_4 rfl, e_wp dX0_worst_7 rfl, e_wp dX0_worst_9 rfl, e_wp dX0_worst_10 rfl, e_wp dX0_worst_11 rfl, e_wp dX0_worst_12 rfl, e_wp dX0_worst_13 rfl, e_wp dX0_worst_16 rfl, e_wp dX0_worst_17 rfl, e_wp dX0_worst_18 rfl, e_wp dX0_worst_19 rfl, e_wp dX0_worst_20 rfl, e_wp dX0_worst_21 rfl, e_wp dX0_worst_24 rfl, e_wp dX0_worst_27 rfl, e_wp dX0_worst_30 rfl, e_wp dX0_worst_31 rfl, e_wp dX0_worst_32 rfl, e_wp dX0_worst_33 rfl, e_wp dX0_worst_34 rfl, e_wp dX0_worst_37 rfl, e_wp dX0_worst_38 rfl, e_wp dX0_worst_41 rfl, e_wp dX0_worst_43 rfl, e_wp dX0_worst_45 rfl, e_wp dX0_worst_46 rfl, e_wp dX0_worst_49 rfl, e_wp dX0_worst_52 rfl, e_wp dX0_worst_54 rfl, e_wp dX0_worst_55 rfl, e_wp dX0_worst_56 rfl, e_wp dX0_worst_57 rfl, e_wp dX0_worst_60 rfl, e_wp dX0_worst_63 rfl, e_wp dX0_worst_64 rfl, c0_asksValley, cs0_worst, c0_allSag, P0_allSag, V0_allSag, g0_10, g0_156, p0_204, c0_laysSag, e_iconst, e_bipush, e_sipush, e_lconst_0, e_lconst_1, e_iload, e_iload_0, e_iload_1, e_iload_2, e_iload_3, e_lload, e_lload_0, e_lload_1, e_lload_2, e_lload_3, e_aload, e_aload_0, e_aload_1, e_aload_2, e_aload_3, e_istore, e_istore_0, e_istore_1, e_istore_2, e_istore_3, e_astore, e_astore_0, e_astore_1, e_astore_2, e_astore_3, e_lstore, e_lstore_0, e_lstore_1, e_lstore_2, e_lstore_3, e_iinc, e_iadd, e_isub, e_imul, e_ladd, e_lsub, e_lmul, e_idiv, e_irem, e_ldiv, e_lrem, e_ineg, e_lneg, e_iand, e_ior, e_ixor, e_ishl, e_ishr, e_iushr, e_lcmp, e_i2l, e_l2i, e_i2b, e_i2s, e_dup_i, e_dup_r, e_pop_i, e_pop_r, e_dup2_l, e_dup2_ir, e_dup2_ii, e_ifeq, e_ifne, e_iflt, e_ifge, e_ifgt, e_ifle, e_iceq, e_icne, e_iclt, e_icge, e_icgt, e_icle, e_goto, e_switch, e_invokevirtual, e_invokestatic, e_invokespecial, e_ret0, e_ret1, e_ret2, e_ret3, ldI_s, ldL_s, ldR_s, clO_s, ctP_s, ctS_s, mgo_0, mgo_s, pjc_s, pj_0, pj_s, lk_s, rm1_0, rm1_i, rm1_r, rm1_l, rm2_0, rm2_i, rm2_r, rm2_l, csL_s, lc_lt, lc_ge, lc_gt, lc_le, lc_eq, b01_0, b01_1, b01_01, b01_n, up2_o, up2_s, up2_u, ne_eq, reduceCtorEq, Nat.reduceAdd, Nat.reduceEqDiff, Nat.reduceLT, Nat.reduceLeDiff, Int.reduceLE, Int.reduceLT, Int.reduceAdd, Int.reduceNeg, Int.reduceMul, Int.reduceSub, Int.reduceEq, Int.reduceToNat, Int.reduceNatCast, Int.cast_ofNat_Int, ↓reduceIte, and_self, List.drop_succ_cons, List.drop_zero, List.take_succ_cons, List.take_zero, List.length_cons, List.length_nil, List.reverse_cons, List.reverse_nil, List.nil_append, List.cons_append, Option.toList, true_and, and_true, or_false, false_or, or_true, true_or, forall_const, Classical.not_not, not_false_eq_true, not_true_eq_false, false_implies, true_implies, implies_true, imp_self]
  rw [e1]
  refine ⟨fun q => ?_, fun q => ⟨layS_pre hP k3 k4 (okCf_abs (okCf_tell hP.1)), fun v2 M2 hR2 => ?_⟩⟩
  · refine hQ _ _ ⟨hk, ?_⟩
    rw [show A_worst (vX M) = _ from if_pos hq, show (vX M 0 4).toNat = a by show (M 1 5).toNat = a; omega, ← hb]
  · obtain ⟨s1, s3, -, s2⟩ := layS_use k3 k4 hR2
    have el : (bestN (fun c => sagF (vX M) (absC (tellP (vX M)) (bshl 1 c))) (sagT (vX M)) a).2 = least := (congrArg Prod.snd hb).symm
    refine ⟨fun z => ⟨by omega, ?_⟩, fun z => ⟨by omega, ?_⟩⟩
    · refine hI_19 (7 - (a + 1)) _ _ _ _ (by omega) ⟨hq, s1, exA_s s3, a + 1, by omega, by omega, ?_, rfl⟩
      first | (rw [bestN_1 (by rw [el]; show sagF _ _ < _; omega)]; rw [s2]) | (rw [bestN_0 (by rw [el]; show ¬ sagF _ _ < _; omega)]; exact hb)
    · refine hI_19 (7 - (a + 1)) _ _ _ _ (by omega) ⟨hq, s1, exA_s s3, a + 1, by omega, by omega, ?_, rfl⟩
      first | (rw [bestN_1 (by rw [el]; show sagF _ _ < _; omega)]; rw [s2]) | (rw [bestN_0 (by rw [el]; show ¬ sagF _ _ < _; omega)]; exact hb)
set_option maxHeartbeats 4000000 in
set_option maxRecDepth 100000 in
theorem m0_worst {rs : List (Nat × Nat)} : MOK cl8 (sh8 rs) tyl8 Nws8 7 yX0_worst cX0_worst 5 (some .int) (sp0_worst rs) := by
  refine mok_of (own := RX0) (tb := tb0 (csL (cs0_worst rs))) (rt := 1) (fuel := 400) (fun avs M Q => [(19, [0, 1, 2, 3], fun m_ vs M1 => ∃ y_best : Int, ∃ y_least : Int, ∃ y_c : Int, vs = [ar 0, ai y_best, ai y_least, ai y_c] ∧ J0_worst_19 rs M m_ y_best y_least y_c M1)]) (by decide) rfl nws8_ok (tbOK0 _) rfl (csL_all ?_) ?_ ?_ ?_
  · intro q hq
    simp only [cs0_worst, List.mem_cons, List.not_mem_nil, or_false] at hq
    rcases hq with rfl | rfl | rfl
    · exact cg0_asksValley (by decide)
    · exact cg0_allSag (by decide)
    · exact cg0_laysSag (by decide)
  · intro avs M Q hsp
    obtain ⟨xs, hx⟩ := spR_un _ _ _ hsp
    obtain ⟨e, hl⟩ := unA_mkT hx
    obtain rfl := len0 hl
    have e : avs = [ar 0] := e
    subst e
    simp [szL, isL]
  · intro avs M Q hM hav hsp
    obtain ⟨xs, hx⟩ := spR_un _ _ _ hsp
    obtain ⟨e, hl⟩ := unA_mkT hx
    obtain rfl := len0 hl
    have e : avs = [ar 0] := e
    subst e
    exact in0_worst hM hsp.1 hsp.2 _ (fun m_ y_best y_least y_c M2 hJ => ⟨m_, y_best, y_least, y_c, rfl, hJ⟩)
  · intro avs M Q hM hav hsp q hq m_ vs M1 hM1 hv hJ
    obtain ⟨xs, hx⟩ := spR_un _ _ _ hsp
    obtain ⟨e, hl⟩ := unA_mkT hx
    obtain rfl := len0 hl
    have e : avs = [ar 0] := e
    subst e
    simp only [List.mem_cons, List.not_mem_nil, or_false] at hq
    rcases hq with rfl
    · obtain ⟨y_best, y_least, y_c, rfl, hJ⟩ := hJ
      exact at0_worst_19 hM hsp.1 hsp.2 hM1 (hv (1, ai y_best) (List.mem_of_getElem? (i := 1) rfl)) (hv (2, ai y_least) (List.mem_of_getElem? (i := 2) rfl)) (hv (3, ai y_c) (List.mem_of_getElem? (i := 3) rfl)) hJ _ (fun m2 z_best z_least z_c M2 hm hJ2 => ⟨m2, hm, z_best, z_least, z_c, rfl, hJ2⟩)
def P0_forget (rs : List (Nat × Nat)) (M : Mm) : Prop := okX M
def R0_forget (rs : List (Nat × Nat)) (M : Mm) (v : Int) (M1 : Mm) : Prop := keepX M M1 ∧ v = A_forget (vX M)
def sp0_forget (rs : List (Nat × Nat)) : Spec := spR true [] 1 (fun x M => P0_forget rs M) (fun x M v M1 => R0_forget rs M v M1)
theorem c0_forget {rs : List (Nat × Nat)} {M : Mm} {Q : Option AV → Mm → Prop} : sp0_forget rs [ar 0] M Q = (P0_forget rs M ∧ ∀ (v : Int) (M1 : Mm), R0_forget rs M v M1 → Q (some (ai v)) M1) := rfl
def cs0_forget (rs : List (Nat × Nat)) : List (Nat × Nat × Nat × Spec) := [(260, 1, 1, (sp0_asksValley rs)), (267, 1, 1, (sp0_allSag rs)), (294, 1, 1, (sp0_laysSag rs))]
def J0_forget_25 (rs : List (Nat × Nat)) (M : Mm) (m : Nat) (best : Int) (least : Int) (w : Int) (c : Int) (M1 : Mm) : Prop := 0 < vX M 0 8 ∧ w = tellP (vX M) 0 1 ∧ keepX M M1 ∧ exF (vX M) (cX M1) ∧ ∃ a : Nat, c = a ∧ (a : Int) ≤ M 1 5 ∧ (best, least) = bestN (fun t => forF (vX M) t) (sagT (vX M)) a ∧ m = 7 - a
set_option maxHeartbeats 4000000 in
set_option maxRecDepth 100000 in
theorem in0_forget {rs : List (Nat × Nat)} {M : Mm} {Q : Option AV → Mm → Prop} (hM : okM (sh8 rs) M) (hP : P0_forget rs M) (hQ : ∀ (v : Int) (M1 : Mm), R0_forget rs M v M1 → Q (some (ai v)) M1) (I_25 : List AV → Mm → Prop) (hI_25 : ∀ (m_ : Nat) (y_best : Int) (y_least : Int) (y_w : Int) (y_c : Int) (M2 : Mm), J0_forget_25 rs M m_ y_best y_least y_w y_c M2 → I_25 [ar 0, ai y_best, ai y_least, ai y_w, ai y_c] M2) : wp (tb0 (csL (cs0_forget rs))) (sh8 rs) 6 1 cX0_forget [(25, [0, 1, 2, 3, 4], I_25)] Q 400 0 [(0, ar 0)] [] M := by
  have h4 : 0 ≤ M 1 5 ∧ M 1 5 ≤ 7 := (okY_n hP.1).2.1
  simp only [e_wp dX0_forget_0 rfl, e_wp dX0_forget_1 rfl, e_wp dX0_forget_4 rfl, e_wp dX0_forget_7 rfl, e_wp dX0_forget_9 rfl, e_wp dX0_forget_10 rfl, e_wp dX0_forget_11 rfl, e_wp dX0_forget_12 rfl, e_wp dX0_forget_13 rfl, e_wp dX0_forget_16 rfl, e_wp dX0_forget_17 rfl, e_wp dX0_forget_18 rfl, e_wp dX0_forget_21 rfl, e_wp dX0_forget_22 rfl, e_wp dX0_forget_23 rfl, e_wp dX0_forget_25 rfl, e_wp dX0_forget_27 rfl, e_wp dX0_forget_28 rfl, e_wp dX0_forget_31 rfl, e_wp dX0_forget_34 rfl, e_wp dX0_forget_37 rfl, e_wp dX0_forget_38 rfl, e_wp dX0_forget_39 rfl, e_wp dX0_forget_40 rfl, e_wp dX0_forget_42 rfl, e_wp dX0_forget_43 rfl, e_wp dX0_forget_44 rfl, e_wp dX0_forget_47 rfl, e_wp dX0_forget_48 rfl, e_wp dX0_forget_51 rfl, e_wp dX0_forget_53 rfl, e_wp dX0_forget_55 rfl, e_wp dX0_forget_56 rfl, e_wp dX0_forget_59 rfl, e_wp dX0_forget_62 rfl, e_wp dX0_forget_64 rfl, e_wp dX0_forget_65 rfl, e_wp dX0_forget_67 rfl, e_wp dX0_forget_68 rfl, e_wp dX0_forget_71 rfl, e_wp dX0_forget_74 rfl, e_wp dX0_forget_75 rfl, c0_asksValley, cs0_forget, c0_allSag, P0_allSag, V0_allSag, g0_203, g0_10, g0_156, p0_203, c0_laysSag, e_iconst, e_bipush, e_sipush, e_lconst_0, e_lconst_1, e_iload, e_iload_0, e_iload_1, e_iload_2, e_iload_3, e_lload, e_lload_0, e_lload_1, e_lload_2, e_lload_3, e_aload, e_aload_0, e_aload_1, e_aload_2, e_aload_3, e_istore, e_istore_0, e_istore_1, e_istore_2, e_istore_3, e_astore, e_astore_0, e_astore_1, e_astore_2, e_astore_3, e_lstore, e_lstore_0, e_lstore_1, e_lstore_2, e_lstore_3, e_iinc, e_iadd, e_isub, e_imul, e_ladd, e_lsub, e_lmul, e_idiv, e_irem, e_ldiv, e_lrem, e_ineg, e_lneg, e_iand, e_ior, e_ixor, e_ishl, e_ishr, e_iushr, e_lcmp, e_i2l, e_l2i, e_i2b, e_i2s, e_dup_i, e_dup_r, e_pop_i, e_pop_r, e_dup2_l, e_dup2_ir, e_dup2_ii, e_ifeq, e_ifne, e_iflt, e_ifge, e_ifgt, e_ifle, e_iceq, e_icne, e_iclt, e_icge, e_icgt, e_icle, e_goto, e_switch, e_invokevirtual, e_invokestatic, e_invokespecial, e_ret0, e_ret1, e_ret2, e_ret3, ldI_s, ldL_s, ldR_s, clO_s, ctP_s, ctS_s, mgo_0, mgo_s, pjc_s, pj_0, pj_s, lk_s, rm1_0, rm1_i, rm1_r, rm1_l, rm2_0, rm2_i, rm2_r, rm2_l, csL_s, lc_lt, lc_ge, lc_gt, lc_le, lc_eq, b01_0, b01_1, b01_01, b01_n, up2_o, up2_s, up2_u, ne_eq, reduceCtorEq, Nat.reduceAdd, Nat.reduceEqDiff, Nat.reduceLT, Nat.reduceLeDiff, Int.reduceLE, Int.reduceLT, Int.reduceAdd, Int.reduceNeg, Int.reduceMul, Int.reduceSub, Int.reduceEq, Int.reduceToNat, Int.reduceNatCast, Int.cast_ofNat_Int, ↓reduceIte, and_self, List.drop_succ_cons, List.drop_zero, List.take_succ_cons, List.take_zero, List.length_cons, List.length_nil, List.reverse_cons, List.reverse_nil, List.nil_append, List.cons_append, Option.toList, true_and, and_true, or_false, false_or, or_true, true_or, forall_const, Classical.not_not, not_false_eq_true, not_true_eq_false, false_implies, true_implies, implies_true, imp_self]
  refine ⟨hP, fun v M1 hR => ?_⟩
  obtain ⟨r1, r2, r3⟩ := hR
  refine ⟨fun z => ?_, fun z => hQ _ _ ⟨r1, ?_⟩⟩
  · rw [r2, b01_0] at z
    have q := Classical.not_not.mp z
    have e1 := keepX_1 r1
    have ef : M1 0 24 = tellP (vX M) 0 1 := congrFun (congrFun r3.1 0) 1
    rw [allS_val e1 r3.2]
    exact ⟨allS_pre hP e1 r3.2, hI_25 _ _ _ _ _ _ ⟨q, ef, r1, exF_0 r3.1, 0, rfl, h4.1, rfl, rfl⟩⟩
  · rw [r2, b01_0] at z
    exact (if_neg z).symm
set_option maxHeartbeats 4000000 in
set_option maxRecDepth 100000 in
theorem at0_forget_25 {rs : List (Nat × Nat)} {M : Mm} {Q : Option AV → Mm → Prop} (hM : okM (sh8 rs) M) (hP : P0_forget rs M) (hQ : ∀ (v : Int) (M1 : Mm), R0_forget rs M v M1 → Q (some (ai v)) M1) {m : Nat} {best least w c : Int} {M1 : Mm} (hM1 : okM (sh8 rs) M1) (h_best : i32 best) (h_least : i32 least) (h_w : i32 w) (h_c : i32 c) (hJ : J0_forget_25 rs M m best least w c M1) (I_25 : List AV → Mm → Prop) (hI_25 : ∀ (m_ : Nat) (y_best : Int) (y_least : Int) (y_w : Int) (y_c : Int) (M2 : Mm), m_ < m → J0_forget_25 rs M m_ y_best y_least y_w y_c M2 → I_25 [ar 0, ai y_best, ai y_least, ai y_w, ai y_c] M2) : wp (tb0 (csL (cs0_forget rs))) (sh8 rs) 6 1 cX0_forget [(25, [0, 1, 2, 3, 4], I_25)] Q 400 25 [(0, ar 0), (1, ai best), (2, ai least), (3, ai w), (4, ai c)] [] M1 := by
  obtain ⟨hq, rfl, hk, hC, a, rfl, ha, hb, rfl⟩ := hJ
  have h4 : 0 ≤ M 1 5 ∧ M 1 5 ≤ 7 := (okY_n hP.1).2.1
  have e1 := keepX_1 hk
  have k3 : keepX M (up2 M1 0 24 (bor (tellP (vX M) 0 1) (bshl 1 a))) := keepX_u hk (by decide) (by decide)
  have k4 := exF_u hC (bor (tellP (vX M) 0 1) (bshl 1 a))
  simp only [e_wp dX0_forget_0 rfl, e_wp dX0_forget_1 rfl, e_wp dX0_forget_4 rfl, e_wp dX0_forget_7 rfl, e_wp dX0_forget_9 rfl, e_wp dX0_forget_10 rfl, e_wp dX0_forget_11 rfl, e_wp dX0_forget_12 rfl, e_wp dX0_forget_13 rfl, e_wp dX0_forget_16 rfl, e_wp dX0_forget_17 rfl, e_wp dX0_forget_18 rfl, e_wp dX0_forget_21 rfl, e_wp dX0_forget_22 rfl, e_wp dX0_forget_23 rfl, e_wp dX0_forget_25 rfl, e_wp dX0_forget_27 rfl, e_wp dX0_forget_28 rfl, e_wp dX0_forget_31 rfl, e_wp dX0_forget_34 rfl, e_wp dX0_forget_37 rfl, e_wp dX0_forget_38 rfl, e_wp dX0_forget_39 rfl, e_wp dX0_forget_40 rfl, e_wp dX0_forget_42 rfl, e_wp dX0_forget_43 rfl, e_wp dX0_forget_44 rfl, e_wp dX0_forget_47 rfl, e_wp dX0_forget_48 rfl, e_wp dX0_forget_51 rfl, e_wp dX0_forget_53 rfl, e_wp dX0_forget_55 rfl, e_wp dX0_forget_56 rfl, e_wp dX0_forget_59 rfl, e_wp dX0_forget_62 rfl, e_wp dX0_forget_64 rfl, e_wp dX0_forget_65 rfl, e_wp dX0_forget_67 rfl, e_wp dX0_forget_68 rfl, e_wp dX0_forget_71 rfl, e_wp dX0_forget_74 rfl, e_wp dX0_forget_75 rfl, c0_asksValley, cs0_forget, c0_allSag, P0_allSag, V0_allSag, g0_203, g0_10, g0_156, p0_203, c0_laysSag, e_iconst, e_bipush, e_sipush, e_lconst_0, e_lconst_1, e_iload, e_iload_0, e_iload_1, e_iload_2, e_iload_3, e_lload, e_lload_0, e_lload_1, e_lload_2, e_lload_3, e_aload, e_aload_0, e_aload_1, e_aload_2, e_aload_3, e_istore, e_istore_0, e_istore_1, e_istore_2, e_istore_3, e_astore, e_astore_0, e_astore_1, e_astore_2, e_astore_3, e_lstore, e_lstore_0, e_lstore_1, e_lstore_2, e_lstore_3, e_iinc, e_iadd, e_isub, e_imul, e_ladd, e_lsub, e_lmul, e_idiv, e_irem, e_ldiv, e_lrem, e_ineg, e_lneg, e_iand, e_ior, e_ixor, e_ishl, e_ishr, e_iushr, e_lcmp, e_i2l, e_l2i, e_i2b, e_i2s, e_dup_i, e_dup_r, e_pop_i, e_pop_r, e_dup2_l, e_dup2_ir, e_dup2_ii, e_ifeq, e_ifne, e_iflt, e_ifge, e_ifgt, e_ifle, e_iceq, e_icne, e_iclt, e_icge, e_icgt, e_icle, e_goto, e_switch, e_invokevirtual, e_invokestatic, e_invokespecial, e_ret0, e_ret1, e_ret2, e_ret3, ldI_s, ldL_s, ldR_s, clO_s, ctP_s, ctS_s, mgo_0, mgo_s, pjc_s, pj_0, pj_s, lk_s, rm1_0, rm1_i, rm1_r, rm1_l, rm2_0, rm2_i, rm2_r, rm2_l, csL_s, lc_lt, lc_ge, lc_gt, lc_le, lc_eq, b01_0, b01_1, b01_01, b01_n, up2_o, up2_s, up2_u, ne_eq, reduceCtorEq, Nat.reduceAdd, Nat.reduceEqDiff, Nat.reduceLT, Nat.reduceLeDiff, Int.reduceLE, Int.reduceLT, Int.reduceAdd, Int.reduceNeg, Int.reduceMul, Int.reduceSub, Int.reduceEq, Int.reduceToNat, Int.reduceNatCast, Int.cast_ofNat_Int, ↓reduceIte, and_self, List.drop_succ_cons, List.drop_zero, List.take_succ_cons, List.take_zero, List.length_cons, List.length_nil, List.reverse_cons, List.reverse_nil, List.nil_append, List.cons_append, Option.toList, true_and, and_true, or_false, false_or, or_true, true_or, forall_const, Classical.not_not, not_false_eq_true, not_true_eq_false, false_implies, true_implies, implies_true, imp_self]
  rw [e1]
  refine ⟨fun q => ?_, fun q => ⟨layS_pre hP k3 k4 (okCf_frs (okCf_tell hP.1)), fun v2 M2 hR2 => ?_⟩⟩
  · refine hQ _ _ ⟨hk, ?_⟩
    rw [show A_forget (vX M) = _ from if_pos hq, show (vX M 0 4).toNat = a by show (M 1 5).toNat = a; omega, ← hb]
  · obtain ⟨s1, s3, -, s2⟩ := layS_use k3 k4 hR2
    have s2 : v2 = forF (vX M) a := s2
    have el : (bestN (fun t => forF (vX M) t) (sagT (vX M)) a).2 = least := (congrArg Prod.snd hb).symm
    refine ⟨fun z => ⟨by omega, ?_⟩, fun z => ⟨by omega, ?_⟩⟩
    · refine hI_25 (7 - (a + 1)) _ _ _ _ _ (by omega) ⟨hq, rfl, s1, exF_s s3, a + 1, by omega, by omega, ?_, rfl⟩
      first | (rw [bestN_1 (by rw [el]; omega)]; rw [s2]) | (rw [bestN_0 (by rw [el]; omega)]; exact hb)
    · refine hI_25 (7 - (a + 1)) _ _ _ _ _ (by omega) ⟨hq, rfl, s1, exF_s s3, a + 1, by omega, by omega, ?_, rfl⟩
      first | (rw [bestN_1 (by rw [el]; omega)]; rw [s2]) | (rw [bestN_0 (by rw [el]; omega)]; exact hb)
set_option maxHeartbeats 4000000 in
set_option maxRecDepth 100000 in
theorem m0_forget {rs : List (Nat × Nat)} : MOK cl8 (sh8 rs) tyl8 Nws8 7 yX0_forget cX0_forget 6 (some .int) (sp0_forget rs) := by
  refine mok_of (own := RX0) (tb := tb0 (csL (cs0_forget rs))) (rt := 1) (fuel := 400) (fun avs M Q => [(25, [0, 1, 2, 3, 4], fun m_ vs M1 => ∃ y_best : Int, ∃ y_least : Int, ∃ y_w : Int, ∃ y_c : Int, vs = [ar 0, ai y_best, ai y_least, ai y_w, ai y_c] ∧ J0_forget_25 rs M m_ y_best y_least y_w y_c M1)]) (by decide) rfl nws8_ok (tbOK0 _) rfl (csL_all ?_) ?_ ?_ ?_
  · intro q hq
    simp only [cs0_forget, List.mem_cons, List.not_mem_nil, or_false] at hq
    rcases hq with rfl | rfl | rfl
    · exact cg0_asksValley (by decide)
    · exact cg0_allSag (by decide)
    · exact cg0_laysSag (by decide)
  · intro avs M Q hsp
    obtain ⟨xs, hx⟩ := spR_un _ _ _ hsp
    obtain ⟨e, hl⟩ := unA_mkT hx
    obtain rfl := len0 hl
    have e : avs = [ar 0] := e
    subst e
    simp [szL, isL]
  · intro avs M Q hM hav hsp
    obtain ⟨xs, hx⟩ := spR_un _ _ _ hsp
    obtain ⟨e, hl⟩ := unA_mkT hx
    obtain rfl := len0 hl
    have e : avs = [ar 0] := e
    subst e
    exact in0_forget hM hsp.1 hsp.2 _ (fun m_ y_best y_least y_w y_c M2 hJ => ⟨m_, y_best, y_least, y_w, y_c, rfl, hJ⟩)
  · intro avs M Q hM hav hsp q hq m_ vs M1 hM1 hv hJ
    obtain ⟨xs, hx⟩ := spR_un _ _ _ hsp
    obtain ⟨e, hl⟩ := unA_mkT hx
    obtain rfl := len0 hl
    have e : avs = [ar 0] := e
    subst e
    simp only [List.mem_cons, List.not_mem_nil, or_false] at hq
    rcases hq with rfl
    · obtain ⟨y_best, y_least, y_w, y_c, rfl, hJ⟩ := hJ
      exact at0_forget_25 hM hsp.1 hsp.2 hM1 (hv (1, ai y_best) (List.mem_of_getElem? (i := 1) rfl)) (hv (2, ai y_least) (List.mem_of_getElem? (i := 2) rfl)) (hv (3, ai y_w) (List.mem_of_getElem? (i := 3) rfl)) (hv (4, ai y_c) (List.mem_of_getElem? (i := 4) rfl)) hJ _ (fun m2 z_best z_least z_w z_c M2 hm hJ2 => ⟨m2, hm, z_best, z_least, z_w, z_c, rfl, hJ2⟩)
def P0_sagBy (rs : List (Nat × Nat)) (l : Int) (M : Mm) : Prop := okX M ∧ (0 ≤ l ∧ l ≤ 3) ∧ exL (vX M) (cX M)
def R0_sagBy (rs : List (Nat × Nat)) (l : Int) (M : Mm) (v : Int) (M1 : Mm) : Prop := keepX M M1 ∧ v = sagF (vX M) (lawC (vX M) l) ∧ exL (vX M) (cX M1) ∧ ranX (vX M) (lawC (vX M) l) M1
def sp0_sagBy (rs : List (Nat × Nat)) : Spec := spR true [0] 1 (fun x M => P0_sagBy rs (x 0) M) (fun x M v M1 => R0_sagBy rs (x 0) M v M1)
theorem c0_sagBy {rs : List (Nat × Nat)} {l : Int} {M : Mm} {Q : Option AV → Mm → Prop} : sp0_sagBy rs [ar 0, ai l] M Q = (P0_sagBy rs l M ∧ ∀ (v : Int) (M1 : Mm), R0_sagBy rs l M v M1 → Q (some (ai v)) M1) := rfl
def cs0_sagBy (rs : List (Nat × Nat)) : List (Nat × Nat × Nat × Spec) := [(294, 1, 1, (sp0_laysSag rs))]
set_option maxHeartbeats 4000000 in
set_option maxRecDepth 100000 in
theorem in0_sagBy {rs : List (Nat × Nat)} {l : Int} {M : Mm} {Q : Option AV → Mm → Prop} (hM : okM (sh8 rs) M) (h_l : i32 l) (hP : P0_sagBy rs l M) (hQ : ∀ (v : Int) (M1 : Mm), R0_sagBy rs l M v M1 → Q (some (ai v)) M1) : wp (tb0 (csL (cs0_sagBy rs))) (sh8 rs) 2 1 cX0_sagBy [] Q 400 0 [(0, ar 0), (1, ai l)] [] M := by
  obtain ⟨⟨hY, hB⟩, hl, hC⟩ := id hP
  have el : fval 2 (M 6 l.toNat) = ar (2 + l.toNat) := by
    rw [(hB l.toNat (by omega)).1]
    exact fval_n (2 + l.toNat)
  have k3 : keepX M (up2 M 0 10 ((2 + l.toNat : Nat) : Int)) := keepX_u keepX_rf (by decide) (by decide)
  have k4 := exL_u hC l
  rw [show l + 2 = ((2 + l.toNat : Nat) : Int) by omega] at k4
  simp only [e_wp dX0_sagBy_0 rfl, e_wp dX0_sagBy_1 rfl, e_wp dX0_sagBy_2 rfl, e_wp dX0_sagBy_5 rfl, e_wp dX0_sagBy_6 rfl, e_wp dX0_sagBy_7 rfl, e_wp dX0_sagBy_10 rfl, e_wp dX0_sagBy_11 rfl, e_wp dX0_sagBy_14 rfl, g0_48, p0_52, c0_laysSag, cs0_sagBy, a8_13, w8_13, a8_14, w8_14, a8_15, w8_15, a8_16, w8_16, a8_17, w8_17, a8_18, w8_18, a8_19, w8_19, a8_20, w8_20, a8_21, w8_21, a8_22, w8_22, a8_23, w8_23, a8_24, w8_24, a8_25, w8_25, a8_26, w8_26, a8_27, w8_27, a8_28, w8_28, a8_29, w8_29, a8_30, w8_30, a8_31, w8_31, a8_32, w8_32, a8_33, w8_33, a8_34, w8_34, a8_35, w8_35, a8_36, w8_36, a8_37, w8_37, a8_38, w8_38, a8_39, w8_39, a8_40, w8_40, a8_12, w8_12, a8_6, a8_7, e_iconst, e_bipush, e_sipush, e_lconst_0, e_lconst_1, e_iload, e_iload_0, e_iload_1, e_iload_2, e_iload_3, e_lload, e_lload_0, e_lload_1, e_lload_2, e_lload_3, e_aload, e_aload_0, e_aload_1, e_aload_2, e_aload_3, e_istore, e_istore_0, e_istore_1, e_istore_2, e_istore_3, e_astore, e_astore_0, e_astore_1, e_astore_2, e_astore_3, e_lstore, e_lstore_0, e_lstore_1, e_lstore_2, e_lstore_3, e_iinc, e_iadd, e_isub, e_imul, e_ladd, e_lsub, e_lmul, e_idiv, e_irem, e_ldiv, e_lrem, e_ineg, e_lneg, e_iand, e_ior, e_ixor, e_ishl, e_ishr, e_iushr, e_lcmp, e_i2l, e_l2i, e_i2b, e_i2s, e_dup_i, e_dup_r, e_pop_i, e_pop_r, e_dup2_l, e_dup2_ir, e_dup2_ii, e_ifeq, e_ifne, e_iflt, e_ifge, e_ifgt, e_ifle, e_iceq, e_icne, e_iclt, e_icge, e_icgt, e_icle, e_goto, e_switch, e_invokevirtual, e_invokestatic, e_invokespecial, e_ret0, e_ret1, e_ret2, e_ret3, ldI_s, ldL_s, ldR_s, clO_s, ctP_s, ctS_s, mgo_0, mgo_s, pjc_s, pj_0, pj_s, lk_s, rm1_0, rm1_i, rm1_r, rm1_l, rm2_0, rm2_i, rm2_r, rm2_l, csL_s, lc_lt, lc_ge, lc_gt, lc_le, lc_eq, b01_0, b01_1, b01_01, b01_n, up2_o, up2_s, up2_u, ne_eq, reduceCtorEq, Nat.reduceAdd, Nat.reduceEqDiff, Nat.reduceLT, Nat.reduceLeDiff, Int.reduceLE, Int.reduceLT, Int.reduceAdd, Int.reduceNeg, Int.reduceMul, Int.reduceSub, Int.reduceEq, Int.reduceToNat, Int.reduceNatCast, Int.cast_ofNat_Int, ↓reduceIte, and_self, List.drop_succ_cons, List.drop_zero, List.take_succ_cons, List.take_zero, List.length_cons, List.length_nil, List.reverse_cons, List.reverse_nil, List.nil_append, List.cons_append, Option.toList, true_and, and_true, or_false, false_or, or_true, true_or, forall_const, Classical.not_not, not_false_eq_true, not_true_eq_false, false_implies, true_implies, implies_true, imp_self, el]
  refine ⟨by omega, layS_pre ⟨hY, hB⟩ k3 k4 (okCf_law (okCf_tell hY) hl), fun v2 M2 hR2 => ?_⟩
  obtain ⟨s1, s3, s4, s2⟩ := layS_use k3 k4 hR2
  exact hQ _ _ ⟨s1, s2, exL_s s3, s4⟩
set_option maxHeartbeats 4000000 in
set_option maxRecDepth 100000 in
theorem m0_sagBy {rs : List (Nat × Nat)} : MOK cl8 (sh8 rs) tyl8 Nws8 7 yX0_sagBy cX0_sagBy 2 (some .int) (sp0_sagBy rs) := by
  refine mok_of (own := RX0) (tb := tb0 (csL (cs0_sagBy rs))) (rt := 1) (fuel := 400) (fun avs M Q => []) (by decide) rfl nws8_ok (tbOK0 _) rfl (csL_all ?_) ?_ ?_ ?_
  · intro q hq
    simp only [cs0_sagBy, List.mem_cons, List.not_mem_nil, or_false] at hq
    rcases hq with rfl
    · exact cg0_laysSag (by decide)
  · intro avs M Q hsp
    obtain ⟨xs, hx⟩ := spR_un _ _ _ hsp
    obtain ⟨e, hl⟩ := unA_mkT hx
    obtain ⟨l, rfl⟩ := len1 hl
    have e : avs = [ar 0, ai l] := e
    subst e
    simp [szL, isL]
  · intro avs M Q hM hav hsp
    obtain ⟨xs, hx⟩ := spR_un _ _ _ hsp
    obtain ⟨e, hl⟩ := unA_mkT hx
    obtain ⟨l, rfl⟩ := len1 hl
    have e : avs = [ar 0, ai l] := e
    subst e
    exact in0_sagBy hM (hav (ai l) (by simp)) hsp.1 hsp.2
  · intro avs M Q hM hav hsp q hq m_ vs M1 hM1 hv hJ
    obtain ⟨xs, hx⟩ := spR_un _ _ _ hsp
    obtain ⟨e, hl⟩ := unA_mkT hx
    obtain ⟨l, rfl⟩ := len1 hl
    have e : avs = [ar 0, ai l] := e
    subst e
    cases hq
theorem cg0_sagBy {rs : List (Nat × Nat)} {lvl : Nat} (h : 7 < lvl) : CG RX0 cl8 (sh8 rs) tyl8 Nws8 lvl 1 385 2 (sp0_sagBy rs) := cg_V (sg := [0]) nws8_ok spR_mono spR_un m0_sagBy h rfl (by decide) rfl rfl ⟨rfl, by decide, by decide, rfl⟩ q1182 q1184 qs49 q128 q1185
def P0_by (rs : List (Nat × Nat)) (l : Int) (M : Mm) : Prop := okX M
def R0_by (rs : List (Nat × Nat)) (l : Int) (M : Mm) (v : Int) (M1 : Mm) : Prop := keepX M M1 ∧ v = A_by (vX M) l
def sp0_by (rs : List (Nat × Nat)) : Spec := spR true [0] 1 (fun x M => P0_by rs (x 0) M) (fun x M v M1 => R0_by rs (x 0) M v M1)
theorem c0_by {rs : List (Nat × Nat)} {l : Int} {M : Mm} {Q : Option AV → Mm → Prop} : sp0_by rs [ar 0, ai l] M Q = (P0_by rs l M ∧ ∀ (v : Int) (M1 : Mm), R0_by rs l M v M1 → Q (some (ai v)) M1) := rfl
def cs0_by (rs : List (Nat × Nat)) : List (Nat × Nat × Nat × Spec) := [(382, 0, 1, (sp0_isLaw rs)), (260, 1, 1, (sp0_asksValley rs)), (385, 1, 2, (sp0_sagBy rs))]
set_option maxHeartbeats 4000000 in
set_option maxRecDepth 100000 in
theorem in0_by {rs : List (Nat × Nat)} {l : Int} {M : Mm} {Q : Option AV → Mm → Prop} (hM : okM (sh8 rs) M) (h_l : i32 l) (hP : P0_by rs l M) (hQ : ∀ (v : Int) (M1 : Mm), R0_by rs l M v M1 → Q (some (ai v)) M1) : wp (tb0 (csL (cs0_by rs))) (sh8 rs) 2 1 cX0_by [] Q 400 0 [(0, ar 0), (1, ai l)] [] M := by
  have e1 : ¬ (0 < M 1 3 ∧ 0 ≤ l ∧ l ≤ 3) → A_by (vX M) l = -2 := fun q => if_neg q
  have e2 : (0 < M 1 3 ∧ 0 ≤ l ∧ l ≤ 3) → A_by (vX M) l = sagF (vX M) (lawC (vX M) l) := fun q => if_pos q
  simp only [e_wp dX0_by_0 rfl, e_wp dX0_by_1 rfl, e_wp dX0_by_4 rfl, e_wp dX0_by_7 rfl, e_wp dX0_by_8 rfl, e_wp dX0_by_11 rfl, e_wp dX0_by_14 rfl, e_wp dX0_by_15 rfl, e_wp dX0_by_16 rfl, e_wp dX0_by_19 rfl, e_wp dX0_by_22 rfl, e_wp dX0_by_24 rfl, c0_isLaw, P0_isLaw, V0_isLaw, cs0_by, c0_asksValley, c0_sagBy, e_iconst, e_bipush, e_sipush, e_lconst_0, e_lconst_1, e_iload, e_iload_0, e_iload_1, e_iload_2, e_iload_3, e_lload, e_lload_0, e_lload_1, e_lload_2, e_lload_3, e_aload, e_aload_0, e_aload_1, e_aload_2, e_aload_3, e_istore, e_istore_0, e_istore_1, e_istore_2, e_istore_3, e_astore, e_astore_0, e_astore_1, e_astore_2, e_astore_3, e_lstore, e_lstore_0, e_lstore_1, e_lstore_2, e_lstore_3, e_iinc, e_iadd, e_isub, e_imul, e_ladd, e_lsub, e_lmul, e_idiv, e_irem, e_ldiv, e_lrem, e_ineg, e_lneg, e_iand, e_ior, e_ixor, e_ishl, e_ishr, e_iushr, e_lcmp, e_i2l, e_l2i, e_i2b, e_i2s, e_dup_i, e_dup_r, e_pop_i, e_pop_r, e_dup2_l, e_dup2_ir, e_dup2_ii, e_ifeq, e_ifne, e_iflt, e_ifge, e_ifgt, e_ifle, e_iceq, e_icne, e_iclt, e_icge, e_icgt, e_icle, e_goto, e_switch, e_invokevirtual, e_invokestatic, e_invokespecial, e_ret0, e_ret1, e_ret2, e_ret3, ldI_s, ldL_s, ldR_s, clO_s, ctP_s, ctS_s, mgo_0, mgo_s, pjc_s, pj_0, pj_s, lk_s, rm1_0, rm1_i, rm1_r, rm1_l, rm2_0, rm2_i, rm2_r, rm2_l, csL_s, lc_lt, lc_ge, lc_gt, lc_le, lc_eq, b01_0, b01_1, b01_01, b01_n, up2_o, up2_s, up2_u, ne_eq, reduceCtorEq, Nat.reduceAdd, Nat.reduceEqDiff, Nat.reduceLT, Nat.reduceLeDiff, Int.reduceLE, Int.reduceLT, Int.reduceAdd, Int.reduceNeg, Int.reduceMul, Int.reduceSub, Int.reduceEq, Int.reduceToNat, Int.reduceNatCast, Int.cast_ofNat_Int, ↓reduceIte, and_self, List.drop_succ_cons, List.drop_zero, List.take_succ_cons, List.take_zero, List.length_cons, List.length_nil, List.reverse_cons, List.reverse_nil, List.nil_append, List.cons_append, Option.toList, true_and, and_true, or_false, false_or, or_true, true_or, forall_const, Classical.not_not, not_false_eq_true, not_true_eq_false, false_implies, true_implies, implies_true, imp_self]
  refine ⟨fun q => hQ _ _ ⟨keepX_rf, (e1 (by omega)).symm⟩, fun q => ⟨hP, fun v M1 hR => ?_⟩⟩
  obtain ⟨r1, r2, r3⟩ := hR
  refine ⟨fun z => hQ _ _ ⟨r1, ?_⟩, fun z => ?_⟩
  · rw [r2, b01_0] at z
    exact (e1 (by omega)).symm
  · rw [r2, b01_0] at z
    have z2 := Classical.not_not.mp z
    have eV := keepX_v r1
    refine ⟨⟨⟨by rw [eV]; exact hP.1, keepX_b r1 hP.2⟩, q, by rw [eV]; exact exL_0 r3.1⟩, fun v2 M2 hR2 => ?_⟩
    obtain ⟨s1, s2, -⟩ := hR2
    rw [eV] at s2
    exact hQ _ _ ⟨keepX_tr r1 s1, s2.trans (e2 ⟨z2, q⟩).symm⟩
set_option maxHeartbeats 4000000 in
set_option maxRecDepth 100000 in
theorem m0_by {rs : List (Nat × Nat)} : MOK cl8 (sh8 rs) tyl8 Nws8 8 yX0_by cX0_by 2 (some .int) (sp0_by rs) := by
  refine mok_of (own := RX0) (tb := tb0 (csL (cs0_by rs))) (rt := 1) (fuel := 400) (fun avs M Q => []) (by decide) rfl nws8_ok (tbOK0 _) rfl (csL_all ?_) ?_ ?_ ?_
  · intro q hq
    simp only [cs0_by, List.mem_cons, List.not_mem_nil, or_false] at hq
    rcases hq with rfl | rfl | rfl
    · exact cg0_isLaw (by decide)
    · exact cg0_asksValley (by decide)
    · exact cg0_sagBy (by decide)
  · intro avs M Q hsp
    obtain ⟨xs, hx⟩ := spR_un _ _ _ hsp
    obtain ⟨e, hl⟩ := unA_mkT hx
    obtain ⟨l, rfl⟩ := len1 hl
    have e : avs = [ar 0, ai l] := e
    subst e
    simp [szL, isL]
  · intro avs M Q hM hav hsp
    obtain ⟨xs, hx⟩ := spR_un _ _ _ hsp
    obtain ⟨e, hl⟩ := unA_mkT hx
    obtain ⟨l, rfl⟩ := len1 hl
    have e : avs = [ar 0, ai l] := e
    subst e
    exact in0_by hM (hav (ai l) (by simp)) hsp.1 hsp.2
  · intro avs M Q hM hav hsp q hq m_ vs M1 hM1 hv hJ
    obtain ⟨xs, hx⟩ := spR_un _ _ _ hsp
    obtain ⟨e, hl⟩ := unA_mkT hx
    obtain ⟨l, rfl⟩ := len1 hl
    have e : avs = [ar 0, ai l] := e
    subst e
    cases hq
def P0_law (rs : List (Nat × Nat)) (M : Mm) : Prop := okX M
def R0_law (rs : List (Nat × Nat)) (M : Mm) (v : Int) (M1 : Mm) : Prop := keepX M M1 ∧ v = A_law (vX M)
def sp0_law (rs : List (Nat × Nat)) : Spec := spR true [] 1 (fun x M => P0_law rs M) (fun x M v M1 => R0_law rs M v M1)
theorem c0_law {rs : List (Nat × Nat)} {M : Mm} {Q : Option AV → Mm → Prop} : sp0_law rs [ar 0] M Q = (P0_law rs M ∧ ∀ (v : Int) (M1 : Mm), R0_law rs M v M1 → Q (some (ai v)) M1) := rfl
def cs0_law (rs : List (Nat × Nat)) : List (Nat × Nat × Nat × Spec) := [(260, 1, 1, (sp0_asksValley rs)), (385, 1, 2, (sp0_sagBy rs))]
def J0_law_14 (rs : List (Nat × Nat)) (M : Mm) (m : Nat) (best : Int) (l : Int) (M1 : Mm) : Prop := 0 < vX M 0 8 ∧ keepX M M1 ∧ exL (vX M) (cX M1) ∧ ∃ a : Nat, l = a + 1 ∧ a ≤ 3 ∧ best = bestL (fun l => sagF (vX M) (lawC (vX M) l)) a ∧ m = 7 - a
set_option maxHeartbeats 4000000 in
set_option maxRecDepth 100000 in
theorem in0_law {rs : List (Nat × Nat)} {M : Mm} {Q : Option AV → Mm → Prop} (hM : okM (sh8 rs) M) (hP : P0_law rs M) (hQ : ∀ (v : Int) (M1 : Mm), R0_law rs M v M1 → Q (some (ai v)) M1) (I_14 : List AV → Mm → Prop) (hI_14 : ∀ (m_ : Nat) (y_best : Int) (y_l : Int) (M2 : Mm), J0_law_14 rs M m_ y_best y_l M2 → I_14 [ar 0, ai y_best, ai y_l] M2) : wp (tb0 (csL (cs0_law rs))) (sh8 rs) 3 1 cX0_law [(14, [0, 1, 2], I_14)] Q 400 0 [(0, ar 0)] [] M := by
  simp only [e_wp dX0_law_0 rfl, e_wp dX0_law_1 rfl, e_wp dX0_law_4 rfl, e_wp dX0_law_7 rfl, e_wp dX0_law_9 rfl, e_wp dX0_law_10 rfl, e_wp dX0_law_11 rfl, e_wp dX0_law_12 rfl, e_wp dX0_law_13 rfl, e_wp dX0_law_14 rfl, e_wp dX0_law_15 rfl, e_wp dX0_law_16 rfl, e_wp dX0_law_19 rfl, e_wp dX0_law_20 rfl, e_wp dX0_law_21 rfl, e_wp dX0_law_24 rfl, e_wp dX0_law_25 rfl, e_wp dX0_law_26 rfl, e_wp dX0_law_29 rfl, e_wp dX0_law_32 rfl, e_wp dX0_law_33 rfl, e_wp dX0_law_36 rfl, e_wp dX0_law_37 rfl, e_wp dX0_law_38 rfl, e_wp dX0_law_41 rfl, e_wp dX0_law_44 rfl, e_wp dX0_law_45 rfl, c0_asksValley, cs0_law, c0_sagBy, e_iconst, e_bipush, e_sipush, e_lconst_0, e_lconst_1, e_iload, e_iload_0, e_iload_1, e_iload_2, e_iload_3, e_lload, e_lload_0, e_lload_1, e_lload_2, e_lload_3, e_aload, e_aload_0, e_aload_1, e_aload_2, e_aload_3, e_istore, e_istore_0, e_istore_1, e_istore_2, e_istore_3, e_astore, e_astore_0, e_astore_1, e_astore_2, e_astore_3, e_lstore, e_lstore_0, e_lstore_1, e_lstore_2, e_lstore_3, e_iinc, e_iadd, e_isub, e_imul, e_ladd, e_lsub, e_lmul, e_idiv, e_irem, e_ldiv, e_lrem, e_ineg, e_lneg, e_iand, e_ior, e_ixor, e_ishl, e_ishr, e_iushr, e_lcmp, e_i2l, e_l2i, e_i2b, e_i2s, e_dup_i, e_dup_r, e_pop_i, e_pop_r, e_dup2_l, e_dup2_ir, e_dup2_ii, e_ifeq, e_ifne, e_iflt, e_ifge, e_ifgt, e_ifle, e_iceq, e_icne, e_iclt, e_icge, e_icgt, e_icle, e_goto, e_switch, e_invokevirtual, e_invokestatic, e_invokespecial, e_ret0, e_ret1, e_ret2, e_ret3, ldI_s, ldL_s, ldR_s, clO_s, ctP_s, ctS_s, mgo_0, mgo_s, pjc_s, pj_0, pj_s, lk_s, rm1_0, rm1_i, rm1_r, rm1_l, rm2_0, rm2_i, rm2_r, rm2_l, csL_s, lc_lt, lc_ge, lc_gt, lc_le, lc_eq, b01_0, b01_1, b01_01, b01_n, up2_o, up2_s, up2_u, ne_eq, reduceCtorEq, Nat.reduceAdd, Nat.reduceEqDiff, Nat.reduceLT, Nat.reduceLeDiff, Int.reduceLE, Int.reduceLT, Int.reduceAdd, Int.reduceNeg, Int.reduceMul, Int.reduceSub, Int.reduceEq, Int.reduceToNat, Int.reduceNatCast, Int.cast_ofNat_Int, ↓reduceIte, and_self, List.drop_succ_cons, List.drop_zero, List.take_succ_cons, List.take_zero, List.length_cons, List.length_nil, List.reverse_cons, List.reverse_nil, List.nil_append, List.cons_append, Option.toList, true_and, and_true, or_false, false_or, or_true, true_or, forall_const, Classical.not_not, not_false_eq_true, not_true_eq_false, false_implies, true_implies, implies_true, imp_self]
  refine ⟨hP, fun v M1 hR => ?_⟩
  obtain ⟨r1, r2, r3⟩ := hR
  refine ⟨fun z => ?_, fun z => hQ _ _ ⟨r1, ?_⟩⟩
  · rw [r2, b01_0] at z
    exact hI_14 7 _ _ _ ⟨Classical.not_not.mp z, r1, exL_0 r3.1, 0, rfl, by omega, rfl, rfl⟩
  · rw [r2, b01_0] at z
    exact (if_neg z).symm
set_option maxHeartbeats 4000000 in
set_option maxRecDepth 100000 in
theorem at0_law_14 {rs : List (Nat × Nat)} {M : Mm} {Q : Option AV → Mm → Prop} (hM : okM (sh8 rs) M) (hP : P0_law rs M) (hQ : ∀ (v : Int) (M1 : Mm), R0_law rs M v M1 → Q (some (ai v)) M1) {m : Nat} {best l : Int} {M1 : Mm} (hM1 : okM (sh8 rs) M1) (h_best : i32 best) (h_l : i32 l) (hJ : J0_law_14 rs M m best l M1) (I_14 : List AV → Mm → Prop) (hI_14 : ∀ (m_ : Nat) (y_best : Int) (y_l : Int) (M2 : Mm), m_ < m → J0_law_14 rs M m_ y_best y_l M2 → I_14 [ar 0, ai y_best, ai y_l] M2) : wp (tb0 (csL (cs0_law rs))) (sh8 rs) 3 1 cX0_law [(14, [0, 1, 2], I_14)] Q 400 14 [(0, ar 0), (1, ai best), (2, ai l)] [] M1 := by
  obtain ⟨hq, hk, hC, a, rfl, ha, hb, rfl⟩ := hJ
  have eV := keepX_v hk
  have hP1 : okX M1 := ⟨by rw [eV]; exact hP.1, keepX_b hk hP.2⟩
  have hbb := bestL_b (f := fun l => sagF (vX M) (lawC (vX M) l)) (n := a)
  rw [← hb] at hbb
  simp only [e_wp dX0_law_0 rfl, e_wp dX0_law_1 rfl, e_wp dX0_law_4 rfl, e_wp dX0_law_7 rfl, e_wp dX0_law_9 rfl, e_wp dX0_law_10 rfl, e_wp dX0_law_11 rfl, e_wp dX0_law_12 rfl, e_wp dX0_law_13 rfl, e_wp dX0_law_14 rfl, e_wp dX0_law_15 rfl, e_wp dX0_law_16 rfl, e_wp dX0_law_19 rfl, e_wp dX0_law_20 rfl, e_wp dX0_law_21 rfl, e_wp dX0_law_24 rfl, e_wp dX0_law_25 rfl, e_wp dX0_law_26 rfl, e_wp dX0_law_29 rfl, e_wp dX0_law_32 rfl, e_wp dX0_law_33 rfl, e_wp dX0_law_36 rfl, e_wp dX0_law_37 rfl, e_wp dX0_law_38 rfl, e_wp dX0_law_41 rfl, e_wp dX0_law_44 rfl, e_wp dX0_law_45 rfl, c0_asksValley, cs0_law, c0_sagBy, e_iconst, e_bipush, e_sipush, e_lconst_0, e_lconst_1, e_iload, e_iload_0, e_iload_1, e_iload_2, e_iload_3, e_lload, e_lload_0, e_lload_1, e_lload_2, e_lload_3, e_aload, e_aload_0, e_aload_1, e_aload_2, e_aload_3, e_istore, e_istore_0, e_istore_1, e_istore_2, e_istore_3, e_astore, e_astore_0, e_astore_1, e_astore_2, e_astore_3, e_lstore, e_lstore_0, e_lstore_1, e_lstore_2, e_lstore_3, e_iinc, e_iadd, e_isub, e_imul, e_ladd, e_lsub, e_lmul, e_idiv, e_irem, e_ldiv, e_lrem, e_ineg, e_lneg, e_iand, e_ior, e_ixor, e_ishl, e_ishr, e_iushr, e_lcmp, e_i2l, e_l2i, e_i2b, e_i2s, e_dup_i, e_dup_r, e_pop_i, e_pop_r, e_dup2_l, e_dup2_ir, e_dup2_ii, e_ifeq, e_ifne, e_iflt, e_ifge, e_ifgt, e_ifle, e_iceq, e_icne, e_iclt, e_icge, e_icgt, e_icle, e_goto, e_switch, e_invokevirtual, e_invokestatic, e_invokespecial, e_ret0, e_ret1, e_ret2, e_ret3, ldI_s, ldL_s, ldR_s, clO_s, ctP_s, ctS_s, mgo_0, mgo_s, pjc_s, pj_0, pj_s, lk_s, rm1_0, rm1_i, rm1_r, rm1_l, rm2_0, rm2_i, rm2_r, rm2_l, csL_s, lc_lt, lc_ge, lc_gt, lc_le, lc_eq, b01_0, b01_1, b01_01, b01_n, up2_o, up2_s, up2_u, ne_eq, reduceCtorEq, Nat.reduceAdd, Nat.reduceEqDiff, Nat.reduceLT, Nat.reduceLeDiff, Int.reduceLE, Int.reduceLT, Int.reduceAdd, Int.reduceNeg, Int.reduceMul, Int.reduceSub, Int.reduceEq, Int.reduceToNat, Int.reduceNatCast, Int.cast_ofNat_Int, ↓reduceIte, and_self, List.drop_succ_cons, List.drop_zero, List.take_succ_cons, List.take_zero, List.length_cons, List.length_nil, List.reverse_cons, List.reverse_nil, List.nil_append, List.cons_append, Option.toList, true_and, and_true, or_false, false_or, or_true, true_or, forall_const, Classical.not_not, not_false_eq_true, not_true_eq_false, false_implies, true_implies, implies_true, imp_self]
  refine ⟨fun q => ?_, fun q => ⟨⟨hP1, by omega, by rw [eV]; exact hC⟩, fun v M2 hR => ⟨⟨?_, by omega, ?_⟩, fun v2 M3 hR2 => ?_⟩⟩⟩
  · refine hQ _ _ ⟨hk, ?_⟩
    rw [show A_law (vX M) = _ from if_pos hq, hb, show a = 3 by omega]
  · exact ⟨by rw [keepX_v hR.1]; exact hP1.1, keepX_b hR.1 hP1.2⟩
  · rw [keepX_v hR.1]; exact hR.2.2.1
  · have eV2 : vX M2 = vX M1 := keepX_v hR.1
    obtain ⟨r1, r2, -⟩ := hR
    obtain ⟨s1, s2, s3, -⟩ := hR2
    rw [eV2, eV] at s2 s3
    rw [eV] at r2
    have hk3 := keepX_tr hk (keepX_tr r1 s1)
    have e : (bestL (fun l => sagF (vX M) (lawC (vX M) l)) a) = best := hb.symm
    refine ⟨fun z => ⟨by omega, hI_14 (7 - (a + 1)) _ _ _ (by omega) ⟨hq, hk3, s3, a + 1, by omega, by omega, ?_, rfl⟩⟩, fun z => ⟨by omega, hI_14 (7 - (a + 1)) _ _ _ (by omega) ⟨hq, hk3, s3, a + 1, by omega, by omega, ?_, rfl⟩⟩⟩
    · rw [bestL_0 (by rw [e]; show ¬ sagF _ _ < sagF _ _; omega)]; exact hb
    · rw [bestL_1 (by rw [e]; show sagF _ _ < sagF _ _; omega)]
set_option maxHeartbeats 4000000 in
set_option maxRecDepth 100000 in
theorem m0_law {rs : List (Nat × Nat)} : MOK cl8 (sh8 rs) tyl8 Nws8 8 yX0_law cX0_law 3 (some .int) (sp0_law rs) := by
  refine mok_of (own := RX0) (tb := tb0 (csL (cs0_law rs))) (rt := 1) (fuel := 400) (fun avs M Q => [(14, [0, 1, 2], fun m_ vs M1 => ∃ y_best : Int, ∃ y_l : Int, vs = [ar 0, ai y_best, ai y_l] ∧ J0_law_14 rs M m_ y_best y_l M1)]) (by decide) rfl nws8_ok (tbOK0 _) rfl (csL_all ?_) ?_ ?_ ?_
  · intro q hq
    simp only [cs0_law, List.mem_cons, List.not_mem_nil, or_false] at hq
    rcases hq with rfl | rfl
    · exact cg0_asksValley (by decide)
    · exact cg0_sagBy (by decide)
  · intro avs M Q hsp
    obtain ⟨xs, hx⟩ := spR_un _ _ _ hsp
    obtain ⟨e, hl⟩ := unA_mkT hx
    obtain rfl := len0 hl
    have e : avs = [ar 0] := e
    subst e
    simp [szL, isL]
  · intro avs M Q hM hav hsp
    obtain ⟨xs, hx⟩ := spR_un _ _ _ hsp
    obtain ⟨e, hl⟩ := unA_mkT hx
    obtain rfl := len0 hl
    have e : avs = [ar 0] := e
    subst e
    exact in0_law hM hsp.1 hsp.2 _ (fun m_ y_best y_l M2 hJ => ⟨m_, y_best, y_l, rfl, hJ⟩)
  · intro avs M Q hM hav hsp q hq m_ vs M1 hM1 hv hJ
    obtain ⟨xs, hx⟩ := spR_un _ _ _ hsp
    obtain ⟨e, hl⟩ := unA_mkT hx
    obtain rfl := len0 hl
    have e : avs = [ar 0] := e
    subst e
    simp only [List.mem_cons, List.not_mem_nil, or_false] at hq
    rcases hq with rfl
    · obtain ⟨y_best, y_l, rfl, hJ⟩ := hJ
      exact at0_law_14 hM hsp.1 hsp.2 hM1 (hv (1, ai y_best) (List.mem_of_getElem? (i := 1) rfl)) (hv (2, ai y_l) (List.mem_of_getElem? (i := 2) rfl)) hJ _ (fun m2 z_best z_l M2 hm hJ2 => ⟨m2, hm, z_best, z_l, rfl, hJ2⟩)
