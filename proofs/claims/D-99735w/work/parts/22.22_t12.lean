/-! SagMemoryModel: one cart away, one frost more, by another law -/
/-- told otherwise: carts absent; frosts; the law -/
def absC (C : Cf) (x : Int) : Cf := fun i j => if i = 0 ∧ 2 ≤ j then x else C i j
theorem abs_cM {M : Mm} {x : Int} : cM (up2 M 0 26 x) = absC (cM M) x := by
  funext i j
  match i with
  | 0 =>
    show (if j = 0 then up2 M 0 26 x 0 24 else if j = 1 then up2 M 0 26 x 0 25 else up2 M 0 26 x 0 26) = if 0 = 0 ∧ 2 ≤ j then x else (if j = 0 then M 0 24 else if j = 1 then M 0 25 else M 0 26)
    rw [up2_n (by decide), up2_n (by decide), up2_s]
    by_cases e : j = 0
    · rw [if_pos e, if_neg (by omega), if_pos e]
    · by_cases e1 : j = 1
      · rw [if_neg e, if_pos e1, if_neg (by omega), if_neg e, if_pos e1]
      · rw [if_neg e, if_neg e1, if_pos ⟨rfl, by omega⟩]
  | 1 => rfl
  | 2 => rfl
  | 3 => rfl
  | i + 4 => rfl
theorem frs_cM {M : Mm} {x : Int} : cM (up2 M 0 25 x) = up2 (cM M) 0 1 x := by
  funext i j
  match i with
  | 0 =>
    show (if j = 0 then up2 M 0 25 x 0 24 else if j = 1 then up2 M 0 25 x 0 25 else up2 M 0 25 x 0 26) = if 0 = 0 ∧ j = 1 then x else (if j = 0 then M 0 24 else if j = 1 then M 0 25 else M 0 26)
    rw [up2_n (show (24 : Nat) ≠ 25 by decide), up2_n (show (26 : Nat) ≠ 25 by decide), up2_s]
    by_cases e : j = 0
    · rw [if_pos e, if_neg (by omega), if_pos e]
    · by_cases e1 : j = 1
      · rw [if_neg e, if_pos e1, if_pos ⟨rfl, e1⟩]
      · rw [if_neg e, if_neg e1, if_neg (by omega), if_neg e, if_neg e1]
  | 1 => rfl
  | 2 => rfl
  | 3 => rfl
  | i + 4 => rfl
theorem law_cM {M : Mm} {x : Int} : cM (up2 M 0 24 x) = up2 (cM M) 0 0 x := by
  funext i j
  match i with
  | 0 =>
    show (if j = 0 then up2 M 0 24 x 0 24 else if j = 1 then up2 M 0 24 x 0 25 else up2 M 0 24 x 0 26) = if 0 = 0 ∧ j = 0 then x else (if j = 0 then M 0 24 else if j = 1 then M 0 25 else M 0 26)
    rw [up2_s, up2_n (by decide), up2_n (by decide)]
    by_cases e : j = 0
    · rw [if_pos e, if_pos ⟨rfl, e⟩]
    · rw [if_neg e, if_neg (show ¬ (0 = 0 ∧ j = 0) from fun q => e q.2)]
      exact (if_neg e).symm
  | 1 => rfl
  | 2 => rfl
  | 3 => rfl
  | i + 4 => rfl
theorem nC_u {V : Vy} {C : Cf} {j : Nat} {x : Int} : nC V (up2 C 0 j x) = up2 (nC V C) 0 j x := by
  funext i k
  show (if i = 0 then up2 C 0 j x 0 k else if (k : Int) < V 0 4 then up2 C 0 j x i k else 0) = if i = 0 ∧ k = j then x else (if i = 0 then C 0 k else if (k : Int) < V 0 4 then C i k else 0)
  by_cases e : i = 0
  · subst e
    simp only [if_true, true_and]
    by_cases z : k = j
    · rw [z, up2_s, if_pos rfl]
    · rw [up2_n z, if_neg z]
  · rw [up2_o e]
    have e' : ¬ (i = 0 ∧ k = j) := fun q => e q.1
    simp only [if_neg e, if_neg e']
theorem nC_abs {V : Vy} {C : Cf} {x : Int} : nC V (absC C x) = absC (nC V C) x := by
  funext i k
  show (if i = 0 then absC C x 0 k else if (k : Int) < V 0 4 then absC C x i k else 0) = if i = 0 ∧ 2 ≤ k then x else (if i = 0 then C 0 k else if (k : Int) < V 0 4 then C i k else 0)
  by_cases e : i = 0
  · subst e
    simp only [if_true, true_and]
    show (if 0 = 0 ∧ 2 ≤ k then x else C 0 k) = _
    simp only [true_and]
  · have e' : ¬ (i = 0 ∧ 2 ≤ k) := fun q => e q.1
    have e2 : absC C x i k = C i k := if_neg e'
    rw [e2]
    simp only [if_neg e, if_neg e']
theorem okCf_abs {V : Vy} {C : Cf} {x : Int} (h : okCf V C) : okCf V (absC C x) := by
  refine ⟨?_, fun c hc => ?_⟩
  · show 0 ≤ (if 0 = 0 ∧ 2 ≤ 0 then x else C 0 0) ∧ (if 0 = 0 ∧ 2 ≤ 0 then x else C 0 0) ≤ 3
    rw [if_neg (by omega)]; exact h.1
  · exact h.2 c hc
theorem okCf_frs {V : Vy} {C : Cf} {x : Int} (h : okCf V C) : okCf V (up2 C 0 1 x) := ⟨by rw [up2_n (by decide)]; exact h.1, fun c hc => by
  rw [up2_o (show (1 : Nat) ≠ 0 by decide), up2_o (show (2 : Nat) ≠ 0 by decide), up2_o (show (3 : Nat) ≠ 0 by decide)]
  exact h.2 c hc⟩
theorem okCf_law {V : Vy} {C : Cf} {x : Int} (h : okCf V C) (hx : 0 ≤ x ∧ x ≤ 3) : okCf V (up2 C 0 0 x) := ⟨by rw [up2_s]; exact hx, fun c hc => by
  rw [up2_o (show (1 : Nat) ≠ 0 by decide), up2_o (show (2 : Nat) ≠ 0 by decide), up2_o (show (3 : Nat) ≠ 0 by decide)]
  exact h.2 c hc⟩
/-- laid -/
theorem tl_use {M M1 : Mm} (hR : R7_lays M M1) : keepM M M1 ∧ nC (vM M) (cM M1) = tellP (vM M) := ⟨keep_tell hR.1 hR.2.1, hR.2.2⟩
theorem run_pre {M M2 : Mm} {C : Cf} (hP : okY (vM M)) (hk : keepM M M2) (hC : nC (vM M) (cM M2) = C) (hok : okCf (vM M) C) : P7_runs M2 := by
  have eV := keep_v hk 0
  have eV : vM M2 = vM M := eV
  exact ⟨by rw [eV]; exact hP, by rw [eV]; exact okCf_un (by rw [hC]; exact hok)⟩
theorem run_use {M M2 M3 : Mm} {C : Cf} (hk : keepM M M2) (hC : nC (vM M) (cM M2) = C) (hR : R7_runs M2 M3) : keepM M M3 ∧ ranR (vM M) C M3 ∧ M3 7 = M 7 ∧ nC (vM M) (cM M3) = C := by
  have eV : vM M2 = vM M := keep_v hk 0
  obtain ⟨r1, r2⟩ := hR
  rw [eV, hC] at r2
  have hk3 := keep_tr hk (keep_fr r1 (by decide))
  exact ⟨hk3, r2, keep_has hk3, by rw [cM_frm r1 (by decide)]; exact hC⟩
theorem sag_pre {M M3 : Mm} {C : Cf} (hP : okY (vM M)) (h7 : M3 7 = M 7) (h : ranR (vM M) C M3) : (0 ≤ M3 7 3 ∧ M3 7 3 ≤ 3) ∧ ∀ (b : Nat), (b : Int) < M3 7 3 → okB M3 b := by
  rw [h7]
  exact ⟨(okY_n hP).1, fun b hb => (h.1 b hb).1⟩
theorem sag_val {M M3 : Mm} {C : Cf} (h7 : M3 7 = M 7) (h : ranR (vM M) C M3) : sumN (fun b => sagP (mb M3 b)) (M3 7 3).toNat = sagF (vM M) C := by
  rw [h7]; exact sag_out h
def P7_sagWithout (x : Int) (M : Mm) : Prop := okY (vM M)
def R7_sagWithout (x : Int) (M : Mm) (v : Int) (M1 : Mm) : Prop := keepM M M1 ∧ v = sagF (vM M) (absC (tellP (vM M)) x)
def sp7_sagWithout : Spec := spR true [0] 1 (fun x M => P7_sagWithout (x 0) M) (fun x M v M1 => R7_sagWithout (x 0) M v M1)
theorem c7_sagWithout {x : Int} {M : Mm} {Q : Option AV → Mm → Prop} : sp7_sagWithout [ar 0, ai x] M Q = (P7_sagWithout x M ∧ ∀ (v : Int) (M1 : Mm), R7_sagWithout x M v M1 → Q (some (ai v)) M1) := rfl
def cs7_sagWithout : List (Nat × Nat × Nat × Spec) := [(330, 1, 1, sp7_lays), (333, 1, 1, sp7_runs), (339, 1, 1, sp7_sagAll)]
set_option maxHeartbeats 4000000 in
set_option maxRecDepth 100000 in
theorem in7_sagWithout {x : Int} {M : Mm} {Q : Option AV → Mm → Prop} (hM : okM sh7 M) (h_x : i32 x) (hP : P7_sagWithout x M) (hQ : ∀ (v : Int) (M1 : Mm), R7_sagWithout x M v M1 → Q (some (ai v)) M1) : wp (tb7 (csL cs7_sagWithout)) sh7 2 1 cX7_sagWithout [] Q 400 0 [(0, ar 0), (1, ai x)] [] M := by
  simp only [e_wp dX7_sagWithout_0 rfl, e_wp dX7_sagWithout_1 rfl, e_wp dX7_sagWithout_4 rfl, e_wp dX7_sagWithout_5 rfl, e_wp dX7_sagWithout_6 rfl, e_wp dX7_sagWithout_9 rfl, e_wp dX7_sagWithout_10 rfl, e_wp dX7_sagWithout_13 rfl, e_wp dX7_sagWithout_14 rfl, e_wp dX7_sagWithout_17 rfl, c7_lays, cs7_sagWithout, p7_301, c7_runs, c7_sagAll, P7_sagAll, V7_sagAll, e_iconst, e_bipush, e_sipush, e_lconst_0, e_lconst_1, e_iload, e_iload_0, e_iload_1, e_iload_2, e_iload_3, e_lload, e_lload_0, e_lload_1, e_lload_2, e_lload_3, e_aload, e_aload_0, e_aload_1, e_aload_2, e_aload_3, e_istore, e_istore_0, e_istore_1, e_istore_2, e_istore_3, e_astore, e_astore_0, e_astore_1, e_astore_2, e_astore_3, e_lstore, e_lstore_0, e_lstore_1, e_lstore_2, e_lstore_3, e_iinc, e_iadd, e_isub, e_imul, e_ladd, e_lsub, e_lmul, e_idiv, e_irem, e_ldiv, e_lrem, e_ineg, e_lneg, e_iand, e_ior, e_ixor, e_ishl, e_ishr, e_iushr, e_lcmp, e_i2l, e_l2i, e_i2b, e_i2s, e_dup_i, e_dup_r, e_pop_i, e_pop_r, e_dup2_l, e_dup2_ir, e_dup2_ii, e_ifeq, e_ifne, e_iflt, e_ifge, e_ifgt, e_ifle, e_iceq, e_icne, e_iclt, e_icge, e_icgt, e_icle, e_goto, e_switch, e_invokevirtual, e_invokestatic, e_invokespecial, e_ret0, e_ret1, e_ret2, e_ret3, ldI_s, ldL_s, ldR_s, clO_s, ctP_s, ctS_s, mgo_0, mgo_s, pjc_s, pj_0, pj_s, lk_s, rm1_0, rm1_i, rm1_r, rm1_l, rm2_0, rm2_i, rm2_r, rm2_l, csL_s, lc_lt, lc_ge, lc_gt, lc_le, lc_eq, b01_0, b01_1, b01_01, b01_n, up2_o, up2_s, up2_u, ne_eq, reduceCtorEq, Nat.reduceAdd, Nat.reduceEqDiff, Nat.reduceLT, Nat.reduceLeDiff, Int.reduceLE, Int.reduceLT, Int.reduceAdd, Int.reduceNeg, Int.reduceMul, Int.reduceSub, Int.reduceEq, Int.reduceToNat, Int.reduceNatCast, Int.cast_ofNat_Int, ↓reduceIte, and_self, List.drop_succ_cons, List.drop_zero, List.take_succ_cons, List.take_zero, List.length_cons, List.length_nil, List.reverse_cons, List.reverse_nil, List.nil_append, List.cons_append, Option.toList, true_and, and_true, or_false, false_or, or_true, true_or, forall_const, Classical.not_not, not_false_eq_true, not_true_eq_false, false_implies, true_implies, implies_true, imp_self]
  refine ⟨hP, fun M1 hR => ?_⟩
  obtain ⟨k1, k2⟩ := tl_use hR
  have k3 : keepM M (up2 M1 0 26 x) := keep_u0 k1 (by decide)
  have k4 : nC (vM M) (cM (up2 M1 0 26 x)) = absC (tellP (vM M)) x := by rw [abs_cM, nC_abs, k2]
  refine ⟨run_pre hP k3 k4 (okCf_abs (okCf_tell hP)), fun M2 hR2 => ?_⟩
  obtain ⟨s1, s2, s3, s4⟩ := run_use k3 k4 hR2
  exact ⟨sag_pre hP s3 s2, hQ _ _ ⟨s1, sag_val s3 s2⟩⟩
set_option maxHeartbeats 4000000 in
set_option maxRecDepth 100000 in
theorem m7_sagWithout : MOK cl7 sh7 tyl7 [] 4 yX7_sagWithout cX7_sagWithout 2 (some .int) sp7_sagWithout := by
  refine mok_of (own := RX7) (tb := tb7 (csL cs7_sagWithout)) (rt := 1) (fuel := 400) (fun avs M Q => []) (by decide) rfl nil_nw (tbOK7 _) rfl (csL_all ?_) ?_ ?_ ?_
  · intro q hq
    simp only [cs7_sagWithout, List.mem_cons, List.not_mem_nil, or_false] at hq
    rcases hq with rfl | rfl | rfl
    · exact cg7_lays (by decide)
    · exact cg7_runs (by decide)
    · exact cg7_sagAll (by decide)
  · intro avs M Q hsp
    obtain ⟨xs, hx⟩ := spR_un _ _ _ hsp
    obtain ⟨e, hl⟩ := unA_mkT hx
    obtain ⟨x, rfl⟩ := len1 hl
    have e : avs = [ar 0, ai x] := e
    subst e
    simp [szL, isL]
  · intro avs M Q hM hav hsp
    obtain ⟨xs, hx⟩ := spR_un _ _ _ hsp
    obtain ⟨e, hl⟩ := unA_mkT hx
    obtain ⟨x, rfl⟩ := len1 hl
    have e : avs = [ar 0, ai x] := e
    subst e
    exact in7_sagWithout hM (hav (ai x) (by simp)) hsp.1 hsp.2
  · intro avs M Q hM hav hsp q hq m_ vs M1 hM1 hv hJ
    obtain ⟨xs, hx⟩ := spR_un _ _ _ hsp
    obtain ⟨e, hl⟩ := unA_mkT hx
    obtain ⟨x, rfl⟩ := len1 hl
    have e : avs = [ar 0, ai x] := e
    subst e
    cases hq
theorem cg7_sagWithout {lvl : Nat} (h : 4 < lvl) : CG RX7 cl7 sh7 tyl7 [] lvl 1 389 2 sp7_sagWithout := cg_V (sg := [0]) nil_nw spR_mono spR_un m7_sagWithout h rfl (by decide) rfl rfl ⟨rfl, by decide, by decide, rfl⟩ q2066 q2068 qs110 q138 q2069
/-- sag at the end, as it is told -/
abbrev sagT (V : Vy) : Int := sagF V (tellP V)
theorem sagT_b {V : Vy} (h : okY V) : 0 ≤ sagT V ∧ sagT V ≤ 2376 := sagF_b h (okCf_tell h)
theorem sagA_b {V : Vy} {x : Int} (h : okY V) : 0 ≤ sagF V (absC (tellP V) x) ∧ sagF V (absC (tellP V) x) ≤ 2376 := sagF_b h (okCf_abs (okCf_tell h))
def A_spared (V : Vy) (c : Int) : Int := if isC V c then sagT V - sagF V (absC (tellP V) (bshl 1 c)) else -1000
def P7_spared (c : Int) (M : Mm) : Prop := okY (vM M)
def R7_spared (c : Int) (M : Mm) (v : Int) (M1 : Mm) : Prop := keepM M M1 ∧ v = A_spared (vM M) c
def sp7_spared : Spec := spR true [0] 1 (fun x M => P7_spared (x 0) M) (fun x M v M1 => R7_spared (x 0) M v M1)
theorem c7_spared {c : Int} {M : Mm} {Q : Option AV → Mm → Prop} : sp7_spared [ar 0, ai c] M Q = (P7_spared c M ∧ ∀ (v : Int) (M1 : Mm), R7_spared c M v M1 → Q (some (ai v)) M1) := rfl
def cs7_spared : List (Nat × Nat × Nat × Spec) := [(289, 1, 2, sp7_isCart), (386, 1, 1, sp7_sagsNow), (389, 1, 2, sp7_sagWithout)]
set_option maxHeartbeats 4000000 in
set_option maxRecDepth 100000 in
theorem in7_spared {c : Int} {M : Mm} {Q : Option AV → Mm → Prop} (hM : okM sh7 M) (h_c : i32 c) (hP : P7_spared c M) (hQ : ∀ (v : Int) (M1 : Mm), R7_spared c M v M1 → Q (some (ai v)) M1) : wp (tb7 (csL cs7_spared)) sh7 2 1 cX7_spared [] Q 400 0 [(0, ar 0), (1, ai c)] [] M := by
  have h4 : 0 ≤ M 7 4 ∧ M 7 4 ≤ 7 := hP.2.2.2.2.1
  have hk0 : keepM M (up2 M 0 0 0) := keep_u0 keep_rf (by decide)
  have hV : vM (up2 M 0 0 0) = vM M := keep_v hk0 0
  have hP0 : okY (vM (up2 M 0 0 0)) := by rw [hV]; exact hP
  simp only [e_wp dX7_spared_0 rfl, e_wp dX7_spared_1 rfl, e_wp dX7_spared_2 rfl, e_wp dX7_spared_5 rfl, e_wp dX7_spared_6 rfl, e_wp dX7_spared_7 rfl, e_wp dX7_spared_8 rfl, e_wp dX7_spared_11 rfl, e_wp dX7_spared_14 rfl, e_wp dX7_spared_17 rfl, e_wp dX7_spared_18 rfl, e_wp dX7_spared_19 rfl, e_wp dX7_spared_22 rfl, e_wp dX7_spared_23 rfl, e_wp dX7_spared_24 rfl, e_wp dX7_spared_25 rfl, e_wp dX7_spared_26 rfl, e_wp dX7_spared_29 rfl, e_wp dX7_spared_30 rfl, p7_116, c7_isCart, P7_isCart, V7_isCart, cs7_spared, c7_sagsNow, c7_sagWithout, e_iconst, e_bipush, e_sipush, e_lconst_0, e_lconst_1, e_iload, e_iload_0, e_iload_1, e_iload_2, e_iload_3, e_lload, e_lload_0, e_lload_1, e_lload_2, e_lload_3, e_aload, e_aload_0, e_aload_1, e_aload_2, e_aload_3, e_istore, e_istore_0, e_istore_1, e_istore_2, e_istore_3, e_astore, e_astore_0, e_astore_1, e_astore_2, e_astore_3, e_lstore, e_lstore_0, e_lstore_1, e_lstore_2, e_lstore_3, e_iinc, e_iadd, e_isub, e_imul, e_ladd, e_lsub, e_lmul, e_idiv, e_irem, e_ldiv, e_lrem, e_ineg, e_lneg, e_iand, e_ior, e_ixor, e_ishl, e_ishr, e_iushr, e_lcmp, e_i2l, e_l2i, e_i2b, e_i2s, e_dup_i, e_dup_r, e_pop_i, e_pop_r, e_dup2_l, e_dup2_ir, e_dup2_ii, e_ifeq, e_ifne, e_iflt, e_ifge, e_ifgt, e_ifle, e_iceq, e_icne, e_iclt, e_icge, e_icgt, e_icle, e_goto, e_switch, e_invokevirtual, e_invokestatic, e_invokespecial, e_ret0, e_ret1, e_ret2, e_ret3, ldI_s, ldL_s, ldR_s, clO_s, ctP_s, ctS_s, mgo_0, mgo_s, pjc_s, pj_0, pj_s, lk_s, rm1_0, rm1_i, rm1_r, rm1_l, rm2_0, rm2_i, rm2_r, rm2_l, csL_s, lc_lt, lc_ge, lc_gt, lc_le, lc_eq, b01_0, b01_1, b01_01, b01_n, up2_o, up2_s, up2_u, ne_eq, reduceCtorEq, Nat.reduceAdd, Nat.reduceEqDiff, Nat.reduceLT, Nat.reduceLeDiff, Int.reduceLE, Int.reduceLT, Int.reduceAdd, Int.reduceNeg, Int.reduceMul, Int.reduceSub, Int.reduceEq, Int.reduceToNat, Int.reduceNatCast, Int.cast_ofNat_Int, ↓reduceIte, and_self, List.drop_succ_cons, List.drop_zero, List.take_succ_cons, List.take_zero, List.length_cons, List.length_nil, List.reverse_cons, List.reverse_nil, List.nil_append, List.cons_append, Option.toList, true_and, and_true, or_false, false_or, or_true, true_or, forall_const, Classical.not_not, not_false_eq_true, not_true_eq_false, false_implies, true_implies, implies_true, imp_self]
  refine ⟨h4, fun q => ⟨hP0, fun v M1 hR => ?_⟩, fun q => hQ _ _ ⟨hk0, (if_neg q).symm⟩⟩
  obtain ⟨r1, r2, r3⟩ := hR
  rw [hV] at r3
  have r3 : v = sagT (vM M) := r3
  have k1 := keep_tr hk0 r1
  have eV : vM M1 = vM M := keep_v k1 0
  refine ⟨by show okY (vM M1); rw [eV]; exact hP, fun v2 M2 hR2 => ?_⟩
  obtain ⟨s1, s2⟩ := hR2
  rw [eV] at s2
  have b1 := sagT_b hP
  have b2 := sagA_b hP (x := bshl 1 c)
  refine ⟨by omega, hQ _ _ ⟨keep_tr k1 s1, ?_⟩⟩
  rw [r3, s2]
  exact (if_pos q).symm
set_option maxHeartbeats 4000000 in
set_option maxRecDepth 100000 in
theorem m7_spared : MOK cl7 sh7 tyl7 [] 6 yX7_spared cX7_spared 2 (some .int) sp7_spared := by
  refine mok_of (own := RX7) (tb := tb7 (csL cs7_spared)) (rt := 1) (fuel := 400) (fun avs M Q => []) (by decide) rfl nil_nw (tbOK7 _) rfl (csL_all ?_) ?_ ?_ ?_
  · intro q hq
    simp only [cs7_spared, List.mem_cons, List.not_mem_nil, or_false] at hq
    rcases hq with rfl | rfl | rfl
    · exact cg7_isCart (by decide)
    · exact cg7_sagsNow (by decide)
    · exact cg7_sagWithout (by decide)
  · intro avs M Q hsp
    obtain ⟨xs, hx⟩ := spR_un _ _ _ hsp
    obtain ⟨e, hl⟩ := unA_mkT hx
    obtain ⟨c, rfl⟩ := len1 hl
    have e : avs = [ar 0, ai c] := e
    subst e
    simp [szL, isL]
  · intro avs M Q hM hav hsp
    obtain ⟨xs, hx⟩ := spR_un _ _ _ hsp
    obtain ⟨e, hl⟩ := unA_mkT hx
    obtain ⟨c, rfl⟩ := len1 hl
    have e : avs = [ar 0, ai c] := e
    subst e
    exact in7_spared hM (hav (ai c) (by simp)) hsp.1 hsp.2
  · intro avs M Q hM hav hsp q hq m_ vs M1 hM1 hv hJ
    obtain ⟨xs, hx⟩ := spR_un _ _ _ hsp
    obtain ⟨e, hl⟩ := unA_mkT hx
    obtain ⟨c, rfl⟩ := len1 hl
    have e : avs = [ar 0, ai c] := e
    subst e
    cases hq
/-- the first place with less than all ahead, of n from 0 on; and what it has -/
def bestN (f : Nat → Int) (s0 : Int) : Nat → Int × Int
  | 0 => (-1, s0)
  | n + 1 => if f n < (bestN f s0 n).2 then ((n : Int), f n) else bestN f s0 n
theorem bestN_1 {f : Nat → Int} {s0 : Int} {n : Nat} (h : f n < (bestN f s0 n).2) : bestN f s0 (n + 1) = ((n : Int), f n) := if_pos h
theorem bestN_0 {f : Nat → Int} {s0 : Int} {n : Nat} (h : ¬ f n < (bestN f s0 n).2) : bestN f s0 (n + 1) = bestN f s0 n := if_neg h
def A_worst (V : Vy) : Int := if 0 < V 0 8 then (bestN (fun c => sagF V (absC (tellP V) (bshl 1 c))) (sagT V) (V 0 4).toNat).1 else -2
def P7_worst (M : Mm) : Prop := okY (vM M)
def R7_worst (M : Mm) (v : Int) (M1 : Mm) : Prop := keepM M M1 ∧ v = A_worst (vM M)
def sp7_worst : Spec := spR true [] 1 (fun x M => P7_worst M) (fun x M v M1 => R7_worst M v M1)
theorem c7_worst {M : Mm} {Q : Option AV → Mm → Prop} : sp7_worst [ar 0] M Q = (P7_worst M ∧ ∀ (v : Int) (M1 : Mm), R7_worst M v M1 → Q (some (ai v)) M1) := rfl
def cs7_worst : List (Nat × Nat × Nat × Spec) := [(350, 1, 1, sp7_isValley), (386, 1, 1, sp7_sagsNow), (286, 1, 1, sp7_carts), (389, 1, 2, sp7_sagWithout)]
def J7_worst_24 (M : Mm) (m : Nat) (best : Int) (least : Int) (c : Int) (M1 : Mm) : Prop := 0 < vM M 0 8 ∧ keepM M M1 ∧ ∃ a : Nat, c = a ∧ (a : Int) ≤ M 7 4 ∧ (best, least) = bestN (fun c => sagF (vM M) (absC (tellP (vM M)) (bshl 1 c))) (sagT (vM M)) a ∧ m = 7 - a
set_option maxHeartbeats 4000000 in
set_option maxRecDepth 100000 in
theorem in7_worst {M : Mm} {Q : Option AV → Mm → Prop} (hM : okM sh7 M) (hP : P7_worst M) (hQ : ∀ (v : Int) (M1 : Mm), R7_worst M v M1 → Q (some (ai v)) M1) (I_24 : List AV → Mm → Prop) (hI_24 : ∀ (m_ : Nat) (y_best : Int) (y_least : Int) (y_c : Int) (M2 : Mm), J7_worst_24 M m_ y_best y_least y_c M2 → I_24 [ar 0, ai y_best, ai y_least, ai y_c] M2) : wp (tb7 (csL cs7_worst)) sh7 5 1 cX7_worst [(24, [0, 1, 2, 3], I_24)] Q 400 0 [(0, ar 0)] [] M := by
  have h4 : 0 ≤ M 7 4 ∧ M 7 4 ≤ 7 := hP.2.2.2.2.1
  have hk0 : keepM M (up2 M 0 0 0) := keep_u0 keep_rf (by decide)
  have hV : vM (up2 M 0 0 0) = vM M := keep_v hk0 0
  have hP0 : okY (vM (up2 M 0 0 0)) := by rw [hV]; exact hP
  simp only [e_wp dX7_worst_0 rfl, e_wp dX7_worst_1 rfl, e_wp dX7_worst_2 rfl, e_wp dX7_worst_5 rfl, e_wp dX7_worst_6 rfl, e_wp dX7_worst_9 rfl, e_wp dX7_worst_12 rfl, e_wp dX7_worst_14 rfl, e_wp dX7_worst_15 rfl, e_wp dX7_worst_16 rfl, e_wp dX7_worst_17 rfl, e_wp dX7_worst_18 rfl, e_wp dX7_worst_21 rfl, e_wp dX7_worst_22 rfl, e_wp dX7_worst_23 rfl, e_wp dX7_worst_24 rfl, e_wp dX7_worst_25 rfl, e_wp dX7_worst_26 rfl, e_wp dX7_worst_29 rfl, e_wp dX7_worst_32 rfl, e_wp dX7_worst_33 rfl, e_wp dX7_worst_34 rfl, e_wp dX7_worst_35 rfl, e_wp dX7_worst_36 rfl, e_wp dX7_worst_39 rfl, e_wp dX7_worst_41 rfl, e_wp dX7_worst_43 rfl, e_wp dX7_worst_44 rfl, e_wp dX7_worst_47 rfl, e_wp dX7_worst_50 rfl, e_wp dX7_worst_51 rfl, e_wp dX7_worst_52 rfl, e_wp dX7_worst_54 rfl, e_wp dX7_worst_55 rfl, e_wp dX7_worst_58 rfl, e_wp dX7_worst_61 rfl, e_wp dX7_worst_62 rfl, p7_116, c7_isValley, P7_isValley, V7_isValley, cs7_worst, c7_sagsNow, c7_carts, P7_carts, V7_carts, c7_sagWithout, e_iconst, e_bipush, e_sipush, e_lconst_0, e_lconst_1, e_iload, e_iload_0, e_iload_1, e_iload_2, e_iload_3, e_lload, e_lload_0, e_lload_1, e_lload_2, e_lload_3, e_aload, e_aload_0, e_aload_1, e_aload_2, e_aload_3, e_istore, e_istore_0, e_istore_1, e_istore_2, e_istore_3, e_astore, e_astore_0, e_astore_1, e_astore_2, e_astore_3, e_lstore, e_lstore_0, e_lstore_1, e_lstore_2, e_lstore_3, e_iinc, e_iadd, e_isub, e_imul, e_ladd, e_lsub, e_lmul, e_idiv, e_irem, e_ldiv, e_lrem, e_ineg, e_lneg, e_iand, e_ior, e_ixor, e_ishl, e_ishr, e_iushr, e_lcmp, e_i2l, e_l2i, e_i2b, e_i2s, e_dup_i, e_dup_r, e_pop_i, e_pop_r, e_dup2_l, e_dup2_ir, e_dup2_ii, e_ifeq, e_ifne, e_iflt, e_ifge, e_ifgt, e_ifle, e_iceq, e_icne, e_iclt, e_icge, e_icgt, e_icle, e_goto, e_switch, e_invokevirtual, e_invokestatic, e_invokespecial, e_ret0, e_ret1, e_ret2, e_ret3, ldI_s, ldL_s, ldR_s, clO_s, ctP_s, ctS_s, mgo_0, mgo_s, pjc_s, pj_0, pj_s, lk_s, rm1_0, rm1_i, rm1_r, rm1_l, rm2_0, rm2_i, rm2_r, rm2_l, csL_s, lc_lt, lc_ge, lc_gt, lc_le, lc_eq, b01_0, b01_1, b01_01, b01_n, up2_o, up2_s, up2_u, ne_eq, reduceCtorEq, Nat.reduceAdd, Nat.reduceEqDiff, Nat.reduceLT, Nat.reduceLeDiff, Int.reduceLE, Int.reduceLT, Int.reduceAdd, Int.reduceNeg, Int.reduceMul, Int.reduceSub, Int.reduceEq, Int.reduceToNat, Int.reduceNatCast, Int.cast_ofNat_Int, ↓reduceIte, and_self, List.drop_succ_cons, List.drop_zero, List.take_succ_cons, List.take_zero, List.length_cons, List.length_nil, List.reverse_cons, List.reverse_nil, List.nil_append, List.cons_append, Option.toList, true_and, and_true, or_false, false_or, or_true, true_or, forall_const, Classical.not_not, not_false_eq_true, not_true_eq_false, false_implies, true_implies, implies_true, imp_self]
  refine ⟨fun q => ⟨hP0, fun v M1 hR => ?_⟩, fun q => hQ _ _ ⟨hk0, (if_neg q).symm⟩⟩
  obtain ⟨r1, r2, r3⟩ := hR
  rw [hV] at r3
  have r3 : v = sagT (vM M) := r3
  exact hI_24 _ _ _ _ _ ⟨q, keep_tr hk0 r1, 0, rfl, by omega, by rw [r3]; rfl, rfl⟩
set_option maxHeartbeats 4000000 in
set_option maxRecDepth 100000 in
theorem at7_worst_24 {M : Mm} {Q : Option AV → Mm → Prop} (hM : okM sh7 M) (hP : P7_worst M) (hQ : ∀ (v : Int) (M1 : Mm), R7_worst M v M1 → Q (some (ai v)) M1) {m : Nat} {best least c : Int} {M1 : Mm} (hM1 : okM sh7 M1) (h_best : i32 best) (h_least : i32 least) (h_c : i32 c) (hJ : J7_worst_24 M m best least c M1) (I_24 : List AV → Mm → Prop) (hI_24 : ∀ (m_ : Nat) (y_best : Int) (y_least : Int) (y_c : Int) (M2 : Mm), m_ < m → J7_worst_24 M m_ y_best y_least y_c M2 → I_24 [ar 0, ai y_best, ai y_least, ai y_c] M2) : wp (tb7 (csL cs7_worst)) sh7 5 1 cX7_worst [(24, [0, 1, 2, 3], I_24)] Q 400 24 [(0, ar 0), (1, ai best), (2, ai least), (3, ai c)] [] M1 := by
  obtain ⟨hq, hk, a, rfl, ha, hb, rfl⟩ := hJ
  have h4 : 0 ≤ M 7 4 ∧ M 7 4 ≤ 7 := hP.2.2.2.2.1
  have e7 : M1 7 = M 7 := keep_has hk
  have eV : vM M1 = vM M := keep_v hk 0
  have b2 := sagA_b hP (x := bshl 1 a)
  simp only [e_wp dX7_worst_0 rfl, e_wp dX7_worst_1 rfl, e_wp dX7_worst_2 rfl, e_wp dX7_worst_5 rfl, e_wp dX7_worst_6 rfl, e_wp dX7_worst_9 rfl, e_wp dX7_worst_12 rfl, e_wp dX7_worst_14 rfl, e_wp dX7_worst_15 rfl, e_wp dX7_worst_16 rfl, e_wp dX7_worst_17 rfl, e_wp dX7_worst_18 rfl, e_wp dX7_worst_21 rfl, e_wp dX7_worst_22 rfl, e_wp dX7_worst_23 rfl, e_wp dX7_worst_24 rfl, e_wp dX7_worst_25 rfl, e_wp dX7_worst_26 rfl, e_wp dX7_worst_29 rfl, e_wp dX7_worst_32 rfl, e_wp dX7_worst_33 rfl, e_wp dX7_worst_34 rfl, e_wp dX7_worst_35 rfl, e_wp dX7_worst_36 rfl, e_wp dX7_worst_39 rfl, e_wp dX7_worst_41 rfl, e_wp dX7_worst_43 rfl, e_wp dX7_worst_44 rfl, e_wp dX7_worst_47 rfl, e_wp dX7_worst_50 rfl, e_wp dX7_worst_51 rfl, e_wp dX7_worst_52 rfl, e_wp dX7_worst_54 rfl, e_wp dX7_worst_55 rfl, e_wp dX7_worst_58 rfl, e_wp dX7_worst_61 rfl, e_wp dX7_worst_62 rfl, p7_116, c7_isValley, P7_isValley, V7_isValley, cs7_worst, c7_sagsNow, c7_carts, P7_carts, V7_carts, c7_sagWithout, e_iconst, e_bipush, e_sipush, e_lconst_0, e_lconst_1, e_iload, e_iload_0, e_iload_1, e_iload_2, e_iload_3, e_lload, e_lload_0, e_lload_1, e_lload_2, e_lload_3, e_aload, e_aload_0, e_aload_1, e_aload_2, e_aload_3, e_istore, e_istore_0, e_istore_1, e_istore_2, e_istore_3, e_astore, e_astore_0, e_astore_1, e_astore_2, e_astore_3, e_lstore, e_lstore_0, e_lstore_1, e_lstore_2, e_lstore_3, e_iinc, e_iadd, e_isub, e_imul, e_ladd, e_lsub, e_lmul, e_idiv, e_irem, e_ldiv, e_lrem, e_ineg, e_lneg, e_iand, e_ior, e_ixor, e_ishl, e_ishr, e_iushr, e_lcmp, e_i2l, e_l2i, e_i2b, e_i2s, e_dup_i, e_dup_r, e_pop_i, e_pop_r, e_dup2_l, e_dup2_ir, e_dup2_ii, e_ifeq, e_ifne, e_iflt, e_ifge, e_ifgt, e_ifle, e_iceq, e_icne, e_iclt, e_icge, e_icgt, e_icle, e_goto, e_switch, e_invokevirtual, e_invokestatic, e_invokespecial, e_ret0, e_ret1, e_ret2, e_ret3, ldI_s, ldL_s, ldR_s, clO_s, ctP_s, ctS_s, mgo_0, mgo_s, pjc_s, pj_0, pj_s, lk_s, rm1_0, rm1_i, rm1_r, rm1_l, rm2_0, rm2_i, rm2_r, rm2_l, csL_s, lc_lt, lc_ge, lc_gt, lc_le, lc_eq, b01_0, b01_1, b01_01, b01_n, up2_o, up2_s, up2_u, ne_eq, reduceCtorEq, Nat.reduceAdd, Nat.reduceEqDiff, Nat.reduceLT, Nat.reduceLeDiff, Int.reduceLE, Int.reduceLT, Int.reduceAdd, Int.reduceNeg, Int.reduceMul, Int.reduceSub, Int.reduceEq, Int.reduceToNat, Int.reduceNatCast, Int.cast_ofNat_Int, ↓reduceIte, and_self, List.drop_succ_cons, List.drop_zero, List.take_succ_cons, List.take_zero, List.length_cons, List.length_nil, List.reverse_cons, List.reverse_nil, List.nil_append, List.cons_append, Option.toList, true_and, and_true, or_false, false_or, or_true, true_or, forall_const, Classical.not_not, not_false_eq_true, not_true_eq_false, false_implies, true_implies, implies_true, imp_self]
  rw [e7]
  refine ⟨fun q => ?_, fun q => ⟨by show okY (vM M1); rw [eV]; exact hP, fun v2 M2 hR2 => ?_⟩⟩
  · refine hQ _ _ ⟨hk, ?_⟩
    rw [show A_worst (vM M) = _ from if_pos hq, show (vM M 0 4).toNat = a by show (M 7 4).toNat = a; omega, ← hb]
  · obtain ⟨s1, s2⟩ := hR2
    rw [eV] at s2
    have el : (bestN (fun c => sagF (vM M) (absC (tellP (vM M)) (bshl 1 c))) (sagT (vM M)) a).2 = least := (congrArg Prod.snd hb).symm
    have hk2 := keep_tr hk s1
    refine ⟨fun z => ⟨by omega, ?_⟩, fun z => ⟨by omega, ?_⟩⟩
    · refine hI_24 (7 - (a + 1)) _ _ _ _ (by omega) ⟨hq, hk2, a + 1, by omega, by omega, ?_, rfl⟩
      first | (rw [bestN_1 (by rw [el]; show sagF _ _ < _; omega)]; rw [s2]) | (rw [bestN_0 (by rw [el]; show ¬ sagF _ _ < _; omega)]; exact hb)
    · refine hI_24 (7 - (a + 1)) _ _ _ _ (by omega) ⟨hq, hk2, a + 1, by omega, by omega, ?_, rfl⟩
      first | (rw [bestN_1 (by rw [el]; show sagF _ _ < _; omega)]; rw [s2]) | (rw [bestN_0 (by rw [el]; show ¬ sagF _ _ < _; omega)]; exact hb)
set_option maxHeartbeats 4000000 in
set_option maxRecDepth 100000 in
theorem m7_worst : MOK cl7 sh7 tyl7 [] 6 yX7_worst cX7_worst 5 (some .int) sp7_worst := by
  refine mok_of (own := RX7) (tb := tb7 (csL cs7_worst)) (rt := 1) (fuel := 400) (fun avs M Q => [(24, [0, 1, 2, 3], fun m_ vs M1 => ∃ y_best : Int, ∃ y_least : Int, ∃ y_c : Int, vs = [ar 0, ai y_best, ai y_least, ai y_c] ∧ J7_worst_24 M m_ y_best y_least y_c M1)]) (by decide) rfl nil_nw (tbOK7 _) rfl (csL_all ?_) ?_ ?_ ?_
  · intro q hq
    simp only [cs7_worst, List.mem_cons, List.not_mem_nil, or_false] at hq
    rcases hq with rfl | rfl | rfl | rfl
    · exact cg7_isValley (by decide)
    · exact cg7_sagsNow (by decide)
    · exact cg7_carts (by decide)
    · exact cg7_sagWithout (by decide)
  · intro avs M Q hsp
    obtain ⟨xs, hx⟩ := spR_un _ _ _ hsp
    obtain ⟨e, hl⟩ := unA_mkT hx
    obtain rfl := len0 hl
    have e : avs = [ar 0] := e
    subst e
    simp [szL, isL]
  · intro avs M Q hM hav hsp
    obtain ⟨xs, hx⟩ := spR_un _ _ _ hsp
    obtain ⟨e, hl⟩ := unA_mkT hx
    obtain rfl := len0 hl
    have e : avs = [ar 0] := e
    subst e
    exact in7_worst hM hsp.1 hsp.2 _ (fun m_ y_best y_least y_c M2 hJ => ⟨m_, y_best, y_least, y_c, rfl, hJ⟩)
  · intro avs M Q hM hav hsp q hq m_ vs M1 hM1 hv hJ
    obtain ⟨xs, hx⟩ := spR_un _ _ _ hsp
    obtain ⟨e, hl⟩ := unA_mkT hx
    obtain rfl := len0 hl
    have e : avs = [ar 0] := e
    subst e
    simp only [List.mem_cons, List.not_mem_nil, or_false] at hq
    rcases hq with rfl
    · obtain ⟨y_best, y_least, y_c, rfl, hJ⟩ := hJ
      exact at7_worst_24 hM hsp.1 hsp.2 hM1 (hv (1, ai y_best) (List.mem_of_getElem? (i := 1) rfl)) (hv (2, ai y_least) (List.mem_of_getElem? (i := 2) rfl)) (hv (3, ai y_c) (List.mem_of_getElem? (i := 3) rfl)) hJ _ (fun m2 z_best z_least z_c M2 hm hJ2 => ⟨m2, hm, z_best, z_least, z_c, rfl, hJ2⟩)
