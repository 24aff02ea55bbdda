/-! SagMemoryModel: one frost more, by another law -/
abbrev frsC (V : Vy) (x : Int) : Cf := up2 (tellP V) 0 1 x
abbrev lawC (V : Vy) (x : Int) : Cf := up2 (tellP V) 0 0 x
def forF (V : Vy) (t : Int) : Int := sagF V (frsC V (bor (tellP V 0 1) (bshl 1 t)))
def A_forget (V : Vy) : Int := if 0 < V 0 8 then (bestN (fun t => forF V t) (sagT V) (V 0 4).toNat).1 else -2
def P7_forget (M : Mm) : Prop := okY (vM M)
def R7_forget (M : Mm) (v : Int) (M1 : Mm) : Prop := keepM M M1 ∧ v = A_forget (vM M)
def sp7_forget : Spec := spR true [] 1 (fun x M => P7_forget M) (fun x M v M1 => R7_forget M v M1)
theorem c7_forget {M : Mm} {Q : Option AV → Mm → Prop} : sp7_forget [ar 0] M Q = (P7_forget M ∧ ∀ (v : Int) (M1 : Mm), R7_forget M v M1 → Q (some (ai v)) M1) := rfl
def cs7_forget : List (Nat × Nat × Nat × Spec) := [(350, 1, 1, sp7_isValley), (386, 1, 1, sp7_sagsNow), (286, 1, 1, sp7_carts), (330, 1, 1, sp7_lays), (333, 1, 1, sp7_runs), (339, 1, 1, sp7_sagAll)]
def J7_forget_24 (M : Mm) (m : Nat) (best : Int) (least : Int) (c : Int) (M1 : Mm) : Prop := 0 < vM M 0 8 ∧ keepM M M1 ∧ ∃ a : Nat, c = a ∧ (a : Int) ≤ M 7 4 ∧ (best, least) = bestN (fun t => forF (vM M) t) (sagT (vM M)) a ∧ m = 7 - a
set_option maxHeartbeats 4000000 in
set_option maxRecDepth 100000 in
theorem in7_forget {M : Mm} {Q : Option AV → Mm → Prop} (hM : okM sh7 M) (hP : P7_forget M) (hQ : ∀ (v : Int) (M1 : Mm), R7_forget M v M1 → Q (some (ai v)) M1) (I_24 : List AV → Mm → Prop) (hI_24 : ∀ (m_ : Nat) (y_best : Int) (y_least : Int) (y_c : Int) (M2 : Mm), J7_forget_24 M m_ y_best y_least y_c M2 → I_24 [ar 0, ai y_best, ai y_least, ai y_c] M2) : wp (tb7 (csL cs7_forget)) sh7 4 1 cX7_forget [(24, [0, 1, 2, 3], I_24)] Q 400 0 [(0, ar 0)] [] M := by
  have h4 : 0 ≤ M 7 4 ∧ M 7 4 ≤ 7 := hP.2.2.2.2.1
  have hk0 : keepM M (up2 M 0 0 0) := keep_u0 keep_rf (by decide)
  have hV : vM (up2 M 0 0 0) = vM M := keep_v hk0 0
  have hP0 : okY (vM (up2 M 0 0 0)) := by rw [hV]; exact hP
  simp only [e_wp dX7_forget_0 rfl, e_wp dX7_forget_1 rfl, e_wp dX7_forget_2 rfl, e_wp dX7_forget_5 rfl, e_wp dX7_forget_6 rfl, e_wp dX7_forget_9 rfl, e_wp dX7_forget_12 rfl, e_wp dX7_forget_14 rfl, e_wp dX7_forget_15 rfl, e_wp dX7_forget_16 rfl, e_wp dX7_forget_17 rfl, e_wp dX7_forget_18 rfl, e_wp dX7_forget_21 rfl, e_wp dX7_forget_22 rfl, e_wp dX7_forget_23 rfl, e_wp dX7_forget_24 rfl, e_wp dX7_forget_25 rfl, e_wp dX7_forget_26 rfl, e_wp dX7_forget_29 rfl, e_wp dX7_forget_32 rfl, e_wp dX7_forget_33 rfl, e_wp dX7_forget_36 rfl, e_wp dX7_forget_37 rfl, e_wp dX7_forget_38 rfl, e_wp dX7_forget_41 rfl, e_wp dX7_forget_42 rfl, e_wp dX7_forget_43 rfl, e_wp dX7_forget_44 rfl, e_wp dX7_forget_45 rfl, e_wp dX7_forget_48 rfl, e_wp dX7_forget_49 rfl, e_wp dX7_forget_52 rfl, e_wp dX7_forget_53 rfl, e_wp dX7_forget_56 rfl, e_wp dX7_forget_57 rfl, e_wp dX7_forget_60 rfl, e_wp dX7_forget_63 rfl, e_wp dX7_forget_64 rfl, e_wp dX7_forget_65 rfl, e_wp dX7_forget_66 rfl, e_wp dX7_forget_69 rfl, e_wp dX7_forget_70 rfl, e_wp dX7_forget_73 rfl, e_wp dX7_forget_76 rfl, e_wp dX7_forget_77 rfl, p7_116, c7_isValley, P7_isValley, V7_isValley, cs7_forget, c7_sagsNow, c7_carts, P7_carts, V7_carts, c7_lays, g7_298, p7_298, c7_runs, c7_sagAll, P7_sagAll, V7_sagAll, e_iconst, e_bipush, e_sipush, e_lconst_0, e_lconst_1, e_iload, e_iload_0, e_iload_1, e_iload_2, e_iload_3, e_lload, e_lload_0, e_lload_1, e_lload_2, e_lload_3, e_aload, e_aload_0, e_aload_1, e_aload_2, e_aload_3, e_istore, e_istore_0, e_istore_1, e_istore_2, e_istore_3, e_astore, e_astore_0, e_astore_1, e_astore_2, e_astore_3, e_lstore, e_lstore_0, e_lstore_1, e_lstore_2, e_lstore_3, e_iinc, e_iadd, e_isub, e_imul, e_ladd, e_lsub, e_lmul, e_idiv, e_irem, e_ldiv, e_lrem, e_ineg, e_lneg, e_iand, e_ior, e_ixor, e_ishl, e_ishr, e_iushr, e_lcmp, e_i2l, e_l2i, e_i2b, e_i2s, e_dup_i, e_dup_r, e_pop_i, e_pop_r, e_dup2_l, e_dup2_ir, e_dup2_ii, e_ifeq, e_ifne, e_iflt, e_ifge, e_ifgt, e_ifle, e_iceq, e_icne, e_iclt, e_icge, e_icgt, e_icle, e_goto, e_switch, e_invokevirtual, e_invokestatic, e_invokespecial, e_ret0, e_ret1, e_ret2, e_ret3, ldI_s, ldL_s, ldR_s, clO_s, ctP_s, ctS_s, mgo_0, mgo_s, pjc_s, pj_0, pj_s, lk_s, rm1_0, rm1_i, rm1_r, rm1_l, rm2_0, rm2_i, rm2_r, rm2_l, csL_s, lc_lt, lc_ge, lc_gt, lc_le, lc_eq, b01_0, b01_1, b01_01, b01_n, up2_o, up2_s, up2_u, ne_eq, reduceCtorEq, Nat.reduceAdd, Nat.reduceEqDiff, Nat.reduceLT, Nat.reduceLeDiff, Int.reduceLE, Int.reduceLT, Int.reduceAdd, Int.reduceNeg, Int.reduceMul, Int.reduceSub, Int.reduceEq, Int.reduceToNat, Int.reduceNatCast, Int.cast_ofNat_Int, ↓reduceIte, and_self, List.drop_succ_cons, List.drop_zero, List.take_succ_cons, List.take_zero, List.length_cons, List.length_nil, List.reverse_cons, List.reverse_nil, List.nil_append, List.cons_append, Option.toList, true_and, and_true, or_false, false_or, or_true, true_or, forall_const, Classical.not_not, not_false_eq_true, not_true_eq_false, false_implies, true_implies, implies_true, imp_self]
  refine ⟨fun q => ⟨hP0, fun v M1 hR => ?_⟩, fun q => hQ _ _ ⟨hk0, (if_neg q).symm⟩⟩
  obtain ⟨r1, r2, r3⟩ := hR
  rw [hV] at r3
  have r3 : v = sagT (vM M) := r3
  exact hI_24 _ _ _ _ _ ⟨q, keep_tr hk0 r1, 0, rfl, by omega, by rw [r3]; rfl, rfl⟩
set_option maxHeartbeats 4000000 in
set_option maxRecDepth 100000 in
theorem at7_forget_24 {M : Mm} {Q : Option AV → Mm → Prop} (hM : okM sh7 M) (hP : P7_forget M) (hQ : ∀ (v : Int) (M1 : Mm), R7_forget M v M1 → Q (some (ai v)) M1) {m : Nat} {best least c : Int} {M1 : Mm} (hM1 : okM sh7 M1) (h_best : i32 best) (h_least : i32 least) (h_c : i32 c) (hJ : J7_forget_24 M m best least c M1) (I_24 : List AV → Mm → Prop) (hI_24 : ∀ (m_ : Nat) (y_best : Int) (y_least : Int) (y_c : Int) (M2 : Mm), m_ < m → J7_forget_24 M m_ y_best y_least y_c M2 → I_24 [ar 0, ai y_best, ai y_least, ai y_c] M2) : wp (tb7 (csL cs7_forget)) sh7 4 1 cX7_forget [(24, [0, 1, 2, 3], I_24)] Q 400 24 [(0, ar 0), (1, ai best), (2, ai least), (3, ai c)] [] M1 := by
  obtain ⟨hq, hk, a, rfl, ha, hb, rfl⟩ := hJ
  have h4 : 0 ≤ M 7 4 ∧ M 7 4 ≤ 7 := hP.2.2.2.2.1
  have e7 : M1 7 = M 7 := keep_has hk
  have eV : vM M1 = vM M := keep_v hk 0
  have hP1 : okY (vM M1) := by rw [eV]; exact hP
  simp only [e_wp dX7_forget_0 rfl, e_wp dX7_forget_1 rfl, e_wp dX7_forget_2 rfl, e_wp dX7_forget_5 rfl, e_wp dX7_forget_6 rfl, e_wp dX7_forget_9 rfl, e_wp dX7_forget_12 rfl, e_wp dX7_forget_14 rfl, e_wp dX7_forget_15 rfl, e_wp dX7_forget_16 rfl, e_wp dX7_forget_17 rfl, e_wp dX7_forget_18 rfl, e_wp dX7_forget_21 rfl, e_wp dX7_forget_22 rfl, e_wp dX7_forget_23 rfl, e_wp dX7_forget_24 rfl, e_wp dX7_forget_25 rfl, e_wp dX7_forget_26 rfl, e_wp dX7_forget_29 rfl, e_wp dX7_forget_32 rfl, e_wp dX7_forget_33 rfl, e_wp dX7_forget_36 rfl, e_wp dX7_forget_37 rfl, e_wp dX7_forget_38 rfl, e_wp dX7_forget_41 rfl, e_wp dX7_forget_42 rfl, e_wp dX7_forget_43 rfl, e_wp dX7_forget_44 rfl, e_wp dX7_forget_45 rfl, e_wp dX7_forget_48 rfl, e_wp dX7_forget_49 rfl, e_wp dX7_forget_52 rfl, e_wp dX7_forget_53 rfl, e_wp dX7_forget_56 rfl, e_wp dX7_forget_57 rfl, e_wp dX7_forget_60 rfl, e_wp dX7_forget_63 rfl, e_wp dX7_forget_64 rfl, e_wp dX7_forget_65 rfl, e_wp dX7_forget_66 rfl, e_wp dX7_forget_69 rfl, e_wp dX7_forget_70 rfl, e_wp dX7_forget_73 rfl, e_wp dX7_forget_76 rfl, e_wp dX7_forget_77 rfl, p7_116, c7_isValley, P7_isValley, V7_isValley, cs7_forget, c7_sagsNow, c7_carts, P7_carts, V7_carts, c7_lays, g7_298, p7_298, c7_runs, c7_sagAll, P7_sagAll, V7_sagAll, e_iconst, e_bipush, e_sipush, e_lconst_0, e_lconst_1, e_iload, e_iload_0, e_iload_1, e_iload_2, e_iload_3, e_lload, e_lload_0, e_lload_1, e_lload_2, e_lload_3, e_aload, e_aload_0, e_aload_1, e_aload_2, e_aload_3, e_istore, e_istore_0, e_istore_1, e_istore_2, e_istore_3, e_astore, e_astore_0, e_astore_1, e_astore_2, e_astore_3, e_lstore, e_lstore_0, e_lstore_1, e_lstore_2, e_lstore_3, e_iinc, e_iadd, e_isub, e_imul, e_ladd, e_lsub, e_lmul, e_idiv, e_irem, e_ldiv, e_lrem, e_ineg, e_lneg, e_iand, e_ior, e_ixor, e_ishl, e_ishr, e_iushr, e_lcmp, e_i2l, e_l2i, e_i2b, e_i2s, e_dup_i, e_dup_r, e_pop_i, e_pop_r, e_dup2_l, e_dup2_ir, e_dup2_ii, e_ifeq, e_ifne, e_iflt, e_ifge, e_ifgt, e_ifle, e_iceq, e_icne, e_iclt, e_icge, e_icgt, e_icle, e_goto, e_switch, e_invokevirtual, e_invokestatic, e_invokespecial, e_ret0, e_ret1, e_ret2, e_ret3, ldI_s, ldL_s, ldR_s, clO_s, ctP_s, ctS_s, mgo_0, mgo_s, pjc_s, pj_0, pj_s, lk_s, rm1_0, rm1_i, rm1_r, rm1_l, rm2_0, rm2_i, rm2_r, rm2_l, csL_s, lc_lt, lc_ge, lc_gt, lc_le, lc_eq, b01_0, b01_1, b01_01, b01_n, up2_o, up2_s, up2_u, ne_eq, reduceCtorEq, Nat.reduceAdd, Nat.reduceEqDiff, Nat.reduceLT, Nat.reduceLeDiff, Int.reduceLE, Int.reduceLT, Int.reduceAdd, Int.reduceNeg, Int.reduceMul, Int.reduceSub, Int.reduceEq, Int.reduceToNat, Int.reduceNatCast, Int.cast_ofNat_Int, ↓reduceIte, and_self, List.drop_succ_cons, List.drop_zero, List.take_succ_cons, List.take_zero, List.length_cons, List.length_nil, List.reverse_cons, List.reverse_nil, List.nil_append, List.cons_append, Option.toList, true_and, and_true, or_false, false_or, or_true, true_or, forall_const, Classical.not_not, not_false_eq_true, not_true_eq_false, false_implies, true_implies, implies_true, imp_self]
  rw [e7]
  refine ⟨fun q => ?_, fun q => ⟨hP1, fun M2 hR => ?_⟩⟩
  · refine hQ _ _ ⟨hk, ?_⟩
    rw [show A_forget (vM M) = _ from if_pos hq, show (vM M 0 4).toNat = a by show (M 7 4).toNat = a; omega, ← hb]
  · obtain ⟨k1, k2⟩ := tl_use hR
    rw [eV] at k2
    have k1 := keep_tr hk k1
    have ef : M2 0 25 = tellP (vM M) 0 1 := congrFun (congrFun k2 0) 1
    rw [ef]
    have k3 : keepM M (up2 M2 0 25 (bor (tellP (vM M) 0 1) (bshl 1 a))) := keep_u0 k1 (by decide)
    have k4 : nC (vM M) (cM (up2 M2 0 25 (bor (tellP (vM M) 0 1) (bshl 1 a)))) = frsC (vM M) (bor (tellP (vM M) 0 1) (bshl 1 a)) := by rw [frs_cM, nC_u, k2]
    refine ⟨run_pre hP k3 k4 (okCf_frs (okCf_tell hP)), fun M3 hR3 => ?_⟩
    obtain ⟨s1, s2, s3, s4⟩ := run_use k3 k4 hR3
    have es : sumN (fun b => sagP (mb M3 b)) (M3 7 3).toNat = forF (vM M) a := sag_val s3 s2
    rw [es]
    have el : (bestN (fun t => forF (vM M) t) (sagT (vM M)) a).2 = least := (congrArg Prod.snd hb).symm
    have sp := sag_pre hP s3 s2
    refine ⟨sp, fun z => ?_, fun z => ?_⟩
    · refine ⟨sp, by omega, hI_24 (7 - (a + 1)) _ _ _ _ (by omega) ⟨hq, s1, a + 1, by omega, by omega, ?_, rfl⟩⟩
      rw [bestN_1 (by rw [el]; exact z)]
    · refine ⟨by omega, hI_24 (7 - (a + 1)) _ _ _ _ (by omega) ⟨hq, s1, a + 1, by omega, by omega, ?_, rfl⟩⟩
      rw [bestN_0 (by rw [el]; omega)]; exact hb
set_option maxHeartbeats 4000000 in
set_option maxRecDepth 100000 in
theorem m7_forget : MOK cl7 sh7 tyl7 [] 6 yX7_forget cX7_forget 4 (some .int) sp7_forget := by
  refine mok_of (own := RX7) (tb := tb7 (csL cs7_forget)) (rt := 1) (fuel := 400) (fun avs M Q => [(24, [0, 1, 2, 3], fun m_ vs M1 => ∃ y_best : Int, ∃ y_least : Int, ∃ y_c : Int, vs = [ar 0, ai y_best, ai y_least, ai y_c] ∧ J7_forget_24 M m_ y_best y_least y_c M1)]) (by decide) rfl nil_nw (tbOK7 _) rfl (csL_all ?_) ?_ ?_ ?_
  · intro q hq
    simp only [cs7_forget, List.mem_cons, List.not_mem_nil, or_false] at hq
    rcases hq with rfl | rfl | rfl | rfl | rfl | rfl
    · exact cg7_isValley (by decide)
    · exact cg7_sagsNow (by decide)
    · exact cg7_carts (by decide)
    · exact cg7_lays (by decide)
    · exact cg7_runs (by decide)
    · exact cg7_sagAll (by decide)
  · intro avs M Q hsp
    obtain ⟨xs, hx⟩ := spR_un _ _ _ hsp
    obtain ⟨e, hl⟩ := unA_mkT hx
    obtain rfl := len0 hl
    have e : avs = [ar 0] := e
    subst e
    simp [szL, isL]
  · intro avs M Q hM hav hsp
    obtain ⟨xs, hx⟩ := spR_un _ _ _ hsp
    obtain ⟨e, hl⟩ := unA_mkT hx
    obtain rfl := len0 hl
    have e : avs = [ar 0] := e
    subst e
    exact in7_forget hM hsp.1 hsp.2 _ (fun m_ y_best y_least y_c M2 hJ => ⟨m_, y_best, y_least, y_c, rfl, hJ⟩)
  · intro avs M Q hM hav hsp q hq m_ vs M1 hM1 hv hJ
    obtain ⟨xs, hx⟩ := spR_un _ _ _ hsp
    obtain ⟨e, hl⟩ := unA_mkT hx
    obtain rfl := len0 hl
    have e : avs = [ar 0] := e
    subst e
    simp only [List.mem_cons, List.not_mem_nil, or_false] at hq
    rcases hq with rfl
    · obtain ⟨y_best, y_least, y_c, rfl, hJ⟩ := hJ
      exact at7_forget_24 hM hsp.1 hsp.2 hM1 (hv (1, ai y_best) (List.mem_of_getElem? (i := 1) rfl)) (hv (2, ai y_least) (List.mem_of_getElem? (i := 2) rfl)) (hv (3, ai y_c) (List.mem_of_getElem? (i := 3) rfl)) hJ _ (fun m2 z_best z_least z_c M2 hm hJ2 => ⟨m2, hm, z_best, z_least, z_c, rfl, hJ2⟩)
def P7_sagBy (l : Int) (M : Mm) : Prop := okY (vM M) ∧ 0 ≤ l ∧ l ≤ 3
def R7_sagBy (l : Int) (M : Mm) (v : Int) (M1 : Mm) : Prop := keepM M M1 ∧ v = sagF (vM M) (lawC (vM M) l) ∧ ranR (vM M) (lawC (vM M) l) M1
def sp7_sagBy : Spec := spR true [0] 1 (fun x M => P7_sagBy (x 0) M) (fun x M v M1 => R7_sagBy (x 0) M v M1)
theorem c7_sagBy {l : Int} {M : Mm} {Q : Option AV → Mm → Prop} : sp7_sagBy [ar 0, ai l] M Q = (P7_sagBy l M ∧ ∀ (v : Int) (M1 : Mm), R7_sagBy l M v M1 → Q (some (ai v)) M1) := rfl
def cs7_sagBy : List (Nat × Nat × Nat × Spec) := [(330, 1, 1, sp7_lays), (333, 1, 1, sp7_runs), (339, 1, 1, sp7_sagAll)]
set_option maxHeartbeats 4000000 in
set_option maxRecDepth 100000 in
theorem in7_sagBy {l : Int} {M : Mm} {Q : Option AV → Mm → Prop} (hM : okM sh7 M) (h_l : i32 l) (hP : P7_sagBy l M) (hQ : ∀ (v : Int) (M1 : Mm), R7_sagBy l M v M1 → Q (some (ai v)) M1) : wp (tb7 (csL cs7_sagBy)) sh7 2 1 cX7_sagBy [] Q 400 0 [(0, ar 0), (1, ai l)] [] M := by
  obtain ⟨hP, hl⟩ := id hP
  simp only [e_wp dX7_sagBy_0 rfl, e_wp dX7_sagBy_1 rfl, e_wp dX7_sagBy_4 rfl, e_wp dX7_sagBy_5 rfl, e_wp dX7_sagBy_6 rfl, e_wp dX7_sagBy_9 rfl, e_wp dX7_sagBy_10 rfl, e_wp dX7_sagBy_13 rfl, e_wp dX7_sagBy_14 rfl, e_wp dX7_sagBy_17 rfl, c7_lays, cs7_sagBy, p7_295, c7_runs, c7_sagAll, P7_sagAll, V7_sagAll, e_iconst, e_bipush, e_sipush, e_lconst_0, e_lconst_1, e_iload, e_iload_0, e_iload_1, e_iload_2, e_iload_3, e_lload, e_lload_0, e_lload_1, e_lload_2, e_lload_3, e_aload, e_aload_0, e_aload_1, e_aload_2, e_aload_3, e_istore, e_istore_0, e_istore_1, e_istore_2, e_istore_3, e_astore, e_astore_0, e_astore_1, e_astore_2, e_astore_3, e_lstore, e_lstore_0, e_lstore_1, e_lstore_2, e_lstore_3, e_iinc, e_iadd, e_isub, e_imul, e_ladd, e_lsub, e_lmul, e_idiv, e_irem, e_ldiv, e_lrem, e_ineg, e_lneg, e_iand, e_ior, e_ixor, e_ishl, e_ishr, e_iushr, e_lcmp, e_i2l, e_l2i, e_i2b, e_i2s, e_dup_i, e_dup_r, e_pop_i, e_pop_r, e_dup2_l, e_dup2_ir, e_dup2_ii, e_ifeq, e_ifne, e_iflt, e_ifge, e_ifgt, e_ifle, e_iceq, e_icne, e_iclt, e_icge, e_icgt, e_icle, e_goto, e_switch, e_invokevirtual, e_invokestatic, e_invokespecial, e_ret0, e_ret1, e_ret2, e_ret3, ldI_s, ldL_s, ldR_s, clO_s, ctP_s, ctS_s, mgo_0, mgo_s, pjc_s, pj_0, pj_s, lk_s, rm1_0, rm1_i, rm1_r, rm1_l, rm2_0, rm2_i, rm2_r, rm2_l, csL_s, lc_lt, lc_ge, lc_gt, lc_le, lc_eq, b01_0, b01_1, b01_01, b01_n, up2_o, up2_s, up2_u, ne_eq, reduceCtorEq, Nat.reduceAdd, Nat.reduceEqDiff, Nat.reduceLT, Nat.reduceLeDiff, Int.reduceLE, Int.reduceLT, Int.reduceAdd, Int.reduceNeg, Int.reduceMul, Int.reduceSub, Int.reduceEq, Int.reduceToNat, Int.reduceNatCast, Int.cast_ofNat_Int, ↓reduceIte, and_self, List.drop_succ_cons, List.drop_zero, List.take_succ_cons, List.take_zero, List.length_cons, List.length_nil, List.reverse_cons, List.reverse_nil, List.nil_append, List.cons_append, Option.toList, true_and, and_true, or_false, false_or, or_true, true_or, forall_const, Classical.not_not, not_false_eq_true, not_true_eq_false, false_implies, true_implies, implies_true, imp_self]
  refine ⟨hP, fun M1 hR => ?_⟩
  obtain ⟨k1, k2⟩ := tl_use hR
  have k3 : keepM M (up2 M1 0 24 l) := keep_u0 k1 (by decide)
  have k4 : nC (vM M) (cM (up2 M1 0 24 l)) = lawC (vM M) l := by rw [law_cM, nC_u, k2]
  refine ⟨run_pre hP k3 k4 (okCf_law (okCf_tell hP) hl), fun M2 hR2 => ?_⟩
  obtain ⟨s1, s2, s3, s4⟩ := run_use k3 k4 hR2
  exact ⟨sag_pre hP s3 s2, hQ _ _ ⟨s1, sag_val s3 s2, s2⟩⟩
set_option maxHeartbeats 4000000 in
set_option maxRecDepth 100000 in
theorem m7_sagBy : MOK cl7 sh7 tyl7 [] 4 yX7_sagBy cX7_sagBy 2 (some .int) sp7_sagBy := by
  refine mok_of (own := RX7) (tb := tb7 (csL cs7_sagBy)) (rt := 1) (fuel := 400) (fun avs M Q => []) (by decide) rfl nil_nw (tbOK7 _) rfl (csL_all ?_) ?_ ?_ ?_
  · intro q hq
    simp only [cs7_sagBy, List.mem_cons, List.not_mem_nil, or_false] at hq
    rcases hq with rfl | rfl | rfl
    · exact cg7_lays (by decide)
    · exact cg7_runs (by decide)
    · exact cg7_sagAll (by decide)
  · intro avs M Q hsp
    obtain ⟨xs, hx⟩ := spR_un _ _ _ hsp
    obtain ⟨e, hl⟩ := unA_mkT hx
    obtain ⟨l, rfl⟩ := len1 hl
    have e : avs = [ar 0, ai l] := e
    subst e
    simp [szL, isL]
  · intro avs M Q hM hav hsp
    obtain ⟨xs, hx⟩ := spR_un _ _ _ hsp
    obtain ⟨e, hl⟩ := unA_mkT hx
    obtain ⟨l, rfl⟩ := len1 hl
    have e : avs = [ar 0, ai l] := e
    subst e
    exact in7_sagBy hM (hav (ai l) (by simp)) hsp.1 hsp.2
  · intro avs M Q hM hav hsp q hq m_ vs M1 hM1 hv hJ
    obtain ⟨xs, hx⟩ := spR_un _ _ _ hsp
    obtain ⟨e, hl⟩ := unA_mkT hx
    obtain ⟨l, rfl⟩ := len1 hl
    have e : avs = [ar 0, ai l] := e
    subst e
    cases hq
theorem cg7_sagBy {lvl : Nat} (h : 4 < lvl) : CG RX7 cl7 sh7 tyl7 [] lvl 1 445 2 sp7_sagBy := cg_V (sg := [0]) nil_nw spR_mono spR_un m7_sagBy h rfl (by decide) rfl rfl ⟨rfl, by decide, by decide, rfl⟩ q2154 q2156 qs118 q138 q2157
def A_by (V : Vy) (l : Int) : Int := if 0 < V 0 8 ∧ 0 ≤ l ∧ l ≤ 3 then sagF V (lawC V l) else -2
def P7_by (l : Int) (M : Mm) : Prop := okY (vM M)
def R7_by (l : Int) (M : Mm) (v : Int) (M1 : Mm) : Prop := keepM M M1 ∧ v = A_by (vM M) l
def sp7_by : Spec := spR true [0] 1 (fun x M => P7_by (x 0) M) (fun x M v M1 => R7_by (x 0) M v M1)
theorem c7_by {l : Int} {M : Mm} {Q : Option AV → Mm → Prop} : sp7_by [ar 0, ai l] M Q = (P7_by l M ∧ ∀ (v : Int) (M1 : Mm), R7_by l M v M1 → Q (some (ai v)) M1) := rfl
def cs7_by : List (Nat × Nat × Nat × Spec) := [(350, 1, 1, sp7_isValley), (121, 0, 3, sp7_in), (445, 1, 2, sp7_sagBy)]
set_option maxHeartbeats 4000000 in
set_option maxRecDepth 100000 in
theorem in7_by {l : Int} {M : Mm} {Q : Option AV → Mm → Prop} (hM : okM sh7 M) (h_l : i32 l) (hP : P7_by l M) (hQ : ∀ (v : Int) (M1 : Mm), R7_by l M v M1 → Q (some (ai v)) M1) : wp (tb7 (csL cs7_by)) sh7 2 1 cX7_by [] Q 400 0 [(0, ar 0), (1, ai l)] [] M := by
  have hk0 : keepM M (up2 M 0 0 0) := keep_u0 keep_rf (by decide)
  have hV : vM (up2 M 0 0 0) = vM M := keep_v hk0 0
  have hP0 : okY (vM (up2 M 0 0 0)) := by rw [hV]; exact hP
  have e1 : ¬ (0 < M 6 0 ∧ 0 ≤ l ∧ l ≤ 3) → A_by (vM M) l = -2 := fun q => if_neg q
  have e2 : ∀ v M2, R7_sagBy l (up2 M 0 0 0) v M2 → 0 < M 6 0 → 0 ≤ l → l ≤ 3 → keepM M M2 ∧ v = A_by (vM M) l := by
    intro v M2 hR a b c
    obtain ⟨r1, r2, -⟩ := hR
    rw [hV] at r2
    exact ⟨keep_tr hk0 r1, r2.trans (if_pos ⟨a, b, c⟩).symm⟩
  simp only [e_wp dX7_by_0 rfl, e_wp dX7_by_1 rfl, e_wp dX7_by_2 rfl, e_wp dX7_by_5 rfl, e_wp dX7_by_6 rfl, e_wp dX7_by_9 rfl, e_wp dX7_by_12 rfl, e_wp dX7_by_13 rfl, e_wp dX7_by_14 rfl, e_wp dX7_by_15 rfl, e_wp dX7_by_18 rfl, e_wp dX7_by_21 rfl, e_wp dX7_by_24 rfl, e_wp dX7_by_25 rfl, e_wp dX7_by_26 rfl, e_wp dX7_by_29 rfl, e_wp dX7_by_32 rfl, e_wp dX7_by_34 rfl, p7_116, c7_isValley, P7_isValley, V7_isValley, cs7_by, k7_119, c7_in, P7_in, V7_in, c7_sagBy, e_iconst, e_bipush, e_sipush, e_lconst_0, e_lconst_1, e_iload, e_iload_0, e_iload_1, e_iload_2, e_iload_3, e_lload, e_lload_0, e_lload_1, e_lload_2, e_lload_3, e_aload, e_aload_0, e_aload_1, e_aload_2, e_aload_3, e_istore, e_istore_0, e_istore_1, e_istore_2, e_istore_3, e_astore, e_astore_0, e_astore_1, e_astore_2, e_astore_3, e_lstore, e_lstore_0, e_lstore_1, e_lstore_2, e_lstore_3, e_iinc, e_iadd, e_isub, e_imul, e_ladd, e_lsub, e_lmul, e_idiv, e_irem, e_ldiv, e_lrem, e_ineg, e_lneg, e_iand, e_ior, e_ixor, e_ishl, e_ishr, e_iushr, e_lcmp, e_i2l, e_l2i, e_i2b, e_i2s, e_dup_i, e_dup_r, e_pop_i, e_pop_r, e_dup2_l, e_dup2_ir, e_dup2_ii, e_ifeq, e_ifne, e_iflt, e_ifge, e_ifgt, e_ifle, e_iceq, e_icne, e_iclt, e_icge, e_icgt, e_icle, e_goto, e_switch, e_invokevirtual, e_invokestatic, e_invokespecial, e_ret0, e_ret1, e_ret2, e_ret3, ldI_s, ldL_s, ldR_s, clO_s, ctP_s, ctS_s, mgo_0, mgo_s, pjc_s, pj_0, pj_s, lk_s, rm1_0, rm1_i, rm1_r, rm1_l, rm2_0, rm2_i, rm2_r, rm2_l, csL_s, lc_lt, lc_ge, lc_gt, lc_le, lc_eq, b01_0, b01_1, b01_01, b01_n, up2_o, up2_s, up2_u, ne_eq, reduceCtorEq, Nat.reduceAdd, Nat.reduceEqDiff, Nat.reduceLT, Nat.reduceLeDiff, Int.reduceLE, Int.reduceLT, Int.reduceAdd, Int.reduceNeg, Int.reduceMul, Int.reduceSub, Int.reduceEq, Int.reduceToNat, Int.reduceNatCast, Int.cast_ofNat_Int, ↓reduceIte, and_self, List.drop_succ_cons, List.drop_zero, List.take_succ_cons, List.take_zero, List.length_cons, List.length_nil, List.reverse_cons, List.reverse_nil, List.nil_append, List.cons_append, Option.toList, true_and, and_true, or_false, false_or, or_true, true_or, forall_const, Classical.not_not, not_false_eq_true, not_true_eq_false, false_implies, true_implies, implies_true, imp_self]
  exact ⟨fun q => hQ _ _ ⟨hk0, (e1 (by omega)).symm⟩, fun q => ⟨fun z => hQ _ _ ⟨hk0, (e1 (by omega)).symm⟩, fun z => ⟨⟨hP0, z⟩, fun v M1 hR => hQ _ _ (e2 v M1 hR q z.1 z.2)⟩⟩⟩
set_option maxHeartbeats 4000000 in
set_option maxRecDepth 100000 in
theorem m7_by : MOK cl7 sh7 tyl7 [] 5 yX7_by cX7_by 2 (some .int) sp7_by := by
  refine mok_of (own := RX7) (tb := tb7 (csL cs7_by)) (rt := 1) (fuel := 400) (fun avs M Q => []) (by decide) rfl nil_nw (tbOK7 _) rfl (csL_all ?_) ?_ ?_ ?_
  · intro q hq
    simp only [cs7_by, List.mem_cons, List.not_mem_nil, or_false] at hq
    rcases hq with rfl | rfl | rfl
    · exact cg7_isValley (by decide)
    · exact cg7_in (by decide)
    · exact cg7_sagBy (by decide)
  · intro avs M Q hsp
    obtain ⟨xs, hx⟩ := spR_un _ _ _ hsp
    obtain ⟨e, hl⟩ := unA_mkT hx
    obtain ⟨l, rfl⟩ := len1 hl
    have e : avs = [ar 0, ai l] := e
    subst e
    simp [szL, isL]
  · intro avs M Q hM hav hsp
    obtain ⟨xs, hx⟩ := spR_un _ _ _ hsp
    obtain ⟨e, hl⟩ := unA_mkT hx
    obtain ⟨l, rfl⟩ := len1 hl
    have e : avs = [ar 0, ai l] := e
    subst e
    exact in7_by hM (hav (ai l) (by simp)) hsp.1 hsp.2
  · intro avs M Q hM hav hsp q hq m_ vs M1 hM1 hv hJ
    obtain ⟨xs, hx⟩ := spR_un _ _ _ hsp
    obtain ⟨e, hl⟩ := unA_mkT hx
    obtain ⟨l, rfl⟩ := len1 hl
    have e : avs = [ar 0, ai l] := e
    subst e
    cases hq
/-- the best law so far -/
def bestL (f : Int → Int) : Nat → Int
  | 0 => 0
  | n + 1 => if f ((n : Int) + 1) < f (bestL f n) then (n : Int) + 1 else bestL f n
theorem bestL_1 {f : Int → Int} {n : Nat} (h : f ((n : Int) + 1) < f (bestL f n)) : bestL f (n + 1) = (n : Int) + 1 := if_pos h
theorem bestL_0 {f : Int → Int} {n : Nat} (h : ¬ f ((n : Int) + 1) < f (bestL f n)) : bestL f (n + 1) = bestL f n := if_neg h
theorem bestL_b {f : Int → Int} : ∀ {n : Nat}, 0 ≤ bestL f n ∧ bestL f n ≤ n := by
  intro n
  induction n with
  | zero => exact ⟨Int.le_refl _, Int.le_refl _⟩
  | succ n ih =>
    by_cases h : f ((n : Int) + 1) < f (bestL f n)
    · rw [bestL_1 h]; omega
    · rw [bestL_0 h]; omega
def A_law (V : Vy) : Int := if 0 < V 0 8 then bestL (fun l => sagF V (lawC V l)) 3 else -2
def P7_law (M : Mm) : Prop := okY (vM M)
def R7_law (M : Mm) (v : Int) (M1 : Mm) : Prop := keepM M M1 ∧ v = A_law (vM M)
def sp7_law : Spec := spR true [] 1 (fun x M => P7_law M) (fun x M v M1 => R7_law M v M1)
theorem c7_law {M : Mm} {Q : Option AV → Mm → Prop} : sp7_law [ar 0] M Q = (P7_law M ∧ ∀ (v : Int) (M1 : Mm), R7_law M v M1 → Q (some (ai v)) M1) := rfl
def cs7_law : List (Nat × Nat × Nat × Spec) := [(350, 1, 1, sp7_isValley), (445, 1, 2, sp7_sagBy)]
def J7_law_19 (M : Mm) (m : Nat) (best : Int) (l : Int) (M1 : Mm) : Prop := 0 < vM M 0 8 ∧ keepM M M1 ∧ ∃ a : Nat, l = a + 1 ∧ a ≤ 3 ∧ best = bestL (fun l => sagF (vM M) (lawC (vM M) l)) a ∧ m = 7 - a
set_option maxHeartbeats 4000000 in
set_option maxRecDepth 100000 in
theorem in7_law {M : Mm} {Q : Option AV → Mm → Prop} (hM : okM sh7 M) (hP : P7_law M) (hQ : ∀ (v : Int) (M1 : Mm), R7_law M v M1 → Q (some (ai v)) M1) (I_19 : List AV → Mm → Prop) (hI_19 : ∀ (m_ : Nat) (y_best : Int) (y_l : Int) (M2 : Mm), J7_law_19 M m_ y_best y_l M2 → I_19 [ar 0, ai y_best, ai y_l] M2) : wp (tb7 (csL cs7_law)) sh7 3 1 cX7_law [(19, [0, 1, 2], I_19)] Q 400 0 [(0, ar 0)] [] M := by
  have hk0 : keepM M (up2 M 0 0 0) := keep_u0 keep_rf (by decide)
  have hV : vM (up2 M 0 0 0) = vM M := keep_v hk0 0
  have hP0 : okY (vM (up2 M 0 0 0)) := by rw [hV]; exact hP
  simp only [e_wp dX7_law_0 rfl, e_wp dX7_law_1 rfl, e_wp dX7_law_2 rfl, e_wp dX7_law_5 rfl, e_wp dX7_law_6 rfl, e_wp dX7_law_9 rfl, e_wp dX7_law_12 rfl, e_wp dX7_law_14 rfl, e_wp dX7_law_15 rfl, e_wp dX7_law_16 rfl, e_wp dX7_law_17 rfl, e_wp dX7_law_18 rfl, e_wp dX7_law_19 rfl, e_wp dX7_law_20 rfl, e_wp dX7_law_21 rfl, e_wp dX7_law_24 rfl, e_wp dX7_law_25 rfl, e_wp dX7_law_26 rfl, e_wp dX7_law_29 rfl, e_wp dX7_law_30 rfl, e_wp dX7_law_31 rfl, e_wp dX7_law_34 rfl, e_wp dX7_law_37 rfl, e_wp dX7_law_38 rfl, e_wp dX7_law_39 rfl, e_wp dX7_law_42 rfl, e_wp dX7_law_45 rfl, e_wp dX7_law_46 rfl, p7_116, c7_isValley, P7_isValley, V7_isValley, cs7_law, c7_sagBy, e_iconst, e_bipush, e_sipush, e_lconst_0, e_lconst_1, e_iload, e_iload_0, e_iload_1, e_iload_2, e_iload_3, e_lload, e_lload_0, e_lload_1, e_lload_2, e_lload_3, e_aload, e_aload_0, e_aload_1, e_aload_2, e_aload_3, e_istore, e_istore_0, e_istore_1, e_istore_2, e_istore_3, e_astore, e_astore_0, e_astore_1, e_astore_2, e_astore_3, e_lstore, e_lstore_0, e_lstore_1, e_lstore_2, e_lstore_3, e_iinc, e_iadd, e_isub, e_imul, e_ladd, e_lsub, e_lmul, e_idiv, e_irem, e_ldiv, e_lrem, e_ineg, e_lneg, e_iand, e_ior, e_ixor, e_ishl, e_ishr, e_iushr, e_lcmp, e_i2l, e_l2i, e_i2b, e_i2s, e_dup_i, e_dup_r, e_pop_i, e_pop_r, e_dup2_l, e_dup2_ir, e_dup2_ii, e_ifeq, e_ifne, e_iflt, e_ifge, e_ifgt, e_ifle, e_iceq, e_icne, e_iclt, e_icge, e_icgt, e_icle, e_goto, e_switch, e_invokevirtual, e_invokestatic, e_invokespecial, e_ret0, e_ret1, e_ret2, e_ret3, ldI_s, ldL_s, ldR_s, clO_s, ctP_s, ctS_s, mgo_0, mgo_s, pjc_s, pj_0, pj_s, lk_s, rm1_0, rm1_i, rm1_r, rm1_l, rm2_0, rm2_i, rm2_r, rm2_l, csL_s, lc_lt, lc_ge, lc_gt, lc_le, lc_eq, b01_0, b01_1, b01_01, b01_n, up2_o, up2_s, up2_u, ne_eq, reduceCtorEq, Nat.reduceAdd, Nat.reduceEqDiff, Nat.reduceLT, Nat.reduceLeDiff, Int.reduceLE, Int.reduceLT, Int.reduceAdd, Int.reduceNeg, Int.reduceMul, Int.reduceSub, Int.reduceEq, Int.reduceToNat, Int.reduceNatCast, Int.cast_ofNat_Int, ↓reduceIte, and_self, List.drop_succ_cons, List.drop_zero, List.take_succ_cons, List.take_zero, List.length_cons, List.length_nil, List.reverse_cons, List.reverse_nil, List.nil_append, List.cons_append, Option.toList, true_and, and_true, or_false, false_or, or_true, true_or, forall_const, Classical.not_not, not_false_eq_true, not_true_eq_false, false_implies, true_implies, implies_true, imp_self]
  refine ⟨fun q => hI_19 7 _ _ _ ⟨q, hk0, 0, rfl, by omega, rfl, rfl⟩, fun q => hQ _ _ ⟨hk0, (if_neg q).symm⟩⟩
set_option maxHeartbeats 4000000 in
set_option maxRecDepth 100000 in
theorem at7_law_19 {M : Mm} {Q : Option AV → Mm → Prop} (hM : okM sh7 M) (hP : P7_law M) (hQ : ∀ (v : Int) (M1 : Mm), R7_law M v M1 → Q (some (ai v)) M1) {m : Nat} {best l : Int} {M1 : Mm} (hM1 : okM sh7 M1) (h_best : i32 best) (h_l : i32 l) (hJ : J7_law_19 M m best l M1) (I_19 : List AV → Mm → Prop) (hI_19 : ∀ (m_ : Nat) (y_best : Int) (y_l : Int) (M2 : Mm), m_ < m → J7_law_19 M m_ y_best y_l M2 → I_19 [ar 0, ai y_best, ai y_l] M2) : wp (tb7 (csL cs7_law)) sh7 3 1 cX7_law [(19, [0, 1, 2], I_19)] Q 400 19 [(0, ar 0), (1, ai best), (2, ai l)] [] M1 := by
  obtain ⟨hq, hk, a, rfl, ha, hb, rfl⟩ := hJ
  have eV : vM M1 = vM M := keep_v hk 0
  have hP1 : okY (vM M1) := by rw [eV]; exact hP
  have hbb := bestL_b (f := fun l => sagF (vM M) (lawC (vM M) l)) (n := a)
  rw [← hb] at hbb
  simp only [e_wp dX7_law_0 rfl, e_wp dX7_law_1 rfl, e_wp dX7_law_2 rfl, e_wp dX7_law_5 rfl, e_wp dX7_law_6 rfl, e_wp dX7_law_9 rfl, e_wp dX7_law_12 rfl, e_wp dX7_law_14 rfl, e_wp dX7_law_15 rfl, e_wp dX7_law_16 rfl, e_wp dX7_law_17 rfl, e_wp dX7_law_18 rfl, e_wp dX7_law_19 rfl, e_wp dX7_law_20 rfl, e_wp dX7_law_21 rfl, e_wp dX7_law_24 rfl, e_wp dX7_law_25 rfl, e_wp dX7_law_26 rfl, e_wp dX7_law_29 rfl, e_wp dX7_law_30 rfl, e_wp dX7_law_31 rfl, e_wp dX7_law_34 rfl, e_wp dX7_law_37 rfl, e_wp dX7_law_38 rfl, e_wp dX7_law_39 rfl, e_wp dX7_law_42 rfl, e_wp dX7_law_45 rfl, e_wp dX7_law_46 rfl, p7_116, c7_isValley, P7_isValley, V7_isValley, cs7_law, c7_sagBy, e_iconst, e_bipush, e_sipush, e_lconst_0, e_lconst_1, e_iload, e_iload_0, e_iload_1, e_iload_2, e_iload_3, e_lload, e_lload_0, e_lload_1, e_lload_2, e_lload_3, e_aload, e_aload_0, e_aload_1, e_aload_2, e_aload_3, e_istore, e_istore_0, e_istore_1, e_istore_2, e_istore_3, e_astore, e_astore_0, e_astore_1, e_astore_2, e_astore_3, e_lstore, e_lstore_0, e_lstore_1, e_lstore_2, e_lstore_3, e_iinc, e_iadd, e_isub, e_imul, e_ladd, e_lsub, e_lmul, e_idiv, e_irem, e_ldiv, e_lrem, e_ineg, e_lneg, e_iand, e_ior, e_ixor, e_ishl, e_ishr, e_iushr, e_lcmp, e_i2l, e_l2i, e_i2b, e_i2s, e_dup_i, e_dup_r, e_pop_i, e_pop_r, e_dup2_l, e_dup2_ir, e_dup2_ii, e_ifeq, e_ifne, e_iflt, e_ifge, e_ifgt, e_ifle, e_iceq, e_icne, e_iclt, e_icge, e_icgt, e_icle, e_goto, e_switch, e_invokevirtual, e_invokestatic, e_invokespecial, e_ret0, e_ret1, e_ret2, e_ret3, ldI_s, ldL_s, ldR_s, clO_s, ctP_s, ctS_s, mgo_0, mgo_s, pjc_s, pj_0, pj_s, lk_s, rm1_0, rm1_i, rm1_r, rm1_l, rm2_0, rm2_i, rm2_r, rm2_l, csL_s, lc_lt, lc_ge, lc_gt, lc_le, lc_eq, b01_0, b01_1, b01_01, b01_n, up2_o, up2_s, up2_u, ne_eq, reduceCtorEq, Nat.reduceAdd, Nat.reduceEqDiff, Nat.reduceLT, Nat.reduceLeDiff, Int.reduceLE, Int.reduceLT, Int.reduceAdd, Int.reduceNeg, Int.reduceMul, Int.reduceSub, Int.reduceEq, Int.reduceToNat, Int.reduceNatCast, Int.cast_ofNat_Int, ↓reduceIte, and_self, List.drop_succ_cons, List.drop_zero, List.take_succ_cons, List.take_zero, List.length_cons, List.length_nil, List.reverse_cons, List.reverse_nil, List.nil_append, List.cons_append, Option.toList, true_and, and_true, or_false, false_or, or_true, true_or, forall_const, Classical.not_not, not_false_eq_true, not_true_eq_false, false_implies, true_implies, implies_true, imp_self]
  refine ⟨fun q => ?_, fun q => ⟨⟨hP1, by omega⟩, fun v M2 hR => ⟨⟨?_, by omega⟩, fun v2 M3 hR2 => ?_⟩⟩⟩
  · refine hQ _ _ ⟨hk, ?_⟩
    rw [show A_law (vM M) = _ from if_pos hq, hb, show a = 3 by omega]
  · rw [show vM M2 = vM M1 from keep_v hR.1 0]; exact hP1
  · have eV2 : vM M2 = vM M1 := keep_v hR.1 0
    obtain ⟨r1, r2, -⟩ := hR
    obtain ⟨s1, s2, -⟩ := hR2
    rw [eV2, eV] at s2
    rw [eV] at r2
    have hk3 := keep_tr hk (keep_tr r1 s1)
    have e : (bestL (fun l => sagF (vM M) (lawC (vM M) l)) a) = best := hb.symm
    refine ⟨fun z => ⟨by omega, hI_19 (7 - (a + 1)) _ _ _ (by omega) ⟨hq, hk3, a + 1, by omega, by omega, ?_, rfl⟩⟩, fun z => ⟨by omega, hI_19 (7 - (a + 1)) _ _ _ (by omega) ⟨hq, hk3, a + 1, by omega, by omega, ?_, rfl⟩⟩⟩
    · rw [bestL_0 (by rw [e]; show ¬ sagF _ _ < sagF _ _; omega)]; exact hb
    · rw [bestL_1 (by rw [e]; show sagF _ _ < sagF _ _; omega)]
set_option maxHeartbeats 4000000 in
set_option maxRecDepth 100000 in
theorem m7_law : MOK cl7 sh7 tyl7 [] 5 yX7_law cX7_law 3 (some .int) sp7_law := by
  refine mok_of (own := RX7) (tb := tb7 (csL cs7_law)) (rt := 1) (fuel := 400) (fun avs M Q => [(19, [0, 1, 2], fun m_ vs M1 => ∃ y_best : Int, ∃ y_l : Int, vs = [ar 0, ai y_best, ai y_l] ∧ J7_law_19 M m_ y_best y_l M1)]) (by decide) rfl nil_nw (tbOK7 _) rfl (csL_all ?_) ?_ ?_ ?_
  · intro q hq
    simp only [cs7_law, List.mem_cons, List.not_mem_nil, or_false] at hq
    rcases hq with rfl | rfl
    · exact cg7_isValley (by decide)
    · exact cg7_sagBy (by decide)
  · intro avs M Q hsp
    obtain ⟨xs, hx⟩ := spR_un _ _ _ hsp
    obtain ⟨e, hl⟩ := unA_mkT hx
    obtain rfl := len0 hl
    have e : avs = [ar 0] := e
    subst e
    simp [szL, isL]
  · intro avs M Q hM hav hsp
    obtain ⟨xs, hx⟩ := spR_un _ _ _ hsp
    obtain ⟨e, hl⟩ := unA_mkT hx
    obtain rfl := len0 hl
    have e : avs = [ar 0] := e
    subst e
    exact in7_law hM hsp.1 hsp.2 _ (fun m_ y_best y_l M2 hJ => ⟨m_, y_best, y_l, rfl, hJ⟩)
  · intro avs M Q hM hav hsp q hq m_ vs M1 hM1 hv hJ
    obtain ⟨xs, hx⟩ := spR_un _ _ _ hsp
    obtain ⟨e, hl⟩ := unA_mkT hx
    obtain rfl := len0 hl
    have e : avs = [ar 0] := e
    subst e
    simp only [List.mem_cons, List.not_mem_nil, or_false] at hq
    rcases hq with rfl
    · obtain ⟨y_best, y_l, rfl, hJ⟩ := hJ
      exact at7_law_19 hM hsp.1 hsp.2 hM1 (hv (1, ai y_best) (List.mem_of_getElem? (i := 1) rfl)) (hv (2, ai y_l) (List.mem_of_getElem? (i := 2) rfl)) hJ _ (fun m2 z_best z_l M2 hm hJ2 => ⟨m2, hm, z_best, z_l, rfl, hJ2⟩)
