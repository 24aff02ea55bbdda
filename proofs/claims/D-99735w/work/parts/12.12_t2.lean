/-! SagMemoryModel: what bridges remember -/
theorem mb_up {M : Mm} {b : Int} {d : Nat} : mb (up2 M 19 b.toNat d) b = stk (mf M b) d := by
  show stk (mf (up2 M 19 b.toNat d) b) (up2 M 19 b.toNat d 19 b.toNat).toNat = _
  rw [up2_s]
  rfl
theorem okB_up {M : Mm} {b : Int} {d : Nat} (h : okB M b) (hd : (d : Int) ≤ M 19 b.toNat) : okB (up2 M 19 b.toNat d) b := by
  obtain ⟨h1, h2, h3⟩ := h
  refine ⟨h1, ?_, ?_⟩
  · rw [up2_s]; omega
  · rw [mb_up]; exact stk_okL h3 (by omega)
theorem cross_o {M : Mm} {b b' : Int} {j : Nat} {x : Int} (hb : okB M b') (hne : ¬ b' = b) (h0 : okB M b) (hj : j = b.toNat) : mb (up2 M 19 j x) b' = mb M b' ∧ okB (up2 M 19 j x) b' := by
  have e : up2 M 19 j x 19 b'.toNat = M 19 b'.toNat := up2_n (by have := hb.1; have := h0.1; omega)
  have e2 : mb (up2 M 19 j x) b' = mb M b' := by
    show stk (mf (up2 M 19 j x) b') (up2 M 19 j x 19 b'.toNat).toNat = _
    rw [e]
    rfl
  exact ⟨e2, hb.1, by rw [e]; exact hb.2.1, by rw [e2]; exact hb.2.2⟩
/-- a load laid on a bridge's d-th place -/
def pushM (M : Mm) (b : Int) (d : Nat) (load who : Int) : Mm := up2 (up2 (up2 (up2 M 19 b.toNat d) 17 (8 * b + d).toNat load) 18 (8 * b + d).toNat who) 19 b.toNat (d + 1)
theorem push_b {M : Mm} {b : Int} {d : Nat} {load who : Int} (hb : 0 ≤ b) : mb (pushM M b d load who) b = (load, who) :: stk (mf M b) d := by
  have e1 : pushM M b d load who 19 b.toNat = d + 1 := up2_s
  show stk (mf (pushM M b d load who) b) (pushM M b d load who 19 b.toNat).toNat = _
  rw [e1, show ((d : Int) + 1).toNat = d + 1 by omega]
  show mf (pushM M b d load who) b d :: stk (mf (pushM M b d load who) b) d = _
  congr 1
  · show (pushM M b d load who 17 (8 * b + d).toNat, pushM M b d load who 18 (8 * b + d).toNat) = _
    unfold pushM
    rw [up2_o (by decide), up2_o (by decide), up2_s, up2_o (by decide), up2_s]
  · refine stk_congr fun k hk => ?_
    show (pushM M b d load who 17 (8 * b + k).toNat, pushM M b d load who 18 (8 * b + k).toNat) = (M 17 (8 * b + k).toNat, M 18 (8 * b + k).toNat)
    unfold pushM
    rw [up2_o (by decide), up2_o (by decide), up2_n (by omega), up2_o (by decide), up2_o (by decide), up2_n (by omega), up2_o (by decide), up2_o (by decide)]
theorem push_o {M : Mm} {b b' : Int} {d : Nat} {load who : Int} (h0 : 0 ≤ b) (hd : d ≤ 7) (hb : okB M b') (hne : ¬ b' = b) : mb (pushM M b d load who) b' = mb M b' ∧ okB (pushM M b d load who) b' := by
  have h1 := hb.1
  have h2 := hb.2.1
  have e1 : pushM M b d load who 19 b'.toNat = M 19 b'.toNat := by
    unfold pushM
    rw [up2_n (by omega), up2_o (by decide), up2_o (by decide), up2_n (by omega)]
  have e2 : mb (pushM M b d load who) b' = mb M b' := by
    show stk (mf (pushM M b d load who) b') (pushM M b d load who 19 b'.toNat).toNat = _
    rw [e1]
    refine stk_congr fun k hk => ?_
    show (pushM M b d load who 17 (8 * b' + k).toNat, pushM M b d load who 18 (8 * b' + k).toNat) = (M 17 (8 * b' + k).toNat, M 18 (8 * b' + k).toNat)
    unfold pushM
    rw [up2_o (by decide), up2_o (by decide), up2_n (by omega), up2_o (by decide), up2_o (by decide), up2_n (by omega), up2_o (by decide), up2_o (by decide)]
  exact ⟨e2, h1, by rw [e1]; exact h2, by rw [e2]; exact hb.2.2⟩
def P7_crosses (b : Int) (load : Int) (who : Int) (M : Mm) : Prop := okB M b ∧ M 19 b.toNat ≤ 7 ∧ (1 ≤ load ∧ load ≤ 99) ∧ 0 ≤ M 0 24 ∧ M 0 24 ≤ 3
def R7_crosses (b : Int) (load : Int) (who : Int) (M : Mm) (v : Int) (M1 : Mm) : Prop := v = (crossP (M 0 24) load who (mb M b)).2 ∧ mb M1 b = (crossP (M 0 24) load who (mb M b)).1 ∧ okB M1 b ∧ frm [17, 18, 19] M M1 ∧ ∀ b', okB M b' → ¬ b' = b → mb M1 b' = mb M b' ∧ okB M1 b'
def sp7_crosses : Spec := spR true [0, 0, 0] 1 (fun x M => P7_crosses (x 0) (x 1) (x 2) M) (fun x M v M1 => R7_crosses (x 0) (x 1) (x 2) M v M1)
theorem c7_crosses {b load who : Int} {M : Mm} {Q : Option AV → Mm → Prop} : sp7_crosses [ar 0, ai b, ai load, ai who] M Q = (P7_crosses b load who M ∧ ∀ (v : Int) (M1 : Mm), R7_crosses b load who M v M1 → Q (some (ai v)) M1) := rfl
def cs7_crosses : List (Nat × Nat × Nat × Spec) := [(304, 1, 2, sp7_lastOf)]
def J7_crosses_101 (b : Int) (load : Int) (who : Int) (M : Mm) (m : Nat) (b_ : Int) (l_ : Int) (w_ : Int) (n : Int) (M1 : Mm) : Prop := b = b_ ∧ load = l_ ∧ who = w_ ∧ crossP (M 0 24) load who (mb M b) = ((load, who) :: popP load (mb M b), ((mb M b).length : Int) - (popP load (mb M b)).length) ∧ ∃ d : Nat, (d : Int) ≤ M 19 b.toNat ∧ M1 = up2 M 19 b.toNat d ∧ n = M 19 b.toNat - d ∧ popP load (stk (mf M b) d) = popP load (mb M b) ∧ m = d
set_option maxHeartbeats 4000000 in
set_option maxRecDepth 100000 in
theorem in7_crosses {b load who : Int} {M : Mm} {Q : Option AV → Mm → Prop} (hM : okM sh7 M) (h_b : i32 b) (h_load : i32 load) (h_who : i32 who) (hP : P7_crosses b load who M) (hQ : ∀ (v : Int) (M1 : Mm), R7_crosses b load who M v M1 → Q (some (ai v)) M1) (I_101 : List AV → Mm → Prop) (hI_101 : ∀ (m_ : Nat) (y_b_ : Int) (y_l_ : Int) (y_w_ : Int) (y_n : Int) (M2 : Mm), J7_crosses_101 b load who M m_ y_b_ y_l_ y_w_ y_n M2 → I_101 [ar 0, ai y_b_, ai y_l_, ai y_w_, ai y_n] M2) : wp (tb7 (csL cs7_crosses)) sh7 7 1 cX7_crosses [(101, [0, 1, 2, 3, 6], I_101)] Q 400 0 [(0, ar 0), (1, ai b), (2, ai load), (3, ai who)] [] M := by
  obtain ⟨h0, h1, h2, h3⟩ := id hP
  have hd := h0.2.1
  have kI : ¬ (M 0 24 = 2 ∧ ¬ M 19 b.toNat = 0 ∧ 2 * load ≤ lastP (mb M b)) → ¬ ((M 0 24 = 1 ∨ (M 0 24 = 3 ∧ load.tmod 2 = 1)) ∧ ¬ M 19 b.toNat = 0 ∧ 2 * load < lastP (mb M b)) → I_101 [ar 0, ai b, ai load, ai who, ai 0] M := by
    intro q1 q2
    refine hI_101 _ b load who 0 M ⟨rfl, rfl, rfl, ?_, (M 19 b.toNat).toNat, by omega, ?_, by omega, rfl, rfl⟩
    · unfold crossP
      rw [if_neg (fun z => q1 ⟨z.1, fun w => z.2.1 ((mb_ne h0).mpr w), z.2.2⟩), if_neg (fun z => q2 ⟨z.1, fun w => z.2.1 ((mb_ne h0).mpr w), z.2.2⟩)]
    · rw [show (((M 19 b.toNat).toNat : Nat) : Int) = M 19 b.toNat by omega, up2_id]
  have kH : ¬ (M 0 24 = 2 ∧ ¬ M 19 b.toNat = 0 ∧ 2 * load ≤ lastP (mb M b)) → ((M 0 24 = 1 ∨ (M 0 24 = 3 ∧ load.tmod 2 = 1)) ∧ ¬ M 19 b.toNat = 0 ∧ 2 * load < lastP (mb M b)) → Q (some (ai 1)) (up2 M 19 b.toNat (M 19 b.toNat - 1)) := by
    intro q1 q2
    obtain ⟨n, hn⟩ : ∃ n : Nat, M 19 b.toNat = n + 1 := ⟨(M 19 b.toNat - 1).toNat, by omega⟩
    rw [show M 19 b.toNat - 1 = n by omega]
    have hc : crossP (M 0 24) load who (mb M b) = ((mb M b).tail, 1) := by
      unfold crossP
      rw [if_neg (fun z => q1 ⟨z.1, fun w => z.2.1 ((mb_ne h0).mpr w), z.2.2⟩), if_pos ⟨q2.1, fun w => q2.2.1 ((mb_ne h0).mp w), q2.2.2⟩]
    refine hQ _ _ ⟨by rw [hc], by rw [hc, mb_up, mb_s hn]; rfl, okB_up h0 (by omega), frm_up frm_rf (by decide), fun b' hb hne => cross_o hb hne h0 rfl⟩
  have k0 : (M 0 24 = 2 ∧ ¬ M 19 b.toNat = 0 ∧ 2 * load ≤ lastP (mb M b)) → Q (some (ai 0)) M := by
    intro q1
    have hc : crossP (M 0 24) load who (mb M b) = (mb M b, 0) := by
      unfold crossP
      rw [if_pos ⟨q1.1, fun w => q1.2.1 ((mb_ne h0).mp w), q1.2.2⟩]
    exact hQ _ _ ⟨by rw [hc], by rw [hc], h0, frm_rf, fun b' hb _ => ⟨rfl, hb⟩⟩
  simp only [e_wp dX7_crosses_0 rfl, e_wp dX7_crosses_1 rfl, e_wp dX7_crosses_2 rfl, e_wp dX7_crosses_5 rfl, e_wp dX7_crosses_7 rfl, e_wp dX7_crosses_8 rfl, e_wp dX7_crosses_11 rfl, e_wp dX7_crosses_12 rfl, e_wp dX7_crosses_15 rfl, e_wp dX7_crosses_16 rfl, e_wp dX7_crosses_19 rfl, e_wp dX7_crosses_20 rfl, e_wp dX7_crosses_23 rfl, e_wp dX7_crosses_24 rfl, e_wp dX7_crosses_25 rfl, e_wp dX7_crosses_26 rfl, e_wp dX7_crosses_27 rfl, e_wp dX7_crosses_30 rfl, e_wp dX7_crosses_31 rfl, e_wp dX7_crosses_34 rfl, e_wp dX7_crosses_35 rfl, e_wp dX7_crosses_37 rfl, e_wp dX7_crosses_38 rfl, e_wp dX7_crosses_41 rfl, e_wp dX7_crosses_42 rfl, e_wp dX7_crosses_45 rfl, e_wp dX7_crosses_46 rfl, e_wp dX7_crosses_49 rfl, e_wp dX7_crosses_50 rfl, e_wp dX7_crosses_51 rfl, e_wp dX7_crosses_54 rfl, e_wp dX7_crosses_55 rfl, e_wp dX7_crosses_56 rfl, e_wp dX7_crosses_57 rfl, e_wp dX7_crosses_59 rfl, e_wp dX7_crosses_62 rfl, e_wp dX7_crosses_63 rfl, e_wp dX7_crosses_64 rfl, e_wp dX7_crosses_66 rfl, e_wp dX7_crosses_69 rfl, e_wp dX7_crosses_70 rfl, e_wp dX7_crosses_73 rfl, e_wp dX7_crosses_74 rfl, e_wp dX7_crosses_75 rfl, e_wp dX7_crosses_78 rfl, e_wp dX7_crosses_79 rfl, e_wp dX7_crosses_80 rfl, e_wp dX7_crosses_81 rfl, e_wp dX7_crosses_83 rfl, e_wp dX7_crosses_86 rfl, e_wp dX7_crosses_87 rfl, e_wp dX7_crosses_90 rfl, e_wp dX7_crosses_91 rfl, e_wp dX7_crosses_92 rfl, e_wp dX7_crosses_93 rfl, e_wp dX7_crosses_94 rfl, e_wp dX7_crosses_95 rfl, e_wp dX7_crosses_96 rfl, e_wp dX7_crosses_97 rfl, e_wp dX7_crosses_98 rfl, e_wp dX7_crosses_99 rfl, e_wp dX7_crosses_101 rfl, e_wp dX7_crosses_102 rfl, e_wp dX7_crosses_105 rfl, e_wp dX7_crosses_106 rfl, e_wp dX7_crosses_107 rfl, e_wp dX7_crosses_110 rfl, e_wp dX7_crosses_111 rfl, e_wp dX7_crosses_112 rfl, e_wp dX7_crosses_115 rfl, e_wp dX7_crosses_116 rfl, e_wp dX7_crosses_119 rfl, e_wp dX7_crosses_120 rfl, e_wp dX7_crosses_123 rfl, e_wp dX7_crosses_124 rfl, e_wp dX7_crosses_125 rfl, e_wp dX7_crosses_126 rfl, e_wp dX7_crosses_127 rfl, e_wp dX7_crosses_128 rfl, e_wp dX7_crosses_129 rfl, e_wp dX7_crosses_132 rfl, e_wp dX7_crosses_135 rfl, e_wp dX7_crosses_136 rfl, e_wp dX7_crosses_139 rfl, e_wp dX7_crosses_141 rfl, e_wp dX7_crosses_142 rfl, e_wp dX7_crosses_143 rfl, e_wp dX7_crosses_144 rfl, e_wp dX7_crosses_147 rfl, e_wp dX7_crosses_148 rfl, e_wp dX7_crosses_149 rfl, e_wp dX7_crosses_150 rfl, e_wp dX7_crosses_151 rfl, e_wp dX7_crosses_152 rfl, e_wp dX7_crosses_153 rfl, e_wp dX7_crosses_156 rfl, e_wp dX7_crosses_158 rfl, e_wp dX7_crosses_159 rfl, e_wp dX7_crosses_160 rfl, e_wp dX7_crosses_161 rfl, e_wp dX7_crosses_164 rfl, e_wp dX7_crosses_165 rfl, e_wp dX7_crosses_166 rfl, e_wp dX7_crosses_167 rfl, e_wp dX7_crosses_168 rfl, e_wp dX7_crosses_169 rfl, e_wp dX7_crosses_170 rfl, e_wp dX7_crosses_173 rfl, e_wp dX7_crosses_174 rfl, e_wp dX7_crosses_175 rfl, e_wp dX7_crosses_176 rfl, e_wp dX7_crosses_177 rfl, e_wp dX7_crosses_178 rfl, e_wp dX7_crosses_179 rfl, e_wp dX7_crosses_181 rfl, c7_lastOf, P7_lastOf, V7_lastOf, cs7_crosses, g7_295, g7_71, g7_65, g7_68, a7_1, w7_1, a7_2, w7_2, a7_3, w7_3, a7_4, w7_4, a7_5, w7_5, a7_6, w7_6, a7_7, w7_7, a7_8, w7_8, a7_9, w7_9, a7_10, w7_10, a7_11, w7_11, a7_12, w7_12, a7_13, w7_13, a7_14, w7_14, a7_15, w7_15, a7_16, w7_16, a7_17, w7_17, a7_18, w7_18, a7_19, w7_19, a7_20, w7_20, a7_21, w7_21, a7_22, w7_22, a7_23, w7_23, a7_24, w7_24, a7_25, w7_25, a7_26, w7_26, a7_27, w7_27, a7_28, w7_28, a7_29, w7_29, a7_30, w7_30, a7_31, w7_31, a7_32, w7_32, a7_33, w7_33, e_iconst, e_bipush, e_sipush, e_lconst_0, e_lconst_1, e_iload, e_iload_0, e_iload_1, e_iload_2, e_iload_3, e_lload, e_lload_0, e_lload_1, e_lload_2, e_lload_3, e_aload, e_aload_0, e_aload_1, e_aload_2, e_aload_3, e_istore, e_istore_0, e_istore_1, e_istore_2, e_istore_3, e_astore, e_astore_0, e_astore_1, e_astore_2, e_astore_3, e_lstore, e_lstore_0, e_lstore_1, e_lstore_2, e_lstore_3, e_iinc, e_iadd, e_isub, e_imul, e_ladd, e_lsub, e_lmul, e_idiv, e_irem, e_ldiv, e_lrem, e_ineg, e_lneg, e_iand, e_ior, e_ixor, e_ishl, e_ishr, e_iushr, e_lcmp, e_i2l, e_l2i, e_i2b, e_i2s, e_dup_i, e_dup_r, e_pop_i, e_pop_r, e_dup2_l, e_dup2_ir, e_dup2_ii, e_ifeq, e_ifne, e_iflt, e_ifge, e_ifgt, e_ifle, e_iceq, e_icne, e_iclt, e_icge, e_icgt, e_icle, e_goto, e_switch, e_invokevirtual, e_invokestatic, e_invokespecial, e_ret0, e_ret1, e_ret2, e_ret3, ldI_s, ldL_s, ldR_s, clO_s, ctP_s, ctS_s, mgo_0, mgo_s, pjc_s, pj_0, pj_s, lk_s, rm1_0, rm1_i, rm1_r, rm1_l, rm2_0, rm2_i, rm2_r, rm2_l, csL_s, lc_lt, lc_ge, lc_gt, lc_le, lc_eq, b01_0, b01_1, b01_01, b01_n, up2_o, up2_s, up2_u, ne_eq, reduceCtorEq, Nat.reduceAdd, Nat.reduceEqDiff, Nat.reduceLT, Nat.reduceLeDiff, Int.reduceLE, Int.reduceLT, Int.reduceAdd, Int.reduceNeg, Int.reduceMul, Int.reduceSub, Int.reduceEq, Int.reduceToNat, Int.reduceNatCast, Int.cast_ofNat_Int, ↓reduceIte, and_self, List.drop_succ_cons, List.drop_zero, List.take_succ_cons, List.take_zero, List.length_cons, List.length_nil, List.reverse_cons, List.reverse_nil, List.nil_append, List.cons_append, Option.toList, true_and, and_true, or_false, false_or, or_true, true_or, forall_const, Classical.not_not, not_false_eq_true, not_true_eq_false, false_implies, true_implies, implies_true, imp_self]
  have hx := h0.1
  refine ⟨h0, ?_⟩
  have htd := @tdiv_b load 2 (by omega) (by omega)
  (repeat' (first | (intro _) | (refine And.intro ?_ ?_))); all_goals (first | omega | exact kI (by omega) (by omega) | exact k0 (by omega) | exact kH (by omega) (by omega))
set_option maxHeartbeats 4000000 in
set_option maxRecDepth 100000 in
theorem at7_crosses_101 {b load who : Int} {M : Mm} {Q : Option AV → Mm → Prop} (hM : okM sh7 M) (h_b : i32 b) (h_load : i32 load) (h_who : i32 who) (hP : P7_crosses b load who M) (hQ : ∀ (v : Int) (M1 : Mm), R7_crosses b load who M v M1 → Q (some (ai v)) M1) {m : Nat} {b_ l_ w_ n : Int} {M1 : Mm} (hM1 : okM sh7 M1) (h_b_ : i32 b_) (h_l_ : i32 l_) (h_w_ : i32 w_) (h_n : i32 n) (hJ : J7_crosses_101 b load who M m b_ l_ w_ n M1) (I_101 : List AV → Mm → Prop) (hI_101 : ∀ (m_ : Nat) (y_b_ : Int) (y_l_ : Int) (y_w_ : Int) (y_n : Int) (M2 : Mm), m_ < m → J7_crosses_101 b load who M m_ y_b_ y_l_ y_w_ y_n M2 → I_101 [ar 0, ai y_b_, ai y_l_, ai y_w_, ai y_n] M2) : wp (tb7 (csL cs7_crosses)) sh7 7 1 cX7_crosses [(101, [0, 1, 2, 3, 6], I_101)] Q 400 101 [(0, ar 0), (1, ai b_), (2, ai l_), (3, ai w_), (6, ai n)] [] M1 := by
  obtain ⟨rfl, rfl, rfl, hc, d, hd, rfl, rfl, hp, rfl⟩ := hJ
  obtain ⟨h0, h1, h2, h3⟩ := id hP
  have hx := h0.1
  have hl := stk_len (mf M b) (M 19 b.toNat).toNat
  have hn := h0.2.1
  have kF : popP load (stk (mf M b) m) = stk (mf M b) m → Q (some (ai (M 19 b.toNat - m))) (up2 (up2 (up2 (up2 M 19 b.toNat m) 17 (8 * b + m).toNat load) 18 (8 * b + m).toNat who) 19 b.toNat (m + 1)) := by
    intro q
    rw [← hp, q] at hc
    have hb' : mb (pushM M b m load who) b = (load, who) :: stk (mf M b) m := push_b hx.1
    refine hQ _ (pushM M b m load who) ⟨?_, ?_, ⟨hx, ?_, ?_⟩, ?_, fun b' hb hne => push_o hx.1 (by omega) hb hne⟩
    · rw [hc]
      show _ = ((mb M b).length : Int) - ((stk (mf M b) m).length : Int)
      rw [stk_len, show (mb M b).length = (M 19 b.toNat).toNat from hl]
      omega
    · rw [hc, hb']
    · unfold pushM
      rw [up2_s]
      omega
    · rw [hb']
      exact okL_c.mpr ⟨h2, stk_okL h0.2.2 (by omega)⟩
    · unfold pushM
      exact frm_up (frm_up (frm_up (frm_up frm_rf (by decide)) (by decide)) (by decide)) (by decide)
  have hok := okB_up h0 hd
  simp only [e_wp dX7_crosses_0 rfl, e_wp dX7_crosses_1 rfl, e_wp dX7_crosses_2 rfl, e_wp dX7_crosses_5 rfl, e_wp dX7_crosses_7 rfl, e_wp dX7_crosses_8 rfl, e_wp dX7_crosses_11 rfl, e_wp dX7_crosses_12 rfl, e_wp dX7_crosses_15 rfl, e_wp dX7_crosses_16 rfl, e_wp dX7_crosses_19 rfl, e_wp dX7_crosses_20 rfl, e_wp dX7_crosses_23 rfl, e_wp dX7_crosses_24 rfl, e_wp dX7_crosses_25 rfl, e_wp dX7_crosses_26 rfl, e_wp dX7_crosses_27 rfl, e_wp dX7_crosses_30 rfl, e_wp dX7_crosses_31 rfl, e_wp dX7_crosses_34 rfl, e_wp dX7_crosses_35 rfl, e_wp dX7_crosses_37 rfl, e_wp dX7_crosses_38 rfl, e_wp dX7_crosses_41 rfl, e_wp dX7_crosses_42 rfl, e_wp dX7_crosses_45 rfl, e_wp dX7_crosses_46 rfl, e_wp dX7_crosses_49 rfl, e_wp dX7_crosses_50 rfl, e_wp dX7_crosses_51 rfl, e_wp dX7_crosses_54 rfl, e_wp dX7_crosses_55 rfl, e_wp dX7_crosses_56 rfl, e_wp dX7_crosses_57 rfl, e_wp dX7_crosses_59 rfl, e_wp dX7_crosses_62 rfl, e_wp dX7_crosses_63 rfl, e_wp dX7_crosses_64 rfl, e_wp dX7_crosses_66 rfl, e_wp dX7_crosses_69 rfl, e_wp dX7_crosses_70 rfl, e_wp dX7_crosses_73 rfl, e_wp dX7_crosses_74 rfl, e_wp dX7_crosses_75 rfl, e_wp dX7_crosses_78 rfl, e_wp dX7_crosses_79 rfl, e_wp dX7_crosses_80 rfl, e_wp dX7_crosses_81 rfl, e_wp dX7_crosses_83 rfl, e_wp dX7_crosses_86 rfl, e_wp dX7_crosses_87 rfl, e_wp dX7_crosses_90 rfl, e_wp dX7_crosses_91 rfl, e_wp dX7_crosses_92 rfl, e_wp dX7_crosses_93 rfl, e_wp dX7_crosses_94 rfl, e_wp dX7_crosses_95 rfl, e_wp dX7_crosses_96 rfl, e_wp dX7_crosses_97 rfl, e_wp dX7_crosses_98 rfl, e_wp dX7_crosses_99 rfl, e_wp dX7_crosses_101 rfl, e_wp dX7_crosses_102 rfl, e_wp dX7_crosses_105 rfl, e_wp dX7_crosses_106 rfl, e_wp dX7_crosses_107 rfl, e_wp dX7_crosses_110 rfl, e_wp dX7_crosses_111 rfl, e_wp dX7_crosses_112 rfl, e_wp dX7_crosses_115 rfl, e_wp dX7_crosses_116 rfl, e_wp dX7_crosses_119 rfl, e_wp dX7_crosses_120 rfl, e_wp dX7_crosses_123 rfl, e_wp dX7_crosses_124 rfl, e_wp dX7_crosses_125 rfl, e_wp dX7_crosses_126 rfl, e_wp dX7_crosses_127 rfl, e_wp dX7_crosses_128 rfl, e_wp dX7_crosses_129 rfl, e_wp dX7_crosses_132 rfl, e_wp dX7_crosses_135 rfl, e_wp dX7_crosses_136 rfl, e_wp dX7_crosses_139 rfl, e_wp dX7_crosses_141 rfl, e_wp dX7_crosses_142 rfl, e_wp dX7_crosses_143 rfl, e_wp dX7_crosses_144 rfl, e_wp dX7_crosses_147 rfl, e_wp dX7_crosses_148 rfl, e_wp dX7_crosses_149 rfl, e_wp dX7_crosses_150 rfl, e_wp dX7_crosses_151 rfl, e_wp dX7_crosses_152 rfl, e_wp dX7_crosses_153 rfl, e_wp dX7_crosses_156 rfl, e_wp dX7_crosses_158 rfl, e_wp dX7_crosses_159 rfl, e_wp dX7_crosses_160 rfl, e_wp dX7_crosses_161 rfl, e_wp dX7_crosses_164 rfl, e_wp dX7_crosses_165 rfl, e_wp dX7_crosses_166 rfl, e_wp dX7_crosses_167 rfl, e_wp dX7_crosses_168 rfl, e_wp dX7_crosses_169 rfl, e_wp dX7_crosses_170 rfl, e_wp dX7_crosses_173 rfl, e_wp dX7_crosses_174 rfl, e_wp dX7_crosses_175 rfl, e_wp dX7_crosses_176 rfl, e_wp dX7_crosses_177 rfl, e_wp dX7_crosses_178 rfl, e_wp dX7_crosses_179 rfl, e_wp dX7_crosses_181 rfl, c7_lastOf, P7_lastOf, V7_lastOf, cs7_crosses, g7_295, g7_71, g7_65, g7_68, a7_1, w7_1, a7_2, w7_2, a7_3, w7_3, a7_4, w7_4, a7_5, w7_5, a7_6, w7_6, a7_7, w7_7, a7_8, w7_8, a7_9, w7_9, a7_10, w7_10, a7_11, w7_11, a7_12, w7_12, a7_13, w7_13, a7_14, w7_14, a7_15, w7_15, a7_16, w7_16, a7_17, w7_17, a7_18, w7_18, a7_19, w7_19, a7_20, w7_20, a7_21, w7_21, a7_22, w7_22, a7_23, w7_23, a7_24, w7_24, a7_25, w7_25, a7_26, w7_26, a7_27, w7_27, a7_28, w7_28, a7_29, w7_29, a7_30, w7_30, a7_31, w7_31, a7_32, w7_32, a7_33, w7_33, e_iconst, e_bipush, e_sipush, e_lconst_0, e_lconst_1, e_iload, e_iload_0, e_iload_1, e_iload_2, e_iload_3, e_lload, e_lload_0, e_lload_1, e_lload_2, e_lload_3, e_aload, e_aload_0, e_aload_1, e_aload_2, e_aload_3, e_istore, e_istore_0, e_istore_1, e_istore_2, e_istore_3, e_astore, e_astore_0, e_astore_1, e_astore_2, e_astore_3, e_lstore, e_lstore_0, e_lstore_1, e_lstore_2, e_lstore_3, e_iinc, e_iadd, e_isub, e_imul, e_ladd, e_lsub, e_lmul, e_idiv, e_irem, e_ldiv, e_lrem, e_ineg, e_lneg, e_iand, e_ior, e_ixor, e_ishl, e_ishr, e_iushr, e_lcmp, e_i2l, e_l2i, e_i2b, e_i2s, e_dup_i, e_dup_r, e_pop_i, e_pop_r, e_dup2_l, e_dup2_ir, e_dup2_ii, e_ifeq, e_ifne, e_iflt, e_ifge, e_ifgt, e_ifle, e_iceq, e_icne, e_iclt, e_icge, e_icgt, e_icle, e_goto, e_switch, e_invokevirtual, e_invokestatic, e_invokespecial, e_ret0, e_ret1, e_ret2, e_ret3, ldI_s, ldL_s, ldR_s, clO_s, ctP_s, ctS_s, mgo_0, mgo_s, pjc_s, pj_0, pj_s, lk_s, rm1_0, rm1_i, rm1_r, rm1_l, rm2_0, rm2_i, rm2_r, rm2_l, csL_s, lc_lt, lc_ge, lc_gt, lc_le, lc_eq, b01_0, b01_1, b01_01, b01_n, up2_o, up2_s, up2_u, ne_eq, reduceCtorEq, Nat.reduceAdd, Nat.reduceEqDiff, Nat.reduceLT, Nat.reduceLeDiff, Int.reduceLE, Int.reduceLT, Int.reduceAdd, Int.reduceNeg, Int.reduceMul, Int.reduceSub, Int.reduceEq, Int.reduceToNat, Int.reduceNatCast, Int.cast_ofNat_Int, ↓reduceIte, and_self, List.drop_succ_cons, List.drop_zero, List.take_succ_cons, List.take_zero, List.length_cons, List.length_nil, List.reverse_cons, List.reverse_nil, List.nil_append, List.cons_append, Option.toList, true_and, and_true, or_false, false_or, or_true, true_or, forall_const, Classical.not_not, not_false_eq_true, not_true_eq_false, false_implies, true_implies, implies_true, imp_self]
  refine ⟨hx, fun q => ?_, fun q => ⟨hok, fun q2 => ?_, fun q2 => ?_⟩⟩
  · obtain rfl : m = 0 := by omega
    have k := kF rfl
    (repeat' (first | (refine And.intro ?_ ?_))); all_goals (first | omega | exact k)
  · obtain ⟨n, rfl⟩ : ∃ n, m = n + 1 := ⟨m - 1, by omega⟩
    rw [mb_up] at q2
    have k := kF (by
      show (if (mf M b n).1 ≤ load then _ else _) = _
      rw [if_neg (by have : load < (mf M b n).1 := q2; omega)]
      rfl)
    (repeat' (first | (refine And.intro ?_ ?_))); all_goals (first | omega | exact k)
  · obtain ⟨n, rfl⟩ : ∃ n, m = n + 1 := ⟨m - 1, by omega⟩
    rw [mb_up] at q2
    refine ⟨hx, by omega, hx, by omega, ?_⟩
    refine hI_101 n b load who _ _ (by omega) ⟨rfl, rfl, rfl, hc, n, by omega, ?_, by omega, ?_, rfl⟩
    · rw [show (((n + 1 : Nat) : Int) - 1) = (n : Int) by omega]
    · rw [← hp]
      show _ = (if (mf M b n).1 ≤ load then popP load (stk (mf M b) n) else _)
      rw [if_pos (show (mf M b n).1 ≤ load from q2)]
set_option maxHeartbeats 4000000 in
set_option maxRecDepth 100000 in
theorem m7_crosses : MOK cl7 sh7 tyl7 [] 1 yX7_crosses cX7_crosses 7 (some .int) sp7_crosses := by
  refine mok_of (own := RX7) (tb := tb7 (csL cs7_crosses)) (rt := 1) (fuel := 400) (fun avs M Q => [(101, [0, 1, 2, 3, 6], fun m_ vs M1 => ∃ y_b_ : Int, ∃ y_l_ : Int, ∃ y_w_ : Int, ∃ y_n : Int, vs = [ar 0, ai y_b_, ai y_l_, ai y_w_, ai y_n] ∧ J7_crosses_101 (pa true [0, 0, 0] avs 0) (pa true [0, 0, 0] avs 1) (pa true [0, 0, 0] avs 2) M m_ y_b_ y_l_ y_w_ y_n M1)]) (by decide) rfl nil_nw (tbOK7 _) rfl (csL_all ?_) ?_ ?_ ?_
  · intro q hq
    simp only [cs7_crosses, List.mem_cons, List.not_mem_nil, or_false] at hq
    rcases hq with rfl
    · exact cg7_lastOf (by decide)
  · intro avs M Q hsp
    obtain ⟨xs, hx⟩ := spR_un _ _ _ hsp
    obtain ⟨e, hl⟩ := unA_mkT hx
    obtain ⟨b, load, who, rfl⟩ := len3 hl
    have e : avs = [ar 0, ai b, ai load, ai who] := e
    subst e
    simp [szL, isL]
  · intro avs M Q hM hav hsp
    obtain ⟨xs, hx⟩ := spR_un _ _ _ hsp
    obtain ⟨e, hl⟩ := unA_mkT hx
    obtain ⟨b, load, who, rfl⟩ := len3 hl
    have e : avs = [ar 0, ai b, ai load, ai who] := e
    subst e
    exact in7_crosses hM (hav (ai b) (by simp)) (hav (ai load) (by simp)) (hav (ai who) (by simp)) hsp.1 hsp.2 _ (fun m_ y_b_ y_l_ y_w_ y_n M2 hJ => ⟨m_, y_b_, y_l_, y_w_, y_n, rfl, hJ⟩)
  · intro avs M Q hM hav hsp q hq m_ vs M1 hM1 hv hJ
    obtain ⟨xs, hx⟩ := spR_un _ _ _ hsp
    obtain ⟨e, hl⟩ := unA_mkT hx
    obtain ⟨b, load, who, rfl⟩ := len3 hl
    have e : avs = [ar 0, ai b, ai load, ai who] := e
    subst e
    simp only [List.mem_cons, List.not_mem_nil, or_false] at hq
    rcases hq with rfl
    · obtain ⟨y_b_, y_l_, y_w_, y_n, rfl, hJ⟩ := hJ
      exact at7_crosses_101 hM (hav (ai b) (by simp)) (hav (ai load) (by simp)) (hav (ai who) (by simp)) hsp.1 hsp.2 hM1 (hv (1, ai y_b_) (List.mem_of_getElem? (i := 1) rfl)) (hv (2, ai y_l_) (List.mem_of_getElem? (i := 2) rfl)) (hv (3, ai y_w_) (List.mem_of_getElem? (i := 3) rfl)) (hv (6, ai y_n) (List.mem_of_getElem? (i := 4) rfl)) hJ _ (fun m2 z_b_ z_l_ z_w_ z_n M2 hm hJ2 => ⟨m2, hm, z_b_, z_l_, z_w_, z_n, rfl, hJ2⟩)
theorem cg7_crosses {lvl : Nat} (h : 1 < lvl) : CG RX7 cl7 sh7 tyl7 [] lvl 1 320 4 sp7_crosses := cg_V (sg := [0, 0, 0]) nil_nw spR_mono spR_un m7_crosses h rfl (by decide) rfl rfl ⟨rfl, by decide, by decide, rfl⟩ q1894 q1896 qs97 q138 q1897
theorem mb_cong {M M1 : Mm} {b : Int} (hb : okB M b) (h1 : ∀ k : Nat, k < 8 → mf M1 b k = mf M b k) (h2 : M1 19 b.toNat = M 19 b.toNat) : mb M1 b = mb M b ∧ okB M1 b := by
  have h3 := hb.2.1
  have e2 : mb M1 b = mb M b := by
    show stk (mf M1 b) (M1 19 b.toNat).toNat = _
    rw [h2]
    exact stk_congr fun k hk => h1 k (by omega)
  exact ⟨e2, hb.1, by rw [h2]; exact h3, by rw [e2]; exact hb.2.2⟩
theorem mf_w {M : Mm} {b b' : Int} {d k : Nat} {x y : Int} (h : 0 ≤ b) (h' : 0 ≤ b') (hd : d < 8) (hk : k < 8) (hne : ¬ (b' = b ∧ k = d)) : mf (up2 (up2 M 17 (8 * b + d).toNat x) 18 (8 * b + d).toNat y) b' k = mf M b' k := by
  have e : (8 * b' + k).toNat ≠ (8 * b + d).toNat := by omega
  unfold mf
  rw [up2_o (by decide), up2_n e, up2_n e, up2_o (by decide)]
theorem mf_s {M : Mm} {b : Int} {d : Nat} {x y : Int} : mf (up2 (up2 M 17 (8 * b + d).toNat x) 18 (8 * b + d).toNat y) b d = (x, y) := by
  unfold mf
  rw [up2_o (by decide), up2_s, up2_s]
/-- what freezes has done to the bridges ahead of b -/
def frzI (M M1 : Mm) (b : Int) : Prop := frm [17, 18, 19] M M1 ∧ (∀ a, 0 ≤ a → a < b → mb M1 a = frzP (M 7 1) (mb M a) ∧ okB M1 a) ∧ ∀ a, b < a → a < M 7 3 → mb M1 a = mb M a ∧ okB M1 a
def P7_freezes (M : Mm) : Prop := (0 ≤ M 7 3 ∧ M 7 3 ≤ 3) ∧ (0 ≤ M 7 1 ∧ M 7 1 ≤ 50) ∧ ∀ b, 0 ≤ b → b < M 7 3 → okB M b
def R7_freezes (M : Mm) (M1 : Mm) : Prop := frm [17, 18, 19] M M1 ∧ ∀ b, 0 ≤ b → b < M 7 3 → mb M1 b = frzP (M 7 1) (mb M b) ∧ okB M1 b
def sp7_freezes : Spec := spV true [] (fun x M => P7_freezes M) (fun x M M1 => R7_freezes M M1)
theorem c7_freezes {M : Mm} {Q : Option AV → Mm → Prop} : sp7_freezes [ar 0] M Q = (P7_freezes M ∧ ∀ (M1 : Mm), R7_freezes M M1 → Q none M1) := rfl
def cs7_freezes : List (Nat × Nat × Nat × Spec) := [(283, 1, 1, sp7_bridges)]
def J7_freezes_2 (M : Mm) (m : Nat) (b_ : Int) (M1 : Mm) : Prop := 0 ≤ b_ ∧ b_ ≤ M 7 3 ∧ frzI M M1 b_ ∧ (b_ < M 7 3 → mb M1 b_ = mb M b_ ∧ okB M1 b_ ∧ mf M1 b_ = mf M b_) ∧ (∀ a, b_ < a → a < M 7 3 → mf M1 a = mf M a) ∧ m = ((3 - b_) * 20 + 19).toNat
def J7_freezes_14 (M : Mm) (m : Nat) (b_ : Int) (n : Int) (k : Int) (M1 : Mm) : Prop := (0 ≤ b_ ∧ b_ < M 7 3) ∧ frzI M M1 b_ ∧ (∀ a, b_ < a → a < M 7 3 → mf M1 a = mf M a) ∧ M1 19 b_.toNat = M 19 b_.toNat ∧ (∃ kk nn : Nat, k = kk ∧ n = nn ∧ nn ≤ kk ∧ (kk : Int) ≤ M 19 b_.toNat ∧ frzP (M 7 1) (stk (mf M b_) kk) = stk (mf M1 b_) nn ∧ ∀ j, kk ≤ j → (j : Int) < 8 → mf M1 b_ j = mf M b_ j) ∧ m = ((3 - b_) * 20 + (8 - k)).toNat
set_option maxHeartbeats 4000000 in
set_option maxRecDepth 100000 in
theorem in7_freezes {M : Mm} {Q : Option AV → Mm → Prop} (hM : okM sh7 M) (hP : P7_freezes M) (hQ : ∀ (M1 : Mm), R7_freezes M M1 → Q none M1) (I_2 : List AV → Mm → Prop) (hI_2 : ∀ (m_ : Nat) (y_b_ : Int) (M2 : Mm), J7_freezes_2 M m_ y_b_ M2 → I_2 [ar 0, ai y_b_] M2) (I_14 : List AV → Mm → Prop) (hI_14 : ∀ (m_ : Nat) (y_b_ : Int) (y_n : Int) (y_k : Int) (M2 : Mm), J7_freezes_14 M m_ y_b_ y_n y_k M2 → I_14 [ar 0, ai y_b_, ai y_n, ai y_k] M2) : wp (tb7 (csL cs7_freezes)) sh7 5 0 cX7_freezes [(2, [0, 1], I_2), (14, [0, 1, 2, 3], I_14)] Q 400 0 [(0, ar 0)] [] M := by
  obtain ⟨h0, h1, h2⟩ := id hP
  simp only [e_wp dX7_freezes_0 rfl, e_wp dX7_freezes_1 rfl, e_wp dX7_freezes_2 rfl, e_wp dX7_freezes_3 rfl, e_wp dX7_freezes_4 rfl, e_wp dX7_freezes_7 rfl, e_wp dX7_freezes_10 rfl, e_wp dX7_freezes_11 rfl, e_wp dX7_freezes_12 rfl, e_wp dX7_freezes_13 rfl, e_wp dX7_freezes_14 rfl, e_wp dX7_freezes_15 rfl, e_wp dX7_freezes_16 rfl, e_wp dX7_freezes_19 rfl, e_wp dX7_freezes_20 rfl, e_wp dX7_freezes_21 rfl, e_wp dX7_freezes_24 rfl, e_wp dX7_freezes_25 rfl, e_wp dX7_freezes_28 rfl, e_wp dX7_freezes_30 rfl, e_wp dX7_freezes_31 rfl, e_wp dX7_freezes_32 rfl, e_wp dX7_freezes_33 rfl, e_wp dX7_freezes_34 rfl, e_wp dX7_freezes_35 rfl, e_wp dX7_freezes_36 rfl, e_wp dX7_freezes_39 rfl, e_wp dX7_freezes_40 rfl, e_wp dX7_freezes_41 rfl, e_wp dX7_freezes_42 rfl, e_wp dX7_freezes_44 rfl, e_wp dX7_freezes_46 rfl, e_wp dX7_freezes_49 rfl, e_wp dX7_freezes_52 rfl, e_wp dX7_freezes_53 rfl, e_wp dX7_freezes_56 rfl, e_wp dX7_freezes_58 rfl, e_wp dX7_freezes_59 rfl, e_wp dX7_freezes_60 rfl, e_wp dX7_freezes_61 rfl, e_wp dX7_freezes_62 rfl, e_wp dX7_freezes_64 rfl, e_wp dX7_freezes_65 rfl, e_wp dX7_freezes_66 rfl, e_wp dX7_freezes_69 rfl, e_wp dX7_freezes_71 rfl, e_wp dX7_freezes_72 rfl, e_wp dX7_freezes_73 rfl, e_wp dX7_freezes_74 rfl, e_wp dX7_freezes_75 rfl, e_wp dX7_freezes_76 rfl, e_wp dX7_freezes_79 rfl, e_wp dX7_freezes_81 rfl, e_wp dX7_freezes_82 rfl, e_wp dX7_freezes_83 rfl, e_wp dX7_freezes_84 rfl, e_wp dX7_freezes_85 rfl, e_wp dX7_freezes_86 rfl, e_wp dX7_freezes_87 rfl, e_wp dX7_freezes_90 rfl, e_wp dX7_freezes_93 rfl, e_wp dX7_freezes_96 rfl, e_wp dX7_freezes_97 rfl, e_wp dX7_freezes_100 rfl, e_wp dX7_freezes_101 rfl, e_wp dX7_freezes_102 rfl, e_wp dX7_freezes_103 rfl, e_wp dX7_freezes_106 rfl, e_wp dX7_freezes_109 rfl, c7_bridges, P7_bridges, V7_bridges, cs7_freezes, g7_71, g7_65, g7_34, g7_68, a7_1, w7_1, a7_2, w7_2, a7_3, w7_3, a7_4, w7_4, a7_5, w7_5, a7_6, w7_6, a7_7, w7_7, a7_8, w7_8, a7_9, w7_9, a7_10, w7_10, a7_11, w7_11, a7_12, w7_12, a7_13, w7_13, a7_14, w7_14, a7_15, w7_15, a7_16, w7_16, a7_17, w7_17, a7_18, w7_18, a7_19, w7_19, a7_20, w7_20, a7_21, w7_21, a7_22, w7_22, a7_23, w7_23, a7_24, w7_24, a7_25, w7_25, a7_26, w7_26, a7_27, w7_27, a7_28, w7_28, a7_29, w7_29, a7_30, w7_30, a7_31, w7_31, a7_32, w7_32, a7_33, w7_33, e_iconst, e_bipush, e_sipush, e_lconst_0, e_lconst_1, e_iload, e_iload_0, e_iload_1, e_iload_2, e_iload_3, e_lload, e_lload_0, e_lload_1, e_lload_2, e_lload_3, e_aload, e_aload_0, e_aload_1, e_aload_2, e_aload_3, e_istore, e_istore_0, e_istore_1, e_istore_2, e_istore_3, e_astore, e_astore_0, e_astore_1, e_astore_2, e_astore_3, e_lstore, e_lstore_0, e_lstore_1, e_lstore_2, e_lstore_3, e_iinc, e_iadd, e_isub, e_imul, e_ladd, e_lsub, e_lmul, e_idiv, e_irem, e_ldiv, e_lrem, e_ineg, e_lneg, e_iand, e_ior, e_ixor, e_ishl, e_ishr, e_iushr, e_lcmp, e_i2l, e_l2i, e_i2b, e_i2s, e_dup_i, e_dup_r, e_pop_i, e_pop_r, e_dup2_l, e_dup2_ir, e_dup2_ii, e_ifeq, e_ifne, e_iflt, e_ifge, e_ifgt, e_ifle, e_iceq, e_icne, e_iclt, e_icge, e_icgt, e_icle, e_goto, e_switch, e_invokevirtual, e_invokestatic, e_invokespecial, e_ret0, e_ret1, e_ret2, e_ret3, ldI_s, ldL_s, ldR_s, clO_s, ctP_s, ctS_s, mgo_0, mgo_s, pjc_s, pj_0, pj_s, lk_s, rm1_0, rm1_i, rm1_r, rm1_l, rm2_0, rm2_i, rm2_r, rm2_l, csL_s, lc_lt, lc_ge, lc_gt, lc_le, lc_eq, b01_0, b01_1, b01_01, b01_n, up2_o, up2_s, up2_u, ne_eq, reduceCtorEq, Nat.reduceAdd, Nat.reduceEqDiff, Nat.reduceLT, Nat.reduceLeDiff, Int.reduceLE, Int.reduceLT, Int.reduceAdd, Int.reduceNeg, Int.reduceMul, Int.reduceSub, Int.reduceEq, Int.reduceToNat, Int.reduceNatCast, Int.cast_ofNat_Int, ↓reduceIte, and_self, List.drop_succ_cons, List.drop_zero, List.take_succ_cons, List.take_zero, List.length_cons, List.length_nil, List.reverse_cons, List.reverse_nil, List.nil_append, List.cons_append, Option.toList, true_and, and_true, or_false, false_or, or_true, true_or, forall_const, Classical.not_not, not_false_eq_true, not_true_eq_false, false_implies, true_implies, implies_true, imp_self]
  refine hI_2 _ _ _ ⟨by omega, h0.1, ⟨frm_rf, fun a q1 q2 => by omega, fun a q1 q2 => ⟨rfl, h2 a (by omega) q2⟩⟩, fun q => ⟨rfl, h2 _ (by omega) q, rfl⟩, fun _ _ _ => rfl, rfl⟩
set_option maxHeartbeats 4000000 in
set_option maxRecDepth 100000 in
theorem at7_freezes_2 {M : Mm} {Q : Option AV → Mm → Prop} (hM : okM sh7 M) (hP : P7_freezes M) (hQ : ∀ (M1 : Mm), R7_freezes M M1 → Q none M1) {m : Nat} {b_ : Int} {M1 : Mm} (hM1 : okM sh7 M1) (h_b_ : i32 b_) (hJ : J7_freezes_2 M m b_ M1) (I_2 : List AV → Mm → Prop) (hI_2 : ∀ (m_ : Nat) (y_b_ : Int) (M2 : Mm), m_ < m → J7_freezes_2 M m_ y_b_ M2 → I_2 [ar 0, ai y_b_] M2) (I_14 : List AV → Mm → Prop) (hI_14 : ∀ (m_ : Nat) (y_b_ : Int) (y_n : Int) (y_k : Int) (M2 : Mm), m_ < m → J7_freezes_14 M m_ y_b_ y_n y_k M2 → I_14 [ar 0, ai y_b_, ai y_n, ai y_k] M2) : wp (tb7 (csL cs7_freezes)) sh7 5 0 cX7_freezes [(2, [0, 1], I_2), (14, [0, 1, 2, 3], I_14)] Q 400 2 [(0, ar 0), (1, ai b_)] [] M1 := by
  obtain ⟨q0, q1, ⟨hf, hA, hB⟩, hC, hD, rfl⟩ := hJ
  obtain ⟨h0, h1, h2⟩ := id hP
  have e7 : M1 7 = M 7 := hf _ (by decide)
  simp only [e_wp dX7_freezes_0 rfl, e_wp dX7_freezes_1 rfl, e_wp dX7_freezes_2 rfl, e_wp dX7_freezes_3 rfl, e_wp dX7_freezes_4 rfl, e_wp dX7_freezes_7 rfl, e_wp dX7_freezes_10 rfl, e_wp dX7_freezes_11 rfl, e_wp dX7_freezes_12 rfl, e_wp dX7_freezes_13 rfl, e_wp dX7_freezes_14 rfl, e_wp dX7_freezes_15 rfl, e_wp dX7_freezes_16 rfl, e_wp dX7_freezes_19 rfl, e_wp dX7_freezes_20 rfl, e_wp dX7_freezes_21 rfl, e_wp dX7_freezes_24 rfl, e_wp dX7_freezes_25 rfl, e_wp dX7_freezes_28 rfl, e_wp dX7_freezes_30 rfl, e_wp dX7_freezes_31 rfl, e_wp dX7_freezes_32 rfl, e_wp dX7_freezes_33 rfl, e_wp dX7_freezes_34 rfl, e_wp dX7_freezes_35 rfl, e_wp dX7_freezes_36 rfl, e_wp dX7_freezes_39 rfl, e_wp dX7_freezes_40 rfl, e_wp dX7_freezes_41 rfl, e_wp dX7_freezes_42 rfl, e_wp dX7_freezes_44 rfl, e_wp dX7_freezes_46 rfl, e_wp dX7_freezes_49 rfl, e_wp dX7_freezes_52 rfl, e_wp dX7_freezes_53 rfl, e_wp dX7_freezes_56 rfl, e_wp dX7_freezes_58 rfl, e_wp dX7_freezes_59 rfl, e_wp dX7_freezes_60 rfl, e_wp dX7_freezes_61 rfl, e_wp dX7_freezes_62 rfl, e_wp dX7_freezes_64 rfl, e_wp dX7_freezes_65 rfl, e_wp dX7_freezes_66 rfl, e_wp dX7_freezes_69 rfl, e_wp dX7_freezes_71 rfl, e_wp dX7_freezes_72 rfl, e_wp dX7_freezes_73 rfl, e_wp dX7_freezes_74 rfl, e_wp dX7_freezes_75 rfl, e_wp dX7_freezes_76 rfl, e_wp dX7_freezes_79 rfl, e_wp dX7_freezes_81 rfl, e_wp dX7_freezes_82 rfl, e_wp dX7_freezes_83 rfl, e_wp dX7_freezes_84 rfl, e_wp dX7_freezes_85 rfl, e_wp dX7_freezes_86 rfl, e_wp dX7_freezes_87 rfl, e_wp dX7_freezes_90 rfl, e_wp dX7_freezes_93 rfl, e_wp dX7_freezes_96 rfl, e_wp dX7_freezes_97 rfl, e_wp dX7_freezes_100 rfl, e_wp dX7_freezes_101 rfl, e_wp dX7_freezes_102 rfl, e_wp dX7_freezes_103 rfl, e_wp dX7_freezes_106 rfl, e_wp dX7_freezes_109 rfl, c7_bridges, P7_bridges, V7_bridges, cs7_freezes, g7_71, g7_65, g7_34, g7_68, a7_1, w7_1, a7_2, w7_2, a7_3, w7_3, a7_4, w7_4, a7_5, w7_5, a7_6, w7_6, a7_7, w7_7, a7_8, w7_8, a7_9, w7_9, a7_10, w7_10, a7_11, w7_11, a7_12, w7_12, a7_13, w7_13, a7_14, w7_14, a7_15, w7_15, a7_16, w7_16, a7_17, w7_17, a7_18, w7_18, a7_19, w7_19, a7_20, w7_20, a7_21, w7_21, a7_22, w7_22, a7_23, w7_23, a7_24, w7_24, a7_25, w7_25, a7_26, w7_26, a7_27, w7_27, a7_28, w7_28, a7_29, w7_29, a7_30, w7_30, a7_31, w7_31, a7_32, w7_32, a7_33, w7_33, e_iconst, e_bipush, e_sipush, e_lconst_0, e_lconst_1, e_iload, e_iload_0, e_iload_1, e_iload_2, e_iload_3, e_lload, e_lload_0, e_lload_1, e_lload_2, e_lload_3, e_aload, e_aload_0, e_aload_1, e_aload_2, e_aload_3, e_istore, e_istore_0, e_istore_1, e_istore_2, e_istore_3, e_astore, e_astore_0, e_astore_1, e_astore_2, e_astore_3, e_lstore, e_lstore_0, e_lstore_1, e_lstore_2, e_lstore_3, e_iinc, e_iadd, e_isub, e_imul, e_ladd, e_lsub, e_lmul, e_idiv, e_irem, e_ldiv, e_lrem, e_ineg, e_lneg, e_iand, e_ior, e_ixor, e_ishl, e_ishr, e_iushr, e_lcmp, e_i2l, e_l2i, e_i2b, e_i2s, e_dup_i, e_dup_r, e_pop_i, e_pop_r, e_dup2_l, e_dup2_ir, e_dup2_ii, e_ifeq, e_ifne, e_iflt, e_ifge, e_ifgt, e_ifle, e_iceq, e_icne, e_iclt, e_icge, e_icgt, e_icle, e_goto, e_switch, e_invokevirtual, e_invokestatic, e_invokespecial, e_ret0, e_ret1, e_ret2, e_ret3, ldI_s, ldL_s, ldR_s, clO_s, ctP_s, ctS_s, mgo_0, mgo_s, pjc_s, pj_0, pj_s, lk_s, rm1_0, rm1_i, rm1_r, rm1_l, rm2_0, rm2_i, rm2_r, rm2_l, csL_s, lc_lt, lc_ge, lc_gt, lc_le, lc_eq, b01_0, b01_1, b01_01, b01_n, up2_o, up2_s, up2_u, ne_eq, reduceCtorEq, Nat.reduceAdd, Nat.reduceEqDiff, Nat.reduceLT, Nat.reduceLeDiff, Int.reduceLE, Int.reduceLT, Int.reduceAdd, Int.reduceNeg, Int.reduceMul, Int.reduceSub, Int.reduceEq, Int.reduceToNat, Int.reduceNatCast, Int.cast_ofNat_Int, ↓reduceIte, and_self, List.drop_succ_cons, List.drop_zero, List.take_succ_cons, List.take_zero, List.length_cons, List.length_nil, List.reverse_cons, List.reverse_nil, List.nil_append, List.cons_append, Option.toList, true_and, and_true, or_false, false_or, or_true, true_or, forall_const, Classical.not_not, not_false_eq_true, not_true_eq_false, false_implies, true_implies, implies_true, imp_self, e7]
  refine ⟨fun q => ?_, fun q => ?_⟩
  · exact hQ _ ⟨hf, fun a z1 z2 => hA a z1 (by omega)⟩
  · obtain ⟨c1, c2, c3⟩ := hC q
    have h3 := h2 b_ q0 q
    have c4 : M1 19 b_.toNat = M 19 b_.toNat := by
      have e := congrArg List.length c1
      have a1 : (mb M1 b_).length = _ := stk_len _ _
      have a2 : (mb M b_).length = _ := stk_len _ _
      have a3 := c2.2.1
      have a4 := h3.2.1
      omega
    exact hI_14 _ b_ 0 0 _ (by omega) ⟨⟨q0, q⟩, ⟨hf, hA, hB⟩, hD, c4, ⟨0, 0, rfl, rfl, Nat.le_refl _, h3.2.1.1, rfl, fun j _ _ => by rw [c3]⟩, rfl⟩
set_option maxHeartbeats 4000000 in
set_option maxRecDepth 100000 in
theorem at7_freezes_14 {M : Mm} {Q : Option AV → Mm → Prop} (hM : okM sh7 M) (hP : P7_freezes M) (hQ : ∀ (M1 : Mm), R7_freezes M M1 → Q none M1) {m : Nat} {b_ n k : Int} {M1 : Mm} (hM1 : okM sh7 M1) (h_b_ : i32 b_) (h_n : i32 n) (h_k : i32 k) (hJ : J7_freezes_14 M m b_ n k M1) (I_2 : List AV → Mm → Prop) (hI_2 : ∀ (m_ : Nat) (y_b_ : Int) (M2 : Mm), m_ < m → J7_freezes_2 M m_ y_b_ M2 → I_2 [ar 0, ai y_b_] M2) (I_14 : List AV → Mm → Prop) (hI_14 : ∀ (m_ : Nat) (y_b_ : Int) (y_n : Int) (y_k : Int) (M2 : Mm), m_ < m → J7_freezes_14 M m_ y_b_ y_n y_k M2 → I_14 [ar 0, ai y_b_, ai y_n, ai y_k] M2) : wp (tb7 (csL cs7_freezes)) sh7 5 0 cX7_freezes [(2, [0, 1], I_2), (14, [0, 1, 2, 3], I_14)] Q 400 14 [(0, ar 0), (1, ai b_), (2, ai n), (3, ai k)] [] M1 := by
  obtain ⟨⟨q0, q1⟩, ⟨hf, hA, hB⟩, hD, hd, ⟨kk, nn, rfl, rfl, hnk, hk, hz, hj⟩, rfl⟩ := hJ
  obtain ⟨h0, h1, h2⟩ := id hP
  have h3 := h2 b_ q0 q1
  have h4 := h3.2.1
  have e7 : M1 7 = M 7 := hf _ (by decide)
  simp only [e_wp dX7_freezes_0 rfl, e_wp dX7_freezes_1 rfl, e_wp dX7_freezes_2 rfl, e_wp dX7_freezes_3 rfl, e_wp dX7_freezes_4 rfl, e_wp dX7_freezes_7 rfl, e_wp dX7_freezes_10 rfl, e_wp dX7_freezes_11 rfl, e_wp dX7_freezes_12 rfl, e_wp dX7_freezes_13 rfl, e_wp dX7_freezes_14 rfl, e_wp dX7_freezes_15 rfl, e_wp dX7_freezes_16 rfl, e_wp dX7_freezes_19 rfl, e_wp dX7_freezes_20 rfl, e_wp dX7_freezes_21 rfl, e_wp dX7_freezes_24 rfl, e_wp dX7_freezes_25 rfl, e_wp dX7_freezes_28 rfl, e_wp dX7_freezes_30 rfl, e_wp dX7_freezes_31 rfl, e_wp dX7_freezes_32 rfl, e_wp dX7_freezes_33 rfl, e_wp dX7_freezes_34 rfl, e_wp dX7_freezes_35 rfl, e_wp dX7_freezes_36 rfl, e_wp dX7_freezes_39 rfl, e_wp dX7_freezes_40 rfl, e_wp dX7_freezes_41 rfl, e_wp dX7_freezes_42 rfl, e_wp dX7_freezes_44 rfl, e_wp dX7_freezes_46 rfl, e_wp dX7_freezes_49 rfl, e_wp dX7_freezes_52 rfl, e_wp dX7_freezes_53 rfl, e_wp dX7_freezes_56 rfl, e_wp dX7_freezes_58 rfl, e_wp dX7_freezes_59 rfl, e_wp dX7_freezes_60 rfl, e_wp dX7_freezes_61 rfl, e_wp dX7_freezes_62 rfl, e_wp dX7_freezes_64 rfl, e_wp dX7_freezes_65 rfl, e_wp dX7_freezes_66 rfl, e_wp dX7_freezes_69 rfl, e_wp dX7_freezes_71 rfl, e_wp dX7_freezes_72 rfl, e_wp dX7_freezes_73 rfl, e_wp dX7_freezes_74 rfl, e_wp dX7_freezes_75 rfl, e_wp dX7_freezes_76 rfl, e_wp dX7_freezes_79 rfl, e_wp dX7_freezes_81 rfl, e_wp dX7_freezes_82 rfl, e_wp dX7_freezes_83 rfl, e_wp dX7_freezes_84 rfl, e_wp dX7_freezes_85 rfl, e_wp dX7_freezes_86 rfl, e_wp dX7_freezes_87 rfl, e_wp dX7_freezes_90 rfl, e_wp dX7_freezes_93 rfl, e_wp dX7_freezes_96 rfl, e_wp dX7_freezes_97 rfl, e_wp dX7_freezes_100 rfl, e_wp dX7_freezes_101 rfl, e_wp dX7_freezes_102 rfl, e_wp dX7_freezes_103 rfl, e_wp dX7_freezes_106 rfl, e_wp dX7_freezes_109 rfl, c7_bridges, P7_bridges, V7_bridges, cs7_freezes, g7_71, g7_65, g7_34, g7_68, a7_1, w7_1, a7_2, w7_2, a7_3, w7_3, a7_4, w7_4, a7_5, w7_5, a7_6, w7_6, a7_7, w7_7, a7_8, w7_8, a7_9, w7_9, a7_10, w7_10, a7_11, w7_11, a7_12, w7_12, a7_13, w7_13, a7_14, w7_14, a7_15, w7_15, a7_16, w7_16, a7_17, w7_17, a7_18, w7_18, a7_19, w7_19, a7_20, w7_20, a7_21, w7_21, a7_22, w7_22, a7_23, w7_23, a7_24, w7_24, a7_25, w7_25, a7_26, w7_26, a7_27, w7_27, a7_28, w7_28, a7_29, w7_29, a7_30, w7_30, a7_31, w7_31, a7_32, w7_32, a7_33, w7_33, e_iconst, e_bipush, e_sipush, e_lconst_0, e_lconst_1, e_iload, e_iload_0, e_iload_1, e_iload_2, e_iload_3, e_lload, e_lload_0, e_lload_1, e_lload_2, e_lload_3, e_aload, e_aload_0, e_aload_1, e_aload_2, e_aload_3, e_istore, e_istore_0, e_istore_1, e_istore_2, e_istore_3, e_astore, e_astore_0, e_astore_1, e_astore_2, e_astore_3, e_lstore, e_lstore_0, e_lstore_1, e_lstore_2, e_lstore_3, e_iinc, e_iadd, e_isub, e_imul, e_ladd, e_lsub, e_lmul, e_idiv, e_irem, e_ldiv, e_lrem, e_ineg, e_lneg, e_iand, e_ior, e_ixor, e_ishl, e_ishr, e_iushr, e_lcmp, e_i2l, e_l2i, e_i2b, e_i2s, e_dup_i, e_dup_r, e_pop_i, e_pop_r, e_dup2_l, e_dup2_ir, e_dup2_ii, e_ifeq, e_ifne, e_iflt, e_ifge, e_ifgt, e_ifle, e_iceq, e_icne, e_iclt, e_icge, e_icgt, e_icle, e_goto, e_switch, e_invokevirtual, e_invokestatic, e_invokespecial, e_ret0, e_ret1, e_ret2, e_ret3, ldI_s, ldL_s, ldR_s, clO_s, ctP_s, ctS_s, mgo_0, mgo_s, pjc_s, pj_0, pj_s, lk_s, rm1_0, rm1_i, rm1_r, rm1_l, rm2_0, rm2_i, rm2_r, rm2_l, csL_s, lc_lt, lc_ge, lc_gt, lc_le, lc_eq, b01_0, b01_1, b01_01, b01_n, up2_o, up2_s, up2_u, ne_eq, reduceCtorEq, Nat.reduceAdd, Nat.reduceEqDiff, Nat.reduceLT, Nat.reduceLeDiff, Int.reduceLE, Int.reduceLT, Int.reduceAdd, Int.reduceNeg, Int.reduceMul, Int.reduceSub, Int.reduceEq, Int.reduceToNat, Int.reduceNatCast, Int.cast_ofNat_Int, ↓reduceIte, and_self, List.drop_succ_cons, List.drop_zero, List.take_succ_cons, List.take_zero, List.length_cons, List.length_nil, List.reverse_cons, List.reverse_nil, List.nil_append, List.cons_append, Option.toList, true_and, and_true, or_false, false_or, or_true, true_or, forall_const, Classical.not_not, not_false_eq_true, not_true_eq_false, false_implies, true_implies, implies_true, imp_self, e7, hd]
  refine ⟨by omega, fun q => ?_, fun q => ?_⟩
  · refine ⟨by omega, by omega, ?_⟩
    have ek : (kk : Int) = M 19 b_.toNat := by omega
    have eb : mb (up2 M1 19 b_.toNat nn) b_ = frzP (M 7 1) (mb M b_) := by
      rw [mb_up, ← hz]
      show frzP _ (stk (mf M b_) kk) = frzP _ (stk (mf M b_) (M 19 b_.toNat).toNat)
      rw [← ek]
      rfl
    have ob : okB (up2 M1 19 b_.toNat nn) b_ := ⟨by omega, by rw [up2_s]; omega, by rw [eb]; exact okL_frz h3.2.2 h1.1⟩
    have key : ∀ a, 0 ≤ a → ¬ a = b_ → okB M1 a → mb (up2 M1 19 b_.toNat nn) a = mb M1 a ∧ okB (up2 M1 19 b_.toNat nn) a := by
      intro a z1 z2 z3
      exact mb_cong z3 (fun k _ => rfl) (up2_n (by omega))
    refine hI_2 _ _ _ (by omega) ⟨by omega, by omega, ⟨frm_up hf (by decide), fun a z1 z2 => ?_, fun a z1 z2 => ?_⟩, fun z => ?_, fun a z1 z2 => ?_, rfl⟩
    · by_cases e : a = b_
      · rw [e]; exact ⟨eb, ob⟩
      · obtain ⟨y1, y2⟩ := hA a z1 (by omega)
        obtain ⟨x1, x2⟩ := key a z1 e y2
        exact ⟨by rw [x1, y1], x2⟩
    · obtain ⟨y1, y2⟩ := hB a (by omega) z2
      obtain ⟨x1, x2⟩ := key a (by omega) (by omega) y2
      exact ⟨by rw [x1, y1], x2⟩
    · obtain ⟨y1, y2⟩ := hB (b_ + 1) (by omega) z
      obtain ⟨x1, x2⟩ := key (b_ + 1) (by omega) (by omega) y2
      exact ⟨by rw [x1, y1], x2, hD _ (by omega) z⟩
    · exact hD a (by omega) z2
  · have hel := mb_el h3 q
    have ej : mf M1 b_ kk = mf M b_ kk := hj kk (Nat.le_refl _) (by omega)
    have e1 : M1 17 (8 * b_ + kk).toNat = M 17 (8 * b_ + kk).toNat := congrArg Prod.fst ej
    have e2 : M1 18 (8 * b_ + kk).toNat = M 18 (8 * b_ + kk).toNat := congrArg Prod.snd ej
    have ez : frzP (M 7 1) (stk (mf M b_) (kk + 1)) = if M 17 (8 * b_ + kk).toNat - M 7 1 ≤ 0 then frzP (M 7 1) (stk (mf M b_) kk) else (M 17 (8 * b_ + kk).toNat - M 7 1, M 18 (8 * b_ + kk).toNat) :: frzP (M 7 1) (stk (mf M b_) kk) := rfl
    rw [e1]
    repeat (refine And.intro (by omega) ?_)
    refine ⟨fun z => ?_, fun z => ?_⟩
    · repeat (refine And.intro (by omega) ?_)
      rw [e2]
      have key : ∀ a, 0 ≤ a → ¬ a = b_ → okB M1 a → mb (up2 (up2 M1 17 (8 * b_ + nn).toNat (M 17 (8 * b_ + kk).toNat - M 7 1)) 18 (8 * b_ + nn).toNat (M 18 (8 * b_ + kk).toNat)) a = mb M1 a ∧ okB (up2 (up2 M1 17 (8 * b_ + nn).toNat (M 17 (8 * b_ + kk).toNat - M 7 1)) 18 (8 * b_ + nn).toNat (M 18 (8 * b_ + kk).toNat)) a := by
        intro a z1 z2 z3
        exact mb_cong z3 (fun k hk => mf_w q0 z1 (by omega) hk (fun w => z2 w.1)) (by rw [up2_o (by decide), up2_o (by decide)])
      refine hI_14 _ b_ _ _ _ (by omega) ⟨⟨q0, q1⟩, ⟨frm_up (frm_up hf (by decide)) (by decide), fun a z1 z2 => ?_, fun a z1 z2 => ?_⟩, fun a z1 z2 => ?_, ?_, ⟨kk + 1, nn + 1, by omega, by omega, by omega, by omega, ?_, fun j z1 z2 => ?_⟩, rfl⟩
      · obtain ⟨y1, y2⟩ := hA a z1 z2
        obtain ⟨x1, x2⟩ := key a z1 (by omega) y2
        exact ⟨by rw [x1, y1], x2⟩
      · obtain ⟨y1, y2⟩ := hB a z1 z2
        obtain ⟨x1, x2⟩ := key a (by omega) (by omega) y2
        exact ⟨by rw [x1, y1], x2⟩
      · rw [← hD a z1 z2]
        funext k
        have e : (8 * a + k).toNat ≠ (8 * b_ + nn).toNat := by omega
        unfold mf
        rw [up2_o (by decide), up2_n e, up2_n e, up2_o (by decide)]
      · rw [up2_o (by decide), up2_o (by decide)]; exact hd
      · rw [ez, if_neg (by omega), hz]
        show _ = mf _ b_ nn :: stk (mf _ b_) nn
        rw [mf_s]
        congr 1
        exact stk_congr fun k hk => (mf_w q0 q0 (by omega) (by omega) (by omega)).symm
      · rw [mf_w q0 q0 (by omega) (by omega) (by omega)]
        exact hj j (by omega) z2
    · refine ⟨by omega, ?_⟩
      refine hI_14 _ b_ _ _ _ (by omega) ⟨⟨q0, q1⟩, ⟨hf, hA, hB⟩, hD, hd, ⟨kk + 1, nn, by omega, rfl, by omega, by omega, ?_, fun j z1 z2 => hj j (by omega) z2⟩, rfl⟩
      rw [ez, if_pos (by omega), hz]
set_option maxHeartbeats 4000000 in
set_option maxRecDepth 100000 in
theorem m7_freezes : MOK cl7 sh7 tyl7 [] 1 yX7_freezes cX7_freezes 5 none sp7_freezes := by
  refine mok_of (own := RX7) (tb := tb7 (csL cs7_freezes)) (rt := 0) (fuel := 400) (fun avs M Q => [(2, [0, 1], fun m_ vs M1 => ∃ y_b_ : Int, vs = [ar 0, ai y_b_] ∧ J7_freezes_2 M m_ y_b_ M1), (14, [0, 1, 2, 3], fun m_ vs M1 => ∃ y_b_ : Int, ∃ y_n : Int, ∃ y_k : Int, vs = [ar 0, ai y_b_, ai y_n, ai y_k] ∧ J7_freezes_14 M m_ y_b_ y_n y_k M1)]) (by decide) rfl nil_nw (tbOK7 _) rfl (csL_all ?_) ?_ ?_ ?_
  · intro q hq
    simp only [cs7_freezes, List.mem_cons, List.not_mem_nil, or_false] at hq
    rcases hq with rfl
    · exact cg7_bridges (by decide)
  · intro avs M Q hsp
    obtain ⟨xs, hx⟩ := spV_un _ _ _ hsp
    obtain ⟨e, hl⟩ := unA_mkT hx
    obtain rfl := len0 hl
    have e : avs = [ar 0] := e
    subst e
    simp [szL, isL]
  · intro avs M Q hM hav hsp
    obtain ⟨xs, hx⟩ := spV_un _ _ _ hsp
    obtain ⟨e, hl⟩ := unA_mkT hx
    obtain rfl := len0 hl
    have e : avs = [ar 0] := e
    subst e
    exact in7_freezes hM hsp.1 hsp.2 _ (fun m_ y_b_ M2 hJ => ⟨m_, y_b_, rfl, hJ⟩) _ (fun m_ y_b_ y_n y_k M2 hJ => ⟨m_, y_b_, y_n, y_k, rfl, hJ⟩)
  · intro avs M Q hM hav hsp q hq m_ vs M1 hM1 hv hJ
    obtain ⟨xs, hx⟩ := spV_un _ _ _ hsp
    obtain ⟨e, hl⟩ := unA_mkT hx
    obtain rfl := len0 hl
    have e : avs = [ar 0] := e
    subst e
    simp only [List.mem_cons, List.not_mem_nil, or_false] at hq
    rcases hq with rfl | rfl
    · obtain ⟨y_b_, rfl, hJ⟩ := hJ
      exact at7_freezes_2 hM hsp.1 hsp.2 hM1 (hv (1, ai y_b_) (List.mem_of_getElem? (i := 1) rfl)) hJ _ (fun m2 z_b_ M2 hm hJ2 => ⟨m2, hm, z_b_, rfl, hJ2⟩) _ (fun m2 z_b_ z_n z_k M2 hm hJ2 => ⟨m2, hm, z_b_, z_n, z_k, rfl, hJ2⟩)
    · obtain ⟨y_b_, y_n, y_k, rfl, hJ⟩ := hJ
      exact at7_freezes_14 hM hsp.1 hsp.2 hM1 (hv (1, ai y_b_) (List.mem_of_getElem? (i := 1) rfl)) (hv (2, ai y_n) (List.mem_of_getElem? (i := 2) rfl)) (hv (3, ai y_k) (List.mem_of_getElem? (i := 3) rfl)) hJ _ (fun m2 z_b_ M2 hm hJ2 => ⟨m2, hm, z_b_, rfl, hJ2⟩) _ (fun m2 z_b_ z_n z_k M2 hm hJ2 => ⟨m2, hm, z_b_, z_n, z_k, rfl, hJ2⟩)
theorem cg7_freezes {lvl : Nat} (h : 1 < lvl) : CG RX7 cl7 sh7 tyl7 [] lvl 1 311 1 sp7_freezes := cg_V (sg := []) nil_nw spV_mono spV_un m7_freezes h rfl (by decide) rfl rfl ⟨rfl, by decide, by decide, rfl⟩ q1878 q1880 qs93 q138 q1881
