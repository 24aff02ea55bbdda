/-! SagMemoryModel: as it is told -/
def coldF (V : Vy) : Nat → Int
  | 0 => V 8 0
  | k + 1 => if V 9 k = 0 then coldF V k else if V 9 k = 1 then bor (coldF V k) (bshl 1 (V 10 k)) else band (coldF V k) (bxor (bshl 1 (V 10 k)) (-1))
def byF (V : Vy) : Nat → Nat → Int
  | 0, c => V 4 c
  | k + 1, c => if V 9 k = 0 ∧ V 10 k = c then V 11 k else byF V k c
/-- as a valley tells it -/
def tellP (V : Vy) : Cf := fun i j => match i with
  | 0 => if j = 0 then V 0 0 else if j = 1 then coldF V (V 0 7).toNat else 0
  | 1 => if (j : Int) < V 0 4 then V 3 j else 0
  | 2 => if (j : Int) < V 0 4 then byF V (V 0 7).toNat j else 0
  | 3 => if (j : Int) < V 0 4 then j else 0
  | _ => 0
theorem okY_a {V : Vy} (h : okY V) (k : Nat) (hk : (k : Int) < V 0 7) : (0 ≤ V 9 k ∧ V 9 k ≤ 2) ∧ (0 ≤ V 10 k ∧ V 10 k < V 0 4) ∧ (V 9 k = 0 → -1 ≤ V 11 k ∧ V 11 k < V 0 3) := h.2.2.2.2.2.2.2.2.2.2.2.2 k hk
theorem byF_rg {V : Vy} (h : okY V) : ∀ (n c : Nat), (n : Int) ≤ V 0 7 → (c : Int) < V 0 4 → -1 ≤ byF V n c ∧ byF V n c < V 0 3 := by
  intro n
  induction n with
  | zero =>
    intro c _ hc
    have := (okY_c h c hc).2
    show -1 ≤ V 4 c ∧ V 4 c < V 0 3
    omega
  | succ n ih =>
    intro c hn hc
    show -1 ≤ (if V 9 n = 0 ∧ V 10 n = c then V 11 n else byF V n c) ∧ (if V 9 n = 0 ∧ V 10 n = c then V 11 n else byF V n c) < V 0 3
    split
    · rename_i q
      exact (okY_a h n (by omega)).2.2 q.1
    · exact ih c (by omega) hc
theorem okCf_tell {V : Vy} (h : okY V) : okCf V (tellP V) := by
  refine ⟨h.1, fun c hc => ?_⟩
  have h7 := h.2.2.2.2.2.2.2.1
  have e1 : tellP V 1 c = V 3 c := if_pos hc
  have e2 : tellP V 2 c = byF V (V 0 7).toNat c := if_pos hc
  have e3 : tellP V 3 c = c := if_pos hc
  rw [e1, e2, e3]
  exact ⟨(okY_c h c hc).1, byF_rg h _ c (by omega) hc, by omega, hc⟩
theorem okCf_un {V : Vy} {C : Cf} (h : okCf V (nC V C)) : okCf V C := by
  refine ⟨h.1, fun c hc => ?_⟩
  have := h.2 c hc
  rwa [nC_s (by decide) hc, nC_s (by decide) hc, nC_s (by decide) hc] at this
theorem vM_c (M : Mm) {c : Nat} (h : (c : Int) < M 7 4) : vM M 3 c = M 9 (2 * c) ∧ vM M 4 c = M 9 (2 * c + 1) := by
  have e : 7 * 0 + c = c := by omega
  refine ⟨?_, ?_⟩
  · show (if (c : Int) < M 7 4 then M 9 (2 * (7 * 0 + c)) else 0) = _
    rw [if_pos h, e]
  · show (if (c : Int) < M 7 4 then M 9 (2 * (7 * 0 + c) + 1) else 0) = _
    rw [if_pos h, e]
theorem vM_a (M : Mm) {k : Nat} (h : (k : Int) < M 7 7) : vM M 9 k = M 12 (3 * k) ∧ vM M 10 k = M 12 (3 * k + 1) ∧ vM M 11 k = M 12 (3 * k + 2) := by
  have e : 30 * 0 + k = k := by omega
  refine ⟨?_, ?_, ?_⟩
  · show (if (k : Int) < M 7 7 then M 12 (3 * (30 * 0 + k)) else 0) = _
    rw [if_pos h, e]
  · show (if (k : Int) < M 7 7 then M 12 (3 * (30 * 0 + k) + 1) else 0) = _
    rw [if_pos h, e]
  · show (if (k : Int) < M 7 7 then M 12 (3 * (30 * 0 + k) + 2) else 0) = _
    rw [if_pos h, e]
/-- row 0 but for what is told -/
def row0 (M M1 : Mm) : Prop := ∀ j, ¬ j = 24 → ¬ j = 25 → ¬ j = 26 → M1 0 j = M 0 j
abbrev tellRows : List Nat := [0, 14, 15, 16]
/-- while it is told: the law, no cart absent; carts ahead of n told -/
def telI (M M1 : Mm) (n : Nat) : Prop := frm tellRows M M1 ∧ row0 M M1 ∧ M1 0 24 = M 7 0 ∧ M1 0 26 = 0 ∧ ∀ c : Nat, c < n → M1 14 c = M 9 (2 * c) ∧ M1 16 c = c
def P7_lays (M : Mm) : Prop := okY (vM M)
def R7_lays (M : Mm) (M1 : Mm) : Prop := frm tellRows M M1 ∧ row0 M M1 ∧ nC (vM M) (cM M1) = tellP (vM M)
def sp7_lays : Spec := spV true [] (fun x M => P7_lays M) (fun x M M1 => R7_lays M M1)
theorem c7_lays {M : Mm} {Q : Option AV → Mm → Prop} : sp7_lays [ar 0] M Q = (P7_lays M ∧ ∀ (M1 : Mm), R7_lays M M1 → Q none M1) := rfl
def cs7_lays : List (Nat × Nat × Nat × Spec) := [(286, 1, 1, sp7_carts)]
def J7_lays_22 (M : Mm) (m : Nat) (k : Int) (M1 : Mm) : Prop := ∃ n : Nat, k = n ∧ (n : Int) ≤ M 7 6 ∧ telI M M1 0 ∧ M1 0 25 = frB (fun k => M 11 (4 * 0 + k)) n ∧ m = 1000 + (4 - n)
def J7_lays_58 (M : Mm) (m : Nat) (c : Int) (M1 : Mm) : Prop := ∃ n : Nat, c = n ∧ (n : Int) ≤ M 7 4 ∧ telI M M1 n ∧ (∀ c : Nat, c < n → M1 15 c = M 9 (2 * c + 1)) ∧ M1 0 25 = vM M 8 0 ∧ m = 500 + (7 - n)
def J7_lays_111 (M : Mm) (m : Nat) (k : Int) (M1 : Mm) : Prop := ∃ n : Nat, k = n ∧ (n : Int) ≤ M 7 7 ∧ telI M M1 (M 7 4).toNat ∧ (∀ c : Nat, (c : Int) < M 7 4 → M1 15 c = byF (vM M) n c) ∧ M1 0 25 = coldF (vM M) n ∧ m = 30 - n
set_option maxHeartbeats 4000000 in
set_option maxRecDepth 100000 in
theorem in7_lays {M : Mm} {Q : Option AV → Mm → Prop} (hM : okM sh7 M) (hP : P7_lays M) (hQ : ∀ (M1 : Mm), R7_lays M M1 → Q none M1) (I_22 : List AV → Mm → Prop) (hI_22 : ∀ (m_ : Nat) (y_k : Int) (M2 : Mm), J7_lays_22 M m_ y_k M2 → I_22 [ar 0, ai y_k] M2) (I_58 : List AV → Mm → Prop) (hI_58 : ∀ (m_ : Nat) (y_c : Int) (M2 : Mm), J7_lays_58 M m_ y_c M2 → I_58 [ar 0, ai y_c] M2) (I_111 : List AV → Mm → Prop) (hI_111 : ∀ (m_ : Nat) (y_k : Int) (M2 : Mm), J7_lays_111 M m_ y_k M2 → I_111 [ar 0, ai y_k] M2) : wp (tb7 (csL cs7_lays)) sh7 3 0 cX7_lays [(22, [0, 1], I_22), (58, [0, 1], I_58), (111, [0, 1], I_111)] Q 400 0 [(0, ar 0)] [] M := by
  have h6 : 0 ≤ M 7 6 ∧ M 7 6 ≤ 4 := hP.2.2.2.2.2.2.1
  simp only [e_wp dX7_lays_0 rfl, e_wp dX7_lays_1 rfl, e_wp dX7_lays_2 rfl, e_wp dX7_lays_5 rfl, e_wp dX7_lays_6 rfl, e_wp dX7_lays_7 rfl, e_wp dX7_lays_10 rfl, e_wp dX7_lays_11 rfl, e_wp dX7_lays_12 rfl, e_wp dX7_lays_15 rfl, e_wp dX7_lays_16 rfl, e_wp dX7_lays_17 rfl, e_wp dX7_lays_20 rfl, e_wp dX7_lays_21 rfl, e_wp dX7_lays_22 rfl, e_wp dX7_lays_23 rfl, e_wp dX7_lays_24 rfl, e_wp dX7_lays_27 rfl, e_wp dX7_lays_29 rfl, e_wp dX7_lays_30 rfl, e_wp dX7_lays_33 rfl, e_wp dX7_lays_34 rfl, e_wp dX7_lays_35 rfl, e_wp dX7_lays_38 rfl, e_wp dX7_lays_39 rfl, e_wp dX7_lays_40 rfl, e_wp dX7_lays_43 rfl, e_wp dX7_lays_44 rfl, e_wp dX7_lays_45 rfl, e_wp dX7_lays_46 rfl, e_wp dX7_lays_47 rfl, e_wp dX7_lays_50 rfl, e_wp dX7_lays_53 rfl, e_wp dX7_lays_56 rfl, e_wp dX7_lays_57 rfl, e_wp dX7_lays_58 rfl, e_wp dX7_lays_59 rfl, e_wp dX7_lays_60 rfl, e_wp dX7_lays_63 rfl, e_wp dX7_lays_66 rfl, e_wp dX7_lays_67 rfl, e_wp dX7_lays_70 rfl, e_wp dX7_lays_71 rfl, e_wp dX7_lays_72 rfl, e_wp dX7_lays_75 rfl, e_wp dX7_lays_76 rfl, e_wp dX7_lays_77 rfl, e_wp dX7_lays_78 rfl, e_wp dX7_lays_79 rfl, e_wp dX7_lays_80 rfl, e_wp dX7_lays_81 rfl, e_wp dX7_lays_84 rfl, e_wp dX7_lays_85 rfl, e_wp dX7_lays_86 rfl, e_wp dX7_lays_89 rfl, e_wp dX7_lays_90 rfl, e_wp dX7_lays_91 rfl, e_wp dX7_lays_92 rfl, e_wp dX7_lays_93 rfl, e_wp dX7_lays_94 rfl, e_wp dX7_lays_95 rfl, e_wp dX7_lays_96 rfl, e_wp dX7_lays_97 rfl, e_wp dX7_lays_100 rfl, e_wp dX7_lays_101 rfl, e_wp dX7_lays_102 rfl, e_wp dX7_lays_103 rfl, e_wp dX7_lays_106 rfl, e_wp dX7_lays_109 rfl, e_wp dX7_lays_110 rfl, e_wp dX7_lays_111 rfl, e_wp dX7_lays_112 rfl, e_wp dX7_lays_113 rfl, e_wp dX7_lays_116 rfl, e_wp dX7_lays_118 rfl, e_wp dX7_lays_119 rfl, e_wp dX7_lays_122 rfl, e_wp dX7_lays_123 rfl, e_wp dX7_lays_126 rfl, e_wp dX7_lays_127 rfl, e_wp dX7_lays_128 rfl, e_wp dX7_lays_129 rfl, e_wp dX7_lays_130 rfl, e_wp dX7_lays_131 rfl, e_wp dX7_lays_132 rfl, e_wp dX7_lays_133 rfl, e_wp dX7_lays_134 rfl, e_wp dX7_lays_137 rfl, e_wp dX7_lays_138 rfl, e_wp dX7_lays_139 rfl, e_wp dX7_lays_140 rfl, e_wp dX7_lays_141 rfl, e_wp dX7_lays_144 rfl, e_wp dX7_lays_145 rfl, e_wp dX7_lays_148 rfl, e_wp dX7_lays_149 rfl, e_wp dX7_lays_150 rfl, e_wp dX7_lays_153 rfl, e_wp dX7_lays_154 rfl, e_wp dX7_lays_155 rfl, e_wp dX7_lays_156 rfl, e_wp dX7_lays_157 rfl, e_wp dX7_lays_158 rfl, e_wp dX7_lays_159 rfl, e_wp dX7_lays_160 rfl, e_wp dX7_lays_163 rfl, e_wp dX7_lays_164 rfl, e_wp dX7_lays_165 rfl, e_wp dX7_lays_168 rfl, e_wp dX7_lays_169 rfl, e_wp dX7_lays_170 rfl, e_wp dX7_lays_171 rfl, e_wp dX7_lays_172 rfl, e_wp dX7_lays_173 rfl, e_wp dX7_lays_176 rfl, e_wp dX7_lays_177 rfl, e_wp dX7_lays_180 rfl, e_wp dX7_lays_181 rfl, e_wp dX7_lays_182 rfl, e_wp dX7_lays_183 rfl, e_wp dX7_lays_184 rfl, e_wp dX7_lays_187 rfl, e_wp dX7_lays_188 rfl, e_wp dX7_lays_191 rfl, e_wp dX7_lays_192 rfl, e_wp dX7_lays_193 rfl, e_wp dX7_lays_194 rfl, e_wp dX7_lays_195 rfl, e_wp dX7_lays_196 rfl, e_wp dX7_lays_197 rfl, e_wp dX7_lays_200 rfl, e_wp dX7_lays_203 rfl, e_wp dX7_lays_206 rfl, g7_34, p7_295, p7_298, p7_301, g7_298, g7_46, c7_carts, P7_carts, V7_carts, cs7_lays, g7_56, g7_40, g7_59, g7_62, g7_49, a7_1, w7_1, a7_2, w7_2, a7_3, w7_3, a7_4, w7_4, a7_5, w7_5, a7_6, w7_6, a7_7, w7_7, a7_8, w7_8, a7_9, w7_9, a7_10, w7_10, a7_11, w7_11, a7_12, w7_12, a7_13, w7_13, a7_14, w7_14, a7_15, w7_15, a7_16, w7_16, a7_17, w7_17, a7_18, w7_18, a7_19, w7_19, a7_20, w7_20, a7_21, w7_21, a7_22, w7_22, a7_23, w7_23, a7_24, w7_24, a7_25, w7_25, a7_26, w7_26, a7_27, w7_27, a7_28, w7_28, a7_29, w7_29, a7_30, w7_30, a7_31, w7_31, a7_32, w7_32, a7_33, w7_33, e_iconst, e_bipush, e_sipush, e_lconst_0, e_lconst_1, e_iload, e_iload_0, e_iload_1, e_iload_2, e_iload_3, e_lload, e_lload_0, e_lload_1, e_lload_2, e_lload_3, e_aload, e_aload_0, e_aload_1, e_aload_2, e_aload_3, e_istore, e_istore_0, e_istore_1, e_istore_2, e_istore_3, e_astore, e_astore_0, e_astore_1, e_astore_2, e_astore_3, e_lstore, e_lstore_0, e_lstore_1, e_lstore_2, e_lstore_3, e_iinc, e_iadd, e_isub, e_imul, e_ladd, e_lsub, e_lmul, e_idiv, e_irem, e_ldiv, e_lrem, e_ineg, e_lneg, e_iand, e_ior, e_ixor, e_ishl, e_ishr, e_iushr, e_lcmp, e_i2l, e_l2i, e_i2b, e_i2s, e_dup_i, e_dup_r, e_pop_i, e_pop_r, e_dup2_l, e_dup2_ir, e_dup2_ii, e_ifeq, e_ifne, e_iflt, e_ifge, e_ifgt, e_ifle, e_iceq, e_icne, e_iclt, e_icge, e_icgt, e_icle, e_goto, e_switch, e_invokevirtual, e_invokestatic, e_invokespecial, e_ret0, e_ret1, e_ret2, e_ret3, ldI_s, ldL_s, ldR_s, clO_s, ctP_s, ctS_s, mgo_0, mgo_s, pjc_s, pj_0, pj_s, lk_s, rm1_0, rm1_i, rm1_r, rm1_l, rm2_0, rm2_i, rm2_r, rm2_l, csL_s, lc_lt, lc_ge, lc_gt, lc_le, lc_eq, b01_0, b01_1, b01_01, b01_n, up2_o, up2_s, up2_u, ne_eq, reduceCtorEq, Nat.reduceAdd, Nat.reduceEqDiff, Nat.reduceLT, Nat.reduceLeDiff, Int.reduceLE, Int.reduceLT, Int.reduceAdd, Int.reduceNeg, Int.reduceMul, Int.reduceSub, Int.reduceEq, Int.reduceToNat, Int.reduceNatCast, Int.cast_ofNat_Int, ↓reduceIte, and_self, List.drop_succ_cons, List.drop_zero, List.take_succ_cons, List.take_zero, List.length_cons, List.length_nil, List.reverse_cons, List.reverse_nil, List.nil_append, List.cons_append, Option.toList, true_and, and_true, or_false, false_or, or_true, true_or, forall_const, Classical.not_not, not_false_eq_true, not_true_eq_false, false_implies, true_implies, implies_true, imp_self]
  refine hI_22 _ _ _ ⟨0, rfl, h6.1, ⟨?_, ?_, ?_, ?_, fun c hc => by omega⟩, ?_, rfl⟩
  · exact frm_up (frm_up (frm_up frm_rf (by decide)) (by decide)) (by decide)
  · intro j h1 h2 h3
    simp [up2_r, h1, h2, h3]
  · simp [up2_r]
  · simp [up2_r]
  · simp [up2_r, frB]
set_option maxHeartbeats 4000000 in
set_option maxRecDepth 100000 in
theorem at7_lays_22 {M : Mm} {Q : Option AV → Mm → Prop} (hM : okM sh7 M) (hP : P7_lays M) (hQ : ∀ (M1 : Mm), R7_lays M M1 → Q none M1) {m : Nat} {k : Int} {M1 : Mm} (hM1 : okM sh7 M1) (h_k : i32 k) (hJ : J7_lays_22 M m k M1) (I_22 : List AV → Mm → Prop) (hI_22 : ∀ (m_ : Nat) (y_k : Int) (M2 : Mm), m_ < m → J7_lays_22 M m_ y_k M2 → I_22 [ar 0, ai y_k] M2) (I_58 : List AV → Mm → Prop) (hI_58 : ∀ (m_ : Nat) (y_c : Int) (M2 : Mm), m_ < m → J7_lays_58 M m_ y_c M2 → I_58 [ar 0, ai y_c] M2) (I_111 : List AV → Mm → Prop) (hI_111 : ∀ (m_ : Nat) (y_k : Int) (M2 : Mm), m_ < m → J7_lays_111 M m_ y_k M2 → I_111 [ar 0, ai y_k] M2) : wp (tb7 (csL cs7_lays)) sh7 3 0 cX7_lays [(22, [0, 1], I_22), (58, [0, 1], I_58), (111, [0, 1], I_111)] Q 400 22 [(0, ar 0), (1, ai k)] [] M1 := by
  obtain ⟨n, rfl, hn, ⟨t1, t2, t3, t4, t5⟩, hf, rfl⟩ := hJ
  have h6 : 0 ≤ M 7 6 ∧ M 7 6 ≤ 4 := hP.2.2.2.2.2.2.1
  have h4 : 0 ≤ M 7 4 ∧ M 7 4 ≤ 7 := hP.2.2.2.2.1
  have e7 : M1 7 = M 7 := t1 _ (by decide)
  have e11 : M1 11 = M 11 := t1 _ (by decide)
  simp only [e_wp dX7_lays_0 rfl, e_wp dX7_lays_1 rfl, e_wp dX7_lays_2 rfl, e_wp dX7_lays_5 rfl, e_wp dX7_lays_6 rfl, e_wp dX7_lays_7 rfl, e_wp dX7_lays_10 rfl, e_wp dX7_lays_11 rfl, e_wp dX7_lays_12 rfl, e_wp dX7_lays_15 rfl, e_wp dX7_lays_16 rfl, e_wp dX7_lays_17 rfl, e_wp dX7_lays_20 rfl, e_wp dX7_lays_21 rfl, e_wp dX7_lays_22 rfl, e_wp dX7_lays_23 rfl, e_wp dX7_lays_24 rfl, e_wp dX7_lays_27 rfl, e_wp dX7_lays_29 rfl, e_wp dX7_lays_30 rfl, e_wp dX7_lays_33 rfl, e_wp dX7_lays_34 rfl, e_wp dX7_lays_35 rfl, e_wp dX7_lays_38 rfl, e_wp dX7_lays_39 rfl, e_wp dX7_lays_40 rfl, e_wp dX7_lays_43 rfl, e_wp dX7_lays_44 rfl, e_wp dX7_lays_45 rfl, e_wp dX7_lays_46 rfl, e_wp dX7_lays_47 rfl, e_wp dX7_lays_50 rfl, e_wp dX7_lays_53 rfl, e_wp dX7_lays_56 rfl, e_wp dX7_lays_57 rfl, e_wp dX7_lays_58 rfl, e_wp dX7_lays_59 rfl, e_wp dX7_lays_60 rfl, e_wp dX7_lays_63 rfl, e_wp dX7_lays_66 rfl, e_wp dX7_lays_67 rfl, e_wp dX7_lays_70 rfl, e_wp dX7_lays_71 rfl, e_wp dX7_lays_72 rfl, e_wp dX7_lays_75 rfl, e_wp dX7_lays_76 rfl, e_wp dX7_lays_77 rfl, e_wp dX7_lays_78 rfl, e_wp dX7_lays_79 rfl, e_wp dX7_lays_80 rfl, e_wp dX7_lays_81 rfl, e_wp dX7_lays_84 rfl, e_wp dX7_lays_85 rfl, e_wp dX7_lays_86 rfl, e_wp dX7_lays_89 rfl, e_wp dX7_lays_90 rfl, e_wp dX7_lays_91 rfl, e_wp dX7_lays_92 rfl, e_wp dX7_lays_93 rfl, e_wp dX7_lays_94 rfl, e_wp dX7_lays_95 rfl, e_wp dX7_lays_96 rfl, e_wp dX7_lays_97 rfl, e_wp dX7_lays_100 rfl, e_wp dX7_lays_101 rfl, e_wp dX7_lays_102 rfl, e_wp dX7_lays_103 rfl, e_wp dX7_lays_106 rfl, e_wp dX7_lays_109 rfl, e_wp dX7_lays_110 rfl, e_wp dX7_lays_111 rfl, e_wp dX7_lays_112 rfl, e_wp dX7_lays_113 rfl, e_wp dX7_lays_116 rfl, e_wp dX7_lays_118 rfl, e_wp dX7_lays_119 rfl, e_wp dX7_lays_122 rfl, e_wp dX7_lays_123 rfl, e_wp dX7_lays_126 rfl, e_wp dX7_lays_127 rfl, e_wp dX7_lays_128 rfl, e_wp dX7_lays_129 rfl, e_wp dX7_lays_130 rfl, e_wp dX7_lays_131 rfl, e_wp dX7_lays_132 rfl, e_wp dX7_lays_133 rfl, e_wp dX7_lays_134 rfl, e_wp dX7_lays_137 rfl, e_wp dX7_lays_138 rfl, e_wp dX7_lays_139 rfl, e_wp dX7_lays_140 rfl, e_wp dX7_lays_141 rfl, e_wp dX7_lays_144 rfl, e_wp dX7_lays_145 rfl, e_wp dX7_lays_148 rfl, e_wp dX7_lays_149 rfl, e_wp dX7_lays_150 rfl, e_wp dX7_lays_153 rfl, e_wp dX7_lays_154 rfl, e_wp dX7_lays_155 rfl, e_wp dX7_lays_156 rfl, e_wp dX7_lays_157 rfl, e_wp dX7_lays_158 rfl, e_wp dX7_lays_159 rfl, e_wp dX7_lays_160 rfl, e_wp dX7_lays_163 rfl, e_wp dX7_lays_164 rfl, e_wp dX7_lays_165 rfl, e_wp dX7_lays_168 rfl, e_wp dX7_lays_169 rfl, e_wp dX7_lays_170 rfl, e_wp dX7_lays_171 rfl, e_wp dX7_lays_172 rfl, e_wp dX7_lays_173 rfl, e_wp dX7_lays_176 rfl, e_wp dX7_lays_177 rfl, e_wp dX7_lays_180 rfl, e_wp dX7_lays_181 rfl, e_wp dX7_lays_182 rfl, e_wp dX7_lays_183 rfl, e_wp dX7_lays_184 rfl, e_wp dX7_lays_187 rfl, e_wp dX7_lays_188 rfl, e_wp dX7_lays_191 rfl, e_wp dX7_lays_192 rfl, e_wp dX7_lays_193 rfl, e_wp dX7_lays_194 rfl, e_wp dX7_lays_195 rfl, e_wp dX7_lays_196 rfl, e_wp dX7_lays_197 rfl, e_wp dX7_lays_200 rfl, e_wp dX7_lays_203 rfl, e_wp dX7_lays_206 rfl, g7_34, p7_295, p7_298, p7_301, g7_298, g7_46, c7_carts, P7_carts, V7_carts, cs7_lays, g7_56, g7_40, g7_59, g7_62, g7_49, a7_1, w7_1, a7_2, w7_2, a7_3, w7_3, a7_4, w7_4, a7_5, w7_5, a7_6, w7_6, a7_7, w7_7, a7_8, w7_8, a7_9, w7_9, a7_10, w7_10, a7_11, w7_11, a7_12, w7_12, a7_13, w7_13, a7_14, w7_14, a7_15, w7_15, a7_16, w7_16, a7_17, w7_17, a7_18, w7_18, a7_19, w7_19, a7_20, w7_20, a7_21, w7_21, a7_22, w7_22, a7_23, w7_23, a7_24, w7_24, a7_25, w7_25, a7_26, w7_26, a7_27, w7_27, a7_28, w7_28, a7_29, w7_29, a7_30, w7_30, a7_31, w7_31, a7_32, w7_32, a7_33, w7_33, e_iconst, e_bipush, e_sipush, e_lconst_0, e_lconst_1, e_iload, e_iload_0, e_iload_1, e_iload_2, e_iload_3, e_lload, e_lload_0, e_lload_1, e_lload_2, e_lload_3, e_aload, e_aload_0, e_aload_1, e_aload_2, e_aload_3, e_istore, e_istore_0, e_istore_1, e_istore_2, e_istore_3, e_astore, e_astore_0, e_astore_1, e_astore_2, e_astore_3, e_lstore, e_lstore_0, e_lstore_1, e_lstore_2, e_lstore_3, e_iinc, e_iadd, e_isub, e_imul, e_ladd, e_lsub, e_lmul, e_idiv, e_irem, e_ldiv, e_lrem, e_ineg, e_lneg, e_iand, e_ior, e_ixor, e_ishl, e_ishr, e_iushr, e_lcmp, e_i2l, e_l2i, e_i2b, e_i2s, e_dup_i, e_dup_r, e_pop_i, e_pop_r, e_dup2_l, e_dup2_ir, e_dup2_ii, e_ifeq, e_ifne, e_iflt, e_ifge, e_ifgt, e_ifle, e_iceq, e_icne, e_iclt, e_icge, e_icgt, e_icle, e_goto, e_switch, e_invokevirtual, e_invokestatic, e_invokespecial, e_ret0, e_ret1, e_ret2, e_ret3, ldI_s, ldL_s, ldR_s, clO_s, ctP_s, ctS_s, mgo_0, mgo_s, pjc_s, pj_0, pj_s, lk_s, rm1_0, rm1_i, rm1_r, rm1_l, rm2_0, rm2_i, rm2_r, rm2_l, csL_s, lc_lt, lc_ge, lc_gt, lc_le, lc_eq, b01_0, b01_1, b01_01, b01_n, up2_o, up2_s, up2_u, ne_eq, reduceCtorEq, Nat.reduceAdd, Nat.reduceEqDiff, Nat.reduceLT, Nat.reduceLeDiff, Int.reduceLE, Int.reduceLT, Int.reduceAdd, Int.reduceNeg, Int.reduceMul, Int.reduceSub, Int.reduceEq, Int.reduceToNat, Int.reduceNatCast, Int.cast_ofNat_Int, ↓reduceIte, and_self, List.drop_succ_cons, List.drop_zero, List.take_succ_cons, List.take_zero, List.length_cons, List.length_nil, List.reverse_cons, List.reverse_nil, List.nil_append, List.cons_append, Option.toList, true_and, and_true, or_false, false_or, or_true, true_or, forall_const, Classical.not_not, not_false_eq_true, not_true_eq_false, false_implies, true_implies, implies_true, imp_self, e7, e11, Int.toNat_natCast]
  refine ⟨fun q => ?_, fun q => ⟨by omega, by omega, ?_⟩⟩
  · refine hI_58 _ _ _ (by omega) ⟨0, rfl, h4.1, ⟨t1, t2, t3, t4, t5⟩, fun c hc => by omega, ?_, rfl⟩
    rw [hf]
    show _ = frB (fun k => M 11 (4 * 0 + k)) (M 7 6).toNat
    rw [show (M 7 6).toNat = n by omega]
  · refine hI_22 _ _ _ (by omega) ⟨n + 1, by omega, by omega, ⟨frm_up t1 (by decide), ?_, ?_, ?_, fun c hc => by omega⟩, ?_, rfl⟩
    · intro j h1 h2 h3
      rw [up2_n (by omega)]
      exact t2 j h1 h2 h3
    · rw [up2_n (by decide)]; exact t3
    · rw [up2_n (by decide)]; exact t4
    · rw [up2_s, hf]
      show _ = bor (frB (fun k => M 11 (4 * 0 + k)) n) (bshl 1 (M 11 (4 * 0 + n)))
      rw [show 4 * 0 + n = n by omega]
set_option maxHeartbeats 4000000 in
set_option maxRecDepth 100000 in
theorem at7_lays_58 {M : Mm} {Q : Option AV → Mm → Prop} (hM : okM sh7 M) (hP : P7_lays M) (hQ : ∀ (M1 : Mm), R7_lays M M1 → Q none M1) {m : Nat} {c : Int} {M1 : Mm} (hM1 : okM sh7 M1) (h_c : i32 c) (hJ : J7_lays_58 M m c M1) (I_22 : List AV → Mm → Prop) (hI_22 : ∀ (m_ : Nat) (y_k : Int) (M2 : Mm), m_ < m → J7_lays_22 M m_ y_k M2 → I_22 [ar 0, ai y_k] M2) (I_58 : List AV → Mm → Prop) (hI_58 : ∀ (m_ : Nat) (y_c : Int) (M2 : Mm), m_ < m → J7_lays_58 M m_ y_c M2 → I_58 [ar 0, ai y_c] M2) (I_111 : List AV → Mm → Prop) (hI_111 : ∀ (m_ : Nat) (y_k : Int) (M2 : Mm), m_ < m → J7_lays_111 M m_ y_k M2 → I_111 [ar 0, ai y_k] M2) : wp (tb7 (csL cs7_lays)) sh7 3 0 cX7_lays [(22, [0, 1], I_22), (58, [0, 1], I_58), (111, [0, 1], I_111)] Q 400 58 [(0, ar 0), (1, ai c)] [] M1 := by
  obtain ⟨n, rfl, hn, ⟨t1, t2, t3, t4, t5⟩, hb, hf, rfl⟩ := hJ
  have h4 : 0 ≤ M 7 4 ∧ M 7 4 ≤ 7 := hP.2.2.2.2.1
  have h7 : 0 ≤ M 7 7 ∧ M 7 7 ≤ 30 := hP.2.2.2.2.2.2.2.1
  have e7 : M1 7 = M 7 := t1 _ (by decide)
  have e9 : M1 9 = M 9 := t1 _ (by decide)
  have i1 : ((2 : Int) * n).toNat = 2 * n := by omega
  have i2 : ((2 : Int) * n + 1).toNat = 2 * n + 1 := by omega
  simp only [e_wp dX7_lays_0 rfl, e_wp dX7_lays_1 rfl, e_wp dX7_lays_2 rfl, e_wp dX7_lays_5 rfl, e_wp dX7_lays_6 rfl, e_wp dX7_lays_7 rfl, e_wp dX7_lays_10 rfl, e_wp dX7_lays_11 rfl, e_wp dX7_lays_12 rfl, e_wp dX7_lays_15 rfl, e_wp dX7_lays_16 rfl, e_wp dX7_lays_17 rfl, e_wp dX7_lays_20 rfl, e_wp dX7_lays_21 rfl, e_wp dX7_lays_22 rfl, e_wp dX7_lays_23 rfl, e_wp dX7_lays_24 rfl, e_wp dX7_lays_27 rfl, e_wp dX7_lays_29 rfl, e_wp dX7_lays_30 rfl, e_wp dX7_lays_33 rfl, e_wp dX7_lays_34 rfl, e_wp dX7_lays_35 rfl, e_wp dX7_lays_38 rfl, e_wp dX7_lays_39 rfl, e_wp dX7_lays_40 rfl, e_wp dX7_lays_43 rfl, e_wp dX7_lays_44 rfl, e_wp dX7_lays_45 rfl, e_wp dX7_lays_46 rfl, e_wp dX7_lays_47 rfl, e_wp dX7_lays_50 rfl, e_wp dX7_lays_53 rfl, e_wp dX7_lays_56 rfl, e_wp dX7_lays_57 rfl, e_wp dX7_lays_58 rfl, e_wp dX7_lays_59 rfl, e_wp dX7_lays_60 rfl, e_wp dX7_lays_63 rfl, e_wp dX7_lays_66 rfl, e_wp dX7_lays_67 rfl, e_wp dX7_lays_70 rfl, e_wp dX7_lays_71 rfl, e_wp dX7_lays_72 rfl, e_wp dX7_lays_75 rfl, e_wp dX7_lays_76 rfl, e_wp dX7_lays_77 rfl, e_wp dX7_lays_78 rfl, e_wp dX7_lays_79 rfl, e_wp dX7_lays_80 rfl, e_wp dX7_lays_81 rfl, e_wp dX7_lays_84 rfl, e_wp dX7_lays_85 rfl, e_wp dX7_lays_86 rfl, e_wp dX7_lays_89 rfl, e_wp dX7_lays_90 rfl, e_wp dX7_lays_91 rfl, e_wp dX7_lays_92 rfl, e_wp dX7_lays_93 rfl, e_wp dX7_lays_94 rfl, e_wp dX7_lays_95 rfl, e_wp dX7_lays_96 rfl, e_wp dX7_lays_97 rfl, e_wp dX7_lays_100 rfl, e_wp dX7_lays_101 rfl, e_wp dX7_lays_102 rfl, e_wp dX7_lays_103 rfl, e_wp dX7_lays_106 rfl, e_wp dX7_lays_109 rfl, e_wp dX7_lays_110 rfl, e_wp dX7_lays_111 rfl, e_wp dX7_lays_112 rfl, e_wp dX7_lays_113 rfl, e_wp dX7_lays_116 rfl, e_wp dX7_lays_118 rfl, e_wp dX7_lays_119 rfl, e_wp dX7_lays_122 rfl, e_wp dX7_lays_123 rfl, e_wp dX7_lays_126 rfl, e_wp dX7_lays_127 rfl, e_wp dX7_lays_128 rfl, e_wp dX7_lays_129 rfl, e_wp dX7_lays_130 rfl, e_wp dX7_lays_131 rfl, e_wp dX7_lays_132 rfl, e_wp dX7_lays_133 rfl, e_wp dX7_lays_134 rfl, e_wp dX7_lays_137 rfl, e_wp dX7_lays_138 rfl, e_wp dX7_lays_139 rfl, e_wp dX7_lays_140 rfl, e_wp dX7_lays_141 rfl, e_wp dX7_lays_144 rfl, e_wp dX7_lays_145 rfl, e_wp dX7_lays_148 rfl, e_wp dX7_lays_149 rfl, e_wp dX7_lays_150 rfl, e_wp dX7_lays_153 rfl, e_wp dX7_lays_154 rfl, e_wp dX7_lays_155 rfl, e_wp dX7_lays_156 rfl, e_wp dX7_lays_157 rfl, e_wp dX7_lays_158 rfl, e_wp dX7_lays_159 rfl, e_wp dX7_lays_160 rfl, e_wp dX7_lays_163 rfl, e_wp dX7_lays_164 rfl, e_wp dX7_lays_165 rfl, e_wp dX7_lays_168 rfl, e_wp dX7_lays_169 rfl, e_wp dX7_lays_170 rfl, e_wp dX7_lays_171 rfl, e_wp dX7_lays_172 rfl, e_wp dX7_lays_173 rfl, e_wp dX7_lays_176 rfl, e_wp dX7_lays_177 rfl, e_wp dX7_lays_180 rfl, e_wp dX7_lays_181 rfl, e_wp dX7_lays_182 rfl, e_wp dX7_lays_183 rfl, e_wp dX7_lays_184 rfl, e_wp dX7_lays_187 rfl, e_wp dX7_lays_188 rfl, e_wp dX7_lays_191 rfl, e_wp dX7_lays_192 rfl, e_wp dX7_lays_193 rfl, e_wp dX7_lays_194 rfl, e_wp dX7_lays_195 rfl, e_wp dX7_lays_196 rfl, e_wp dX7_lays_197 rfl, e_wp dX7_lays_200 rfl, e_wp dX7_lays_203 rfl, e_wp dX7_lays_206 rfl, g7_34, p7_295, p7_298, p7_301, g7_298, g7_46, c7_carts, P7_carts, V7_carts, cs7_lays, g7_56, g7_40, g7_59, g7_62, g7_49, a7_1, w7_1, a7_2, w7_2, a7_3, w7_3, a7_4, w7_4, a7_5, w7_5, a7_6, w7_6, a7_7, w7_7, a7_8, w7_8, a7_9, w7_9, a7_10, w7_10, a7_11, w7_11, a7_12, w7_12, a7_13, w7_13, a7_14, w7_14, a7_15, w7_15, a7_16, w7_16, a7_17, w7_17, a7_18, w7_18, a7_19, w7_19, a7_20, w7_20, a7_21, w7_21, a7_22, w7_22, a7_23, w7_23, a7_24, w7_24, a7_25, w7_25, a7_26, w7_26, a7_27, w7_27, a7_28, w7_28, a7_29, w7_29, a7_30, w7_30, a7_31, w7_31, a7_32, w7_32, a7_33, w7_33, e_iconst, e_bipush, e_sipush, e_lconst_0, e_lconst_1, e_iload, e_iload_0, e_iload_1, e_iload_2, e_iload_3, e_lload, e_lload_0, e_lload_1, e_lload_2, e_lload_3, e_aload, e_aload_0, e_aload_1, e_aload_2, e_aload_3, e_istore, e_istore_0, e_istore_1, e_istore_2, e_istore_3, e_astore, e_astore_0, e_astore_1, e_astore_2, e_astore_3, e_lstore, e_lstore_0, e_lstore_1, e_lstore_2, e_lstore_3, e_iinc, e_iadd, e_isub, e_imul, e_ladd, e_lsub, e_lmul, e_idiv, e_irem, e_ldiv, e_lrem, e_ineg, e_lneg, e_iand, e_ior, e_ixor, e_ishl, e_ishr, e_iushr, e_lcmp, e_i2l, e_l2i, e_i2b, e_i2s, e_dup_i, e_dup_r, e_pop_i, e_pop_r, e_dup2_l, e_dup2_ir, e_dup2_ii, e_ifeq, e_ifne, e_iflt, e_ifge, e_ifgt, e_ifle, e_iceq, e_icne, e_iclt, e_icge, e_icgt, e_icle, e_goto, e_switch, e_invokevirtual, e_invokestatic, e_invokespecial, e_ret0, e_ret1, e_ret2, e_ret3, ldI_s, ldL_s, ldR_s, clO_s, ctP_s, ctS_s, mgo_0, mgo_s, pjc_s, pj_0, pj_s, lk_s, rm1_0, rm1_i, rm1_r, rm1_l, rm2_0, rm2_i, rm2_r, rm2_l, csL_s, lc_lt, lc_ge, lc_gt, lc_le, lc_eq, b01_0, b01_1, b01_01, b01_n, up2_o, up2_s, up2_u, ne_eq, reduceCtorEq, Nat.reduceAdd, Nat.reduceEqDiff, Nat.reduceLT, Nat.reduceLeDiff, Int.reduceLE, Int.reduceLT, Int.reduceAdd, Int.reduceNeg, Int.reduceMul, Int.reduceSub, Int.reduceEq, Int.reduceToNat, Int.reduceNatCast, Int.cast_ofNat_Int, ↓reduceIte, and_self, List.drop_succ_cons, List.drop_zero, List.take_succ_cons, List.take_zero, List.length_cons, List.length_nil, List.reverse_cons, List.reverse_nil, List.nil_append, List.cons_append, Option.toList, true_and, and_true, or_false, false_or, or_true, true_or, forall_const, Classical.not_not, not_false_eq_true, not_true_eq_false, false_implies, true_implies, implies_true, imp_self, e7, e9, Int.toNat_natCast, i1, i2]
  refine ⟨fun q => ?_, fun q => ?_⟩
  · refine hI_111 _ _ _ (by omega) ⟨0, rfl, h7.1, ⟨t1, t2, t3, t4, fun c hc => t5 c (by omega)⟩, fun c hc => ?_, hf, rfl⟩
    rw [hb c (by omega)]
    exact (vM_c M hc).2.symm
  · repeat (refine And.intro (by omega) ?_)
    refine hI_58 _ _ _ (by omega) ⟨n + 1, by omega, by omega, ⟨frm_up (frm_up (frm_up t1 (by decide)) (by decide)) (by decide), ?_, ?_, ?_, fun c hc => ?_⟩, fun c hc => ?_, ?_, rfl⟩
    · intro j h1 h2 h3
      rw [up2_o (by decide), up2_o (by decide), up2_o (by decide)]
      exact t2 j h1 h2 h3
    · rw [up2_o (by decide), up2_o (by decide), up2_o (by decide)]; exact t3
    · rw [up2_o (by decide), up2_o (by decide), up2_o (by decide)]; exact t4
    · by_cases e : c = n
      · simp [up2_r, e]
      · simp only [up2_r, e, and_false, if_false]
        exact t5 c (by omega)
    · by_cases e : c = n
      · simp [up2_r, e]
      · simp only [up2_r, e, and_false, if_false]
        exact hb c (by omega)
    · rw [up2_o (by decide), up2_o (by decide), up2_o (by decide)]; exact hf
set_option maxHeartbeats 4000000 in
set_option maxRecDepth 100000 in
theorem at7_lays_111 {M : Mm} {Q : Option AV → Mm → Prop} (hM : okM sh7 M) (hP : P7_lays M) (hQ : ∀ (M1 : Mm), R7_lays M M1 → Q none M1) {m : Nat} {k : Int} {M1 : Mm} (hM1 : okM sh7 M1) (h_k : i32 k) (hJ : J7_lays_111 M m k M1) (I_22 : List AV → Mm → Prop) (hI_22 : ∀ (m_ : Nat) (y_k : Int) (M2 : Mm), m_ < m → J7_lays_22 M m_ y_k M2 → I_22 [ar 0, ai y_k] M2) (I_58 : List AV → Mm → Prop) (hI_58 : ∀ (m_ : Nat) (y_c : Int) (M2 : Mm), m_ < m → J7_lays_58 M m_ y_c M2 → I_58 [ar 0, ai y_c] M2) (I_111 : List AV → Mm → Prop) (hI_111 : ∀ (m_ : Nat) (y_k : Int) (M2 : Mm), m_ < m → J7_lays_111 M m_ y_k M2 → I_111 [ar 0, ai y_k] M2) : wp (tb7 (csL cs7_lays)) sh7 3 0 cX7_lays [(22, [0, 1], I_22), (58, [0, 1], I_58), (111, [0, 1], I_111)] Q 400 111 [(0, ar 0), (1, ai k)] [] M1 := by
  obtain ⟨n, rfl, hn, ⟨t1, t2, t3, t4, t5⟩, hb, hf, rfl⟩ := hJ
  have h4 : 0 ≤ M 7 4 ∧ M 7 4 ≤ 7 := hP.2.2.2.2.1
  have h7 : 0 ≤ M 7 7 ∧ M 7 7 ≤ 30 := hP.2.2.2.2.2.2.2.1
  have e7 : M1 7 = M 7 := t1 _ (by decide)
  have e12 : M1 12 = M 12 := t1 _ (by decide)
  have i0 : ((3 : Int) * n).toNat = 3 * n := by omega
  have i1 : ((3 : Int) * n + 1).toNat = 3 * n + 1 := by omega
  have i2 : ((3 : Int) * n + 2).toNat = 3 * n + 2 := by omega
  simp only [e_wp dX7_lays_0 rfl, e_wp dX7_lays_1 rfl, e_wp dX7_lays_2 rfl, e_wp dX7_lays_5 rfl, e_wp dX7_lays_6 rfl, e_wp dX7_lays_7 rfl, e_wp dX7_lays_10 rfl, e_wp dX7_lays_11 rfl, e_wp dX7_lays_12 rfl, e_wp dX7_lays_15 rfl, e_wp dX7_lays_16 rfl, e_wp dX7_lays_17 rfl, e_wp dX7_lays_20 rfl, e_wp dX7_lays_21 rfl, e_wp dX7_lays_22 rfl, e_wp dX7_lays_23 rfl, e_wp dX7_lays_24 rfl, e_wp dX7_lays_27 rfl, e_wp dX7_lays_29 rfl, e_wp dX7_lays_30 rfl, e_wp dX7_lays_33 rfl, e_wp dX7_lays_34 rfl, e_wp dX7_lays_35 rfl, e_wp dX7_lays_38 rfl, e_wp dX7_lays_39 rfl, e_wp dX7_lays_40 rfl, e_wp dX7_lays_43 rfl, e_wp dX7_lays_44 rfl, e_wp dX7_lays_45 rfl, e_wp dX7_lays_46 rfl, e_wp dX7_lays_47 rfl, e_wp dX7_lays_50 rfl, e_wp dX7_lays_53 rfl, e_wp dX7_lays_56 rfl, e_wp dX7_lays_57 rfl, e_wp dX7_lays_58 rfl, e_wp dX7_lays_59 rfl, e_wp dX7_lays_60 rfl, e_wp dX7_lays_63 rfl, e_wp dX7_lays_66 rfl, e_wp dX7_lays_67 rfl, e_wp dX7_lays_70 rfl, e_wp dX7_lays_71 rfl, e_wp dX7_lays_72 rfl, e_wp dX7_lays_75 rfl, e_wp dX7_lays_76 rfl, e_wp dX7_lays_77 rfl, e_wp dX7_lays_78 rfl, e_wp dX7_lays_79 rfl, e_wp dX7_lays_80 rfl, e_wp dX7_lays_81 rfl, e_wp dX7_lays_84 rfl, e_wp dX7_lays_85 rfl, e_wp dX7_lays_86 rfl, e_wp dX7_lays_89 rfl, e_wp dX7_lays_90 rfl, e_wp dX7_lays_91 rfl, e_wp dX7_lays_92 rfl, e_wp dX7_lays_93 rfl, e_wp dX7_lays_94 rfl, e_wp dX7_lays_95 rfl, e_wp dX7_lays_96 rfl, e_wp dX7_lays_97 rfl, e_wp dX7_lays_100 rfl, e_wp dX7_lays_101 rfl, e_wp dX7_lays_102 rfl, e_wp dX7_lays_103 rfl, e_wp dX7_lays_106 rfl, e_wp dX7_lays_109 rfl, e_wp dX7_lays_110 rfl, e_wp dX7_lays_111 rfl, e_wp dX7_lays_112 rfl, e_wp dX7_lays_113 rfl, e_wp dX7_lays_116 rfl, e_wp dX7_lays_118 rfl, e_wp dX7_lays_119 rfl, e_wp dX7_lays_122 rfl, e_wp dX7_lays_123 rfl, e_wp dX7_lays_126 rfl, e_wp dX7_lays_127 rfl, e_wp dX7_lays_128 rfl, e_wp dX7_lays_129 rfl, e_wp dX7_lays_130 rfl, e_wp dX7_lays_131 rfl, e_wp dX7_lays_132 rfl, e_wp dX7_lays_133 rfl, e_wp dX7_lays_134 rfl, e_wp dX7_lays_137 rfl, e_wp dX7_lays_138 rfl, e_wp dX7_lays_139 rfl, e_wp dX7_lays_140 rfl, e_wp dX7_lays_141 rfl, e_wp dX7_lays_144 rfl, e_wp dX7_lays_145 rfl, e_wp dX7_lays_148 rfl, e_wp dX7_lays_149 rfl, e_wp dX7_lays_150 rfl, e_wp dX7_lays_153 rfl, e_wp dX7_lays_154 rfl, e_wp dX7_lays_155 rfl, e_wp dX7_lays_156 rfl, e_wp dX7_lays_157 rfl, e_wp dX7_lays_158 rfl, e_wp dX7_lays_159 rfl, e_wp dX7_lays_160 rfl, e_wp dX7_lays_163 rfl, e_wp dX7_lays_164 rfl, e_wp dX7_lays_165 rfl, e_wp dX7_lays_168 rfl, e_wp dX7_lays_169 rfl, e_wp dX7_lays_170 rfl, e_wp dX7_lays_171 rfl, e_wp dX7_lays_172 rfl, e_wp dX7_lays_173 rfl, e_wp dX7_lays_176 rfl, e_wp dX7_lays_177 rfl, e_wp dX7_lays_180 rfl, e_wp dX7_lays_181 rfl, e_wp dX7_lays_182 rfl, e_wp dX7_lays_183 rfl, e_wp dX7_lays_184 rfl, e_wp dX7_lays_187 rfl, e_wp dX7_lays_188 rfl, e_wp dX7_lays_191 rfl, e_wp dX7_lays_192 rfl, e_wp dX7_lays_193 rfl, e_wp dX7_lays_194 rfl, e_wp dX7_lays_195 rfl, e_wp dX7_lays_196 rfl, e_wp dX7_lays_197 rfl, e_wp dX7_lays_200 rfl, e_wp dX7_lays_203 rfl, e_wp dX7_lays_206 rfl, g7_34, p7_295, p7_298, p7_301, g7_298, g7_46, c7_carts, P7_carts, V7_carts, cs7_lays, g7_56, g7_40, g7_59, g7_62, g7_49, a7_1, w7_1, a7_2, w7_2, a7_3, w7_3, a7_4, w7_4, a7_5, w7_5, a7_6, w7_6, a7_7, w7_7, a7_8, w7_8, a7_9, w7_9, a7_10, w7_10, a7_11, w7_11, a7_12, w7_12, a7_13, w7_13, a7_14, w7_14, a7_15, w7_15, a7_16, w7_16, a7_17, w7_17, a7_18, w7_18, a7_19, w7_19, a7_20, w7_20, a7_21, w7_21, a7_22, w7_22, a7_23, w7_23, a7_24, w7_24, a7_25, w7_25, a7_26, w7_26, a7_27, w7_27, a7_28, w7_28, a7_29, w7_29, a7_30, w7_30, a7_31, w7_31, a7_32, w7_32, a7_33, w7_33, e_iconst, e_bipush, e_sipush, e_lconst_0, e_lconst_1, e_iload, e_iload_0, e_iload_1, e_iload_2, e_iload_3, e_lload, e_lload_0, e_lload_1, e_lload_2, e_lload_3, e_aload, e_aload_0, e_aload_1, e_aload_2, e_aload_3, e_istore, e_istore_0, e_istore_1, e_istore_2, e_istore_3, e_astore, e_astore_0, e_astore_1, e_astore_2, e_astore_3, e_lstore, e_lstore_0, e_lstore_1, e_lstore_2, e_lstore_3, e_iinc, e_iadd, e_isub, e_imul, e_ladd, e_lsub, e_lmul, e_idiv, e_irem, e_ldiv, e_lrem, e_ineg, e_lneg, e_iand, e_ior, e_ixor, e_ishl, e_ishr, e_iushr, e_lcmp, e_i2l, e_l2i, e_i2b, e_i2s, e_dup_i, e_dup_r, e_pop_i, e_pop_r, e_dup2_l, e_dup2_ir, e_dup2_ii, e_ifeq, e_ifne, e_iflt, e_ifge, e_ifgt, e_ifle, e_iceq, e_icne, e_iclt, e_icge, e_icgt, e_icle, e_goto, e_switch, e_invokevirtual, e_invokestatic, e_invokespecial, e_ret0, e_ret1, e_ret2, e_ret3, ldI_s, ldL_s, ldR_s, clO_s, ctP_s, ctS_s, mgo_0, mgo_s, pjc_s, pj_0, pj_s, lk_s, rm1_0, rm1_i, rm1_r, rm1_l, rm2_0, rm2_i, rm2_r, rm2_l, csL_s, lc_lt, lc_ge, lc_gt, lc_le, lc_eq, b01_0, b01_1, b01_01, b01_n, up2_o, up2_s, up2_u, ne_eq, reduceCtorEq, Nat.reduceAdd, Nat.reduceEqDiff, Nat.reduceLT, Nat.reduceLeDiff, Int.reduceLE, Int.reduceLT, Int.reduceAdd, Int.reduceNeg, Int.reduceMul, Int.reduceSub, Int.reduceEq, Int.reduceToNat, Int.reduceNatCast, Int.cast_ofNat_Int, ↓reduceIte, and_self, List.drop_succ_cons, List.drop_zero, List.take_succ_cons, List.take_zero, List.length_cons, List.length_nil, List.reverse_cons, List.reverse_nil, List.nil_append, List.cons_append, Option.toList, true_and, and_true, or_false, false_or, or_true, true_or, forall_const, Classical.not_not, not_false_eq_true, not_true_eq_false, false_implies, true_implies, implies_true, imp_self, e7, e12, Int.toNat_natCast, i0, i1, i2]
  refine ⟨fun q => hQ _ ⟨t1, t2, ?_⟩, fun q => ?_⟩
  · have en : (M 7 7).toNat = n := by omega
    funext i j
    show (if i = 0 then cM M1 0 j else if (j : Int) < M 7 4 then cM M1 i j else 0) = tellP (vM M) i j
    match i with
    | 0 =>
      rw [if_pos rfl]
      show (if j = 0 then M1 0 24 else if j = 1 then M1 0 25 else M1 0 26) = (if j = 0 then M 7 0 else if j = 1 then coldF (vM M) (M 7 7).toNat else 0)
      rw [t3, t4, hf, en]
    | 1 =>
      rw [if_neg (by decide)]
      show (if (j : Int) < M 7 4 then M1 14 j else 0) = (if (j : Int) < M 7 4 then vM M 3 j else 0)
      by_cases z : (j : Int) < M 7 4
      · rw [if_pos z, if_pos z, (t5 j (by omega)).1, (vM_c M z).1]
      · rw [if_neg z, if_neg z]
    | 2 =>
      rw [if_neg (by decide)]
      show (if (j : Int) < M 7 4 then M1 15 j else 0) = (if (j : Int) < M 7 4 then byF (vM M) (M 7 7).toNat j else 0)
      by_cases z : (j : Int) < M 7 4
      · rw [if_pos z, if_pos z, hb j z, en]
      · rw [if_neg z, if_neg z]
    | 3 =>
      rw [if_neg (by decide)]
      show (if (j : Int) < M 7 4 then M1 16 j else 0) = (if (j : Int) < M 7 4 then (j : Int) else 0)
      by_cases z : (j : Int) < M 7 4
      · rw [if_pos z, if_pos z, (t5 j (by omega)).2]
      · rw [if_neg z, if_neg z]
    | i + 4 =>
      rw [if_neg (by omega)]
      show (if (j : Int) < M 7 4 then (0 : Int) else 0) = 0
      split <;> rfl
  · obtain ⟨a1, a2, a3⟩ := vM_a M q
    obtain ⟨b1, b2, b3⟩ := okY_a hP n q
    rw [a1] at b1 b3
    rw [a2] at b2
    rw [a3] at b3
    have b2' : 0 ≤ M 12 (3 * n + 1) ∧ M 12 (3 * n + 1) < M 7 4 := b2
    have go : ∀ M2, frm [0] M1 M2 → row0 M M2 → M2 0 24 = M 7 0 → M2 0 26 = 0 → M2 0 25 = coldF (vM M) (n + 1) → ¬ M 12 (3 * n) = 0 → I_111 [ar 0, ai (n + 1)] M2 := by
      intro M2 f1 f2 f3 f4 f5 f6
      refine hI_111 _ _ _ (by omega) ⟨n + 1, by omega, by omega, ⟨frm_tr t1 f1 (by decide), f2, f3, f4, fun c hc => ?_⟩, fun c hc => ?_, f5, rfl⟩
      · rw [f1 _ (by decide), f1 _ (by decide)]; exact t5 c hc
      · rw [f1 _ (by decide), hb c hc]
        show _ = (if vM M 9 n = 0 ∧ vM M 10 n = c then vM M 11 n else byF (vM M) n c)
        rw [if_neg (fun w => f6 (a1 ▸ w.1))]
    have r0 : ∀ x, row0 M (up2 M1 0 25 x) := by
      intro x j h1 h2 h3
      rw [up2_n (by omega)]
      exact t2 j h1 h2 h3
    have ec : coldF (vM M) (n + 1) = if M 12 (3 * n) = 0 then coldF (vM M) n else if M 12 (3 * n) = 1 then bor (coldF (vM M) n) (bshl 1 (M 12 (3 * n + 1))) else band (coldF (vM M) n) (bxor (bshl 1 (M 12 (3 * n + 1))) (-1)) := by
      rw [← a1, ← a2]
      rfl
    repeat (refine And.intro (by omega) ?_)
    refine ⟨fun z => ?_, fun z => ?_⟩
    · refine ⟨by omega, by omega, fun w => ⟨by omega, ?_⟩, fun w => ⟨by omega, ?_⟩⟩
      · refine go _ (frm_up frm_rf (by decide)) (r0 _) (by rw [up2_n (by decide)]; exact t3) (by rw [up2_n (by decide)]; exact t4) ?_ z
        rw [up2_s, ec, if_neg z, if_neg w, hf]
      · refine go _ (frm_up frm_rf (by decide)) (r0 _) (by rw [up2_n (by decide)]; exact t3) (by rw [up2_n (by decide)]; exact t4) ?_ z
        rw [up2_s, ec, if_neg z, if_pos w, hf]
    · repeat (refine And.intro (by omega) ?_)
      refine hI_111 _ _ _ (by omega) ⟨n + 1, by omega, by omega, ⟨frm_up t1 (by decide), ?_, ?_, ?_, fun c hc => ?_⟩, fun c hc => ?_, ?_, rfl⟩
      · intro j h1 h2 h3
        rw [up2_o (by decide)]
        exact t2 j h1 h2 h3
      · rw [up2_o (by decide)]; exact t3
      · rw [up2_o (by decide)]; exact t4
      · rw [up2_o (by decide), up2_o (by decide)]; exact t5 c hc
      · show _ = (if vM M 9 n = 0 ∧ vM M 10 n = c then vM M 11 n else byF (vM M) n c)
        rw [a1, a2, a3]
        by_cases e : c = (M 12 (3 * n + 1)).toNat
        · rw [e, up2_s, if_pos ⟨z, by omega⟩]
        · rw [up2_n e, if_neg (by omega)]
          exact hb c hc
      · rw [up2_o (by decide), hf, ec, if_pos z]
set_option maxHeartbeats 4000000 in
set_option maxRecDepth 100000 in
theorem m7_lays : MOK cl7 sh7 tyl7 [] 1 yX7_lays cX7_lays 3 none sp7_lays := by
  refine mok_of (own := RX7) (tb := tb7 (csL cs7_lays)) (rt := 0) (fuel := 400) (fun avs M Q => [(22, [0, 1], fun m_ vs M1 => ∃ y_k : Int, vs = [ar 0, ai y_k] ∧ J7_lays_22 M m_ y_k M1), (58, [0, 1], fun m_ vs M1 => ∃ y_c : Int, vs = [ar 0, ai y_c] ∧ J7_lays_58 M m_ y_c M1), (111, [0, 1], fun m_ vs M1 => ∃ y_k : Int, vs = [ar 0, ai y_k] ∧ J7_lays_111 M m_ y_k M1)]) (by decide) rfl nil_nw (tbOK7 _) rfl (csL_all ?_) ?_ ?_ ?_
  · intro q hq
    simp only [cs7_lays, List.mem_cons, List.not_mem_nil, or_false] at hq
    rcases hq with rfl
    · exact cg7_carts (by decide)
  · intro avs M Q hsp
    obtain ⟨xs, hx⟩ := spV_un _ _ _ hsp
    obtain ⟨e, hl⟩ := unA_mkT hx
    obtain rfl := len0 hl
    have e : avs = [ar 0] := e
    subst e
    simp [szL, isL]
  · intro avs M Q hM hav hsp
    obtain ⟨xs, hx⟩ := spV_un _ _ _ hsp
    obtain ⟨e, hl⟩ := unA_mkT hx
    obtain rfl := len0 hl
    have e : avs = [ar 0] := e
    subst e
    exact in7_lays hM hsp.1 hsp.2 _ (fun m_ y_k M2 hJ => ⟨m_, y_k, rfl, hJ⟩) _ (fun m_ y_c M2 hJ => ⟨m_, y_c, rfl, hJ⟩) _ (fun m_ y_k M2 hJ => ⟨m_, y_k, rfl, hJ⟩)
  · intro avs M Q hM hav hsp q hq m_ vs M1 hM1 hv hJ
    obtain ⟨xs, hx⟩ := spV_un _ _ _ hsp
    obtain ⟨e, hl⟩ := unA_mkT hx
    obtain rfl := len0 hl
    have e : avs = [ar 0] := e
    subst e
    simp only [List.mem_cons, List.not_mem_nil, or_false] at hq
    rcases hq with rfl | rfl | rfl
    · obtain ⟨y_k, rfl, hJ⟩ := hJ
      exact at7_lays_22 hM hsp.1 hsp.2 hM1 (hv (1, ai y_k) (List.mem_of_getElem? (i := 1) rfl)) hJ _ (fun m2 z_k M2 hm hJ2 => ⟨m2, hm, z_k, rfl, hJ2⟩) _ (fun m2 z_c M2 hm hJ2 => ⟨m2, hm, z_c, rfl, hJ2⟩) _ (fun m2 z_k M2 hm hJ2 => ⟨m2, hm, z_k, rfl, hJ2⟩)
    · obtain ⟨y_c, rfl, hJ⟩ := hJ
      exact at7_lays_58 hM hsp.1 hsp.2 hM1 (hv (1, ai y_c) (List.mem_of_getElem? (i := 1) rfl)) hJ _ (fun m2 z_k M2 hm hJ2 => ⟨m2, hm, z_k, rfl, hJ2⟩) _ (fun m2 z_c M2 hm hJ2 => ⟨m2, hm, z_c, rfl, hJ2⟩) _ (fun m2 z_k M2 hm hJ2 => ⟨m2, hm, z_k, rfl, hJ2⟩)
    · obtain ⟨y_k, rfl, hJ⟩ := hJ
      exact at7_lays_111 hM hsp.1 hsp.2 hM1 (hv (1, ai y_k) (List.mem_of_getElem? (i := 1) rfl)) hJ _ (fun m2 z_k M2 hm hJ2 => ⟨m2, hm, z_k, rfl, hJ2⟩) _ (fun m2 z_c M2 hm hJ2 => ⟨m2, hm, z_c, rfl, hJ2⟩) _ (fun m2 z_k M2 hm hJ2 => ⟨m2, hm, z_k, rfl, hJ2⟩)
theorem cg7_lays {lvl : Nat} (h : 1 < lvl) : CG RX7 cl7 sh7 tyl7 [] lvl 1 330 1 sp7_lays := cg_V (sg := []) nil_nw spV_mono spV_un m7_lays h rfl (by decide) rfl rfl ⟨rfl, by decide, by decide, rfl⟩ q1851 q1853 qs88 q138 q1854
/-- what stays whatever is asked -/
def keepM (M M1 : Mm) : Prop := (∀ k, k ∈ [1, 2, 3, 5, 6, 7, 8, 9, 10, 11, 12, 13] → M1 k = M k) ∧ ∀ j, j ∈ [6, 14, 15] → M1 0 j = M 0 j
theorem keep_rf {M : Mm} : keepM M M := ⟨fun _ _ => rfl, fun _ _ => rfl⟩
theorem keep_tr {M M1 M2 : Mm} (h : keepM M M1) (h2 : keepM M1 M2) : keepM M M2 := ⟨fun k hk => (h2.1 k hk).trans (h.1 k hk), fun j hj => (h2.2 j hj).trans (h.2 j hj)⟩
theorem keep_v {M M1 : Mm} (h : keepM M M1) (s : Nat) : vS s M1 = vS s M := vS_eq fun k hk => h.1 k (by revert hk; simp only [List.mem_cons, List.not_mem_nil, or_false]; omega)
theorem keep_has {M M1 : Mm} (h : keepM M M1) : M1 7 = M 7 := h.1 _ (by decide)
theorem keep_u {M M1 : Mm} {k j : Nat} {x : Int} (h : keepM M M1) (hk : k ∉ [0, 1, 2, 3, 5, 6, 7, 8, 9, 10, 11, 12, 13]) : keepM M (up2 M1 k j x) := by
  refine ⟨fun k' h' => ?_, fun j' h' => ?_⟩
  · rw [up2_ne (fun e => hk (by rw [← e]; exact List.mem_cons_of_mem _ h'))]
    exact h.1 k' h'
  · rw [up2_o (fun e => hk (by rw [← e]; decide))]
    exact h.2 j' h'
theorem keep_u0 {M M1 : Mm} {j : Nat} {x : Int} (h : keepM M M1) (hk : j ∉ [6, 14, 15]) : keepM M (up2 M1 0 j x) := by
  refine ⟨fun k' h' => ?_, fun j' h' => ?_⟩
  · rw [up2_ne (fun e => by rw [e] at h'; revert h'; decide)]
    exact h.1 k' h'
  · rw [up2_n (fun e => hk (by rw [← e]; exact h'))]
    exact h.2 j' h'
theorem keep_fr {rows : List Nat} {M M1 : Mm} (h : frm rows M M1) (hd : ∀ k ∈ [0, 1, 2, 3, 5, 6, 7, 8, 9, 10, 11, 12, 13], k ∉ rows) : keepM M M1 := ⟨fun k hk => h k (hd k (List.mem_cons_of_mem _ hk)), fun j _ => by rw [h 0 (hd 0 List.mem_cons_self)]⟩
theorem keep_tell {M M1 : Mm} (h : frm tellRows M M1) (h0 : row0 M M1) : keepM M M1 := ⟨fun k hk => h k (by revert hk; simp only [tellRows, List.mem_cons, List.not_mem_nil, or_false]; omega), fun j hj => by
  simp only [List.mem_cons, List.not_mem_nil, or_false] at hj
  exact h0 j (by omega) (by omega) (by omega)⟩
/-- laid as it is told, and run -/
def laidR (V : Vy) (C : Cf) (M1 : Mm) : Prop := nC V (cM M1) = C ∧ ranR V C M1
def P7_laysNow (M : Mm) : Prop := okY (vM M)
def R7_laysNow (M : Mm) (M1 : Mm) : Prop := keepM M M1 ∧ laidR (vM M) (tellP (vM M)) M1
def sp7_laysNow : Spec := spV true [] (fun x M => P7_laysNow M) (fun x M M1 => R7_laysNow M M1)
theorem c7_laysNow {M : Mm} {Q : Option AV → Mm → Prop} : sp7_laysNow [ar 0] M Q = (P7_laysNow M ∧ ∀ (M1 : Mm), R7_laysNow M M1 → Q none M1) := rfl
def cs7_laysNow : List (Nat × Nat × Nat × Spec) := [(330, 1, 1, sp7_lays), (333, 1, 1, sp7_runs)]
set_option maxHeartbeats 4000000 in
set_option maxRecDepth 100000 in
theorem in7_laysNow {M : Mm} {Q : Option AV → Mm → Prop} (hM : okM sh7 M) (hP : P7_laysNow M) (hQ : ∀ (M1 : Mm), R7_laysNow M M1 → Q none M1) : wp (tb7 (csL cs7_laysNow)) sh7 1 0 cX7_laysNow [] Q 400 0 [(0, ar 0)] [] M := by
  simp only [e_wp dX7_laysNow_0 rfl, e_wp dX7_laysNow_1 rfl, e_wp dX7_laysNow_4 rfl, e_wp dX7_laysNow_5 rfl, e_wp dX7_laysNow_8 rfl, c7_lays, cs7_laysNow, c7_runs, e_iconst, e_bipush, e_sipush, e_lconst_0, e_lconst_1, e_iload, e_iload_0, e_iload_1, e_iload_2, e_iload_3, e_lload, e_lload_0, e_lload_1, e_lload_2, e_lload_3, e_aload, e_aload_0, e_aload_1, e_aload_2, e_aload_3, e_istore, e_istore_0, e_istore_1, e_istore_2, e_istore_3, e_astore, e_astore_0, e_astore_1, e_astore_2, e_astore_3, e_lstore, e_lstore_0, e_lstore_1, e_lstore_2, e_lstore_3, e_iinc, e_iadd, e_isub, e_imul, e_ladd, e_lsub, e_lmul, e_idiv, e_irem, e_ldiv, e_lrem, e_ineg, e_lneg, e_iand, e_ior, e_ixor, e_ishl, e_ishr, e_iushr, e_lcmp, e_i2l, e_l2i, e_i2b, e_i2s, e_dup_i, e_dup_r, e_pop_i, e_pop_r, e_dup2_l, e_dup2_ir, e_dup2_ii, e_ifeq, e_ifne, e_iflt, e_ifge, e_ifgt, e_ifle, e_iceq, e_icne, e_iclt, e_icge, e_icgt, e_icle, e_goto, e_switch, e_invokevirtual, e_invokestatic, e_invokespecial, e_ret0, e_ret1, e_ret2, e_ret3, ldI_s, ldL_s, ldR_s, clO_s, ctP_s, ctS_s, mgo_0, mgo_s, pjc_s, pj_0, pj_s, lk_s, rm1_0, rm1_i, rm1_r, rm1_l, rm2_0, rm2_i, rm2_r, rm2_l, csL_s, lc_lt, lc_ge, lc_gt, lc_le, lc_eq, b01_0, b01_1, b01_01, b01_n, up2_o, up2_s, up2_u, ne_eq, reduceCtorEq, Nat.reduceAdd, Nat.reduceEqDiff, Nat.reduceLT, Nat.reduceLeDiff, Int.reduceLE, Int.reduceLT, Int.reduceAdd, Int.reduceNeg, Int.reduceMul, Int.reduceSub, Int.reduceEq, Int.reduceToNat, Int.reduceNatCast, Int.cast_ofNat_Int, ↓reduceIte, and_self, List.drop_succ_cons, List.drop_zero, List.take_succ_cons, List.take_zero, List.length_cons, List.length_nil, List.reverse_cons, List.reverse_nil, List.nil_append, List.cons_append, Option.toList, true_and, and_true, or_false, false_or, or_true, true_or, forall_const, Classical.not_not, not_false_eq_true, not_true_eq_false, false_implies, true_implies, implies_true, imp_self]
  refine ⟨hP, fun M1 hR => ?_⟩
  obtain ⟨r1, r2, r3⟩ := hR
  have hk := keep_tell r1 r2
  have eV : vM M1 = vM M := keep_v hk 0
  refine ⟨⟨by rw [eV]; exact hP, by rw [eV]; exact okCf_un (by rw [r3]; exact okCf_tell hP)⟩, fun M2 hR2 => hQ _ ⟨keep_tr hk (keep_fr hR2.1 (by decide)), ?_⟩⟩
  obtain ⟨q1, q2⟩ := hR2
  rw [eV, r3] at q2
  refine ⟨?_, q2⟩
  rw [cM_frm q1 (by decide), r3]
set_option maxHeartbeats 4000000 in
set_option maxRecDepth 100000 in
theorem m7_laysNow : MOK cl7 sh7 tyl7 [] 4 yX7_laysNow cX7_laysNow 1 none sp7_laysNow := by
  refine mok_of (own := RX7) (tb := tb7 (csL cs7_laysNow)) (rt := 0) (fuel := 400) (fun avs M Q => []) (by decide) rfl nil_nw (tbOK7 _) rfl (csL_all ?_) ?_ ?_ ?_
  · intro q hq
    simp only [cs7_laysNow, List.mem_cons, List.not_mem_nil, or_false] at hq
    rcases hq with rfl | rfl
    · exact cg7_lays (by decide)
    · exact cg7_runs (by decide)
  · intro avs M Q hsp
    obtain ⟨xs, hx⟩ := spV_un _ _ _ hsp
    obtain ⟨e, hl⟩ := unA_mkT hx
    obtain rfl := len0 hl
    have e : avs = [ar 0] := e
    subst e
    simp [szL, isL]
  · intro avs M Q hM hav hsp
    obtain ⟨xs, hx⟩ := spV_un _ _ _ hsp
    obtain ⟨e, hl⟩ := unA_mkT hx
    obtain rfl := len0 hl
    have e : avs = [ar 0] := e
    subst e
    exact in7_laysNow hM hsp.1 hsp.2
  · intro avs M Q hM hav hsp q hq m_ vs M1 hM1 hv hJ
    obtain ⟨xs, hx⟩ := spV_un _ _ _ hsp
    obtain ⟨e, hl⟩ := unA_mkT hx
    obtain rfl := len0 hl
    have e : avs = [ar 0] := e
    subst e
    cases hq
theorem cg7_laysNow {lvl : Nat} (h : 4 < lvl) : CG RX7 cl7 sh7 tyl7 [] lvl 1 336 1 sp7_laysNow := cg_V (sg := []) nil_nw spV_mono spV_un m7_laysNow h rfl (by decide) rfl rfl ⟨rfl, by decide, by decide, rfl⟩ q1862 q1864 qs89 q138 q1865
def sumN (f : Nat → Int) : Nat → Int
  | 0 => 0
  | n + 1 => sumN f n + f n
theorem sumN_congr {f g : Nat → Int} : ∀ {n : Nat}, (∀ k, k < n → f k = g k) → sumN f n = sumN g n := by
  intro n
  induction n with
  | zero => intro _; rfl
  | succ n ih =>
    intro h
    show sumN f n + f n = sumN g n + g n
    rw [ih fun k hk => h k (by omega), h n (by omega)]
theorem sumN_b {f : Nat → Int} {B : Int} : ∀ {n : Nat}, (∀ k, k < n → 0 ≤ f k ∧ f k ≤ B) → 0 ≤ sumN f n ∧ sumN f n ≤ n * B := by
  intro n
  induction n with
  | zero => intro _; exact ⟨Int.le_refl _, by show (0 : Int) ≤ _; simp⟩
  | succ n ih =>
    intro h
    have h1 := ih fun k hk => h k (by omega)
    have h2 := h n (by omega)
    show 0 ≤ sumN f n + f n ∧ sumN f n + f n ≤ ((n + 1 : Nat) : Int) * B
    have e : ((n + 1 : Nat) : Int) * B = n * B + B := by
      rw [Int.natCast_add, Int.add_mul]
      simp
    omega
def P7_sagAll (M : Mm) : Prop := (0 ≤ M 7 3 ∧ M 7 3 ≤ 3) ∧ ∀ b : Nat, (b : Int) < M 7 3 → okB M b
def V7_sagAll (M : Mm) : Int := sumN (fun b => sagP (mb M b)) (M 7 3).toNat
def sp7_sagAll : Spec := spF true [] 1 (fun x M => P7_sagAll M) (fun x M => V7_sagAll M)
theorem c7_sagAll {M : Mm} {Q : Option AV → Mm → Prop} : sp7_sagAll [ar 0] M Q = (P7_sagAll M ∧ Q (some (ai (V7_sagAll M))) M) := rfl
def cs7_sagAll : List (Nat × Nat × Nat × Spec) := [(283, 1, 1, sp7_bridges), (317, 1, 2, sp7_sagOf)]
def J7_sagAll_4 (M : Mm) (m : Nat) (n : Int) (b : Int) (M1 : Mm) : Prop := ∃ a : Nat, b = a ∧ (a : Int) ≤ M 7 3 ∧ M = M1 ∧ n = sumN (fun b => sagP (mb M b)) a ∧ m = 3 - a
set_option maxHeartbeats 4000000 in
set_option maxRecDepth 100000 in
theorem in7_sagAll {M : Mm} {Q : Option AV → Mm → Prop} (hM : okM sh7 M) (hP : P7_sagAll M) (hQ : Q (some (ai (V7_sagAll M))) M) (I_4 : List AV → Mm → Prop) (hI_4 : ∀ (m_ : Nat) (y_n : Int) (y_b : Int) (M2 : Mm), J7_sagAll_4 M m_ y_n y_b M2 → I_4 [ar 0, ai y_n, ai y_b] M2) : wp (tb7 (csL cs7_sagAll)) sh7 3 1 cX7_sagAll [(4, [0, 1, 2], I_4)] Q 400 0 [(0, ar 0)] [] M := by
  simp only [e_wp dX7_sagAll_0 rfl, e_wp dX7_sagAll_1 rfl, e_wp dX7_sagAll_2 rfl, e_wp dX7_sagAll_3 rfl, e_wp dX7_sagAll_4 rfl, e_wp dX7_sagAll_5 rfl, e_wp dX7_sagAll_6 rfl, e_wp dX7_sagAll_9 rfl, e_wp dX7_sagAll_12 rfl, e_wp dX7_sagAll_13 rfl, e_wp dX7_sagAll_14 rfl, e_wp dX7_sagAll_15 rfl, e_wp dX7_sagAll_18 rfl, e_wp dX7_sagAll_19 rfl, e_wp dX7_sagAll_20 rfl, e_wp dX7_sagAll_23 rfl, e_wp dX7_sagAll_26 rfl, e_wp dX7_sagAll_27 rfl, c7_bridges, P7_bridges, V7_bridges, cs7_sagAll, c7_sagOf, P7_sagOf, V7_sagOf, e_iconst, e_bipush, e_sipush, e_lconst_0, e_lconst_1, e_iload, e_iload_0, e_iload_1, e_iload_2, e_iload_3, e_lload, e_lload_0, e_lload_1, e_lload_2, e_lload_3, e_aload, e_aload_0, e_aload_1, e_aload_2, e_aload_3, e_istore, e_istore_0, e_istore_1, e_istore_2, e_istore_3, e_astore, e_astore_0, e_astore_1, e_astore_2, e_astore_3, e_lstore, e_lstore_0, e_lstore_1, e_lstore_2, e_lstore_3, e_iinc, e_iadd, e_isub, e_imul, e_ladd, e_lsub, e_lmul, e_idiv, e_irem, e_ldiv, e_lrem, e_ineg, e_lneg, e_iand, e_ior, e_ixor, e_ishl, e_ishr, e_iushr, e_lcmp, e_i2l, e_l2i, e_i2b, e_i2s, e_dup_i, e_dup_r, e_pop_i, e_pop_r, e_dup2_l, e_dup2_ir, e_dup2_ii, e_ifeq, e_ifne, e_iflt, e_ifge, e_ifgt, e_ifle, e_iceq, e_icne, e_iclt, e_icge, e_icgt, e_icle, e_goto, e_switch, e_invokevirtual, e_invokestatic, e_invokespecial, e_ret0, e_ret1, e_ret2, e_ret3, ldI_s, ldL_s, ldR_s, clO_s, ctP_s, ctS_s, mgo_0, mgo_s, pjc_s, pj_0, pj_s, lk_s, rm1_0, rm1_i, rm1_r, rm1_l, rm2_0, rm2_i, rm2_r, rm2_l, csL_s, lc_lt, lc_ge, lc_gt, lc_le, lc_eq, b01_0, b01_1, b01_01, b01_n, up2_o, up2_s, up2_u, ne_eq, reduceCtorEq, Nat.reduceAdd, Nat.reduceEqDiff, Nat.reduceLT, Nat.reduceLeDiff, Int.reduceLE, Int.reduceLT, Int.reduceAdd, Int.reduceNeg, Int.reduceMul, Int.reduceSub, Int.reduceEq, Int.reduceToNat, Int.reduceNatCast, Int.cast_ofNat_Int, ↓reduceIte, and_self, List.drop_succ_cons, List.drop_zero, List.take_succ_cons, List.take_zero, List.length_cons, List.length_nil, List.reverse_cons, List.reverse_nil, List.nil_append, List.cons_append, Option.toList, true_and, and_true, or_false, false_or, or_true, true_or, forall_const, Classical.not_not, not_false_eq_true, not_true_eq_false, false_implies, true_implies, implies_true, imp_self]
  exact hI_4 _ _ _ _ ⟨0, rfl, hP.1.1, rfl, rfl, rfl⟩
set_option maxHeartbeats 4000000 in
set_option maxRecDepth 100000 in
theorem at7_sagAll_4 {M : Mm} {Q : Option AV → Mm → Prop} (hM : okM sh7 M) (hP : P7_sagAll M) (hQ : Q (some (ai (V7_sagAll M))) M) {m : Nat} {n b : Int} {M1 : Mm} (hM1 : okM sh7 M1) (h_n : i32 n) (h_b : i32 b) (hJ : J7_sagAll_4 M m n b M1) (I_4 : List AV → Mm → Prop) (hI_4 : ∀ (m_ : Nat) (y_n : Int) (y_b : Int) (M2 : Mm), m_ < m → J7_sagAll_4 M m_ y_n y_b M2 → I_4 [ar 0, ai y_n, ai y_b] M2) : wp (tb7 (csL cs7_sagAll)) sh7 3 1 cX7_sagAll [(4, [0, 1, 2], I_4)] Q 400 4 [(0, ar 0), (1, ai n), (2, ai b)] [] M1 := by
  obtain ⟨a, rfl, ha, rfl, rfl, rfl⟩ := hJ
  obtain ⟨h1, h2⟩ := id hP
  simp only [e_wp dX7_sagAll_0 rfl, e_wp dX7_sagAll_1 rfl, e_wp dX7_sagAll_2 rfl, e_wp dX7_sagAll_3 rfl, e_wp dX7_sagAll_4 rfl, e_wp dX7_sagAll_5 rfl, e_wp dX7_sagAll_6 rfl, e_wp dX7_sagAll_9 rfl, e_wp dX7_sagAll_12 rfl, e_wp dX7_sagAll_13 rfl, e_wp dX7_sagAll_14 rfl, e_wp dX7_sagAll_15 rfl, e_wp dX7_sagAll_18 rfl, e_wp dX7_sagAll_19 rfl, e_wp dX7_sagAll_20 rfl, e_wp dX7_sagAll_23 rfl, e_wp dX7_sagAll_26 rfl, e_wp dX7_sagAll_27 rfl, c7_bridges, P7_bridges, V7_bridges, cs7_sagAll, c7_sagOf, P7_sagOf, V7_sagOf, e_iconst, e_bipush, e_sipush, e_lconst_0, e_lconst_1, e_iload, e_iload_0, e_iload_1, e_iload_2, e_iload_3, e_lload, e_lload_0, e_lload_1, e_lload_2, e_lload_3, e_aload, e_aload_0, e_aload_1, e_aload_2, e_aload_3, e_istore, e_istore_0, e_istore_1, e_istore_2, e_istore_3, e_astore, e_astore_0, e_astore_1, e_astore_2, e_astore_3, e_lstore, e_lstore_0, e_lstore_1, e_lstore_2, e_lstore_3, e_iinc, e_iadd, e_isub, e_imul, e_ladd, e_lsub, e_lmul, e_idiv, e_irem, e_ldiv, e_lrem, e_ineg, e_lneg, e_iand, e_ior, e_ixor, e_ishl, e_ishr, e_iushr, e_lcmp, e_i2l, e_l2i, e_i2b, e_i2s, e_dup_i, e_dup_r, e_pop_i, e_pop_r, e_dup2_l, e_dup2_ir, e_dup2_ii, e_ifeq, e_ifne, e_iflt, e_ifge, e_ifgt, e_ifle, e_iceq, e_icne, e_iclt, e_icge, e_icgt, e_icle, e_goto, e_switch, e_invokevirtual, e_invokestatic, e_invokespecial, e_ret0, e_ret1, e_ret2, e_ret3, ldI_s, ldL_s, ldR_s, clO_s, ctP_s, ctS_s, mgo_0, mgo_s, pjc_s, pj_0, pj_s, lk_s, rm1_0, rm1_i, rm1_r, rm1_l, rm2_0, rm2_i, rm2_r, rm2_l, csL_s, lc_lt, lc_ge, lc_gt, lc_le, lc_eq, b01_0, b01_1, b01_01, b01_n, up2_o, up2_s, up2_u, ne_eq, reduceCtorEq, Nat.reduceAdd, Nat.reduceEqDiff, Nat.reduceLT, Nat.reduceLeDiff, Int.reduceLE, Int.reduceLT, Int.reduceAdd, Int.reduceNeg, Int.reduceMul, Int.reduceSub, Int.reduceEq, Int.reduceToNat, Int.reduceNatCast, Int.cast_ofNat_Int, ↓reduceIte, and_self, List.drop_succ_cons, List.drop_zero, List.take_succ_cons, List.take_zero, List.length_cons, List.length_nil, List.reverse_cons, List.reverse_nil, List.nil_append, List.cons_append, Option.toList, true_and, and_true, or_false, false_or, or_true, true_or, forall_const, Classical.not_not, not_false_eq_true, not_true_eq_false, false_implies, true_implies, implies_true, imp_self]
  refine ⟨fun q => ?_, fun q => ⟨h2 a q, ?_⟩⟩
  · refine qeq hQ ?_
    unfold V7_sagAll
    rw [show (M 7 3).toNat = a by omega]
  · have hb : ∀ k, k < a + 1 → 0 ≤ sagP (mb M k) ∧ sagP (mb M k) ≤ 99 * 8 := by
      intro k hk
      have x1 := h2 k (by omega)
      have x2 := sagP_b x1.2.2
      have x3 := mb_len x1
      have x4 := x1.2.1
      omega
    have h3 := sumN_b (f := fun b => sagP (mb M b)) (n := a) (fun k hk => hb k (by omega))
    have h4 := hb a (by omega)
    refine ⟨by omega, by omega, ?_⟩
    exact hI_4 _ _ _ _ (by omega) ⟨a + 1, by omega, by omega, rfl, rfl, rfl⟩
set_option maxHeartbeats 4000000 in
set_option maxRecDepth 100000 in
theorem m7_sagAll : MOK cl7 sh7 tyl7 [] 1 yX7_sagAll cX7_sagAll 3 (some .int) sp7_sagAll := by
  refine mok_of (own := RX7) (tb := tb7 (csL cs7_sagAll)) (rt := 1) (fuel := 400) (fun avs M Q => [(4, [0, 1, 2], fun m_ vs M1 => ∃ y_n : Int, ∃ y_b : Int, vs = [ar 0, ai y_n, ai y_b] ∧ J7_sagAll_4 M m_ y_n y_b M1)]) (by decide) rfl nil_nw (tbOK7 _) rfl (csL_all ?_) ?_ ?_ ?_
  · intro q hq
    simp only [cs7_sagAll, List.mem_cons, List.not_mem_nil, or_false] at hq
    rcases hq with rfl | rfl
    · exact cg7_bridges (by decide)
    · exact cg7_sagOf (by decide)
  · intro avs M Q hsp
    obtain ⟨xs, hx⟩ := spF_un _ _ _ hsp
    obtain ⟨e, hl⟩ := unA_mkT hx
    obtain rfl := len0 hl
    have e : avs = [ar 0] := e
    subst e
    simp [szL, isL]
  · intro avs M Q hM hav hsp
    obtain ⟨xs, hx⟩ := spF_un _ _ _ hsp
    obtain ⟨e, hl⟩ := unA_mkT hx
    obtain rfl := len0 hl
    have e : avs = [ar 0] := e
    subst e
    exact in7_sagAll hM hsp.1 hsp.2 _ (fun m_ y_n y_b M2 hJ => ⟨m_, y_n, y_b, rfl, hJ⟩)
  · intro avs M Q hM hav hsp q hq m_ vs M1 hM1 hv hJ
    obtain ⟨xs, hx⟩ := spF_un _ _ _ hsp
    obtain ⟨e, hl⟩ := unA_mkT hx
    obtain rfl := len0 hl
    have e : avs = [ar 0] := e
    subst e
    simp only [List.mem_cons, List.not_mem_nil, or_false] at hq
    rcases hq with rfl
    · obtain ⟨y_n, y_b, rfl, hJ⟩ := hJ
      exact at7_sagAll_4 hM hsp.1 hsp.2 hM1 (hv (1, ai y_n) (List.mem_of_getElem? (i := 1) rfl)) (hv (2, ai y_b) (List.mem_of_getElem? (i := 2) rfl)) hJ _ (fun m2 z_n z_b M2 hm hJ2 => ⟨m2, hm, z_n, z_b, rfl, hJ2⟩)
theorem cg7_sagAll {lvl : Nat} (h : 1 < lvl) : CG RX7 cl7 sh7 tyl7 [] lvl 1 339 1 sp7_sagAll := cg_V (sg := []) nil_nw spF_mono spF_un m7_sagAll h rfl (by decide) rfl rfl ⟨rfl, by decide, by decide, rfl⟩ q2018 q2020 qs105 q138 q2021
def P7_sagsNow (M : Mm) : Prop := okY (vM M)
def R7_sagsNow (M : Mm) (v : Int) (M1 : Mm) : Prop := keepM M M1 ∧ laidR (vM M) (tellP (vM M)) M1 ∧ v = sumN (fun b => sagP ((runP (whoM (tellP (vM M))) (vM M) (tellP (vM M)) (vM M 0 4).toNat).1 b)) (vM M 0 3).toNat
def sp7_sagsNow : Spec := spR true [] 1 (fun x M => P7_sagsNow M) (fun x M v M1 => R7_sagsNow M v M1)
theorem c7_sagsNow {M : Mm} {Q : Option AV → Mm → Prop} : sp7_sagsNow [ar 0] M Q = (P7_sagsNow M ∧ ∀ (v : Int) (M1 : Mm), R7_sagsNow M v M1 → Q (some (ai v)) M1) := rfl
def cs7_sagsNow : List (Nat × Nat × Nat × Spec) := [(336, 1, 1, sp7_laysNow), (339, 1, 1, sp7_sagAll)]
set_option maxHeartbeats 4000000 in
set_option maxRecDepth 100000 in
theorem in7_sagsNow {M : Mm} {Q : Option AV → Mm → Prop} (hM : okM sh7 M) (hP : P7_sagsNow M) (hQ : ∀ (v : Int) (M1 : Mm), R7_sagsNow M v M1 → Q (some (ai v)) M1) : wp (tb7 (csL cs7_sagsNow)) sh7 1 1 cX7_sagsNow [] Q 400 0 [(0, ar 0)] [] M := by
  simp only [e_wp dX7_sagsNow_0 rfl, e_wp dX7_sagsNow_1 rfl, e_wp dX7_sagsNow_4 rfl, e_wp dX7_sagsNow_5 rfl, e_wp dX7_sagsNow_8 rfl, c7_laysNow, cs7_sagsNow, c7_sagAll, P7_sagAll, V7_sagAll, e_iconst, e_bipush, e_sipush, e_lconst_0, e_lconst_1, e_iload, e_iload_0, e_iload_1, e_iload_2, e_iload_3, e_lload, e_lload_0, e_lload_1, e_lload_2, e_lload_3, e_aload, e_aload_0, e_aload_1, e_aload_2, e_aload_3, e_istore, e_istore_0, e_istore_1, e_istore_2, e_istore_3, e_astore, e_astore_0, e_astore_1, e_astore_2, e_astore_3, e_lstore, e_lstore_0, e_lstore_1, e_lstore_2, e_lstore_3, e_iinc, e_iadd, e_isub, e_imul, e_ladd, e_lsub, e_lmul, e_idiv, e_irem, e_ldiv, e_lrem, e_ineg, e_lneg, e_iand, e_ior, e_ixor, e_ishl, e_ishr, e_iushr, e_lcmp, e_i2l, e_l2i, e_i2b, e_i2s, e_dup_i, e_dup_r, e_pop_i, e_pop_r, e_dup2_l, e_dup2_ir, e_dup2_ii, e_ifeq, e_ifne, e_iflt, e_ifge, e_ifgt, e_ifle, e_iceq, e_icne, e_iclt, e_icge, e_icgt, e_icle, e_goto, e_switch, e_invokevirtual, e_invokestatic, e_invokespecial, e_ret0, e_ret1, e_ret2, e_ret3, ldI_s, ldL_s, ldR_s, clO_s, ctP_s, ctS_s, mgo_0, mgo_s, pjc_s, pj_0, pj_s, lk_s, rm1_0, rm1_i, rm1_r, rm1_l, rm2_0, rm2_i, rm2_r, rm2_l, csL_s, lc_lt, lc_ge, lc_gt, lc_le, lc_eq, b01_0, b01_1, b01_01, b01_n, up2_o, up2_s, up2_u, ne_eq, reduceCtorEq, Nat.reduceAdd, Nat.reduceEqDiff, Nat.reduceLT, Nat.reduceLeDiff, Int.reduceLE, Int.reduceLT, Int.reduceAdd, Int.reduceNeg, Int.reduceMul, Int.reduceSub, Int.reduceEq, Int.reduceToNat, Int.reduceNatCast, Int.cast_ofNat_Int, ↓reduceIte, and_self, List.drop_succ_cons, List.drop_zero, List.take_succ_cons, List.take_zero, List.length_cons, List.length_nil, List.reverse_cons, List.reverse_nil, List.nil_append, List.cons_append, Option.toList, true_and, and_true, or_false, false_or, or_true, true_or, forall_const, Classical.not_not, not_false_eq_true, not_true_eq_false, false_implies, true_implies, implies_true, imp_self]
  refine ⟨hP, fun M1 hR => ?_⟩
  obtain ⟨r1, r2, r3, r4⟩ := hR
  have e7 := keep_has r1
  have h6 := (okY_n hP).1
  have h6' : 0 ≤ M 7 3 ∧ M 7 3 ≤ 3 := h6
  rw [e7]
  refine ⟨⟨h6', fun b hb => (r3 b hb).1⟩, hQ _ _ ⟨r1, ⟨r2, r3, r4⟩, ?_⟩⟩
  refine sumN_congr fun k hk => ?_
  have hk3 : (k : Int) < vM M 0 3 := by
    show (k : Int) < M 7 3
    omega
  rw [(r4.1 k hk3).1]
set_option maxHeartbeats 4000000 in
set_option maxRecDepth 100000 in
theorem m7_sagsNow : MOK cl7 sh7 tyl7 [] 5 yX7_sagsNow cX7_sagsNow 1 (some .int) sp7_sagsNow := by
  refine mok_of (own := RX7) (tb := tb7 (csL cs7_sagsNow)) (rt := 1) (fuel := 400) (fun avs M Q => []) (by decide) rfl nil_nw (tbOK7 _) rfl (csL_all ?_) ?_ ?_ ?_
  · intro q hq
    simp only [cs7_sagsNow, List.mem_cons, List.not_mem_nil, or_false] at hq
    rcases hq with rfl | rfl
    · exact cg7_laysNow (by decide)
    · exact cg7_sagAll (by decide)
  · intro avs M Q hsp
    obtain ⟨xs, hx⟩ := spR_un _ _ _ hsp
    obtain ⟨e, hl⟩ := unA_mkT hx
    obtain rfl := len0 hl
    have e : avs = [ar 0] := e
    subst e
    simp [szL, isL]
  · intro avs M Q hM hav hsp
    obtain ⟨xs, hx⟩ := spR_un _ _ _ hsp
    obtain ⟨e, hl⟩ := unA_mkT hx
    obtain rfl := len0 hl
    have e : avs = [ar 0] := e
    subst e
    exact in7_sagsNow hM hsp.1 hsp.2
  · intro avs M Q hM hav hsp q hq m_ vs M1 hM1 hv hJ
    obtain ⟨xs, hx⟩ := spR_un _ _ _ hsp
    obtain ⟨e, hl⟩ := unA_mkT hx
    obtain rfl := len0 hl
    have e : avs = [ar 0] := e
    subst e
    cases hq
theorem cg7_sagsNow {lvl : Nat} (h : 5 < lvl) : CG RX7 cl7 sh7 tyl7 [] lvl 1 386 1 sp7_sagsNow := cg_V (sg := []) nil_nw spR_mono spR_un m7_sagsNow h rfl (by decide) rfl rfl ⟨rfl, by decide, by decide, rfl⟩ q2062 q2064 qs109 q138 q2065
def P7_overAll (M : Mm) : Prop := 0 ≤ M 7 4 ∧ M 7 4 ≤ 7
def V7_overAll (M : Mm) : Int := sumN (fun c => if M 22 c = -1 then 0 else 1) (M 7 4).toNat
def sp7_overAll : Spec := spF true [] 1 (fun x M => P7_overAll M) (fun x M => V7_overAll M)
theorem c7_overAll {M : Mm} {Q : Option AV → Mm → Prop} : sp7_overAll [ar 0] M Q = (P7_overAll M ∧ Q (some (ai (V7_overAll M))) M) := rfl
def cs7_overAll : List (Nat × Nat × Nat × Spec) := [(286, 1, 1, sp7_carts)]
def J7_overAll_4 (M : Mm) (m : Nat) (n : Int) (b : Int) (M1 : Mm) : Prop := ∃ a : Nat, b = a ∧ (a : Int) ≤ M 7 4 ∧ M = M1 ∧ n = sumN (fun c => if M 22 c = -1 then 0 else 1) a ∧ m = 7 - a
set_option maxHeartbeats 4000000 in
set_option maxRecDepth 100000 in
theorem in7_overAll {M : Mm} {Q : Option AV → Mm → Prop} (hM : okM sh7 M) (hP : P7_overAll M) (hQ : Q (some (ai (V7_overAll M))) M) (I_4 : List AV → Mm → Prop) (hI_4 : ∀ (m_ : Nat) (y_n : Int) (y_b : Int) (M2 : Mm), J7_overAll_4 M m_ y_n y_b M2 → I_4 [ar 0, ai y_n, ai y_b] M2) : wp (tb7 (csL cs7_overAll)) sh7 3 1 cX7_overAll [(4, [0, 1, 2], I_4)] Q 400 0 [(0, ar 0)] [] M := by
  simp only [e_wp dX7_overAll_0 rfl, e_wp dX7_overAll_1 rfl, e_wp dX7_overAll_2 rfl, e_wp dX7_overAll_3 rfl, e_wp dX7_overAll_4 rfl, e_wp dX7_overAll_5 rfl, e_wp dX7_overAll_6 rfl, e_wp dX7_overAll_9 rfl, e_wp dX7_overAll_12 rfl, e_wp dX7_overAll_13 rfl, e_wp dX7_overAll_14 rfl, e_wp dX7_overAll_17 rfl, e_wp dX7_overAll_18 rfl, e_wp dX7_overAll_19 rfl, e_wp dX7_overAll_20 rfl, e_wp dX7_overAll_23 rfl, e_wp dX7_overAll_24 rfl, e_wp dX7_overAll_27 rfl, e_wp dX7_overAll_28 rfl, e_wp dX7_overAll_29 rfl, e_wp dX7_overAll_30 rfl, e_wp dX7_overAll_33 rfl, e_wp dX7_overAll_36 rfl, e_wp dX7_overAll_37 rfl, c7_carts, P7_carts, V7_carts, cs7_overAll, g7_80, a7_1, w7_1, a7_2, w7_2, a7_3, w7_3, a7_4, w7_4, a7_5, w7_5, a7_6, w7_6, a7_7, w7_7, a7_8, w7_8, a7_9, w7_9, a7_10, w7_10, a7_11, w7_11, a7_12, w7_12, a7_13, w7_13, a7_14, w7_14, a7_15, w7_15, a7_16, w7_16, a7_17, w7_17, a7_18, w7_18, a7_19, w7_19, a7_20, w7_20, a7_21, w7_21, a7_22, w7_22, a7_23, w7_23, a7_24, w7_24, a7_25, w7_25, a7_26, w7_26, a7_27, w7_27, a7_28, w7_28, a7_29, w7_29, a7_30, w7_30, a7_31, w7_31, a7_32, w7_32, a7_33, w7_33, e_iconst, e_bipush, e_sipush, e_lconst_0, e_lconst_1, e_iload, e_iload_0, e_iload_1, e_iload_2, e_iload_3, e_lload, e_lload_0, e_lload_1, e_lload_2, e_lload_3, e_aload, e_aload_0, e_aload_1, e_aload_2, e_aload_3, e_istore, e_istore_0, e_istore_1, e_istore_2, e_istore_3, e_astore, e_astore_0, e_astore_1, e_astore_2, e_astore_3, e_lstore, e_lstore_0, e_lstore_1, e_lstore_2, e_lstore_3, e_iinc, e_iadd, e_isub, e_imul, e_ladd, e_lsub, e_lmul, e_idiv, e_irem, e_ldiv, e_lrem, e_ineg, e_lneg, e_iand, e_ior, e_ixor, e_ishl, e_ishr, e_iushr, e_lcmp, e_i2l, e_l2i, e_i2b, e_i2s, e_dup_i, e_dup_r, e_pop_i, e_pop_r, e_dup2_l, e_dup2_ir, e_dup2_ii, e_ifeq, e_ifne, e_iflt, e_ifge, e_ifgt, e_ifle, e_iceq, e_icne, e_iclt, e_icge, e_icgt, e_icle, e_goto, e_switch, e_invokevirtual, e_invokestatic, e_invokespecial, e_ret0, e_ret1, e_ret2, e_ret3, ldI_s, ldL_s, ldR_s, clO_s, ctP_s, ctS_s, mgo_0, mgo_s, pjc_s, pj_0, pj_s, lk_s, rm1_0, rm1_i, rm1_r, rm1_l, rm2_0, rm2_i, rm2_r, rm2_l, csL_s, lc_lt, lc_ge, lc_gt, lc_le, lc_eq, b01_0, b01_1, b01_01, b01_n, up2_o, up2_s, up2_u, ne_eq, reduceCtorEq, Nat.reduceAdd, Nat.reduceEqDiff, Nat.reduceLT, Nat.reduceLeDiff, Int.reduceLE, Int.reduceLT, Int.reduceAdd, Int.reduceNeg, Int.reduceMul, Int.reduceSub, Int.reduceEq, Int.reduceToNat, Int.reduceNatCast, Int.cast_ofNat_Int, ↓reduceIte, and_self, List.drop_succ_cons, List.drop_zero, List.take_succ_cons, List.take_zero, List.length_cons, List.length_nil, List.reverse_cons, List.reverse_nil, List.nil_append, List.cons_append, Option.toList, true_and, and_true, or_false, false_or, or_true, true_or, forall_const, Classical.not_not, not_false_eq_true, not_true_eq_false, false_implies, true_implies, implies_true, imp_self]
  exact hI_4 _ _ _ _ ⟨0, rfl, hP.1, rfl, rfl, rfl⟩
set_option maxHeartbeats 4000000 in
set_option maxRecDepth 100000 in
theorem at7_overAll_4 {M : Mm} {Q : Option AV → Mm → Prop} (hM : okM sh7 M) (hP : P7_overAll M) (hQ : Q (some (ai (V7_overAll M))) M) {m : Nat} {n b : Int} {M1 : Mm} (hM1 : okM sh7 M1) (h_n : i32 n) (h_b : i32 b) (hJ : J7_overAll_4 M m n b M1) (I_4 : List AV → Mm → Prop) (hI_4 : ∀ (m_ : Nat) (y_n : Int) (y_b : Int) (M2 : Mm), m_ < m → J7_overAll_4 M m_ y_n y_b M2 → I_4 [ar 0, ai y_n, ai y_b] M2) : wp (tb7 (csL cs7_overAll)) sh7 3 1 cX7_overAll [(4, [0, 1, 2], I_4)] Q 400 4 [(0, ar 0), (1, ai n), (2, ai b)] [] M1 := by
  obtain ⟨a, rfl, ha, rfl, rfl, rfl⟩ := hJ
  obtain ⟨h1, h2⟩ := id hP
  have h3 := sumN_b (f := fun c => if M 22 c = -1 then 0 else 1) (B := 1) (n := a) (fun k hk => by split <;> omega)
  simp only [e_wp dX7_overAll_0 rfl, e_wp dX7_overAll_1 rfl, e_wp dX7_overAll_2 rfl, e_wp dX7_overAll_3 rfl, e_wp dX7_overAll_4 rfl, e_wp dX7_overAll_5 rfl, e_wp dX7_overAll_6 rfl, e_wp dX7_overAll_9 rfl, e_wp dX7_overAll_12 rfl, e_wp dX7_overAll_13 rfl, e_wp dX7_overAll_14 rfl, e_wp dX7_overAll_17 rfl, e_wp dX7_overAll_18 rfl, e_wp dX7_overAll_19 rfl, e_wp dX7_overAll_20 rfl, e_wp dX7_overAll_23 rfl, e_wp dX7_overAll_24 rfl, e_wp dX7_overAll_27 rfl, e_wp dX7_overAll_28 rfl, e_wp dX7_overAll_29 rfl, e_wp dX7_overAll_30 rfl, e_wp dX7_overAll_33 rfl, e_wp dX7_overAll_36 rfl, e_wp dX7_overAll_37 rfl, c7_carts, P7_carts, V7_carts, cs7_overAll, g7_80, a7_1, w7_1, a7_2, w7_2, a7_3, w7_3, a7_4, w7_4, a7_5, w7_5, a7_6, w7_6, a7_7, w7_7, a7_8, w7_8, a7_9, w7_9, a7_10, w7_10, a7_11, w7_11, a7_12, w7_12, a7_13, w7_13, a7_14, w7_14, a7_15, w7_15, a7_16, w7_16, a7_17, w7_17, a7_18, w7_18, a7_19, w7_19, a7_20, w7_20, a7_21, w7_21, a7_22, w7_22, a7_23, w7_23, a7_24, w7_24, a7_25, w7_25, a7_26, w7_26, a7_27, w7_27, a7_28, w7_28, a7_29, w7_29, a7_30, w7_30, a7_31, w7_31, a7_32, w7_32, a7_33, w7_33, e_iconst, e_bipush, e_sipush, e_lconst_0, e_lconst_1, e_iload, e_iload_0, e_iload_1, e_iload_2, e_iload_3, e_lload, e_lload_0, e_lload_1, e_lload_2, e_lload_3, e_aload, e_aload_0, e_aload_1, e_aload_2, e_aload_3, e_istore, e_istore_0, e_istore_1, e_istore_2, e_istore_3, e_astore, e_astore_0, e_astore_1, e_astore_2, e_astore_3, e_lstore, e_lstore_0, e_lstore_1, e_lstore_2, e_lstore_3, e_iinc, e_iadd, e_isub, e_imul, e_ladd, e_lsub, e_lmul, e_idiv, e_irem, e_ldiv, e_lrem, e_ineg, e_lneg, e_iand, e_ior, e_ixor, e_ishl, e_ishr, e_iushr, e_lcmp, e_i2l, e_l2i, e_i2b, e_i2s, e_dup_i, e_dup_r, e_pop_i, e_pop_r, e_dup2_l, e_dup2_ir, e_dup2_ii, e_ifeq, e_ifne, e_iflt, e_ifge, e_ifgt, e_ifle, e_iceq, e_icne, e_iclt, e_icge, e_icgt, e_icle, e_goto, e_switch, e_invokevirtual, e_invokestatic, e_invokespecial, e_ret0, e_ret1, e_ret2, e_ret3, ldI_s, ldL_s, ldR_s, clO_s, ctP_s, ctS_s, mgo_0, mgo_s, pjc_s, pj_0, pj_s, lk_s, rm1_0, rm1_i, rm1_r, rm1_l, rm2_0, rm2_i, rm2_r, rm2_l, csL_s, lc_lt, lc_ge, lc_gt, lc_le, lc_eq, b01_0, b01_1, b01_01, b01_n, up2_o, up2_s, up2_u, ne_eq, reduceCtorEq, Nat.reduceAdd, Nat.reduceEqDiff, Nat.reduceLT, Nat.reduceLeDiff, Int.reduceLE, Int.reduceLT, Int.reduceAdd, Int.reduceNeg, Int.reduceMul, Int.reduceSub, Int.reduceEq, Int.reduceToNat, Int.reduceNatCast, Int.cast_ofNat_Int, ↓reduceIte, and_self, List.drop_succ_cons, List.drop_zero, List.take_succ_cons, List.take_zero, List.length_cons, List.length_nil, List.reverse_cons, List.reverse_nil, List.nil_append, List.cons_append, Option.toList, true_and, and_true, or_false, false_or, or_true, true_or, forall_const, Classical.not_not, not_false_eq_true, not_true_eq_false, false_implies, true_implies, implies_true, imp_self, Int.toNat_natCast]
  refine ⟨fun q => ?_, fun q => ⟨by omega, fun z => ⟨by omega, by omega, ?_⟩, fun z => ⟨by omega, by omega, ?_⟩⟩⟩
  · refine qeq hQ ?_
    unfold V7_overAll
    rw [show (M 7 4).toNat = a by omega]
  · refine hI_4 _ _ _ _ (by omega) ⟨a + 1, by omega, by omega, rfl, ?_, rfl⟩
    show _ = _ + (if M 22 a = -1 then 0 else 1)
    rw [if_neg z]
  · refine hI_4 _ _ _ _ (by omega) ⟨a + 1, by omega, by omega, rfl, ?_, rfl⟩
    show _ = _ + (if M 22 a = -1 then 0 else 1)
    rw [if_pos z]
set_option maxHeartbeats 4000000 in
set_option maxRecDepth 100000 in
theorem m7_overAll : MOK cl7 sh7 tyl7 [] 1 yX7_overAll cX7_overAll 3 (some .int) sp7_overAll := by
  refine mok_of (own := RX7) (tb := tb7 (csL cs7_overAll)) (rt := 1) (fuel := 400) (fun avs M Q => [(4, [0, 1, 2], fun m_ vs M1 => ∃ y_n : Int, ∃ y_b : Int, vs = [ar 0, ai y_n, ai y_b] ∧ J7_overAll_4 M m_ y_n y_b M1)]) (by decide) rfl nil_nw (tbOK7 _) rfl (csL_all ?_) ?_ ?_ ?_
  · intro q hq
    simp only [cs7_overAll, List.mem_cons, List.not_mem_nil, or_false] at hq
    rcases hq with rfl
    · exact cg7_carts (by decide)
  · intro avs M Q hsp
    obtain ⟨xs, hx⟩ := spF_un _ _ _ hsp
    obtain ⟨e, hl⟩ := unA_mkT hx
    obtain rfl := len0 hl
    have e : avs = [ar 0] := e
    subst e
    simp [szL, isL]
  · intro avs M Q hM hav hsp
    obtain ⟨xs, hx⟩ := spF_un _ _ _ hsp
    obtain ⟨e, hl⟩ := unA_mkT hx
    obtain rfl := len0 hl
    have e : avs = [ar 0] := e
    subst e
    exact in7_overAll hM hsp.1 hsp.2 _ (fun m_ y_n y_b M2 hJ => ⟨m_, y_n, y_b, rfl, hJ⟩)
  · intro avs M Q hM hav hsp q hq m_ vs M1 hM1 hv hJ
    obtain ⟨xs, hx⟩ := spF_un _ _ _ hsp
    obtain ⟨e, hl⟩ := unA_mkT hx
    obtain rfl := len0 hl
    have e : avs = [ar 0] := e
    subst e
    simp only [List.mem_cons, List.not_mem_nil, or_false] at hq
    rcases hq with rfl
    · obtain ⟨y_n, y_b, rfl, hJ⟩ := hJ
      exact at7_overAll_4 hM hsp.1 hsp.2 hM1 (hv (1, ai y_n) (List.mem_of_getElem? (i := 1) rfl)) (hv (2, ai y_b) (List.mem_of_getElem? (i := 2) rfl)) hJ _ (fun m2 z_n z_b M2 hm hJ2 => ⟨m2, hm, z_n, z_b, rfl, hJ2⟩)
theorem cg7_overAll {lvl : Nat} (h : 1 < lvl) : CG RX7 cl7 sh7 tyl7 [] lvl 1 368 1 sp7_overAll := cg_V (sg := []) nil_nw spF_mono spF_un m7_overAll h rfl (by decide) rfl rfl ⟨rfl, by decide, by decide, rfl⟩ q2022 q2024 qs106 q138 q2025
def orN (f : Nat → Int) : Nat → Int
  | 0 => 0
  | n + 1 => bor (orN f n) (f n)
def P7_overOf (b : Int) (M : Mm) : Prop := 0 ≤ M 7 4 ∧ M 7 4 ≤ 7
def V7_overOf (b : Int) (M : Mm) : Int := orN (fun c => if M 22 c = b then bshl 1 c else 0) (M 7 4).toNat
def sp7_overOf : Spec := spF true [0] 1 (fun x M => P7_overOf (x 0) M) (fun x M => V7_overOf (x 0) M)
theorem c7_overOf {b : Int} {M : Mm} {Q : Option AV → Mm → Prop} : sp7_overOf [ar 0, ai b] M Q = (P7_overOf b M ∧ Q (some (ai (V7_overOf b M))) M) := rfl
def cs7_overOf : List (Nat × Nat × Nat × Spec) := [(286, 1, 1, sp7_carts)]
def J7_overOf_4 (b : Int) (M : Mm) (m : Nat) (b_ : Int) (n : Int) (c : Int) (M1 : Mm) : Prop := ∃ a : Nat, b = b_ ∧ c = a ∧ (a : Int) ≤ M 7 4 ∧ M = M1 ∧ n = orN (fun c => if M 22 c = b then bshl 1 c else 0) a ∧ m = 7 - a
set_option maxHeartbeats 4000000 in
set_option maxRecDepth 100000 in
theorem in7_overOf {b : Int} {M : Mm} {Q : Option AV → Mm → Prop} (hM : okM sh7 M) (h_b : i32 b) (hP : P7_overOf b M) (hQ : Q (some (ai (V7_overOf b M))) M) (I_4 : List AV → Mm → Prop) (hI_4 : ∀ (m_ : Nat) (y_b_ : Int) (y_n : Int) (y_c : Int) (M2 : Mm), J7_overOf_4 b M m_ y_b_ y_n y_c M2 → I_4 [ar 0, ai y_b_, ai y_n, ai y_c] M2) : wp (tb7 (csL cs7_overOf)) sh7 4 1 cX7_overOf [(4, [0, 1, 2, 3], I_4)] Q 400 0 [(0, ar 0), (1, ai b)] [] M := by
  simp only [e_wp dX7_overOf_0 rfl, e_wp dX7_overOf_1 rfl, e_wp dX7_overOf_2 rfl, e_wp dX7_overOf_3 rfl, e_wp dX7_overOf_4 rfl, e_wp dX7_overOf_5 rfl, e_wp dX7_overOf_6 rfl, e_wp dX7_overOf_9 rfl, e_wp dX7_overOf_12 rfl, e_wp dX7_overOf_13 rfl, e_wp dX7_overOf_14 rfl, e_wp dX7_overOf_17 rfl, e_wp dX7_overOf_18 rfl, e_wp dX7_overOf_19 rfl, e_wp dX7_overOf_20 rfl, e_wp dX7_overOf_23 rfl, e_wp dX7_overOf_24 rfl, e_wp dX7_overOf_25 rfl, e_wp dX7_overOf_26 rfl, e_wp dX7_overOf_29 rfl, e_wp dX7_overOf_30 rfl, e_wp dX7_overOf_31 rfl, e_wp dX7_overOf_32 rfl, e_wp dX7_overOf_35 rfl, e_wp dX7_overOf_38 rfl, e_wp dX7_overOf_39 rfl, c7_carts, P7_carts, V7_carts, cs7_overOf, g7_80, a7_1, w7_1, a7_2, w7_2, a7_3, w7_3, a7_4, w7_4, a7_5, w7_5, a7_6, w7_6, a7_7, w7_7, a7_8, w7_8, a7_9, w7_9, a7_10, w7_10, a7_11, w7_11, a7_12, w7_12, a7_13, w7_13, a7_14, w7_14, a7_15, w7_15, a7_16, w7_16, a7_17, w7_17, a7_18, w7_18, a7_19, w7_19, a7_20, w7_20, a7_21, w7_21, a7_22, w7_22, a7_23, w7_23, a7_24, w7_24, a7_25, w7_25, a7_26, w7_26, a7_27, w7_27, a7_28, w7_28, a7_29, w7_29, a7_30, w7_30, a7_31, w7_31, a7_32, w7_32, a7_33, w7_33, e_iconst, e_bipush, e_sipush, e_lconst_0, e_lconst_1, e_iload, e_iload_0, e_iload_1, e_iload_2, e_iload_3, e_lload, e_lload_0, e_lload_1, e_lload_2, e_lload_3, e_aload, e_aload_0, e_aload_1, e_aload_2, e_aload_3, e_istore, e_istore_0, e_istore_1, e_istore_2, e_istore_3, e_astore, e_astore_0, e_astore_1, e_astore_2, e_astore_3, e_lstore, e_lstore_0, e_lstore_1, e_lstore_2, e_lstore_3, e_iinc, e_iadd, e_isub, e_imul, e_ladd, e_lsub, e_lmul, e_idiv, e_irem, e_ldiv, e_lrem, e_ineg, e_lneg, e_iand, e_ior, e_ixor, e_ishl, e_ishr, e_iushr, e_lcmp, e_i2l, e_l2i, e_i2b, e_i2s, e_dup_i, e_dup_r, e_pop_i, e_pop_r, e_dup2_l, e_dup2_ir, e_dup2_ii, e_ifeq, e_ifne, e_iflt, e_ifge, e_ifgt, e_ifle, e_iceq, e_icne, e_iclt, e_icge, e_icgt, e_icle, e_goto, e_switch, e_invokevirtual, e_invokestatic, e_invokespecial, e_ret0, e_ret1, e_ret2, e_ret3, ldI_s, ldL_s, ldR_s, clO_s, ctP_s, ctS_s, mgo_0, mgo_s, pjc_s, pj_0, pj_s, lk_s, rm1_0, rm1_i, rm1_r, rm1_l, rm2_0, rm2_i, rm2_r, rm2_l, csL_s, lc_lt, lc_ge, lc_gt, lc_le, lc_eq, b01_0, b01_1, b01_01, b01_n, up2_o, up2_s, up2_u, ne_eq, reduceCtorEq, Nat.reduceAdd, Nat.reduceEqDiff, Nat.reduceLT, Nat.reduceLeDiff, Int.reduceLE, Int.reduceLT, Int.reduceAdd, Int.reduceNeg, Int.reduceMul, Int.reduceSub, Int.reduceEq, Int.reduceToNat, Int.reduceNatCast, Int.cast_ofNat_Int, ↓reduceIte, and_self, List.drop_succ_cons, List.drop_zero, List.take_succ_cons, List.take_zero, List.length_cons, List.length_nil, List.reverse_cons, List.reverse_nil, List.nil_append, List.cons_append, Option.toList, true_and, and_true, or_false, false_or, or_true, true_or, forall_const, Classical.not_not, not_false_eq_true, not_true_eq_false, false_implies, true_implies, implies_true, imp_self]
  exact hI_4 _ _ _ _ _ ⟨0, rfl, rfl, hP.1, rfl, rfl, rfl⟩
set_option maxHeartbeats 4000000 in
set_option maxRecDepth 100000 in
theorem at7_overOf_4 {b : Int} {M : Mm} {Q : Option AV → Mm → Prop} (hM : okM sh7 M) (h_b : i32 b) (hP : P7_overOf b M) (hQ : Q (some (ai (V7_overOf b M))) M) {m : Nat} {b_ n c : Int} {M1 : Mm} (hM1 : okM sh7 M1) (h_b_ : i32 b_) (h_n : i32 n) (h_c : i32 c) (hJ : J7_overOf_4 b M m b_ n c M1) (I_4 : List AV → Mm → Prop) (hI_4 : ∀ (m_ : Nat) (y_b_ : Int) (y_n : Int) (y_c : Int) (M2 : Mm), m_ < m → J7_overOf_4 b M m_ y_b_ y_n y_c M2 → I_4 [ar 0, ai y_b_, ai y_n, ai y_c] M2) : wp (tb7 (csL cs7_overOf)) sh7 4 1 cX7_overOf [(4, [0, 1, 2, 3], I_4)] Q 400 4 [(0, ar 0), (1, ai b_), (2, ai n), (3, ai c)] [] M1 := by
  obtain ⟨a, rfl, rfl, ha, rfl, rfl, rfl⟩ := hJ
  obtain ⟨h1, h2⟩ := id hP
  simp only [e_wp dX7_overOf_0 rfl, e_wp dX7_overOf_1 rfl, e_wp dX7_overOf_2 rfl, e_wp dX7_overOf_3 rfl, e_wp dX7_overOf_4 rfl, e_wp dX7_overOf_5 rfl, e_wp dX7_overOf_6 rfl, e_wp dX7_overOf_9 rfl, e_wp dX7_overOf_12 rfl, e_wp dX7_overOf_13 rfl, e_wp dX7_overOf_14 rfl, e_wp dX7_overOf_17 rfl, e_wp dX7_overOf_18 rfl, e_wp dX7_overOf_19 rfl, e_wp dX7_overOf_20 rfl, e_wp dX7_overOf_23 rfl, e_wp dX7_overOf_24 rfl, e_wp dX7_overOf_25 rfl, e_wp dX7_overOf_26 rfl, e_wp dX7_overOf_29 rfl, e_wp dX7_overOf_30 rfl, e_wp dX7_overOf_31 rfl, e_wp dX7_overOf_32 rfl, e_wp dX7_overOf_35 rfl, e_wp dX7_overOf_38 rfl, e_wp dX7_overOf_39 rfl, c7_carts, P7_carts, V7_carts, cs7_overOf, g7_80, a7_1, w7_1, a7_2, w7_2, a7_3, w7_3, a7_4, w7_4, a7_5, w7_5, a7_6, w7_6, a7_7, w7_7, a7_8, w7_8, a7_9, w7_9, a7_10, w7_10, a7_11, w7_11, a7_12, w7_12, a7_13, w7_13, a7_14, w7_14, a7_15, w7_15, a7_16, w7_16, a7_17, w7_17, a7_18, w7_18, a7_19, w7_19, a7_20, w7_20, a7_21, w7_21, a7_22, w7_22, a7_23, w7_23, a7_24, w7_24, a7_25, w7_25, a7_26, w7_26, a7_27, w7_27, a7_28, w7_28, a7_29, w7_29, a7_30, w7_30, a7_31, w7_31, a7_32, w7_32, a7_33, w7_33, e_iconst, e_bipush, e_sipush, e_lconst_0, e_lconst_1, e_iload, e_iload_0, e_iload_1, e_iload_2, e_iload_3, e_lload, e_lload_0, e_lload_1, e_lload_2, e_lload_3, e_aload, e_aload_0, e_aload_1, e_aload_2, e_aload_3, e_istore, e_istore_0, e_istore_1, e_istore_2, e_istore_3, e_astore, e_astore_0, e_astore_1, e_astore_2, e_astore_3, e_lstore, e_lstore_0, e_lstore_1, e_lstore_2, e_lstore_3, e_iinc, e_iadd, e_isub, e_imul, e_ladd, e_lsub, e_lmul, e_idiv, e_irem, e_ldiv, e_lrem, e_ineg, e_lneg, e_iand, e_ior, e_ixor, e_ishl, e_ishr, e_iushr, e_lcmp, e_i2l, e_l2i, e_i2b, e_i2s, e_dup_i, e_dup_r, e_pop_i, e_pop_r, e_dup2_l, e_dup2_ir, e_dup2_ii, e_ifeq, e_ifne, e_iflt, e_ifge, e_ifgt, e_ifle, e_iceq, e_icne, e_iclt, e_icge, e_icgt, e_icle, e_goto, e_switch, e_invokevirtual, e_invokestatic, e_invokespecial, e_ret0, e_ret1, e_ret2, e_ret3, ldI_s, ldL_s, ldR_s, clO_s, ctP_s, ctS_s, mgo_0, mgo_s, pjc_s, pj_0, pj_s, lk_s, rm1_0, rm1_i, rm1_r, rm1_l, rm2_0, rm2_i, rm2_r, rm2_l, csL_s, lc_lt, lc_ge, lc_gt, lc_le, lc_eq, b01_0, b01_1, b01_01, b01_n, up2_o, up2_s, up2_u, ne_eq, reduceCtorEq, Nat.reduceAdd, Nat.reduceEqDiff, Nat.reduceLT, Nat.reduceLeDiff, Int.reduceLE, Int.reduceLT, Int.reduceAdd, Int.reduceNeg, Int.reduceMul, Int.reduceSub, Int.reduceEq, Int.reduceToNat, Int.reduceNatCast, Int.cast_ofNat_Int, ↓reduceIte, and_self, List.drop_succ_cons, List.drop_zero, List.take_succ_cons, List.take_zero, List.length_cons, List.length_nil, List.reverse_cons, List.reverse_nil, List.nil_append, List.cons_append, Option.toList, true_and, and_true, or_false, false_or, or_true, true_or, forall_const, Classical.not_not, not_false_eq_true, not_true_eq_false, false_implies, true_implies, implies_true, imp_self, Int.toNat_natCast]
  refine ⟨fun q => ?_, fun q => ⟨by omega, fun z => ⟨by omega, ?_⟩, fun z => ⟨by omega, ?_⟩⟩⟩
  · refine qeq hQ ?_
    unfold V7_overOf
    rw [show (M 7 4).toNat = a by omega]
  · refine hI_4 _ _ _ _ _ (by omega) ⟨a + 1, rfl, by omega, by omega, rfl, ?_, rfl⟩
    show _ = bor _ (if M 22 a = b then bshl 1 a else 0)
    rw [if_neg z]
  · refine hI_4 _ _ _ _ _ (by omega) ⟨a + 1, rfl, by omega, by omega, rfl, ?_, rfl⟩
    show _ = bor _ (if M 22 a = b then bshl 1 a else 0)
    rw [if_pos z]
set_option maxHeartbeats 4000000 in
set_option maxRecDepth 100000 in
theorem m7_overOf : MOK cl7 sh7 tyl7 [] 1 yX7_overOf cX7_overOf 4 (some .int) sp7_overOf := by
  refine mok_of (own := RX7) (tb := tb7 (csL cs7_overOf)) (rt := 1) (fuel := 400) (fun avs M Q => [(4, [0, 1, 2, 3], fun m_ vs M1 => ∃ y_b_ : Int, ∃ y_n : Int, ∃ y_c : Int, vs = [ar 0, ai y_b_, ai y_n, ai y_c] ∧ J7_overOf_4 (pa true [0] avs 0) M m_ y_b_ y_n y_c M1)]) (by decide) rfl nil_nw (tbOK7 _) rfl (csL_all ?_) ?_ ?_ ?_
  · intro q hq
    simp only [cs7_overOf, List.mem_cons, List.not_mem_nil, or_false] at hq
    rcases hq with rfl
    · exact cg7_carts (by decide)
  · intro avs M Q hsp
    obtain ⟨xs, hx⟩ := spF_un _ _ _ hsp
    obtain ⟨e, hl⟩ := unA_mkT hx
    obtain ⟨b, rfl⟩ := len1 hl
    have e : avs = [ar 0, ai b] := e
    subst e
    simp [szL, isL]
  · intro avs M Q hM hav hsp
    obtain ⟨xs, hx⟩ := spF_un _ _ _ hsp
    obtain ⟨e, hl⟩ := unA_mkT hx
    obtain ⟨b, rfl⟩ := len1 hl
    have e : avs = [ar 0, ai b] := e
    subst e
    exact in7_overOf hM (hav (ai b) (by simp)) hsp.1 hsp.2 _ (fun m_ y_b_ y_n y_c M2 hJ => ⟨m_, y_b_, y_n, y_c, rfl, hJ⟩)
  · intro avs M Q hM hav hsp q hq m_ vs M1 hM1 hv hJ
    obtain ⟨xs, hx⟩ := spF_un _ _ _ hsp
    obtain ⟨e, hl⟩ := unA_mkT hx
    obtain ⟨b, rfl⟩ := len1 hl
    have e : avs = [ar 0, ai b] := e
    subst e
    simp only [List.mem_cons, List.not_mem_nil, or_false] at hq
    rcases hq with rfl
    · obtain ⟨y_b_, y_n, y_c, rfl, hJ⟩ := hJ
      exact at7_overOf_4 hM (hav (ai b) (by simp)) hsp.1 hsp.2 hM1 (hv (1, ai y_b_) (List.mem_of_getElem? (i := 1) rfl)) (hv (2, ai y_n) (List.mem_of_getElem? (i := 2) rfl)) (hv (3, ai y_c) (List.mem_of_getElem? (i := 3) rfl)) hJ _ (fun m2 z_b_ z_n z_c M2 hm hJ2 => ⟨m2, hm, z_b_, z_n, z_c, rfl, hJ2⟩)
theorem cg7_overOf {lvl : Nat} (h : 1 < lvl) : CG RX7 cl7 sh7 tyl7 [] lvl 1 347 2 sp7_overOf := cg_V (sg := [0]) nil_nw spF_mono spF_un m7_overOf h rfl (by decide) rfl rfl ⟨rfl, by decide, by decide, rfl⟩ q1906 q1908 qs98 q138 q1909
def P7_paysOf (c : Int) (M : Mm) : Prop := (0 ≤ c ∧ c < 7) ∧ (-1 ≤ M 22 c.toNat ∧ M 22 c.toNat ≤ 2) ∧ (-100000 ≤ M 24 c.toNat ∧ M 24 c.toNat ≤ 100000) ∧ ∀ b : Nat, b ≤ 2 → M 22 c.toNat = b → 0 ≤ M 8 (2 * b + 1) ∧ M 8 (2 * b + 1) ≤ 9
def V7_paysOf (c : Int) (M : Mm) : Int := if M 22 c.toNat = -1 ∨ M 24 c.toNat < 0 then 0 else M 8 (2 * (M 22 c.toNat).toNat + 1) * M 24 c.toNat
def sp7_paysOf : Spec := spF true [0] 1 (fun x M => P7_paysOf (x 0) M) (fun x M => V7_paysOf (x 0) M)
theorem c7_paysOf {c : Int} {M : Mm} {Q : Option AV → Mm → Prop} : sp7_paysOf [ar 0, ai c] M Q = (P7_paysOf c M ∧ Q (some (ai (V7_paysOf c M))) M) := rfl
def cs7_paysOf : List (Nat × Nat × Nat × Spec) := []
set_option maxHeartbeats 4000000 in
set_option maxRecDepth 100000 in
theorem in7_paysOf {c : Int} {M : Mm} {Q : Option AV → Mm → Prop} (hM : okM sh7 M) (h_c : i32 c) (hP : P7_paysOf c M) (hQ : Q (some (ai (V7_paysOf c M))) M) : wp (tb7 (csL cs7_paysOf)) sh7 2 1 cX7_paysOf [] Q 400 0 [(0, ar 0), (1, ai c)] [] M := by
  obtain ⟨h1, h2, h3, h4⟩ := id hP
  have h5 := h4 (M 22 c.toNat).toNat (by omega)
  have i1 : ¬ M 22 c.toNat = -1 → (2 * M 22 c.toNat + 1).toNat = 2 * (M 22 c.toNat).toNat + 1 := by omega
  have hm : 0 ≤ M 8 (2 * (M 22 c.toNat).toNat + 1) → M 8 (2 * (M 22 c.toNat).toNat + 1) ≤ 9 → 0 ≤ M 24 c.toNat → 0 ≤ M 8 (2 * (M 22 c.toNat).toNat + 1) * M 24 c.toNat ∧ M 8 (2 * (M 22 c.toNat).toNat + 1) * M 24 c.toNat ≤ 900000 := by
    intro a1 a2 a3
    have b1 := Int.mul_nonneg a1 a3
    have b2 := Int.mul_le_mul a2 (show M 24 c.toNat ≤ 100000 by omega) a3 (by omega)
    omega
  simp only [e_wp dX7_paysOf_0 rfl, e_wp dX7_paysOf_1 rfl, e_wp dX7_paysOf_4 rfl, e_wp dX7_paysOf_5 rfl, e_wp dX7_paysOf_6 rfl, e_wp dX7_paysOf_7 rfl, e_wp dX7_paysOf_10 rfl, e_wp dX7_paysOf_11 rfl, e_wp dX7_paysOf_14 rfl, e_wp dX7_paysOf_15 rfl, e_wp dX7_paysOf_16 rfl, e_wp dX7_paysOf_19 rfl, e_wp dX7_paysOf_20 rfl, e_wp dX7_paysOf_23 rfl, e_wp dX7_paysOf_24 rfl, e_wp dX7_paysOf_27 rfl, e_wp dX7_paysOf_28 rfl, e_wp dX7_paysOf_29 rfl, e_wp dX7_paysOf_32 rfl, e_wp dX7_paysOf_33 rfl, e_wp dX7_paysOf_34 rfl, e_wp dX7_paysOf_35 rfl, e_wp dX7_paysOf_36 rfl, e_wp dX7_paysOf_37 rfl, e_wp dX7_paysOf_38 rfl, e_wp dX7_paysOf_39 rfl, e_wp dX7_paysOf_42 rfl, e_wp dX7_paysOf_43 rfl, e_wp dX7_paysOf_44 rfl, e_wp dX7_paysOf_45 rfl, g7_80, g7_86, g7_37, a7_1, w7_1, a7_2, w7_2, a7_3, w7_3, a7_4, w7_4, a7_5, w7_5, a7_6, w7_6, a7_7, w7_7, a7_8, w7_8, a7_9, w7_9, a7_10, w7_10, a7_11, w7_11, a7_12, w7_12, a7_13, w7_13, a7_14, w7_14, a7_15, w7_15, a7_16, w7_16, a7_17, w7_17, a7_18, w7_18, a7_19, w7_19, a7_20, w7_20, a7_21, w7_21, a7_22, w7_22, a7_23, w7_23, a7_24, w7_24, a7_25, w7_25, a7_26, w7_26, a7_27, w7_27, a7_28, w7_28, a7_29, w7_29, a7_30, w7_30, a7_31, w7_31, a7_32, w7_32, a7_33, w7_33, e_iconst, e_bipush, e_sipush, e_lconst_0, e_lconst_1, e_iload, e_iload_0, e_iload_1, e_iload_2, e_iload_3, e_lload, e_lload_0, e_lload_1, e_lload_2, e_lload_3, e_aload, e_aload_0, e_aload_1, e_aload_2, e_aload_3, e_istore, e_istore_0, e_istore_1, e_istore_2, e_istore_3, e_astore, e_astore_0, e_astore_1, e_astore_2, e_astore_3, e_lstore, e_lstore_0, e_lstore_1, e_lstore_2, e_lstore_3, e_iinc, e_iadd, e_isub, e_imul, e_ladd, e_lsub, e_lmul, e_idiv, e_irem, e_ldiv, e_lrem, e_ineg, e_lneg, e_iand, e_ior, e_ixor, e_ishl, e_ishr, e_iushr, e_lcmp, e_i2l, e_l2i, e_i2b, e_i2s, e_dup_i, e_dup_r, e_pop_i, e_pop_r, e_dup2_l, e_dup2_ir, e_dup2_ii, e_ifeq, e_ifne, e_iflt, e_ifge, e_ifgt, e_ifle, e_iceq, e_icne, e_iclt, e_icge, e_icgt, e_icle, e_goto, e_switch, e_invokevirtual, e_invokestatic, e_invokespecial, e_ret0, e_ret1, e_ret2, e_ret3, ldI_s, ldL_s, ldR_s, clO_s, ctP_s, ctS_s, mgo_0, mgo_s, pjc_s, pj_0, pj_s, lk_s, rm1_0, rm1_i, rm1_r, rm1_l, rm2_0, rm2_i, rm2_r, rm2_l, csL_s, lc_lt, lc_ge, lc_gt, lc_le, lc_eq, b01_0, b01_1, b01_01, b01_n, up2_o, up2_s, up2_u, ne_eq, reduceCtorEq, Nat.reduceAdd, Nat.reduceEqDiff, Nat.reduceLT, Nat.reduceLeDiff, Int.reduceLE, Int.reduceLT, Int.reduceAdd, Int.reduceNeg, Int.reduceMul, Int.reduceSub, Int.reduceEq, Int.reduceToNat, Int.reduceNatCast, Int.cast_ofNat_Int, ↓reduceIte, and_self, List.drop_succ_cons, List.drop_zero, List.take_succ_cons, List.take_zero, List.length_cons, List.length_nil, List.reverse_cons, List.reverse_nil, List.nil_append, List.cons_append, Option.toList, true_and, and_true, or_false, false_or, or_true, true_or, forall_const, Classical.not_not, not_false_eq_true, not_true_eq_false, false_implies, true_implies, implies_true, imp_self]
  refine ⟨h1, fun q => ?_, fun q => ⟨h1, fun z => ?_, fun z => ?_⟩⟩
  · refine qeq hQ ?_
    unfold V7_paysOf
    rw [if_pos (Or.inl q)]
  · rw [i1 q]
    have h6 := h5 (by omega)
    have h7 := hm h6.1 h6.2 z
    repeat (refine And.intro (by omega) ?_)
    refine qeq hQ ?_
    unfold V7_paysOf
    rw [if_neg (by omega)]
  · refine qeq hQ ?_
    unfold V7_paysOf
    rw [if_pos (Or.inr z)]
set_option maxHeartbeats 4000000 in
set_option maxRecDepth 100000 in
theorem m7_paysOf : MOK cl7 sh7 tyl7 [] 0 yX7_paysOf cX7_paysOf 2 (some .int) sp7_paysOf := by
  refine mok_of (own := RX7) (tb := tb7 (csL cs7_paysOf)) (rt := 1) (fuel := 400) (fun avs M Q => []) (by decide) rfl nil_nw (tbOK7 _) rfl (csL_all ?_) ?_ ?_ ?_
  · intro q hq; cases hq
  · intro avs M Q hsp
    obtain ⟨xs, hx⟩ := spF_un _ _ _ hsp
    obtain ⟨e, hl⟩ := unA_mkT hx
    obtain ⟨c, rfl⟩ := len1 hl
    have e : avs = [ar 0, ai c] := e
    subst e
    simp [szL, isL]
  · intro avs M Q hM hav hsp
    obtain ⟨xs, hx⟩ := spF_un _ _ _ hsp
    obtain ⟨e, hl⟩ := unA_mkT hx
    obtain ⟨c, rfl⟩ := len1 hl
    have e : avs = [ar 0, ai c] := e
    subst e
    exact in7_paysOf hM (hav (ai c) (by simp)) hsp.1 hsp.2
  · intro avs M Q hM hav hsp q hq m_ vs M1 hM1 hv hJ
    obtain ⟨xs, hx⟩ := spF_un _ _ _ hsp
    obtain ⟨e, hl⟩ := unA_mkT hx
    obtain ⟨c, rfl⟩ := len1 hl
    have e : avs = [ar 0, ai c] := e
    subst e
    cases hq
theorem cg7_paysOf {lvl : Nat} (h : 0 < lvl) : CG RX7 cl7 sh7 tyl7 [] lvl 1 356 2 sp7_paysOf := cg_V (sg := [0]) nil_nw spF_mono spF_un m7_paysOf h rfl (by decide) rfl rfl ⟨rfl, by decide, by decide, rfl⟩ q1958 q1960 qs101 q138 q1961
