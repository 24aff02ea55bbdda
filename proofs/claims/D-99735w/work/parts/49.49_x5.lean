/-! SagMemory: as it is told -/
theorem cpP {rs : List (Nat × Nat)} {s sp d dp n : Int} {M : Mm} (a b : Int) (h1 : alen (sh8 rs) s.toNat = a) (h2 : alen (sh8 rs) d.toNat = b) (h : 0 ≤ sp ∧ 0 ≤ dp ∧ 0 ≤ n ∧ sp + n ≤ a ∧ dp + n ≤ b) : P0_copy rs s sp d dp n M := by
  unfold P0_copy
  rw [h1, h2]
  omega
theorem cp_r {M : Mm} {s sp d dp n k j : Nat} : cpM M s sp d dp n k j = if k = d ∧ dp ≤ j ∧ j < dp + n then M s (sp + (j - dp)) else M k j := rfl
theorem cp_o {M : Mm} {s sp d dp n k : Nat} (h : ¬ k = d) : cpM M s sp d dp n k = M k := by
  funext j
  rw [cp_r, if_neg (fun z => h z.1)]
theorem frm_cp {rows : List Nat} {M M1 : Mm} {s sp d dp n : Nat} (h : frm rows M M1) (hd : d ∈ rows) : frm rows M (cpM M1 s sp d dp n) := by
  intro k hk
  rw [cp_o (fun e => hk (by rw [e]; exact hd))]
  exact h k hk
/-- where laws and slots lie -/
def baseI (M : Mm) : Prop := ∀ j : Nat, j < 4 → M 6 j = 2 + j ∧ M 7 j = 8 + j
def row0X (M M1 : Mm) : Prop := ∀ j, ¬ j = 10 → ¬ j = 24 → ¬ j = 25 → M1 0 j = M 0 j
abbrev tellX : List Nat := [0, 16, 17, 18]
def P0_asItIs (rs : List (Nat × Nat)) (M : Mm) : Prop := okY (vX M) ∧ baseI M
def R0_asItIs (rs : List (Nat × Nat)) (M : Mm) (M1 : Mm) : Prop := frm tellX M M1 ∧ row0X M M1 ∧ nC (vX M) (cX M1) = tellP (vX M)
def sp0_asItIs (rs : List (Nat × Nat)) : Spec := spV true [] (fun x M => P0_asItIs rs M) (fun x M M1 => R0_asItIs rs M M1)
theorem c0_asItIs {rs : List (Nat × Nat)} {M : Mm} {Q : Option AV → Mm → Prop} : sp0_asItIs rs [ar 0] M Q = (P0_asItIs rs M ∧ ∀ (M1 : Mm), R0_asItIs rs M M1 → Q none M1) := rfl
def cs0_asItIs (rs : List (Nat × Nat)) : List (Nat × Nat × Nat × Spec) := [(194, 0, 5, (sp0_copy rs))]
def J0_asItIs_38 (rs : List (Nat × Nat)) (M : Mm) (m : Nat) (c : Int) (M1 : Mm) : Prop := ∃ n : Nat, c = n ∧ n ≤ 7 ∧ frm [16, 17, 18] M M1 ∧ (∀ j : Nat, j < 7 → M1 16 j = M 35 j ∧ M1 17 j = M 36 j) ∧ (∀ j : Nat, j < n → M1 18 j = j) ∧ m = 100 + (7 - n)
def J0_asItIs_91 (rs : List (Nat × Nat)) (M : Mm) (m : Nat) (i : Int) (M1 : Mm) : Prop := ∃ n : Nat, i = n ∧ (n : Int) ≤ M 1 9 ∧ frm tellX M M1 ∧ row0X M M1 ∧ M1 0 10 = M 1 0 + 2 ∧ M1 0 25 = 0 ∧ (∀ j : Nat, j < 7 → M1 16 j = M 35 j ∧ M1 18 j = j) ∧ (∀ c : Nat, (c : Int) < M 1 5 → M1 17 c = byF (vX M) n c) ∧ M1 0 24 = coldF (vX M) n ∧ m = 30 - n
set_option maxHeartbeats 4000000 in
set_option maxRecDepth 100000 in
theorem in0_asItIs {rs : List (Nat × Nat)} {M : Mm} {Q : Option AV → Mm → Prop} (hM : okM (sh8 rs) M) (hP : P0_asItIs rs M) (hQ : ∀ (M1 : Mm), R0_asItIs rs M M1 → Q none M1) (I_38 : List AV → Mm → Prop) (hI_38 : ∀ (m_ : Nat) (y_c : Int) (M2 : Mm), J0_asItIs_38 rs M m_ y_c M2 → I_38 [ar 0, ai y_c] M2) (I_91 : List AV → Mm → Prop) (hI_91 : ∀ (m_ : Nat) (y_i : Int) (M2 : Mm), J0_asItIs_91 rs M m_ y_i M2 → I_91 [ar 0, ai y_i] M2) : wp (tb0 (csL (cs0_asItIs rs))) (sh8 rs) 4 0 cX0_asItIs [(38, [0, 1], I_38), (91, [0, 1], I_91)] Q 400 0 [(0, ar 0)] [] M := by
  simp only [e_wp dX0_asItIs_0 rfl, e_wp dX0_asItIs_1 rfl, e_wp dX0_asItIs_4 rfl, e_wp dX0_asItIs_7 rfl, e_wp dX0_asItIs_8 rfl, e_wp dX0_asItIs_9 rfl, e_wp dX0_asItIs_12 rfl, e_wp dX0_asItIs_13 rfl, e_wp dX0_asItIs_15 rfl, e_wp dX0_asItIs_18 rfl, e_wp dX0_asItIs_19 rfl, e_wp dX0_asItIs_22 rfl, e_wp dX0_asItIs_25 rfl, e_wp dX0_asItIs_26 rfl, e_wp dX0_asItIs_27 rfl, e_wp dX0_asItIs_30 rfl, e_wp dX0_asItIs_31 rfl, e_wp dX0_asItIs_33 rfl, e_wp dX0_asItIs_36 rfl, e_wp dX0_asItIs_37 rfl, e_wp dX0_asItIs_38 rfl, e_wp dX0_asItIs_39 rfl, e_wp dX0_asItIs_41 rfl, e_wp dX0_asItIs_44 rfl, e_wp dX0_asItIs_45 rfl, e_wp dX0_asItIs_48 rfl, e_wp dX0_asItIs_49 rfl, e_wp dX0_asItIs_50 rfl, e_wp dX0_asItIs_51 rfl, e_wp dX0_asItIs_54 rfl, e_wp dX0_asItIs_57 rfl, e_wp dX0_asItIs_58 rfl, e_wp dX0_asItIs_59 rfl, e_wp dX0_asItIs_62 rfl, e_wp dX0_asItIs_65 rfl, e_wp dX0_asItIs_68 rfl, e_wp dX0_asItIs_69 rfl, e_wp dX0_asItIs_70 rfl, e_wp dX0_asItIs_73 rfl, e_wp dX0_asItIs_74 rfl, e_wp dX0_asItIs_75 rfl, e_wp dX0_asItIs_78 rfl, e_wp dX0_asItIs_79 rfl, e_wp dX0_asItIs_82 rfl, e_wp dX0_asItIs_85 rfl, e_wp dX0_asItIs_86 rfl, e_wp dX0_asItIs_89 rfl, e_wp dX0_asItIs_90 rfl, e_wp dX0_asItIs_91 rfl, e_wp dX0_asItIs_92 rfl, e_wp dX0_asItIs_93 rfl, e_wp dX0_asItIs_96 rfl, e_wp dX0_asItIs_99 rfl, e_wp dX0_asItIs_102 rfl, e_wp dX0_asItIs_103 rfl, e_wp dX0_asItIs_106 rfl, e_wp dX0_asItIs_109 rfl, e_wp dX0_asItIs_110 rfl, e_wp dX0_asItIs_111 rfl, e_wp dX0_asItIs_112 rfl, e_wp dX0_asItIs_113 rfl, e_wp dX0_asItIs_116 rfl, e_wp dX0_asItIs_119 rfl, e_wp dX0_asItIs_120 rfl, e_wp dX0_asItIs_123 rfl, e_wp dX0_asItIs_124 rfl, e_wp dX0_asItIs_126 rfl, e_wp dX0_asItIs_127 rfl, e_wp dX0_asItIs_128 rfl, e_wp dX0_asItIs_130 rfl, e_wp dX0_asItIs_131 rfl, e_wp dX0_asItIs_132 rfl, e_wp dX0_asItIs_133 rfl, e_wp dX0_asItIs_134 rfl, e_wp dX0_asItIs_137 rfl, e_wp dX0_asItIs_138 rfl, e_wp dX0_asItIs_141 rfl, e_wp dX0_asItIs_142 rfl, e_wp dX0_asItIs_143 rfl, e_wp dX0_asItIs_144 rfl, e_wp dX0_asItIs_145 rfl, e_wp dX0_asItIs_146 rfl, e_wp dX0_asItIs_147 rfl, e_wp dX0_asItIs_148 rfl, e_wp dX0_asItIs_149 rfl, e_wp dX0_asItIs_150 rfl, e_wp dX0_asItIs_153 rfl, e_wp dX0_asItIs_154 rfl, e_wp dX0_asItIs_157 rfl, e_wp dX0_asItIs_158 rfl, e_wp dX0_asItIs_159 rfl, e_wp dX0_asItIs_160 rfl, e_wp dX0_asItIs_161 rfl, e_wp dX0_asItIs_164 rfl, e_wp dX0_asItIs_165 rfl, e_wp dX0_asItIs_168 rfl, e_wp dX0_asItIs_169 rfl, e_wp dX0_asItIs_170 rfl, e_wp dX0_asItIs_171 rfl, e_wp dX0_asItIs_172 rfl, e_wp dX0_asItIs_173 rfl, e_wp dX0_asItIs_174 rfl, e_wp dX0_asItIs_177 rfl, e_wp dX0_asItIs_180 rfl, e_wp dX0_asItIs_183 rfl, g0_10, g0_180, g0_56, c0_copy, cs0_asItIs, g0_181, g0_59, g0_62, g0_200, p0_203, p0_204, g0_48, g0_207, p0_52, g0_209, g0_212, g0_203, a8_13, w8_13, a8_14, w8_14, a8_15, w8_15, a8_16, w8_16, a8_17, w8_17, a8_18, w8_18, a8_19, w8_19, a8_20, w8_20, a8_21, w8_21, a8_22, w8_22, a8_23, w8_23, a8_24, w8_24, a8_25, w8_25, a8_26, w8_26, a8_27, w8_27, a8_28, w8_28, a8_29, w8_29, a8_30, w8_30, a8_31, w8_31, a8_32, w8_32, a8_33, w8_33, a8_34, w8_34, a8_35, w8_35, a8_36, w8_36, a8_37, w8_37, a8_38, w8_38, a8_39, w8_39, a8_40, w8_40, a8_12, w8_12, a8_6, a8_7, e_iconst, e_bipush, e_sipush, e_lconst_0, e_lconst_1, e_iload, e_iload_0, e_iload_1, e_iload_2, e_iload_3, e_lload, e_lload_0, e_lload_1, e_lload_2, e_lload_3, e_aload, e_aload_0, e_aload_1, e_aload_2, e_aload_3, e_istore, e_istore_0, e_istore_1, e_istore_2, e_istore_3, e_astore, e_astore_0, e_astore_1, e_astore_2, e_astore_3, e_lstore, e_lstore_0, e_lstore_1, e_lstore_2, e_lstore_3, e_iinc, e_iadd, e_isub, e_imul, e_ladd, e_lsub, e_lmul, e_idiv, e_irem, e_ldiv, e_lrem, e_ineg, e_lneg, e_iand, e_ior, e_ixor, e_ishl, e_ishr, e_iushr, e_lcmp, e_i2l, e_l2i, e_i2b, e_i2s, e_dup_i, e_dup_r, e_pop_i, e_pop_r, e_dup2_l, e_dup2_ir, e_dup2_ii, e_ifeq, e_ifne, e_iflt, e_ifge, e_ifgt, e_ifle, e_iceq, e_icne, e_iclt, e_icge, e_icgt, e_icle, e_goto, e_switch, e_invokevirtual, e_invokestatic, e_invokespecial, e_ret0, e_ret1, e_ret2, e_ret3, ldI_s, ldL_s, ldR_s, clO_s, ctP_s, ctS_s, mgo_0, mgo_s, pjc_s, pj_0, pj_s, lk_s, rm1_0, rm1_i, rm1_r, rm1_l, rm2_0, rm2_i, rm2_r, rm2_l, csL_s, lc_lt, lc_ge, lc_gt, lc_le, lc_eq, b01_0, b01_1, b01_01, b01_n, up2_o, up2_s, up2_u, ne_eq, reduceCtorEq, Nat.reduceAdd, Nat.reduceEqDiff, Nat.reduceLT, Nat.reduceLeDiff, Int.reduceLE, Int.reduceLT, Int.reduceAdd, Int.reduceNeg, Int.reduceMul, Int.reduceSub, Int.reduceEq, Int.reduceToNat, Int.reduceNatCast, Int.cast_ofNat_Int, ↓reduceIte, and_self, List.drop_succ_cons, List.drop_zero, List.take_succ_cons, List.take_zero, List.length_cons, List.length_nil, List.reverse_cons, List.reverse_nil, List.nil_append, List.cons_append, Option.toList, true_and, and_true, or_false, false_or, or_true, true_or, forall_const, Classical.not_not, not_false_eq_true, not_true_eq_false, false_implies, true_implies, implies_true, imp_self, R0_copy, forall_eq]
  refine ⟨cpP 7 7 rfl rfl (by decide), cpP 7 7 rfl rfl (by decide), ?_⟩
  refine hI_38 _ _ _ ⟨0, rfl, by omega, frm_cp (frm_cp frm_rf (by decide)) (by decide), fun j hj => ?_, fun j hj => by omega, rfl⟩
  refine ⟨?_, ?_⟩
  · rw [cp_o (by decide), cp_r, if_pos ⟨rfl, by omega, by omega⟩, Nat.zero_add, Nat.sub_zero]
  · rw [cp_r, if_pos ⟨rfl, by omega, by omega⟩, cp_o (by decide), Nat.zero_add, Nat.sub_zero]
set_option maxHeartbeats 4000000 in
set_option maxRecDepth 100000 in
theorem at0_asItIs_38 {rs : List (Nat × Nat)} {M : Mm} {Q : Option AV → Mm → Prop} (hM : okM (sh8 rs) M) (hP : P0_asItIs rs M) (hQ : ∀ (M1 : Mm), R0_asItIs rs M M1 → Q none M1) {m : Nat} {c : Int} {M1 : Mm} (hM1 : okM (sh8 rs) M1) (h_c : i32 c) (hJ : J0_asItIs_38 rs M m c M1) (I_38 : List AV → Mm → Prop) (hI_38 : ∀ (m_ : Nat) (y_c : Int) (M2 : Mm), m_ < m → J0_asItIs_38 rs M m_ y_c M2 → I_38 [ar 0, ai y_c] M2) (I_91 : List AV → Mm → Prop) (hI_91 : ∀ (m_ : Nat) (y_i : Int) (M2 : Mm), m_ < m → J0_asItIs_91 rs M m_ y_i M2 → I_91 [ar 0, ai y_i] M2) : wp (tb0 (csL (cs0_asItIs rs))) (sh8 rs) 4 0 cX0_asItIs [(38, [0, 1], I_38), (91, [0, 1], I_91)] Q 400 38 [(0, ar 0), (1, ai c)] [] M1 := by
  obtain ⟨n, rfl, hn, t1, t2, t3, rfl⟩ := hJ
  obtain ⟨hY, hB⟩ := id hP
  have h0 : 0 ≤ M 1 0 ∧ M 1 0 ≤ 3 := hY.1
  have h7 : 0 ≤ M 1 9 ∧ M 1 9 ≤ 30 := hY.2.2.2.2.2.2.2.1
  have h4 : 0 ≤ M 1 5 ∧ M 1 5 ≤ 7 := hY.2.2.2.2.1
  have e1 : M1 1 = M 1 := t1 _ (by decide)
  have e6 : M1 6 = M 6 := t1 _ (by decide)
  have hl : fval 2 (M 6 (M 1 0).toNat) = ar (2 + (M 1 0).toNat) := by
    have := (hB (M 1 0).toNat (by omega)).1
    rw [this, show (2 : Int) + ((M 1 0).toNat : Int) = ((2 + (M 1 0).toNat : Nat) : Int) by omega, fval_n]
  simp only [e_wp dX0_asItIs_0 rfl, e_wp dX0_asItIs_1 rfl, e_wp dX0_asItIs_4 rfl, e_wp dX0_asItIs_7 rfl, e_wp dX0_asItIs_8 rfl, e_wp dX0_asItIs_9 rfl, e_wp dX0_asItIs_12 rfl, e_wp dX0_asItIs_13 rfl, e_wp dX0_asItIs_15 rfl, e_wp dX0_asItIs_18 rfl, e_wp dX0_asItIs_19 rfl, e_wp dX0_asItIs_22 rfl, e_wp dX0_asItIs_25 rfl, e_wp dX0_asItIs_26 rfl, e_wp dX0_asItIs_27 rfl, e_wp dX0_asItIs_30 rfl, e_wp dX0_asItIs_31 rfl, e_wp dX0_asItIs_33 rfl, e_wp dX0_asItIs_36 rfl, e_wp dX0_asItIs_37 rfl, e_wp dX0_asItIs_38 rfl, e_wp dX0_asItIs_39 rfl, e_wp dX0_asItIs_41 rfl, e_wp dX0_asItIs_44 rfl, e_wp dX0_asItIs_45 rfl, e_wp dX0_asItIs_48 rfl, e_wp dX0_asItIs_49 rfl, e_wp dX0_asItIs_50 rfl, e_wp dX0_asItIs_51 rfl, e_wp dX0_asItIs_54 rfl, e_wp dX0_asItIs_57 rfl, e_wp dX0_asItIs_58 rfl, e_wp dX0_asItIs_59 rfl, e_wp dX0_asItIs_62 rfl, e_wp dX0_asItIs_65 rfl, e_wp dX0_asItIs_68 rfl, e_wp dX0_asItIs_69 rfl, e_wp dX0_asItIs_70 rfl, e_wp dX0_asItIs_73 rfl, e_wp dX0_asItIs_74 rfl, e_wp dX0_asItIs_75 rfl, e_wp dX0_asItIs_78 rfl, e_wp dX0_asItIs_79 rfl, e_wp dX0_asItIs_82 rfl, e_wp dX0_asItIs_85 rfl, e_wp dX0_asItIs_86 rfl, e_wp dX0_asItIs_89 rfl, e_wp dX0_asItIs_90 rfl, e_wp dX0_asItIs_91 rfl, e_wp dX0_asItIs_92 rfl, e_wp dX0_asItIs_93 rfl, e_wp dX0_asItIs_96 rfl, e_wp dX0_asItIs_99 rfl, e_wp dX0_asItIs_102 rfl, e_wp dX0_asItIs_103 rfl, e_wp dX0_asItIs_106 rfl, e_wp dX0_asItIs_109 rfl, e_wp dX0_asItIs_110 rfl, e_wp dX0_asItIs_111 rfl, e_wp dX0_asItIs_112 rfl, e_wp dX0_asItIs_113 rfl, e_wp dX0_asItIs_116 rfl, e_wp dX0_asItIs_119 rfl, e_wp dX0_asItIs_120 rfl, e_wp dX0_asItIs_123 rfl, e_wp dX0_asItIs_124 rfl, e_wp dX0_asItIs_126 rfl, e_wp dX0_asItIs_127 rfl, e_wp dX0_asItIs_128 rfl, e_wp dX0_asItIs_130 rfl, e_wp dX0_asItIs_131 rfl, e_wp dX0_asItIs_132 rfl, e_wp dX0_asItIs_133 rfl, e_wp dX0_asItIs_134 rfl, e_wp dX0_asItIs_137 rfl, e_wp dX0_asItIs_138 rfl, e_wp dX0_asItIs_141 rfl, e_wp dX0_asItIs_142 rfl, e_wp dX0_asItIs_143 rfl, e_wp dX0_asItIs_144 rfl, e_wp dX0_asItIs_145 rfl, e_wp dX0_asItIs_146 rfl, e_wp dX0_asItIs_147 rfl, e_wp dX0_asItIs_148 rfl, e_wp dX0_asItIs_149 rfl, e_wp dX0_asItIs_150 rfl, e_wp dX0_asItIs_153 rfl, e_wp dX0_asItIs_154 rfl, e_wp dX0_asItIs_157 rfl, e_wp dX0_asItIs_158 rfl, e_wp dX0_asItIs_159 rfl, e_wp dX0_asItIs_160 rfl, e_wp dX0_asItIs_161 rfl, e_wp dX0_asItIs_164 rfl, e_wp dX0_asItIs_165 rfl, e_wp dX0_asItIs_168 rfl, e_wp dX0_asItIs_169 rfl, e_wp dX0_asItIs_170 rfl, e_wp dX0_asItIs_171 rfl, e_wp dX0_asItIs_172 rfl, e_wp dX0_asItIs_173 rfl, e_wp dX0_asItIs_174 rfl, e_wp dX0_asItIs_177 rfl, e_wp dX0_asItIs_180 rfl, e_wp dX0_asItIs_183 rfl, g0_10, g0_180, g0_56, c0_copy, cs0_asItIs, g0_181, g0_59, g0_62, g0_200, p0_203, p0_204, g0_48, g0_207, p0_52, g0_209, g0_212, g0_203, a8_13, w8_13, a8_14, w8_14, a8_15, w8_15, a8_16, w8_16, a8_17, w8_17, a8_18, w8_18, a8_19, w8_19, a8_20, w8_20, a8_21, w8_21, a8_22, w8_22, a8_23, w8_23, a8_24, w8_24, a8_25, w8_25, a8_26, w8_26, a8_27, w8_27, a8_28, w8_28, a8_29, w8_29, a8_30, w8_30, a8_31, w8_31, a8_32, w8_32, a8_33, w8_33, a8_34, w8_34, a8_35, w8_35, a8_36, w8_36, a8_37, w8_37, a8_38, w8_38, a8_39, w8_39, a8_40, w8_40, a8_12, w8_12, a8_6, a8_7, e_iconst, e_bipush, e_sipush, e_lconst_0, e_lconst_1, e_iload, e_iload_0, e_iload_1, e_iload_2, e_iload_3, e_lload, e_lload_0, e_lload_1, e_lload_2, e_lload_3, e_aload, e_aload_0, e_aload_1, e_aload_2, e_aload_3, e_istore, e_istore_0, e_istore_1, e_istore_2, e_istore_3, e_astore, e_astore_0, e_astore_1, e_astore_2, e_astore_3, e_lstore, e_lstore_0, e_lstore_1, e_lstore_2, e_lstore_3, e_iinc, e_iadd, e_isub, e_imul, e_ladd, e_lsub, e_lmul, e_idiv, e_irem, e_ldiv, e_lrem, e_ineg, e_lneg, e_iand, e_ior, e_ixor, e_ishl, e_ishr, e_iushr, e_lcmp, e_i2l, e_l2i, e_i2b, e_i2s, e_dup_i, e_dup_r, e_pop_i, e_pop_r, e_dup2_l, e_dup2_ir, e_dup2_ii, e_ifeq, e_ifne, e_iflt, e_ifge, e_ifgt, e_ifle, e_iceq, e_icne, e_iclt, e_icge, e_icgt, e_icle, e_goto, e_switch, e_invokevirtual, e_invokestatic, e_invokespecial, e_ret0, e_ret1, e_ret2, e_ret3, ldI_s, ldL_s, ldR_s, clO_s, ctP_s, ctS_s, mgo_0, mgo_s, pjc_s, pj_0, pj_s, lk_s, rm1_0, rm1_i, rm1_r, rm1_l, rm2_0, rm2_i, rm2_r, rm2_l, csL_s, lc_lt, lc_ge, lc_gt, lc_le, lc_eq, b01_0, b01_1, b01_01, b01_n, up2_o, up2_s, up2_u, ne_eq, reduceCtorEq, Nat.reduceAdd, Nat.reduceEqDiff, Nat.reduceLT, Nat.reduceLeDiff, Int.reduceLE, Int.reduceLT, Int.reduceAdd, Int.reduceNeg, Int.reduceMul, Int.reduceSub, Int.reduceEq, Int.reduceToNat, Int.reduceNatCast, Int.cast_ofNat_Int, ↓reduceIte, and_self, List.drop_succ_cons, List.drop_zero, List.take_succ_cons, List.take_zero, List.length_cons, List.length_nil, List.reverse_cons, List.reverse_nil, List.nil_append, List.cons_append, Option.toList, true_and, and_true, or_false, false_or, or_true, true_or, forall_const, Classical.not_not, not_false_eq_true, not_true_eq_false, false_implies, true_implies, implies_true, imp_self, e1, e6, hl, Int.toNat_natCast]
  refine ⟨fun q => ?_, fun q => ?_⟩
  · refine ⟨by omega, ?_⟩
    refine hI_91 _ _ _ (by omega) ⟨0, rfl, h7.1, frm_up (frm_up (frm_up (frm_w t1 (by decide)) (by decide)) (by decide)) (by decide), ?_, ?_, ?_, fun j hj => ⟨?_, ?_⟩, fun c hc => ?_, ?_, rfl⟩
    · intro j h1 h2 h3
      rw [up2_n h1, up2_n h3, up2_n h2, t1 0 (by decide)]
    · rw [up2_s]; omega
    · rw [up2_n (by decide), up2_s]
    · rw [up2_o (by decide), up2_o (by decide), up2_o (by decide)]; exact (t2 j hj).1
    · rw [up2_o (by decide), up2_o (by decide), up2_o (by decide)]; exact t3 j (by omega)
    · rw [up2_o (by decide), up2_o (by decide), up2_o (by decide), (t2 c (by omega)).2]
      exact (vX_c M hc).2.symm
    · rw [up2_n (by decide), up2_n (by decide), up2_s]; rfl
  · repeat (refine And.intro (by omega) ?_)
    refine hI_38 _ _ _ (by omega) ⟨n + 1, by omega, by omega, frm_up t1 (by decide), fun j hj => ?_, fun j hj => ?_, rfl⟩
    · rw [up2_o (by decide), up2_o (by decide)]; exact t2 j hj
    · by_cases e : j = n
      · simp [up2_r, e]
      · rw [up2_n e]; exact t3 j (by omega)
set_option maxHeartbeats 4000000 in
set_option maxRecDepth 100000 in
theorem at0_asItIs_91 {rs : List (Nat × Nat)} {M : Mm} {Q : Option AV → Mm → Prop} (hM : okM (sh8 rs) M) (hP : P0_asItIs rs M) (hQ : ∀ (M1 : Mm), R0_asItIs rs M M1 → Q none M1) {m : Nat} {i : Int} {M1 : Mm} (hM1 : okM (sh8 rs) M1) (h_i : i32 i) (hJ : J0_asItIs_91 rs M m i M1) (I_38 : List AV → Mm → Prop) (hI_38 : ∀ (m_ : Nat) (y_c : Int) (M2 : Mm), m_ < m → J0_asItIs_38 rs M m_ y_c M2 → I_38 [ar 0, ai y_c] M2) (I_91 : List AV → Mm → Prop) (hI_91 : ∀ (m_ : Nat) (y_i : Int) (M2 : Mm), m_ < m → J0_asItIs_91 rs M m_ y_i M2 → I_91 [ar 0, ai y_i] M2) : wp (tb0 (csL (cs0_asItIs rs))) (sh8 rs) 4 0 cX0_asItIs [(38, [0, 1], I_38), (91, [0, 1], I_91)] Q 400 91 [(0, ar 0), (1, ai i)] [] M1 := by
  obtain ⟨n, rfl, hn, t1, t2, t3, t4, t5, hb, hf, rfl⟩ := hJ
  obtain ⟨hY, hB⟩ := id hP
  have h7 : 0 ≤ M 1 9 ∧ M 1 9 ≤ 30 := hY.2.2.2.2.2.2.2.1
  have h4 : 0 ≤ M 1 5 ∧ M 1 5 ≤ 7 := hY.2.2.2.2.1
  have h3 : 0 ≤ M 1 4 ∧ M 1 4 ≤ 3 := hY.2.2.2.1
  have e1 : M1 1 = M 1 := t1 _ (by decide)
  have e40 : M1 40 = M 40 := t1 _ (by decide)
  simp only [e_wp dX0_asItIs_0 rfl, e_wp dX0_asItIs_1 rfl, e_wp dX0_asItIs_4 rfl, e_wp dX0_asItIs_7 rfl, e_wp dX0_asItIs_8 rfl, e_wp dX0_asItIs_9 rfl, e_wp dX0_asItIs_12 rfl, e_wp dX0_asItIs_13 rfl, e_wp dX0_asItIs_15 rfl, e_wp dX0_asItIs_18 rfl, e_wp dX0_asItIs_19 rfl, e_wp dX0_asItIs_22 rfl, e_wp dX0_asItIs_25 rfl, e_wp dX0_asItIs_26 rfl, e_wp dX0_asItIs_27 rfl, e_wp dX0_asItIs_30 rfl, e_wp dX0_asItIs_31 rfl, e_wp dX0_asItIs_33 rfl, e_wp dX0_asItIs_36 rfl, e_wp dX0_asItIs_37 rfl, e_wp dX0_asItIs_38 rfl, e_wp dX0_asItIs_39 rfl, e_wp dX0_asItIs_41 rfl, e_wp dX0_asItIs_44 rfl, e_wp dX0_asItIs_45 rfl, e_wp dX0_asItIs_48 rfl, e_wp dX0_asItIs_49 rfl, e_wp dX0_asItIs_50 rfl, e_wp dX0_asItIs_51 rfl, e_wp dX0_asItIs_54 rfl, e_wp dX0_asItIs_57 rfl, e_wp dX0_asItIs_58 rfl, e_wp dX0_asItIs_59 rfl, e_wp dX0_asItIs_62 rfl, e_wp dX0_asItIs_65 rfl, e_wp dX0_asItIs_68 rfl, e_wp dX0_asItIs_69 rfl, e_wp dX0_asItIs_70 rfl, e_wp dX0_asItIs_73 rfl, e_wp dX0_asItIs_74 rfl, e_wp dX0_asItIs_75 rfl, e_wp dX0_asItIs_78 rfl, e_wp dX0_asItIs_79 rfl, e_wp dX0_asItIs_82 rfl, e_wp dX0_asItIs_85 rfl, e_wp dX0_asItIs_86 rfl, e_wp dX0_asItIs_89 rfl, e_wp dX0_asItIs_90 rfl, e_wp dX0_asItIs_91 rfl, e_wp dX0_asItIs_92 rfl, e_wp dX0_asItIs_93 rfl, e_wp dX0_asItIs_96 rfl, e_wp dX0_asItIs_99 rfl, e_wp dX0_asItIs_102 rfl, e_wp dX0_asItIs_103 rfl, e_wp dX0_asItIs_106 rfl, e_wp dX0_asItIs_109 rfl, e_wp dX0_asItIs_110 rfl, e_wp dX0_asItIs_111 rfl, e_wp dX0_asItIs_112 rfl, e_wp dX0_asItIs_113 rfl, e_wp dX0_asItIs_116 rfl, e_wp dX0_asItIs_119 rfl, e_wp dX0_asItIs_120 rfl, e_wp dX0_asItIs_123 rfl, e_wp dX0_asItIs_124 rfl, e_wp dX0_asItIs_126 rfl, e_wp dX0_asItIs_127 rfl, e_wp dX0_asItIs_128 rfl, e_wp dX0_asItIs_130 rfl, e_wp dX0_asItIs_131 rfl, e_wp dX0_asItIs_132 rfl, e_wp dX0_asItIs_133 rfl, e_wp dX0_asItIs_134 rfl, e_wp dX0_asItIs_137 rfl, e_wp dX0_asItIs_138 rfl, e_wp dX0_asItIs_141 rfl, e_wp dX0_asItIs_142 rfl, e_wp dX0_asItIs_143 rfl, e_wp dX0_asItIs_144 rfl, e_wp dX0_asItIs_145 rfl, e_wp dX0_asItIs_146 rfl, e_wp dX0_asItIs_147 rfl, e_wp dX0_asItIs_148 rfl, e_wp dX0_asItIs_149 rfl, e_wp dX0_asItIs_150 rfl, e_wp dX0_asItIs_153 rfl, e_wp dX0_asItIs_154 rfl, e_wp dX0_asItIs_157 rfl, e_wp dX0_asItIs_158 rfl, e_wp dX0_asItIs_159 rfl, e_wp dX0_asItIs_160 rfl, e_wp dX0_asItIs_161 rfl, e_wp dX0_asItIs_164 rfl, e_wp dX0_asItIs_165 rfl, e_wp dX0_asItIs_168 rfl, e_wp dX0_asItIs_169 rfl, e_wp dX0_asItIs_170 rfl, e_wp dX0_asItIs_171 rfl, e_wp dX0_asItIs_172 rfl, e_wp dX0_asItIs_173 rfl, e_wp dX0_asItIs_174 rfl, e_wp dX0_asItIs_177 rfl, e_wp dX0_asItIs_180 rfl, e_wp dX0_asItIs_183 rfl, g0_10, g0_180, g0_56, c0_copy, cs0_asItIs, g0_181, g0_59, g0_62, g0_200, p0_203, p0_204, g0_48, g0_207, p0_52, g0_209, g0_212, g0_203, a8_13, w8_13, a8_14, w8_14, a8_15, w8_15, a8_16, w8_16, a8_17, w8_17, a8_18, w8_18, a8_19, w8_19, a8_20, w8_20, a8_21, w8_21, a8_22, w8_22, a8_23, w8_23, a8_24, w8_24, a8_25, w8_25, a8_26, w8_26, a8_27, w8_27, a8_28, w8_28, a8_29, w8_29, a8_30, w8_30, a8_31, w8_31, a8_32, w8_32, a8_33, w8_33, a8_34, w8_34, a8_35, w8_35, a8_36, w8_36, a8_37, w8_37, a8_38, w8_38, a8_39, w8_39, a8_40, w8_40, a8_12, w8_12, a8_6, a8_7, e_iconst, e_bipush, e_sipush, e_lconst_0, e_lconst_1, e_iload, e_iload_0, e_iload_1, e_iload_2, e_iload_3, e_lload, e_lload_0, e_lload_1, e_lload_2, e_lload_3, e_aload, e_aload_0, e_aload_1, e_aload_2, e_aload_3, e_istore, e_istore_0, e_istore_1, e_istore_2, e_istore_3, e_astore, e_astore_0, e_astore_1, e_astore_2, e_astore_3, e_lstore, e_lstore_0, e_lstore_1, e_lstore_2, e_lstore_3, e_iinc, e_iadd, e_isub, e_imul, e_ladd, e_lsub, e_lmul, e_idiv, e_irem, e_ldiv, e_lrem, e_ineg, e_lneg, e_iand, e_ior, e_ixor, e_ishl, e_ishr, e_iushr, e_lcmp, e_i2l, e_l2i, e_i2b, e_i2s, e_dup_i, e_dup_r, e_pop_i, e_pop_r, e_dup2_l, e_dup2_ir, e_dup2_ii, e_ifeq, e_ifne, e_iflt, e_ifge, e_ifgt, e_ifle, e_iceq, e_icne, e_iclt, e_icge, e_icgt, e_icle, e_goto, e_switch, e_invokevirtual, e_invokestatic, e_invokespecial, e_ret0, e_ret1, e_ret2, e_ret3, ldI_s, ldL_s, ldR_s, clO_s, ctP_s, ctS_s, mgo_0, mgo_s, pjc_s, pj_0, pj_s, lk_s, rm1_0, rm1_i, rm1_r, rm1_l, rm2_0, rm2_i, rm2_r, rm2_l, csL_s, lc_lt, lc_ge, lc_gt, lc_le, lc_eq, b01_0, b01_1, b01_01, b01_n, up2_o, up2_s, up2_u, ne_eq, reduceCtorEq, Nat.reduceAdd, Nat.reduceEqDiff, Nat.reduceLT, Nat.reduceLeDiff, Int.reduceLE, Int.reduceLT, Int.reduceAdd, Int.reduceNeg, Int.reduceMul, Int.reduceSub, Int.reduceEq, Int.reduceToNat, Int.reduceNatCast, Int.cast_ofNat_Int, ↓reduceIte, and_self, List.drop_succ_cons, List.drop_zero, List.take_succ_cons, List.take_zero, List.length_cons, List.length_nil, List.reverse_cons, List.reverse_nil, List.nil_append, List.cons_append, Option.toList, true_and, and_true, or_false, false_or, or_true, true_or, forall_const, Classical.not_not, not_false_eq_true, not_true_eq_false, false_implies, true_implies, implies_true, imp_self, e1, e40, Int.toNat_natCast]
  refine ⟨fun q => hQ _ ⟨t1, t2, ?_⟩, fun q => ?_⟩
  · have en : (M 1 9).toNat = n := by omega
    funext i j
    show (if i = 0 then cX M1 0 j else if (j : Int) < M 1 5 then cX M1 i j else 0) = tellP (vX M) i j
    match i with
    | 0 =>
      rw [if_pos rfl]
      show (if j = 0 then M1 0 10 - 2 else if j = 1 then M1 0 24 else M1 0 25) = (if j = 0 then M 1 0 else if j = 1 then coldF (vX M) (M 1 9).toNat else 0)
      rw [t3, t4, hf, en, show M 1 0 + 2 - 2 = M 1 0 by omega]
    | 1 =>
      rw [if_neg (by decide)]
      show (if (j : Int) < M 1 5 then M1 16 j else 0) = (if (j : Int) < M 1 5 then vX M 3 j else 0)
      by_cases z : (j : Int) < M 1 5
      · rw [if_pos z, if_pos z, (t5 j (by omega)).1, (vX_c M z).1]
      · rw [if_neg z, if_neg z]
    | 2 =>
      rw [if_neg (by decide)]
      show (if (j : Int) < M 1 5 then M1 17 j else 0) = (if (j : Int) < M 1 5 then byF (vX M) (M 1 9).toNat j else 0)
      by_cases z : (j : Int) < M 1 5
      · rw [if_pos z, if_pos z, hb j z, en]
      · rw [if_neg z, if_neg z]
    | 3 =>
      rw [if_neg (by decide)]
      show (if (j : Int) < M 1 5 then M1 18 j else 0) = (if (j : Int) < M 1 5 then (j : Int) else 0)
      by_cases z : (j : Int) < M 1 5
      · rw [if_pos z, if_pos z, (t5 j (by omega)).2]
      · rw [if_neg z, if_neg z]
    | i + 4 =>
      rw [if_neg (by omega)]
      show (if (j : Int) < M 1 5 then (0 : Int) else 0) = 0
      split <;> rfl
  · obtain ⟨a1, a2, a3⟩ := vX_a M q
    obtain ⟨b1, b2, b3⟩ := okY_a hY n q
    rw [a1] at b3
    rw [a2] at b2
    rw [a3] at b3
    have b2' : 0 ≤ actC (M 40 n) ∧ actC (M 40 n) < M 1 5 := b2
    obtain ⟨d0, d1, d2⟩ := act_dec (a := M 40 n) b2' h4.2 b3 h3.2
    have ec : coldF (vX M) (n + 1) = if actK (M 40 n) = 0 then coldF (vX M) n else if actK (M 40 n) = 1 then bor (coldF (vX M) n) (bshl 1 (actC (M 40 n))) else band (coldF (vX M) n) (bxor (bshl 1 (actC (M 40 n))) (-1)) := by
      rw [← a1, ← a2]
      rfl
    have eb : ∀ c, byF (vX M) (n + 1) c = if actK (M 40 n) = 0 ∧ actC (M 40 n) = c then actB (M 40 n) else byF (vX M) n c := by
      intro c
      rw [← a1, ← a2, ← a3]
      rfl
    repeat (refine And.intro (by omega) ?_)
    refine ⟨fun z => ?_, fun z => ?_⟩
    · obtain ⟨x0, x1, x2, x3⟩ := d2 (by omega)
      have go : ∀ v, v = coldF (vX M) (n + 1) → I_91 [ar 0, ai (n + 1)] (up2 M1 0 24 v) := by
        intro v hv
        refine hI_91 _ _ _ (by omega) ⟨n + 1, by omega, by omega, frm_up t1 (by decide), ?_, ?_, ?_, fun j hj => ?_, fun c hc => ?_, ?_, rfl⟩
        · intro j g1 g2 g3
          rw [up2_n g2]
          exact t2 j g1 g2 g3
        · rw [up2_n (by decide)]; exact t3
        · rw [up2_n (by decide)]; exact t4
        · rw [up2_o (by decide), up2_o (by decide)]; exact t5 j hj
        · rw [up2_o (by decide), hb c hc, eb, if_neg (fun w => x3 w.1)]
        · rw [up2_s, hv]
      rw [x1]
      have td := tdiv_b (x := M 40 n) (n := 2) d0 (by omega)
      have td2 := tdiv_b (x := M 40 n - 1000) (n := 2) (by omega) (by omega)
      refine ⟨by omega, by omega, by omega, fun w => ⟨by omega, ?_⟩, fun w => ⟨by omega, ?_⟩⟩
      · refine go _ ?_
        rw [ec, if_neg x3, if_neg (fun y => w (x2.mp y)), hf]
      · refine go _ ?_
        rw [ec, if_neg x3, if_pos (x2.mpr w), hf]
    · obtain ⟨x0, x1, x2⟩ := d1 (by omega)
      have hk0 : actK (M 40 n) = 0 := by unfold actK; rw [if_pos (by omega)]
      rw [x1, x2]
      have b4 := b3 hk0
      have b5 : actB (M 40 n) < M 1 4 := b4.2
      repeat (refine And.intro (by omega) ?_)
      refine hI_91 _ _ _ (by omega) ⟨n + 1, by omega, by omega, frm_up t1 (by decide), ?_, ?_, ?_, fun j hj => ?_, fun c hc => ?_, ?_, rfl⟩
      · intro j g1 g2 g3
        rw [up2_o (by decide)]
        exact t2 j g1 g2 g3
      · rw [up2_o (by decide)]; exact t3
      · rw [up2_o (by decide)]; exact t4
      · rw [up2_o (by decide), up2_o (by decide)]; exact t5 j hj
      · rw [eb]
        by_cases e : c = (actC (M 40 n)).toNat
        · rw [e, up2_s, if_pos ⟨hk0, by omega⟩]
        · rw [up2_n e, if_neg (by omega)]
          exact hb c hc
      · rw [up2_o (by decide), hf, ec, if_pos hk0]
set_option maxHeartbeats 4000000 in
set_option maxRecDepth 100000 in
theorem m0_asItIs {rs : List (Nat × Nat)} : MOK cl8 (sh8 rs) tyl8 Nws8 1 yX0_asItIs cX0_asItIs 4 none (sp0_asItIs rs) := by
  refine mok_of (own := RX0) (tb := tb0 (csL (cs0_asItIs rs))) (rt := 0) (fuel := 400) (fun avs M Q => [(38, [0, 1], fun m_ vs M1 => ∃ y_c : Int, vs = [ar 0, ai y_c] ∧ J0_asItIs_38 rs M m_ y_c M1), (91, [0, 1], fun m_ vs M1 => ∃ y_i : Int, vs = [ar 0, ai y_i] ∧ J0_asItIs_91 rs M m_ y_i M1)]) (by decide) rfl nws8_ok (tbOK0 _) rfl (csL_all ?_) ?_ ?_ ?_
  · intro q hq
    simp only [cs0_asItIs, List.mem_cons, List.not_mem_nil, or_false] at hq
    rcases hq with rfl
    · exact cg0_copy (by decide)
  · intro avs M Q hsp
    obtain ⟨xs, hx⟩ := spV_un _ _ _ hsp
    obtain ⟨e, hl⟩ := unA_mkT hx
    obtain rfl := len0 hl
    have e : avs = [ar 0] := e
    subst e
    simp [szL, isL]
  · intro avs M Q hM hav hsp
    obtain ⟨xs, hx⟩ := spV_un _ _ _ hsp
    obtain ⟨e, hl⟩ := unA_mkT hx
    obtain rfl := len0 hl
    have e : avs = [ar 0] := e
    subst e
    exact in0_asItIs hM hsp.1 hsp.2 _ (fun m_ y_c M2 hJ => ⟨m_, y_c, rfl, hJ⟩) _ (fun m_ y_i M2 hJ => ⟨m_, y_i, rfl, hJ⟩)
  · intro avs M Q hM hav hsp q hq m_ vs M1 hM1 hv hJ
    obtain ⟨xs, hx⟩ := spV_un _ _ _ hsp
    obtain ⟨e, hl⟩ := unA_mkT hx
    obtain rfl := len0 hl
    have e : avs = [ar 0] := e
    subst e
    simp only [List.mem_cons, List.not_mem_nil, or_false] at hq
    rcases hq with rfl | rfl
    · obtain ⟨y_c, rfl, hJ⟩ := hJ
      exact at0_asItIs_38 hM hsp.1 hsp.2 hM1 (hv (1, ai y_c) (List.mem_of_getElem? (i := 1) rfl)) hJ _ (fun m2 z_c M2 hm hJ2 => ⟨m2, hm, z_c, rfl, hJ2⟩) _ (fun m2 z_i M2 hm hJ2 => ⟨m2, hm, z_i, rfl, hJ2⟩)
    · obtain ⟨y_i, rfl, hJ⟩ := hJ
      exact at0_asItIs_91 hM hsp.1 hsp.2 hM1 (hv (1, ai y_i) (List.mem_of_getElem? (i := 1) rfl)) hJ _ (fun m2 z_c M2 hm hJ2 => ⟨m2, hm, z_c, rfl, hJ2⟩) _ (fun m2 z_i M2 hm hJ2 => ⟨m2, hm, z_i, rfl, hJ2⟩)
theorem cg0_asItIs {rs : List (Nat × Nat)} {lvl : Nat} (h : 1 < lvl) : CG RX0 cl8 (sh8 rs) tyl8 Nws8 lvl 1 250 1 (sp0_asItIs rs) := cg_V (sg := []) nws8_ok spV_mono spV_un m0_asItIs h rfl (by decide) rfl rfl ⟨rfl, by decide, by decide, rfl⟩ q789 q791 qs17 q128 q792
