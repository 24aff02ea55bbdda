/-! SagMemory: runs -/
/-- a cart's answers laid clean -/
def clX (M : Mm) (c : Nat) : Mm := up2 (up2 (up2 (up2 (up2 M 19 c (-1)) 21 c 0) 22 c 0) 23 c 0) 24 c 0
def P0_lays (rs : List (Nat × Nat)) (M : Mm) : Prop := okY (vX M) ∧ okCf (vX M) (cX M) ∧ baseI M
def R0_lays (rs : List (Nat × Nat)) (M : Mm) (M1 : Mm) : Prop := frm tRows M M1 ∧ (wX M M1 ∧ ∀ j, ¬ j = 8 → M1 0 j = M 0 j) ∧ ranX (vX M) (nC (vX M) (cX M)) M1
def sp0_lays (rs : List (Nat × Nat)) : Spec := spV true [] (fun x M => P0_lays rs M) (fun x M M1 => R0_lays rs M M1)
theorem c0_lays {rs : List (Nat × Nat)} {M : Mm} {Q : Option AV → Mm → Prop} : sp0_lays rs [ar 0] M Q = (P0_lays rs M ∧ ∀ (M1 : Mm), R0_lays rs M M1 → Q none M1) := rfl
def cs0_lays (rs : List (Nat × Nat)) : List (Nat × Nat × Nat × Spec) := [(238, 0, 2, (sp0_isOf rs)), (241, 1, 1, (sp0_freezes rs)), (244, 1, 2, (sp0_comesTo rs)), (247, 1, 3, (sp0_goes_2 rs)), (218, 1, 2, (sp0_sagOf rs)), (194, 0, 5, (sp0_copy rs))]
def J0_lays_2 (rs : List (Nat × Nat)) (M : Mm) (m : Nat) (b : Int) (M1 : Mm) : Prop := ∃ n : Nat, b = n ∧ (n : Int) ≤ M 1 4 ∧ frm [15, 25] M M1 ∧ (∀ a : Nat, a < n → M1 15 a = 0 ∧ M1 25 a = -1) ∧ m = 10000 + (3 - n)
def J0_lays_35 (rs : List (Nat × Nat)) (M : Mm) (m : Nat) (t : Int) (M1 : Mm) : Prop := ∃ n : Nat, t = n ∧ (n : Int) ≤ M 1 5 ∧ midX M M1 n ∧ (∀ u b : Nat, u < n → (b : Int) < M 1 4 → tabX (vX M) (cX M) M1 u b) ∧ m = (7 - n) * 1000 + 999
def J0_lays_68 (rs : List (Nat × Nat)) (M : Mm) (m : Nat) (t : Int) (c : Int) (M1 : Mm) : Prop := ∃ (n : Nat) (M0 : Mm), t = n ∧ c = M 18 n ∧ (n : Int) < M 1 5 ∧ midX M M0 n ∧ (∀ u b : Nat, u < n → (b : Int) < M 1 4 → tabX (vX M) (cX M) M0 u b) ∧ frTX M0 M1 n ∧ m = (7 - n) * 1000 + 900
def J0_lays_158 (rs : List (Nat × Nat)) (M : Mm) (m : Nat) (t : Int) (b : Int) (M1 : Mm) : Prop := ∃ n a : Nat, t = n ∧ b = a ∧ (n : Int) < M 1 5 ∧ (a : Int) ≤ M 1 4 ∧ midX M M1 (n + 1) ∧ (∀ u b : Nat, u < n → (b : Int) < M 1 4 → tabX (vX M) (cX M) M1 u b) ∧ (∀ b : Nat, b < a → tabX (vX M) (cX M) M1 n b) ∧ m = (7 - n) * 1000 + (3 - a) * 20
set_option maxHeartbeats 4000000 in
set_option maxRecDepth 100000 in
theorem in0_lays {rs : List (Nat × Nat)} {M : Mm} {Q : Option AV → Mm → Prop} (hM : okM (sh8 rs) M) (hP : P0_lays rs M) (hQ : ∀ (M1 : Mm), R0_lays rs M M1 → Q none M1) (I_2 : List AV → Mm → Prop) (hI_2 : ∀ (m_ : Nat) (y_b : Int) (M2 : Mm), J0_lays_2 rs M m_ y_b M2 → I_2 [ar 0, ai y_b] M2) (I_35 : List AV → Mm → Prop) (hI_35 : ∀ (m_ : Nat) (y_t : Int) (M2 : Mm), J0_lays_35 rs M m_ y_t M2 → I_35 [ar 0, ai y_t] M2) (I_68 : List AV → Mm → Prop) (hI_68 : ∀ (m_ : Nat) (y_t : Int) (y_c : Int) (M2 : Mm), J0_lays_68 rs M m_ y_t y_c M2 → I_68 [ar 0, ai y_t, ai y_c] M2) (I_158 : List AV → Mm → Prop) (hI_158 : ∀ (m_ : Nat) (y_t : Int) (y_b : Int) (M2 : Mm), J0_lays_158 rs M m_ y_t y_b M2 → I_158 [ar 0, ai y_t, ai y_b] M2) : wp (tb0 (csL (cs0_lays rs))) (sh8 rs) 4 0 cX0_lays [(2, [0, 1], I_2), (35, [0, 1], I_35), (68, [0, 1, 2], I_68), (158, [0, 1, 3], I_158)] Q 400 0 [(0, ar 0)] [] M := by
  have h3 : 0 ≤ M 1 4 ∧ M 1 4 ≤ 3 := (okY_n hP.1).1
  simp only [e_wp dX0_lays_0 rfl, e_wp dX0_lays_1 rfl, e_wp dX0_lays_2 rfl, e_wp dX0_lays_3 rfl, e_wp dX0_lays_4 rfl, e_wp dX0_lays_7 rfl, e_wp dX0_lays_10 rfl, e_wp dX0_lays_13 rfl, e_wp dX0_lays_14 rfl, e_wp dX0_lays_17 rfl, e_wp dX0_lays_18 rfl, e_wp dX0_lays_19 rfl, e_wp dX0_lays_20 rfl, e_wp dX0_lays_21 rfl, e_wp dX0_lays_24 rfl, e_wp dX0_lays_25 rfl, e_wp dX0_lays_26 rfl, e_wp dX0_lays_27 rfl, e_wp dX0_lays_30 rfl, e_wp dX0_lays_33 rfl, e_wp dX0_lays_34 rfl, e_wp dX0_lays_35 rfl, e_wp dX0_lays_36 rfl, e_wp dX0_lays_37 rfl, e_wp dX0_lays_40 rfl, e_wp dX0_lays_43 rfl, e_wp dX0_lays_46 rfl, e_wp dX0_lays_47 rfl, e_wp dX0_lays_50 rfl, e_wp dX0_lays_51 rfl, e_wp dX0_lays_52 rfl, e_wp dX0_lays_53 rfl, e_wp dX0_lays_54 rfl, e_wp dX0_lays_57 rfl, e_wp dX0_lays_58 rfl, e_wp dX0_lays_61 rfl, e_wp dX0_lays_64 rfl, e_wp dX0_lays_65 rfl, e_wp dX0_lays_68 rfl, e_wp dX0_lays_69 rfl, e_wp dX0_lays_72 rfl, e_wp dX0_lays_73 rfl, e_wp dX0_lays_74 rfl, e_wp dX0_lays_75 rfl, e_wp dX0_lays_76 rfl, e_wp dX0_lays_79 rfl, e_wp dX0_lays_80 rfl, e_wp dX0_lays_81 rfl, e_wp dX0_lays_82 rfl, e_wp dX0_lays_83 rfl, e_wp dX0_lays_86 rfl, e_wp dX0_lays_87 rfl, e_wp dX0_lays_88 rfl, e_wp dX0_lays_89 rfl, e_wp dX0_lays_90 rfl, e_wp dX0_lays_93 rfl, e_wp dX0_lays_94 rfl, e_wp dX0_lays_95 rfl, e_wp dX0_lays_96 rfl, e_wp dX0_lays_97 rfl, e_wp dX0_lays_100 rfl, e_wp dX0_lays_101 rfl, e_wp dX0_lays_102 rfl, e_wp dX0_lays_103 rfl, e_wp dX0_lays_104 rfl, e_wp dX0_lays_107 rfl, e_wp dX0_lays_108 rfl, e_wp dX0_lays_109 rfl, e_wp dX0_lays_110 rfl, e_wp dX0_lays_113 rfl, e_wp dX0_lays_114 rfl, e_wp dX0_lays_115 rfl, e_wp dX0_lays_118 rfl, e_wp dX0_lays_119 rfl, e_wp dX0_lays_122 rfl, e_wp dX0_lays_125 rfl, e_wp dX0_lays_126 rfl, e_wp dX0_lays_129 rfl, e_wp dX0_lays_130 rfl, e_wp dX0_lays_131 rfl, e_wp dX0_lays_132 rfl, e_wp dX0_lays_135 rfl, e_wp dX0_lays_136 rfl, e_wp dX0_lays_139 rfl, e_wp dX0_lays_140 rfl, e_wp dX0_lays_143 rfl, e_wp dX0_lays_144 rfl, e_wp dX0_lays_145 rfl, e_wp dX0_lays_146 rfl, e_wp dX0_lays_147 rfl, e_wp dX0_lays_150 rfl, e_wp dX0_lays_151 rfl, e_wp dX0_lays_152 rfl, e_wp dX0_lays_153 rfl, e_wp dX0_lays_156 rfl, e_wp dX0_lays_157 rfl, e_wp dX0_lays_158 rfl, e_wp dX0_lays_159 rfl, e_wp dX0_lays_160 rfl, e_wp dX0_lays_163 rfl, e_wp dX0_lays_166 rfl, e_wp dX0_lays_169 rfl, e_wp dX0_lays_170 rfl, e_wp dX0_lays_173 rfl, e_wp dX0_lays_174 rfl, e_wp dX0_lays_175 rfl, e_wp dX0_lays_176 rfl, e_wp dX0_lays_177 rfl, e_wp dX0_lays_178 rfl, e_wp dX0_lays_179 rfl, e_wp dX0_lays_182 rfl, e_wp dX0_lays_183 rfl, e_wp dX0_lays_184 rfl, e_wp dX0_lays_185 rfl, e_wp dX0_lays_186 rfl, e_wp dX0_lays_189 rfl, e_wp dX0_lays_190 rfl, e_wp dX0_lays_191 rfl, e_wp dX0_lays_192 rfl, e_wp dX0_lays_193 rfl, e_wp dX0_lays_194 rfl, e_wp dX0_lays_195 rfl, e_wp dX0_lays_196 rfl, e_wp dX0_lays_199 rfl, e_wp dX0_lays_200 rfl, e_wp dX0_lays_201 rfl, e_wp dX0_lays_204 rfl, e_wp dX0_lays_206 rfl, e_wp dX0_lays_207 rfl, e_wp dX0_lays_208 rfl, e_wp dX0_lays_209 rfl, e_wp dX0_lays_212 rfl, e_wp dX0_lays_214 rfl, e_wp dX0_lays_215 rfl, e_wp dX0_lays_216 rfl, e_wp dX0_lays_217 rfl, e_wp dX0_lays_218 rfl, e_wp dX0_lays_219 rfl, e_wp dX0_lays_220 rfl, e_wp dX0_lays_222 rfl, e_wp dX0_lays_225 rfl, e_wp dX0_lays_228 rfl, e_wp dX0_lays_231 rfl, e_wp dX0_lays_234 rfl, e_wp dX0_lays_237 rfl, g0_10, g0_153, g0_31, g0_83, g0_156, g0_62, g0_203, c0_isOf, P0_isOf, V0_isOf, cs0_lays, c0_freezes, g0_65, g0_71, g0_74, g0_77, g0_80, g0_68, c0_comesTo, P0_comesTo, V0_comesTo, g0_204, c0_goes_2, g0_89, g0_92, c0_sagOf, P0_sagOf, V0_sagOf, g0_24, g0_86, c0_copy, a8_13, w8_13, a8_14, w8_14, a8_15, w8_15, a8_16, w8_16, a8_17, w8_17, a8_18, w8_18, a8_19, w8_19, a8_20, w8_20, a8_21, w8_21, a8_22, w8_22, a8_23, w8_23, a8_24, w8_24, a8_25, w8_25, a8_26, w8_26, a8_27, w8_27, a8_28, w8_28, a8_29, w8_29, a8_30, w8_30, a8_31, w8_31, a8_32, w8_32, a8_33, w8_33, a8_34, w8_34, a8_35, w8_35, a8_36, w8_36, a8_37, w8_37, a8_38, w8_38, a8_39, w8_39, a8_40, w8_40, a8_12, w8_12, a8_6, a8_7, e_iconst, e_bipush, e_sipush, e_lconst_0, e_lconst_1, e_iload, e_iload_0, e_iload_1, e_iload_2, e_iload_3, e_lload, e_lload_0, e_lload_1, e_lload_2, e_lload_3, e_aload, e_aload_0, e_aload_1, e_aload_2, e_aload_3, e_istore, e_istore_0, e_istore_1, e_istore_2, e_istore_3, e_astore, e_astore_0, e_astore_1, e_astore_2, e_astore_3, e_lstore, e_lstore_0, e_lstore_1, e_lstore_2, e_lstore_3, e_iinc, e_iadd, e_isub, e_imul, e_ladd, e_lsub, e_lmul, e_idiv, e_irem, e_ldiv, e_lrem, e_ineg, e_lneg, e_iand, e_ior, e_ixor, e_ishl, e_ishr, e_iushr, e_lcmp, e_i2l, e_l2i, e_i2b, e_i2s, e_dup_i, e_dup_r, e_pop_i, e_pop_r, e_dup2_l, e_dup2_ir, e_dup2_ii, e_ifeq, e_ifne, e_iflt, e_ifge, e_ifgt, e_ifle, e_iceq, e_icne, e_iclt, e_icge, e_icgt, e_icle, e_goto, e_switch, e_invokevirtual, e_invokestatic, e_invokespecial, e_ret0, e_ret1, e_ret2, e_ret3, ldI_s, ldL_s, ldR_s, clO_s, ctP_s, ctS_s, mgo_0, mgo_s, pjc_s, pj_0, pj_s, lk_s, rm1_0, rm1_i, rm1_r, rm1_l, rm2_0, rm2_i, rm2_r, rm2_l, csL_s, lc_lt, lc_ge, lc_gt, lc_le, lc_eq, b01_0, b01_1, b01_01, b01_n, up2_o, up2_s, up2_u, ne_eq, reduceCtorEq, Nat.reduceAdd, Nat.reduceEqDiff, Nat.reduceLT, Nat.reduceLeDiff, Int.reduceLE, Int.reduceLT, Int.reduceAdd, Int.reduceNeg, Int.reduceMul, Int.reduceSub, Int.reduceEq, Int.reduceToNat, Int.reduceNatCast, Int.cast_ofNat_Int, ↓reduceIte, and_self, List.drop_succ_cons, List.drop_zero, List.take_succ_cons, List.take_zero, List.length_cons, List.length_nil, List.reverse_cons, List.reverse_nil, List.nil_append, List.cons_append, Option.toList, true_and, and_true, or_false, false_or, or_true, true_or, forall_const, Classical.not_not, not_false_eq_true, not_true_eq_false, false_implies, true_implies, implies_true, imp_self]
  exact hI_2 _ _ _ ⟨0, rfl, h3.1, frm_rf, fun a ha => by omega, rfl⟩
set_option maxHeartbeats 4000000 in
set_option maxRecDepth 100000 in
theorem at0_lays_2 {rs : List (Nat × Nat)} {M : Mm} {Q : Option AV → Mm → Prop} (hM : okM (sh8 rs) M) (hP : P0_lays rs M) (hQ : ∀ (M1 : Mm), R0_lays rs M M1 → Q none M1) {m : Nat} {b : Int} {M1 : Mm} (hM1 : okM (sh8 rs) M1) (h_b : i32 b) (hJ : J0_lays_2 rs M m b M1) (I_2 : List AV → Mm → Prop) (hI_2 : ∀ (m_ : Nat) (y_b : Int) (M2 : Mm), m_ < m → J0_lays_2 rs M m_ y_b M2 → I_2 [ar 0, ai y_b] M2) (I_35 : List AV → Mm → Prop) (hI_35 : ∀ (m_ : Nat) (y_t : Int) (M2 : Mm), m_ < m → J0_lays_35 rs M m_ y_t M2 → I_35 [ar 0, ai y_t] M2) (I_68 : List AV → Mm → Prop) (hI_68 : ∀ (m_ : Nat) (y_t : Int) (y_c : Int) (M2 : Mm), m_ < m → J0_lays_68 rs M m_ y_t y_c M2 → I_68 [ar 0, ai y_t, ai y_c] M2) (I_158 : List AV → Mm → Prop) (hI_158 : ∀ (m_ : Nat) (y_t : Int) (y_b : Int) (M2 : Mm), m_ < m → J0_lays_158 rs M m_ y_t y_b M2 → I_158 [ar 0, ai y_t, ai y_b] M2) : wp (tb0 (csL (cs0_lays rs))) (sh8 rs) 4 0 cX0_lays [(2, [0, 1], I_2), (35, [0, 1], I_35), (68, [0, 1, 2], I_68), (158, [0, 1, 3], I_158)] Q 400 2 [(0, ar 0), (1, ai b)] [] M1 := by
  obtain ⟨n, rfl, hn, t1, t2, rfl⟩ := hJ
  obtain ⟨hY, hC, hB⟩ := id hP
  have h3 : 0 ≤ M 1 4 ∧ M 1 4 ≤ 3 := (okY_n hY).1
  have h4 : 0 ≤ M 1 5 ∧ M 1 5 ≤ 7 := (okY_n hY).2.1
  have e1 : M1 1 = M 1 := t1 _ (by decide)
  simp only [e_wp dX0_lays_0 rfl, e_wp dX0_lays_1 rfl, e_wp dX0_lays_2 rfl, e_wp dX0_lays_3 rfl, e_wp dX0_lays_4 rfl, e_wp dX0_lays_7 rfl, e_wp dX0_lays_10 rfl, e_wp dX0_lays_13 rfl, e_wp dX0_lays_14 rfl, e_wp dX0_lays_17 rfl, e_wp dX0_lays_18 rfl, e_wp dX0_lays_19 rfl, e_wp dX0_lays_20 rfl, e_wp dX0_lays_21 rfl, e_wp dX0_lays_24 rfl, e_wp dX0_lays_25 rfl, e_wp dX0_lays_26 rfl, e_wp dX0_lays_27 rfl, e_wp dX0_lays_30 rfl, e_wp dX0_lays_33 rfl, e_wp dX0_lays_34 rfl, e_wp dX0_lays_35 rfl, e_wp dX0_lays_36 rfl, e_wp dX0_lays_37 rfl, e_wp dX0_lays_40 rfl, e_wp dX0_lays_43 rfl, e_wp dX0_lays_46 rfl, e_wp dX0_lays_47 rfl, e_wp dX0_lays_50 rfl, e_wp dX0_lays_51 rfl, e_wp dX0_lays_52 rfl, e_wp dX0_lays_53 rfl, e_wp dX0_lays_54 rfl, e_wp dX0_lays_57 rfl, e_wp dX0_lays_58 rfl, e_wp dX0_lays_61 rfl, e_wp dX0_lays_64 rfl, e_wp dX0_lays_65 rfl, e_wp dX0_lays_68 rfl, e_wp dX0_lays_69 rfl, e_wp dX0_lays_72 rfl, e_wp dX0_lays_73 rfl, e_wp dX0_lays_74 rfl, e_wp dX0_lays_75 rfl, e_wp dX0_lays_76 rfl, e_wp dX0_lays_79 rfl, e_wp dX0_lays_80 rfl, e_wp dX0_lays_81 rfl, e_wp dX0_lays_82 rfl, e_wp dX0_lays_83 rfl, e_wp dX0_lays_86 rfl, e_wp dX0_lays_87 rfl, e_wp dX0_lays_88 rfl, e_wp dX0_lays_89 rfl, e_wp dX0_lays_90 rfl, e_wp dX0_lays_93 rfl, e_wp dX0_lays_94 rfl, e_wp dX0_lays_95 rfl, e_wp dX0_lays_96 rfl, e_wp dX0_lays_97 rfl, e_wp dX0_lays_100 rfl, e_wp dX0_lays_101 rfl, e_wp dX0_lays_102 rfl, e_wp dX0_lays_103 rfl, e_wp dX0_lays_104 rfl, e_wp dX0_lays_107 rfl, e_wp dX0_lays_108 rfl, e_wp dX0_lays_109 rfl, e_wp dX0_lays_110 rfl, e_wp dX0_lays_113 rfl, e_wp dX0_lays_114 rfl, e_wp dX0_lays_115 rfl, e_wp dX0_lays_118 rfl, e_wp dX0_lays_119 rfl, e_wp dX0_lays_122 rfl, e_wp dX0_lays_125 rfl, e_wp dX0_lays_126 rfl, e_wp dX0_lays_129 rfl, e_wp dX0_lays_130 rfl, e_wp dX0_lays_131 rfl, e_wp dX0_lays_132 rfl, e_wp dX0_lays_135 rfl, e_wp dX0_lays_136 rfl, e_wp dX0_lays_139 rfl, e_wp dX0_lays_140 rfl, e_wp dX0_lays_143 rfl, e_wp dX0_lays_144 rfl, e_wp dX0_lays_145 rfl, e_wp dX0_lays_146 rfl, e_wp dX0_lays_147 rfl, e_wp dX0_lays_150 rfl, e_wp dX0_lays_151 rfl, e_wp dX0_lays_152 rfl, e_wp dX0_lays_153 rfl, e_wp dX0_lays_156 rfl, e_wp dX0_lays_157 rfl, e_wp dX0_lays_158 rfl, e_wp dX0_lays_159 rfl, e_wp dX0_lays_160 rfl, e_wp dX0_lays_163 rfl, e_wp dX0_lays_166 rfl, e_wp dX0_lays_169 rfl, e_wp dX0_lays_170 rfl, e_wp dX0_lays_173 rfl, e_wp dX0_lays_174 rfl, e_wp dX0_lays_175 rfl, e_wp dX0_lays_176 rfl, e_wp dX0_lays_177 rfl, e_wp dX0_lays_178 rfl, e_wp dX0_lays_179 rfl, e_wp dX0_lays_182 rfl, e_wp dX0_lays_183 rfl, e_wp dX0_lays_184 rfl, e_wp dX0_lays_185 rfl, e_wp dX0_lays_186 rfl, e_wp dX0_lays_189 rfl, e_wp dX0_lays_190 rfl, e_wp dX0_lays_191 rfl, e_wp dX0_lays_192 rfl, e_wp dX0_lays_193 rfl, e_wp dX0_lays_194 rfl, e_wp dX0_lays_195 rfl, e_wp dX0_lays_196 rfl, e_wp dX0_lays_199 rfl, e_wp dX0_lays_200 rfl, e_wp dX0_lays_201 rfl, e_wp dX0_lays_204 rfl, e_wp dX0_lays_206 rfl, e_wp dX0_lays_207 rfl, e_wp dX0_lays_208 rfl, e_wp dX0_lays_209 rfl, e_wp dX0_lays_212 rfl, e_wp dX0_lays_214 rfl, e_wp dX0_lays_215 rfl, e_wp dX0_lays_216 rfl, e_wp dX0_lays_217 rfl, e_wp dX0_lays_218 rfl, e_wp dX0_lays_219 rfl, e_wp dX0_lays_220 rfl, e_wp dX0_lays_222 rfl, e_wp dX0_lays_225 rfl, e_wp dX0_lays_228 rfl, e_wp dX0_lays_231 rfl, e_wp dX0_lays_234 rfl, e_wp dX0_lays_237 rfl, g0_10, g0_153, g0_31, g0_83, g0_156, g0_62, g0_203, c0_isOf, P0_isOf, V0_isOf, cs0_lays, c0_freezes, g0_65, g0_71, g0_74, g0_77, g0_80, g0_68, c0_comesTo, P0_comesTo, V0_comesTo, g0_204, c0_goes_2, g0_89, g0_92, c0_sagOf, P0_sagOf, V0_sagOf, g0_24, g0_86, c0_copy, a8_13, w8_13, a8_14, w8_14, a8_15, w8_15, a8_16, w8_16, a8_17, w8_17, a8_18, w8_18, a8_19, w8_19, a8_20, w8_20, a8_21, w8_21, a8_22, w8_22, a8_23, w8_23, a8_24, w8_24, a8_25, w8_25, a8_26, w8_26, a8_27, w8_27, a8_28, w8_28, a8_29, w8_29, a8_30, w8_30, a8_31, w8_31, a8_32, w8_32, a8_33, w8_33, a8_34, w8_34, a8_35, w8_35, a8_36, w8_36, a8_37, w8_37, a8_38, w8_38, a8_39, w8_39, a8_40, w8_40, a8_12, w8_12, a8_6, a8_7, e_iconst, e_bipush, e_sipush, e_lconst_0, e_lconst_1, e_iload, e_iload_0, e_iload_1, e_iload_2, e_iload_3, e_lload, e_lload_0, e_lload_1, e_lload_2, e_lload_3, e_aload, e_aload_0, e_aload_1, e_aload_2, e_aload_3, e_istore, e_istore_0, e_istore_1, e_istore_2, e_istore_3, e_astore, e_astore_0, e_astore_1, e_astore_2, e_astore_3, e_lstore, e_lstore_0, e_lstore_1, e_lstore_2, e_lstore_3, e_iinc, e_iadd, e_isub, e_imul, e_ladd, e_lsub, e_lmul, e_idiv, e_irem, e_ldiv, e_lrem, e_ineg, e_lneg, e_iand, e_ior, e_ixor, e_ishl, e_ishr, e_iushr, e_lcmp, e_i2l, e_l2i, e_i2b, e_i2s, e_dup_i, e_dup_r, e_pop_i, e_pop_r, e_dup2_l, e_dup2_ir, e_dup2_ii, e_ifeq, e_ifne, e_iflt, e_ifge, e_ifgt, e_ifle, e_iceq, e_icne, e_iclt, e_icge, e_icgt, e_icle, e_goto, e_switch, e_invokevirtual, e_invokestatic, e_invokespecial, e_ret0, e_ret1, e_ret2, e_ret3, ldI_s, ldL_s, ldR_s, clO_s, ctP_s, ctS_s, mgo_0, mgo_s, pjc_s, pj_0, pj_s, lk_s, rm1_0, rm1_i, rm1_r, rm1_l, rm2_0, rm2_i, rm2_r, rm2_l, csL_s, lc_lt, lc_ge, lc_gt, lc_le, lc_eq, b01_0, b01_1, b01_01, b01_n, up2_o, up2_s, up2_u, ne_eq, reduceCtorEq, Nat.reduceAdd, Nat.reduceEqDiff, Nat.reduceLT, Nat.reduceLeDiff, Int.reduceLE, Int.reduceLT, Int.reduceAdd, Int.reduceNeg, Int.reduceMul, Int.reduceSub, Int.reduceEq, Int.reduceToNat, Int.reduceNatCast, Int.cast_ofNat_Int, ↓reduceIte, and_self, List.drop_succ_cons, List.drop_zero, List.take_succ_cons, List.take_zero, List.length_cons, List.length_nil, List.reverse_cons, List.reverse_nil, List.nil_append, List.cons_append, Option.toList, true_and, and_true, or_false, false_or, or_true, true_or, forall_const, Classical.not_not, not_false_eq_true, not_true_eq_false, false_implies, true_implies, implies_true, imp_self, e1, Int.toNat_natCast]
  refine ⟨fun q => ?_, fun q => ?_⟩
  · have hb0 : ∀ b : Nat, (b : Int) < M 1 4 → mbX M1 b = [] ∧ okBX M1 b := by
      intro b hb
      have hd := (t2 b (by omega)).1
      have e : mbX M1 b = [] := by
        show stk (mfX M1 b) (M1 15 ((b : Int)).toNat).toNat = []
        rw [Int.toNat_natCast, hd]
        rfl
      exact ⟨e, ⟨by omega, by omega⟩, by rw [Int.toNat_natCast, hd]; omega, by rw [e]; exact okL_0⟩
    refine hI_35 _ _ _ (by omega) ⟨0, rfl, h4.1, ⟨frm_w t1 (by decide), ⟨wX_eq (by rw [t1 0 (by decide)]), fun j _ => by rw [t1 0 (by decide)]⟩, fun b hb => ?_, fun b hb => ?_, fun _ t ht => by omega⟩, fun u b hu => by omega, rfl⟩
    · have := t2 b (by omega)
      exact ⟨⟨(hb0 b hb).2, by omega⟩, by omega⟩
    · have hb3 : (b : Int) < M 1 4 := hb
      exact ⟨(hb0 b hb).1, (t2 b (by omega)).2⟩
  · repeat (refine And.intro (by omega) ?_)
    refine hI_2 _ _ _ (by omega) ⟨n + 1, by omega, by omega, frm_up (frm_up t1 (by decide)) (by decide), fun a ha => ?_, rfl⟩
    by_cases e : a = n
    · simp [up2_r, e]
    · simp only [up2_r, e, and_false, if_false]
      exact t2 a (by omega)
set_option maxHeartbeats 4000000 in
set_option maxRecDepth 100000 in
theorem at0_lays_35 {rs : List (Nat × Nat)} {M : Mm} {Q : Option AV → Mm → Prop} (hM : okM (sh8 rs) M) (hP : P0_lays rs M) (hQ : ∀ (M1 : Mm), R0_lays rs M M1 → Q none M1) {m : Nat} {t : Int} {M1 : Mm} (hM1 : okM (sh8 rs) M1) (h_t : i32 t) (hJ : J0_lays_35 rs M m t M1) (I_2 : List AV → Mm → Prop) (hI_2 : ∀ (m_ : Nat) (y_b : Int) (M2 : Mm), m_ < m → J0_lays_2 rs M m_ y_b M2 → I_2 [ar 0, ai y_b] M2) (I_35 : List AV → Mm → Prop) (hI_35 : ∀ (m_ : Nat) (y_t : Int) (M2 : Mm), m_ < m → J0_lays_35 rs M m_ y_t M2 → I_35 [ar 0, ai y_t] M2) (I_68 : List AV → Mm → Prop) (hI_68 : ∀ (m_ : Nat) (y_t : Int) (y_c : Int) (M2 : Mm), m_ < m → J0_lays_68 rs M m_ y_t y_c M2 → I_68 [ar 0, ai y_t, ai y_c] M2) (I_158 : List AV → Mm → Prop) (hI_158 : ∀ (m_ : Nat) (y_t : Int) (y_b : Int) (M2 : Mm), m_ < m → J0_lays_158 rs M m_ y_t y_b M2 → I_158 [ar 0, ai y_t, ai y_b] M2) : wp (tb0 (csL (cs0_lays rs))) (sh8 rs) 4 0 cX0_lays [(2, [0, 1], I_2), (35, [0, 1], I_35), (68, [0, 1, 2], I_68), (158, [0, 1, 3], I_158)] Q 400 35 [(0, ar 0), (1, ai t)] [] M1 := by
  obtain ⟨n, rfl, hn, hm, ht, rfl⟩ := hJ
  obtain ⟨hY, hC, hB⟩ := id hP
  have h3 : 0 ≤ M 1 4 ∧ M 1 4 ≤ 3 := (okY_n hY).1
  have h4 : 0 ≤ M 1 5 ∧ M 1 5 ≤ 7 := (okY_n hY).2.1
  have h1f : 0 ≤ M 1 1 ∧ M 1 1 ≤ 50 := (okY_n hY).2.2.2
  obtain ⟨eV, eC, e1, e18⟩ := midX_v hm
  have e24 : M1 0 24 = M 0 24 := hm.2.1.2 _ (by decide)
  simp only [e_wp dX0_lays_0 rfl, e_wp dX0_lays_1 rfl, e_wp dX0_lays_2 rfl, e_wp dX0_lays_3 rfl, e_wp dX0_lays_4 rfl, e_wp dX0_lays_7 rfl, e_wp dX0_lays_10 rfl, e_wp dX0_lays_13 rfl, e_wp dX0_lays_14 rfl, e_wp dX0_lays_17 rfl, e_wp dX0_lays_18 rfl, e_wp dX0_lays_19 rfl, e_wp dX0_lays_20 rfl, e_wp dX0_lays_21 rfl, e_wp dX0_lays_24 rfl, e_wp dX0_lays_25 rfl, e_wp dX0_lays_26 rfl, e_wp dX0_lays_27 rfl, e_wp dX0_lays_30 rfl, e_wp dX0_lays_33 rfl, e_wp dX0_lays_34 rfl, e_wp dX0_lays_35 rfl, e_wp dX0_lays_36 rfl, e_wp dX0_lays_37 rfl, e_wp dX0_lays_40 rfl, e_wp dX0_lays_43 rfl, e_wp dX0_lays_46 rfl, e_wp dX0_lays_47 rfl, e_wp dX0_lays_50 rfl, e_wp dX0_lays_51 rfl, e_wp dX0_lays_52 rfl, e_wp dX0_lays_53 rfl, e_wp dX0_lays_54 rfl, e_wp dX0_lays_57 rfl, e_wp dX0_lays_58 rfl, e_wp dX0_lays_61 rfl, e_wp dX0_lays_64 rfl, e_wp dX0_lays_65 rfl, e_wp dX0_lays_68 rfl, e_wp dX0_lays_69 rfl, e_wp dX0_lays_72 rfl, e_wp dX0_lays_73 rfl, e_wp dX0_lays_74 rfl, e_wp dX0_lays_75 rfl, e_wp dX0_lays_76 rfl, e_wp dX0_lays_79 rfl, e_wp dX0_lays_80 rfl, e_wp dX0_lays_81 rfl, e_wp dX0_lays_82 rfl, e_wp dX0_lays_83 rfl, e_wp dX0_lays_86 rfl, e_wp dX0_lays_87 rfl, e_wp dX0_lays_88 rfl, e_wp dX0_lays_89 rfl, e_wp dX0_lays_90 rfl, e_wp dX0_lays_93 rfl, e_wp dX0_lays_94 rfl, e_wp dX0_lays_95 rfl, e_wp dX0_lays_96 rfl, e_wp dX0_lays_97 rfl, e_wp dX0_lays_100 rfl, e_wp dX0_lays_101 rfl, e_wp dX0_lays_102 rfl, e_wp dX0_lays_103 rfl, e_wp dX0_lays_104 rfl, e_wp dX0_lays_107 rfl, e_wp dX0_lays_108 rfl, e_wp dX0_lays_109 rfl, e_wp dX0_lays_110 rfl, e_wp dX0_lays_113 rfl, e_wp dX0_lays_114 rfl, e_wp dX0_lays_115 rfl, e_wp dX0_lays_118 rfl, e_wp dX0_lays_119 rfl, e_wp dX0_lays_122 rfl, e_wp dX0_lays_125 rfl, e_wp dX0_lays_126 rfl, e_wp dX0_lays_129 rfl, e_wp dX0_lays_130 rfl, e_wp dX0_lays_131 rfl, e_wp dX0_lays_132 rfl, e_wp dX0_lays_135 rfl, e_wp dX0_lays_136 rfl, e_wp dX0_lays_139 rfl, e_wp dX0_lays_140 rfl, e_wp dX0_lays_143 rfl, e_wp dX0_lays_144 rfl, e_wp dX0_lays_145 rfl, e_wp dX0_lays_146 rfl, e_wp dX0_lays_147 rfl, e_wp dX0_lays_150 rfl, e_wp dX0_lays_151 rfl, e_wp dX0_lays_152 rfl, e_wp dX0_lays_153 rfl, e_wp dX0_lays_156 rfl, e_wp dX0_lays_157 rfl, e_wp dX0_lays_158 rfl, e_wp dX0_lays_159 rfl, e_wp dX0_lays_160 rfl, e_wp dX0_lays_163 rfl, e_wp dX0_lays_166 rfl, e_wp dX0_lays_169 rfl, e_wp dX0_lays_170 rfl, e_wp dX0_lays_173 rfl, e_wp dX0_lays_174 rfl, e_wp dX0_lays_175 rfl, e_wp dX0_lays_176 rfl, e_wp dX0_lays_177 rfl, e_wp dX0_lays_178 rfl, e_wp dX0_lays_179 rfl, e_wp dX0_lays_182 rfl, e_wp dX0_lays_183 rfl, e_wp dX0_lays_184 rfl, e_wp dX0_lays_185 rfl, e_wp dX0_lays_186 rfl, e_wp dX0_lays_189 rfl, e_wp dX0_lays_190 rfl, e_wp dX0_lays_191 rfl, e_wp dX0_lays_192 rfl, e_wp dX0_lays_193 rfl, e_wp dX0_lays_194 rfl, e_wp dX0_lays_195 rfl, e_wp dX0_lays_196 rfl, e_wp dX0_lays_199 rfl, e_wp dX0_lays_200 rfl, e_wp dX0_lays_201 rfl, e_wp dX0_lays_204 rfl, e_wp dX0_lays_206 rfl, e_wp dX0_lays_207 rfl, e_wp dX0_lays_208 rfl, e_wp dX0_lays_209 rfl, e_wp dX0_lays_212 rfl, e_wp dX0_lays_214 rfl, e_wp dX0_lays_215 rfl, e_wp dX0_lays_216 rfl, e_wp dX0_lays_217 rfl, e_wp dX0_lays_218 rfl, e_wp dX0_lays_219 rfl, e_wp dX0_lays_220 rfl, e_wp dX0_lays_222 rfl, e_wp dX0_lays_225 rfl, e_wp dX0_lays_228 rfl, e_wp dX0_lays_231 rfl, e_wp dX0_lays_234 rfl, e_wp dX0_lays_237 rfl, g0_10, g0_153, g0_31, g0_83, g0_156, g0_62, g0_203, c0_isOf, P0_isOf, V0_isOf, cs0_lays, c0_freezes, g0_65, g0_71, g0_74, g0_77, g0_80, g0_68, c0_comesTo, P0_comesTo, V0_comesTo, g0_204, c0_goes_2, g0_89, g0_92, c0_sagOf, P0_sagOf, V0_sagOf, g0_24, g0_86, c0_copy, a8_13, w8_13, a8_14, w8_14, a8_15, w8_15, a8_16, w8_16, a8_17, w8_17, a8_18, w8_18, a8_19, w8_19, a8_20, w8_20, a8_21, w8_21, a8_22, w8_22, a8_23, w8_23, a8_24, w8_24, a8_25, w8_25, a8_26, w8_26, a8_27, w8_27, a8_28, w8_28, a8_29, w8_29, a8_30, w8_30, a8_31, w8_31, a8_32, w8_32, a8_33, w8_33, a8_34, w8_34, a8_35, w8_35, a8_36, w8_36, a8_37, w8_37, a8_38, w8_38, a8_39, w8_39, a8_40, w8_40, a8_12, w8_12, a8_6, a8_7, e_iconst, e_bipush, e_sipush, e_lconst_0, e_lconst_1, e_iload, e_iload_0, e_iload_1, e_iload_2, e_iload_3, e_lload, e_lload_0, e_lload_1, e_lload_2, e_lload_3, e_aload, e_aload_0, e_aload_1, e_aload_2, e_aload_3, e_istore, e_istore_0, e_istore_1, e_istore_2, e_istore_3, e_astore, e_astore_0, e_astore_1, e_astore_2, e_astore_3, e_lstore, e_lstore_0, e_lstore_1, e_lstore_2, e_lstore_3, e_iinc, e_iadd, e_isub, e_imul, e_ladd, e_lsub, e_lmul, e_idiv, e_irem, e_ldiv, e_lrem, e_ineg, e_lneg, e_iand, e_ior, e_ixor, e_ishl, e_ishr, e_iushr, e_lcmp, e_i2l, e_l2i, e_i2b, e_i2s, e_dup_i, e_dup_r, e_pop_i, e_pop_r, e_dup2_l, e_dup2_ir, e_dup2_ii, e_ifeq, e_ifne, e_iflt, e_ifge, e_ifgt, e_ifle, e_iceq, e_icne, e_iclt, e_icge, e_icgt, e_icle, e_goto, e_switch, e_invokevirtual, e_invokestatic, e_invokespecial, e_ret0, e_ret1, e_ret2, e_ret3, ldI_s, ldL_s, ldR_s, clO_s, ctP_s, ctS_s, mgo_0, mgo_s, pjc_s, pj_0, pj_s, lk_s, rm1_0, rm1_i, rm1_r, rm1_l, rm2_0, rm2_i, rm2_r, rm2_l, csL_s, lc_lt, lc_ge, lc_gt, lc_le, lc_eq, b01_0, b01_1, b01_01, b01_n, up2_o, up2_s, up2_u, ne_eq, reduceCtorEq, Nat.reduceAdd, Nat.reduceEqDiff, Nat.reduceLT, Nat.reduceLeDiff, Int.reduceLE, Int.reduceLT, Int.reduceAdd, Int.reduceNeg, Int.reduceMul, Int.reduceSub, Int.reduceEq, Int.reduceToNat, Int.reduceNatCast, Int.cast_ofNat_Int, ↓reduceIte, and_self, List.drop_succ_cons, List.drop_zero, List.take_succ_cons, List.take_zero, List.length_cons, List.length_nil, List.reverse_cons, List.reverse_nil, List.nil_append, List.cons_append, Option.toList, true_and, and_true, or_false, false_or, or_true, true_or, forall_const, Classical.not_not, not_false_eq_true, not_true_eq_false, false_implies, true_implies, implies_true, imp_self, e1, e18, Int.toNat_natCast]
  refine ⟨fun q => hQ _ ⟨hm.1, hm.2.1, ranX_of hC (by omega) hm ht⟩, fun q => ?_⟩
  have hrow : 0 ≤ M 18 n ∧ M 18 n < M 1 5 := (hC.2 n q).2.2
  repeat (refine And.intro (by omega) ?_)
  refine ⟨fun z => ?_, fun z => ⟨⟨by rw [e1]; exact h3, by rw [e1]; exact h1f, fun b q1 q2 => ?_⟩, fun M2 hR => ?_⟩⟩
  · refine hI_68 _ _ _ _ (by omega) ⟨n, M1, rfl, rfl, q, hm, ht, ⟨frm_rf, fun b hb => ?_, fun S hS => ?_⟩, rfl⟩
    · rw [e1] at hb
      exact ⟨(hm.2.2.1 b hb).1.1, Int.le_refl _⟩
    · unfold frzA
      rw [if_neg (show ¬ bitP (cX M1 0 1) n from z)]
      exact hS
  · rw [e1] at q2
    have := (hm.2.2.1 b.toNat (by omega)).1.1
    rwa [Int.toNat_of_nonneg q1] at this
  · obtain ⟨r1, r2⟩ := hR
    rw [e1] at r2
    refine hI_68 _ _ _ _ (by omega) ⟨n, M1, rfl, rfl, q, hm, ht, ⟨r1, fun b hb => ?_, fun S hS b hb => ?_⟩, rfl⟩
    · rw [e1] at hb
      obtain ⟨x1, x2⟩ := r2 b (by omega) hb
      refine ⟨x2, ?_⟩
      have y1 := mb_lenX x2
      have y2 := mb_lenX (hm.2.2.1 b hb).1.1
      rw [x1] at y1
      have y3 := frz_len (M 1 1) (mbX M1 b)
      rw [Int.toNat_natCast] at y1 y2
      omega
    · rw [eV] at hb hS
      have hb3 : (b : Int) < M 1 4 := hb
      obtain ⟨x1, x2⟩ := r2 b (by omega) hb3
      obtain ⟨s1, s2⟩ := hS b hb
      unfold frzA
      rw [if_pos (show bitP (cX M1 0 1) n from z), r1 _ (by decide), eV]
      refine ⟨?_, s2⟩
      rw [x1, s1]
      rfl
set_option maxHeartbeats 4000000 in
set_option maxRecDepth 100000 in
theorem at0_lays_68 {rs : List (Nat × Nat)} {M : Mm} {Q : Option AV → Mm → Prop} (hM : okM (sh8 rs) M) (hP : P0_lays rs M) (hQ : ∀ (M1 : Mm), R0_lays rs M M1 → Q none M1) {m : Nat} {t c : Int} {M1 : Mm} (hM1 : okM (sh8 rs) M1) (h_t : i32 t) (h_c : i32 c) (hJ : J0_lays_68 rs M m t c M1) (I_2 : List AV → Mm → Prop) (hI_2 : ∀ (m_ : Nat) (y_b : Int) (M2 : Mm), m_ < m → J0_lays_2 rs M m_ y_b M2 → I_2 [ar 0, ai y_b] M2) (I_35 : List AV → Mm → Prop) (hI_35 : ∀ (m_ : Nat) (y_t : Int) (M2 : Mm), m_ < m → J0_lays_35 rs M m_ y_t M2 → I_35 [ar 0, ai y_t] M2) (I_68 : List AV → Mm → Prop) (hI_68 : ∀ (m_ : Nat) (y_t : Int) (y_c : Int) (M2 : Mm), m_ < m → J0_lays_68 rs M m_ y_t y_c M2 → I_68 [ar 0, ai y_t, ai y_c] M2) (I_158 : List AV → Mm → Prop) (hI_158 : ∀ (m_ : Nat) (y_t : Int) (y_b : Int) (M2 : Mm), m_ < m → J0_lays_158 rs M m_ y_t y_b M2 → I_158 [ar 0, ai y_t, ai y_b] M2) : wp (tb0 (csL (cs0_lays rs))) (sh8 rs) 4 0 cX0_lays [(2, [0, 1], I_2), (35, [0, 1], I_35), (68, [0, 1, 2], I_68), (158, [0, 1, 3], I_158)] Q 400 68 [(0, ar 0), (1, ai t), (2, ai c)] [] M1 := by
  obtain ⟨n, M0, rfl, rfl, hn, hm, ht, hf, rfl⟩ := hJ
  obtain ⟨hY, hC, hB⟩ := id hP
  have h3 : 0 ≤ M 1 4 ∧ M 1 4 ≤ 3 := (okY_n hY).1
  have h4 : 0 ≤ M 1 5 ∧ M 1 5 ≤ 7 := (okY_n hY).2.1
  obtain ⟨eV, eC, e1, e18⟩ := midX_v hm
  have hTP := midX_p hY hC hB hn hm
  have hrow : 0 ≤ M 18 n ∧ M 18 n < M 1 5 := (hC.2 n hn).2.2
  have f1 := hf.1
  have g1 : M1 1 = M 1 := (f1 _ (by decide)).trans e1
  have gV : vX M1 = vX M := (vX_frm f1 (by decide)).trans eV
  have gC : cX M1 = cX M := (cX_frm f1 (by decide)).trans eC
  have g0 : M1 0 25 = M 0 25 := by rw [f1 0 (by decide)]; exact hm.2.1.2 _ (by decide)
  have g25 : M1 25 = M0 25 := f1 _ (by decide)
  have k0 : M0 0 25 = M 0 25 := hm.2.1.2 _ (by decide)
  have hBM : baseI M1 := base_f f1 (by decide) (by decide) (base_f hm.1 (by decide) (by decide) hB)
  have hto := toP_rg hY hC (c := (M 18 n).toNat) (by show ((M 18 n).toNat : Int) < M 1 5; omega)
  have hto3 : toP (vX M) (cX M) (M 18 n).toNat < M 1 4 := hto.2
  have fin : ∀ M3, turnRX n M0 M3 → I_158 [ar 0, ai n, ai 0] M3 := by
    intro M3 hR
    refine hI_158 _ _ _ _ (by omega) ⟨n, 0, rfl, rfl, hn, h3.1, midX_turn hn hC hm hR, fun u b hu hb => ?_, fun b hb => by omega, rfl⟩
    exact tabX_k (ht u b hu hb) (by rw [hR.1 _ (by decide)]) (by rw [hR.1 _ (by decide)]) (fun k _ => by rw [hR.1 _ (by decide)])
  obtain ⟨b, hbb⟩ : ∃ b, b = toP (vX M) (cX M) (M 18 n).toNat := ⟨_, rfl⟩
  rw [← hbb] at hto hto3
  have fr : frm oRows M1 (up2 (clX M1 (M 18 n).toNat) 20 (M 18 n).toNat b) := frm_up (frm_up (frm_up (frm_up (frm_up (frm_up frm_rf (by decide)) (by decide)) (by decide)) (by decide)) (by decide)) (by decide)
  have fc : ∀ c : Nat, ¬ c = (M 18 n).toNat → ∀ k, k ∈ oRows → up2 (clX M1 (M 18 n).toNat) 20 (M 18 n).toNat b k c = M1 k c := by
    intro c hc k hk
    simp only [List.mem_cons, List.not_mem_nil, or_false] at hk
    rcases hk with rfl | rfl | rfl | rfl | rfl | rfl <;> simp [clX, up2_r, hc]
  have fno : ¬ (¬ bitP (M 0 25) (M 18 n) ∧ ¬ b = -1 ∧ M0 25 b.toNat = -1) → I_158 [ar 0, ai n, ai 0] (up2 (clX M1 (M 18 n).toNat) 20 (M 18 n).toNat b) := by
    intro z
    refine fin _ (turnX_no hTP hf fr ?_ ?_ ?_)
    · rw [e18]; exact fc
    · rw [e18, eV, eC, k0, ← hbb]; exact z
    · rw [e18, eV, eC, ← hbb]
      simp [clX, up2_r]
  have fgo : (¬ bitP (M 0 25) (M 18 n) ∧ ¬ b = -1 ∧ M0 25 b.toNat = -1) → ∀ M3, goneR (M 18 n) b n (up2 (clX M1 (M 18 n).toNat) 20 (M 18 n).toNat b) M3 → I_158 [ar 0, ai n, ai 0] M3 := by
    intro z M3 hg
    refine fin _ (turnX_go (b := b) hTP hf ?_ fr ?_ ?_ ?_ ?_)
    · rw [e18, eV, eC]; exact hbb
    · rw [e18]; exact fc
    · rw [e18, k0]; exact z
    · rw [e18]; exact up2_s
    · rw [e18]; exact hg
  simp only [e_wp dX0_lays_0 rfl, e_wp dX0_lays_1 rfl, e_wp dX0_lays_2 rfl, e_wp dX0_lays_3 rfl, e_wp dX0_lays_4 rfl, e_wp dX0_lays_7 rfl, e_wp dX0_lays_10 rfl, e_wp dX0_lays_13 rfl, e_wp dX0_lays_14 rfl, e_wp dX0_lays_17 rfl, e_wp dX0_lays_18 rfl, e_wp dX0_lays_19 rfl, e_wp dX0_lays_20 rfl, e_wp dX0_lays_21 rfl, e_wp dX0_lays_24 rfl, e_wp dX0_lays_25 rfl, e_wp dX0_lays_26 rfl, e_wp dX0_lays_27 rfl, e_wp dX0_lays_30 rfl, e_wp dX0_lays_33 rfl, e_wp dX0_lays_34 rfl, e_wp dX0_lays_35 rfl, e_wp dX0_lays_36 rfl, e_wp dX0_lays_37 rfl, e_wp dX0_lays_40 rfl, e_wp dX0_lays_43 rfl, e_wp dX0_lays_46 rfl, e_wp dX0_lays_47 rfl, e_wp dX0_lays_50 rfl, e_wp dX0_lays_51 rfl, e_wp dX0_lays_52 rfl, e_wp dX0_lays_53 rfl, e_wp dX0_lays_54 rfl, e_wp dX0_lays_57 rfl, e_wp dX0_lays_58 rfl, e_wp dX0_lays_61 rfl, e_wp dX0_lays_64 rfl, e_wp dX0_lays_65 rfl, e_wp dX0_lays_68 rfl, e_wp dX0_lays_69 rfl, e_wp dX0_lays_72 rfl, e_wp dX0_lays_73 rfl, e_wp dX0_lays_74 rfl, e_wp dX0_lays_75 rfl, e_wp dX0_lays_76 rfl, e_wp dX0_lays_79 rfl, e_wp dX0_lays_80 rfl, e_wp dX0_lays_81 rfl, e_wp dX0_lays_82 rfl, e_wp dX0_lays_83 rfl, e_wp dX0_lays_86 rfl, e_wp dX0_lays_87 rfl, e_wp dX0_lays_88 rfl, e_wp dX0_lays_89 rfl, e_wp dX0_lays_90 rfl, e_wp dX0_lays_93 rfl, e_wp dX0_lays_94 rfl, e_wp dX0_lays_95 rfl, e_wp dX0_lays_96 rfl, e_wp dX0_lays_97 rfl, e_wp dX0_lays_100 rfl, e_wp dX0_lays_101 rfl, e_wp dX0_lays_102 rfl, e_wp dX0_lays_103 rfl, e_wp dX0_lays_104 rfl, e_wp dX0_lays_107 rfl, e_wp dX0_lays_108 rfl, e_wp dX0_lays_109 rfl, e_wp dX0_lays_110 rfl, e_wp dX0_lays_113 rfl, e_wp dX0_lays_114 rfl, e_wp dX0_lays_115 rfl, e_wp dX0_lays_118 rfl, e_wp dX0_lays_119 rfl, e_wp dX0_lays_122 rfl, e_wp dX0_lays_125 rfl, e_wp dX0_lays_126 rfl, e_wp dX0_lays_129 rfl, e_wp dX0_lays_130 rfl, e_wp dX0_lays_131 rfl, e_wp dX0_lays_132 rfl, e_wp dX0_lays_135 rfl, e_wp dX0_lays_136 rfl, e_wp dX0_lays_139 rfl, e_wp dX0_lays_140 rfl, e_wp dX0_lays_143 rfl, e_wp dX0_lays_144 rfl, e_wp dX0_lays_145 rfl, e_wp dX0_lays_146 rfl, e_wp dX0_lays_147 rfl, e_wp dX0_lays_150 rfl, e_wp dX0_lays_151 rfl, e_wp dX0_lays_152 rfl, e_wp dX0_lays_153 rfl, e_wp dX0_lays_156 rfl, e_wp dX0_lays_157 rfl, e_wp dX0_lays_158 rfl, e_wp dX0_lays_159 rfl, e_wp dX0_lays_160 rfl, e_wp dX0_lays_163 rfl, e_wp dX0_lays_166 rfl, e_wp dX0_lays_169 rfl, e_wp dX0_lays_170 rfl, e_wp dX0_lays_173 rfl, e_wp dX0_lays_174 rfl, e_wp dX0_lays_175 rfl, e_wp dX0_lays_176 rfl, e_wp dX0_lays_177 rfl, e_wp dX0_lays_178 rfl, e_wp dX0_lays_179 rfl, e_wp dX0_lays_182 rfl, e_wp dX0_lays_183 rfl, e_wp dX0_lays_184 rfl, e_wp dX0_lays_185 rfl, e_wp dX0_lays_186 rfl, e_wp dX0_lays_189 rfl, e_wp dX0_lays_190 rfl, e_wp dX0_lays_191 rfl, e_wp dX0_lays_192 rfl, e_wp dX0_lays_193 rfl, e_wp dX0_lays_194 rfl, e_wp dX0_lays_195 rfl, e_wp dX0_lays_196 rfl, e_wp dX0_lays_199 rfl, e_wp dX0_lays_200 rfl, e_wp dX0_lays_201 rfl, e_wp dX0_lays_204 rfl, e_wp dX0_lays_206 rfl, e_wp dX0_lays_207 rfl, e_wp dX0_lays_208 rfl, e_wp dX0_lays_209 rfl, e_wp dX0_lays_212 rfl, e_wp dX0_lays_214 rfl, e_wp dX0_lays_215 rfl, e_wp dX0_lays_216 rfl, e_wp dX0_lays_217 rfl, e_wp dX0_lays_218 rfl, e_wp dX0_lays_219 rfl, e_wp dX0_lays_220 rfl, e_wp dX0_lays_222 rfl, e_wp dX0_lays_225 rfl, e_wp dX0_lays_228 rfl, e_wp dX0_lays_231 rfl, e_wp dX0_lays_234 rfl, e_wp dX0_lays_237 rfl, g0_10, g0_153, g0_31, g0_83, g0_156, g0_62, g0_203, c0_isOf, P0_isOf, V0_isOf, cs0_lays, c0_freezes, g0_65, g0_71, g0_74, g0_77, g0_80, g0_68, c0_comesTo, P0_comesTo, V0_comesTo, g0_204, c0_goes_2, g0_89, g0_92, c0_sagOf, P0_sagOf, V0_sagOf, g0_24, g0_86, c0_copy, a8_13, w8_13, a8_14, w8_14, a8_15, w8_15, a8_16, w8_16, a8_17, w8_17, a8_18, w8_18, a8_19, w8_19, a8_20, w8_20, a8_21, w8_21, a8_22, w8_22, a8_23, w8_23, a8_24, w8_24, a8_25, w8_25, a8_26, w8_26, a8_27, w8_27, a8_28, w8_28, a8_29, w8_29, a8_30, w8_30, a8_31, w8_31, a8_32, w8_32, a8_33, w8_33, a8_34, w8_34, a8_35, w8_35, a8_36, w8_36, a8_37, w8_37, a8_38, w8_38, a8_39, w8_39, a8_40, w8_40, a8_12, w8_12, a8_6, a8_7, e_iconst, e_bipush, e_sipush, e_lconst_0, e_lconst_1, e_iload, e_iload_0, e_iload_1, e_iload_2, e_iload_3, e_lload, e_lload_0, e_lload_1, e_lload_2, e_lload_3, e_aload, e_aload_0, e_aload_1, e_aload_2, e_aload_3, e_istore, e_istore_0, e_istore_1, e_istore_2, e_istore_3, e_astore, e_astore_0, e_astore_1, e_astore_2, e_astore_3, e_lstore, e_lstore_0, e_lstore_1, e_lstore_2, e_lstore_3, e_iinc, e_iadd, e_isub, e_imul, e_ladd, e_lsub, e_lmul, e_idiv, e_irem, e_ldiv, e_lrem, e_ineg, e_lneg, e_iand, e_ior, e_ixor, e_ishl, e_ishr, e_iushr, e_lcmp, e_i2l, e_l2i, e_i2b, e_i2s, e_dup_i, e_dup_r, e_pop_i, e_pop_r, e_dup2_l, e_dup2_ir, e_dup2_ii, e_ifeq, e_ifne, e_iflt, e_ifge, e_ifgt, e_ifle, e_iceq, e_icne, e_iclt, e_icge, e_icgt, e_icle, e_goto, e_switch, e_invokevirtual, e_invokestatic, e_invokespecial, e_ret0, e_ret1, e_ret2, e_ret3, ldI_s, ldL_s, ldR_s, clO_s, ctP_s, ctS_s, mgo_0, mgo_s, pjc_s, pj_0, pj_s, lk_s, rm1_0, rm1_i, rm1_r, rm1_l, rm2_0, rm2_i, rm2_r, rm2_l, csL_s, lc_lt, lc_ge, lc_gt, lc_le, lc_eq, b01_0, b01_1, b01_01, b01_n, up2_o, up2_s, up2_u, ne_eq, reduceCtorEq, Nat.reduceAdd, Nat.reduceEqDiff, Nat.reduceLT, Nat.reduceLeDiff, Int.reduceLE, Int.reduceLT, Int.reduceAdd, Int.reduceNeg, Int.reduceMul, Int.reduceSub, Int.reduceEq, Int.reduceToNat, Int.reduceNatCast, Int.cast_ofNat_Int, ↓reduceIte, and_self, List.drop_succ_cons, List.drop_zero, List.take_succ_cons, List.take_zero, List.length_cons, List.length_nil, List.reverse_cons, List.reverse_nil, List.nil_append, List.cons_append, Option.toList, true_and, and_true, or_false, false_or, or_true, true_or, forall_const, Classical.not_not, not_false_eq_true, not_true_eq_false, false_implies, true_implies, implies_true, imp_self, vX_u, cX_u, g1, gV, gC, g0, g25, Int.toNat_natCast]
  rw [← hbb]
  obtain ⟨Mc, hMc⟩ : ∃ Mc, Mc = up2 (clX M1 (M 18 n).toNat) 20 (M 18 n).toNat b := ⟨_, rfl⟩
  have hMc' : up2 (up2 (up2 (up2 (up2 (up2 M1 19 (M 18 n).toNat (-1)) 21 (M 18 n).toNat 0) 22 (M 18 n).toNat 0) 23 (M 18 n).toNat 0) 24 (M 18 n).toNat 0) 20 (M 18 n).toNat b = Mc := hMc.symm
  rw [hMc']
  rw [← hMc] at fr fno fgo
  have c20 : Mc 20 (M 18 n).toNat = b := by rw [hMc]; exact up2_s
  have c1 : Mc 1 = M 1 := (fr _ (by decide)).trans g1
  have c15 : Mc 15 = M1 15 := fr _ (by decide)
  have cV : vX Mc = vX M := (vX_frm fr (by decide)).trans gV
  have cC : cX Mc = cX M := (cX_frm fr (by decide)).trans gC
  refine ⟨by omega, by omega, by omega, by omega, by omega, ⟨hY, hC, hrow⟩, by omega, fun z => fno (fun w => w.1 z), fun z => ⟨by omega, fun y => fno (fun w => w.2.1 y), fun y => ⟨by omega, by omega, fun x => fno (fun w => x w.2.2), fun x => ⟨?_, fun M3 hR => fgo ⟨z, y, x⟩ M3 ?_⟩⟩⟩⟩
  · have fb := hf.2.1 b.toNat (by rw [e1]; omega)
    rw [Int.toNat_of_nonneg (show 0 ≤ b by omega)] at fb
    have fm := (hm.2.2.1 b.toNat (by omega)).1.2
    unfold P0_goes_2
    rw [c20, cV, cC, c1, c15]
    refine ⟨hY, hC, base_f fr (by decide) (by decide) hBM, hrow, by omega, (mb_eqX (fr _ (by decide)) (fr _ (by decide)) (fr _ (by decide)) b).2.mpr fb.1, by omega⟩
  · have h := hR
    unfold R0_goes_2 at h
    rw [c20] at h
    exact h
set_option maxHeartbeats 4000000 in
set_option maxRecDepth 100000 in
theorem at0_lays_158 {rs : List (Nat × Nat)} {M : Mm} {Q : Option AV → Mm → Prop} (hM : okM (sh8 rs) M) (hP : P0_lays rs M) (hQ : ∀ (M1 : Mm), R0_lays rs M M1 → Q none M1) {m : Nat} {t b : Int} {M1 : Mm} (hM1 : okM (sh8 rs) M1) (h_t : i32 t) (h_b : i32 b) (hJ : J0_lays_158 rs M m t b M1) (I_2 : List AV → Mm → Prop) (hI_2 : ∀ (m_ : Nat) (y_b : Int) (M2 : Mm), m_ < m → J0_lays_2 rs M m_ y_b M2 → I_2 [ar 0, ai y_b] M2) (I_35 : List AV → Mm → Prop) (hI_35 : ∀ (m_ : Nat) (y_t : Int) (M2 : Mm), m_ < m → J0_lays_35 rs M m_ y_t M2 → I_35 [ar 0, ai y_t] M2) (I_68 : List AV → Mm → Prop) (hI_68 : ∀ (m_ : Nat) (y_t : Int) (y_c : Int) (M2 : Mm), m_ < m → J0_lays_68 rs M m_ y_t y_c M2 → I_68 [ar 0, ai y_t, ai y_c] M2) (I_158 : List AV → Mm → Prop) (hI_158 : ∀ (m_ : Nat) (y_t : Int) (y_b : Int) (M2 : Mm), m_ < m → J0_lays_158 rs M m_ y_t y_b M2 → I_158 [ar 0, ai y_t, ai y_b] M2) : wp (tb0 (csL (cs0_lays rs))) (sh8 rs) 4 0 cX0_lays [(2, [0, 1], I_2), (35, [0, 1], I_35), (68, [0, 1, 2], I_68), (158, [0, 1, 3], I_158)] Q 400 158 [(0, ar 0), (1, ai t), (3, ai b)] [] M1 := by
  obtain ⟨n, a, rfl, rfl, hn, ha, hm, ht, hb, rfl⟩ := hJ
  obtain ⟨hY, hC, hB⟩ := id hP
  have h3 : 0 ≤ M 1 4 ∧ M 1 4 ≤ 3 := (okY_n hY).1
  have h4 : 0 ≤ M 1 5 ∧ M 1 5 ≤ 7 := (okY_n hY).2.1
  obtain ⟨eV, eC, e1, e18⟩ := midX_v hm
  have i1 : ((3 : Int) * n + a).toNat = 3 * n + a := by omega
  have i2 : ((8 : Int) * a).toNat = 8 * a := by omega
  have i3 : ((8 : Int) * (3 * n + a)).toNat = 8 * (3 * n + a) := by omega
  simp only [e_wp dX0_lays_0 rfl, e_wp dX0_lays_1 rfl, e_wp dX0_lays_2 rfl, e_wp dX0_lays_3 rfl, e_wp dX0_lays_4 rfl, e_wp dX0_lays_7 rfl, e_wp dX0_lays_10 rfl, e_wp dX0_lays_13 rfl, e_wp dX0_lays_14 rfl, e_wp dX0_lays_17 rfl, e_wp dX0_lays_18 rfl, e_wp dX0_lays_19 rfl, e_wp dX0_lays_20 rfl, e_wp dX0_lays_21 rfl, e_wp dX0_lays_24 rfl, e_wp dX0_lays_25 rfl, e_wp dX0_lays_26 rfl, e_wp dX0_lays_27 rfl, e_wp dX0_lays_30 rfl, e_wp dX0_lays_33 rfl, e_wp dX0_lays_34 rfl, e_wp dX0_lays_35 rfl, e_wp dX0_lays_36 rfl, e_wp dX0_lays_37 rfl, e_wp dX0_lays_40 rfl, e_wp dX0_lays_43 rfl, e_wp dX0_lays_46 rfl, e_wp dX0_lays_47 rfl, e_wp dX0_lays_50 rfl, e_wp dX0_lays_51 rfl, e_wp dX0_lays_52 rfl, e_wp dX0_lays_53 rfl, e_wp dX0_lays_54 rfl, e_wp dX0_lays_57 rfl, e_wp dX0_lays_58 rfl, e_wp dX0_lays_61 rfl, e_wp dX0_lays_64 rfl, e_wp dX0_lays_65 rfl, e_wp dX0_lays_68 rfl, e_wp dX0_lays_69 rfl, e_wp dX0_lays_72 rfl, e_wp dX0_lays_73 rfl, e_wp dX0_lays_74 rfl, e_wp dX0_lays_75 rfl, e_wp dX0_lays_76 rfl, e_wp dX0_lays_79 rfl, e_wp dX0_lays_80 rfl, e_wp dX0_lays_81 rfl, e_wp dX0_lays_82 rfl, e_wp dX0_lays_83 rfl, e_wp dX0_lays_86 rfl, e_wp dX0_lays_87 rfl, e_wp dX0_lays_88 rfl, e_wp dX0_lays_89 rfl, e_wp dX0_lays_90 rfl, e_wp dX0_lays_93 rfl, e_wp dX0_lays_94 rfl, e_wp dX0_lays_95 rfl, e_wp dX0_lays_96 rfl, e_wp dX0_lays_97 rfl, e_wp dX0_lays_100 rfl, e_wp dX0_lays_101 rfl, e_wp dX0_lays_102 rfl, e_wp dX0_lays_103 rfl, e_wp dX0_lays_104 rfl, e_wp dX0_lays_107 rfl, e_wp dX0_lays_108 rfl, e_wp dX0_lays_109 rfl, e_wp dX0_lays_110 rfl, e_wp dX0_lays_113 rfl, e_wp dX0_lays_114 rfl, e_wp dX0_lays_115 rfl, e_wp dX0_lays_118 rfl, e_wp dX0_lays_119 rfl, e_wp dX0_lays_122 rfl, e_wp dX0_lays_125 rfl, e_wp dX0_lays_126 rfl, e_wp dX0_lays_129 rfl, e_wp dX0_lays_130 rfl, e_wp dX0_lays_131 rfl, e_wp dX0_lays_132 rfl, e_wp dX0_lays_135 rfl, e_wp dX0_lays_136 rfl, e_wp dX0_lays_139 rfl, e_wp dX0_lays_140 rfl, e_wp dX0_lays_143 rfl, e_wp dX0_lays_144 rfl, e_wp dX0_lays_145 rfl, e_wp dX0_lays_146 rfl, e_wp dX0_lays_147 rfl, e_wp dX0_lays_150 rfl, e_wp dX0_lays_151 rfl, e_wp dX0_lays_152 rfl, e_wp dX0_lays_153 rfl, e_wp dX0_lays_156 rfl, e_wp dX0_lays_157 rfl, e_wp dX0_lays_158 rfl, e_wp dX0_lays_159 rfl, e_wp dX0_lays_160 rfl, e_wp dX0_lays_163 rfl, e_wp dX0_lays_166 rfl, e_wp dX0_lays_169 rfl, e_wp dX0_lays_170 rfl, e_wp dX0_lays_173 rfl, e_wp dX0_lays_174 rfl, e_wp dX0_lays_175 rfl, e_wp dX0_lays_176 rfl, e_wp dX0_lays_177 rfl, e_wp dX0_lays_178 rfl, e_wp dX0_lays_179 rfl, e_wp dX0_lays_182 rfl, e_wp dX0_lays_183 rfl, e_wp dX0_lays_184 rfl, e_wp dX0_lays_185 rfl, e_wp dX0_lays_186 rfl, e_wp dX0_lays_189 rfl, e_wp dX0_lays_190 rfl, e_wp dX0_lays_191 rfl, e_wp dX0_lays_192 rfl, e_wp dX0_lays_193 rfl, e_wp dX0_lays_194 rfl, e_wp dX0_lays_195 rfl, e_wp dX0_lays_196 rfl, e_wp dX0_lays_199 rfl, e_wp dX0_lays_200 rfl, e_wp dX0_lays_201 rfl, e_wp dX0_lays_204 rfl, e_wp dX0_lays_206 rfl, e_wp dX0_lays_207 rfl, e_wp dX0_lays_208 rfl, e_wp dX0_lays_209 rfl, e_wp dX0_lays_212 rfl, e_wp dX0_lays_214 rfl, e_wp dX0_lays_215 rfl, e_wp dX0_lays_216 rfl, e_wp dX0_lays_217 rfl, e_wp dX0_lays_218 rfl, e_wp dX0_lays_219 rfl, e_wp dX0_lays_220 rfl, e_wp dX0_lays_222 rfl, e_wp dX0_lays_225 rfl, e_wp dX0_lays_228 rfl, e_wp dX0_lays_231 rfl, e_wp dX0_lays_234 rfl, e_wp dX0_lays_237 rfl, g0_10, g0_153, g0_31, g0_83, g0_156, g0_62, g0_203, c0_isOf, P0_isOf, V0_isOf, cs0_lays, c0_freezes, g0_65, g0_71, g0_74, g0_77, g0_80, g0_68, c0_comesTo, P0_comesTo, V0_comesTo, g0_204, c0_goes_2, g0_89, g0_92, c0_sagOf, P0_sagOf, V0_sagOf, g0_24, g0_86, c0_copy, a8_13, w8_13, a8_14, w8_14, a8_15, w8_15, a8_16, w8_16, a8_17, w8_17, a8_18, w8_18, a8_19, w8_19, a8_20, w8_20, a8_21, w8_21, a8_22, w8_22, a8_23, w8_23, a8_24, w8_24, a8_25, w8_25, a8_26, w8_26, a8_27, w8_27, a8_28, w8_28, a8_29, w8_29, a8_30, w8_30, a8_31, w8_31, a8_32, w8_32, a8_33, w8_33, a8_34, w8_34, a8_35, w8_35, a8_36, w8_36, a8_37, w8_37, a8_38, w8_38, a8_39, w8_39, a8_40, w8_40, a8_12, w8_12, a8_6, a8_7, e_iconst, e_bipush, e_sipush, e_lconst_0, e_lconst_1, e_iload, e_iload_0, e_iload_1, e_iload_2, e_iload_3, e_lload, e_lload_0, e_lload_1, e_lload_2, e_lload_3, e_aload, e_aload_0, e_aload_1, e_aload_2, e_aload_3, e_istore, e_istore_0, e_istore_1, e_istore_2, e_istore_3, e_astore, e_astore_0, e_astore_1, e_astore_2, e_astore_3, e_lstore, e_lstore_0, e_lstore_1, e_lstore_2, e_lstore_3, e_iinc, e_iadd, e_isub, e_imul, e_ladd, e_lsub, e_lmul, e_idiv, e_irem, e_ldiv, e_lrem, e_ineg, e_lneg, e_iand, e_ior, e_ixor, e_ishl, e_ishr, e_iushr, e_lcmp, e_i2l, e_l2i, e_i2b, e_i2s, e_dup_i, e_dup_r, e_pop_i, e_pop_r, e_dup2_l, e_dup2_ir, e_dup2_ii, e_ifeq, e_ifne, e_iflt, e_ifge, e_ifgt, e_ifle, e_iceq, e_icne, e_iclt, e_icge, e_icgt, e_icle, e_goto, e_switch, e_invokevirtual, e_invokestatic, e_invokespecial, e_ret0, e_ret1, e_ret2, e_ret3, ldI_s, ldL_s, ldR_s, clO_s, ctP_s, ctS_s, mgo_0, mgo_s, pjc_s, pj_0, pj_s, lk_s, rm1_0, rm1_i, rm1_r, rm1_l, rm2_0, rm2_i, rm2_r, rm2_l, csL_s, lc_lt, lc_ge, lc_gt, lc_le, lc_eq, b01_0, b01_1, b01_01, b01_n, up2_o, up2_s, up2_u, ne_eq, reduceCtorEq, Nat.reduceAdd, Nat.reduceEqDiff, Nat.reduceLT, Nat.reduceLeDiff, Int.reduceLE, Int.reduceLT, Int.reduceAdd, Int.reduceNeg, Int.reduceMul, Int.reduceSub, Int.reduceEq, Int.reduceToNat, Int.reduceNatCast, Int.cast_ofNat_Int, ↓reduceIte, and_self, List.drop_succ_cons, List.drop_zero, List.take_succ_cons, List.take_zero, List.length_cons, List.length_nil, List.reverse_cons, List.reverse_nil, List.nil_append, List.cons_append, Option.toList, true_and, and_true, or_false, false_or, or_true, true_or, forall_const, Classical.not_not, not_false_eq_true, not_true_eq_false, false_implies, true_implies, implies_true, imp_self, e1, R0_copy, forall_eq, mb_uX, okB_uX, Int.toNat_natCast, i1, i2, i3]
  refine ⟨fun q => ⟨by omega, hI_35 _ _ _ (by omega) ⟨n + 1, by omega, by omega, hm, fun u b hu hb2 => ?_, rfl⟩⟩, fun q => ?_⟩
  · by_cases e : u = n
    · rw [e]; exact hb b (by omega)
    · exact ht u b (by omega) hb2
  · have ob := (hm.2.2.1 a q).1
    have od := ob.1.2.1
    rw [Int.toNat_natCast] at od
    have hs := (hm.2.2.2.1 a q).1
    have hl := mb_lenX ob.1
    rw [Int.toNat_natCast] at hl
    have hc1 : ∀ M2, P0_copy rs 13 (8 * (a : Int)) 26 (8 * (3 * (n : Int) + a)) 8 M2 := fun M2 => cpP 24 168 rfl rfl (by omega)
    have fin : ∀ M2, M2 = cpM (up2 (up2 M1 27 (3 * n + a) (M1 15 a)) 28 (3 * n + a) (sagP (mbX M1 a))) 13 (8 * a) 26 (8 * (3 * n + a)) 8 → I_158 [ar 0, ai n, ai (a + 1)] M2 := by
      rintro M2 rfl
      have kk : ∀ j, cpM (up2 (up2 M1 27 (3 * n + a) (M1 15 a)) 28 (3 * n + a) (sagP (mbX M1 a))) 13 (8 * a) 26 (8 * (3 * n + a)) 8 27 j = if j = 3 * n + a then M1 15 a else M1 27 j := by
        intro j
        rw [cp_o (by decide), up2_o (by decide)]
        simp [up2_r]
      have ks : ∀ j, cpM (up2 (up2 M1 27 (3 * n + a) (M1 15 a)) 28 (3 * n + a) (sagP (mbX M1 a))) 13 (8 * a) 26 (8 * (3 * n + a)) 8 28 j = if j = 3 * n + a then sagP (mbX M1 a) else M1 28 j := by
        intro j
        rw [cp_o (by decide)]
        simp [up2_r]
      have kb : ∀ j, cpM (up2 (up2 M1 27 (3 * n + a) (M1 15 a)) 28 (3 * n + a) (sagP (mbX M1 a))) 13 (8 * a) 26 (8 * (3 * n + a)) 8 26 j = if 8 * (3 * n + a) ≤ j ∧ j < 8 * (3 * n + a) + 8 then M1 13 (8 * a + (j - 8 * (3 * n + a))) else M1 26 j := by
        intro j
        rw [cp_r, up2_o (by decide), up2_o (by decide), up2_o (by decide), up2_o (by decide)]
        simp
      refine hI_158 _ _ _ _ (by omega) ⟨n, a + 1, rfl, by omega, hn, by omega, midX_k hm ?_, fun u b hu hb2 => ?_, fun b hb2 => ?_, rfl⟩
      · exact frm_cp (frm_up (frm_up frm_rf (by decide)) (by decide)) (by decide)
      · refine tabX_k (ht u b hu hb2) ?_ ?_ (fun k hk => ?_)
        · rw [kk, if_neg (by omega)]
        · rw [ks, if_neg (by omega)]
        · rw [kb, if_neg (by omega)]
      · by_cases e : b = a
        · subst e
          unfold tabX
          rw [← hs]
          refine ⟨by omega, ob.1.2.2, ?_, ?_, ?_⟩
          · rw [kk, if_pos rfl, hl]
          · rw [ks, if_pos rfl]
          · have em : ∀ j, List.map Prod.fst (stk (mfX M1 b) j) = stk (fun k => M1 13 ((8 : Int) * b + k).toNat) j := by
              intro j
              induction j with
              | zero => rfl
              | succ j ih =>
                show M1 13 ((8 : Int) * b + j).toNat :: List.map Prod.fst (stk (mfX M1 b) j) = _
                rw [ih]
                rfl
            have e2 : mbX M1 b = stk (mfX M1 b) (mbX M1 b).length := by
              show stk (mfX M1 b) (M1 15 ((b : Int)).toNat).toNat = stk (mfX M1 b) (mbX M1 b).length
              rw [Int.toNat_natCast]
              congr 1
              omega
            conv => rhs; rw [e2, em]
            refine stk_congr fun k hk => ?_
            rw [kb, if_pos (by omega), show 8 * b + (8 * (3 * n + b) + k - 8 * (3 * n + b)) = 8 * b + k by omega, show ((8 : Int) * b + k).toNat = 8 * b + k by omega]
        · refine tabX_k (hb b (by omega)) ?_ ?_ (fun k hk => ?_)
          · rw [kk, if_neg (by omega)]
          · rw [ks, if_neg (by omega)]
          · rw [kb, if_neg (by omega)]
    exact ⟨by omega, by omega, by omega, by omega, by omega, by omega, ob.1, by omega, by omega, by omega, by omega, by omega, hc1 _, by omega, fin _ rfl⟩
set_option maxHeartbeats 4000000 in
set_option maxRecDepth 100000 in
theorem m0_lays {rs : List (Nat × Nat)} : MOK cl8 (sh8 rs) tyl8 Nws8 5 yX0_lays cX0_lays 4 none (sp0_lays rs) := by
  refine mok_of (own := RX0) (tb := tb0 (csL (cs0_lays rs))) (rt := 0) (fuel := 400) (fun avs M Q => [(2, [0, 1], fun m_ vs M1 => ∃ y_b : Int, vs = [ar 0, ai y_b] ∧ J0_lays_2 rs M m_ y_b M1), (35, [0, 1], fun m_ vs M1 => ∃ y_t : Int, vs = [ar 0, ai y_t] ∧ J0_lays_35 rs M m_ y_t M1), (68, [0, 1, 2], fun m_ vs M1 => ∃ y_t : Int, ∃ y_c : Int, vs = [ar 0, ai y_t, ai y_c] ∧ J0_lays_68 rs M m_ y_t y_c M1), (158, [0, 1, 3], fun m_ vs M1 => ∃ y_t : Int, ∃ y_b : Int, vs = [ar 0, ai y_t, ai y_b] ∧ J0_lays_158 rs M m_ y_t y_b M1)]) (by decide) rfl nws8_ok (tbOK0 _) rfl (csL_all ?_) ?_ ?_ ?_
  · intro q hq
    simp only [cs0_lays, List.mem_cons, List.not_mem_nil, or_false] at hq
    rcases hq with rfl | rfl | rfl | rfl | rfl | rfl
    · exact cg0_isOf (by decide)
    · exact cg0_freezes (by decide)
    · exact cg0_comesTo (by decide)
    · exact cg0_goes_2 (by decide)
    · exact cg0_sagOf (by decide)
    · exact cg0_copy (by decide)
  · intro avs M Q hsp
    obtain ⟨xs, hx⟩ := spV_un _ _ _ hsp
    obtain ⟨e, hl⟩ := unA_mkT hx
    obtain rfl := len0 hl
    have e : avs = [ar 0] := e
    subst e
    simp [szL, isL]
  · intro avs M Q hM hav hsp
    obtain ⟨xs, hx⟩ := spV_un _ _ _ hsp
    obtain ⟨e, hl⟩ := unA_mkT hx
    obtain rfl := len0 hl
    have e : avs = [ar 0] := e
    subst e
    exact in0_lays hM hsp.1 hsp.2 _ (fun m_ y_b M2 hJ => ⟨m_, y_b, rfl, hJ⟩) _ (fun m_ y_t M2 hJ => ⟨m_, y_t, rfl, hJ⟩) _ (fun m_ y_t y_c M2 hJ => ⟨m_, y_t, y_c, rfl, hJ⟩) _ (fun m_ y_t y_b M2 hJ => ⟨m_, y_t, y_b, rfl, hJ⟩)
  · intro avs M Q hM hav hsp q hq m_ vs M1 hM1 hv hJ
    obtain ⟨xs, hx⟩ := spV_un _ _ _ hsp
    obtain ⟨e, hl⟩ := unA_mkT hx
    obtain rfl := len0 hl
    have e : avs = [ar 0] := e
    subst e
    simp only [List.mem_cons, List.not_mem_nil, or_false] at hq
    rcases hq with rfl | rfl | rfl | rfl
    · obtain ⟨y_b, rfl, hJ⟩ := hJ
      exact at0_lays_2 hM hsp.1 hsp.2 hM1 (hv (1, ai y_b) (List.mem_of_getElem? (i := 1) rfl)) hJ _ (fun m2 z_b M2 hm hJ2 => ⟨m2, hm, z_b, rfl, hJ2⟩) _ (fun m2 z_t M2 hm hJ2 => ⟨m2, hm, z_t, rfl, hJ2⟩) _ (fun m2 z_t z_c M2 hm hJ2 => ⟨m2, hm, z_t, z_c, rfl, hJ2⟩) _ (fun m2 z_t z_b M2 hm hJ2 => ⟨m2, hm, z_t, z_b, rfl, hJ2⟩)
    · obtain ⟨y_t, rfl, hJ⟩ := hJ
      exact at0_lays_35 hM hsp.1 hsp.2 hM1 (hv (1, ai y_t) (List.mem_of_getElem? (i := 1) rfl)) hJ _ (fun m2 z_b M2 hm hJ2 => ⟨m2, hm, z_b, rfl, hJ2⟩) _ (fun m2 z_t M2 hm hJ2 => ⟨m2, hm, z_t, rfl, hJ2⟩) _ (fun m2 z_t z_c M2 hm hJ2 => ⟨m2, hm, z_t, z_c, rfl, hJ2⟩) _ (fun m2 z_t z_b M2 hm hJ2 => ⟨m2, hm, z_t, z_b, rfl, hJ2⟩)
    · obtain ⟨y_t, y_c, rfl, hJ⟩ := hJ
      exact at0_lays_68 hM hsp.1 hsp.2 hM1 (hv (1, ai y_t) (List.mem_of_getElem? (i := 1) rfl)) (hv (2, ai y_c) (List.mem_of_getElem? (i := 2) rfl)) hJ _ (fun m2 z_b M2 hm hJ2 => ⟨m2, hm, z_b, rfl, hJ2⟩) _ (fun m2 z_t M2 hm hJ2 => ⟨m2, hm, z_t, rfl, hJ2⟩) _ (fun m2 z_t z_c M2 hm hJ2 => ⟨m2, hm, z_t, z_c, rfl, hJ2⟩) _ (fun m2 z_t z_b M2 hm hJ2 => ⟨m2, hm, z_t, z_b, rfl, hJ2⟩)
    · obtain ⟨y_t, y_b, rfl, hJ⟩ := hJ
      exact at0_lays_158 hM hsp.1 hsp.2 hM1 (hv (1, ai y_t) (List.mem_of_getElem? (i := 1) rfl)) (hv (3, ai y_b) (List.mem_of_getElem? (i := 2) rfl)) hJ _ (fun m2 z_b M2 hm hJ2 => ⟨m2, hm, z_b, rfl, hJ2⟩) _ (fun m2 z_t M2 hm hJ2 => ⟨m2, hm, z_t, rfl, hJ2⟩) _ (fun m2 z_t z_c M2 hm hJ2 => ⟨m2, hm, z_t, z_c, rfl, hJ2⟩) _ (fun m2 z_t z_b M2 hm hJ2 => ⟨m2, hm, z_t, z_b, rfl, hJ2⟩)
theorem cg0_lays {rs : List (Nat × Nat)} {lvl : Nat} (h : 5 < lvl) : CG RX0 cl8 (sh8 rs) tyl8 Nws8 lvl 1 253 1 (sp0_lays rs) := cg_V (sg := []) nws8_ok spV_mono spV_un m0_lays h rfl (by decide) rfl rfl ⟨rfl, by decide, by decide, rfl⟩ q808 q810 qs20 q128 q811
