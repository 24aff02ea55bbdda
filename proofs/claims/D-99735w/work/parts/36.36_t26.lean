/-! SagMemoryModel: tokens -/
abbrev tpN (M : Mm) : Nat := (M 0 6).toNat
abbrev tkM (M : Mm) (p : Nat) : Int × Nat × Nat := tkP (M 5) (tpN M) p
def tokR (M : Mm) (p : Nat) : Prop := p ≤ tpN M ∧ M 0 8 = (tkM M p).1 ∧ M 0 9 = ((tkM M p).2.1 : Int) ∧ M 0 7 = ((tkM M p).2.2 : Int) ∧ (0 ≤ M 0 10 ∧ M 0 10 ≤ 2000000) ∧ ((tkM M p).1 = 2 → vR (M 0 10) (numN (M 5) (tpN M) p)) ∧ ((tkM M p).1 = 1 → M 0 11 = if (tkM M p).2.2 - (tkM M p).2.1 ≤ 12 then wL (sgL (M 5) (tkM M p).2.1 (tkM M p).2.2) else -1)
abbrev tpI (M : Mm) : Prop := 0 ≤ M 0 6 ∧ M 0 6 ≤ 700
def P7_isByte (k : Int) (lo : Int) (hi : Int) (M : Mm) : Prop := (0 ≤ M 0 6 ∧ M 0 6 ≤ 700) ∧ 0 ≤ k
def V7_isByte (k : Int) (lo : Int) (hi : Int) (M : Mm) : Int := b01 (k < M 0 6 ∧ lo ≤ M 5 k.toNat ∧ M 5 k.toNat ≤ hi)
def sp7_isByte : Spec := spF true [0, 0, 0] 1 (fun x M => P7_isByte (x 0) (x 1) (x 2) M) (fun x M => V7_isByte (x 0) (x 1) (x 2) M)
theorem c7_isByte {k lo hi : Int} {M : Mm} {Q : Option AV → Mm → Prop} : sp7_isByte [ar 0, ai k, ai lo, ai hi] M Q = (P7_isByte k lo hi M ∧ Q (some (ai (V7_isByte k lo hi M))) M) := rfl
def cs7_isByte : List (Nat × Nat × Nat × Spec) := []
set_option maxHeartbeats 4000000 in
set_option maxRecDepth 100000 in
theorem in7_isByte {k lo hi : Int} {M : Mm} {Q : Option AV → Mm → Prop} (hM : okM sh7 M) (h_k : i32 k) (h_lo : i32 lo) (h_hi : i32 hi) (hP : P7_isByte k lo hi M) (hQ : Q (some (ai (V7_isByte k lo hi M))) M) : wp (tb7 (csL cs7_isByte)) sh7 4 2 cX7_isByte [] Q 400 0 [(0, ar 0), (1, ai k), (2, ai lo), (3, ai hi)] [] M := by
  obtain ⟨h1, h2⟩ := id hP
  have e1 : ¬ (k < M 0 6 ∧ lo ≤ M 5 k.toNat ∧ M 5 k.toNat ≤ hi) → V7_isByte k lo hi M = 0 := fun q => b01_f q
  have e2 : (k < M 0 6 ∧ lo ≤ M 5 k.toNat ∧ M 5 k.toNat ≤ hi) → V7_isByte k lo hi M = 1 := fun q => b01_t q
  simp only [e_wp dX7_isByte_0 rfl, e_wp dX7_isByte_1 rfl, e_wp dX7_isByte_2 rfl, e_wp dX7_isByte_5 rfl, e_wp dX7_isByte_8 rfl, e_wp dX7_isByte_9 rfl, e_wp dX7_isByte_12 rfl, e_wp dX7_isByte_13 rfl, e_wp dX7_isByte_14 rfl, e_wp dX7_isByte_15 rfl, e_wp dX7_isByte_18 rfl, e_wp dX7_isByte_19 rfl, e_wp dX7_isByte_22 rfl, e_wp dX7_isByte_23 rfl, e_wp dX7_isByte_24 rfl, e_wp dX7_isByte_25 rfl, e_wp dX7_isByte_28 rfl, e_wp dX7_isByte_29 rfl, e_wp dX7_isByte_32 rfl, e_wp dX7_isByte_33 rfl, g7_133, g7_23, a7_1, w7_1, a7_2, w7_2, a7_3, w7_3, a7_4, w7_4, a7_5, w7_5, a7_6, w7_6, a7_7, w7_7, a7_8, w7_8, a7_9, w7_9, a7_10, w7_10, a7_11, w7_11, a7_12, w7_12, a7_13, w7_13, a7_14, w7_14, a7_15, w7_15, a7_16, w7_16, a7_17, w7_17, a7_18, w7_18, a7_19, w7_19, a7_20, w7_20, a7_21, w7_21, a7_22, w7_22, a7_23, w7_23, a7_24, w7_24, a7_25, w7_25, a7_26, w7_26, a7_27, w7_27, a7_28, w7_28, a7_29, w7_29, a7_30, w7_30, a7_31, w7_31, a7_32, w7_32, a7_33, w7_33, e_iconst, e_bipush, e_sipush, e_lconst_0, e_lconst_1, e_iload, e_iload_0, e_iload_1, e_iload_2, e_iload_3, e_lload, e_lload_0, e_lload_1, e_lload_2, e_lload_3, e_aload, e_aload_0, e_aload_1, e_aload_2, e_aload_3, e_istore, e_istore_0, e_istore_1, e_istore_2, e_istore_3, e_astore, e_astore_0, e_astore_1, e_astore_2, e_astore_3, e_lstore, e_lstore_0, e_lstore_1, e_lstore_2, e_lstore_3, e_iinc, e_iadd, e_isub, e_imul, e_ladd, e_lsub, e_lmul, e_idiv, e_irem, e_ldiv, e_lrem, e_ineg, e_lneg, e_iand, e_ior, e_ixor, e_ishl, e_ishr, e_iushr, e_lcmp, e_i2l, e_l2i, e_i2b, e_i2s, e_dup_i, e_dup_r, e_pop_i, e_pop_r, e_dup2_l, e_dup2_ir, e_dup2_ii, e_ifeq, e_ifne, e_iflt, e_ifge, e_ifgt, e_ifle, e_iceq, e_icne, e_iclt, e_icge, e_icgt, e_icle, e_goto, e_switch, e_invokevirtual, e_invokestatic, e_invokespecial, e_ret0, e_ret1, e_ret2, e_ret3, ldI_s, ldL_s, ldR_s, clO_s, ctP_s, ctS_s, mgo_0, mgo_s, pjc_s, pj_0, pj_s, lk_s, rm1_0, rm1_i, rm1_r, rm1_l, rm2_0, rm2_i, rm2_r, rm2_l, csL_s, lc_lt, lc_ge, lc_gt, lc_le, lc_eq, b01_0, b01_1, b01_01, b01_n, up2_o, up2_s, up2_u, ne_eq, reduceCtorEq, Nat.reduceAdd, Nat.reduceEqDiff, Nat.reduceLT, Nat.reduceLeDiff, Int.reduceLE, Int.reduceLT, Int.reduceAdd, Int.reduceNeg, Int.reduceMul, Int.reduceSub, Int.reduceEq, Int.reduceToNat, Int.reduceNatCast, Int.cast_ofNat_Int, ↓reduceIte, and_self, List.drop_succ_cons, List.drop_zero, List.take_succ_cons, List.take_zero, List.length_cons, List.length_nil, List.reverse_cons, List.reverse_nil, List.nil_append, List.cons_append, Option.toList, true_and, and_true, or_false, false_or, or_true, true_or, forall_const, Classical.not_not, not_false_eq_true, not_true_eq_false, false_implies, true_implies, implies_true, imp_self]
  (repeat' (first | (intro _) | (refine And.intro ?_ ?_))) <;> first | omega | exact qeq hQ (e1 (by omega)) | exact qeq hQ (e2 (by omega))
set_option maxHeartbeats 4000000 in
set_option maxRecDepth 100000 in
theorem m7_isByte : MOK cl7 sh7 tyl7 [] 0 yX7_isByte cX7_isByte 4 (some .boolean) sp7_isByte := by
  refine mok_of (own := RX7) (tb := tb7 (csL cs7_isByte)) (rt := 2) (fuel := 400) (fun avs M Q => []) (by decide) rfl nil_nw (tbOK7 _) rfl (csL_all ?_) ?_ ?_ ?_
  · intro q hq; cases hq
  · intro avs M Q hsp
    obtain ⟨xs, hx⟩ := spF_un _ _ _ hsp
    obtain ⟨e, hl⟩ := unA_mkT hx
    obtain ⟨k, lo, hi, rfl⟩ := len3 hl
    have e : avs = [ar 0, ai k, ai lo, ai hi] := e
    subst e
    simp [szL, isL]
  · intro avs M Q hM hav hsp
    obtain ⟨xs, hx⟩ := spF_un _ _ _ hsp
    obtain ⟨e, hl⟩ := unA_mkT hx
    obtain ⟨k, lo, hi, rfl⟩ := len3 hl
    have e : avs = [ar 0, ai k, ai lo, ai hi] := e
    subst e
    exact in7_isByte hM (hav (ai k) (by simp)) (hav (ai lo) (by simp)) (hav (ai hi) (by simp)) hsp.1 hsp.2
  · intro avs M Q hM hav hsp q hq m_ vs M1 hM1 hv hJ
    obtain ⟨xs, hx⟩ := spF_un _ _ _ hsp
    obtain ⟨e, hl⟩ := unA_mkT hx
    obtain ⟨k, lo, hi, rfl⟩ := len3 hl
    have e : avs = [ar 0, ai k, ai lo, ai hi] := e
    subst e
    cases hq
theorem cg7_isByte {lvl : Nat} (h : 0 < lvl) : CG RX7 cl7 sh7 tyl7 [] lvl 1 143 4 sp7_isByte := cg_V (sg := [0, 0, 0]) nil_nw spF_mono spF_un m7_isByte h rfl (by decide) rfl rfl ⟨rfl, by decide, by decide, rfl⟩ q1717 q1719 qs65 q138 q1720
def P7_next (M : Mm) : Prop := tpI M ∧ 0 ≤ M 0 7 ∧ M 0 7 ≤ M 0 6
def R7_next (M : Mm) (M1 : Mm) : Prop := frm [0] M M1 ∧ (∀ j, ¬ (7 ≤ j ∧ j ≤ 11) → M1 0 j = M 0 j) ∧ ∀ p : Nat, M 0 7 = p → tokR M1 p
def sp7_next : Spec := spV true [] (fun x M => P7_next M) (fun x M M1 => R7_next M M1)
theorem c7_next {M : Mm} {Q : Option AV → Mm → Prop} : sp7_next [ar 0] M Q = (P7_next M ∧ ∀ (M1 : Mm), R7_next M M1 → Q none M1) := rfl
def cs7_next : List (Nat × Nat × Nat × Spec) := [(143, 1, 4, sp7_isByte)]
def J7_next_0 (M : Mm) (m : Nat) (M1 : Mm) : Prop := frm [0] M M1 ∧ (∀ j, ¬ j = 7 → M1 0 j = M 0 j) ∧ ∃ p0 p : Nat, M 0 7 = p0 ∧ M1 0 7 = p ∧ p ≤ tpN M ∧ skE (M 5) (tpN M) p0 = skE (M 5) (tpN M) p ∧ m = 1000 + (tpN M - p)
def J7_next_102 (M : Mm) (m : Nat) (c : Int) (M1 : Mm) : Prop := frm [0] M M1 ∧ (∀ j, ¬ (7 ≤ j ∧ j ≤ 11) → M1 0 j = M 0 j) ∧ ∃ p0 q i : Nat, M 0 7 = p0 ∧ c = i ∧ q + i ≤ tpN M ∧ tkM M p0 = (1, q, spE (M 5) (tpN M) 97 122 (q + i)) ∧ (∀ j, j < i → 97 ≤ M 5 (q + j) ∧ M 5 (q + j) ≤ 122) ∧ M1 0 7 = ((q + i : Nat) : Int) ∧ M1 0 8 = 1 ∧ M1 0 9 = q ∧ M1 0 10 = 0 ∧ M1 0 11 = (if i ≤ 12 then wL (stk (fun k => M 5 (q + k)) i) else -1) ∧ m = tpN M - (q + i)
def J7_next_208 (M : Mm) (m : Nat) (M1 : Mm) : Prop := frm [0] M M1 ∧ (∀ j, ¬ (7 ≤ j ∧ j ≤ 11) → M1 0 j = M 0 j) ∧ ∃ p0 q i : Nat, M 0 7 = p0 ∧ q + i ≤ tpN M ∧ tkM M p0 = (2, q, spE (M 5) (tpN M) 48 57 (q + i)) ∧ (∀ j, j < i → 48 ≤ M 5 (q + j) ∧ M 5 (q + j) ≤ 57) ∧ M1 0 7 = ((q + i : Nat) : Int) ∧ M1 0 8 = 2 ∧ M1 0 9 = q ∧ (0 ≤ M1 0 10 ∧ M1 0 10 ≤ 2000000) ∧ (M1 0 10 = nuP (M 5) q i ∨ (100000 < M1 0 10 ∧ 100000 < nuP (M 5) q i)) ∧ m = tpN M - (q + i)
set_option maxHeartbeats 4000000 in
set_option maxRecDepth 100000 in
theorem at7_next_0 {M : Mm} {Q : Option AV → Mm → Prop} (hM : okM sh7 M) (hP : P7_next M) (hQ : ∀ (M1 : Mm), R7_next M M1 → Q none M1) {m : Nat} {M1 : Mm} (hM1 : okM sh7 M1) (hJ : J7_next_0 M m M1) (I_0 : List AV → Mm → Prop) (hI_0 : ∀ (m_ : Nat) (M2 : Mm), m_ < m → J7_next_0 M m_ M2 → I_0 [ar 0] M2) (I_102 : List AV → Mm → Prop) (hI_102 : ∀ (m_ : Nat) (y_c : Int) (M2 : Mm), m_ < m → J7_next_102 M m_ y_c M2 → I_102 [ar 0, ai y_c] M2) (I_208 : List AV → Mm → Prop) (hI_208 : ∀ (m_ : Nat) (M2 : Mm), m_ < m → J7_next_208 M m_ M2 → I_208 [ar 0] M2) : wp (tb7 (csL cs7_next)) sh7 2 0 cX7_next [(0, [0], I_0), (102, [0, 1], I_102), (208, [0], I_208)] Q 400 0 [(0, ar 0)] [] M1 := by
  obtain ⟨hf, hs, p0, p, hp0, hp, hpn, hsk, rfl⟩ := hJ
  obtain ⟨h1, h2, h3⟩ := id hP
  have e5 : M1 5 = M 5 := hf _ (by decide)
  have e6 : M1 0 6 = M 0 6 := hs 6 (by decide)
  have en : ((tpN M : Nat) : Int) = M 0 6 := Int.toNat_of_nonneg h1.1
  have fin : ∀ M3 : Mm, frm [0] M M3 → (∀ j, ¬ (7 ≤ j ∧ j ≤ 11) → M3 0 j = M 0 j) → M3 0 8 = (tkM M p0).1 → M3 0 9 = ((tkM M p0).2.1 : Int) → M3 0 7 = ((tkM M p0).2.2 : Int) → M3 0 10 = 0 → ¬ (tkM M p0).1 = 2 → ¬ (tkM M p0).1 = 1 → Q none M3 := by
    intro M3 f1 f2 f3 f4 f5 f6 f7 f8
    refine hQ _ ⟨f1, f2, fun p' hp' => ?_⟩
    obtain rfl : p' = p0 := by omega
    have x5 : M3 5 = M 5 := f1 _ (by decide)
    have x6 : M3 0 6 = M 0 6 := f2 6 (by decide)
    unfold tokR
    rw [show tpN M3 = tpN M by show (M3 0 6).toNat = _; rw [x6], show tkM M3 p' = tkM M p' by show tkP (M3 5) (M3 0 6).toNat p' = _; rw [x5, x6]]
    exact ⟨by omega, f3, f4, f5, by omega, fun z => absurd z f7, fun z => absurd z f8⟩
  have go0 : (p : Int) < M 0 6 → (M 5 p = 32 ∨ M 5 p = 10) → i32 ((p : Int) + 1) ∧ I_0 [ar 0] (up2 M1 0 7 ((p : Int) + 1)) := by
    intro q1 q2
    refine ⟨by omega, hI_0 (1000 + (tpN M - (p + 1))) _ (by omega) ⟨frm_up hf (by decide), fun j hj => ?_, p0, p + 1, hp0, by rw [up2_s]; omega, by omega, ?_, rfl⟩⟩
    · rw [up2_n hj]; exact hs j hj
    · rw [hsk]; exact skE_1 (by omega) q2
  simp only [e_wp dX7_next_0 rfl, e_wp dX7_next_1 rfl, e_wp dX7_next_2 rfl, e_wp dX7_next_5 rfl, e_wp dX7_next_7 rfl, e_wp dX7_next_9 rfl, e_wp dX7_next_12 rfl, e_wp dX7_next_15 rfl, e_wp dX7_next_16 rfl, e_wp dX7_next_17 rfl, e_wp dX7_next_20 rfl, e_wp dX7_next_22 rfl, e_wp dX7_next_24 rfl, e_wp dX7_next_27 rfl, e_wp dX7_next_30 rfl, e_wp dX7_next_31 rfl, e_wp dX7_next_32 rfl, e_wp dX7_next_35 rfl, e_wp dX7_next_36 rfl, e_wp dX7_next_37 rfl, e_wp dX7_next_40 rfl, e_wp dX7_next_43 rfl, e_wp dX7_next_44 rfl, e_wp dX7_next_45 rfl, e_wp dX7_next_48 rfl, e_wp dX7_next_51 rfl, e_wp dX7_next_52 rfl, e_wp dX7_next_53 rfl, e_wp dX7_next_56 rfl, e_wp dX7_next_57 rfl, e_wp dX7_next_58 rfl, e_wp dX7_next_61 rfl, e_wp dX7_next_62 rfl, e_wp dX7_next_65 rfl, e_wp dX7_next_66 rfl, e_wp dX7_next_69 rfl, e_wp dX7_next_72 rfl, e_wp dX7_next_73 rfl, e_wp dX7_next_74 rfl, e_wp dX7_next_77 rfl, e_wp dX7_next_80 rfl, e_wp dX7_next_81 rfl, e_wp dX7_next_82 rfl, e_wp dX7_next_85 rfl, e_wp dX7_next_87 rfl, e_wp dX7_next_89 rfl, e_wp dX7_next_92 rfl, e_wp dX7_next_95 rfl, e_wp dX7_next_96 rfl, e_wp dX7_next_97 rfl, e_wp dX7_next_100 rfl, e_wp dX7_next_101 rfl, e_wp dX7_next_102 rfl, e_wp dX7_next_103 rfl, e_wp dX7_next_104 rfl, e_wp dX7_next_107 rfl, e_wp dX7_next_109 rfl, e_wp dX7_next_111 rfl, e_wp dX7_next_114 rfl, e_wp dX7_next_117 rfl, e_wp dX7_next_118 rfl, e_wp dX7_next_119 rfl, e_wp dX7_next_121 rfl, e_wp dX7_next_124 rfl, e_wp dX7_next_127 rfl, e_wp dX7_next_130 rfl, e_wp dX7_next_133 rfl, e_wp dX7_next_134 rfl, e_wp dX7_next_137 rfl, e_wp dX7_next_138 rfl, e_wp dX7_next_139 rfl, e_wp dX7_next_142 rfl, e_wp dX7_next_143 rfl, e_wp dX7_next_146 rfl, e_wp dX7_next_147 rfl, e_wp dX7_next_148 rfl, e_wp dX7_next_149 rfl, e_wp dX7_next_152 rfl, e_wp dX7_next_153 rfl, e_wp dX7_next_156 rfl, e_wp dX7_next_157 rfl, e_wp dX7_next_159 rfl, e_wp dX7_next_162 rfl, e_wp dX7_next_163 rfl, e_wp dX7_next_166 rfl, e_wp dX7_next_169 rfl, e_wp dX7_next_170 rfl, e_wp dX7_next_171 rfl, e_wp dX7_next_174 rfl, e_wp dX7_next_175 rfl, e_wp dX7_next_176 rfl, e_wp dX7_next_179 rfl, e_wp dX7_next_182 rfl, e_wp dX7_next_185 rfl, e_wp dX7_next_188 rfl, e_wp dX7_next_189 rfl, e_wp dX7_next_190 rfl, e_wp dX7_next_193 rfl, e_wp dX7_next_195 rfl, e_wp dX7_next_197 rfl, e_wp dX7_next_200 rfl, e_wp dX7_next_203 rfl, e_wp dX7_next_204 rfl, e_wp dX7_next_205 rfl, e_wp dX7_next_208 rfl, e_wp dX7_next_209 rfl, e_wp dX7_next_210 rfl, e_wp dX7_next_213 rfl, e_wp dX7_next_215 rfl, e_wp dX7_next_217 rfl, e_wp dX7_next_220 rfl, e_wp dX7_next_223 rfl, e_wp dX7_next_224 rfl, e_wp dX7_next_225 rfl, e_wp dX7_next_228 rfl, e_wp dX7_next_230 rfl, e_wp dX7_next_233 rfl, e_wp dX7_next_235 rfl, e_wp dX7_next_238 rfl, e_wp dX7_next_240 rfl, e_wp dX7_next_241 rfl, e_wp dX7_next_244 rfl, e_wp dX7_next_245 rfl, e_wp dX7_next_246 rfl, e_wp dX7_next_249 rfl, e_wp dX7_next_250 rfl, e_wp dX7_next_253 rfl, e_wp dX7_next_254 rfl, e_wp dX7_next_255 rfl, e_wp dX7_next_257 rfl, e_wp dX7_next_258 rfl, e_wp dX7_next_261 rfl, e_wp dX7_next_262 rfl, e_wp dX7_next_263 rfl, e_wp dX7_next_266 rfl, e_wp dX7_next_267 rfl, e_wp dX7_next_268 rfl, e_wp dX7_next_271 rfl, e_wp dX7_next_274 rfl, e_wp dX7_next_275 rfl, e_wp dX7_next_276 rfl, e_wp dX7_next_279 rfl, e_wp dX7_next_280 rfl, e_wp dX7_next_283 rfl, e_wp dX7_next_284 rfl, e_wp dX7_next_286 rfl, e_wp dX7_next_289 rfl, e_wp dX7_next_290 rfl, e_wp dX7_next_293 rfl, e_wp dX7_next_294 rfl, e_wp dX7_next_297 rfl, e_wp dX7_next_298 rfl, e_wp dX7_next_299 rfl, e_wp dX7_next_302 rfl, e_wp dX7_next_303 rfl, e_wp dX7_next_304 rfl, e_wp dX7_next_307 rfl, g7_140, c7_isByte, P7_isByte, V7_isByte, cs7_next, p7_140, p7_147, p7_150, p7_153, g7_133, p7_157, k7_160, k7_162, g7_153, g7_23, k7_164, g7_150, k7_166, k7_167, a7_1, w7_1, a7_2, w7_2, a7_3, w7_3, a7_4, w7_4, a7_5, w7_5, a7_6, w7_6, a7_7, w7_7, a7_8, w7_8, a7_9, w7_9, a7_10, w7_10, a7_11, w7_11, a7_12, w7_12, a7_13, w7_13, a7_14, w7_14, a7_15, w7_15, a7_16, w7_16, a7_17, w7_17, a7_18, w7_18, a7_19, w7_19, a7_20, w7_20, a7_21, w7_21, a7_22, w7_22, a7_23, w7_23, a7_24, w7_24, a7_25, w7_25, a7_26, w7_26, a7_27, w7_27, a7_28, w7_28, a7_29, w7_29, a7_30, w7_30, a7_31, w7_31, a7_32, w7_32, a7_33, w7_33, e_iconst, e_bipush, e_sipush, e_lconst_0, e_lconst_1, e_iload, e_iload_0, e_iload_1, e_iload_2, e_iload_3, e_lload, e_lload_0, e_lload_1, e_lload_2, e_lload_3, e_aload, e_aload_0, e_aload_1, e_aload_2, e_aload_3, e_istore, e_istore_0, e_istore_1, e_istore_2, e_istore_3, e_astore, e_astore_0, e_astore_1, e_astore_2, e_astore_3, e_lstore, e_lstore_0, e_lstore_1, e_lstore_2, e_lstore_3, e_iinc, e_iadd, e_isub, e_imul, e_ladd, e_lsub, e_lmul, e_idiv, e_irem, e_ldiv, e_lrem, e_ineg, e_lneg, e_iand, e_ior, e_ixor, e_ishl, e_ishr, e_iushr, e_lcmp, e_i2l, e_l2i, e_i2b, e_i2s, e_dup_i, e_dup_r, e_pop_i, e_pop_r, e_dup2_l, e_dup2_ir, e_dup2_ii, e_ifeq, e_ifne, e_iflt, e_ifge, e_ifgt, e_ifle, e_iceq, e_icne, e_iclt, e_icge, e_icgt, e_icle, e_goto, e_switch, e_invokevirtual, e_invokestatic, e_invokespecial, e_ret0, e_ret1, e_ret2, e_ret3, ldI_s, ldL_s, ldR_s, clO_s, ctP_s, ctS_s, mgo_0, mgo_s, pjc_s, pj_0, pj_s, lk_s, rm1_0, rm1_i, rm1_r, rm1_l, rm2_0, rm2_i, rm2_r, rm2_l, csL_s, lc_lt, lc_ge, lc_gt, lc_le, lc_eq, b01_0, b01_1, b01_01, b01_n, up2_o, up2_s, up2_u, ne_eq, reduceCtorEq, Nat.reduceAdd, Nat.reduceEqDiff, Nat.reduceLT, Nat.reduceLeDiff, Int.reduceLE, Int.reduceLT, Int.reduceAdd, Int.reduceNeg, Int.reduceMul, Int.reduceSub, Int.reduceEq, Int.reduceToNat, Int.reduceNatCast, Int.cast_ofNat_Int, ↓reduceIte, and_self, List.drop_succ_cons, List.drop_zero, List.take_succ_cons, List.take_zero, List.length_cons, List.length_nil, List.reverse_cons, List.reverse_nil, List.nil_append, List.cons_append, Option.toList, true_and, and_true, or_false, false_or, or_true, true_or, forall_const, Classical.not_not, not_false_eq_true, not_true_eq_false, false_implies, true_implies, implies_true, imp_self, e5, e6, hp, up2_n, Int.toNat_natCast]
  refine ⟨by omega, fun q1 => go0 q1.1 (Or.inl (by omega)), fun q1 => ⟨by omega, fun q2 => ?_, fun q2 => go0 q2.1 (Or.inr (by omega))⟩⟩
  have ep : skE (M 5) (tpN M) p0 = p := hsk.trans (skE_0 (by omega))
  have sc : ∀ j, ¬ (7 ≤ j ∧ j ≤ 11) → ∀ x y z, up2 (up2 (up2 M1 0 9 x) 0 10 y) 0 11 z 0 j = M 0 j := by
    intro j hj x y z
    rw [up2_n (by omega), up2_n (by omega), up2_n (by omega)]
    exact hs j (by omega)
  have fr3 : ∀ x y z, frm [0] M (up2 (up2 (up2 M1 0 9 x) 0 10 y) 0 11 z) := fun x y z => frm_up (frm_up (frm_up hf (by decide)) (by decide)) (by decide)
  have et : tkM M p0 = if tpN M ≤ p then (0, p, p) else if 97 ≤ M 5 p ∧ M 5 p ≤ 122 then (1, p, spE (M 5) (tpN M) 97 122 p) else if 48 ≤ M 5 p ∧ M 5 p ≤ 57 then (2, p, spE (M 5) (tpN M) 48 57 p) else (if M 5 p = 59 then 3 else 4, p, p + 1) := by
    show tkP _ _ _ = _
    unfold tkP
    rw [ep]
  refine ⟨fun q3 => ⟨by omega, fun q4 => ⟨by omega, fun q5 => ?_, fun q5 => ?_⟩, fun q4 => ?_⟩, fun q3 => ?_⟩
  · rw [if_neg (by omega), if_neg (by omega), if_neg (by omega)] at et
    have fin2 : ∀ k : Int, k = (if M 5 p = 59 then 3 else 4) → ∀ x y z, x = (p : Int) → y = (0 : Int) → Q none (up2 (up2 (up2 (up2 (up2 M1 0 9 x) 0 10 y) 0 11 z) 0 8 k) 0 7 ((p : Int) + 1)) := by
      rintro k hk x y z rfl rfl
      refine fin _ (frm_up (frm_up (fr3 _ _ _) (by decide)) (by decide)) (fun j hj => ?_) ?_ ?_ ?_ ?_ ?_ ?_
      · rw [up2_n (by omega), up2_n (by omega)]; exact sc j hj _ _ _
      · rw [et, up2_n (by decide), up2_s, hk]
      · rw [et, up2_n (by decide), up2_n (by decide), up2_n (by decide), up2_n (by decide), up2_s]
      · rw [et, up2_s]; show (p : Int) + 1 = ((p + 1 : Nat) : Int); omega
      · rw [up2_n (by decide), up2_n (by decide), up2_n (by decide), up2_s]
      · rw [et]; show ¬ (if M 5 p = 59 then (3 : Int) else 4) = 2; split <;> omega
      · rw [et]; show ¬ (if M 5 p = 59 then (3 : Int) else 4) = 1; split <;> omega
    repeat (refine And.intro (by omega) ?_)
    refine ⟨fun q6 => ⟨by omega, fin2 _ (if_neg q6).symm _ _ _ rfl rfl⟩, fun q6 => ⟨by omega, fin2 _ (if_pos q6).symm _ _ _ rfl rfl⟩⟩
  · rw [if_neg (by omega), if_neg (by omega), if_pos (by omega)] at et
    refine hI_208 (tpN M - (p + 0)) _ (by omega) ⟨frm_up (fr3 _ _ _) (by decide), fun j hj => ?_, p0, p, 0, hp0, by omega, et, fun j hj => by omega, ?_, up2_s, ?_, ?_, ?_, rfl⟩
    · rw [up2_n (by omega)]; exact sc j hj _ _ _
    · rw [up2_n (by decide), up2_n (by decide), up2_n (by decide), up2_n (by decide), hp]; rfl
    · rw [up2_n (by decide), up2_n (by decide), up2_n (by decide), up2_s]
    · rw [up2_n (by decide), up2_n (by decide), up2_s]; omega
    · rw [up2_n (by decide), up2_n (by decide), up2_s]; exact Or.inl rfl
  · rw [if_neg (by omega), if_pos (by omega)] at et
    refine hI_102 (tpN M - (p + 0)) _ _ (by omega) ⟨frm_up (fr3 _ _ _) (by decide), fun j hj => ?_, p0, p, 0, hp0, rfl, by omega, et, fun j hj => by omega, ?_, up2_s, ?_, ?_, ?_, rfl⟩
    · rw [up2_n (by omega)]; exact sc j hj _ _ _
    · rw [up2_n (by decide), up2_n (by decide), up2_n (by decide), up2_n (by decide), hp]; rfl
    · rw [up2_n (by decide), up2_n (by decide), up2_n (by decide), up2_s]
    · rw [up2_n (by decide), up2_n (by decide), up2_s]
    · rw [up2_n (by decide), up2_s]; rfl
  · rw [if_pos (by omega)] at et
    refine fin _ (frm_up (fr3 _ _ _) (by decide)) (fun j hj => ?_) ?_ ?_ ?_ ?_ ?_ ?_
    · rw [up2_n (by omega)]; exact sc j hj _ _ _
    · rw [et, up2_s]
    · rw [et, up2_n (by decide), up2_n (by decide), up2_n (by decide), up2_s]
    · rw [et, up2_n (by decide), up2_n (by decide), up2_n (by decide), up2_n (by decide), hp]
    · rw [up2_n (by decide), up2_n (by decide), up2_s]
    · rw [et]; show ¬ (0 : Int) = 2; omega
    · rw [et]; show ¬ (0 : Int) = 1; omega
set_option maxHeartbeats 4000000 in
set_option maxRecDepth 100000 in
theorem at7_next_102 {M : Mm} {Q : Option AV → Mm → Prop} (hM : okM sh7 M) (hP : P7_next M) (hQ : ∀ (M1 : Mm), R7_next M M1 → Q none M1) {m : Nat} {c : Int} {M1 : Mm} (hM1 : okM sh7 M1) (h_c : i32 c) (hJ : J7_next_102 M m c M1) (I_0 : List AV → Mm → Prop) (hI_0 : ∀ (m_ : Nat) (M2 : Mm), m_ < m → J7_next_0 M m_ M2 → I_0 [ar 0] M2) (I_102 : List AV → Mm → Prop) (hI_102 : ∀ (m_ : Nat) (y_c : Int) (M2 : Mm), m_ < m → J7_next_102 M m_ y_c M2 → I_102 [ar 0, ai y_c] M2) (I_208 : List AV → Mm → Prop) (hI_208 : ∀ (m_ : Nat) (M2 : Mm), m_ < m → J7_next_208 M m_ M2 → I_208 [ar 0] M2) : wp (tb7 (csL cs7_next)) sh7 2 0 cX7_next [(0, [0], I_0), (102, [0, 1], I_102), (208, [0], I_208)] Q 400 102 [(0, ar 0), (1, ai c)] [] M1 := by
  obtain ⟨hf, hs, p0, q, i, hp0, rfl, hqn, ht, hl, s7, s9, s8, s10, s11, rfl⟩ := hJ
  obtain ⟨h1, h2, h3⟩ := id hP
  have e5 : M1 5 = M 5 := hf _ (by decide)
  have e6 : M1 0 6 = M 0 6 := hs 6 (by decide)
  have en : ((tpN M : Nat) : Int) = M 0 6 := Int.toNat_of_nonneg h1.1
  have wb := wL_0 (stk_let (T := M 5) (q := q) (i := i) hl)
  rw [stk_len] at wb
  have i1 : (((q + i : Nat)) : Int).toNat = q + i := Int.toNat_natCast _
  have wb2 : i ≤ 11 → 0 ≤ wL (stk (fun k => M 5 (q + k)) i) ∧ wL (stk (fun k => M 5 (q + k)) i) ≤ 5559060566555523 := by
    intro hi
    have h9 : 27 ^ i ≤ 27 ^ 11 := Nat.pow_le_pow_right (by omega) hi
    have h8 : (27 : Nat) ^ 11 = 5559060566555523 := by decide
    omega
  have nx : ∀ x : Int, ((q + i : Nat) : Int) < M 0 6 → (97 ≤ M 5 (q + i) ∧ M 5 (q + i) ≤ 122) → x = (if i + 1 ≤ 12 then wL (stk (fun k => M 5 (q + k)) (i + 1)) else -1) → ∀ M3, M3 = up2 (up2 M1 0 11 x) 0 7 (((q + i : Nat) : Int) + 1) → i32 ((i : Int) + 1) ∧ I_102 [ar 0, ai (i + 1)] M3 := by
    rintro x z1 z2 hx M3 rfl
    refine ⟨by omega, hI_102 (tpN M - (q + (i + 1))) _ _ (by omega) ⟨frm_up (frm_up hf (by decide)) (by decide), fun j hj => ?_, p0, q, i + 1, hp0, by omega, by omega, ?_, fun j hj => ?_, ?_, ?_, ?_, ?_, ?_, rfl⟩⟩
    · rw [up2_n (by omega), up2_n (by omega)]; exact hs j hj
    · rw [ht, spE_1 (by omega) z2]; rfl
    · by_cases e : j = i
      · rw [e]; exact z2
      · exact hl j (by omega)
    · rw [up2_s]; omega
    · rw [up2_n (by decide), up2_n (by decide)]; exact s9
    · rw [up2_n (by decide), up2_n (by decide)]; exact s8
    · rw [up2_n (by decide), up2_n (by decide)]; exact s10
    · rw [up2_n (by decide), up2_s]; exact hx
  simp only [e_wp dX7_next_0 rfl, e_wp dX7_next_1 rfl, e_wp dX7_next_2 rfl, e_wp dX7_next_5 rfl, e_wp dX7_next_7 rfl, e_wp dX7_next_9 rfl, e_wp dX7_next_12 rfl, e_wp dX7_next_15 rfl, e_wp dX7_next_16 rfl, e_wp dX7_next_17 rfl, e_wp dX7_next_20 rfl, e_wp dX7_next_22 rfl, e_wp dX7_next_24 rfl, e_wp dX7_next_27 rfl, e_wp dX7_next_30 rfl, e_wp dX7_next_31 rfl, e_wp dX7_next_32 rfl, e_wp dX7_next_35 rfl, e_wp dX7_next_36 rfl, e_wp dX7_next_37 rfl, e_wp dX7_next_40 rfl, e_wp dX7_next_43 rfl, e_wp dX7_next_44 rfl, e_wp dX7_next_45 rfl, e_wp dX7_next_48 rfl, e_wp dX7_next_51 rfl, e_wp dX7_next_52 rfl, e_wp dX7_next_53 rfl, e_wp dX7_next_56 rfl, e_wp dX7_next_57 rfl, e_wp dX7_next_58 rfl, e_wp dX7_next_61 rfl, e_wp dX7_next_62 rfl, e_wp dX7_next_65 rfl, e_wp dX7_next_66 rfl, e_wp dX7_next_69 rfl, e_wp dX7_next_72 rfl, e_wp dX7_next_73 rfl, e_wp dX7_next_74 rfl, e_wp dX7_next_77 rfl, e_wp dX7_next_80 rfl, e_wp dX7_next_81 rfl, e_wp dX7_next_82 rfl, e_wp dX7_next_85 rfl, e_wp dX7_next_87 rfl, e_wp dX7_next_89 rfl, e_wp dX7_next_92 rfl, e_wp dX7_next_95 rfl, e_wp dX7_next_96 rfl, e_wp dX7_next_97 rfl, e_wp dX7_next_100 rfl, e_wp dX7_next_101 rfl, e_wp dX7_next_102 rfl, e_wp dX7_next_103 rfl, e_wp dX7_next_104 rfl, e_wp dX7_next_107 rfl, e_wp dX7_next_109 rfl, e_wp dX7_next_111 rfl, e_wp dX7_next_114 rfl, e_wp dX7_next_117 rfl, e_wp dX7_next_118 rfl, e_wp dX7_next_119 rfl, e_wp dX7_next_121 rfl, e_wp dX7_next_124 rfl, e_wp dX7_next_127 rfl, e_wp dX7_next_130 rfl, e_wp dX7_next_133 rfl, e_wp dX7_next_134 rfl, e_wp dX7_next_137 rfl, e_wp dX7_next_138 rfl, e_wp dX7_next_139 rfl, e_wp dX7_next_142 rfl, e_wp dX7_next_143 rfl, e_wp dX7_next_146 rfl, e_wp dX7_next_147 rfl, e_wp dX7_next_148 rfl, e_wp dX7_next_149 rfl, e_wp dX7_next_152 rfl, e_wp dX7_next_153 rfl, e_wp dX7_next_156 rfl, e_wp dX7_next_157 rfl, e_wp dX7_next_159 rfl, e_wp dX7_next_162 rfl, e_wp dX7_next_163 rfl, e_wp dX7_next_166 rfl, e_wp dX7_next_169 rfl, e_wp dX7_next_170 rfl, e_wp dX7_next_171 rfl, e_wp dX7_next_174 rfl, e_wp dX7_next_175 rfl, e_wp dX7_next_176 rfl, e_wp dX7_next_179 rfl, e_wp dX7_next_182 rfl, e_wp dX7_next_185 rfl, e_wp dX7_next_188 rfl, e_wp dX7_next_189 rfl, e_wp dX7_next_190 rfl, e_wp dX7_next_193 rfl, e_wp dX7_next_195 rfl, e_wp dX7_next_197 rfl, e_wp dX7_next_200 rfl, e_wp dX7_next_203 rfl, e_wp dX7_next_204 rfl, e_wp dX7_next_205 rfl, e_wp dX7_next_208 rfl, e_wp dX7_next_209 rfl, e_wp dX7_next_210 rfl, e_wp dX7_next_213 rfl, e_wp dX7_next_215 rfl, e_wp dX7_next_217 rfl, e_wp dX7_next_220 rfl, e_wp dX7_next_223 rfl, e_wp dX7_next_224 rfl, e_wp dX7_next_225 rfl, e_wp dX7_next_228 rfl, e_wp dX7_next_230 rfl, e_wp dX7_next_233 rfl, e_wp dX7_next_235 rfl, e_wp dX7_next_238 rfl, e_wp dX7_next_240 rfl, e_wp dX7_next_241 rfl, e_wp dX7_next_244 rfl, e_wp dX7_next_245 rfl, e_wp dX7_next_246 rfl, e_wp dX7_next_249 rfl, e_wp dX7_next_250 rfl, e_wp dX7_next_253 rfl, e_wp dX7_next_254 rfl, e_wp dX7_next_255 rfl, e_wp dX7_next_257 rfl, e_wp dX7_next_258 rfl, e_wp dX7_next_261 rfl, e_wp dX7_next_262 rfl, e_wp dX7_next_263 rfl, e_wp dX7_next_266 rfl, e_wp dX7_next_267 rfl, e_wp dX7_next_268 rfl, e_wp dX7_next_271 rfl, e_wp dX7_next_274 rfl, e_wp dX7_next_275 rfl, e_wp dX7_next_276 rfl, e_wp dX7_next_279 rfl, e_wp dX7_next_280 rfl, e_wp dX7_next_283 rfl, e_wp dX7_next_284 rfl, e_wp dX7_next_286 rfl, e_wp dX7_next_289 rfl, e_wp dX7_next_290 rfl, e_wp dX7_next_293 rfl, e_wp dX7_next_294 rfl, e_wp dX7_next_297 rfl, e_wp dX7_next_298 rfl, e_wp dX7_next_299 rfl, e_wp dX7_next_302 rfl, e_wp dX7_next_303 rfl, e_wp dX7_next_304 rfl, e_wp dX7_next_307 rfl, g7_140, c7_isByte, P7_isByte, V7_isByte, cs7_next, p7_140, p7_147, p7_150, p7_153, g7_133, p7_157, k7_160, k7_162, g7_153, g7_23, k7_164, g7_150, k7_166, k7_167, a7_1, w7_1, a7_2, w7_2, a7_3, w7_3, a7_4, w7_4, a7_5, w7_5, a7_6, w7_6, a7_7, w7_7, a7_8, w7_8, a7_9, w7_9, a7_10, w7_10, a7_11, w7_11, a7_12, w7_12, a7_13, w7_13, a7_14, w7_14, a7_15, w7_15, a7_16, w7_16, a7_17, w7_17, a7_18, w7_18, a7_19, w7_19, a7_20, w7_20, a7_21, w7_21, a7_22, w7_22, a7_23, w7_23, a7_24, w7_24, a7_25, w7_25, a7_26, w7_26, a7_27, w7_27, a7_28, w7_28, a7_29, w7_29, a7_30, w7_30, a7_31, w7_31, a7_32, w7_32, a7_33, w7_33, e_iconst, e_bipush, e_sipush, e_lconst_0, e_lconst_1, e_iload, e_iload_0, e_iload_1, e_iload_2, e_iload_3, e_lload, e_lload_0, e_lload_1, e_lload_2, e_lload_3, e_aload, e_aload_0, e_aload_1, e_aload_2, e_aload_3, e_istore, e_istore_0, e_istore_1, e_istore_2, e_istore_3, e_astore, e_astore_0, e_astore_1, e_astore_2, e_astore_3, e_lstore, e_lstore_0, e_lstore_1, e_lstore_2, e_lstore_3, e_iinc, e_iadd, e_isub, e_imul, e_ladd, e_lsub, e_lmul, e_idiv, e_irem, e_ldiv, e_lrem, e_ineg, e_lneg, e_iand, e_ior, e_ixor, e_ishl, e_ishr, e_iushr, e_lcmp, e_i2l, e_l2i, e_i2b, e_i2s, e_dup_i, e_dup_r, e_pop_i, e_pop_r, e_dup2_l, e_dup2_ir, e_dup2_ii, e_ifeq, e_ifne, e_iflt, e_ifge, e_ifgt, e_ifle, e_iceq, e_icne, e_iclt, e_icge, e_icgt, e_icle, e_goto, e_switch, e_invokevirtual, e_invokestatic, e_invokespecial, e_ret0, e_ret1, e_ret2, e_ret3, ldI_s, ldL_s, ldR_s, clO_s, ctP_s, ctS_s, mgo_0, mgo_s, pjc_s, pj_0, pj_s, lk_s, rm1_0, rm1_i, rm1_r, rm1_l, rm2_0, rm2_i, rm2_r, rm2_l, csL_s, lc_lt, lc_ge, lc_gt, lc_le, lc_eq, b01_0, b01_1, b01_01, b01_n, up2_o, up2_s, up2_u, ne_eq, reduceCtorEq, Nat.reduceAdd, Nat.reduceEqDiff, Nat.reduceLT, Nat.reduceLeDiff, Int.reduceLE, Int.reduceLT, Int.reduceAdd, Int.reduceNeg, Int.reduceMul, Int.reduceSub, Int.reduceEq, Int.reduceToNat, Int.reduceNatCast, Int.cast_ofNat_Int, ↓reduceIte, and_self, List.drop_succ_cons, List.drop_zero, List.take_succ_cons, List.take_zero, List.length_cons, List.length_nil, List.reverse_cons, List.reverse_nil, List.nil_append, List.cons_append, Option.toList, true_and, and_true, or_false, false_or, or_true, true_or, forall_const, Classical.not_not, not_false_eq_true, not_true_eq_false, false_implies, true_implies, implies_true, imp_self, e5, e6, s7, i1, up2_n]
  refine ⟨by omega, fun z => ?_, fun z => ⟨fun w => ?_, fun w => ?_⟩⟩
  · have ee : spE (M 5) (tpN M) 97 122 (q + i) = q + i := spE_0 (by omega)
    rw [ee] at ht
    refine hQ _ ⟨hf, hs, fun p' hp' => ?_⟩
    obtain rfl : p' = p0 := by omega
    unfold tokR
    rw [show tpN M1 = tpN M by show (M1 0 6).toNat = _; rw [e6], show tkM M1 p' = tkM M p' by show tkP (M1 5) (M1 0 6).toNat p' = _; rw [e5, e6], ht]
    refine ⟨by omega, s9, s8, s7, by omega, fun y => absurd y (by show ¬ (1 : Int) = 2; omega), fun _ => ?_⟩
    show M1 0 11 = if q + i - q ≤ 12 then wL (stk (fun k => M1 5 (q + k)) (q + i - q)) else -1
    rw [e5, show q + i - q = i by omega]
    exact s11
  · have b := wb2 (by omega)
    rw [if_pos (by omega)] at s11
    rw [s11]
    repeat (refine And.intro (by omega) ?_)
    refine ⟨fun y => ⟨by omega, nx _ (by omega) (by omega) ?_ _ rfl⟩, fun y => absurd y (by omega)⟩
    rw [if_pos (by omega)]
    show 27 * _ + _ - 96 = 27 * _ + _ - 96
    rfl
  · refine ⟨fun y => absurd y (by omega), fun y => ?_⟩
    repeat (refine And.intro (by omega) ?_)
    refine (nx (-1) (by omega) (by omega) (if_neg (by omega)).symm _ ?_).2
    rfl
set_option maxHeartbeats 4000000 in
set_option maxRecDepth 100000 in
theorem at7_next_208 {M : Mm} {Q : Option AV → Mm → Prop} (hM : okM sh7 M) (hP : P7_next M) (hQ : ∀ (M1 : Mm), R7_next M M1 → Q none M1) {m : Nat} {M1 : Mm} (hM1 : okM sh7 M1) (hJ : J7_next_208 M m M1) (I_0 : List AV → Mm → Prop) (hI_0 : ∀ (m_ : Nat) (M2 : Mm), m_ < m → J7_next_0 M m_ M2 → I_0 [ar 0] M2) (I_102 : List AV → Mm → Prop) (hI_102 : ∀ (m_ : Nat) (y_c : Int) (M2 : Mm), m_ < m → J7_next_102 M m_ y_c M2 → I_102 [ar 0, ai y_c] M2) (I_208 : List AV → Mm → Prop) (hI_208 : ∀ (m_ : Nat) (M2 : Mm), m_ < m → J7_next_208 M m_ M2 → I_208 [ar 0] M2) : wp (tb7 (csL cs7_next)) sh7 2 0 cX7_next [(0, [0], I_0), (102, [0, 1], I_102), (208, [0], I_208)] Q 400 208 [(0, ar 0)] [] M1 := by
  obtain ⟨hf, hs, p0, q, i, hp0, hqn, ht, hl, s7, s9, s8, s10, s11, rfl⟩ := hJ
  obtain ⟨h1, h2, h3⟩ := id hP
  have e5 : M1 5 = M 5 := hf _ (by decide)
  have e6 : M1 0 6 = M 0 6 := hs 6 (by decide)
  have en : ((tpN M : Nat) : Int) = M 0 6 := Int.toNat_of_nonneg h1.1
  have i1 : (((q + i : Nat)) : Int).toNat = q + i := Int.toNat_natCast _
  have nb := nuP_b (T := M 5) (q := q) hl
  have nx : ∀ x : Int, ((q + i : Nat) : Int) < M 0 6 → (48 ≤ M 5 (q + i) ∧ M 5 (q + i) ≤ 57) → (0 ≤ x ∧ x ≤ 2000000) → (x = nuP (M 5) q (i + 1) ∨ (100000 < x ∧ 100000 < nuP (M 5) q (i + 1))) → I_208 [ar 0] (up2 (up2 M1 0 10 x) 0 7 (((q + i : Nat) : Int) + 1)) := by
    intro x z1 z2 z3 z4
    refine hI_208 (tpN M - (q + (i + 1))) _ (by omega) ⟨frm_up (frm_up hf (by decide)) (by decide), fun j hj => ?_, p0, q, i + 1, hp0, by omega, ?_, fun j hj => ?_, ?_, ?_, ?_, ?_, ?_, rfl⟩
    · rw [up2_n (by omega), up2_n (by omega)]; exact hs j hj
    · rw [ht, spE_1 (by omega) z2]; rfl
    · by_cases e : j = i
      · rw [e]; exact z2
      · exact hl j (by omega)
    · rw [up2_s]; omega
    · rw [up2_n (by decide), up2_n (by decide)]; exact s9
    · rw [up2_n (by decide), up2_n (by decide)]; exact s8
    · rw [up2_n (by decide), up2_s]; exact z3
    · rw [up2_n (by decide), up2_s]; exact z4
  have en1 : nuP (M 5) q (i + 1) = 10 * nuP (M 5) q i + M 5 (q + i) - 48 := rfl
  simp only [e_wp dX7_next_0 rfl, e_wp dX7_next_1 rfl, e_wp dX7_next_2 rfl, e_wp dX7_next_5 rfl, e_wp dX7_next_7 rfl, e_wp dX7_next_9 rfl, e_wp dX7_next_12 rfl, e_wp dX7_next_15 rfl, e_wp dX7_next_16 rfl, e_wp dX7_next_17 rfl, e_wp dX7_next_20 rfl, e_wp dX7_next_22 rfl, e_wp dX7_next_24 rfl, e_wp dX7_next_27 rfl, e_wp dX7_next_30 rfl, e_wp dX7_next_31 rfl, e_wp dX7_next_32 rfl, e_wp dX7_next_35 rfl, e_wp dX7_next_36 rfl, e_wp dX7_next_37 rfl, e_wp dX7_next_40 rfl, e_wp dX7_next_43 rfl, e_wp dX7_next_44 rfl, e_wp dX7_next_45 rfl, e_wp dX7_next_48 rfl, e_wp dX7_next_51 rfl, e_wp dX7_next_52 rfl, e_wp dX7_next_53 rfl, e_wp dX7_next_56 rfl, e_wp dX7_next_57 rfl, e_wp dX7_next_58 rfl, e_wp dX7_next_61 rfl, e_wp dX7_next_62 rfl, e_wp dX7_next_65 rfl, e_wp dX7_next_66 rfl, e_wp dX7_next_69 rfl, e_wp dX7_next_72 rfl, e_wp dX7_next_73 rfl, e_wp dX7_next_74 rfl, e_wp dX7_next_77 rfl, e_wp dX7_next_80 rfl, e_wp dX7_next_81 rfl, e_wp dX7_next_82 rfl, e_wp dX7_next_85 rfl, e_wp dX7_next_87 rfl, e_wp dX7_next_89 rfl, e_wp dX7_next_92 rfl, e_wp dX7_next_95 rfl, e_wp dX7_next_96 rfl, e_wp dX7_next_97 rfl, e_wp dX7_next_100 rfl, e_wp dX7_next_101 rfl, e_wp dX7_next_102 rfl, e_wp dX7_next_103 rfl, e_wp dX7_next_104 rfl, e_wp dX7_next_107 rfl, e_wp dX7_next_109 rfl, e_wp dX7_next_111 rfl, e_wp dX7_next_114 rfl, e_wp dX7_next_117 rfl, e_wp dX7_next_118 rfl, e_wp dX7_next_119 rfl, e_wp dX7_next_121 rfl, e_wp dX7_next_124 rfl, e_wp dX7_next_127 rfl, e_wp dX7_next_130 rfl, e_wp dX7_next_133 rfl, e_wp dX7_next_134 rfl, e_wp dX7_next_137 rfl, e_wp dX7_next_138 rfl, e_wp dX7_next_139 rfl, e_wp dX7_next_142 rfl, e_wp dX7_next_143 rfl, e_wp dX7_next_146 rfl, e_wp dX7_next_147 rfl, e_wp dX7_next_148 rfl, e_wp dX7_next_149 rfl, e_wp dX7_next_152 rfl, e_wp dX7_next_153 rfl, e_wp dX7_next_156 rfl, e_wp dX7_next_157 rfl, e_wp dX7_next_159 rfl, e_wp dX7_next_162 rfl, e_wp dX7_next_163 rfl, e_wp dX7_next_166 rfl, e_wp dX7_next_169 rfl, e_wp dX7_next_170 rfl, e_wp dX7_next_171 rfl, e_wp dX7_next_174 rfl, e_wp dX7_next_175 rfl, e_wp dX7_next_176 rfl, e_wp dX7_next_179 rfl, e_wp dX7_next_182 rfl, e_wp dX7_next_185 rfl, e_wp dX7_next_188 rfl, e_wp dX7_next_189 rfl, e_wp dX7_next_190 rfl, e_wp dX7_next_193 rfl, e_wp dX7_next_195 rfl, e_wp dX7_next_197 rfl, e_wp dX7_next_200 rfl, e_wp dX7_next_203 rfl, e_wp dX7_next_204 rfl, e_wp dX7_next_205 rfl, e_wp dX7_next_208 rfl, e_wp dX7_next_209 rfl, e_wp dX7_next_210 rfl, e_wp dX7_next_213 rfl, e_wp dX7_next_215 rfl, e_wp dX7_next_217 rfl, e_wp dX7_next_220 rfl, e_wp dX7_next_223 rfl, e_wp dX7_next_224 rfl, e_wp dX7_next_225 rfl, e_wp dX7_next_228 rfl, e_wp dX7_next_230 rfl, e_wp dX7_next_233 rfl, e_wp dX7_next_235 rfl, e_wp dX7_next_238 rfl, e_wp dX7_next_240 rfl, e_wp dX7_next_241 rfl, e_wp dX7_next_244 rfl, e_wp dX7_next_245 rfl, e_wp dX7_next_246 rfl, e_wp dX7_next_249 rfl, e_wp dX7_next_250 rfl, e_wp dX7_next_253 rfl, e_wp dX7_next_254 rfl, e_wp dX7_next_255 rfl, e_wp dX7_next_257 rfl, e_wp dX7_next_258 rfl, e_wp dX7_next_261 rfl, e_wp dX7_next_262 rfl, e_wp dX7_next_263 rfl, e_wp dX7_next_266 rfl, e_wp dX7_next_267 rfl, e_wp dX7_next_268 rfl, e_wp dX7_next_271 rfl, e_wp dX7_next_274 rfl, e_wp dX7_next_275 rfl, e_wp dX7_next_276 rfl, e_wp dX7_next_279 rfl, e_wp dX7_next_280 rfl, e_wp dX7_next_283 rfl, e_wp dX7_next_284 rfl, e_wp dX7_next_286 rfl, e_wp dX7_next_289 rfl, e_wp dX7_next_290 rfl, e_wp dX7_next_293 rfl, e_wp dX7_next_294 rfl, e_wp dX7_next_297 rfl, e_wp dX7_next_298 rfl, e_wp dX7_next_299 rfl, e_wp dX7_next_302 rfl, e_wp dX7_next_303 rfl, e_wp dX7_next_304 rfl, e_wp dX7_next_307 rfl, g7_140, c7_isByte, P7_isByte, V7_isByte, cs7_next, p7_140, p7_147, p7_150, p7_153, g7_133, p7_157, k7_160, k7_162, g7_153, g7_23, k7_164, g7_150, k7_166, k7_167, a7_1, w7_1, a7_2, w7_2, a7_3, w7_3, a7_4, w7_4, a7_5, w7_5, a7_6, w7_6, a7_7, w7_7, a7_8, w7_8, a7_9, w7_9, a7_10, w7_10, a7_11, w7_11, a7_12, w7_12, a7_13, w7_13, a7_14, w7_14, a7_15, w7_15, a7_16, w7_16, a7_17, w7_17, a7_18, w7_18, a7_19, w7_19, a7_20, w7_20, a7_21, w7_21, a7_22, w7_22, a7_23, w7_23, a7_24, w7_24, a7_25, w7_25, a7_26, w7_26, a7_27, w7_27, a7_28, w7_28, a7_29, w7_29, a7_30, w7_30, a7_31, w7_31, a7_32, w7_32, a7_33, w7_33, e_iconst, e_bipush, e_sipush, e_lconst_0, e_lconst_1, e_iload, e_iload_0, e_iload_1, e_iload_2, e_iload_3, e_lload, e_lload_0, e_lload_1, e_lload_2, e_lload_3, e_aload, e_aload_0, e_aload_1, e_aload_2, e_aload_3, e_istore, e_istore_0, e_istore_1, e_istore_2, e_istore_3, e_astore, e_astore_0, e_astore_1, e_astore_2, e_astore_3, e_lstore, e_lstore_0, e_lstore_1, e_lstore_2, e_lstore_3, e_iinc, e_iadd, e_isub, e_imul, e_ladd, e_lsub, e_lmul, e_idiv, e_irem, e_ldiv, e_lrem, e_ineg, e_lneg, e_iand, e_ior, e_ixor, e_ishl, e_ishr, e_iushr, e_lcmp, e_i2l, e_l2i, e_i2b, e_i2s, e_dup_i, e_dup_r, e_pop_i, e_pop_r, e_dup2_l, e_dup2_ir, e_dup2_ii, e_ifeq, e_ifne, e_iflt, e_ifge, e_ifgt, e_ifle, e_iceq, e_icne, e_iclt, e_icge, e_icgt, e_icle, e_goto, e_switch, e_invokevirtual, e_invokestatic, e_invokespecial, e_ret0, e_ret1, e_ret2, e_ret3, ldI_s, ldL_s, ldR_s, clO_s, ctP_s, ctS_s, mgo_0, mgo_s, pjc_s, pj_0, pj_s, lk_s, rm1_0, rm1_i, rm1_r, rm1_l, rm2_0, rm2_i, rm2_r, rm2_l, csL_s, lc_lt, lc_ge, lc_gt, lc_le, lc_eq, b01_0, b01_1, b01_01, b01_n, up2_o, up2_s, up2_u, ne_eq, reduceCtorEq, Nat.reduceAdd, Nat.reduceEqDiff, Nat.reduceLT, Nat.reduceLeDiff, Int.reduceLE, Int.reduceLT, Int.reduceAdd, Int.reduceNeg, Int.reduceMul, Int.reduceSub, Int.reduceEq, Int.reduceToNat, Int.reduceNatCast, Int.cast_ofNat_Int, ↓reduceIte, and_self, List.drop_succ_cons, List.drop_zero, List.take_succ_cons, List.take_zero, List.length_cons, List.length_nil, List.reverse_cons, List.reverse_nil, List.nil_append, List.cons_append, Option.toList, true_and, and_true, or_false, false_or, or_true, true_or, forall_const, Classical.not_not, not_false_eq_true, not_true_eq_false, false_implies, true_implies, implies_true, imp_self, e5, e6, s7, i1, up2_n]
  refine ⟨by omega, fun z => ?_, fun z => ⟨fun w => ?_, fun w => ?_⟩⟩
  · have ee : spE (M 5) (tpN M) 48 57 (q + i) = q + i := spE_0 (by omega)
    rw [ee] at ht
    refine hQ _ ⟨hf, hs, fun p' hp' => ?_⟩
    obtain rfl : p' = p0 := by omega
    have et : tkM M1 p' = (2, q, q + i) := by
      rw [← ht]
      show tkP (M1 5) (M1 0 6).toNat p' = _
      rw [e5, e6]
    refine ⟨by show p' ≤ (M1 0 6).toNat; rw [e6]; show p' ≤ tpN M; omega, by rw [et]; exact s9, by rw [et]; exact s8, by rw [et]; exact s7, s10, fun _ => ?_, fun y => absurd y (by rw [et]; show ¬ (2 : Int) = 1; omega)⟩
    show vR (M1 0 10) (nuP (M1 5) (tkM M1 p').2.1 ((tkM M1 p').2.2 - (tkM M1 p').2.1))
    rw [et, e5]
    show vR (M1 0 10) (nuP (M 5) q (q + i - q))
    rw [show q + i - q = i by omega]
    rcases s11 with e | ⟨e1, e2⟩
    · exact Or.inl e
    · exact Or.inr ⟨by omega, by omega⟩
  · repeat (refine And.intro (by omega) ?_)
    exact nx _ (by omega) (by omega) (by omega) (by omega)
  · repeat (refine And.intro (by omega) ?_)
    exact nx _ (by omega) (by omega) (by omega) (by omega)
set_option maxHeartbeats 4000000 in
set_option maxRecDepth 100000 in
theorem in7_next {M : Mm} {Q : Option AV → Mm → Prop} (hM : okM sh7 M) (hP : P7_next M) (hQ : ∀ (M1 : Mm), R7_next M M1 → Q none M1) (I_0 : List AV → Mm → Prop) (hI_0 : ∀ (m_ : Nat) (M2 : Mm), J7_next_0 M m_ M2 → I_0 [ar 0] M2) (I_102 : List AV → Mm → Prop) (hI_102 : ∀ (m_ : Nat) (y_c : Int) (M2 : Mm), J7_next_102 M m_ y_c M2 → I_102 [ar 0, ai y_c] M2) (I_208 : List AV → Mm → Prop) (hI_208 : ∀ (m_ : Nat) (M2 : Mm), J7_next_208 M m_ M2 → I_208 [ar 0] M2) : wp (tb7 (csL cs7_next)) sh7 2 0 cX7_next [(0, [0], I_0), (102, [0, 1], I_102), (208, [0], I_208)] Q 400 0 [(0, ar 0)] [] M := by
  obtain ⟨h1, h2, h3⟩ := id hP
  have en : ((tpN M : Nat) : Int) = M 0 6 := Int.toNat_of_nonneg h1.1
  exact at7_next_0 hM hP hQ (m := 1000 + (tpN M - (M 0 7).toNat)) (M1 := M) hM ⟨frm_rf, fun _ _ => rfl, (M 0 7).toNat, (M 0 7).toNat, by omega, by omega, by omega, rfl, rfl⟩ I_0 (fun m_ M2 _ h => hI_0 m_ M2 h) I_102 (fun m_ y M2 _ h => hI_102 m_ y M2 h) I_208 (fun m_ M2 _ h => hI_208 m_ M2 h)
set_option maxHeartbeats 4000000 in
set_option maxRecDepth 100000 in
theorem m7_next : MOK cl7 sh7 tyl7 [] 1 yX7_next cX7_next 2 none sp7_next := by
  refine mok_of (own := RX7) (tb := tb7 (csL cs7_next)) (rt := 0) (fuel := 400) (fun avs M Q => [(0, [0], fun m_ vs M1 => vs = [ar 0] ∧ J7_next_0 M m_ M1), (102, [0, 1], fun m_ vs M1 => ∃ y_c : Int, vs = [ar 0, ai y_c] ∧ J7_next_102 M m_ y_c M1), (208, [0], fun m_ vs M1 => vs = [ar 0] ∧ J7_next_208 M m_ M1)]) (by decide) rfl nil_nw (tbOK7 _) rfl (csL_all ?_) ?_ ?_ ?_
  · intro q hq
    simp only [cs7_next, List.mem_cons, List.not_mem_nil, or_false] at hq
    rcases hq with rfl
    · exact cg7_isByte (by decide)
  · intro avs M Q hsp
    obtain ⟨xs, hx⟩ := spV_un _ _ _ hsp
    obtain ⟨e, hl⟩ := unA_mkT hx
    obtain rfl := len0 hl
    have e : avs = [ar 0] := e
    subst e
    simp [szL, isL]
  · intro avs M Q hM hav hsp
    obtain ⟨xs, hx⟩ := spV_un _ _ _ hsp
    obtain ⟨e, hl⟩ := unA_mkT hx
    obtain rfl := len0 hl
    have e : avs = [ar 0] := e
    subst e
    exact in7_next hM hsp.1 hsp.2 _ (fun m_ M2 hJ => ⟨m_, rfl, hJ⟩) _ (fun m_ y_c M2 hJ => ⟨m_, y_c, rfl, hJ⟩) _ (fun m_ M2 hJ => ⟨m_, rfl, hJ⟩)
  · intro avs M Q hM hav hsp q hq m_ vs M1 hM1 hv hJ
    obtain ⟨xs, hx⟩ := spV_un _ _ _ hsp
    obtain ⟨e, hl⟩ := unA_mkT hx
    obtain rfl := len0 hl
    have e : avs = [ar 0] := e
    subst e
    simp only [List.mem_cons, List.not_mem_nil, or_false] at hq
    rcases hq with rfl | rfl | rfl
    · obtain ⟨rfl, hJ⟩ := hJ
      exact at7_next_0 hM hsp.1 hsp.2 hM1 hJ _ (fun m2 M2 hm hJ2 => ⟨m2, hm, rfl, hJ2⟩) _ (fun m2 z_c M2 hm hJ2 => ⟨m2, hm, z_c, rfl, hJ2⟩) _ (fun m2 M2 hm hJ2 => ⟨m2, hm, rfl, hJ2⟩)
    · obtain ⟨y_c, rfl, hJ⟩ := hJ
      exact at7_next_102 hM hsp.1 hsp.2 hM1 (hv (1, ai y_c) (List.mem_of_getElem? (i := 1) rfl)) hJ _ (fun m2 M2 hm hJ2 => ⟨m2, hm, rfl, hJ2⟩) _ (fun m2 z_c M2 hm hJ2 => ⟨m2, hm, z_c, rfl, hJ2⟩) _ (fun m2 M2 hm hJ2 => ⟨m2, hm, rfl, hJ2⟩)
    · obtain ⟨rfl, hJ⟩ := hJ
      exact at7_next_208 hM hsp.1 hsp.2 hM1 hJ _ (fun m2 M2 hm hJ2 => ⟨m2, hm, rfl, hJ2⟩) _ (fun m2 z_c M2 hm hJ2 => ⟨m2, hm, z_c, rfl, hJ2⟩) _ (fun m2 M2 hm hJ2 => ⟨m2, hm, rfl, hJ2⟩)
theorem cg7_next {lvl : Nat} (h : 1 < lvl) : CG RX7 cl7 sh7 tyl7 [] lvl 1 178 1 sp7_next := cg_V (sg := []) nil_nw spV_mono spV_un m7_next h rfl (by decide) rfl rfl ⟨rfl, by decide, by decide, rfl⟩ q1713 q1715 qs64 q138 q1716
