/-! The reader: its tokens -/
abbrev zN (M : Mm) : Nat := (M 0 0).toNat
abbrev zI (M : Mm) : Prop := 0 ≤ M 0 0 ∧ M 0 0 ≤ 700
abbrev zTk (M : Mm) (p : Nat) : Int × Nat × Nat := tkP (M 3) (zN M) p
/-- it stands at the token from the place p on -/
def zdR (M : Mm) (p : Nat) : Prop := p ≤ zN M ∧ M 0 5 = 320 + (zTk M p).1 ∧ M 0 3 = ((zTk M p).2.1 : Int) ∧ M 0 2 = ((zTk M p).2.2 : Int) ∧ (0 ≤ M 0 4 ∧ M 0 4 ≤ 99999) ∧ ((zTk M p).1 = 2 → vR (M 0 4) (numN (M 3) (zN M) p))
/-- what stays while tokens are read -/
def zkK (M M1 : Mm) : Prop := frm [0] M M1 ∧ ∀ j, j < 900000 → ¬ (2 ≤ j ∧ j ≤ 5) → M1 0 j = M 0 j
theorem zkK_rf {M : Mm} : zkK M M := ⟨frm_rf, fun _ _ _ => rfl⟩
theorem zkK_tr {M M1 M2 : Mm} (h : zkK M M1) (h2 : zkK M1 M2) : zkK M M2 := ⟨frm_tr h.1 h2.1 (fun _ z => z), fun j a b => (h2.2 j a b).trans (h.2 j a b)⟩
def PR_isNext (low : Int) (high : Int) (M : Mm) : Prop := (0 ≤ M 0 0 ∧ M 0 0 ≤ 700) ∧ 0 ≤ M 0 2 ∧ M 0 2 ≤ M 0 0
def VR_isNext (low : Int) (high : Int) (M : Mm) : Int := b01 (M 0 2 < M 0 0 ∧ low ≤ M 3 (M 0 2).toNat ∧ M 3 (M 0 2).toNat ≤ high)
def spR_isNext : Spec := spF true [0, 0] 1 (fun x M => PR_isNext (x 0) (x 1) M) (fun x M => VR_isNext (x 0) (x 1) M)
theorem cR_isNext {low high : Int} {M : Mm} {Q : Option AV → Mm → Prop} : spR_isNext [ar 0, ai low, ai high] M Q = (PR_isNext low high M ∧ Q (some (ai (VR_isNext low high M))) M) := rfl
def csR_isNext : List (Nat × Nat × Nat × Spec) := [(48, 0, 3, spR_isInN)]
set_option maxHeartbeats 4000000 in
set_option maxRecDepth 100000 in
theorem inR_isNext {low high : Int} {M : Mm} {Q : Option AV → Mm → Prop} (hM : okM shR M) (h_low : i32 low) (h_high : i32 high) (hP : PR_isNext low high M) (hQ : Q (some (ai (VR_isNext low high M))) M) : wp (tbR (csL csR_isNext)) shR 3 2 cX8_isNext [] Q 400 0 [(0, ar 0), (1, ai low), (2, ai high)] [] M := by
  simp only [e_wp dX8_isNext_0 rfl, e_wp dX8_isNext_1 rfl, e_wp dX8_isNext_4 rfl, e_wp dX8_isNext_5 rfl, e_wp dX8_isNext_8 rfl, e_wp dX8_isNext_11 rfl, e_wp dX8_isNext_12 rfl, e_wp dX8_isNext_15 rfl, e_wp dX8_isNext_18 rfl, e_wp dX8_isNext_19 rfl, e_wp dX8_isNext_22 rfl, e_wp dX8_isNext_23 rfl, e_wp dX8_isNext_24 rfl, e_wp dX8_isNext_25 rfl, e_wp dX8_isNext_26 rfl, e_wp dX8_isNext_27 rfl, e_wp dX8_isNext_28 rfl, e_wp dX8_isNext_31 rfl, e_wp dX8_isNext_34 rfl, e_wp dX8_isNext_35 rfl, e_wp dX8_isNext_38 rfl, e_wp dX8_isNext_39 rfl, gR_41, gR_19, gR_3, gR_44, cR_isInN, PR_isInN, VR_isInN, csR_isNext, aR_4, wR_4, aR_5, wR_5, aR_6, wR_6, aR_7, wR_7, aR_8, wR_8, aR_9, wR_9, aR_10, wR_10, aR_11, wR_11, aR_3, e_iconst, e_bipush, e_sipush, e_lconst_0, e_lconst_1, e_iload, e_iload_0, e_iload_1, e_iload_2, e_iload_3, e_lload, e_lload_0, e_lload_1, e_lload_2, e_lload_3, e_aload, e_aload_0, e_aload_1, e_aload_2, e_aload_3, e_istore, e_istore_0, e_istore_1, e_istore_2, e_istore_3, e_astore, e_astore_0, e_astore_1, e_astore_2, e_astore_3, e_lstore, e_lstore_0, e_lstore_1, e_lstore_2, e_lstore_3, e_iinc, e_iadd, e_isub, e_imul, e_ladd, e_lsub, e_lmul, e_idiv, e_irem, e_ldiv, e_lrem, e_ineg, e_lneg, e_iand, e_ior, e_ixor, e_ishl, e_ishr, e_iushr, e_lcmp, e_i2l, e_l2i, e_i2b, e_i2s, e_dup_i, e_dup_r, e_pop_i, e_pop_r, e_dup2_l, e_dup2_ir, e_dup2_ii, e_ifeq, e_ifne, e_iflt, e_ifge, e_ifgt, e_ifle, e_iceq, e_icne, e_iclt, e_icge, e_icgt, e_icle, e_goto, e_switch, e_invokevirtual, e_invokestatic, e_invokespecial, e_ret0, e_ret1, e_ret2, e_ret3, ldI_s, ldL_s, ldR_s, clO_s, ctP_s, ctS_s, mgo_0, mgo_s, pjc_s, pj_0, pj_s, lk_s, rm1_0, rm1_i, rm1_r, rm1_l, rm2_0, rm2_i, rm2_r, rm2_l, csL_s, lc_lt, lc_ge, lc_gt, lc_le, lc_eq, b01_0, b01_1, b01_01, b01_n, up2_o, up2_s, up2_u, ne_eq, reduceCtorEq, Nat.reduceAdd, Nat.reduceEqDiff, Nat.reduceLT, Nat.reduceLeDiff, Int.reduceLE, Int.reduceLT, Int.reduceAdd, Int.reduceNeg, Int.reduceMul, Int.reduceSub, Int.reduceEq, Int.reduceToNat, Int.reduceNatCast, Int.cast_ofNat_Int, ↓reduceIte, and_self, List.drop_succ_cons, List.drop_zero, List.take_succ_cons, List.take_zero, List.length_cons, List.length_nil, List.reverse_cons, List.reverse_nil, List.nil_append, List.cons_append, Option.toList, true_and, and_true, or_false, false_or, or_true, true_or, forall_const, Classical.not_not, not_false_eq_true, not_true_eq_false, false_implies, true_implies, implies_true, imp_self]
  (try unfold PR_isNext at hP); (try unfold VR_isNext at hQ); (repeat' (first | (intro _) | (refine And.intro ?_ ?_))); all_goals (first | omega | exact qeq hQ (b01_t (by omega)) | exact qeq hQ (b01_f (by omega)) | exact qeq hQ (b01_c (by omega)) | exact qeq hQ rfl | exact qeq hQ (by omega) | assumption)
set_option maxHeartbeats 4000000 in
set_option maxRecDepth 100000 in
theorem mR_isNext : MOK clR shR tylR NwsR 1 yX8_isNext cX8_isNext 3 (some .boolean) spR_isNext := by
  refine mok_of (own := RX8) (tb := tbR (csL csR_isNext)) (rt := 2) (fuel := 400) (fun avs M Q => []) (by decide) rfl nwsR_ok (tbOKR _) rfl (csL_all ?_) ?_ ?_ ?_
  · intro q hq
    simp only [csR_isNext, List.mem_cons, List.not_mem_nil, or_false] at hq
    rcases hq with rfl
    · exact cgR_isInN (by decide)
  · intro avs M Q hsp
    obtain ⟨xs, hx⟩ := spF_un _ _ _ hsp
    obtain ⟨e, hl⟩ := unA_mkT hx
    obtain ⟨low, high, rfl⟩ := len2 hl
    have e : avs = [ar 0, ai low, ai high] := e
    subst e
    simp [szL, isL]
  · intro avs M Q hM hav hsp
    obtain ⟨xs, hx⟩ := spF_un _ _ _ hsp
    obtain ⟨e, hl⟩ := unA_mkT hx
    obtain ⟨low, high, rfl⟩ := len2 hl
    have e : avs = [ar 0, ai low, ai high] := e
    subst e
    exact inR_isNext hM (hav (ai low) (by simp)) (hav (ai high) (by simp)) hsp.1 hsp.2
  · intro avs M Q hM hav hsp q hq m_ vs M1 hM1 hv hJ
    obtain ⟨xs, hx⟩ := spF_un _ _ _ hsp
    obtain ⟨e, hl⟩ := unA_mkT hx
    obtain ⟨low, high, rfl⟩ := len2 hl
    have e : avs = [ar 0, ai low, ai high] := e
    subst e
    cases hq
theorem cgR_isNext {lvl : Nat} (h : 1 < lvl) : CG RX8 clR shR tylR NwsR lvl 1 55 3 spR_isNext := cg_V (sg := [0, 0]) nwsR_ok spF_mono spF_un mR_isNext h rfl (by decide) rfl rfl ⟨rfl, by decide, by decide, rfl⟩ q529 q531 qs2 q139 q532
def PR_next (M : Mm) : Prop := zI M ∧ (0 ≤ M 0 2 ∧ M 0 2 ≤ M 0 0) ∧ 0 ≤ M 0 4 ∧ M 0 4 ≤ 99999
def RR_next (M : Mm) (r : Option AV) (M1 : Mm) : Prop := r = none ∧ zkK M M1 ∧ ∀ p : Nat, M 0 2 = p → zdR M1 p
def spR_next : Spec := spX true [] (fun x M => PR_next M) (fun x M r M1 => RR_next M r M1)
theorem cR_next {M : Mm} {Q : Option AV → Mm → Prop} : spR_next [ar 0] M Q = (PR_next M ∧ ∀ (r : Option AV) (M1 : Mm), RR_next M r M1 → Q r M1) := rfl
def csR_next : List (Nat × Nat × Nat × Spec) := [(55, 1, 3, spR_isNext), (66, 0, 2, spR_mmin)]
def xsR_next : List (Nat × Nat × Nat × Spec) := [(290, 0, 0, spTok 0), (590, 0, 0, spTok 1), (720, 0, 0, spTok 2), (750, 0, 0, spTok 3), (780, 0, 0, spTok 4)]
def JR_next_0 (M : Mm) (m : Nat) (M1 : Mm) : Prop := frm [0] M M1 ∧ (∀ j, ¬ j = 2 → M1 0 j = M 0 j) ∧ ∃ p0 p : Nat, M 0 2 = p0 ∧ M1 0 2 = p ∧ p ≤ zN M ∧ skE (M 3) (zN M) p0 = skE (M 3) (zN M) p ∧ m = 1000 + (zN M - p)
def JR_next_98 (M : Mm) (m : Nat) (M1 : Mm) : Prop := frm [0] M M1 ∧ (∀ j, ¬ (2 ≤ j ∧ j ≤ 5) → M1 0 j = M 0 j) ∧ ∃ p0 q i : Nat, M 0 2 = p0 ∧ q + i ≤ zN M ∧ zTk M p0 = (1, q, spE (M 3) (zN M) 97 122 (q + i)) ∧ M1 0 2 = ((q + i : Nat) : Int) ∧ M1 0 3 = q ∧ M1 0 4 = M 0 4 ∧ m = zN M - (q + i)
def JR_next_148 (M : Mm) (m : Nat) (M1 : Mm) : Prop := frm [0] M M1 ∧ (∀ j, ¬ (2 ≤ j ∧ j ≤ 5) → M1 0 j = M 0 j) ∧ ∃ p0 q i : Nat, M 0 2 = p0 ∧ q + i ≤ zN M ∧ zTk M p0 = (2, q, spE (M 3) (zN M) 48 57 (q + i)) ∧ (∀ j, j < i → 48 ≤ M 3 (q + j) ∧ M 3 (q + j) ≤ 57) ∧ M1 0 2 = ((q + i : Nat) : Int) ∧ M1 0 3 = q ∧ (0 ≤ M1 0 4 ∧ M1 0 4 ≤ 99999) ∧ (M1 0 4 = nuP (M 3) q i ∨ (M1 0 4 = 99999 ∧ 99999 ≤ nuP (M 3) q i)) ∧ m = zN M - (q + i)
set_option maxHeartbeats 4000000 in
set_option maxRecDepth 100000 in
theorem atR_next_0 {M : Mm} {Q : Option AV → Mm → Prop} (hM : okM shR M) (hP : PR_next M) (hQ : ∀ (r : Option AV) (M1 : Mm), RR_next M r M1 → Q r M1) {m : Nat} {M1 : Mm} (hM1 : okM shR M1) (hJ : JR_next_0 M m M1) (I_0 : List AV → Mm → Prop) (hI_0 : ∀ (m_ : Nat) (M2 : Mm), m_ < m → JR_next_0 M m_ M2 → I_0 [ar 0] M2) (I_98 : List AV → Mm → Prop) (hI_98 : ∀ (m_ : Nat) (M2 : Mm), m_ < m → JR_next_98 M m_ M2 → I_98 [ar 0] M2) (I_148 : List AV → Mm → Prop) (hI_148 : ∀ (m_ : Nat) (M2 : Mm), m_ < m → JR_next_148 M m_ M2 → I_148 [ar 0] M2) : wpx (tbR (csL csR_next)) (csL xsR_next) shR 1 0 cX8_next [(0, [0], I_0), (98, [0], I_98), (148, [0], I_148)] (retX Q) (fun _ M1 => Q (some an) M1) 400 false 0 [(0, ar 0)] [] M1 := by
  obtain ⟨hf, hs, p0, p, hp0, hp, hpn, hsk, rfl⟩ := hJ
  obtain ⟨h1, h2, h3⟩ := id hP
  have e5 : M1 3 = M 3 := hf _ (by decide)
  have e6 : M1 0 0 = M 0 0 := hs 0 (by decide)
  have e4 : M1 0 4 = M 0 4 := hs 4 (by decide)
  have en : ((zN M : Nat) : Int) = M 0 0 := Int.toNat_of_nonneg h1.1
  simp only [e_wpy (k := 9) dX8_next_0 rfl rfl rfl, e_wpy (k := 9) dX8_next_1 rfl rfl rfl, e_wpy (k := 9) dX8_next_4 rfl rfl rfl, e_wpy (k := 9) dX8_next_5 rfl rfl rfl, e_wpy (k := 9) dX8_next_8 rfl rfl rfl, e_wpy (k := 9) dX8_next_11 rfl rfl rfl, e_wpy (k := 9) dX8_next_12 rfl rfl rfl, e_wpy (k := 9) dX8_next_15 rfl rfl rfl, e_wpy (k := 9) dX8_next_18 rfl rfl rfl, e_wpy (k := 9) dX8_next_19 rfl rfl rfl, e_wpy (k := 28) dX8_next_22 rfl rfl rfl, e_wpy (k := 9) dX8_next_23 rfl rfl rfl, e_wpy (k := 9) dX8_next_25 rfl rfl rfl, e_wpy (k := 9) dX8_next_28 rfl rfl rfl, e_wpy (k := 9) dX8_next_29 rfl rfl rfl, e_wpy (k := 9) dX8_next_32 rfl rfl rfl, e_wpy (k := 9) dX8_next_35 rfl rfl rfl, e_wpy (k := 9) dX8_next_36 rfl rfl rfl, e_wpy (k := 28) dX8_next_39 rfl rfl rfl, e_wpy (k := 9) dX8_next_40 rfl rfl rfl, e_wpy (k := 9) dX8_next_42 rfl rfl rfl, e_wpy (k := 9) dX8_next_45 rfl rfl rfl, e_wpy (k := 9) dX8_next_46 rfl rfl rfl, e_wpy (k := 9) dX8_next_47 rfl rfl rfl, e_wpy (k := 9) dX8_next_50 rfl rfl rfl, e_wpy (k := 9) dX8_next_51 rfl rfl rfl, e_wpy (k := 9) dX8_next_52 rfl rfl rfl, e_wpy (k := 9) dX8_next_55 rfl rfl rfl, e_wpy (k := 9) dX8_next_58 rfl rfl rfl, e_wpy (k := 9) dX8_next_59 rfl rfl rfl, e_wpy (k := 9) dX8_next_60 rfl rfl rfl, e_wpy (k := 9) dX8_next_63 rfl rfl rfl, e_wpy (k := 9) dX8_next_66 rfl rfl rfl, e_wpy (k := 9) dX8_next_67 rfl rfl rfl, e_wpy (k := 9) dX8_next_70 rfl rfl rfl, e_wpy (k := 9) dX8_next_71 rfl rfl rfl, e_wpy (k := 9) dX8_next_74 rfl rfl rfl, e_wpy (k := 9) dX8_next_77 rfl rfl rfl, e_wpy (k := 290) dX8_next_78 rfl rfl rfl, e_wpy (k := 9) dX8_next_81 rfl rfl rfl, e_wpy (k := 9) dX8_next_84 rfl rfl rfl, e_wpy (k := 9) dX8_next_87 rfl rfl rfl, e_wpy (k := 9) dX8_next_88 rfl rfl rfl, e_wpy (k := 9) dX8_next_90 rfl rfl rfl, e_wpy (k := 555) dX8_next_92 rfl rfl rfl, e_wpy (k := 9) dX8_next_95 rfl rfl rfl, e_wpy (k := 9) dX8_next_98 rfl rfl rfl, e_wpy (k := 9) dX8_next_99 rfl rfl rfl, e_wpy (k := 9) dX8_next_101 rfl rfl rfl, e_wpy (k := 555) dX8_next_103 rfl rfl rfl, e_wpy (k := 9) dX8_next_106 rfl rfl rfl, e_wpy (k := 9) dX8_next_109 rfl rfl rfl, e_wpy (k := 9) dX8_next_110 rfl rfl rfl, e_wpy (k := 9) dX8_next_111 rfl rfl rfl, e_wpy (k := 9) dX8_next_114 rfl rfl rfl, e_wpy (k := 9) dX8_next_115 rfl rfl rfl, e_wpy (k := 9) dX8_next_116 rfl rfl rfl, e_wpy (k := 9) dX8_next_119 rfl rfl rfl, e_wpy (k := 9) dX8_next_122 rfl rfl rfl, e_wpy (k := 590) dX8_next_123 rfl rfl rfl, e_wpy (k := 9) dX8_next_126 rfl rfl rfl, e_wpy (k := 9) dX8_next_129 rfl rfl rfl, e_wpy (k := 9) dX8_next_132 rfl rfl rfl, e_wpy (k := 9) dX8_next_133 rfl rfl rfl, e_wpy (k := 9) dX8_next_135 rfl rfl rfl, e_wpy (k := 555) dX8_next_137 rfl rfl rfl, e_wpy (k := 9) dX8_next_140 rfl rfl rfl, e_wpy (k := 9) dX8_next_143 rfl rfl rfl, e_wpy (k := 9) dX8_next_144 rfl rfl rfl, e_wpy (k := 9) dX8_next_145 rfl rfl rfl, e_wpy (k := 9) dX8_next_148 rfl rfl rfl, e_wpy (k := 9) dX8_next_149 rfl rfl rfl, e_wpy (k := 9) dX8_next_151 rfl rfl rfl, e_wpy (k := 555) dX8_next_153 rfl rfl rfl, e_wpy (k := 9) dX8_next_156 rfl rfl rfl, e_wpy (k := 9) dX8_next_159 rfl rfl rfl, e_wpy (k := 653) dX8_next_160 rfl rfl rfl, e_wpy (k := 9) dX8_next_162 rfl rfl rfl, e_wpy (k := 9) dX8_next_164 rfl rfl rfl, e_wpy (k := 9) dX8_next_165 rfl rfl rfl, e_wpy (k := 9) dX8_next_168 rfl rfl rfl, e_wpy (k := 9) dX8_next_169 rfl rfl rfl, e_wpy (k := 9) dX8_next_170 rfl rfl rfl, e_wpy (k := 9) dX8_next_173 rfl rfl rfl, e_wpy (k := 9) dX8_next_176 rfl rfl rfl, e_wpy (k := 9) dX8_next_177 rfl rfl rfl, e_wpy (k := 28) dX8_next_180 rfl rfl rfl, e_wpy (k := 9) dX8_next_181 rfl rfl rfl, e_wpy (k := 9) dX8_next_182 rfl rfl rfl, e_wpy (k := 9) dX8_next_184 rfl rfl rfl, e_wpy (k := 666) dX8_next_185 rfl rfl rfl, e_wpy (k := 9) dX8_next_188 rfl rfl rfl, e_wpy (k := 9) dX8_next_191 rfl rfl rfl, e_wpy (k := 9) dX8_next_192 rfl rfl rfl, e_wpy (k := 9) dX8_next_193 rfl rfl rfl, e_wpy (k := 9) dX8_next_196 rfl rfl rfl, e_wpy (k := 9) dX8_next_197 rfl rfl rfl, e_wpy (k := 9) dX8_next_198 rfl rfl rfl, e_wpy (k := 9) dX8_next_201 rfl rfl rfl, e_wpy (k := 9) dX8_next_204 rfl rfl rfl, e_wpy (k := 720) dX8_next_205 rfl rfl rfl, e_wpy (k := 9) dX8_next_208 rfl rfl rfl, e_wpy (k := 9) dX8_next_211 rfl rfl rfl, e_wpy (k := 9) dX8_next_214 rfl rfl rfl, e_wpy (k := 9) dX8_next_215 rfl rfl rfl, e_wpy (k := 9) dX8_next_216 rfl rfl rfl, e_wpy (k := 9) dX8_next_219 rfl rfl rfl, e_wpy (k := 9) dX8_next_222 rfl rfl rfl, e_wpy (k := 9) dX8_next_223 rfl rfl rfl, e_wpy (k := 28) dX8_next_226 rfl rfl rfl, e_wpy (k := 9) dX8_next_227 rfl rfl rfl, e_wpy (k := 9) dX8_next_229 rfl rfl rfl, e_wpy (k := 750) dX8_next_232 rfl rfl rfl, e_wpy (k := 9) dX8_next_235 rfl rfl rfl, e_wpy (k := 780) dX8_next_238 rfl rfl rfl, e_wpy (k := 9) dX8_next_241 rfl rfl rfl, e_wpy (k := 9) dX8_next_244 rfl rfl rfl, e_wpy (k := 9) dX8_next_245 rfl rfl rfl, e_wpy (k := 9) dX8_next_246 rfl rfl rfl, e_wpy (k := 9) dX8_next_249 rfl rfl rfl, e_wpy (k := 9) dX8_next_250 rfl rfl rfl, e_wpy (k := 9) dX8_next_251 rfl rfl rfl, e_wpy (k := 9) dX8_next_254 rfl rfl rfl, xoff_a, ex_null_n, ex_null_r, ex_nonn_n, ex_nonn_r, ex_aret, xel_n, xel_s, xgo_0, xgo_1x, xgo_1v, xgo_1i, xgo_1l, xgo_1r, xgo_2, xgo_3, xgo_4, xgo_5x, xgo_5v, xgo_5i, xgo_5l, xgd_5, xgd_0, xgd_1, xgd_2, xgd_3, xgd_4, ath_y, xct_f, xct_t, xna_f, csL_n, Nat.reduceMul, retX_i, retX_l, retX_r, retX_v, cTok, xsR_next, gR_41, gR_19, gR_3, gR_44, pR_41, pR_52, pR_35, cR_isNext, PR_isNext, VR_isNext, csR_next, pR_62, kR_65, gR_62, cR_mmin, PR_mmin, VR_mmin, aR_4, wR_4, aR_5, wR_5, aR_6, wR_6, aR_7, wR_7, aR_8, wR_8, aR_9, wR_9, aR_10, wR_10, aR_11, wR_11, aR_3, e_iconst, e_bipush, e_sipush, e_lconst_0, e_lconst_1, e_iload, e_iload_0, e_iload_1, e_iload_2, e_iload_3, e_lload, e_lload_0, e_lload_1, e_lload_2, e_lload_3, e_aload, e_aload_0, e_aload_1, e_aload_2, e_aload_3, e_istore, e_istore_0, e_istore_1, e_istore_2, e_istore_3, e_astore, e_astore_0, e_astore_1, e_astore_2, e_astore_3, e_lstore, e_lstore_0, e_lstore_1, e_lstore_2, e_lstore_3, e_iinc, e_iadd, e_isub, e_imul, e_ladd, e_lsub, e_lmul, e_idiv, e_irem, e_ldiv, e_lrem, e_ineg, e_lneg, e_iand, e_ior, e_ixor, e_ishl, e_ishr, e_iushr, e_lcmp, e_i2l, e_l2i, e_i2b, e_i2s, e_dup_i, e_dup_r, e_pop_i, e_pop_r, e_dup2_l, e_dup2_ir, e_dup2_ii, e_ifeq, e_ifne, e_iflt, e_ifge, e_ifgt, e_ifle, e_iceq, e_icne, e_iclt, e_icge, e_icgt, e_icle, e_goto, e_switch, e_invokevirtual, e_invokestatic, e_invokespecial, e_ret0, e_ret1, e_ret2, e_ret3, ldI_s, ldL_s, ldR_s, clO_s, ctP_s, ctS_s, mgo_0, mgo_s, pjc_s, pj_0, pj_s, lk_s, rm1_0, rm1_i, rm1_r, rm1_l, rm2_0, rm2_i, rm2_r, rm2_l, csL_s, lc_lt, lc_ge, lc_gt, lc_le, lc_eq, b01_0, b01_1, b01_01, b01_n, up2_o, up2_s, up2_u, ne_eq, reduceCtorEq, Nat.reduceAdd, Nat.reduceEqDiff, Nat.reduceLT, Nat.reduceLeDiff, Int.reduceLE, Int.reduceLT, Int.reduceAdd, Int.reduceNeg, Int.reduceMul, Int.reduceSub, Int.reduceEq, Int.reduceToNat, Int.reduceNatCast, Int.cast_ofNat_Int, ↓reduceIte, and_self, List.drop_succ_cons, List.drop_zero, List.take_succ_cons, List.take_zero, List.length_cons, List.length_nil, List.reverse_cons, List.reverse_nil, List.nil_append, List.cons_append, Option.toList, true_and, and_true, or_false, false_or, or_true, true_or, forall_const, Classical.not_not, not_false_eq_true, not_true_eq_false, false_implies, true_implies, implies_true, imp_self, e5, e6, hp, up2_n, Int.toNat_natCast]
  have go0 : (p : Int) < M 0 0 → (M 3 p = 32 ∨ M 3 p = 10) → i32 ((p : Int) + 1) ∧ I_0 [ar 0] (up2 M1 0 2 ((p : Int) + 1)) := by
    intro q1 q2
    refine ⟨by omega, hI_0 (1000 + (zN M - (p + 1))) _ (by omega) ⟨frm_up hf (by decide), fun j hj => ?_, p0, p + 1, hp0, by rw [up2_s]; omega, by omega, ?_, rfl⟩⟩
    · rw [up2_n hj]; exact hs j hj
    · rw [hsk]; exact skE_1 (by omega) q2
  have fin : ∀ M3 : Mm, frm [0] M M3 → (∀ j, ¬ (2 ≤ j ∧ j ≤ 5) → M3 0 j = M 0 j) → M3 0 5 = 320 + (zTk M p0).1 → M3 0 3 = ((zTk M p0).2.1 : Int) → M3 0 2 = ((zTk M p0).2.2 : Int) → M3 0 4 = M 0 4 → ¬ (zTk M p0).1 = 2 → Q none M3 := by
    intro M3 f1 f2 f3 f4 f5 f6 f7
    refine hQ _ _ ⟨rfl, ⟨f1, fun j _ hj => f2 j hj⟩, fun p' hp' => ?_⟩
    obtain rfl : p' = p0 := by omega
    have x5 : M3 3 = M 3 := f1 _ (by decide)
    have x6 : M3 0 0 = M 0 0 := f2 0 (by decide)
    unfold zdR
    rw [show zN M3 = zN M by show (M3 0 0).toNat = _; rw [x6], show zTk M3 p' = zTk M p' by show tkP (M3 3) (M3 0 0).toNat p' = _; rw [x5, x6]]
    exact ⟨by omega, f3, f4, f5, by omega, fun z => absurd z f7⟩
  have sc : ∀ j, ¬ (2 ≤ j ∧ j ≤ 5) → ∀ x, up2 M1 0 3 x 0 j = M 0 j := by
    intro j hj x
    rw [up2_n (by omega)]
    exact hs j (by omega)
  have fr1 : ∀ x, frm [0] M (up2 M1 0 3 x) := fun x => frm_up hf (by decide)
  refine ⟨fun z => ?_, fun z => ⟨by omega, fun w => go0 z (Or.inl w), fun w => ⟨by omega, fun w2 => ?_, fun w2 => go0 z (Or.inr w2)⟩⟩⟩
  all_goals
    have ep : skE (M 3) (zN M) p0 = p := hsk.trans (skE_0 (by omega))
    have et : zTk M p0 = if zN M ≤ p then (0, p, p) else if 97 ≤ M 3 p ∧ M 3 p ≤ 122 then (1, p, spE (M 3) (zN M) 97 122 p) else if 48 ≤ M 3 p ∧ M 3 p ≤ 57 then (2, p, spE (M 3) (zN M) 48 57 p) else (if M 3 p = 59 then 3 else 4, p, p + 1) := by
      show tkP _ _ _ = _
      unfold tkP
      rw [ep]
    refine ⟨fun q3 => ⟨by omega, fun q4 => ⟨by omega, fun q5 => ⟨by omega, fun q6 => ⟨by omega, ?_⟩, fun q6 => ⟨by omega, ?_⟩⟩, fun q5 => ?_⟩, fun q4 => ?_⟩, fun q3 => ?_⟩
    · rw [if_neg (by omega), if_neg (by omega), if_neg (by omega), if_neg q6] at et
      refine fin _ (frm_up (frm_up (fr1 _) (by decide)) (by decide)) (fun j hj => ?_) ?_ ?_ ?_ ?_ ?_
      · rw [up2_n (by omega), up2_n (by omega)]; exact sc j hj _
      · rw [et, up2_n (by decide), up2_s]; rfl
      · rw [et, up2_n (by decide), up2_n (by decide), up2_s]
      · rw [et, up2_s]; show (p : Int) + 1 = ((p + 1 : Nat) : Int); omega
      · rw [up2_n (by decide), up2_n (by decide), up2_n (by decide)]; exact e4
      · rw [et]; show ¬ (4 : Int) = 2; omega
    · rw [if_neg (by omega), if_neg (by omega), if_neg (by omega), if_pos q6] at et
      refine fin _ (frm_up (frm_up (fr1 _) (by decide)) (by decide)) (fun j hj => ?_) ?_ ?_ ?_ ?_ ?_
      · rw [up2_n (by omega), up2_n (by omega)]; exact sc j hj _
      · rw [et, up2_n (by decide), up2_s]; rfl
      · rw [et, up2_n (by decide), up2_n (by decide), up2_s]
      · rw [et, up2_s]; show (p : Int) + 1 = ((p + 1 : Nat) : Int); omega
      · rw [up2_n (by decide), up2_n (by decide), up2_n (by decide)]; exact e4
      · rw [et]; show ¬ (3 : Int) = 2; omega
    · rw [if_neg (by omega), if_neg (by omega), if_pos (by omega)] at et
      refine hI_148 (zN M - (p + 0)) _ (by omega) ⟨frm_up (fr1 _) (by decide), fun j hj => ?_, p0, p, 0, hp0, by omega, et, fun j hj => by omega, ?_, ?_, ?_, ?_, rfl⟩
      · rw [up2_n (by omega)]; exact sc j hj _
      · rw [up2_n (by decide), up2_n (by decide), hp]; rfl
      · rw [up2_n (by decide), up2_s]
      · rw [up2_s]; omega
      · rw [up2_s]; exact Or.inl rfl
    · rw [if_neg (by omega), if_pos (by omega)] at et
      refine hI_98 (zN M - (p + 0)) _ (by omega) ⟨fr1 _, fun j hj => sc j hj _, p0, p, 0, hp0, by omega, et, ?_, up2_s, ?_, rfl⟩
      · rw [up2_n (by decide), hp]; rfl
      · rw [up2_n (by decide)]; exact e4
    · rw [if_pos (by omega)] at et
      refine fin _ (frm_up (fr1 _) (by decide)) (fun j hj => ?_) ?_ ?_ ?_ ?_ ?_
      · rw [up2_n (by omega)]; exact sc j hj _
      · rw [et, up2_s]; rfl
      · rw [et, up2_n (by decide), up2_s]
      · rw [et, up2_n (by decide), up2_n (by decide), hp]
      · rw [up2_n (by decide), up2_n (by decide)]; exact e4
      · rw [et]; show ¬ (0 : Int) = 2; omega
set_option maxHeartbeats 4000000 in
set_option maxRecDepth 100000 in
theorem atR_next_98 {M : Mm} {Q : Option AV → Mm → Prop} (hM : okM shR M) (hP : PR_next M) (hQ : ∀ (r : Option AV) (M1 : Mm), RR_next M r M1 → Q r M1) {m : Nat} {M1 : Mm} (hM1 : okM shR M1) (hJ : JR_next_98 M m M1) (I_0 : List AV → Mm → Prop) (hI_0 : ∀ (m_ : Nat) (M2 : Mm), m_ < m → JR_next_0 M m_ M2 → I_0 [ar 0] M2) (I_98 : List AV → Mm → Prop) (hI_98 : ∀ (m_ : Nat) (M2 : Mm), m_ < m → JR_next_98 M m_ M2 → I_98 [ar 0] M2) (I_148 : List AV → Mm → Prop) (hI_148 : ∀ (m_ : Nat) (M2 : Mm), m_ < m → JR_next_148 M m_ M2 → I_148 [ar 0] M2) : wpx (tbR (csL csR_next)) (csL xsR_next) shR 1 0 cX8_next [(0, [0], I_0), (98, [0], I_98), (148, [0], I_148)] (retX Q) (fun _ M1 => Q (some an) M1) 400 false 98 [(0, ar 0)] [] M1 := by
  obtain ⟨hf, hs, p0, q, i, hp0, hqn, ht, s2, s3, s4, rfl⟩ := hJ
  obtain ⟨h1, h2, h3⟩ := id hP
  have e5 : M1 3 = M 3 := hf _ (by decide)
  have e6 : M1 0 0 = M 0 0 := hs 0 (by decide)
  have en : ((zN M : Nat) : Int) = M 0 0 := Int.toNat_of_nonneg h1.1
  have i1 : (((q + i : Nat)) : Int).toNat = q + i := Int.toNat_natCast _
  simp only [e_wpy (k := 9) dX8_next_0 rfl rfl rfl, e_wpy (k := 9) dX8_next_1 rfl rfl rfl, e_wpy (k := 9) dX8_next_4 rfl rfl rfl, e_wpy (k := 9) dX8_next_5 rfl rfl rfl, e_wpy (k := 9) dX8_next_8 rfl rfl rfl, e_wpy (k := 9) dX8_next_11 rfl rfl rfl, e_wpy (k := 9) dX8_next_12 rfl rfl rfl, e_wpy (k := 9) dX8_next_15 rfl rfl rfl, e_wpy (k := 9) dX8_next_18 rfl rfl rfl, e_wpy (k := 9) dX8_next_19 rfl rfl rfl, e_wpy (k := 28) dX8_next_22 rfl rfl rfl, e_wpy (k := 9) dX8_next_23 rfl rfl rfl, e_wpy (k := 9) dX8_next_25 rfl rfl rfl, e_wpy (k := 9) dX8_next_28 rfl rfl rfl, e_wpy (k := 9) dX8_next_29 rfl rfl rfl, e_wpy (k := 9) dX8_next_32 rfl rfl rfl, e_wpy (k := 9) dX8_next_35 rfl rfl rfl, e_wpy (k := 9) dX8_next_36 rfl rfl rfl, e_wpy (k := 28) dX8_next_39 rfl rfl rfl, e_wpy (k := 9) dX8_next_40 rfl rfl rfl, e_wpy (k := 9) dX8_next_42 rfl rfl rfl, e_wpy (k := 9) dX8_next_45 rfl rfl rfl, e_wpy (k := 9) dX8_next_46 rfl rfl rfl, e_wpy (k := 9) dX8_next_47 rfl rfl rfl, e_wpy (k := 9) dX8_next_50 rfl rfl rfl, e_wpy (k := 9) dX8_next_51 rfl rfl rfl, e_wpy (k := 9) dX8_next_52 rfl rfl rfl, e_wpy (k := 9) dX8_next_55 rfl rfl rfl, e_wpy (k := 9) dX8_next_58 rfl rfl rfl, e_wpy (k := 9) dX8_next_59 rfl rfl rfl, e_wpy (k := 9) dX8_next_60 rfl rfl rfl, e_wpy (k := 9) dX8_next_63 rfl rfl rfl, e_wpy (k := 9) dX8_next_66 rfl rfl rfl, e_wpy (k := 9) dX8_next_67 rfl rfl rfl, e_wpy (k := 9) dX8_next_70 rfl rfl rfl, e_wpy (k := 9) dX8_next_71 rfl rfl rfl, e_wpy (k := 9) dX8_next_74 rfl rfl rfl, e_wpy (k := 9) dX8_next_77 rfl rfl rfl, e_wpy (k := 290) dX8_next_78 rfl rfl rfl, e_wpy (k := 9) dX8_next_81 rfl rfl rfl, e_wpy (k := 9) dX8_next_84 rfl rfl rfl, e_wpy (k := 9) dX8_next_87 rfl rfl rfl, e_wpy (k := 9) dX8_next_88 rfl rfl rfl, e_wpy (k := 9) dX8_next_90 rfl rfl rfl, e_wpy (k := 555) dX8_next_92 rfl rfl rfl, e_wpy (k := 9) dX8_next_95 rfl rfl rfl, e_wpy (k := 9) dX8_next_98 rfl rfl rfl, e_wpy (k := 9) dX8_next_99 rfl rfl rfl, e_wpy (k := 9) dX8_next_101 rfl rfl rfl, e_wpy (k := 555) dX8_next_103 rfl rfl rfl, e_wpy (k := 9) dX8_next_106 rfl rfl rfl, e_wpy (k := 9) dX8_next_109 rfl rfl rfl, e_wpy (k := 9) dX8_next_110 rfl rfl rfl, e_wpy (k := 9) dX8_next_111 rfl rfl rfl, e_wpy (k := 9) dX8_next_114 rfl rfl rfl, e_wpy (k := 9) dX8_next_115 rfl rfl rfl, e_wpy (k := 9) dX8_next_116 rfl rfl rfl, e_wpy (k := 9) dX8_next_119 rfl rfl rfl, e_wpy (k := 9) dX8_next_122 rfl rfl rfl, e_wpy (k := 590) dX8_next_123 rfl rfl rfl, e_wpy (k := 9) dX8_next_126 rfl rfl rfl, e_wpy (k := 9) dX8_next_129 rfl rfl rfl, e_wpy (k := 9) dX8_next_132 rfl rfl rfl, e_wpy (k := 9) dX8_next_133 rfl rfl rfl, e_wpy (k := 9) dX8_next_135 rfl rfl rfl, e_wpy (k := 555) dX8_next_137 rfl rfl rfl, e_wpy (k := 9) dX8_next_140 rfl rfl rfl, e_wpy (k := 9) dX8_next_143 rfl rfl rfl, e_wpy (k := 9) dX8_next_144 rfl rfl rfl, e_wpy (k := 9) dX8_next_145 rfl rfl rfl, e_wpy (k := 9) dX8_next_148 rfl rfl rfl, e_wpy (k := 9) dX8_next_149 rfl rfl rfl, e_wpy (k := 9) dX8_next_151 rfl rfl rfl, e_wpy (k := 555) dX8_next_153 rfl rfl rfl, e_wpy (k := 9) dX8_next_156 rfl rfl rfl, e_wpy (k := 9) dX8_next_159 rfl rfl rfl, e_wpy (k := 653) dX8_next_160 rfl rfl rfl, e_wpy (k := 9) dX8_next_162 rfl rfl rfl, e_wpy (k := 9) dX8_next_164 rfl rfl rfl, e_wpy (k := 9) dX8_next_165 rfl rfl rfl, e_wpy (k := 9) dX8_next_168 rfl rfl rfl, e_wpy (k := 9) dX8_next_169 rfl rfl rfl, e_wpy (k := 9) dX8_next_170 rfl rfl rfl, e_wpy (k := 9) dX8_next_173 rfl rfl rfl, e_wpy (k := 9) dX8_next_176 rfl rfl rfl, e_wpy (k := 9) dX8_next_177 rfl rfl rfl, e_wpy (k := 28) dX8_next_180 rfl rfl rfl, e_wpy (k := 9) dX8_next_181 rfl rfl rfl, e_wpy (k := 9) dX8_next_182 rfl rfl rfl, e_wpy (k := 9) dX8_next_184 rfl rfl rfl, e_wpy (k := 666) dX8_next_185 rfl rfl rfl, e_wpy (k := 9) dX8_next_188 rfl rfl rfl, e_wpy (k := 9) dX8_next_191 rfl rfl rfl, e_wpy (k := 9) dX8_next_192 rfl rfl rfl, e_wpy (k := 9) dX8_next_193 rfl rfl rfl, e_wpy (k := 9) dX8_next_196 rfl rfl rfl, e_wpy (k := 9) dX8_next_197 rfl rfl rfl, e_wpy (k := 9) dX8_next_198 rfl rfl rfl, e_wpy (k := 9) dX8_next_201 rfl rfl rfl, e_wpy (k := 9) dX8_next_204 rfl rfl rfl, e_wpy (k := 720) dX8_next_205 rfl rfl rfl, e_wpy (k := 9) dX8_next_208 rfl rfl rfl, e_wpy (k := 9) dX8_next_211 rfl rfl rfl, e_wpy (k := 9) dX8_next_214 rfl rfl rfl, e_wpy (k := 9) dX8_next_215 rfl rfl rfl, e_wpy (k := 9) dX8_next_216 rfl rfl rfl, e_wpy (k := 9) dX8_next_219 rfl rfl rfl, e_wpy (k := 9) dX8_next_222 rfl rfl rfl, e_wpy (k := 9) dX8_next_223 rfl rfl rfl, e_wpy (k := 28) dX8_next_226 rfl rfl rfl, e_wpy (k := 9) dX8_next_227 rfl rfl rfl, e_wpy (k := 9) dX8_next_229 rfl rfl rfl, e_wpy (k := 750) dX8_next_232 rfl rfl rfl, e_wpy (k := 9) dX8_next_235 rfl rfl rfl, e_wpy (k := 780) dX8_next_238 rfl rfl rfl, e_wpy (k := 9) dX8_next_241 rfl rfl rfl, e_wpy (k := 9) dX8_next_244 rfl rfl rfl, e_wpy (k := 9) dX8_next_245 rfl rfl rfl, e_wpy (k := 9) dX8_next_246 rfl rfl rfl, e_wpy (k := 9) dX8_next_249 rfl rfl rfl, e_wpy (k := 9) dX8_next_250 rfl rfl rfl, e_wpy (k := 9) dX8_next_251 rfl rfl rfl, e_wpy (k := 9) dX8_next_254 rfl rfl rfl, xoff_a, ex_null_n, ex_null_r, ex_nonn_n, ex_nonn_r, ex_aret, xel_n, xel_s, xgo_0, xgo_1x, xgo_1v, xgo_1i, xgo_1l, xgo_1r, xgo_2, xgo_3, xgo_4, xgo_5x, xgo_5v, xgo_5i, xgo_5l, xgd_5, xgd_0, xgd_1, xgd_2, xgd_3, xgd_4, ath_y, xct_f, xct_t, xna_f, csL_n, Nat.reduceMul, retX_i, retX_l, retX_r, retX_v, cTok, xsR_next, gR_41, gR_19, gR_3, gR_44, pR_41, pR_52, pR_35, cR_isNext, PR_isNext, VR_isNext, csR_next, pR_62, kR_65, gR_62, cR_mmin, PR_mmin, VR_mmin, aR_4, wR_4, aR_5, wR_5, aR_6, wR_6, aR_7, wR_7, aR_8, wR_8, aR_9, wR_9, aR_10, wR_10, aR_11, wR_11, aR_3, e_iconst, e_bipush, e_sipush, e_lconst_0, e_lconst_1, e_iload, e_iload_0, e_iload_1, e_iload_2, e_iload_3, e_lload, e_lload_0, e_lload_1, e_lload_2, e_lload_3, e_aload, e_aload_0, e_aload_1, e_aload_2, e_aload_3, e_istore, e_istore_0, e_istore_1, e_istore_2, e_istore_3, e_astore, e_astore_0, e_astore_1, e_astore_2, e_astore_3, e_lstore, e_lstore_0, e_lstore_1, e_lstore_2, e_lstore_3, e_iinc, e_iadd, e_isub, e_imul, e_ladd, e_lsub, e_lmul, e_idiv, e_irem, e_ldiv, e_lrem, e_ineg, e_lneg, e_iand, e_ior, e_ixor, e_ishl, e_ishr, e_iushr, e_lcmp, e_i2l, e_l2i, e_i2b, e_i2s, e_dup_i, e_dup_r, e_pop_i, e_pop_r, e_dup2_l, e_dup2_ir, e_dup2_ii, e_ifeq, e_ifne, e_iflt, e_ifge, e_ifgt, e_ifle, e_iceq, e_icne, e_iclt, e_icge, e_icgt, e_icle, e_goto, e_switch, e_invokevirtual, e_invokestatic, e_invokespecial, e_ret0, e_ret1, e_ret2, e_ret3, ldI_s, ldL_s, ldR_s, clO_s, ctP_s, ctS_s, mgo_0, mgo_s, pjc_s, pj_0, pj_s, lk_s, rm1_0, rm1_i, rm1_r, rm1_l, rm2_0, rm2_i, rm2_r, rm2_l, csL_s, lc_lt, lc_ge, lc_gt, lc_le, lc_eq, b01_0, b01_1, b01_01, b01_n, up2_o, up2_s, up2_u, ne_eq, reduceCtorEq, Nat.reduceAdd, Nat.reduceEqDiff, Nat.reduceLT, Nat.reduceLeDiff, Int.reduceLE, Int.reduceLT, Int.reduceAdd, Int.reduceNeg, Int.reduceMul, Int.reduceSub, Int.reduceEq, Int.reduceToNat, Int.reduceNatCast, Int.cast_ofNat_Int, ↓reduceIte, and_self, List.drop_succ_cons, List.drop_zero, List.take_succ_cons, List.take_zero, List.length_cons, List.length_nil, List.reverse_cons, List.reverse_nil, List.nil_append, List.cons_append, Option.toList, true_and, and_true, or_false, false_or, or_true, true_or, forall_const, Classical.not_not, not_false_eq_true, not_true_eq_false, false_implies, true_implies, implies_true, imp_self, e5, e6, s2, i1, up2_n]
  refine ⟨by omega, fun z => ?_, fun z => ⟨by omega, ?_⟩⟩
  · have ee : spE (M 3) (zN M) 97 122 (q + i) = q + i := spE_0 (by omega)
    rw [ee] at ht
    refine hQ _ _ ⟨rfl, ⟨frm_up hf (by decide), fun j _ hj => by rw [up2_n (by omega)]; exact hs j hj⟩, fun p' hp' => ?_⟩
    obtain rfl : p' = p0 := by omega
    have x5 : up2 M1 0 5 321 3 = M 3 := e5
    have x6 : up2 M1 0 5 321 0 0 = M 0 0 := by rw [up2_n (by decide)]; exact e6
    unfold zdR
    rw [show zN (up2 M1 0 5 321) = zN M by show (up2 M1 0 5 321 0 0).toNat = _; rw [x6], show zTk (up2 M1 0 5 321) p' = zTk M p' by show tkP (up2 M1 0 5 321 3) (up2 M1 0 5 321 0 0).toNat p' = _; rw [x5, x6], ht, up2_s, up2_n (by decide), up2_n (by decide), up2_n (by decide)]
    exact ⟨by omega, rfl, s3, s2, by omega, fun y => absurd y (by show ¬ (1 : Int) = 2; omega)⟩
  · refine hI_98 (zN M - (q + (i + 1))) _ (by omega) ⟨frm_up hf (by decide), fun j hj => ?_, p0, q, i + 1, hp0, by omega, ?_, ?_, ?_, ?_, rfl⟩
    · rw [up2_n (by omega)]; exact hs j hj
    · rw [ht, spE_1 (by omega) z.2]; rfl
    · rw [up2_s]; omega
    · rw [up2_n (by decide)]; exact s3
    · rw [up2_n (by decide)]; exact s4
set_option maxHeartbeats 4000000 in
set_option maxRecDepth 100000 in
theorem atR_next_148 {M : Mm} {Q : Option AV → Mm → Prop} (hM : okM shR M) (hP : PR_next M) (hQ : ∀ (r : Option AV) (M1 : Mm), RR_next M r M1 → Q r M1) {m : Nat} {M1 : Mm} (hM1 : okM shR M1) (hJ : JR_next_148 M m M1) (I_0 : List AV → Mm → Prop) (hI_0 : ∀ (m_ : Nat) (M2 : Mm), m_ < m → JR_next_0 M m_ M2 → I_0 [ar 0] M2) (I_98 : List AV → Mm → Prop) (hI_98 : ∀ (m_ : Nat) (M2 : Mm), m_ < m → JR_next_98 M m_ M2 → I_98 [ar 0] M2) (I_148 : List AV → Mm → Prop) (hI_148 : ∀ (m_ : Nat) (M2 : Mm), m_ < m → JR_next_148 M m_ M2 → I_148 [ar 0] M2) : wpx (tbR (csL csR_next)) (csL xsR_next) shR 1 0 cX8_next [(0, [0], I_0), (98, [0], I_98), (148, [0], I_148)] (retX Q) (fun _ M1 => Q (some an) M1) 400 false 148 [(0, ar 0)] [] M1 := by
  obtain ⟨hf, hs, p0, q, i, hp0, hqn, ht, hl, s2, s3, s4, s5, rfl⟩ := hJ
  obtain ⟨h1, h2, h3⟩ := id hP
  have e5 : M1 3 = M 3 := hf _ (by decide)
  have e6 : M1 0 0 = M 0 0 := hs 0 (by decide)
  have en : ((zN M : Nat) : Int) = M 0 0 := Int.toNat_of_nonneg h1.1
  have i1 : (((q + i : Nat)) : Int).toNat = q + i := Int.toNat_natCast _
  simp only [e_wpy (k := 9) dX8_next_0 rfl rfl rfl, e_wpy (k := 9) dX8_next_1 rfl rfl rfl, e_wpy (k := 9) dX8_next_4 rfl rfl rfl, e_wpy (k := 9) dX8_next_5 rfl rfl rfl, e_wpy (k := 9) dX8_next_8 rfl rfl rfl, e_wpy (k := 9) dX8_next_11 rfl rfl rfl, e_wpy (k := 9) dX8_next_12 rfl rfl rfl, e_wpy (k := 9) dX8_next_15 rfl rfl rfl, e_wpy (k := 9) dX8_next_18 rfl rfl rfl, e_wpy (k := 9) dX8_next_19 rfl rfl rfl, e_wpy (k := 28) dX8_next_22 rfl rfl rfl, e_wpy (k := 9) dX8_next_23 rfl rfl rfl, e_wpy (k := 9) dX8_next_25 rfl rfl rfl, e_wpy (k := 9) dX8_next_28 rfl rfl rfl, e_wpy (k := 9) dX8_next_29 rfl rfl rfl, e_wpy (k := 9) dX8_next_32 rfl rfl rfl, e_wpy (k := 9) dX8_next_35 rfl rfl rfl, e_wpy (k := 9) dX8_next_36 rfl rfl rfl, e_wpy (k := 28) dX8_next_39 rfl rfl rfl, e_wpy (k := 9) dX8_next_40 rfl rfl rfl, e_wpy (k := 9) dX8_next_42 rfl rfl rfl, e_wpy (k := 9) dX8_next_45 rfl rfl rfl, e_wpy (k := 9) dX8_next_46 rfl rfl rfl, e_wpy (k := 9) dX8_next_47 rfl rfl rfl, e_wpy (k := 9) dX8_next_50 rfl rfl rfl, e_wpy (k := 9) dX8_next_51 rfl rfl rfl, e_wpy (k := 9) dX8_next_52 rfl rfl rfl, e_wpy (k := 9) dX8_next_55 rfl rfl rfl, e_wpy (k := 9) dX8_next_58 rfl rfl rfl, e_wpy (k := 9) dX8_next_59 rfl rfl rfl, e_wpy (k := 9) dX8_next_60 rfl rfl rfl, e_wpy (k := 9) dX8_next_63 rfl rfl rfl, e_wpy (k := 9) dX8_next_66 rfl rfl rfl, e_wpy (k := 9) dX8_next_67 rfl rfl rfl, e_wpy (k := 9) dX8_next_70 rfl rfl rfl, e_wpy (k := 9) dX8_next_71 rfl rfl rfl, e_wpy (k := 9) dX8_next_74 rfl rfl rfl, e_wpy (k := 9) dX8_next_77 rfl rfl rfl, e_wpy (k := 290) dX8_next_78 rfl rfl rfl, e_wpy (k := 9) dX8_next_81 rfl rfl rfl, e_wpy (k := 9) dX8_next_84 rfl rfl rfl, e_wpy (k := 9) dX8_next_87 rfl rfl rfl, e_wpy (k := 9) dX8_next_88 rfl rfl rfl, e_wpy (k := 9) dX8_next_90 rfl rfl rfl, e_wpy (k := 555) dX8_next_92 rfl rfl rfl, e_wpy (k := 9) dX8_next_95 rfl rfl rfl, e_wpy (k := 9) dX8_next_98 rfl rfl rfl, e_wpy (k := 9) dX8_next_99 rfl rfl rfl, e_wpy (k := 9) dX8_next_101 rfl rfl rfl, e_wpy (k := 555) dX8_next_103 rfl rfl rfl, e_wpy (k := 9) dX8_next_106 rfl rfl rfl, e_wpy (k := 9) dX8_next_109 rfl rfl rfl, e_wpy (k := 9) dX8_next_110 rfl rfl rfl, e_wpy (k := 9) dX8_next_111 rfl rfl rfl, e_wpy (k := 9) dX8_next_114 rfl rfl rfl, e_wpy (k := 9) dX8_next_115 rfl rfl rfl, e_wpy (k := 9) dX8_next_116 rfl rfl rfl, e_wpy (k := 9) dX8_next_119 rfl rfl rfl, e_wpy (k := 9) dX8_next_122 rfl rfl rfl, e_wpy (k := 590) dX8_next_123 rfl rfl rfl, e_wpy (k := 9) dX8_next_126 rfl rfl rfl, e_wpy (k := 9) dX8_next_129 rfl rfl rfl, e_wpy (k := 9) dX8_next_132 rfl rfl rfl, e_wpy (k := 9) dX8_next_133 rfl rfl rfl, e_wpy (k := 9) dX8_next_135 rfl rfl rfl, e_wpy (k := 555) dX8_next_137 rfl rfl rfl, e_wpy (k := 9) dX8_next_140 rfl rfl rfl, e_wpy (k := 9) dX8_next_143 rfl rfl rfl, e_wpy (k := 9) dX8_next_144 rfl rfl rfl, e_wpy (k := 9) dX8_next_145 rfl rfl rfl, e_wpy (k := 9) dX8_next_148 rfl rfl rfl, e_wpy (k := 9) dX8_next_149 rfl rfl rfl, e_wpy (k := 9) dX8_next_151 rfl rfl rfl, e_wpy (k := 555) dX8_next_153 rfl rfl rfl, e_wpy (k := 9) dX8_next_156 rfl rfl rfl, e_wpy (k := 9) dX8_next_159 rfl rfl rfl, e_wpy (k := 653) dX8_next_160 rfl rfl rfl, e_wpy (k := 9) dX8_next_162 rfl rfl rfl, e_wpy (k := 9) dX8_next_164 rfl rfl rfl, e_wpy (k := 9) dX8_next_165 rfl rfl rfl, e_wpy (k := 9) dX8_next_168 rfl rfl rfl, e_wpy (k := 9) dX8_next_169 rfl rfl rfl, e_wpy (k := 9) dX8_next_170 rfl rfl rfl, e_wpy (k := 9) dX8_next_173 rfl rfl rfl, e_wpy (k := 9) dX8_next_176 rfl rfl rfl, e_wpy (k := 9) dX8_next_177 rfl rfl rfl, e_wpy (k := 28) dX8_next_180 rfl rfl rfl, e_wpy (k := 9) dX8_next_181 rfl rfl rfl, e_wpy (k := 9) dX8_next_182 rfl rfl rfl, e_wpy (k := 9) dX8_next_184 rfl rfl rfl, e_wpy (k := 666) dX8_next_185 rfl rfl rfl, e_wpy (k := 9) dX8_next_188 rfl rfl rfl, e_wpy (k := 9) dX8_next_191 rfl rfl rfl, e_wpy (k := 9) dX8_next_192 rfl rfl rfl, e_wpy (k := 9) dX8_next_193 rfl rfl rfl, e_wpy (k := 9) dX8_next_196 rfl rfl rfl, e_wpy (k := 9) dX8_next_197 rfl rfl rfl, e_wpy (k := 9) dX8_next_198 rfl rfl rfl, e_wpy (k := 9) dX8_next_201 rfl rfl rfl, e_wpy (k := 9) dX8_next_204 rfl rfl rfl, e_wpy (k := 720) dX8_next_205 rfl rfl rfl, e_wpy (k := 9) dX8_next_208 rfl rfl rfl, e_wpy (k := 9) dX8_next_211 rfl rfl rfl, e_wpy (k := 9) dX8_next_214 rfl rfl rfl, e_wpy (k := 9) dX8_next_215 rfl rfl rfl, e_wpy (k := 9) dX8_next_216 rfl rfl rfl, e_wpy (k := 9) dX8_next_219 rfl rfl rfl, e_wpy (k := 9) dX8_next_222 rfl rfl rfl, e_wpy (k := 9) dX8_next_223 rfl rfl rfl, e_wpy (k := 28) dX8_next_226 rfl rfl rfl, e_wpy (k := 9) dX8_next_227 rfl rfl rfl, e_wpy (k := 9) dX8_next_229 rfl rfl rfl, e_wpy (k := 750) dX8_next_232 rfl rfl rfl, e_wpy (k := 9) dX8_next_235 rfl rfl rfl, e_wpy (k := 780) dX8_next_238 rfl rfl rfl, e_wpy (k := 9) dX8_next_241 rfl rfl rfl, e_wpy (k := 9) dX8_next_244 rfl rfl rfl, e_wpy (k := 9) dX8_next_245 rfl rfl rfl, e_wpy (k := 9) dX8_next_246 rfl rfl rfl, e_wpy (k := 9) dX8_next_249 rfl rfl rfl, e_wpy (k := 9) dX8_next_250 rfl rfl rfl, e_wpy (k := 9) dX8_next_251 rfl rfl rfl, e_wpy (k := 9) dX8_next_254 rfl rfl rfl, xoff_a, ex_null_n, ex_null_r, ex_nonn_n, ex_nonn_r, ex_aret, xel_n, xel_s, xgo_0, xgo_1x, xgo_1v, xgo_1i, xgo_1l, xgo_1r, xgo_2, xgo_3, xgo_4, xgo_5x, xgo_5v, xgo_5i, xgo_5l, xgd_5, xgd_0, xgd_1, xgd_2, xgd_3, xgd_4, ath_y, xct_f, xct_t, xna_f, csL_n, Nat.reduceMul, retX_i, retX_l, retX_r, retX_v, cTok, xsR_next, gR_41, gR_19, gR_3, gR_44, pR_41, pR_52, pR_35, cR_isNext, PR_isNext, VR_isNext, csR_next, pR_62, kR_65, gR_62, cR_mmin, PR_mmin, VR_mmin, aR_4, wR_4, aR_5, wR_5, aR_6, wR_6, aR_7, wR_7, aR_8, wR_8, aR_9, wR_9, aR_10, wR_10, aR_11, wR_11, aR_3, e_iconst, e_bipush, e_sipush, e_lconst_0, e_lconst_1, e_iload, e_iload_0, e_iload_1, e_iload_2, e_iload_3, e_lload, e_lload_0, e_lload_1, e_lload_2, e_lload_3, e_aload, e_aload_0, e_aload_1, e_aload_2, e_aload_3, e_istore, e_istore_0, e_istore_1, e_istore_2, e_istore_3, e_astore, e_astore_0, e_astore_1, e_astore_2, e_astore_3, e_lstore, e_lstore_0, e_lstore_1, e_lstore_2, e_lstore_3, e_iinc, e_iadd, e_isub, e_imul, e_ladd, e_lsub, e_lmul, e_idiv, e_irem, e_ldiv, e_lrem, e_ineg, e_lneg, e_iand, e_ior, e_ixor, e_ishl, e_ishr, e_iushr, e_lcmp, e_i2l, e_l2i, e_i2b, e_i2s, e_dup_i, e_dup_r, e_pop_i, e_pop_r, e_dup2_l, e_dup2_ir, e_dup2_ii, e_ifeq, e_ifne, e_iflt, e_ifge, e_ifgt, e_ifle, e_iceq, e_icne, e_iclt, e_icge, e_icgt, e_icle, e_goto, e_switch, e_invokevirtual, e_invokestatic, e_invokespecial, e_ret0, e_ret1, e_ret2, e_ret3, ldI_s, ldL_s, ldR_s, clO_s, ctP_s, ctS_s, mgo_0, mgo_s, pjc_s, pj_0, pj_s, lk_s, rm1_0, rm1_i, rm1_r, rm1_l, rm2_0, rm2_i, rm2_r, rm2_l, csL_s, lc_lt, lc_ge, lc_gt, lc_le, lc_eq, b01_0, b01_1, b01_01, b01_n, up2_o, up2_s, up2_u, ne_eq, reduceCtorEq, Nat.reduceAdd, Nat.reduceEqDiff, Nat.reduceLT, Nat.reduceLeDiff, Int.reduceLE, Int.reduceLT, Int.reduceAdd, Int.reduceNeg, Int.reduceMul, Int.reduceSub, Int.reduceEq, Int.reduceToNat, Int.reduceNatCast, Int.cast_ofNat_Int, ↓reduceIte, and_self, List.drop_succ_cons, List.drop_zero, List.take_succ_cons, List.take_zero, List.length_cons, List.length_nil, List.reverse_cons, List.reverse_nil, List.nil_append, List.cons_append, Option.toList, true_and, and_true, or_false, false_or, or_true, true_or, forall_const, Classical.not_not, not_false_eq_true, not_true_eq_false, false_implies, true_implies, implies_true, imp_self, e5, e6, s2, i1, up2_n]
  have nb := nuP_b (T := M 3) (q := q) hl
  have en1 : nuP (M 3) q (i + 1) = 10 * nuP (M 3) q i + M 3 (q + i) - 48 := rfl
  refine ⟨by omega, fun z => ?_, fun z => ⟨by omega, by omega, by omega, by omega, by omega, ?_⟩⟩
  · have ee : spE (M 3) (zN M) 48 57 (q + i) = q + i := spE_0 (by omega)
    rw [ee] at ht
    refine hQ _ _ ⟨rfl, ⟨frm_up hf (by decide), fun j _ hj => by rw [up2_n (by omega)]; exact hs j hj⟩, fun p' hp' => ?_⟩
    obtain rfl : p' = p0 := by omega
    have x5 : up2 M1 0 5 322 3 = M 3 := e5
    have x6 : up2 M1 0 5 322 0 0 = M 0 0 := by rw [up2_n (by decide)]; exact e6
    unfold zdR numN
    rw [show zN (up2 M1 0 5 322) = zN M by show (up2 M1 0 5 322 0 0).toNat = _; rw [x6], show zTk (up2 M1 0 5 322) p' = zTk M p' by show tkP (up2 M1 0 5 322 3) (up2 M1 0 5 322 0 0).toNat p' = _; rw [x5, x6], x5, ht, up2_s, up2_n (by decide), up2_n (by decide), up2_n (by decide)]
    refine ⟨by omega, rfl, s3, s2, s4, fun _ => ?_⟩
    rw [show tkP (M 3) (zN M) p' = (2, q, q + i) from ht]
    show vR (M1 0 4) (nuP (M 3) q (q + i - q))
    rw [show q + i - q = i by omega]
    rcases s5 with e | ⟨e1, e2⟩
    · exact Or.inl e
    · exact Or.inr ⟨by omega, by omega⟩
  · refine hI_148 (zN M - (q + (i + 1))) _ (by omega) ⟨frm_up (frm_up hf (by decide)) (by decide), fun j hj => ?_, p0, q, i + 1, hp0, by omega, ?_, fun j hj => ?_, ?_, ?_, ?_, ?_, rfl⟩
    · rw [up2_n (by omega), up2_n (by omega)]; exact hs j hj
    · rw [ht, spE_1 (by omega) z.2]; rfl
    · by_cases e : j = i
      · rw [e]; exact z.2
      · exact hl j (by omega)
    · rw [up2_s]; omega
    · rw [up2_n (by decide), up2_n (by decide)]; exact s3
    · rw [up2_n (by decide), up2_s]; split <;> omega
    · rw [up2_n (by decide), up2_s]; split <;> omega
set_option maxHeartbeats 4000000 in
set_option maxRecDepth 100000 in
theorem inR_next {M : Mm} {Q : Option AV → Mm → Prop} (hM : okM shR M) (hP : PR_next M) (hQ : ∀ (r : Option AV) (M1 : Mm), RR_next M r M1 → Q r M1) (I_0 : List AV → Mm → Prop) (hI_0 : ∀ (m_ : Nat) (M2 : Mm), JR_next_0 M m_ M2 → I_0 [ar 0] M2) (I_98 : List AV → Mm → Prop) (hI_98 : ∀ (m_ : Nat) (M2 : Mm), JR_next_98 M m_ M2 → I_98 [ar 0] M2) (I_148 : List AV → Mm → Prop) (hI_148 : ∀ (m_ : Nat) (M2 : Mm), JR_next_148 M m_ M2 → I_148 [ar 0] M2) : wpx (tbR (csL csR_next)) (csL xsR_next) shR 1 0 cX8_next [(0, [0], I_0), (98, [0], I_98), (148, [0], I_148)] (retX Q) (fun _ M1 => Q (some an) M1) 400 false 0 [(0, ar 0)] [] M := by
  obtain ⟨h1, h2, h3⟩ := id hP
  have en : ((zN M : Nat) : Int) = M 0 0 := Int.toNat_of_nonneg h1.1
  exact atR_next_0 hM hP hQ (m := 1000 + (zN M - (M 0 2).toNat)) (M1 := M) hM ⟨frm_rf, fun _ _ => rfl, (M 0 2).toNat, (M 0 2).toNat, by omega, by omega, by omega, rfl, rfl⟩ I_0 (fun m_ M2 _ h => hI_0 m_ M2 h) I_98 (fun m_ M2 _ h => hI_98 m_ M2 h) I_148 (fun m_ M2 _ h => hI_148 m_ M2 h)
set_option maxHeartbeats 4000000 in
set_option maxRecDepth 100000 in
theorem mR_next : MOKX clR shR tylR NwsR exR flR 2 1 8 yX8_next cX8_next 1 none spR_next := by
  refine mokX_of (own := RX8) (fl := flR) (tb := tbR (csL csR_next)) (xt := csL xsR_next) (rt := 0) (fuel := 400) (fun avs M Q => [(0, [0], fun m_ vs M1 => vs = [ar 0] ∧ JR_next_0 M m_ M1), (98, [0], fun m_ vs M1 => vs = [ar 0] ∧ JR_next_98 M m_ M1), (148, [0], fun m_ vs M1 => vs = [ar 0] ∧ JR_next_148 M m_ M1)]) (by decide) rfl nwsR_ok (tbOKR _) rfl (csL_all ?_) (csY_all ?_) ?_ ?_ ?_
  · intro q hq
    simp only [csR_next, List.mem_cons, List.not_mem_nil, or_false] at hq
    rcases hq with rfl | rfl
    · exact cgR_isNext (by decide)
    · exact cgR_mmin (by decide)
  · intro q hq
    simp only [xsR_next, List.mem_cons, List.not_mem_nil, or_false] at hq
    rcases hq with rfl | rfl | rfl | rfl | rfl
    · exact Or.inr ⟨(by decide : ¬ ((0 : Nat) = 2 ∨ (0 : Nat) = 5)), cxe_tok (x := 29) (j := 0) (by decide) q523⟩
    · exact Or.inr ⟨(by decide : ¬ ((0 : Nat) = 2 ∨ (0 : Nat) = 5)), cxe_tok (x := 59) (j := 1) (by decide) q534⟩
    · exact Or.inr ⟨(by decide : ¬ ((0 : Nat) = 2 ∨ (0 : Nat) = 5)), cxe_tok (x := 72) (j := 2) (by decide) q540⟩
    · exact Or.inr ⟨(by decide : ¬ ((0 : Nat) = 2 ∨ (0 : Nat) = 5)), cxe_tok (x := 75) (j := 3) (by decide) q542⟩
    · exact Or.inr ⟨(by decide : ¬ ((0 : Nat) = 2 ∨ (0 : Nat) = 5)), cxe_tok (x := 78) (j := 4) (by decide) q544⟩
  · intro avs M Q hsp
    obtain ⟨xs, hx⟩ := spX_un _ _ _ hsp
    obtain ⟨e, hl⟩ := unA_mkT hx
    obtain rfl := len0 hl
    have e : avs = [ar 0] := e
    subst e
    simp [szL, isL]
  · intro avs M Q hM hav hsp
    obtain ⟨xs, hx⟩ := spX_un _ _ _ hsp
    obtain ⟨e, hl⟩ := unA_mkT hx
    obtain rfl := len0 hl
    have e : avs = [ar 0] := e
    subst e
    exact inR_next hM hsp.1 hsp.2 _ (fun m_ M2 hJ => ⟨m_, rfl, hJ⟩) _ (fun m_ M2 hJ => ⟨m_, rfl, hJ⟩) _ (fun m_ M2 hJ => ⟨m_, rfl, hJ⟩)
  · intro avs M Q hM hav hsp q hq m_ vs M1 hM1 hv hJ
    obtain ⟨xs, hx⟩ := spX_un _ _ _ hsp
    obtain ⟨e, hl⟩ := unA_mkT hx
    obtain rfl := len0 hl
    have e : avs = [ar 0] := e
    subst e
    simp only [List.mem_cons, List.not_mem_nil, or_false] at hq
    rcases hq with rfl | rfl | rfl
    · obtain ⟨rfl, hJ⟩ := hJ
      exact atR_next_0 hM hsp.1 hsp.2 hM1 hJ _ (fun m2 M2 hm hJ2 => ⟨m2, hm, rfl, hJ2⟩) _ (fun m2 M2 hm hJ2 => ⟨m2, hm, rfl, hJ2⟩) _ (fun m2 M2 hm hJ2 => ⟨m2, hm, rfl, hJ2⟩)
    · obtain ⟨rfl, hJ⟩ := hJ
      exact atR_next_98 hM hsp.1 hsp.2 hM1 hJ _ (fun m2 M2 hm hJ2 => ⟨m2, hm, rfl, hJ2⟩) _ (fun m2 M2 hm hJ2 => ⟨m2, hm, rfl, hJ2⟩) _ (fun m2 M2 hm hJ2 => ⟨m2, hm, rfl, hJ2⟩)
    · obtain ⟨rfl, hJ⟩ := hJ
      exact atR_next_148 hM hsp.1 hsp.2 hM1 hJ _ (fun m2 M2 hm hJ2 => ⟨m2, hm, rfl, hJ2⟩) _ (fun m2 M2 hm hJ2 => ⟨m2, hm, rfl, hJ2⟩) _ (fun m2 M2 hm hJ2 => ⟨m2, hm, rfl, hJ2⟩)
theorem cxeR_next {lvl : Nat} (h : 2 < lvl) : CXE RX8 clR shR tylR NwsR exR flR lvl 1 8 385 1 1 spR_next := cxe_VX (k := 0) (n' := 0) nwsR_ok exR_ok spX_mono (fun avs M Q h => (spX_un _ _ _ h).elim fun xs hx => rcvT (sg := []) hx) mR_next h rfl (by decide) rfl rfl ⟨rfl, by decide, by decide, rfl⟩ q525 q527 qs1 q139 q528
