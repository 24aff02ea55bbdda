/-! SagMemoryModel: reading -/
theorem vS_r0 (s : Nat) (M : Mm) (j : Nat) : vS s M 0 j = (if j < 8 then M 7 (8 * s + j) else if j = 8 then M 6 s else 0) := rfl
theorem vS_r1 (s : Nat) (M : Mm) (j : Nat) : vS s M 1 j = (if (j : Int) < M 7 (8 * s + 3) then M 8 (2 * (3 * s + j)) else 0) := rfl
theorem vS_r2 (s : Nat) (M : Mm) (j : Nat) : vS s M 2 j = (if (j : Int) < M 7 (8 * s + 3) then M 8 (2 * (3 * s + j) + 1) else 0) := rfl
theorem vS_r3 (s : Nat) (M : Mm) (j : Nat) : vS s M 3 j = (if (j : Int) < M 7 (8 * s + 4) then M 9 (2 * (7 * s + j)) else 0) := rfl
theorem vS_r4 (s : Nat) (M : Mm) (j : Nat) : vS s M 4 j = (if (j : Int) < M 7 (8 * s + 4) then M 9 (2 * (7 * s + j) + 1) else 0) := rfl
theorem vS_r5 (s : Nat) (M : Mm) (j : Nat) : vS s M 5 j = (if (j : Int) < M 7 (8 * s + 5) then M 10 (3 * (5 * s + j)) else 0) := rfl
theorem vS_r6 (s : Nat) (M : Mm) (j : Nat) : vS s M 6 j = (if (j : Int) < M 7 (8 * s + 5) then M 10 (3 * (5 * s + j) + 1) else 0) := rfl
theorem vS_r7 (s : Nat) (M : Mm) (j : Nat) : vS s M 7 j = (if (j : Int) < M 7 (8 * s + 5) then M 10 (3 * (5 * s + j) + 2) else 0) := rfl
theorem vS_r9 (s : Nat) (M : Mm) (j : Nat) : vS s M 9 j = (if (j : Int) < M 7 (8 * s + 7) then M 12 (3 * (30 * s + j)) else 0) := rfl
theorem vS_r10 (s : Nat) (M : Mm) (j : Nat) : vS s M 10 j = (if (j : Int) < M 7 (8 * s + 7) then M 12 (3 * (30 * s + j) + 1) else 0) := rfl
theorem vS_r11 (s : Nat) (M : Mm) (j : Nat) : vS s M 11 j = (if (j : Int) < M 7 (8 * s + 7) then M 12 (3 * (30 * s + j) + 2) else 0) := rfl
theorem vS_r8 (s : Nat) (M : Mm) (j : Nat) : vS s M 8 j = (if j = 0 then frB (fun k => M 11 (4 * s + k)) (M 7 (8 * s + 6)).toNat else 0) := rfl
/-- a count of the valley that is read, laid anew; what is held of it, in a row -/
theorem vS_cases {P : Nat → Prop} (h0 : P 0) (h1 : P 1) (h2 : P 2) (h3 : P 3) (h4 : P 4) (h5 : P 5) (h6 : P 6) (h7 : P 7) (h8 : P 8) (h9 : P 9) (h10 : P 10) (h11 : P 11) (h12 : ∀ k, P (k + 12)) : ∀ i, P i := by
  intro i
  by_cases c0 : i = 0
  · rw [c0]; exact h0
  by_cases c1 : i = 1
  · rw [c1]; exact h1
  by_cases c2 : i = 2
  · rw [c2]; exact h2
  by_cases c3 : i = 3
  · rw [c3]; exact h3
  by_cases c4 : i = 4
  · rw [c4]; exact h4
  by_cases c5 : i = 5
  · rw [c5]; exact h5
  by_cases c6 : i = 6
  · rw [c6]; exact h6
  by_cases c7 : i = 7
  · rw [c7]; exact h7
  by_cases c8 : i = 8
  · rw [c8]; exact h8
  by_cases c9 : i = 9
  · rw [c9]; exact h9
  by_cases c10 : i = 10
  · rw [c10]; exact h10
  by_cases c11 : i = 11
  · rw [c11]; exact h11
  obtain ⟨k, rfl⟩ : ∃ k, i = k + 12 := ⟨i - 12, by omega⟩
  exact h12 k
abbrev TM (M : Mm) : Nat → Int := M 5
def psR (M : Mm) (x : Ps) : Prop := match x with
  | .inl e => M 0 12 = e.1 ∧ M 0 13 = e.2 ∧ ¬ e.1 = 0
  | .inr p => M 0 12 = 0 ∧ tokR M p
/-- all but what reading moves -/
def lexK (M M1 : Mm) : Prop := frm [0] M M1 ∧ ∀ j, ¬ (7 ≤ j ∧ j ≤ 13) → M1 0 j = M 0 j
theorem lex_rf {M : Mm} : lexK M M := ⟨frm_rf, fun _ _ => rfl⟩
theorem lex_tr {M M1 M2 : Mm} (h : lexK M M1) (h2 : lexK M1 M2) : lexK M M2 := ⟨frm_tr h.1 h2.1 (by decide), fun j a => (h2.2 j a).trans (h.2 j a)⟩
theorem lex_T {M M1 : Mm} (h : lexK M M1) : TM M1 = TM M ∧ tpN M1 = tpN M ∧ (tpI M → tpI M1) := by
  have h6 := h.2 6 (by decide)
  refine ⟨h.1 _ (by decide), ?_, fun q => ?_⟩
  · show (M1 0 6).toNat = (M 0 6).toNat
    rw [h6]
  · show 0 ≤ M1 0 6 ∧ M1 0 6 ≤ 700
    rw [h6]; exact q
theorem tok_k {M M1 : Mm} {p : Nat} (h5 : M1 5 = M 5) (h : ∀ j, 6 ≤ j → j ≤ 11 → M1 0 j = M 0 j) (ht : tokR M p) : tokR M1 p := by
  have e6 := h 6 (by decide) (by decide)
  unfold tokR at *
  rw [show tpN M1 = tpN M by show (M1 0 6).toNat = _; rw [e6], show tkM M1 p = tkM M p by show tkP (M1 5) (M1 0 6).toNat p = _; rw [h5, e6], h 7 (by decide) (by decide), h 8 (by decide) (by decide), h 9 (by decide) (by decide), h 10 (by decide) (by decide), h 11 (by decide) (by decide), h5]
  exact ht
theorem ps_spot {M : Mm} {p : Nat} (h1 : tpI M) (h : tokR M p) : 0 ≤ M 0 7 ∧ M 0 7 ≤ M 0 6 := by
  obtain ⟨a, b, c, d, -⟩ := h
  have r := (tkP_rg (T := TM M) (n := tpN M) a).2.2.1
  have en : ((tpN M : Nat) : Int) = M 0 6 := Int.toNat_of_nonneg h1.1
  have d : M 0 7 = ((tkP (TM M) (tpN M) p).2.2 : Int) := d
  omega
/-- behind next: the state behind the token -/
theorem nx_use {M M1 : Mm} {p : Nat} (hb : M 0 12 = 0) (h : tokR M p) (hR : R7_next M M1) : lexK M M1 ∧ psR M1 (nxtS (TM M) (tpN M) (.inr p)) := by
  obtain ⟨r1, r2, r3⟩ := hR
  refine ⟨⟨r1, fun j hj => r2 j (by omega)⟩, (r2 12 (by decide)).trans hb, ?_⟩
  exact r3 _ h.2.2.2.1
abbrev okW (w : List Int) : Prop := letL w ∧ w.length ≤ 12
theorem sg_let {T : Nat → Int} {n p : Nat} (hp : p ≤ n) (h : (tkP T n p).1 = 1) : letL (sgL T (tkP T n p).2.1 (tkP T n p).2.2) := by
  have h1 := @skE_rg T n p hp
  unfold tkP at h ⊢
  split at h
  · have h : (0 : Int) = 1 := h
    omega
  · rename_i z
    split at h
    · rename_i q
      rw [if_neg z, if_pos q]
      have h2 := @spE_rg T n (skE T n p) 97 122 h1.2
      show letL (stk (fun k => T (skE T n p + k)) (spE T n 97 122 (skE T n p) - skE T n p))
      exact stk_let fun j hj => h2.2 _ (by omega) (by have : j < spE T n 97 122 (skE T n p) - skE T n p := hj; omega)
    · split at h
      · have h : (2 : Int) = 1 := h
        omega
      · have h : (if T (skE T n p) = 59 then (3 : Int) else 4) = 1 := h
        split at h <;> omega
theorem is_iff {M : Mm} {x : Ps} {w : List Int} (hw : okW w) (h : psR M x) : (M 0 12 = 0 ∧ M 0 8 = 1 ∧ M 0 11 = wL w) ↔ isS (TM M) (tpN M) w x := by
  cases x with
  | inl e =>
    constructor
    · intro q; exact absurd (h.1.symm.trans q.1) h.2.2
    · intro q; exact absurd q (isS_l _ _)
  | inr p =>
    obtain ⟨hb, hp, h1, h2, h3, h4, h5, h6⟩ := h
    have hw0 := wL_0 hw.1
    constructor
    · rintro ⟨-, q1, q2⟩
      have k1 : (tkP (TM M) (tpN M) p).1 = 1 := h1.symm.trans q1
      refine (isS_r _ _).mpr ⟨k1, ?_⟩
      have e := h6 k1
      have hl := sg_let hp k1
      split at e
      · exact wL_inj hl hw.1 (e.symm.trans q2)
      · omega
    · intro q0
      obtain ⟨q1, q2⟩ := (isS_r _ _).mp q0
      refine ⟨hb, h1.trans q1, ?_⟩
      have e := h6 q1
      have hl : (sgL (TM M) (tkP (TM M) (tpN M) p).2.1 (tkP (TM M) (tpN M) p).2.2).length = (tkP (TM M) (tpN M) p).2.2 - (tkP (TM M) (tpN M) p).2.1 := stk_len _ _
      rw [q2] at hl
      have hl2 := hw.2
      rw [if_pos (by show (tkP (TM M) (tpN M) p).2.2 - (tkP (TM M) (tpN M) p).2.1 ≤ 12; omega)] at e
      rw [e]
      show wL (sgL (TM M) (tkP (TM M) (tpN M) p).2.1 (tkP (TM M) (tpN M) p).2.2) = _
      rw [q2]
def P7_isGood (M : Mm) : Prop := True
def V7_isGood (M : Mm) : Int := b01 (M 0 12 = 0)
def sp7_isGood : Spec := spF true [] 1 (fun x M => P7_isGood M) (fun x M => V7_isGood M)
theorem c7_isGood {M : Mm} {Q : Option AV → Mm → Prop} : sp7_isGood [ar 0] M Q = (P7_isGood M ∧ Q (some (ai (V7_isGood M))) M) := rfl
def cs7_isGood : List (Nat × Nat × Nat × Spec) := []
set_option maxHeartbeats 4000000 in
set_option maxRecDepth 100000 in
theorem in7_isGood {M : Mm} {Q : Option AV → Mm → Prop} (hM : okM sh7 M) (hP : P7_isGood M) (hQ : Q (some (ai (V7_isGood M))) M) : wp (tb7 (csL cs7_isGood)) sh7 1 2 cX7_isGood [] Q 400 0 [(0, ar 0)] [] M := by
  simp only [e_wp dX7_isGood_0 rfl, e_wp dX7_isGood_1 rfl, e_wp dX7_isGood_4 rfl, e_wp dX7_isGood_7 rfl, e_wp dX7_isGood_8 rfl, e_wp dX7_isGood_11 rfl, e_wp dX7_isGood_12 rfl, g7_168, e_iconst, e_bipush, e_sipush, e_lconst_0, e_lconst_1, e_iload, e_iload_0, e_iload_1, e_iload_2, e_iload_3, e_lload, e_lload_0, e_lload_1, e_lload_2, e_lload_3, e_aload, e_aload_0, e_aload_1, e_aload_2, e_aload_3, e_istore, e_istore_0, e_istore_1, e_istore_2, e_istore_3, e_astore, e_astore_0, e_astore_1, e_astore_2, e_astore_3, e_lstore, e_lstore_0, e_lstore_1, e_lstore_2, e_lstore_3, e_iinc, e_iadd, e_isub, e_imul, e_ladd, e_lsub, e_lmul, e_idiv, e_irem, e_ldiv, e_lrem, e_ineg, e_lneg, e_iand, e_ior, e_ixor, e_ishl, e_ishr, e_iushr, e_lcmp, e_i2l, e_l2i, e_i2b, e_i2s, e_dup_i, e_dup_r, e_pop_i, e_pop_r, e_dup2_l, e_dup2_ir, e_dup2_ii, e_ifeq, e_ifne, e_iflt, e_ifge, e_ifgt, e_ifle, e_iceq, e_icne, e_iclt, e_icge, e_icgt, e_icle, e_goto, e_switch, e_invokevirtual, e_invokestatic, e_invokespecial, e_ret0, e_ret1, e_ret2, e_ret3, ldI_s, ldL_s, ldR_s, clO_s, ctP_s, ctS_s, mgo_0, mgo_s, pjc_s, pj_0, pj_s, lk_s, rm1_0, rm1_i, rm1_r, rm1_l, rm2_0, rm2_i, rm2_r, rm2_l, csL_s, lc_lt, lc_ge, lc_gt, lc_le, lc_eq, b01_0, b01_1, b01_01, b01_n, up2_o, up2_s, up2_u, ne_eq, reduceCtorEq, Nat.reduceAdd, Nat.reduceEqDiff, Nat.reduceLT, Nat.reduceLeDiff, Int.reduceLE, Int.reduceLT, Int.reduceAdd, Int.reduceNeg, Int.reduceMul, Int.reduceSub, Int.reduceEq, Int.reduceToNat, Int.reduceNatCast, Int.cast_ofNat_Int, ↓reduceIte, and_self, List.drop_succ_cons, List.drop_zero, List.take_succ_cons, List.take_zero, List.length_cons, List.length_nil, List.reverse_cons, List.reverse_nil, List.nil_append, List.cons_append, Option.toList, true_and, and_true, or_false, false_or, or_true, true_or, forall_const, Classical.not_not, not_false_eq_true, not_true_eq_false, false_implies, true_implies, implies_true, imp_self]
  (try unfold P7_isGood at hP); (try unfold V7_isGood at hQ); (repeat' (first | (intro _) | (refine And.intro ?_ ?_))); all_goals (first | omega | exact qeq hQ (b01_t (by omega)) | exact qeq hQ (b01_f (by omega)) | exact qeq hQ (b01_c (by omega)) | exact qeq hQ rfl | exact qeq hQ (by omega) | assumption)
set_option maxHeartbeats 4000000 in
set_option maxRecDepth 100000 in
theorem m7_isGood : MOK cl7 sh7 tyl7 [] 0 yX7_isGood cX7_isGood 1 (some .boolean) sp7_isGood := by
  refine mok_of (own := RX7) (tb := tb7 (csL cs7_isGood)) (rt := 2) (fuel := 400) (fun avs M Q => []) (by decide) rfl nil_nw (tbOK7 _) rfl (csL_all ?_) ?_ ?_ ?_
  · intro q hq; cases hq
  · intro avs M Q hsp
    obtain ⟨xs, hx⟩ := spF_un _ _ _ hsp
    obtain ⟨e, hl⟩ := unA_mkT hx
    obtain rfl := len0 hl
    have e : avs = [ar 0] := e
    subst e
    simp [szL, isL]
  · intro avs M Q hM hav hsp
    obtain ⟨xs, hx⟩ := spF_un _ _ _ hsp
    obtain ⟨e, hl⟩ := unA_mkT hx
    obtain rfl := len0 hl
    have e : avs = [ar 0] := e
    subst e
    exact in7_isGood hM hsp.1 hsp.2
  · intro avs M Q hM hav hsp q hq m_ vs M1 hM1 hv hJ
    obtain ⟨xs, hx⟩ := spF_un _ _ _ hsp
    obtain ⟨e, hl⟩ := unA_mkT hx
    obtain rfl := len0 hl
    have e : avs = [ar 0] := e
    subst e
    cases hq
theorem cg7_isGood {lvl : Nat} (h : 0 < lvl) : CG RX7 cl7 sh7 tyl7 [] lvl 1 257 1 sp7_isGood := cg_V (sg := []) nil_nw spF_mono spF_un m7_isGood h rfl (by decide) rfl rfl ⟨rfl, by decide, by decide, rfl⟩ q1726 q1728 qs66 q138 q1729
def P7_fails (k : Int) (M : Mm) : Prop := ¬ k = 0
def R7_fails (k : Int) (M : Mm) (M1 : Mm) : Prop := frm [0] M M1 ∧ (∀ j, ¬ j = 12 → ¬ j = 13 → M1 0 j = M 0 j) ∧ ∀ x, psR M x → psR M1 (failS (TM M) (tpN M) k x)
def sp7_fails : Spec := spV true [0] (fun x M => P7_fails (x 0) M) (fun x M M1 => R7_fails (x 0) M M1)
theorem c7_fails {k : Int} {M : Mm} {Q : Option AV → Mm → Prop} : sp7_fails [ar 0, ai k] M Q = (P7_fails k M ∧ ∀ (M1 : Mm), R7_fails k M M1 → Q none M1) := rfl
def cs7_fails : List (Nat × Nat × Nat × Spec) := []
set_option maxHeartbeats 4000000 in
set_option maxRecDepth 100000 in
theorem in7_fails {k : Int} {M : Mm} {Q : Option AV → Mm → Prop} (hM : okM sh7 M) (h_k : i32 k) (hP : P7_fails k M) (hQ : ∀ (M1 : Mm), R7_fails k M M1 → Q none M1) : wp (tb7 (csL cs7_fails)) sh7 2 0 cX7_fails [] Q 400 0 [(0, ar 0), (1, ai k)] [] M := by
  have hk : ¬ k = 0 := hP
  simp only [e_wp dX7_fails_0 rfl, e_wp dX7_fails_1 rfl, e_wp dX7_fails_4 rfl, e_wp dX7_fails_7 rfl, e_wp dX7_fails_8 rfl, e_wp dX7_fails_9 rfl, e_wp dX7_fails_10 rfl, e_wp dX7_fails_13 rfl, e_wp dX7_fails_14 rfl, e_wp dX7_fails_15 rfl, e_wp dX7_fails_18 rfl, e_wp dX7_fails_21 rfl, g7_168, p7_168, g7_147, p7_171, e_iconst, e_bipush, e_sipush, e_lconst_0, e_lconst_1, e_iload, e_iload_0, e_iload_1, e_iload_2, e_iload_3, e_lload, e_lload_0, e_lload_1, e_lload_2, e_lload_3, e_aload, e_aload_0, e_aload_1, e_aload_2, e_aload_3, e_istore, e_istore_0, e_istore_1, e_istore_2, e_istore_3, e_astore, e_astore_0, e_astore_1, e_astore_2, e_astore_3, e_lstore, e_lstore_0, e_lstore_1, e_lstore_2, e_lstore_3, e_iinc, e_iadd, e_isub, e_imul, e_ladd, e_lsub, e_lmul, e_idiv, e_irem, e_ldiv, e_lrem, e_ineg, e_lneg, e_iand, e_ior, e_ixor, e_ishl, e_ishr, e_iushr, e_lcmp, e_i2l, e_l2i, e_i2b, e_i2s, e_dup_i, e_dup_r, e_pop_i, e_pop_r, e_dup2_l, e_dup2_ir, e_dup2_ii, e_ifeq, e_ifne, e_iflt, e_ifge, e_ifgt, e_ifle, e_iceq, e_icne, e_iclt, e_icge, e_icgt, e_icle, e_goto, e_switch, e_invokevirtual, e_invokestatic, e_invokespecial, e_ret0, e_ret1, e_ret2, e_ret3, ldI_s, ldL_s, ldR_s, clO_s, ctP_s, ctS_s, mgo_0, mgo_s, pjc_s, pj_0, pj_s, lk_s, rm1_0, rm1_i, rm1_r, rm1_l, rm2_0, rm2_i, rm2_r, rm2_l, csL_s, lc_lt, lc_ge, lc_gt, lc_le, lc_eq, b01_0, b01_1, b01_01, b01_n, up2_o, up2_s, up2_u, ne_eq, reduceCtorEq, Nat.reduceAdd, Nat.reduceEqDiff, Nat.reduceLT, Nat.reduceLeDiff, Int.reduceLE, Int.reduceLT, Int.reduceAdd, Int.reduceNeg, Int.reduceMul, Int.reduceSub, Int.reduceEq, Int.reduceToNat, Int.reduceNatCast, Int.cast_ofNat_Int, ↓reduceIte, and_self, List.drop_succ_cons, List.drop_zero, List.take_succ_cons, List.take_zero, List.length_cons, List.length_nil, List.reverse_cons, List.reverse_nil, List.nil_append, List.cons_append, Option.toList, true_and, and_true, or_false, false_or, or_true, true_or, forall_const, Classical.not_not, not_false_eq_true, not_true_eq_false, false_implies, true_implies, implies_true, imp_self]
  refine ⟨fun q => ?_, fun q => hQ _ ⟨frm_rf, fun _ _ _ => rfl, fun x hx => ?_⟩⟩
  · refine hQ _ ⟨frm_up (frm_up frm_rf (by decide)) (by decide), fun j h1 h2 => by rw [up2_n h2, up2_n h1], fun x hx => ?_⟩
    cases x with
    | inl e => exact absurd (hx.1.symm.trans q) hx.2.2
    | inr p =>
      refine ⟨by rw [up2_n (by decide), up2_s], ?_, hk⟩
      rw [up2_s, up2_n (by decide)]
      exact hx.2.2.2.1
  · cases x with
    | inl e => exact hx
    | inr p => exact absurd hx.1 q
set_option maxHeartbeats 4000000 in
set_option maxRecDepth 100000 in
theorem m7_fails : MOK cl7 sh7 tyl7 [] 0 yX7_fails cX7_fails 2 none sp7_fails := by
  refine mok_of (own := RX7) (tb := tb7 (csL cs7_fails)) (rt := 0) (fuel := 400) (fun avs M Q => []) (by decide) rfl nil_nw (tbOK7 _) rfl (csL_all ?_) ?_ ?_ ?_
  · intro q hq; cases hq
  · intro avs M Q hsp
    obtain ⟨xs, hx⟩ := spV_un _ _ _ hsp
    obtain ⟨e, hl⟩ := unA_mkT hx
    obtain ⟨k, rfl⟩ := len1 hl
    have e : avs = [ar 0, ai k] := e
    subst e
    simp [szL, isL]
  · intro avs M Q hM hav hsp
    obtain ⟨xs, hx⟩ := spV_un _ _ _ hsp
    obtain ⟨e, hl⟩ := unA_mkT hx
    obtain ⟨k, rfl⟩ := len1 hl
    have e : avs = [ar 0, ai k] := e
    subst e
    exact in7_fails hM (hav (ai k) (by simp)) hsp.1 hsp.2
  · intro avs M Q hM hav hsp q hq m_ vs M1 hM1 hv hJ
    obtain ⟨xs, hx⟩ := spV_un _ _ _ hsp
    obtain ⟨e, hl⟩ := unA_mkT hx
    obtain ⟨k, rfl⟩ := len1 hl
    have e : avs = [ar 0, ai k] := e
    subst e
    cases hq
theorem cg7_fails {lvl : Nat} (h : 0 < lvl) : CG RX7 cl7 sh7 tyl7 [] lvl 1 184 2 sp7_fails := cg_V (sg := [0]) nil_nw spV_mono spV_un m7_fails h rfl (by decide) rfl rfl ⟨rfl, by decide, by decide, rfl⟩ q1743 q1745 qs70 q138 q1746
theorem fail_lex {M M1 : Mm} {k : Int} (h : R7_fails k M M1) : lexK M M1 ∧ ∀ x, psR M x → psR M1 (failS (TM M) (tpN M) k x) := ⟨⟨h.1, fun j hj => h.2.1 j (by omega) (by omega)⟩, h.2.2⟩
def P7_is (w : Int) (M : Mm) : Prop := True
def V7_is (w : Int) (M : Mm) : Int := b01 (M 0 12 = 0 ∧ M 0 8 = 1 ∧ M 0 11 = w)
def sp7_is : Spec := spF true [1] 1 (fun x M => P7_is (x 0) M) (fun x M => V7_is (x 0) M)
theorem c7_is {w : Int} {M : Mm} {Q : Option AV → Mm → Prop} : sp7_is [ar 0, al w] M Q = (P7_is w M ∧ Q (some (ai (V7_is w M))) M) := rfl
def cs7_is : List (Nat × Nat × Nat × Spec) := []
set_option maxHeartbeats 4000000 in
set_option maxRecDepth 100000 in
theorem in7_is {w : Int} {M : Mm} {Q : Option AV → Mm → Prop} (hM : okM sh7 M) (h_w : i64 w) (hP : P7_is w M) (hQ : Q (some (ai (V7_is w M))) M) : wp (tb7 (csL cs7_is)) sh7 3 2 cX7_is [] Q 400 0 [(0, ar 0), (1, al w)] [] M := by
  have e1 : ¬ (M 0 12 = 0 ∧ M 0 8 = 1 ∧ M 0 11 = w) → V7_is w M = 0 := fun q => b01_f q
  have e2 : (M 0 12 = 0 ∧ M 0 8 = 1 ∧ M 0 11 = w) → V7_is w M = 1 := fun q => b01_t q
  simp only [e_wp dX7_is_0 rfl, e_wp dX7_is_1 rfl, e_wp dX7_is_4 rfl, e_wp dX7_is_7 rfl, e_wp dX7_is_8 rfl, e_wp dX7_is_11 rfl, e_wp dX7_is_12 rfl, e_wp dX7_is_15 rfl, e_wp dX7_is_16 rfl, e_wp dX7_is_19 rfl, e_wp dX7_is_20 rfl, e_wp dX7_is_21 rfl, e_wp dX7_is_24 rfl, e_wp dX7_is_25 rfl, e_wp dX7_is_28 rfl, e_wp dX7_is_29 rfl, g7_168, g7_157, g7_153, e_iconst, e_bipush, e_sipush, e_lconst_0, e_lconst_1, e_iload, e_iload_0, e_iload_1, e_iload_2, e_iload_3, e_lload, e_lload_0, e_lload_1, e_lload_2, e_lload_3, e_aload, e_aload_0, e_aload_1, e_aload_2, e_aload_3, e_istore, e_istore_0, e_istore_1, e_istore_2, e_istore_3, e_astore, e_astore_0, e_astore_1, e_astore_2, e_astore_3, e_lstore, e_lstore_0, e_lstore_1, e_lstore_2, e_lstore_3, e_iinc, e_iadd, e_isub, e_imul, e_ladd, e_lsub, e_lmul, e_idiv, e_irem, e_ldiv, e_lrem, e_ineg, e_lneg, e_iand, e_ior, e_ixor, e_ishl, e_ishr, e_iushr, e_lcmp, e_i2l, e_l2i, e_i2b, e_i2s, e_dup_i, e_dup_r, e_pop_i, e_pop_r, e_dup2_l, e_dup2_ir, e_dup2_ii, e_ifeq, e_ifne, e_iflt, e_ifge, e_ifgt, e_ifle, e_iceq, e_icne, e_iclt, e_icge, e_icgt, e_icle, e_goto, e_switch, e_invokevirtual, e_invokestatic, e_invokespecial, e_ret0, e_ret1, e_ret2, e_ret3, ldI_s, ldL_s, ldR_s, clO_s, ctP_s, ctS_s, mgo_0, mgo_s, pjc_s, pj_0, pj_s, lk_s, rm1_0, rm1_i, rm1_r, rm1_l, rm2_0, rm2_i, rm2_r, rm2_l, csL_s, lc_lt, lc_ge, lc_gt, lc_le, lc_eq, b01_0, b01_1, b01_01, b01_n, up2_o, up2_s, up2_u, ne_eq, reduceCtorEq, Nat.reduceAdd, Nat.reduceEqDiff, Nat.reduceLT, Nat.reduceLeDiff, Int.reduceLE, Int.reduceLT, Int.reduceAdd, Int.reduceNeg, Int.reduceMul, Int.reduceSub, Int.reduceEq, Int.reduceToNat, Int.reduceNatCast, Int.cast_ofNat_Int, ↓reduceIte, and_self, List.drop_succ_cons, List.drop_zero, List.take_succ_cons, List.take_zero, List.length_cons, List.length_nil, List.reverse_cons, List.reverse_nil, List.nil_append, List.cons_append, Option.toList, true_and, and_true, or_false, false_or, or_true, true_or, forall_const, Classical.not_not, not_false_eq_true, not_true_eq_false, false_implies, true_implies, implies_true, imp_self]
  (repeat' (first | (intro _) | (refine And.intro ?_ ?_))) <;> first | omega | exact qeq hQ (e1 (by omega)) | exact qeq hQ (e2 (by omega))
set_option maxHeartbeats 4000000 in
set_option maxRecDepth 100000 in
theorem m7_is : MOK cl7 sh7 tyl7 [] 0 yX7_is cX7_is 3 (some .boolean) sp7_is := by
  refine mok_of (own := RX7) (tb := tb7 (csL cs7_is)) (rt := 2) (fuel := 400) (fun avs M Q => []) (by decide) rfl nil_nw (tbOK7 _) rfl (csL_all ?_) ?_ ?_ ?_
  · intro q hq; cases hq
  · intro avs M Q hsp
    obtain ⟨xs, hx⟩ := spF_un _ _ _ hsp
    obtain ⟨e, hl⟩ := unA_mkT hx
    obtain ⟨w, rfl⟩ := len1 hl
    have e : avs = [ar 0, al w] := e
    subst e
    simp [szL, isL]
  · intro avs M Q hM hav hsp
    obtain ⟨xs, hx⟩ := spF_un _ _ _ hsp
    obtain ⟨e, hl⟩ := unA_mkT hx
    obtain ⟨w, rfl⟩ := len1 hl
    have e : avs = [ar 0, al w] := e
    subst e
    exact in7_is hM (hav (al w) (by simp)) hsp.1 hsp.2
  · intro avs M Q hM hav hsp q hq m_ vs M1 hM1 hv hJ
    obtain ⟨xs, hx⟩ := spF_un _ _ _ hsp
    obtain ⟨e, hl⟩ := unA_mkT hx
    obtain ⟨w, rfl⟩ := len1 hl
    have e : avs = [ar 0, al w] := e
    subst e
    cases hq
theorem cg7_is {lvl : Nat} (h : 0 < lvl) : CG RX7 cl7 sh7 tyl7 [] lvl 1 174 2 sp7_is := cg_V (sg := [1]) nil_nw spF_mono spF_un m7_is h rfl (by decide) rfl rfl ⟨rfl, by decide, by decide, rfl⟩ q1739 q1741 qs69 q138 q1742
abbrev lexP (M : Mm) : Prop := tpI M ∧ ∃ x, psR M x
def P7_takes (w : Int) (M : Mm) : Prop := lexP M
def R7_takes (w : Int) (M : Mm) (v : Int) (M1 : Mm) : Prop := lexK M M1 ∧ ∀ x u, psR M x → okW u → wL u = w → psR M1 (takeS (TM M) (tpN M) u x) ∧ v = isI (TM M) (tpN M) u x
def sp7_takes : Spec := spR true [1] 1 (fun x M => P7_takes (x 0) M) (fun x M v M1 => R7_takes (x 0) M v M1)
theorem c7_takes {w : Int} {M : Mm} {Q : Option AV → Mm → Prop} : sp7_takes [ar 0, al w] M Q = (P7_takes w M ∧ ∀ (v : Int) (M1 : Mm), R7_takes w M v M1 → Q (some (ai v)) M1) := rfl
def cs7_takes : List (Nat × Nat × Nat × Spec) := [(174, 1, 2, sp7_is), (178, 1, 1, sp7_next)]
set_option maxHeartbeats 4000000 in
set_option maxRecDepth 100000 in
theorem in7_takes {w : Int} {M : Mm} {Q : Option AV → Mm → Prop} (hM : okM sh7 M) (h_w : i64 w) (hP : P7_takes w M) (hQ : ∀ (v : Int) (M1 : Mm), R7_takes w M v M1 → Q (some (ai v)) M1) : wp (tb7 (csL cs7_takes)) sh7 3 2 cX7_takes [] Q 400 0 [(0, ar 0), (1, al w)] [] M := by
  obtain ⟨h1, x0, hx0⟩ := id hP
  simp only [e_wp dX7_takes_0 rfl, e_wp dX7_takes_1 rfl, e_wp dX7_takes_2 rfl, e_wp dX7_takes_5 rfl, e_wp dX7_takes_8 rfl, e_wp dX7_takes_9 rfl, e_wp dX7_takes_10 rfl, e_wp dX7_takes_11 rfl, e_wp dX7_takes_14 rfl, e_wp dX7_takes_15 rfl, c7_is, P7_is, V7_is, cs7_takes, c7_next, e_iconst, e_bipush, e_sipush, e_lconst_0, e_lconst_1, e_iload, e_iload_0, e_iload_1, e_iload_2, e_iload_3, e_lload, e_lload_0, e_lload_1, e_lload_2, e_lload_3, e_aload, e_aload_0, e_aload_1, e_aload_2, e_aload_3, e_istore, e_istore_0, e_istore_1, e_istore_2, e_istore_3, e_astore, e_astore_0, e_astore_1, e_astore_2, e_astore_3, e_lstore, e_lstore_0, e_lstore_1, e_lstore_2, e_lstore_3, e_iinc, e_iadd, e_isub, e_imul, e_ladd, e_lsub, e_lmul, e_idiv, e_irem, e_ldiv, e_lrem, e_ineg, e_lneg, e_iand, e_ior, e_ixor, e_ishl, e_ishr, e_iushr, e_lcmp, e_i2l, e_l2i, e_i2b, e_i2s, e_dup_i, e_dup_r, e_pop_i, e_pop_r, e_dup2_l, e_dup2_ir, e_dup2_ii, e_ifeq, e_ifne, e_iflt, e_ifge, e_ifgt, e_ifle, e_iceq, e_icne, e_iclt, e_icge, e_icgt, e_icle, e_goto, e_switch, e_invokevirtual, e_invokestatic, e_invokespecial, e_ret0, e_ret1, e_ret2, e_ret3, ldI_s, ldL_s, ldR_s, clO_s, ctP_s, ctS_s, mgo_0, mgo_s, pjc_s, pj_0, pj_s, lk_s, rm1_0, rm1_i, rm1_r, rm1_l, rm2_0, rm2_i, rm2_r, rm2_l, csL_s, lc_lt, lc_ge, lc_gt, lc_le, lc_eq, b01_0, b01_1, b01_01, b01_n, up2_o, up2_s, up2_u, ne_eq, reduceCtorEq, Nat.reduceAdd, Nat.reduceEqDiff, Nat.reduceLT, Nat.reduceLeDiff, Int.reduceLE, Int.reduceLT, Int.reduceAdd, Int.reduceNeg, Int.reduceMul, Int.reduceSub, Int.reduceEq, Int.reduceToNat, Int.reduceNatCast, Int.cast_ofNat_Int, ↓reduceIte, and_self, List.drop_succ_cons, List.drop_zero, List.take_succ_cons, List.take_zero, List.length_cons, List.length_nil, List.reverse_cons, List.reverse_nil, List.nil_append, List.cons_append, Option.toList, true_and, and_true, or_false, false_or, or_true, true_or, forall_const, Classical.not_not, not_false_eq_true, not_true_eq_false, false_implies, true_implies, implies_true, imp_self]
  refine ⟨fun q => ?_, fun q => hQ _ _ ⟨lex_rf, fun x u hx hu he => ?_⟩⟩
  · cases x0 with
    | inl e => exact absurd (hx0.1.symm.trans q.1) hx0.2.2
    | inr p0 =>
      refine ⟨⟨h1, ps_spot h1 hx0.2⟩, fun M1 hR => hQ _ _ ?_⟩
      refine ⟨(nx_use q.1 hx0.2 hR).1, fun x u hx hu he => ?_⟩
      have hi := is_iff hu hx
      rw [he] at hi
      have hn : isS (TM M) (tpN M) u x := hi.mp q
      refine ⟨?_, hn.symm⟩
      cases x with
      | inl e => exact absurd hn (isS_l _ _)
      | inr p =>
        show psR M1 (if isW (TM M) (tpN M) u p then _ else _)
        rw [if_pos ((isS_r _ _).mp hn)]
        exact (nx_use q.1 hx.2 hR).2
  · have hi := is_iff hu hx
    rw [he] at hi
    have hn : ¬ isS (TM M) (tpN M) u x := fun z => q (hi.mpr z)
    refine ⟨?_, ((isI_01 _ _).resolve_right hn).symm⟩
    cases x with
    | inl e => exact hx
    | inr p =>
      show psR M (if isW (TM M) (tpN M) u p then _ else _)
      rw [if_neg (fun z => hn ((isS_r _ _).mpr z))]; exact hx
set_option maxHeartbeats 4000000 in
set_option maxRecDepth 100000 in
theorem m7_takes : MOK cl7 sh7 tyl7 [] 2 yX7_takes cX7_takes 3 (some .boolean) sp7_takes := by
  refine mok_of (own := RX7) (tb := tb7 (csL cs7_takes)) (rt := 2) (fuel := 400) (fun avs M Q => []) (by decide) rfl nil_nw (tbOK7 _) rfl (csL_all ?_) ?_ ?_ ?_
  · intro q hq
    simp only [cs7_takes, List.mem_cons, List.not_mem_nil, or_false] at hq
    rcases hq with rfl | rfl
    · exact cg7_is (by decide)
    · exact cg7_next (by decide)
  · intro avs M Q hsp
    obtain ⟨xs, hx⟩ := spR_un _ _ _ hsp
    obtain ⟨e, hl⟩ := unA_mkT hx
    obtain ⟨w, rfl⟩ := len1 hl
    have e : avs = [ar 0, al w] := e
    subst e
    simp [szL, isL]
  · intro avs M Q hM hav hsp
    obtain ⟨xs, hx⟩ := spR_un _ _ _ hsp
    obtain ⟨e, hl⟩ := unA_mkT hx
    obtain ⟨w, rfl⟩ := len1 hl
    have e : avs = [ar 0, al w] := e
    subst e
    exact in7_takes hM (hav (al w) (by simp)) hsp.1 hsp.2
  · intro avs M Q hM hav hsp q hq m_ vs M1 hM1 hv hJ
    obtain ⟨xs, hx⟩ := spR_un _ _ _ hsp
    obtain ⟨e, hl⟩ := unA_mkT hx
    obtain ⟨w, rfl⟩ := len1 hl
    have e : avs = [ar 0, al w] := e
    subst e
    cases hq
theorem cg7_takes {lvl : Nat} (h : 2 < lvl) : CG RX7 cl7 sh7 tyl7 [] lvl 1 181 2 sp7_takes := cg_V (sg := [1]) nil_nw spR_mono spR_un m7_takes h rfl (by decide) rfl rfl ⟨rfl, by decide, by decide, rfl⟩ q1735 q1737 qs68 q138 q1738
theorem lex_x {M M1 : Mm} (h : lexK M M1) (hP : tpI M) {x : Ps} (hx : psR M1 x) : lexP M1 := ⟨(lex_T h).2.2 hP, x, hx⟩
def P7_asks (w : Int) (M : Mm) : Prop := lexP M ∧ ∃ u, okW u ∧ wL u = w
def R7_asks (w : Int) (M : Mm) (M1 : Mm) : Prop := lexK M M1 ∧ ∀ x u, psR M x → okW u → wL u = w → psR M1 (askS (TM M) (tpN M) u x)
def sp7_asks : Spec := spV true [1] (fun x M => P7_asks (x 0) M) (fun x M M1 => R7_asks (x 0) M M1)
theorem c7_asks {w : Int} {M : Mm} {Q : Option AV → Mm → Prop} : sp7_asks [ar 0, al w] M Q = (P7_asks w M ∧ ∀ (M1 : Mm), R7_asks w M M1 → Q none M1) := rfl
def cs7_asks : List (Nat × Nat × Nat × Spec) := [(181, 1, 2, sp7_takes), (184, 1, 2, sp7_fails)]
set_option maxHeartbeats 4000000 in
set_option maxRecDepth 100000 in
theorem in7_asks {w : Int} {M : Mm} {Q : Option AV → Mm → Prop} (hM : okM sh7 M) (h_w : i64 w) (hP : P7_asks w M) (hQ : ∀ (M1 : Mm), R7_asks w M M1 → Q none M1) : wp (tb7 (csL cs7_asks)) sh7 3 0 cX7_asks [] Q 400 0 [(0, ar 0), (1, al w)] [] M := by
  obtain ⟨h1, u0, hu0, he0⟩ := id hP
  simp only [e_wp dX7_asks_0 rfl, e_wp dX7_asks_1 rfl, e_wp dX7_asks_2 rfl, e_wp dX7_asks_5 rfl, e_wp dX7_asks_8 rfl, e_wp dX7_asks_9 rfl, e_wp dX7_asks_10 rfl, e_wp dX7_asks_13 rfl, c7_takes, cs7_asks, c7_fails, e_iconst, e_bipush, e_sipush, e_lconst_0, e_lconst_1, e_iload, e_iload_0, e_iload_1, e_iload_2, e_iload_3, e_lload, e_lload_0, e_lload_1, e_lload_2, e_lload_3, e_aload, e_aload_0, e_aload_1, e_aload_2, e_aload_3, e_istore, e_istore_0, e_istore_1, e_istore_2, e_istore_3, e_astore, e_astore_0, e_astore_1, e_astore_2, e_astore_3, e_lstore, e_lstore_0, e_lstore_1, e_lstore_2, e_lstore_3, e_iinc, e_iadd, e_isub, e_imul, e_ladd, e_lsub, e_lmul, e_idiv, e_irem, e_ldiv, e_lrem, e_ineg, e_lneg, e_iand, e_ior, e_ixor, e_ishl, e_ishr, e_iushr, e_lcmp, e_i2l, e_l2i, e_i2b, e_i2s, e_dup_i, e_dup_r, e_pop_i, e_pop_r, e_dup2_l, e_dup2_ir, e_dup2_ii, e_ifeq, e_ifne, e_iflt, e_ifge, e_ifgt, e_ifle, e_iceq, e_icne, e_iclt, e_icge, e_icgt, e_icle, e_goto, e_switch, e_invokevirtual, e_invokestatic, e_invokespecial, e_ret0, e_ret1, e_ret2, e_ret3, ldI_s, ldL_s, ldR_s, clO_s, ctP_s, ctS_s, mgo_0, mgo_s, pjc_s, pj_0, pj_s, lk_s, rm1_0, rm1_i, rm1_r, rm1_l, rm2_0, rm2_i, rm2_r, rm2_l, csL_s, lc_lt, lc_ge, lc_gt, lc_le, lc_eq, b01_0, b01_1, b01_01, b01_n, up2_o, up2_s, up2_u, ne_eq, reduceCtorEq, Nat.reduceAdd, Nat.reduceEqDiff, Nat.reduceLT, Nat.reduceLeDiff, Int.reduceLE, Int.reduceLT, Int.reduceAdd, Int.reduceNeg, Int.reduceMul, Int.reduceSub, Int.reduceEq, Int.reduceToNat, Int.reduceNatCast, Int.cast_ofNat_Int, ↓reduceIte, and_self, List.drop_succ_cons, List.drop_zero, List.take_succ_cons, List.take_zero, List.length_cons, List.length_nil, List.reverse_cons, List.reverse_nil, List.nil_append, List.cons_append, Option.toList, true_and, and_true, or_false, false_or, or_true, true_or, forall_const, Classical.not_not, not_false_eq_true, not_true_eq_false, false_implies, true_implies, implies_true, imp_self]
  refine ⟨h1, fun v M1 hR => ?_⟩
  obtain ⟨r1, r2⟩ := hR
  have key : ∀ x u, psR M x → okW u → wL u = w → (v = 0 → psR M1 x ∧ ¬ isS (TM M) (tpN M) u x) ∧ (¬ v = 0 → psR M1 (takeS (TM M) (tpN M) u x) ∧ isS (TM M) (tpN M) u x) := by
    intro x u hx hu he
    obtain ⟨s1, s2⟩ := r2 x u hx hu he
    refine ⟨fun q => ?_, fun q => ?_⟩
    · have hn : ¬ isS (TM M) (tpN M) u x := by
        intro z
        have z : isI (TM M) (tpN M) u x = 1 := z
        omega
      refine ⟨?_, hn⟩
      cases x with
      | inl e => exact s1
      | inr p =>
        have s1 : psR M1 (if isW (TM M) (tpN M) u p then (.inr (tkP (TM M) (tpN M) p).2.2) else (.inr p)) := s1
        rw [if_neg (fun z => hn ((isS_r _ _).mpr z))] at s1
        exact s1
    · rw [s2] at q
      exact ⟨s1, (isI_01 _ _).resolve_left q⟩
  refine ⟨fun q => hQ _ ⟨r1, fun x u hx hu he => ?_⟩, fun q => ⟨by show ¬ (1 : Int) = 0; decide, fun M2 hR2 => hQ _ ?_⟩⟩
  · obtain ⟨s1, s2⟩ := (key x u hx hu he).2 q
    cases x with
    | inl e => exact absurd s2 (isS_l _ _)
    | inr p =>
      have s2 : isW (TM M) (tpN M) u p := (isS_r _ _).mp s2
      have s1 : psR M1 (if isW (TM M) (tpN M) u p then (.inr (tkP (TM M) (tpN M) p).2.2) else (.inr p)) := s1
      show psR M1 (if isW (TM M) (tpN M) u p then _ else _)
      rw [if_pos s2] at s1 ⊢
      exact s1
  · obtain ⟨f1, f2⟩ := fail_lex hR2
    refine ⟨lex_tr r1 f1, fun x u hx hu he => ?_⟩
    obtain ⟨s1, s2⟩ := (key x u hx hu he).1 q
    have f3 := f2 _ s1
    rw [(lex_T r1).1, (lex_T r1).2.1] at f3
    cases x with
    | inl e => exact f3
    | inr p =>
      have s2 : ¬ isW (TM M) (tpN M) u p := fun z => s2 ((isS_r _ _).mpr z)
      show psR M2 (if isW (TM M) (tpN M) u p then _ else _)
      rw [if_neg s2]
      exact f3
set_option maxHeartbeats 4000000 in
set_option maxRecDepth 100000 in
theorem m7_asks : MOK cl7 sh7 tyl7 [] 3 yX7_asks cX7_asks 3 none sp7_asks := by
  refine mok_of (own := RX7) (tb := tb7 (csL cs7_asks)) (rt := 0) (fuel := 400) (fun avs M Q => []) (by decide) rfl nil_nw (tbOK7 _) rfl (csL_all ?_) ?_ ?_ ?_
  · intro q hq
    simp only [cs7_asks, List.mem_cons, List.not_mem_nil, or_false] at hq
    rcases hq with rfl | rfl
    · exact cg7_takes (by decide)
    · exact cg7_fails (by decide)
  · intro avs M Q hsp
    obtain ⟨xs, hx⟩ := spV_un _ _ _ hsp
    obtain ⟨e, hl⟩ := unA_mkT hx
    obtain ⟨w, rfl⟩ := len1 hl
    have e : avs = [ar 0, al w] := e
    subst e
    simp [szL, isL]
  · intro avs M Q hM hav hsp
    obtain ⟨xs, hx⟩ := spV_un _ _ _ hsp
    obtain ⟨e, hl⟩ := unA_mkT hx
    obtain ⟨w, rfl⟩ := len1 hl
    have e : avs = [ar 0, al w] := e
    subst e
    exact in7_asks hM (hav (al w) (by simp)) hsp.1 hsp.2
  · intro avs M Q hM hav hsp q hq m_ vs M1 hM1 hv hJ
    obtain ⟨xs, hx⟩ := spV_un _ _ _ hsp
    obtain ⟨e, hl⟩ := unA_mkT hx
    obtain ⟨w, rfl⟩ := len1 hl
    have e : avs = [ar 0, al w] := e
    subst e
    cases hq
theorem cg7_asks {lvl : Nat} (h : 3 < lvl) : CG RX7 cl7 sh7 tyl7 [] lvl 1 187 2 sp7_asks := cg_V (sg := [1]) nil_nw spV_mono spV_un m7_asks h rfl (by decide) rfl rfl ⟨rfl, by decide, by decide, rfl⟩ q1731 q1733 qs67 q138 q1734
def P7_number_2 (lo : Int) (hi : Int) (M : Mm) : Prop := lexP M ∧ hi ≤ 1000
def R7_number_2 (lo : Int) (hi : Int) (M : Mm) (v : Int) (M1 : Mm) : Prop := lexK M M1 ∧ ∀ x, psR M x → psR M1 (numS (TM M) (tpN M) lo hi x).2 ∧ v = (numS (TM M) (tpN M) lo hi x).1
def sp7_number_2 : Spec := spR true [0, 0] 1 (fun x M => P7_number_2 (x 0) (x 1) M) (fun x M v M1 => R7_number_2 (x 0) (x 1) M v M1)
theorem c7_number_2 {lo hi : Int} {M : Mm} {Q : Option AV → Mm → Prop} : sp7_number_2 [ar 0, ai lo, ai hi] M Q = (P7_number_2 lo hi M ∧ ∀ (v : Int) (M1 : Mm), R7_number_2 lo hi M v M1 → Q (some (ai v)) M1) := rfl
def cs7_number_2 : List (Nat × Nat × Nat × Spec) := [(184, 1, 2, sp7_fails), (121, 0, 3, sp7_in), (178, 1, 1, sp7_next)]
set_option maxHeartbeats 4000000 in
set_option maxRecDepth 100000 in
theorem in7_number_2 {lo hi : Int} {M : Mm} {Q : Option AV → Mm → Prop} (hM : okM sh7 M) (h_lo : i32 lo) (h_hi : i32 hi) (hP : P7_number_2 lo hi M) (hQ : ∀ (v : Int) (M1 : Mm), R7_number_2 lo hi M v M1 → Q (some (ai v)) M1) : wp (tb7 (csL cs7_number_2)) sh7 4 1 cX7_number_2 [] Q 400 0 [(0, ar 0), (1, ai lo), (2, ai hi)] [] M := by
  obtain ⟨⟨h1, x0, hx0⟩, h2⟩ := id hP
  have n1 : ¬ (1 : Int) = 0 := by decide
  have n2 : ¬ (2 : Int) = 0 := by decide
  simp only [e_wp dX7_number_2_0 rfl, e_wp dX7_number_2_1 rfl, e_wp dX7_number_2_4 rfl, e_wp dX7_number_2_7 rfl, e_wp dX7_number_2_8 rfl, e_wp dX7_number_2_9 rfl, e_wp dX7_number_2_10 rfl, e_wp dX7_number_2_13 rfl, e_wp dX7_number_2_14 rfl, e_wp dX7_number_2_17 rfl, e_wp dX7_number_2_18 rfl, e_wp dX7_number_2_19 rfl, e_wp dX7_number_2_22 rfl, e_wp dX7_number_2_23 rfl, e_wp dX7_number_2_24 rfl, e_wp dX7_number_2_25 rfl, e_wp dX7_number_2_28 rfl, e_wp dX7_number_2_29 rfl, e_wp dX7_number_2_30 rfl, e_wp dX7_number_2_31 rfl, e_wp dX7_number_2_32 rfl, e_wp dX7_number_2_33 rfl, e_wp dX7_number_2_36 rfl, e_wp dX7_number_2_39 rfl, e_wp dX7_number_2_40 rfl, e_wp dX7_number_2_41 rfl, e_wp dX7_number_2_44 rfl, e_wp dX7_number_2_45 rfl, e_wp dX7_number_2_46 rfl, e_wp dX7_number_2_47 rfl, e_wp dX7_number_2_50 rfl, e_wp dX7_number_2_51 rfl, e_wp dX7_number_2_52 rfl, e_wp dX7_number_2_55 rfl, e_wp dX7_number_2_56 rfl, g7_168, g7_157, c7_fails, cs7_number_2, g7_150, c7_in, P7_in, V7_in, c7_next, e_iconst, e_bipush, e_sipush, e_lconst_0, e_lconst_1, e_iload, e_iload_0, e_iload_1, e_iload_2, e_iload_3, e_lload, e_lload_0, e_lload_1, e_lload_2, e_lload_3, e_aload, e_aload_0, e_aload_1, e_aload_2, e_aload_3, e_istore, e_istore_0, e_istore_1, e_istore_2, e_istore_3, e_astore, e_astore_0, e_astore_1, e_astore_2, e_astore_3, e_lstore, e_lstore_0, e_lstore_1, e_lstore_2, e_lstore_3, e_iinc, e_iadd, e_isub, e_imul, e_ladd, e_lsub, e_lmul, e_idiv, e_irem, e_ldiv, e_lrem, e_ineg, e_lneg, e_iand, e_ior, e_ixor, e_ishl, e_ishr, e_iushr, e_lcmp, e_i2l, e_l2i, e_i2b, e_i2s, e_dup_i, e_dup_r, e_pop_i, e_pop_r, e_dup2_l, e_dup2_ir, e_dup2_ii, e_ifeq, e_ifne, e_iflt, e_ifge, e_ifgt, e_ifle, e_iceq, e_icne, e_iclt, e_icge, e_icgt, e_icle, e_goto, e_switch, e_invokevirtual, e_invokestatic, e_invokespecial, e_ret0, e_ret1, e_ret2, e_ret3, ldI_s, ldL_s, ldR_s, clO_s, ctP_s, ctS_s, mgo_0, mgo_s, pjc_s, pj_0, pj_s, lk_s, rm1_0, rm1_i, rm1_r, rm1_l, rm2_0, rm2_i, rm2_r, rm2_l, csL_s, lc_lt, lc_ge, lc_gt, lc_le, lc_eq, b01_0, b01_1, b01_01, b01_n, up2_o, up2_s, up2_u, ne_eq, reduceCtorEq, Nat.reduceAdd, Nat.reduceEqDiff, Nat.reduceLT, Nat.reduceLeDiff, Int.reduceLE, Int.reduceLT, Int.reduceAdd, Int.reduceNeg, Int.reduceMul, Int.reduceSub, Int.reduceEq, Int.reduceToNat, Int.reduceNatCast, Int.cast_ofNat_Int, ↓reduceIte, and_self, List.drop_succ_cons, List.drop_zero, List.take_succ_cons, List.take_zero, List.length_cons, List.length_nil, List.reverse_cons, List.reverse_nil, List.nil_append, List.cons_append, Option.toList, true_and, and_true, or_false, false_or, or_true, true_or, forall_const, Classical.not_not, not_false_eq_true, not_true_eq_false, false_implies, true_implies, implies_true, imp_self]
  refine ⟨fun q => ⟨fun z => ?_, fun z => ⟨n1, fun M1 hR => hQ _ _ ?_⟩⟩, fun q => hQ _ _ ⟨lex_rf, fun x hx => ?_⟩⟩
  · refine ⟨fun y => ?_, fun y => ⟨n2, fun M1 hR => hQ _ _ ?_⟩⟩
    · cases x0 with
      | inl e => exact absurd (hx0.1.symm.trans q) hx0.2.2
      | inr p0 =>
        refine ⟨⟨h1, ps_spot h1 hx0.2⟩, fun M1 hR => hQ _ _ ⟨(nx_use q hx0.2 hR).1, fun x hx => ?_⟩⟩
        cases x with
        | inl e => exact absurd (hx.1.symm.trans q) hx.2.2
        | inr p =>
          have hk : (tkP (TM M) (tpN M) p).1 = 2 := hx.2.2.1.symm.trans z
          have hv := hx.2.2.2.2.2.2.1 hk
          have hvi := vR_in (lo := lo) hv h2
          have hn : lo ≤ numN (TM M) (tpN M) p ∧ numN (TM M) (tpN M) p ≤ hi := hvi.mp y
          have ev : M 0 10 = numN (TM M) (tpN M) p := vR_eq hv (by have := hn.2; omega)
          show psR M1 (if (tkP (TM M) (tpN M) p).1 = 2 then (if lo ≤ numN (TM M) (tpN M) p ∧ numN (TM M) (tpN M) p ≤ hi then _ else _) else _ : Int × Ps).2 ∧ _ = (if (tkP (TM M) (tpN M) p).1 = 2 then (if lo ≤ numN (TM M) (tpN M) p ∧ numN (TM M) (tpN M) p ≤ hi then _ else _) else _ : Int × Ps).1
          rw [if_pos hk, if_pos hn]
          exact ⟨(nx_use q hx.2 hR).2, ev⟩
    · obtain ⟨f1, f2⟩ := fail_lex hR
      refine ⟨f1, fun x hx => ?_⟩
      have f3 := f2 x hx
      cases x with
      | inl e => exact absurd (hx.1.symm.trans q) hx.2.2
      | inr p =>
        have hk : (tkP (TM M) (tpN M) p).1 = 2 := hx.2.2.1.symm.trans z
        have hv := hx.2.2.2.2.2.2.1 hk
        have hn : ¬ (lo ≤ numN (TM M) (tpN M) p ∧ numN (TM M) (tpN M) p ≤ hi) := fun w => y ((vR_in (lo := lo) hv h2).mpr w)
        show psR M1 (if (tkP (TM M) (tpN M) p).1 = 2 then (if lo ≤ numN (TM M) (tpN M) p ∧ numN (TM M) (tpN M) p ≤ hi then _ else _) else _ : Int × Ps).2 ∧ _ = (if (tkP (TM M) (tpN M) p).1 = 2 then (if lo ≤ numN (TM M) (tpN M) p ∧ numN (TM M) (tpN M) p ≤ hi then _ else _) else _ : Int × Ps).1
        rw [if_pos hk, if_neg hn]
        exact ⟨f3, rfl⟩
  · obtain ⟨f1, f2⟩ := fail_lex hR
    refine ⟨f1, fun x hx => ?_⟩
    have f3 := f2 x hx
    cases x with
    | inl e => exact absurd (hx.1.symm.trans q) hx.2.2
    | inr p =>
      have hk : ¬ (tkP (TM M) (tpN M) p).1 = 2 := fun w => z (hx.2.2.1.trans w)
      show psR M1 (if (tkP (TM M) (tpN M) p).1 = 2 then (if lo ≤ numN (TM M) (tpN M) p ∧ numN (TM M) (tpN M) p ≤ hi then _ else _) else _ : Int × Ps).2 ∧ _ = (if (tkP (TM M) (tpN M) p).1 = 2 then (if lo ≤ numN (TM M) (tpN M) p ∧ numN (TM M) (tpN M) p ≤ hi then _ else _) else _ : Int × Ps).1
      rw [if_neg hk]
      exact ⟨f3, rfl⟩
  · cases x with
    | inl e => exact ⟨hx, rfl⟩
    | inr p => exact absurd hx.1 q
set_option maxHeartbeats 4000000 in
set_option maxRecDepth 100000 in
theorem m7_number_2 : MOK cl7 sh7 tyl7 [] 2 yX7_number_2 cX7_number_2 4 (some .int) sp7_number_2 := by
  refine mok_of (own := RX7) (tb := tb7 (csL cs7_number_2)) (rt := 1) (fuel := 400) (fun avs M Q => []) (by decide) rfl nil_nw (tbOK7 _) rfl (csL_all ?_) ?_ ?_ ?_
  · intro q hq
    simp only [cs7_number_2, List.mem_cons, List.not_mem_nil, or_false] at hq
    rcases hq with rfl | rfl | rfl
    · exact cg7_fails (by decide)
    · exact cg7_in (by decide)
    · exact cg7_next (by decide)
  · intro avs M Q hsp
    obtain ⟨xs, hx⟩ := spR_un _ _ _ hsp
    obtain ⟨e, hl⟩ := unA_mkT hx
    obtain ⟨lo, hi, rfl⟩ := len2 hl
    have e : avs = [ar 0, ai lo, ai hi] := e
    subst e
    simp [szL, isL]
  · intro avs M Q hM hav hsp
    obtain ⟨xs, hx⟩ := spR_un _ _ _ hsp
    obtain ⟨e, hl⟩ := unA_mkT hx
    obtain ⟨lo, hi, rfl⟩ := len2 hl
    have e : avs = [ar 0, ai lo, ai hi] := e
    subst e
    exact in7_number_2 hM (hav (ai lo) (by simp)) (hav (ai hi) (by simp)) hsp.1 hsp.2
  · intro avs M Q hM hav hsp q hq m_ vs M1 hM1 hv hJ
    obtain ⟨xs, hx⟩ := spR_un _ _ _ hsp
    obtain ⟨e, hl⟩ := unA_mkT hx
    obtain ⟨lo, hi, rfl⟩ := len2 hl
    have e : avs = [ar 0, ai lo, ai hi] := e
    subst e
    cases hq
theorem cg7_number_2 {lvl : Nat} (h : 2 < lvl) : CG RX7 cl7 sh7 tyl7 [] lvl 1 191 3 sp7_number_2 := cg_V (sg := [0, 0]) nil_nw spR_mono spR_un m7_number_2 h rfl (by decide) rfl rfl ⟨rfl, by decide, by decide, rfl⟩ q1752 q1754 qs72 q138 q1755
def P7_number (w : Int) (lo : Int) (hi : Int) (M : Mm) : Prop := lexP M ∧ hi ≤ 1000 ∧ ∃ u, okW u ∧ wL u = w
def R7_number (w : Int) (lo : Int) (hi : Int) (M : Mm) (v : Int) (M1 : Mm) : Prop := lexK M M1 ∧ ∀ x u, psR M x → okW u → wL u = w → psR M1 (told (TM M) (tpN M) u lo hi x).2 ∧ v = (told (TM M) (tpN M) u lo hi x).1
def sp7_number : Spec := spR true [1, 0, 0] 1 (fun x M => P7_number (x 0) (x 1) (x 2) M) (fun x M v M1 => R7_number (x 0) (x 1) (x 2) M v M1)
theorem c7_number {w lo hi : Int} {M : Mm} {Q : Option AV → Mm → Prop} : sp7_number [ar 0, al w, ai lo, ai hi] M Q = (P7_number w lo hi M ∧ ∀ (v : Int) (M1 : Mm), R7_number w lo hi M v M1 → Q (some (ai v)) M1) := rfl
def cs7_number : List (Nat × Nat × Nat × Spec) := [(187, 1, 2, sp7_asks), (191, 1, 3, sp7_number_2)]
set_option maxHeartbeats 4000000 in
set_option maxRecDepth 100000 in
theorem in7_number {w lo hi : Int} {M : Mm} {Q : Option AV → Mm → Prop} (hM : okM sh7 M) (h_w : i64 w) (h_lo : i32 lo) (h_hi : i32 hi) (hP : P7_number w lo hi M) (hQ : ∀ (v : Int) (M1 : Mm), R7_number w lo hi M v M1 → Q (some (ai v)) M1) : wp (tb7 (csL cs7_number)) sh7 5 1 cX7_number [] Q 400 0 [(0, ar 0), (1, al w), (3, ai lo), (4, ai hi)] [] M := by
  obtain ⟨⟨h1, x0, hx0⟩, h2, u0, hu0, he0⟩ := id hP
  simp only [e_wp dX7_number_0 rfl, e_wp dX7_number_1 rfl, e_wp dX7_number_2 rfl, e_wp dX7_number_5 rfl, e_wp dX7_number_6 rfl, e_wp dX7_number_7 rfl, e_wp dX7_number_9 rfl, e_wp dX7_number_12 rfl, c7_asks, cs7_number, c7_number_2, e_iconst, e_bipush, e_sipush, e_lconst_0, e_lconst_1, e_iload, e_iload_0, e_iload_1, e_iload_2, e_iload_3, e_lload, e_lload_0, e_lload_1, e_lload_2, e_lload_3, e_aload, e_aload_0, e_aload_1, e_aload_2, e_aload_3, e_istore, e_istore_0, e_istore_1, e_istore_2, e_istore_3, e_astore, e_astore_0, e_astore_1, e_astore_2, e_astore_3, e_lstore, e_lstore_0, e_lstore_1, e_lstore_2, e_lstore_3, e_iinc, e_iadd, e_isub, e_imul, e_ladd, e_lsub, e_lmul, e_idiv, e_irem, e_ldiv, e_lrem, e_ineg, e_lneg, e_iand, e_ior, e_ixor, e_ishl, e_ishr, e_iushr, e_lcmp, e_i2l, e_l2i, e_i2b, e_i2s, e_dup_i, e_dup_r, e_pop_i, e_pop_r, e_dup2_l, e_dup2_ir, e_dup2_ii, e_ifeq, e_ifne, e_iflt, e_ifge, e_ifgt, e_ifle, e_iceq, e_icne, e_iclt, e_icge, e_icgt, e_icle, e_goto, e_switch, e_invokevirtual, e_invokestatic, e_invokespecial, e_ret0, e_ret1, e_ret2, e_ret3, ldI_s, ldL_s, ldR_s, clO_s, ctP_s, ctS_s, mgo_0, mgo_s, pjc_s, pj_0, pj_s, lk_s, rm1_0, rm1_i, rm1_r, rm1_l, rm2_0, rm2_i, rm2_r, rm2_l, csL_s, lc_lt, lc_ge, lc_gt, lc_le, lc_eq, b01_0, b01_1, b01_01, b01_n, up2_o, up2_s, up2_u, ne_eq, reduceCtorEq, Nat.reduceAdd, Nat.reduceEqDiff, Nat.reduceLT, Nat.reduceLeDiff, Int.reduceLE, Int.reduceLT, Int.reduceAdd, Int.reduceNeg, Int.reduceMul, Int.reduceSub, Int.reduceEq, Int.reduceToNat, Int.reduceNatCast, Int.cast_ofNat_Int, ↓reduceIte, and_self, List.drop_succ_cons, List.drop_zero, List.take_succ_cons, List.take_zero, List.length_cons, List.length_nil, List.reverse_cons, List.reverse_nil, List.nil_append, List.cons_append, Option.toList, true_and, and_true, or_false, false_or, or_true, true_or, forall_const, Classical.not_not, not_false_eq_true, not_true_eq_false, false_implies, true_implies, implies_true, imp_self]
  refine ⟨⟨⟨h1, x0, hx0⟩, u0, hu0, he0⟩, fun M1 hR => ?_⟩
  obtain ⟨r1, r2⟩ := hR
  refine ⟨⟨lex_x r1 h1 (r2 x0 u0 hx0 hu0 he0), h2⟩, fun v M2 hR2 => hQ _ _ ?_⟩
  obtain ⟨s1, s2⟩ := hR2
  refine ⟨lex_tr r1 s1, fun x u hx hu he => ?_⟩
  have s3 := s2 _ (r2 x u hx hu he)
  rw [(lex_T r1).1, (lex_T r1).2.1] at s3
  exact s3
set_option maxHeartbeats 4000000 in
set_option maxRecDepth 100000 in
theorem m7_number : MOK cl7 sh7 tyl7 [] 4 yX7_number cX7_number 5 (some .int) sp7_number := by
  refine mok_of (own := RX7) (tb := tb7 (csL cs7_number)) (rt := 1) (fuel := 400) (fun avs M Q => []) (by decide) rfl nil_nw (tbOK7 _) rfl (csL_all ?_) ?_ ?_ ?_
  · intro q hq
    simp only [cs7_number, List.mem_cons, List.not_mem_nil, or_false] at hq
    rcases hq with rfl | rfl
    · exact cg7_asks (by decide)
    · exact cg7_number_2 (by decide)
  · intro avs M Q hsp
    obtain ⟨xs, hx⟩ := spR_un _ _ _ hsp
    obtain ⟨e, hl⟩ := unA_mkT hx
    obtain ⟨w, lo, hi, rfl⟩ := len3 hl
    have e : avs = [ar 0, al w, ai lo, ai hi] := e
    subst e
    simp [szL, isL]
  · intro avs M Q hM hav hsp
    obtain ⟨xs, hx⟩ := spR_un _ _ _ hsp
    obtain ⟨e, hl⟩ := unA_mkT hx
    obtain ⟨w, lo, hi, rfl⟩ := len3 hl
    have e : avs = [ar 0, al w, ai lo, ai hi] := e
    subst e
    exact in7_number hM (hav (al w) (by simp)) (hav (ai lo) (by simp)) (hav (ai hi) (by simp)) hsp.1 hsp.2
  · intro avs M Q hM hav hsp q hq m_ vs M1 hM1 hv hJ
    obtain ⟨xs, hx⟩ := spR_un _ _ _ hsp
    obtain ⟨e, hl⟩ := unA_mkT hx
    obtain ⟨w, lo, hi, rfl⟩ := len3 hl
    have e : avs = [ar 0, al w, ai lo, ai hi] := e
    subst e
    cases hq
theorem cg7_number {lvl : Nat} (h : 4 < lvl) : CG RX7 cl7 sh7 tyl7 [] lvl 1 204 4 sp7_number := cg_V (sg := [1, 0, 0]) nil_nw spR_mono spR_un m7_number h rfl (by decide) rfl rfl ⟨rfl, by decide, by decide, rfl⟩ q1748 q1750 qs71 q138 q1751
def P7_ends (M : Mm) : Prop := lexP M
def R7_ends (M : Mm) (M1 : Mm) : Prop := lexK M M1 ∧ ∀ x, psR M x → psR M1 (endS (TM M) (tpN M) x)
def sp7_ends : Spec := spV true [] (fun x M => P7_ends M) (fun x M M1 => R7_ends M M1)
theorem c7_ends {M : Mm} {Q : Option AV → Mm → Prop} : sp7_ends [ar 0] M Q = (P7_ends M ∧ ∀ (M1 : Mm), R7_ends M M1 → Q none M1) := rfl
def cs7_ends : List (Nat × Nat × Nat × Spec) := [(184, 1, 2, sp7_fails), (178, 1, 1, sp7_next)]
set_option maxHeartbeats 4000000 in
set_option maxRecDepth 100000 in
theorem in7_ends {M : Mm} {Q : Option AV → Mm → Prop} (hM : okM sh7 M) (hP : P7_ends M) (hQ : ∀ (M1 : Mm), R7_ends M M1 → Q none M1) : wp (tb7 (csL cs7_ends)) sh7 1 0 cX7_ends [] Q 400 0 [(0, ar 0)] [] M := by
  obtain ⟨h1, x0, hx0⟩ := id hP
  have n1 : ¬ (1 : Int) = 0 := by decide
  simp only [e_wp dX7_ends_0 rfl, e_wp dX7_ends_1 rfl, e_wp dX7_ends_4 rfl, e_wp dX7_ends_5 rfl, e_wp dX7_ends_8 rfl, e_wp dX7_ends_9 rfl, e_wp dX7_ends_10 rfl, e_wp dX7_ends_13 rfl, e_wp dX7_ends_14 rfl, e_wp dX7_ends_17 rfl, e_wp dX7_ends_20 rfl, e_wp dX7_ends_21 rfl, e_wp dX7_ends_24 rfl, g7_157, c7_fails, cs7_ends, g7_168, c7_next, e_iconst, e_bipush, e_sipush, e_lconst_0, e_lconst_1, e_iload, e_iload_0, e_iload_1, e_iload_2, e_iload_3, e_lload, e_lload_0, e_lload_1, e_lload_2, e_lload_3, e_aload, e_aload_0, e_aload_1, e_aload_2, e_aload_3, e_istore, e_istore_0, e_istore_1, e_istore_2, e_istore_3, e_astore, e_astore_0, e_astore_1, e_astore_2, e_astore_3, e_lstore, e_lstore_0, e_lstore_1, e_lstore_2, e_lstore_3, e_iinc, e_iadd, e_isub, e_imul, e_ladd, e_lsub, e_lmul, e_idiv, e_irem, e_ldiv, e_lrem, e_ineg, e_lneg, e_iand, e_ior, e_ixor, e_ishl, e_ishr, e_iushr, e_lcmp, e_i2l, e_l2i, e_i2b, e_i2s, e_dup_i, e_dup_r, e_pop_i, e_pop_r, e_dup2_l, e_dup2_ir, e_dup2_ii, e_ifeq, e_ifne, e_iflt, e_ifge, e_ifgt, e_ifle, e_iceq, e_icne, e_iclt, e_icge, e_icgt, e_icle, e_goto, e_switch, e_invokevirtual, e_invokestatic, e_invokespecial, e_ret0, e_ret1, e_ret2, e_ret3, ldI_s, ldL_s, ldR_s, clO_s, ctP_s, ctS_s, mgo_0, mgo_s, pjc_s, pj_0, pj_s, lk_s, rm1_0, rm1_i, rm1_r, rm1_l, rm2_0, rm2_i, rm2_r, rm2_l, csL_s, lc_lt, lc_ge, lc_gt, lc_le, lc_eq, b01_0, b01_1, b01_01, b01_n, up2_o, up2_s, up2_u, ne_eq, reduceCtorEq, Nat.reduceAdd, Nat.reduceEqDiff, Nat.reduceLT, Nat.reduceLeDiff, Int.reduceLE, Int.reduceLT, Int.reduceAdd, Int.reduceNeg, Int.reduceMul, Int.reduceSub, Int.reduceEq, Int.reduceToNat, Int.reduceNatCast, Int.cast_ofNat_Int, ↓reduceIte, and_self, List.drop_succ_cons, List.drop_zero, List.take_succ_cons, List.take_zero, List.length_cons, List.length_nil, List.reverse_cons, List.reverse_nil, List.nil_append, List.cons_append, Option.toList, true_and, and_true, or_false, false_or, or_true, true_or, forall_const, Classical.not_not, not_false_eq_true, not_true_eq_false, false_implies, true_implies, implies_true, imp_self]
  refine ⟨fun q => ⟨fun z => hQ _ ⟨lex_rf, fun x hx => ?_⟩, fun z => ?_⟩, fun q => ⟨n1, fun M1 hR => ?_⟩⟩
  · cases x with
    | inl e => exact hx
    | inr p => exact absurd hx.1 z
  · cases x0 with
    | inl e => exact absurd (hx0.1.symm.trans z) hx0.2.2
    | inr p0 =>
      refine ⟨⟨h1, ps_spot h1 hx0.2⟩, fun M1 hR => hQ _ ⟨(nx_use z hx0.2 hR).1, fun x hx => ?_⟩⟩
      cases x with
      | inl e => exact absurd (hx.1.symm.trans z) hx.2.2
      | inr p =>
        have hk : (tkP (TM M) (tpN M) p).1 = 3 := hx.2.2.1.symm.trans q
        show psR M1 (if (tkP (TM M) (tpN M) p).1 = 3 then _ else _)
        rw [if_pos hk]
        exact (nx_use z hx.2 hR).2
  · obtain ⟨f1, f2⟩ := fail_lex hR
    have hb : ¬ M1 0 12 = 0 := by
      have := f2 _ hx0
      cases x0 with
      | inl e => exact fun w => this.2.2 (this.1.symm.trans w)
      | inr p => exact fun w => this.2.2 (this.1.symm.trans w)
    refine ⟨fun _ => hQ _ ⟨f1, fun x hx => ?_⟩, fun w => absurd w hb⟩
    have f3 := f2 x hx
    cases x with
    | inl e => exact f3
    | inr p =>
      have hk : ¬ (tkP (TM M) (tpN M) p).1 = 3 := fun w => q (hx.2.2.1.trans w)
      show psR M1 (if (tkP (TM M) (tpN M) p).1 = 3 then _ else _)
      rw [if_neg hk]
      exact f3
set_option maxHeartbeats 4000000 in
set_option maxRecDepth 100000 in
theorem m7_ends : MOK cl7 sh7 tyl7 [] 2 yX7_ends cX7_ends 1 none sp7_ends := by
  refine mok_of (own := RX7) (tb := tb7 (csL cs7_ends)) (rt := 0) (fuel := 400) (fun avs M Q => []) (by decide) rfl nil_nw (tbOK7 _) rfl (csL_all ?_) ?_ ?_ ?_
  · intro q hq
    simp only [cs7_ends, List.mem_cons, List.not_mem_nil, or_false] at hq
    rcases hq with rfl | rfl
    · exact cg7_fails (by decide)
    · exact cg7_next (by decide)
  · intro avs M Q hsp
    obtain ⟨xs, hx⟩ := spV_un _ _ _ hsp
    obtain ⟨e, hl⟩ := unA_mkT hx
    obtain rfl := len0 hl
    have e : avs = [ar 0] := e
    subst e
    simp [szL, isL]
  · intro avs M Q hM hav hsp
    obtain ⟨xs, hx⟩ := spV_un _ _ _ hsp
    obtain ⟨e, hl⟩ := unA_mkT hx
    obtain rfl := len0 hl
    have e : avs = [ar 0] := e
    subst e
    exact in7_ends hM hsp.1 hsp.2
  · intro avs M Q hM hav hsp q hq m_ vs M1 hM1 hv hJ
    obtain ⟨xs, hx⟩ := spV_un _ _ _ hsp
    obtain ⟨e, hl⟩ := unA_mkT hx
    obtain rfl := len0 hl
    have e : avs = [ar 0] := e
    subst e
    cases hq
theorem cg7_ends {lvl : Nat} (h : 2 < lvl) : CG RX7 cl7 sh7 tyl7 [] lvl 1 270 1 sp7_ends := cg_V (sg := []) nil_nw spV_mono spV_un m7_ends h rfl (by decide) rfl rfl ⟨rfl, by decide, by decide, rfl⟩ q1800 q1802 qs81 q138 q1803
def P7_begins (M : Mm) : Prop := tpI M
def R7_begins (M : Mm) (M1 : Mm) : Prop := lexK M M1 ∧ psR M1 (.inr 0)
def sp7_begins : Spec := spV true [] (fun x M => P7_begins M) (fun x M M1 => R7_begins M M1)
theorem c7_begins {M : Mm} {Q : Option AV → Mm → Prop} : sp7_begins [ar 0] M Q = (P7_begins M ∧ ∀ (M1 : Mm), R7_begins M M1 → Q none M1) := rfl
def cs7_begins : List (Nat × Nat × Nat × Spec) := [(178, 1, 1, sp7_next)]
set_option maxHeartbeats 4000000 in
set_option maxRecDepth 100000 in
theorem in7_begins {M : Mm} {Q : Option AV → Mm → Prop} (hM : okM sh7 M) (hP : P7_begins M) (hQ : ∀ (M1 : Mm), R7_begins M M1 → Q none M1) : wp (tb7 (csL cs7_begins)) sh7 1 0 cX7_begins [] Q 400 0 [(0, ar 0)] [] M := by
  have h1 : 0 ≤ M 0 6 ∧ M 0 6 ≤ 700 := hP
  have e6 : up2 (up2 (up2 M 0 12 0) 0 13 (-1)) 0 7 0 0 6 = M 0 6 := by rw [up2_n (by decide), up2_n (by decide), up2_n (by decide)]
  have e7 : up2 (up2 (up2 M 0 12 0) 0 13 (-1)) 0 7 0 0 7 = 0 := up2_s
  have e12 : up2 (up2 (up2 M 0 12 0) 0 13 (-1)) 0 7 0 0 12 = 0 := by rw [up2_n (by decide), up2_n (by decide), up2_s]
  simp only [e_wp dX7_begins_0 rfl, e_wp dX7_begins_1 rfl, e_wp dX7_begins_2 rfl, e_wp dX7_begins_5 rfl, e_wp dX7_begins_6 rfl, e_wp dX7_begins_7 rfl, e_wp dX7_begins_10 rfl, e_wp dX7_begins_11 rfl, e_wp dX7_begins_12 rfl, e_wp dX7_begins_15 rfl, e_wp dX7_begins_16 rfl, e_wp dX7_begins_19 rfl, p7_168, p7_171, p7_140, c7_next, cs7_begins, e_iconst, e_bipush, e_sipush, e_lconst_0, e_lconst_1, e_iload, e_iload_0, e_iload_1, e_iload_2, e_iload_3, e_lload, e_lload_0, e_lload_1, e_lload_2, e_lload_3, e_aload, e_aload_0, e_aload_1, e_aload_2, e_aload_3, e_istore, e_istore_0, e_istore_1, e_istore_2, e_istore_3, e_astore, e_astore_0, e_astore_1, e_astore_2, e_astore_3, e_lstore, e_lstore_0, e_lstore_1, e_lstore_2, e_lstore_3, e_iinc, e_iadd, e_isub, e_imul, e_ladd, e_lsub, e_lmul, e_idiv, e_irem, e_ldiv, e_lrem, e_ineg, e_lneg, e_iand, e_ior, e_ixor, e_ishl, e_ishr, e_iushr, e_lcmp, e_i2l, e_l2i, e_i2b, e_i2s, e_dup_i, e_dup_r, e_pop_i, e_pop_r, e_dup2_l, e_dup2_ir, e_dup2_ii, e_ifeq, e_ifne, e_iflt, e_ifge, e_ifgt, e_ifle, e_iceq, e_icne, e_iclt, e_icge, e_icgt, e_icle, e_goto, e_switch, e_invokevirtual, e_invokestatic, e_invokespecial, e_ret0, e_ret1, e_ret2, e_ret3, ldI_s, ldL_s, ldR_s, clO_s, ctP_s, ctS_s, mgo_0, mgo_s, pjc_s, pj_0, pj_s, lk_s, rm1_0, rm1_i, rm1_r, rm1_l, rm2_0, rm2_i, rm2_r, rm2_l, csL_s, lc_lt, lc_ge, lc_gt, lc_le, lc_eq, b01_0, b01_1, b01_01, b01_n, up2_o, up2_s, up2_u, ne_eq, reduceCtorEq, Nat.reduceAdd, Nat.reduceEqDiff, Nat.reduceLT, Nat.reduceLeDiff, Int.reduceLE, Int.reduceLT, Int.reduceAdd, Int.reduceNeg, Int.reduceMul, Int.reduceSub, Int.reduceEq, Int.reduceToNat, Int.reduceNatCast, Int.cast_ofNat_Int, ↓reduceIte, and_self, List.drop_succ_cons, List.drop_zero, List.take_succ_cons, List.take_zero, List.length_cons, List.length_nil, List.reverse_cons, List.reverse_nil, List.nil_append, List.cons_append, Option.toList, true_and, and_true, or_false, false_or, or_true, true_or, forall_const, Classical.not_not, not_false_eq_true, not_true_eq_false, false_implies, true_implies, implies_true, imp_self]
  refine ⟨⟨by show 0 ≤ _ ∧ _ ≤ _; rw [e6]; exact h1, by rw [e7]; exact Int.le_refl _, by rw [e7, e6]; exact h1.1⟩, fun M1 hR => hQ _ ?_⟩
  obtain ⟨r1, r2, r3⟩ := hR
  refine ⟨⟨frm_tr (frm_up (frm_up (frm_up frm_rf (by decide)) (by decide)) (by decide)) r1 (by decide), fun j hj => ?_⟩, (r2 12 (by decide)).trans e12, r3 0 e7⟩
  rw [r2 j (by omega), up2_n (by omega), up2_n (by omega), up2_n (by omega)]
set_option maxHeartbeats 4000000 in
set_option maxRecDepth 100000 in
theorem m7_begins : MOK cl7 sh7 tyl7 [] 2 yX7_begins cX7_begins 1 none sp7_begins := by
  refine mok_of (own := RX7) (tb := tb7 (csL cs7_begins)) (rt := 0) (fuel := 400) (fun avs M Q => []) (by decide) rfl nil_nw (tbOK7 _) rfl (csL_all ?_) ?_ ?_ ?_
  · intro q hq
    simp only [cs7_begins, List.mem_cons, List.not_mem_nil, or_false] at hq
    rcases hq with rfl
    · exact cg7_next (by decide)
  · intro avs M Q hsp
    obtain ⟨xs, hx⟩ := spV_un _ _ _ hsp
    obtain ⟨e, hl⟩ := unA_mkT hx
    obtain rfl := len0 hl
    have e : avs = [ar 0] := e
    subst e
    simp [szL, isL]
  · intro avs M Q hM hav hsp
    obtain ⟨xs, hx⟩ := spV_un _ _ _ hsp
    obtain ⟨e, hl⟩ := unA_mkT hx
    obtain rfl := len0 hl
    have e : avs = [ar 0] := e
    subst e
    exact in7_begins hM hsp.1 hsp.2
  · intro avs M Q hM hav hsp q hq m_ vs M1 hM1 hv hJ
    obtain ⟨xs, hx⟩ := spV_un _ _ _ hsp
    obtain ⟨e, hl⟩ := unA_mkT hx
    obtain rfl := len0 hl
    have e : avs = [ar 0] := e
    subst e
    cases hq
theorem cg7_begins {lvl : Nat} (h : 2 < lvl) : CG RX7 cl7 sh7 tyl7 [] lvl 1 254 1 sp7_begins := cg_V (sg := []) nil_nw spV_mono spV_un m7_begins h rfl (by decide) rfl rfl ⟨rfl, by decide, by decide, rfl⟩ q1709 q1711 qs63 q138 q1712
def P7_isOver (M : Mm) : Prop := True
def R7_isOver (M : Mm) (M1 : Mm) : Prop := frm [0] M M1 ∧ (∀ j, ¬ (j = 6 ∨ j = 14 ∨ j = 15) → M1 0 j = M 0 j) ∧ M1 0 6 = 0 ∧ M1 0 14 = M 0 12 ∧ M1 0 15 = (if M 0 12 = 0 then -1 else M 0 13)
def sp7_isOver : Spec := spV true [] (fun x M => P7_isOver M) (fun x M M1 => R7_isOver M M1)
theorem c7_isOver {M : Mm} {Q : Option AV → Mm → Prop} : sp7_isOver [ar 0] M Q = (P7_isOver M ∧ ∀ (M1 : Mm), R7_isOver M M1 → Q none M1) := rfl
def cs7_isOver : List (Nat × Nat × Nat × Spec) := []
set_option maxHeartbeats 4000000 in
set_option maxRecDepth 100000 in
theorem in7_isOver {M : Mm} {Q : Option AV → Mm → Prop} (hM : okM sh7 M) (hP : P7_isOver M) (hQ : ∀ (M1 : Mm), R7_isOver M M1 → Q none M1) : wp (tb7 (csL cs7_isOver)) sh7 1 0 cX7_isOver [] Q 400 0 [(0, ar 0)] [] M := by
  simp only [e_wp dX7_isOver_0 rfl, e_wp dX7_isOver_1 rfl, e_wp dX7_isOver_2 rfl, e_wp dX7_isOver_5 rfl, e_wp dX7_isOver_6 rfl, e_wp dX7_isOver_7 rfl, e_wp dX7_isOver_10 rfl, e_wp dX7_isOver_13 rfl, e_wp dX7_isOver_14 rfl, e_wp dX7_isOver_15 rfl, e_wp dX7_isOver_18 rfl, e_wp dX7_isOver_21 rfl, e_wp dX7_isOver_22 rfl, e_wp dX7_isOver_25 rfl, e_wp dX7_isOver_26 rfl, e_wp dX7_isOver_29 rfl, e_wp dX7_isOver_32 rfl, p7_133, g7_168, p7_195, g7_171, p7_27, e_iconst, e_bipush, e_sipush, e_lconst_0, e_lconst_1, e_iload, e_iload_0, e_iload_1, e_iload_2, e_iload_3, e_lload, e_lload_0, e_lload_1, e_lload_2, e_lload_3, e_aload, e_aload_0, e_aload_1, e_aload_2, e_aload_3, e_istore, e_istore_0, e_istore_1, e_istore_2, e_istore_3, e_astore, e_astore_0, e_astore_1, e_astore_2, e_astore_3, e_lstore, e_lstore_0, e_lstore_1, e_lstore_2, e_lstore_3, e_iinc, e_iadd, e_isub, e_imul, e_ladd, e_lsub, e_lmul, e_idiv, e_irem, e_ldiv, e_lrem, e_ineg, e_lneg, e_iand, e_ior, e_ixor, e_ishl, e_ishr, e_iushr, e_lcmp, e_i2l, e_l2i, e_i2b, e_i2s, e_dup_i, e_dup_r, e_pop_i, e_pop_r, e_dup2_l, e_dup2_ir, e_dup2_ii, e_ifeq, e_ifne, e_iflt, e_ifge, e_ifgt, e_ifle, e_iceq, e_icne, e_iclt, e_icge, e_icgt, e_icle, e_goto, e_switch, e_invokevirtual, e_invokestatic, e_invokespecial, e_ret0, e_ret1, e_ret2, e_ret3, ldI_s, ldL_s, ldR_s, clO_s, ctP_s, ctS_s, mgo_0, mgo_s, pjc_s, pj_0, pj_s, lk_s, rm1_0, rm1_i, rm1_r, rm1_l, rm2_0, rm2_i, rm2_r, rm2_l, csL_s, lc_lt, lc_ge, lc_gt, lc_le, lc_eq, b01_0, b01_1, b01_01, b01_n, up2_o, up2_s, up2_u, ne_eq, reduceCtorEq, Nat.reduceAdd, Nat.reduceEqDiff, Nat.reduceLT, Nat.reduceLeDiff, Int.reduceLE, Int.reduceLT, Int.reduceAdd, Int.reduceNeg, Int.reduceMul, Int.reduceSub, Int.reduceEq, Int.reduceToNat, Int.reduceNatCast, Int.cast_ofNat_Int, ↓reduceIte, and_self, List.drop_succ_cons, List.drop_zero, List.take_succ_cons, List.take_zero, List.length_cons, List.length_nil, List.reverse_cons, List.reverse_nil, List.nil_append, List.cons_append, Option.toList, true_and, and_true, or_false, false_or, or_true, true_or, forall_const, Classical.not_not, not_false_eq_true, not_true_eq_false, false_implies, true_implies, implies_true, imp_self, up2_n]
  have go : ∀ x, x = (if M 0 12 = 0 then -1 else M 0 13) → Q none (up2 (up2 (up2 M 0 6 0) 0 14 (M 0 12)) 0 15 x) := by
    intro x hx
    refine hQ _ ⟨frm_up (frm_up (frm_up frm_rf (by decide)) (by decide)) (by decide), fun j hj => ?_, ?_, ?_, ?_⟩
    · rw [up2_n (by omega), up2_n (by omega), up2_n (by omega)]
    · rw [up2_n (by decide), up2_n (by decide), up2_s]
    · rw [up2_n (by decide), up2_s]
    · rw [up2_s, hx]
  exact ⟨fun q => go _ (if_neg q).symm, fun q => go _ (if_pos q).symm⟩
set_option maxHeartbeats 4000000 in
set_option maxRecDepth 100000 in
theorem m7_isOver : MOK cl7 sh7 tyl7 [] 0 yX7_isOver cX7_isOver 1 none sp7_isOver := by
  refine mok_of (own := RX7) (tb := tb7 (csL cs7_isOver)) (rt := 0) (fuel := 400) (fun avs M Q => []) (by decide) rfl nil_nw (tbOK7 _) rfl (csL_all ?_) ?_ ?_ ?_
  · intro q hq; cases hq
  · intro avs M Q hsp
    obtain ⟨xs, hx⟩ := spV_un _ _ _ hsp
    obtain ⟨e, hl⟩ := unA_mkT hx
    obtain rfl := len0 hl
    have e : avs = [ar 0] := e
    subst e
    simp [szL, isL]
  · intro avs M Q hM hav hsp
    obtain ⟨xs, hx⟩ := spV_un _ _ _ hsp
    obtain ⟨e, hl⟩ := unA_mkT hx
    obtain rfl := len0 hl
    have e : avs = [ar 0] := e
    subst e
    exact in7_isOver hM hsp.1 hsp.2
  · intro avs M Q hM hav hsp q hq m_ vs M1 hM1 hv hJ
    obtain ⟨xs, hx⟩ := spV_un _ _ _ hsp
    obtain ⟨e, hl⟩ := unA_mkT hx
    obtain rfl := len0 hl
    have e : avs = [ar 0] := e
    subst e
    cases hq
theorem cg7_isOver {lvl : Nat} (h : 0 < lvl) : CG RX7 cl7 sh7 tyl7 [] lvl 1 273 1 sp7_isOver := cg_V (sg := []) nil_nw spV_mono spV_un m7_isOver h rfl (by decide) rfl rfl ⟨rfl, by decide, by decide, rfl⟩ q1804 q1806 qs82 q138 q1807
def P7_hasRead (w : Int) (M : Mm) : Prop := 0 ≤ w ∧ w < 8
def V7_hasRead (w : Int) (M : Mm) : Int := M 7 (32 + w).toNat
def sp7_hasRead : Spec := spF true [0] 1 (fun x M => P7_hasRead (x 0) M) (fun x M => V7_hasRead (x 0) M)
theorem c7_hasRead {w : Int} {M : Mm} {Q : Option AV → Mm → Prop} : sp7_hasRead [ar 0, ai w] M Q = (P7_hasRead w M ∧ Q (some (ai (V7_hasRead w M))) M) := rfl
def cs7_hasRead : List (Nat × Nat × Nat × Spec) := []
set_option maxHeartbeats 4000000 in
set_option maxRecDepth 100000 in
theorem in7_hasRead {w : Int} {M : Mm} {Q : Option AV → Mm → Prop} (hM : okM sh7 M) (h_w : i32 w) (hP : P7_hasRead w M) (hQ : Q (some (ai (V7_hasRead w M))) M) : wp (tb7 (csL cs7_hasRead)) sh7 2 1 cX7_hasRead [] Q 400 0 [(0, ar 0), (1, ai w)] [] M := by
  have h := hP
  unfold P7_hasRead at h
  simp only [e_wp dX7_hasRead_0 rfl, e_wp dX7_hasRead_1 rfl, e_wp dX7_hasRead_4 rfl, e_wp dX7_hasRead_6 rfl, e_wp dX7_hasRead_7 rfl, e_wp dX7_hasRead_8 rfl, e_wp dX7_hasRead_9 rfl, g7_34, a7_1, w7_1, a7_2, w7_2, a7_3, w7_3, a7_4, w7_4, a7_5, w7_5, a7_6, w7_6, a7_7, w7_7, a7_8, w7_8, a7_9, w7_9, a7_10, w7_10, a7_11, w7_11, a7_12, w7_12, a7_13, w7_13, a7_14, w7_14, a7_15, w7_15, a7_16, w7_16, a7_17, w7_17, a7_18, w7_18, a7_19, w7_19, a7_20, w7_20, a7_21, w7_21, a7_22, w7_22, a7_23, w7_23, a7_24, w7_24, a7_25, w7_25, a7_26, w7_26, a7_27, w7_27, a7_28, w7_28, a7_29, w7_29, a7_30, w7_30, a7_31, w7_31, a7_32, w7_32, a7_33, w7_33, e_iconst, e_bipush, e_sipush, e_lconst_0, e_lconst_1, e_iload, e_iload_0, e_iload_1, e_iload_2, e_iload_3, e_lload, e_lload_0, e_lload_1, e_lload_2, e_lload_3, e_aload, e_aload_0, e_aload_1, e_aload_2, e_aload_3, e_istore, e_istore_0, e_istore_1, e_istore_2, e_istore_3, e_astore, e_astore_0, e_astore_1, e_astore_2, e_astore_3, e_lstore, e_lstore_0, e_lstore_1, e_lstore_2, e_lstore_3, e_iinc, e_iadd, e_isub, e_imul, e_ladd, e_lsub, e_lmul, e_idiv, e_irem, e_ldiv, e_lrem, e_ineg, e_lneg, e_iand, e_ior, e_ixor, e_ishl, e_ishr, e_iushr, e_lcmp, e_i2l, e_l2i, e_i2b, e_i2s, e_dup_i, e_dup_r, e_pop_i, e_pop_r, e_dup2_l, e_dup2_ir, e_dup2_ii, e_ifeq, e_ifne, e_iflt, e_ifge, e_ifgt, e_ifle, e_iceq, e_icne, e_iclt, e_icge, e_icgt, e_icle, e_goto, e_switch, e_invokevirtual, e_invokestatic, e_invokespecial, e_ret0, e_ret1, e_ret2, e_ret3, ldI_s, ldL_s, ldR_s, clO_s, ctP_s, ctS_s, mgo_0, mgo_s, pjc_s, pj_0, pj_s, lk_s, rm1_0, rm1_i, rm1_r, rm1_l, rm2_0, rm2_i, rm2_r, rm2_l, csL_s, lc_lt, lc_ge, lc_gt, lc_le, lc_eq, b01_0, b01_1, b01_01, b01_n, up2_o, up2_s, up2_u, ne_eq, reduceCtorEq, Nat.reduceAdd, Nat.reduceEqDiff, Nat.reduceLT, Nat.reduceLeDiff, Int.reduceLE, Int.reduceLT, Int.reduceAdd, Int.reduceNeg, Int.reduceMul, Int.reduceSub, Int.reduceEq, Int.reduceToNat, Int.reduceNatCast, Int.cast_ofNat_Int, ↓reduceIte, and_self, List.drop_succ_cons, List.drop_zero, List.take_succ_cons, List.take_zero, List.length_cons, List.length_nil, List.reverse_cons, List.reverse_nil, List.nil_append, List.cons_append, Option.toList, true_and, and_true, or_false, false_or, or_true, true_or, forall_const, Classical.not_not, not_false_eq_true, not_true_eq_false, false_implies, true_implies, implies_true, imp_self]
  exact ⟨by omega, by omega, hQ⟩
set_option maxHeartbeats 4000000 in
set_option maxRecDepth 100000 in
theorem m7_hasRead : MOK cl7 sh7 tyl7 [] 0 yX7_hasRead cX7_hasRead 2 (some .int) sp7_hasRead := by
  refine mok_of (own := RX7) (tb := tb7 (csL cs7_hasRead)) (rt := 1) (fuel := 400) (fun avs M Q => []) (by decide) rfl nil_nw (tbOK7 _) rfl (csL_all ?_) ?_ ?_ ?_
  · intro q hq; cases hq
  · intro avs M Q hsp
    obtain ⟨xs, hx⟩ := spF_un _ _ _ hsp
    obtain ⟨e, hl⟩ := unA_mkT hx
    obtain ⟨w, rfl⟩ := len1 hl
    have e : avs = [ar 0, ai w] := e
    subst e
    simp [szL, isL]
  · intro avs M Q hM hav hsp
    obtain ⟨xs, hx⟩ := spF_un _ _ _ hsp
    obtain ⟨e, hl⟩ := unA_mkT hx
    obtain ⟨w, rfl⟩ := len1 hl
    have e : avs = [ar 0, ai w] := e
    subst e
    exact in7_hasRead hM (hav (ai w) (by simp)) hsp.1 hsp.2
  · intro avs M Q hM hav hsp q hq m_ vs M1 hM1 hv hJ
    obtain ⟨xs, hx⟩ := spF_un _ _ _ hsp
    obtain ⟨e, hl⟩ := unA_mkT hx
    obtain ⟨w, rfl⟩ := len1 hl
    have e : avs = [ar 0, ai w] := e
    subst e
    cases hq
theorem cg7_hasRead {lvl : Nat} (h : 0 < lvl) : CG RX7 cl7 sh7 tyl7 [] lvl 1 198 2 sp7_hasRead := cg_V (sg := [0]) nil_nw spF_mono spF_un m7_hasRead h rfl (by decide) rfl rfl ⟨rfl, by decide, by decide, rfl⟩ q1767 q1769 qs75 q138 q1770
def P7_tells (w : Int) (n : Int) (M : Mm) : Prop := 0 ≤ w ∧ w < 8
def R7_tells (w : Int) (n : Int) (M : Mm) (M1 : Mm) : Prop := M1 = up2 M 7 (32 + w).toNat n
def sp7_tells : Spec := spV true [0, 0] (fun x M => P7_tells (x 0) (x 1) M) (fun x M M1 => R7_tells (x 0) (x 1) M M1)
theorem c7_tells {w n : Int} {M : Mm} {Q : Option AV → Mm → Prop} : sp7_tells [ar 0, ai w, ai n] M Q = (P7_tells w n M ∧ ∀ (M1 : Mm), R7_tells w n M M1 → Q none M1) := rfl
def cs7_tells : List (Nat × Nat × Nat × Spec) := []
set_option maxHeartbeats 4000000 in
set_option maxRecDepth 100000 in
theorem in7_tells {w n : Int} {M : Mm} {Q : Option AV → Mm → Prop} (hM : okM sh7 M) (h_w : i32 w) (h_n : i32 n) (hP : P7_tells w n M) (hQ : ∀ (M1 : Mm), R7_tells w n M M1 → Q none M1) : wp (tb7 (csL cs7_tells)) sh7 3 0 cX7_tells [] Q 400 0 [(0, ar 0), (1, ai w), (2, ai n)] [] M := by
  have h := hP
  unfold P7_tells at h
  simp only [e_wp dX7_tells_0 rfl, e_wp dX7_tells_1 rfl, e_wp dX7_tells_4 rfl, e_wp dX7_tells_6 rfl, e_wp dX7_tells_7 rfl, e_wp dX7_tells_8 rfl, e_wp dX7_tells_9 rfl, e_wp dX7_tells_10 rfl, g7_34, a7_1, w7_1, a7_2, w7_2, a7_3, w7_3, a7_4, w7_4, a7_5, w7_5, a7_6, w7_6, a7_7, w7_7, a7_8, w7_8, a7_9, w7_9, a7_10, w7_10, a7_11, w7_11, a7_12, w7_12, a7_13, w7_13, a7_14, w7_14, a7_15, w7_15, a7_16, w7_16, a7_17, w7_17, a7_18, w7_18, a7_19, w7_19, a7_20, w7_20, a7_21, w7_21, a7_22, w7_22, a7_23, w7_23, a7_24, w7_24, a7_25, w7_25, a7_26, w7_26, a7_27, w7_27, a7_28, w7_28, a7_29, w7_29, a7_30, w7_30, a7_31, w7_31, a7_32, w7_32, a7_33, w7_33, e_iconst, e_bipush, e_sipush, e_lconst_0, e_lconst_1, e_iload, e_iload_0, e_iload_1, e_iload_2, e_iload_3, e_lload, e_lload_0, e_lload_1, e_lload_2, e_lload_3, e_aload, e_aload_0, e_aload_1, e_aload_2, e_aload_3, e_istore, e_istore_0, e_istore_1, e_istore_2, e_istore_3, e_astore, e_astore_0, e_astore_1, e_astore_2, e_astore_3, e_lstore, e_lstore_0, e_lstore_1, e_lstore_2, e_lstore_3, e_iinc, e_iadd, e_isub, e_imul, e_ladd, e_lsub, e_lmul, e_idiv, e_irem, e_ldiv, e_lrem, e_ineg, e_lneg, e_iand, e_ior, e_ixor, e_ishl, e_ishr, e_iushr, e_lcmp, e_i2l, e_l2i, e_i2b, e_i2s, e_dup_i, e_dup_r, e_pop_i, e_pop_r, e_dup2_l, e_dup2_ir, e_dup2_ii, e_ifeq, e_ifne, e_iflt, e_ifge, e_ifgt, e_ifle, e_iceq, e_icne, e_iclt, e_icge, e_icgt, e_icle, e_goto, e_switch, e_invokevirtual, e_invokestatic, e_invokespecial, e_ret0, e_ret1, e_ret2, e_ret3, ldI_s, ldL_s, ldR_s, clO_s, ctP_s, ctS_s, mgo_0, mgo_s, pjc_s, pj_0, pj_s, lk_s, rm1_0, rm1_i, rm1_r, rm1_l, rm2_0, rm2_i, rm2_r, rm2_l, csL_s, lc_lt, lc_ge, lc_gt, lc_le, lc_eq, b01_0, b01_1, b01_01, b01_n, up2_o, up2_s, up2_u, ne_eq, reduceCtorEq, Nat.reduceAdd, Nat.reduceEqDiff, Nat.reduceLT, Nat.reduceLeDiff, Int.reduceLE, Int.reduceLT, Int.reduceAdd, Int.reduceNeg, Int.reduceMul, Int.reduceSub, Int.reduceEq, Int.reduceToNat, Int.reduceNatCast, Int.cast_ofNat_Int, ↓reduceIte, and_self, List.drop_succ_cons, List.drop_zero, List.take_succ_cons, List.take_zero, List.length_cons, List.length_nil, List.reverse_cons, List.reverse_nil, List.nil_append, List.cons_append, Option.toList, true_and, and_true, or_false, false_or, or_true, true_or, forall_const, Classical.not_not, not_false_eq_true, not_true_eq_false, false_implies, true_implies, implies_true, imp_self]
  exact ⟨by omega, by omega, hQ _ rfl⟩
set_option maxHeartbeats 4000000 in
set_option maxRecDepth 100000 in
theorem m7_tells : MOK cl7 sh7 tyl7 [] 0 yX7_tells cX7_tells 3 none sp7_tells := by
  refine mok_of (own := RX7) (tb := tb7 (csL cs7_tells)) (rt := 0) (fuel := 400) (fun avs M Q => []) (by decide) rfl nil_nw (tbOK7 _) rfl (csL_all ?_) ?_ ?_ ?_
  · intro q hq; cases hq
  · intro avs M Q hsp
    obtain ⟨xs, hx⟩ := spV_un _ _ _ hsp
    obtain ⟨e, hl⟩ := unA_mkT hx
    obtain ⟨w, n, rfl⟩ := len2 hl
    have e : avs = [ar 0, ai w, ai n] := e
    subst e
    simp [szL, isL]
  · intro avs M Q hM hav hsp
    obtain ⟨xs, hx⟩ := spV_un _ _ _ hsp
    obtain ⟨e, hl⟩ := unA_mkT hx
    obtain ⟨w, n, rfl⟩ := len2 hl
    have e : avs = [ar 0, ai w, ai n] := e
    subst e
    exact in7_tells hM (hav (ai w) (by simp)) (hav (ai n) (by simp)) hsp.1 hsp.2
  · intro avs M Q hM hav hsp q hq m_ vs M1 hM1 hv hJ
    obtain ⟨xs, hx⟩ := spV_un _ _ _ hsp
    obtain ⟨e, hl⟩ := unA_mkT hx
    obtain ⟨w, n, rfl⟩ := len2 hl
    have e : avs = [ar 0, ai w, ai n] := e
    subst e
    cases hq
theorem cg7_tells {lvl : Nat} (h : 0 < lvl) : CG RX7 cl7 sh7 tyl7 [] lvl 1 209 3 sp7_tells := cg_V (sg := [0, 0]) nil_nw spV_mono spV_un m7_tells h rfl (by decide) rfl rfl ⟨rfl, by decide, by decide, rfl⟩ q1705 q1707 qs62 q138 q1708
def P7_bridgeHere (M : Mm) : Prop := lexP M ∧ M 7 35 ≤ 3 ∧ 0 ≤ M 7 35
def R7_bridgeHere (M : Mm) (v : Int) (M1 : Mm) : Prop := lexK M M1 ∧ ∀ x, psR M x → psR M1 (numS (TM M) (tpN M) 0 (M 7 35 - 1) x).2 ∧ v = (numS (TM M) (tpN M) 0 (M 7 35 - 1) x).1
def sp7_bridgeHere : Spec := spR true [] 1 (fun x M => P7_bridgeHere M) (fun x M v M1 => R7_bridgeHere M v M1)
theorem c7_bridgeHere {M : Mm} {Q : Option AV → Mm → Prop} : sp7_bridgeHere [ar 0] M Q = (P7_bridgeHere M ∧ ∀ (v : Int) (M1 : Mm), R7_bridgeHere M v M1 → Q (some (ai v)) M1) := rfl
def cs7_bridgeHere : List (Nat × Nat × Nat × Spec) := [(198, 1, 2, sp7_hasRead), (191, 1, 3, sp7_number_2)]
set_option maxHeartbeats 4000000 in
set_option maxRecDepth 100000 in
theorem in7_bridgeHere {M : Mm} {Q : Option AV → Mm → Prop} (hM : okM sh7 M) (hP : P7_bridgeHere M) (hQ : ∀ (v : Int) (M1 : Mm), R7_bridgeHere M v M1 → Q (some (ai v)) M1) : wp (tb7 (csL cs7_bridgeHere)) sh7 1 1 cX7_bridgeHere [] Q 400 0 [(0, ar 0)] [] M := by
  obtain ⟨h1, h2, h3⟩ := id hP
  simp only [e_wp dX7_bridgeHere_0 rfl, e_wp dX7_bridgeHere_1 rfl, e_wp dX7_bridgeHere_2 rfl, e_wp dX7_bridgeHere_3 rfl, e_wp dX7_bridgeHere_4 rfl, e_wp dX7_bridgeHere_7 rfl, e_wp dX7_bridgeHere_8 rfl, e_wp dX7_bridgeHere_9 rfl, e_wp dX7_bridgeHere_12 rfl, c7_hasRead, P7_hasRead, V7_hasRead, cs7_bridgeHere, c7_number_2, e_iconst, e_bipush, e_sipush, e_lconst_0, e_lconst_1, e_iload, e_iload_0, e_iload_1, e_iload_2, e_iload_3, e_lload, e_lload_0, e_lload_1, e_lload_2, e_lload_3, e_aload, e_aload_0, e_aload_1, e_aload_2, e_aload_3, e_istore, e_istore_0, e_istore_1, e_istore_2, e_istore_3, e_astore, e_astore_0, e_astore_1, e_astore_2, e_astore_3, e_lstore, e_lstore_0, e_lstore_1, e_lstore_2, e_lstore_3, e_iinc, e_iadd, e_isub, e_imul, e_ladd, e_lsub, e_lmul, e_idiv, e_irem, e_ldiv, e_lrem, e_ineg, e_lneg, e_iand, e_ior, e_ixor, e_ishl, e_ishr, e_iushr, e_lcmp, e_i2l, e_l2i, e_i2b, e_i2s, e_dup_i, e_dup_r, e_pop_i, e_pop_r, e_dup2_l, e_dup2_ir, e_dup2_ii, e_ifeq, e_ifne, e_iflt, e_ifge, e_ifgt, e_ifle, e_iceq, e_icne, e_iclt, e_icge, e_icgt, e_icle, e_goto, e_switch, e_invokevirtual, e_invokestatic, e_invokespecial, e_ret0, e_ret1, e_ret2, e_ret3, ldI_s, ldL_s, ldR_s, clO_s, ctP_s, ctS_s, mgo_0, mgo_s, pjc_s, pj_0, pj_s, lk_s, rm1_0, rm1_i, rm1_r, rm1_l, rm2_0, rm2_i, rm2_r, rm2_l, csL_s, lc_lt, lc_ge, lc_gt, lc_le, lc_eq, b01_0, b01_1, b01_01, b01_n, up2_o, up2_s, up2_u, ne_eq, reduceCtorEq, Nat.reduceAdd, Nat.reduceEqDiff, Nat.reduceLT, Nat.reduceLeDiff, Int.reduceLE, Int.reduceLT, Int.reduceAdd, Int.reduceNeg, Int.reduceMul, Int.reduceSub, Int.reduceEq, Int.reduceToNat, Int.reduceNatCast, Int.cast_ofNat_Int, ↓reduceIte, and_self, List.drop_succ_cons, List.drop_zero, List.take_succ_cons, List.take_zero, List.length_cons, List.length_nil, List.reverse_cons, List.reverse_nil, List.nil_append, List.cons_append, Option.toList, true_and, and_true, or_false, false_or, or_true, true_or, forall_const, Classical.not_not, not_false_eq_true, not_true_eq_false, false_implies, true_implies, implies_true, imp_self]
  exact ⟨by omega, ⟨h1, by omega⟩, fun v M1 hR => hQ _ _ hR⟩
set_option maxHeartbeats 4000000 in
set_option maxRecDepth 100000 in
theorem m7_bridgeHere : MOK cl7 sh7 tyl7 [] 3 yX7_bridgeHere cX7_bridgeHere 1 (some .int) sp7_bridgeHere := by
  refine mok_of (own := RX7) (tb := tb7 (csL cs7_bridgeHere)) (rt := 1) (fuel := 400) (fun avs M Q => []) (by decide) rfl nil_nw (tbOK7 _) rfl (csL_all ?_) ?_ ?_ ?_
  · intro q hq
    simp only [cs7_bridgeHere, List.mem_cons, List.not_mem_nil, or_false] at hq
    rcases hq with rfl | rfl
    · exact cg7_hasRead (by decide)
    · exact cg7_number_2 (by decide)
  · intro avs M Q hsp
    obtain ⟨xs, hx⟩ := spR_un _ _ _ hsp
    obtain ⟨e, hl⟩ := unA_mkT hx
    obtain rfl := len0 hl
    have e : avs = [ar 0] := e
    subst e
    simp [szL, isL]
  · intro avs M Q hM hav hsp
    obtain ⟨xs, hx⟩ := spR_un _ _ _ hsp
    obtain ⟨e, hl⟩ := unA_mkT hx
    obtain rfl := len0 hl
    have e : avs = [ar 0] := e
    subst e
    exact in7_bridgeHere hM hsp.1 hsp.2
  · intro avs M Q hM hav hsp q hq m_ vs M1 hM1 hv hJ
    obtain ⟨xs, hx⟩ := spR_un _ _ _ hsp
    obtain ⟨e, hl⟩ := unA_mkT hx
    obtain rfl := len0 hl
    have e : avs = [ar 0] := e
    subst e
    cases hq
theorem cg7_bridgeHere {lvl : Nat} (h : 3 < lvl) : CG RX7 cl7 sh7 tyl7 [] lvl 1 215 1 sp7_bridgeHere := cg_V (sg := []) nil_nw spR_mono spR_un m7_bridgeHere h rfl (by decide) rfl rfl ⟨rfl, by decide, by decide, rfl⟩ q1783 q1785 qs78 q138 q1786
