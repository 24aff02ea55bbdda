/-! SagMemoryModel: a valley is read -/
def P7_clears (M : Mm) : Prop := True
def R7_clears (M : Mm) (M1 : Mm) : Prop := keepR M M1 ∧ vS 4 M1 = (fun _ _ => 0) ∧ M1 0 = M 0
def sp7_clears : Spec := spV true [] (fun x M => P7_clears M) (fun x M M1 => R7_clears M M1)
theorem c7_clears {M : Mm} {Q : Option AV → Mm → Prop} : sp7_clears [ar 0] M Q = (P7_clears M ∧ ∀ (M1 : Mm), R7_clears M M1 → Q none M1) := rfl
def cs7_clears : List (Nat × Nat × Nat × Spec) := [(209, 1, 3, sp7_tells)]
def J7_clears_9 (M : Mm) (m : Nat) (k : Int) (M1 : Mm) : Prop := ∃ a : Nat, k = a ∧ a ≤ 8 ∧ keepR M M1 ∧ M1 0 = M 0 ∧ M1 6 4 = 0 ∧ (∀ j, j < a → M1 7 (32 + j) = 0) ∧ m = 8 - a
set_option maxHeartbeats 4000000 in
set_option maxRecDepth 100000 in
theorem in7_clears {M : Mm} {Q : Option AV → Mm → Prop} (hM : okM sh7 M) (hP : P7_clears M) (hQ : ∀ (M1 : Mm), R7_clears M M1 → Q none M1) (I_9 : List AV → Mm → Prop) (hI_9 : ∀ (m_ : Nat) (y_k : Int) (M2 : Mm), J7_clears_9 M m_ y_k M2 → I_9 [ar 0, ai y_k] M2) : wp (tb7 (csL cs7_clears)) sh7 2 0 cX7_clears [(9, [0, 1], I_9)] Q 400 0 [(0, ar 0)] [] M := by
  simp only [e_wp dX7_clears_0 rfl, e_wp dX7_clears_1 rfl, e_wp dX7_clears_4 rfl, e_wp dX7_clears_5 rfl, e_wp dX7_clears_6 rfl, e_wp dX7_clears_7 rfl, e_wp dX7_clears_8 rfl, e_wp dX7_clears_9 rfl, e_wp dX7_clears_10 rfl, e_wp dX7_clears_12 rfl, e_wp dX7_clears_15 rfl, e_wp dX7_clears_16 rfl, e_wp dX7_clears_17 rfl, e_wp dX7_clears_18 rfl, e_wp dX7_clears_21 rfl, e_wp dX7_clears_24 rfl, e_wp dX7_clears_27 rfl, g7_31, c7_tells, cs7_clears, a7_1, w7_1, a7_2, w7_2, a7_3, w7_3, a7_4, w7_4, a7_5, w7_5, a7_6, w7_6, a7_7, w7_7, a7_8, w7_8, a7_9, w7_9, a7_10, w7_10, a7_11, w7_11, a7_12, w7_12, a7_13, w7_13, a7_14, w7_14, a7_15, w7_15, a7_16, w7_16, a7_17, w7_17, a7_18, w7_18, a7_19, w7_19, a7_20, w7_20, a7_21, w7_21, a7_22, w7_22, a7_23, w7_23, a7_24, w7_24, a7_25, w7_25, a7_26, w7_26, a7_27, w7_27, a7_28, w7_28, a7_29, w7_29, a7_30, w7_30, a7_31, w7_31, a7_32, w7_32, a7_33, w7_33, e_iconst, e_bipush, e_sipush, e_lconst_0, e_lconst_1, e_iload, e_iload_0, e_iload_1, e_iload_2, e_iload_3, e_lload, e_lload_0, e_lload_1, e_lload_2, e_lload_3, e_aload, e_aload_0, e_aload_1, e_aload_2, e_aload_3, e_istore, e_istore_0, e_istore_1, e_istore_2, e_istore_3, e_astore, e_astore_0, e_astore_1, e_astore_2, e_astore_3, e_lstore, e_lstore_0, e_lstore_1, e_lstore_2, e_lstore_3, e_iinc, e_iadd, e_isub, e_imul, e_ladd, e_lsub, e_lmul, e_idiv, e_irem, e_ldiv, e_lrem, e_ineg, e_lneg, e_iand, e_ior, e_ixor, e_ishl, e_ishr, e_iushr, e_lcmp, e_i2l, e_l2i, e_i2b, e_i2s, e_dup_i, e_dup_r, e_pop_i, e_pop_r, e_dup2_l, e_dup2_ir, e_dup2_ii, e_ifeq, e_ifne, e_iflt, e_ifge, e_ifgt, e_ifle, e_iceq, e_icne, e_iclt, e_icge, e_icgt, e_icle, e_goto, e_switch, e_invokevirtual, e_invokestatic, e_invokespecial, e_ret0, e_ret1, e_ret2, e_ret3, ldI_s, ldL_s, ldR_s, clO_s, ctP_s, ctS_s, mgo_0, mgo_s, pjc_s, pj_0, pj_s, lk_s, rm1_0, rm1_i, rm1_r, rm1_l, rm2_0, rm2_i, rm2_r, rm2_l, csL_s, lc_lt, lc_ge, lc_gt, lc_le, lc_eq, b01_0, b01_1, b01_01, b01_n, up2_o, up2_s, up2_u, ne_eq, reduceCtorEq, Nat.reduceAdd, Nat.reduceEqDiff, Nat.reduceLT, Nat.reduceLeDiff, Int.reduceLE, Int.reduceLT, Int.reduceAdd, Int.reduceNeg, Int.reduceMul, Int.reduceSub, Int.reduceEq, Int.reduceToNat, Int.reduceNatCast, Int.cast_ofNat_Int, ↓reduceIte, and_self, List.drop_succ_cons, List.drop_zero, List.take_succ_cons, List.take_zero, List.length_cons, List.length_nil, List.reverse_cons, List.reverse_nil, List.nil_append, List.cons_append, Option.toList, true_and, and_true, or_false, false_or, or_true, true_or, forall_const, Classical.not_not, not_false_eq_true, not_true_eq_false, false_implies, true_implies, implies_true, imp_self]
  exact hI_9 8 _ _ ⟨0, rfl, by omega, keepR_u (m := 1) keepR_rf (by decide) (by decide), up2_ne (by decide), up2_s, fun j hj => by omega, rfl⟩
set_option maxHeartbeats 4000000 in
set_option maxRecDepth 100000 in
theorem at7_clears_9 {M : Mm} {Q : Option AV → Mm → Prop} (hM : okM sh7 M) (hP : P7_clears M) (hQ : ∀ (M1 : Mm), R7_clears M M1 → Q none M1) {m : Nat} {k : Int} {M1 : Mm} (hM1 : okM sh7 M1) (h_k : i32 k) (hJ : J7_clears_9 M m k M1) (I_9 : List AV → Mm → Prop) (hI_9 : ∀ (m_ : Nat) (y_k : Int) (M2 : Mm), m_ < m → J7_clears_9 M m_ y_k M2 → I_9 [ar 0, ai y_k] M2) : wp (tb7 (csL cs7_clears)) sh7 2 0 cX7_clears [(9, [0, 1], I_9)] Q 400 9 [(0, ar 0), (1, ai k)] [] M1 := by
  obtain ⟨a, rfl, ha, hk, h0, hl, hh, rfl⟩ := hJ
  simp only [e_wp dX7_clears_0 rfl, e_wp dX7_clears_1 rfl, e_wp dX7_clears_4 rfl, e_wp dX7_clears_5 rfl, e_wp dX7_clears_6 rfl, e_wp dX7_clears_7 rfl, e_wp dX7_clears_8 rfl, e_wp dX7_clears_9 rfl, e_wp dX7_clears_10 rfl, e_wp dX7_clears_12 rfl, e_wp dX7_clears_15 rfl, e_wp dX7_clears_16 rfl, e_wp dX7_clears_17 rfl, e_wp dX7_clears_18 rfl, e_wp dX7_clears_21 rfl, e_wp dX7_clears_24 rfl, e_wp dX7_clears_27 rfl, g7_31, c7_tells, cs7_clears, a7_1, w7_1, a7_2, w7_2, a7_3, w7_3, a7_4, w7_4, a7_5, w7_5, a7_6, w7_6, a7_7, w7_7, a7_8, w7_8, a7_9, w7_9, a7_10, w7_10, a7_11, w7_11, a7_12, w7_12, a7_13, w7_13, a7_14, w7_14, a7_15, w7_15, a7_16, w7_16, a7_17, w7_17, a7_18, w7_18, a7_19, w7_19, a7_20, w7_20, a7_21, w7_21, a7_22, w7_22, a7_23, w7_23, a7_24, w7_24, a7_25, w7_25, a7_26, w7_26, a7_27, w7_27, a7_28, w7_28, a7_29, w7_29, a7_30, w7_30, a7_31, w7_31, a7_32, w7_32, a7_33, w7_33, e_iconst, e_bipush, e_sipush, e_lconst_0, e_lconst_1, e_iload, e_iload_0, e_iload_1, e_iload_2, e_iload_3, e_lload, e_lload_0, e_lload_1, e_lload_2, e_lload_3, e_aload, e_aload_0, e_aload_1, e_aload_2, e_aload_3, e_istore, e_istore_0, e_istore_1, e_istore_2, e_istore_3, e_astore, e_astore_0, e_astore_1, e_astore_2, e_astore_3, e_lstore, e_lstore_0, e_lstore_1, e_lstore_2, e_lstore_3, e_iinc, e_iadd, e_isub, e_imul, e_ladd, e_lsub, e_lmul, e_idiv, e_irem, e_ldiv, e_lrem, e_ineg, e_lneg, e_iand, e_ior, e_ixor, e_ishl, e_ishr, e_iushr, e_lcmp, e_i2l, e_l2i, e_i2b, e_i2s, e_dup_i, e_dup_r, e_pop_i, e_pop_r, e_dup2_l, e_dup2_ir, e_dup2_ii, e_ifeq, e_ifne, e_iflt, e_ifge, e_ifgt, e_ifle, e_iceq, e_icne, e_iclt, e_icge, e_icgt, e_icle, e_goto, e_switch, e_invokevirtual, e_invokestatic, e_invokespecial, e_ret0, e_ret1, e_ret2, e_ret3, ldI_s, ldL_s, ldR_s, clO_s, ctP_s, ctS_s, mgo_0, mgo_s, pjc_s, pj_0, pj_s, lk_s, rm1_0, rm1_i, rm1_r, rm1_l, rm2_0, rm2_i, rm2_r, rm2_l, csL_s, lc_lt, lc_ge, lc_gt, lc_le, lc_eq, b01_0, b01_1, b01_01, b01_n, up2_o, up2_s, up2_u, ne_eq, reduceCtorEq, Nat.reduceAdd, Nat.reduceEqDiff, Nat.reduceLT, Nat.reduceLeDiff, Int.reduceLE, Int.reduceLT, Int.reduceAdd, Int.reduceNeg, Int.reduceMul, Int.reduceSub, Int.reduceEq, Int.reduceToNat, Int.reduceNatCast, Int.cast_ofNat_Int, ↓reduceIte, and_self, List.drop_succ_cons, List.drop_zero, List.take_succ_cons, List.take_zero, List.length_cons, List.length_nil, List.reverse_cons, List.reverse_nil, List.nil_append, List.cons_append, Option.toList, true_and, and_true, or_false, false_or, or_true, true_or, forall_const, Classical.not_not, not_false_eq_true, not_true_eq_false, false_implies, true_implies, implies_true, imp_self]
  refine ⟨fun q => hQ _ ⟨hk, ?_, h0⟩, fun q => ⟨⟨by omega, by omega⟩, fun M2 R2 => ⟨by omega, ?_⟩⟩⟩
  · have ea : a = 8 := by omega
    subst ea
    have g : ∀ c, c < 8 → M1 7 (8 * 4 + c) = 0 := fun c hc => hh c hc
    refine funext fun i => funext fun j => ?_
    have key : ∀ i, ∀ j, vS 4 M1 i j = 0 := by
      refine vS_cases ?_ ?_ ?_ ?_ ?_ ?_ ?_ ?_ ?_ ?_ ?_ ?_ ?_ <;> intro j
      · rw [vS_r0]
        by_cases z : j < 8
        · rw [if_pos z, g j z]
        · rw [if_neg z, hl]; split <;> rfl
      · rw [vS_r1, g 3 (by decide), if_neg (by omega)]
      · rw [vS_r2, g 3 (by decide), if_neg (by omega)]
      · rw [vS_r3, g 4 (by decide), if_neg (by omega)]
      · rw [vS_r4, g 4 (by decide), if_neg (by omega)]
      · rw [vS_r5, g 5 (by decide), if_neg (by omega)]
      · rw [vS_r6, g 5 (by decide), if_neg (by omega)]
      · rw [vS_r7, g 5 (by decide), if_neg (by omega)]
      · rw [vS_r8, g 6 (by decide)]
        split <;> rfl
      · rw [vS_r9, g 7 (by decide), if_neg (by omega)]
      · rw [vS_r10, g 7 (by decide), if_neg (by omega)]
      · rw [vS_r11, g 7 (by decide), if_neg (by omega)]
      · intro k; exact vS_hi M1 4 j k
    exact key i j
  · have R2 : M2 = up2 M1 7 (32 + (a : Int)).toNat 0 := R2
    have i1 : (32 + (a : Int)).toNat = 32 + a := by omega
    rw [i1] at R2
    subst R2
    refine hI_9 (8 - (a + 1)) _ _ (by omega) ⟨a + 1, by omega, by omega, keepR_u (m := 8) hk (by decide) (by omega), ?_, ?_, fun j hj => ?_, rfl⟩
    · rw [up2_ne (by decide)]; exact h0
    · rw [up2_o (by decide)]; exact hl
    · by_cases e : j = a
      · rw [e, up2_s]
      · rw [up2_n (by omega)]; exact hh j (by omega)
set_option maxHeartbeats 4000000 in
set_option maxRecDepth 100000 in
theorem m7_clears : MOK cl7 sh7 tyl7 [] 1 yX7_clears cX7_clears 2 none sp7_clears := by
  refine mok_of (own := RX7) (tb := tb7 (csL cs7_clears)) (rt := 0) (fuel := 400) (fun avs M Q => [(9, [0, 1], fun m_ vs M1 => ∃ y_k : Int, vs = [ar 0, ai y_k] ∧ J7_clears_9 M m_ y_k M1)]) (by decide) rfl nil_nw (tbOK7 _) rfl (csL_all ?_) ?_ ?_ ?_
  · intro q hq
    simp only [cs7_clears, List.mem_cons, List.not_mem_nil, or_false] at hq
    rcases hq with rfl
    · exact cg7_tells (by decide)
  · intro avs M Q hsp
    obtain ⟨xs, hx⟩ := spV_un _ _ _ hsp
    obtain ⟨e, hl⟩ := unA_mkT hx
    obtain rfl := len0 hl
    have e : avs = [ar 0] := e
    subst e
    simp [szL, isL]
  · intro avs M Q hM hav hsp
    obtain ⟨xs, hx⟩ := spV_un _ _ _ hsp
    obtain ⟨e, hl⟩ := unA_mkT hx
    obtain rfl := len0 hl
    have e : avs = [ar 0] := e
    subst e
    exact in7_clears hM hsp.1 hsp.2 _ (fun m_ y_k M2 hJ => ⟨m_, y_k, rfl, hJ⟩)
  · intro avs M Q hM hav hsp q hq m_ vs M1 hM1 hv hJ
    obtain ⟨xs, hx⟩ := spV_un _ _ _ hsp
    obtain ⟨e, hl⟩ := unA_mkT hx
    obtain rfl := len0 hl
    have e : avs = [ar 0] := e
    subst e
    simp only [List.mem_cons, List.not_mem_nil, or_false] at hq
    rcases hq with rfl
    · obtain ⟨y_k, rfl, hJ⟩ := hJ
      exact at7_clears_9 hM hsp.1 hsp.2 hM1 (hv (1, ai y_k) (List.mem_of_getElem? (i := 1) rfl)) hJ _ (fun m2 z_k M2 hm hJ2 => ⟨m2, hm, z_k, rfl, hJ2⟩)
theorem cg7_clears {lvl : Nat} (h : 1 < lvl) : CG RX7 cl7 sh7 tyl7 [] lvl 1 251 1 sp7_clears := cg_V (sg := []) nil_nw spV_mono spV_un m7_clears h rfl (by decide) rfl rfl ⟨rfl, by decide, by decide, rfl⟩ q1701 q1703 qs61 q138 q1704
def A_valley (T : Nat → Int) (n : Nat) : Int := match (readA T n).2 with
  | .inl _ => -4
  | .inr _ => (readA T n).1 0 8
def F_valley (T : Nat → Int) (n : Nat) : Int × Int := match (readA T n).2 with
  | .inl e => e
  | .inr _ => (0, -1)
def N_valley (V : Vy) (T : Nat → Int) (n : Nat) : Vy := match (readA T n).2 with
  | .inl _ => V
  | .inr _ => (readA T n).1
theorem low_v {M M1 : Mm} {s : Nat} (h : lowK M M1) (hs : s ≤ 3) (hY : okY (vS s M)) : vS s M1 = vS s M := vS_gen hY fun q hq j hj => h q hq _ (by
  have : q.2 * s ≤ q.2 * 3 := Nat.mul_le_mul_left _ hs
  omega)
theorem vS_line {M : Mm} {x : Int} : vS 4 (up2 M 6 4 x) = up2 (vS 4 M) 0 8 x := by
  refine funext fun i => funext fun j => ?_
  by_cases e : i = 0
  · subst e
    show (if j < 8 then M 7 (8 * 4 + j) else if j = 8 then up2 M 6 4 x 6 4 else 0) = if 0 = 0 ∧ j = 8 then x else vS 4 M 0 j
    rw [up2_s, vS_r0 4 M j]
    by_cases z : j < 8
    · rw [if_pos z, if_neg (by omega), if_pos z]
    · rw [if_neg z]
      by_cases w : j = 8
      · rw [if_pos w, if_pos ⟨rfl, w⟩]
      · rw [if_neg w, if_neg (fun y => w y.2), if_neg z, if_neg w]
  · rw [up2_o e]
    have hh : ∀ k, ¬ k = 6 → (up2 M 6 4 x) k = M k := fun k hk => up2_ne hk
    have key : ∀ i, ¬ i = 0 → ∀ j, vS 4 (up2 M 6 4 x) i j = vS 4 M i j := by
      refine vS_cases ?_ ?_ ?_ ?_ ?_ ?_ ?_ ?_ ?_ ?_ ?_ ?_ ?_
      · intro h; exact absurd rfl h
      · intro _ j; rw [vS_r1, vS_r1, hh _ (by decide), hh _ (by decide)]
      · intro _ j; rw [vS_r2, vS_r2, hh _ (by decide), hh _ (by decide)]
      · intro _ j; rw [vS_r3, vS_r3, hh _ (by decide), hh _ (by decide)]
      · intro _ j; rw [vS_r4, vS_r4, hh _ (by decide), hh _ (by decide)]
      · intro _ j; rw [vS_r5, vS_r5, hh _ (by decide), hh _ (by decide)]
      · intro _ j; rw [vS_r6, vS_r6, hh _ (by decide), hh _ (by decide)]
      · intro _ j; rw [vS_r7, vS_r7, hh _ (by decide), hh _ (by decide)]
      · intro _ j; rw [vS_r8, vS_r8, hh _ (by decide), hh _ (by decide)]
      · intro _ j; rw [vS_r9, vS_r9, hh _ (by decide), hh _ (by decide)]
      · intro _ j; rw [vS_r10, vS_r10, hh _ (by decide), hh _ (by decide)]
      · intro _ j; rw [vS_r11, vS_r11, hh _ (by decide), hh _ (by decide)]
      · intro k _ j; rw [vS_hi, vS_hi]
    exact key i e j
theorem vS_has {M : Mm} {c : Nat} {x : Int} (hc : c < 3) : vS 4 (up2 M 7 (32 + c) x) = up2 (vS 4 M) 0 c x := by
  have g : ∀ j, ¬ j = c → (up2 M 7 (32 + c) x) 7 (8 * 4 + j) = M 7 (8 * 4 + j) := fun j hj => up2_n (by omega)
  have hh : ∀ k, ¬ k = 7 → (up2 M 7 (32 + c) x) k = M k := fun k hk => up2_ne hk
  refine funext fun i => funext fun j => ?_
  have key : ∀ i, ∀ j, vS 4 (up2 M 7 (32 + c) x) i j = up2 (vS 4 M) 0 c x i j := by
    refine vS_cases ?_ ?_ ?_ ?_ ?_ ?_ ?_ ?_ ?_ ?_ ?_ ?_ ?_
    · intro j
      by_cases e : j = c
      · rw [e, up2_s, vS_r0, if_pos (by omega)]
        exact up2_s
      · rw [up2_n e, vS_r0, vS_r0, g j e, hh _ (by decide)]
    · intro j; rw [up2_o (by decide), vS_r1, vS_r1, g 3 (by omega), hh _ (by decide)]
    · intro j; rw [up2_o (by decide), vS_r2, vS_r2, g 3 (by omega), hh _ (by decide)]
    · intro j; rw [up2_o (by decide), vS_r3, vS_r3, g 4 (by omega), hh _ (by decide)]
    · intro j; rw [up2_o (by decide), vS_r4, vS_r4, g 4 (by omega), hh _ (by decide)]
    · intro j; rw [up2_o (by decide), vS_r5, vS_r5, g 5 (by omega), hh _ (by decide)]
    · intro j; rw [up2_o (by decide), vS_r6, vS_r6, g 5 (by omega), hh _ (by decide)]
    · intro j; rw [up2_o (by decide), vS_r7, vS_r7, g 5 (by omega), hh _ (by decide)]
    · intro j; rw [up2_o (by decide), vS_r8, vS_r8, g 6 (by omega), hh _ (by decide)]
    · intro j; rw [up2_o (by decide), vS_r9, vS_r9, g 7 (by omega), hh _ (by decide)]
    · intro j; rw [up2_o (by decide), vS_r10, vS_r10, g 7 (by omega), hh _ (by decide)]
    · intro j; rw [up2_o (by decide), vS_r11, vS_r11, g 7 (by omega), hh _ (by decide)]
    · intro k j; rw [up2_o (by omega), vS_hi, vS_hi]
  exact key i j
/-- what a valley's reading leaves alone -/
def keepG (M M1 : Mm) : Prop := (∀ k, k ∈ [1, 2, 3, 5, 13] → M1 k = M k) ∧ ∀ s, 1 ≤ s → s ≤ 3 → vS s M1 = vS s M
def P7_valley (M : Mm) : Prop := tpI M ∧ ∀ s, s ≤ 3 → okY (vS s M)
def R7_valley (M : Mm) (v : Int) (M1 : Mm) : Prop := keepG M M1 ∧ v = A_valley (TM M) (tpN M) ∧ vM M1 = N_valley (vM M) (TM M) (tpN M) ∧ M1 0 6 = 0 ∧ M1 0 14 = (F_valley (TM M) (tpN M)).1 ∧ M1 0 15 = (F_valley (TM M) (tpN M)).2
def sp7_valley : Spec := spR true [] 1 (fun x M => P7_valley M) (fun x M v M1 => R7_valley M v M1)
theorem c7_valley {M : Mm} {Q : Option AV → Mm → Prop} : sp7_valley [ar 0] M Q = (P7_valley M ∧ ∀ (v : Int) (M1 : Mm), R7_valley M v M1 → Q (some (ai v)) M1) := rfl
def cs7_valley : List (Nat × Nat × Nat × Spec) := [(251, 1, 1, sp7_clears), (254, 1, 1, sp7_begins), (257, 1, 1, sp7_isGood), (187, 1, 2, sp7_asks), (204, 1, 4, sp7_number), (209, 1, 3, sp7_tells), (267, 1, 1, sp7_lineHere), (270, 1, 1, sp7_ends), (273, 1, 1, sp7_isOver), (276, 1, 3, sp7_copyValley)]
def J7_valley_13 (M : Mm) (m : Nat) (M1 : Mm) : Prop := keepR (up2 M 0 0 0) M1 ∧ ∃ (k : Nat) (x : Ps), psR M1 x ∧ rdI (tpN M) (vS 4 M1) x ∧ readS (TM M) (tpN M) k (vS 4 M1) x = readA (TM M) (tpN M) ∧ (∀ p, x = .inr p → tpN M + 1 ≤ k + p) ∧ m = 2 * k + 1
def J7_valley_94 (M : Mm) (m : Nat) (M1 : Mm) : Prop := keepR (up2 M 0 0 0) M1 ∧ ∃ (k p : Nat) (V : Vy), psR M1 (bodyS (TM M) (tpN M) V (.inr p)).2 ∧ vS 4 M1 = (bodyS (TM M) (tpN M) V (.inr p)).1 ∧ rdI (tpN M) V (.inr p) ∧ readS (TM M) (tpN M) k (lineE (TM M) (tpN M) V (.inr p)).1 (lineE (TM M) (tpN M) V (.inr p)).2 = readA (TM M) (tpN M) ∧ tpN M + 1 ≤ k + 1 + p ∧ m = 2 * k + 2
set_option maxHeartbeats 4000000 in
set_option maxRecDepth 100000 in
theorem in7_valley {M : Mm} {Q : Option AV → Mm → Prop} (hM : okM sh7 M) (hP : P7_valley M) (hQ : ∀ (v : Int) (M1 : Mm), R7_valley M v M1 → Q (some (ai v)) M1) (I_13 : List AV → Mm → Prop) (hI_13 : ∀ (m_ : Nat) (M2 : Mm), J7_valley_13 M m_ M2 → I_13 [ar 0] M2) (I_94 : List AV → Mm → Prop) (hI_94 : ∀ (m_ : Nat) (M2 : Mm), J7_valley_94 M m_ M2 → I_94 [ar 0] M2) : wp (tb7 (csL cs7_valley)) sh7 1 1 cX7_valley [(13, [0], I_13), (94, [0], I_94)] Q 400 0 [(0, ar 0)] [] M := by
  obtain ⟨h1, h2⟩ := id hP
  simp only [e_wp dX7_valley_0 rfl, e_wp dX7_valley_1 rfl, e_wp dX7_valley_2 rfl, e_wp dX7_valley_5 rfl, e_wp dX7_valley_6 rfl, e_wp dX7_valley_9 rfl, e_wp dX7_valley_10 rfl, e_wp dX7_valley_13 rfl, e_wp dX7_valley_14 rfl, e_wp dX7_valley_17 rfl, e_wp dX7_valley_20 rfl, e_wp dX7_valley_21 rfl, e_wp dX7_valley_24 rfl, e_wp dX7_valley_27 rfl, e_wp dX7_valley_28 rfl, e_wp dX7_valley_31 rfl, e_wp dX7_valley_32 rfl, e_wp dX7_valley_33 rfl, e_wp dX7_valley_36 rfl, e_wp dX7_valley_37 rfl, e_wp dX7_valley_40 rfl, e_wp dX7_valley_43 rfl, e_wp dX7_valley_44 rfl, e_wp dX7_valley_45 rfl, e_wp dX7_valley_46 rfl, e_wp dX7_valley_49 rfl, e_wp dX7_valley_50 rfl, e_wp dX7_valley_51 rfl, e_wp dX7_valley_54 rfl, e_wp dX7_valley_57 rfl, e_wp dX7_valley_58 rfl, e_wp dX7_valley_59 rfl, e_wp dX7_valley_60 rfl, e_wp dX7_valley_63 rfl, e_wp dX7_valley_64 rfl, e_wp dX7_valley_66 rfl, e_wp dX7_valley_69 rfl, e_wp dX7_valley_72 rfl, e_wp dX7_valley_73 rfl, e_wp dX7_valley_74 rfl, e_wp dX7_valley_75 rfl, e_wp dX7_valley_78 rfl, e_wp dX7_valley_79 rfl, e_wp dX7_valley_81 rfl, e_wp dX7_valley_84 rfl, e_wp dX7_valley_87 rfl, e_wp dX7_valley_90 rfl, e_wp dX7_valley_91 rfl, e_wp dX7_valley_94 rfl, e_wp dX7_valley_95 rfl, e_wp dX7_valley_98 rfl, e_wp dX7_valley_101 rfl, e_wp dX7_valley_102 rfl, e_wp dX7_valley_105 rfl, e_wp dX7_valley_106 rfl, e_wp dX7_valley_109 rfl, e_wp dX7_valley_110 rfl, e_wp dX7_valley_111 rfl, e_wp dX7_valley_112 rfl, e_wp dX7_valley_113 rfl, e_wp dX7_valley_114 rfl, e_wp dX7_valley_115 rfl, e_wp dX7_valley_118 rfl, e_wp dX7_valley_119 rfl, e_wp dX7_valley_122 rfl, e_wp dX7_valley_123 rfl, e_wp dX7_valley_126 rfl, e_wp dX7_valley_129 rfl, e_wp dX7_valley_131 rfl, e_wp dX7_valley_132 rfl, e_wp dX7_valley_133 rfl, e_wp dX7_valley_134 rfl, e_wp dX7_valley_135 rfl, e_wp dX7_valley_138 rfl, e_wp dX7_valley_139 rfl, e_wp dX7_valley_142 rfl, e_wp dX7_valley_143 rfl, e_wp dX7_valley_144 rfl, p7_116, c7_clears, cs7_valley, c7_begins, c7_isGood, P7_isGood, V7_isGood, g7_157, g7_31, k7_261, c7_asks, k7_263, c7_number, c7_tells, k7_246, k7_265, c7_lineHere, c7_ends, c7_isOver, g7_168, c7_copyValley, a7_1, w7_1, a7_2, w7_2, a7_3, w7_3, a7_4, w7_4, a7_5, w7_5, a7_6, w7_6, a7_7, w7_7, a7_8, w7_8, a7_9, w7_9, a7_10, w7_10, a7_11, w7_11, a7_12, w7_12, a7_13, w7_13, a7_14, w7_14, a7_15, w7_15, a7_16, w7_16, a7_17, w7_17, a7_18, w7_18, a7_19, w7_19, a7_20, w7_20, a7_21, w7_21, a7_22, w7_22, a7_23, w7_23, a7_24, w7_24, a7_25, w7_25, a7_26, w7_26, a7_27, w7_27, a7_28, w7_28, a7_29, w7_29, a7_30, w7_30, a7_31, w7_31, a7_32, w7_32, a7_33, w7_33, e_iconst, e_bipush, e_sipush, e_lconst_0, e_lconst_1, e_iload, e_iload_0, e_iload_1, e_iload_2, e_iload_3, e_lload, e_lload_0, e_lload_1, e_lload_2, e_lload_3, e_aload, e_aload_0, e_aload_1, e_aload_2, e_aload_3, e_istore, e_istore_0, e_istore_1, e_istore_2, e_istore_3, e_astore, e_astore_0, e_astore_1, e_astore_2, e_astore_3, e_lstore, e_lstore_0, e_lstore_1, e_lstore_2, e_lstore_3, e_iinc, e_iadd, e_isub, e_imul, e_ladd, e_lsub, e_lmul, e_idiv, e_irem, e_ldiv, e_lrem, e_ineg, e_lneg, e_iand, e_ior, e_ixor, e_ishl, e_ishr, e_iushr, e_lcmp, e_i2l, e_l2i, e_i2b, e_i2s, e_dup_i, e_dup_r, e_pop_i, e_pop_r, e_dup2_l, e_dup2_ir, e_dup2_ii, e_ifeq, e_ifne, e_iflt, e_ifge, e_ifgt, e_ifle, e_iceq, e_icne, e_iclt, e_icge, e_icgt, e_icle, e_goto, e_switch, e_invokevirtual, e_invokestatic, e_invokespecial, e_ret0, e_ret1, e_ret2, e_ret3, ldI_s, ldL_s, ldR_s, clO_s, ctP_s, ctS_s, mgo_0, mgo_s, pjc_s, pj_0, pj_s, lk_s, rm1_0, rm1_i, rm1_r, rm1_l, rm2_0, rm2_i, rm2_r, rm2_l, csL_s, lc_lt, lc_ge, lc_gt, lc_le, lc_eq, b01_0, b01_1, b01_01, b01_n, up2_o, up2_s, up2_u, ne_eq, reduceCtorEq, Nat.reduceAdd, Nat.reduceEqDiff, Nat.reduceLT, Nat.reduceLeDiff, Int.reduceLE, Int.reduceLT, Int.reduceAdd, Int.reduceNeg, Int.reduceMul, Int.reduceSub, Int.reduceEq, Int.reduceToNat, Int.reduceNatCast, Int.cast_ofNat_Int, ↓reduceIte, and_self, List.drop_succ_cons, List.drop_zero, List.take_succ_cons, List.take_zero, List.length_cons, List.length_nil, List.reverse_cons, List.reverse_nil, List.nil_append, List.cons_append, Option.toList, true_and, and_true, or_false, false_or, or_true, true_or, forall_const, Classical.not_not, not_false_eq_true, not_true_eq_false, false_implies, true_implies, implies_true, imp_self]
  refine ⟨trivial, fun M1 R1 => ?_⟩
  obtain ⟨a1, a2, a3⟩ := R1
  have t1 := keepR_T a1
  have hp1 : tpI M1 := t1.2.2 h1
  refine ⟨hp1, fun M2 R2 => ?_⟩
  obtain ⟨b1, b2⟩ := R2
  have ev : vS 4 M2 = fun _ _ => 0 := (lex_v b1 4).trans a2
  refine hI_13 _ _ ⟨keepR_tr a1 (keepR_lex b1), tpN M + 1, .inr 0, b2, ?_, ?_, fun p hp => ?_, rfl⟩
  · rw [ev]; exact rd_0
  · rw [ev]
  · omega
set_option maxHeartbeats 4000000 in
set_option maxRecDepth 100000 in
theorem at7_valley_13 {M : Mm} {Q : Option AV → Mm → Prop} (hM : okM sh7 M) (hP : P7_valley M) (hQ : ∀ (v : Int) (M1 : Mm), R7_valley M v M1 → Q (some (ai v)) M1) {m : Nat} {M1 : Mm} (hM1 : okM sh7 M1) (hJ : J7_valley_13 M m M1) (I_13 : List AV → Mm → Prop) (hI_13 : ∀ (m_ : Nat) (M2 : Mm), m_ < m → J7_valley_13 M m_ M2 → I_13 [ar 0] M2) (I_94 : List AV → Mm → Prop) (hI_94 : ∀ (m_ : Nat) (M2 : Mm), m_ < m → J7_valley_94 M m_ M2 → I_94 [ar 0] M2) : wp (tb7 (csL cs7_valley)) sh7 1 1 cX7_valley [(13, [0], I_13), (94, [0], I_94)] Q 400 13 [(0, ar 0)] [] M1 := by
  obtain ⟨hk, k, x, hx, hI, hr, hf, rfl⟩ := hJ
  obtain ⟨h1, h2⟩ := id hP
  have t1 := keepR_T hk
  have t1 : TM M1 = TM M ∧ tpN M1 = tpN M ∧ (tpI M → tpI M1) := t1
  have hn : tpN M ≤ 700 := by
    have := h1.2
    show (M 0 6).toNat ≤ 700
    omega
  have ek : ∀ s, s ≤ 3 → vS s M1 = vS s M := by
    intro s hs
    have e0 : vS s (up2 M 0 0 0) = vS s M := vS_u (by decide) (by decide) (by decide) (by decide) (by decide) (by decide) (by decide)
    rw [← e0]
    exact low_v hk.2.2 hs (by rw [e0]; exact h2 s hs)
  have er : ∀ j, j ∈ [1, 2, 3, 5, 13] → M1 j = M j := by
    intro j hj
    rw [hk.1 j (by simp only [List.mem_cons, List.not_mem_nil, or_false] at hj; rcases hj with rfl | rfl | rfl | rfl | rfl <;> decide)]
    exact up2_ne (by simp only [List.mem_cons, List.not_mem_nil, or_false] at hj; omega)
  have ex : (¬ M1 0 12 = 0 ∨ M1 0 8 = 0) → ∀ M2, R7_isOver M1 M2 → (M2 0 12 = 0 → P7_copyValley 4 0 M2 ∧ ∀ M3, R7_copyValley 4 0 M2 M3 → Q (some (ai (M3 6 0))) M3) ∧ (¬ M2 0 12 = 0 → Q (some (ai (-4))) M2) := by
    intro hq M2 R2
    obtain ⟨r1, r2, r3, r4, r5⟩ := R2
    have e12 : M2 0 12 = M1 0 12 := r2 12 (by decide)
    have ev2 : ∀ s, vS s M2 = vS s M1 := fun s => vS_frm r1 (by decide)
    refine ⟨fun z => ?_, fun z => ?_⟩
    · cases x with
      | inl e => exact absurd (hx.1.symm.trans (e12.symm.trans z)) hx.2.2
      | inr p =>
        have k0 : (tkP (TM M) (tpN M) p).1 = 0 := by
          rcases hq with q | q
          · exact absurd (e12.symm.trans z) q
          · have := hx.2.2.1
            rw [show (tkM M1 p).1 = (tkP (TM M1) (tpN M1) p).1 from rfl, t1.1, t1.2.1] at this
            exact this.symm.trans q
        rw [read_end k0] at hr
        have hA : (readA (TM M) (tpN M)).2 = .inr p := by rw [← hr]
        have hA1 : (readA (TM M) (tpN M)).1 = vS 4 M1 := by rw [← hr]
        have hY := hI.2.2.2.2
        refine ⟨⟨by decide, by decide, by decide⟩, fun M3 R3 => ?_⟩
        obtain ⟨s1, s2, s3⟩ := R3
        have e0 : vM M3 = vS 4 M1 := by
          have := s3 (by show okY (vS 4 M2); rw [ev2]; exact hY)
          exact this.trans (ev2 4)
        refine hQ _ _ ⟨⟨fun j hj => ?_, fun s hs1 hs2 => ?_⟩, ?_, ?_, ?_, ?_, ?_⟩
        · rw [s1 j (by simp only [List.mem_cons, List.not_mem_nil, or_false] at hj; rcases hj with rfl | rfl | rfl | rfl | rfl <;> decide), r1 j (by simp only [List.mem_cons, List.not_mem_nil, or_false] at hj; rcases hj with rfl | rfl | rfl | rfl | rfl <;> decide)]
          exact er j hj
        · rw [s2 s (by show ¬ s = 0; omega) (by rw [ev2, ek s hs2]; exact h2 s hs2), ev2, ek s hs2]
        · unfold A_valley
          rw [hA]
          show M3 6 0 = (readA (TM M) (tpN M)).1 0 8
          rw [hA1, ← e0]
          rfl
        · unfold N_valley
          rw [hA]
          exact e0.trans hA1.symm
        · rw [s1 0 (by decide)]; exact r3
        · unfold F_valley
          rw [hA, s1 0 (by decide), r4, ← e12]
          exact z
        · unfold F_valley
          rw [hA, s1 0 (by decide), r5, if_pos (e12.symm.trans z)]
    · cases x with
      | inr p => exact absurd (e12.trans hx.1) z
      | inl e =>
        rw [read_inl] at hr
        have hA : (readA (TM M) (tpN M)).2 = .inl e := by rw [← hr]
        refine hQ _ _ ⟨⟨fun j hj => ?_, fun s hs1 hs2 => ?_⟩, ?_, ?_, r3, ?_, ?_⟩
        · rw [r1 j (by simp only [List.mem_cons, List.not_mem_nil, or_false] at hj; rcases hj with rfl | rfl | rfl | rfl | rfl <;> decide)]
          exact er j hj
        · rw [ev2, ek s hs2]
        · unfold A_valley; rw [hA]
        · unfold N_valley; rw [hA]; exact (ev2 0).trans (ek 0 (by decide))
        · unfold F_valley; rw [hA, r4]; exact hx.1
        · unfold F_valley; rw [hA, r5, if_neg (fun y => z (e12.trans y))]; exact hx.2.1
  have mid : M1 0 12 = 0 → ¬ M1 0 8 = 0 → ∃ (k' p : Nat), x = .inr p ∧ k = k' + 1 ∧ ¬ (tkP (TM M) (tpN M) p).1 = 0 ∧ readS (TM M) (tpN M) k' (lineE (TM M) (tpN M) (vS 4 M1) (.inr p)).1 (lineE (TM M) (tpN M) (vS 4 M1) (.inr p)).2 = readA (TM M) (tpN M) := by
    intro q1 q2
    obtain ⟨p, rfl⟩ := bad_ps hx q1
    have hk1 := hf p rfl
    have hpn := hI.2.2.1
    obtain ⟨k', rfl⟩ : ∃ k', k = k' + 1 := ⟨k - 1, by omega⟩
    have k0 : ¬ (tkP (TM M) (tpN M) p).1 = 0 := by
      intro w
      have := hx.2.2.1
      rw [show (tkM M1 p).1 = (tkP (TM M1) (tpN M1) p).1 from rfl, t1.1, t1.2.1] at this
      exact q2 (this.trans w)
    exact ⟨k', p, rfl, rfl, k0, by rw [← read_s k0]; exact hr⟩
  have lx : lexP M1 := ⟨t1.2.2 h1, x, hx⟩
  have e48 : vS 4 M1 0 8 = M1 6 4 := rfl
  simp only [e_wp dX7_valley_0 rfl, e_wp dX7_valley_1 rfl, e_wp dX7_valley_2 rfl, e_wp dX7_valley_5 rfl, e_wp dX7_valley_6 rfl, e_wp dX7_valley_9 rfl, e_wp dX7_valley_10 rfl, e_wp dX7_valley_13 rfl, e_wp dX7_valley_14 rfl, e_wp dX7_valley_17 rfl, e_wp dX7_valley_20 rfl, e_wp dX7_valley_21 rfl, e_wp dX7_valley_24 rfl, e_wp dX7_valley_27 rfl, e_wp dX7_valley_28 rfl, e_wp dX7_valley_31 rfl, e_wp dX7_valley_32 rfl, e_wp dX7_valley_33 rfl, e_wp dX7_valley_36 rfl, e_wp dX7_valley_37 rfl, e_wp dX7_valley_40 rfl, e_wp dX7_valley_43 rfl, e_wp dX7_valley_44 rfl, e_wp dX7_valley_45 rfl, e_wp dX7_valley_46 rfl, e_wp dX7_valley_49 rfl, e_wp dX7_valley_50 rfl, e_wp dX7_valley_51 rfl, e_wp dX7_valley_54 rfl, e_wp dX7_valley_57 rfl, e_wp dX7_valley_58 rfl, e_wp dX7_valley_59 rfl, e_wp dX7_valley_60 rfl, e_wp dX7_valley_63 rfl, e_wp dX7_valley_64 rfl, e_wp dX7_valley_66 rfl, e_wp dX7_valley_69 rfl, e_wp dX7_valley_72 rfl, e_wp dX7_valley_73 rfl, e_wp dX7_valley_74 rfl, e_wp dX7_valley_75 rfl, e_wp dX7_valley_78 rfl, e_wp dX7_valley_79 rfl, e_wp dX7_valley_81 rfl, e_wp dX7_valley_84 rfl, e_wp dX7_valley_87 rfl, e_wp dX7_valley_90 rfl, e_wp dX7_valley_91 rfl, e_wp dX7_valley_94 rfl, e_wp dX7_valley_95 rfl, e_wp dX7_valley_98 rfl, e_wp dX7_valley_101 rfl, e_wp dX7_valley_102 rfl, e_wp dX7_valley_105 rfl, e_wp dX7_valley_106 rfl, e_wp dX7_valley_109 rfl, e_wp dX7_valley_110 rfl, e_wp dX7_valley_111 rfl, e_wp dX7_valley_112 rfl, e_wp dX7_valley_113 rfl, e_wp dX7_valley_114 rfl, e_wp dX7_valley_115 rfl, e_wp dX7_valley_118 rfl, e_wp dX7_valley_119 rfl, e_wp dX7_valley_122 rfl, e_wp dX7_valley_123 rfl, e_wp dX7_valley_126 rfl, e_wp dX7_valley_129 rfl, e_wp dX7_valley_131 rfl, e_wp dX7_valley_132 rfl, e_wp dX7_valley_133 rfl, e_wp dX7_valley_134 rfl, e_wp dX7_valley_135 rfl, e_wp dX7_valley_138 rfl, e_wp dX7_valley_139 rfl, e_wp dX7_valley_142 rfl, e_wp dX7_valley_143 rfl, e_wp dX7_valley_144 rfl, p7_116, c7_clears, cs7_valley, c7_begins, c7_isGood, P7_isGood, V7_isGood, g7_157, g7_31, k7_261, c7_asks, k7_263, c7_number, c7_tells, k7_246, k7_265, c7_lineHere, c7_ends, c7_isOver, g7_168, c7_copyValley, a7_1, w7_1, a7_2, w7_2, a7_3, w7_3, a7_4, w7_4, a7_5, w7_5, a7_6, w7_6, a7_7, w7_7, a7_8, w7_8, a7_9, w7_9, a7_10, w7_10, a7_11, w7_11, a7_12, w7_12, a7_13, w7_13, a7_14, w7_14, a7_15, w7_15, a7_16, w7_16, a7_17, w7_17, a7_18, w7_18, a7_19, w7_19, a7_20, w7_20, a7_21, w7_21, a7_22, w7_22, a7_23, w7_23, a7_24, w7_24, a7_25, w7_25, a7_26, w7_26, a7_27, w7_27, a7_28, w7_28, a7_29, w7_29, a7_30, w7_30, a7_31, w7_31, a7_32, w7_32, a7_33, w7_33, e_iconst, e_bipush, e_sipush, e_lconst_0, e_lconst_1, e_iload, e_iload_0, e_iload_1, e_iload_2, e_iload_3, e_lload, e_lload_0, e_lload_1, e_lload_2, e_lload_3, e_aload, e_aload_0, e_aload_1, e_aload_2, e_aload_3, e_istore, e_istore_0, e_istore_1, e_istore_2, e_istore_3, e_astore, e_astore_0, e_astore_1, e_astore_2, e_astore_3, e_lstore, e_lstore_0, e_lstore_1, e_lstore_2, e_lstore_3, e_iinc, e_iadd, e_isub, e_imul, e_ladd, e_lsub, e_lmul, e_idiv, e_irem, e_ldiv, e_lrem, e_ineg, e_lneg, e_iand, e_ior, e_ixor, e_ishl, e_ishr, e_iushr, e_lcmp, e_i2l, e_l2i, e_i2b, e_i2s, e_dup_i, e_dup_r, e_pop_i, e_pop_r, e_dup2_l, e_dup2_ir, e_dup2_ii, e_ifeq, e_ifne, e_iflt, e_ifge, e_ifgt, e_ifle, e_iceq, e_icne, e_iclt, e_icge, e_icgt, e_icle, e_goto, e_switch, e_invokevirtual, e_invokestatic, e_invokespecial, e_ret0, e_ret1, e_ret2, e_ret3, ldI_s, ldL_s, ldR_s, clO_s, ctP_s, ctS_s, mgo_0, mgo_s, pjc_s, pj_0, pj_s, lk_s, rm1_0, rm1_i, rm1_r, rm1_l, rm2_0, rm2_i, rm2_r, rm2_l, csL_s, lc_lt, lc_ge, lc_gt, lc_le, lc_eq, b01_0, b01_1, b01_01, b01_n, up2_o, up2_s, up2_u, ne_eq, reduceCtorEq, Nat.reduceAdd, Nat.reduceEqDiff, Nat.reduceLT, Nat.reduceLeDiff, Int.reduceLE, Int.reduceLT, Int.reduceAdd, Int.reduceNeg, Int.reduceMul, Int.reduceSub, Int.reduceEq, Int.reduceToNat, Int.reduceNatCast, Int.cast_ofNat_Int, ↓reduceIte, and_self, List.drop_succ_cons, List.drop_zero, List.take_succ_cons, List.take_zero, List.length_cons, List.length_nil, List.reverse_cons, List.reverse_nil, List.nil_append, List.cons_append, Option.toList, true_and, and_true, or_false, false_or, or_true, true_or, forall_const, Classical.not_not, not_false_eq_true, not_true_eq_false, false_implies, true_implies, implies_true, imp_self]
  refine ⟨fun q => ⟨trivial, ex (Or.inl q)⟩, fun q => ⟨fun z => ⟨trivial, ex (Or.inr z)⟩, fun z => ?_⟩⟩
  obtain ⟨k', p, rfl, rfl, k0, hr2⟩ := mid q z
  have hcn := hI.1
  have hk1 := hf p rfl
  refine ⟨fun y => ⟨⟨lx, q, hcn⟩, fun M2 R2 => ?_⟩, fun y => ?_⟩
  · obtain ⟨r1, r2⟩ := R2
    obtain ⟨r3, r4⟩ := r2 _ hx
    rw [t1.1, t1.2.1] at r3 r4
    have eb : bodyS (TM M) (tpN M) (vS 4 M1) (.inr p) = lineS (TM M) (tpN M) (vS 4 M1) (.inr p) := if_neg (by rw [e48]; exact y)
    exact hI_94 (2 * k' + 2) _ (by omega) ⟨keepR_tr hk r1, k', p, vS 4 M1, by rw [eb]; exact r3, by rw [eb]; exact r4, hI, hr2, hk1, rfl⟩
  · have eb : bodyS (TM M) (tpN M) (vS 4 M1) (.inr p) = firstS (TM M) (tpN M) (vS 4 M1) (.inr p) := if_pos (by rw [e48]; exact y)
    refine ⟨⟨lx, wValley, okW_c.1, w_nums.1⟩, fun M2 R2 => ?_⟩
    have a1 := R2.2 _ wValley hx okW_c.1 w_nums.1
    have k1 := keepR_tr hk (keepR_lex R2.1)
    rw [t1.1, t1.2.1] at a1
    have T1 := keepR_T k1
    have T1 : TM M2 = TM M ∧ tpN M2 = tpN M ∧ (tpI M → tpI M2) := T1
    refine ⟨⟨⟨T1.2.2 h1, _, a1⟩, by decide, wLaw, okW_c.2.1, w_nums.2.1⟩, fun v M3 R3 => ?_⟩
    have a2 := num_use R3 a1 okW_c.2.1 w_nums.2.1
    rw [T1.1, T1.2.1] at a2
    refine ⟨⟨by decide, by decide⟩, fun M4 R4 => ?_⟩
    have R4 : M4 = up2 M3 7 32 v := R4
    subst R4
    have k2 : keepR (up2 M 0 0 0) (up2 M3 7 32 v) := keepR_u (m := 8) (keepR_tr k1 (keepR_lex R3.1)) (by decide) (by decide)
    have T2 := keepR_T k2
    have T2 : TM (up2 M3 7 32 v) = TM M ∧ tpN (up2 M3 7 32 v) = tpN M ∧ (tpI M → tpI (up2 M3 7 32 v)) := T2
    have a3 : psR (up2 M3 7 32 v) (frst1 (TM M) (tpN M) (.inr p)).2 := ps_u (by decide) (by decide) a2.1
    refine ⟨⟨⟨T2.2.2 h1, _, a3⟩, by decide, wFrost, okW_c.2.2.1, w_nums.2.2.1⟩, fun v2 M5 R5 => ?_⟩
    have a4 := num_use R5 a3 okW_c.2.2.1 w_nums.2.2.1
    rw [T2.1, T2.2.1] at a4
    refine ⟨⟨by decide, by decide⟩, fun M6 R6 => ?_⟩
    have R6 : M6 = up2 M5 7 33 v2 := R6
    subst R6
    have k3 : keepR (up2 M 0 0 0) (up2 M5 7 33 v2) := keepR_u (m := 8) (keepR_tr k2 (keepR_lex R5.1)) (by decide) (by decide)
    have T3 := keepR_T k3
    have T3 : TM (up2 M5 7 33 v2) = TM M ∧ tpN (up2 M5 7 33 v2) = tpN M ∧ (tpI M → tpI (up2 M5 7 33 v2)) := T3
    have a5 : psR (up2 M5 7 33 v2) (frst2 (TM M) (tpN M) (.inr p)).2 := ps_u (by decide) (by decide) a4.1
    refine ⟨⟨⟨T3.2.2 h1, _, a5⟩, by decide, wOdds, okW_c.2.2.2.1, w_nums.2.2.2.1⟩, fun v3 M7 R7 => ?_⟩
    have a6 := num_use R7 a5 okW_c.2.2.2.1 w_nums.2.2.2.1
    rw [T3.1, T3.2.1] at a6
    refine ⟨⟨by decide, by decide⟩, fun M8 R8 => ?_⟩
    have R8 : M8 = up2 M7 7 34 v3 := R8
    subst R8
    have k4 : keepR (up2 M 0 0 0) (up2 M7 7 34 v3) := keepR_u (m := 8) (keepR_tr k3 (keepR_lex R7.1)) (by decide) (by decide)
    refine hI_94 (2 * k' + 2) _ (by omega) ⟨k4, k', p, vS 4 M1, ?_, ?_, hI, hr2, hk1, rfl⟩
    · rw [eb]; exact ps_u (by decide) (by decide) a6.1
    · rw [eb, vS_has (c := 2) (by decide), lex_v R7.1, vS_has (c := 1) (by decide), lex_v R5.1, vS_has (c := 0) (by decide), lex_v R3.1, lex_v R2.1]
      show _ = up2 (up2 (up2 (vS 4 M1) 0 0 (frst1 (TM M) (tpN M) (.inr p)).1) 0 1 (frst2 (TM M) (tpN M) (.inr p)).1) 0 2 (frst3 (TM M) (tpN M) (.inr p)).1
      rw [show (frst1 (TM M) (tpN M) (.inr p)).1 = v from a2.2.symm, show (frst2 (TM M) (tpN M) (.inr p)).1 = v2 from a4.2.symm, show (frst3 (TM M) (tpN M) (.inr p)).1 = v3 from a6.2.symm]
set_option maxHeartbeats 4000000 in
set_option maxRecDepth 100000 in
theorem at7_valley_94 {M : Mm} {Q : Option AV → Mm → Prop} (hM : okM sh7 M) (hP : P7_valley M) (hQ : ∀ (v : Int) (M1 : Mm), R7_valley M v M1 → Q (some (ai v)) M1) {m : Nat} {M1 : Mm} (hM1 : okM sh7 M1) (hJ : J7_valley_94 M m M1) (I_13 : List AV → Mm → Prop) (hI_13 : ∀ (m_ : Nat) (M2 : Mm), m_ < m → J7_valley_13 M m_ M2 → I_13 [ar 0] M2) (I_94 : List AV → Mm → Prop) (hI_94 : ∀ (m_ : Nat) (M2 : Mm), m_ < m → J7_valley_94 M m_ M2 → I_94 [ar 0] M2) : wp (tb7 (csL cs7_valley)) sh7 1 1 cX7_valley [(13, [0], I_13), (94, [0], I_94)] Q 400 94 [(0, ar 0)] [] M1 := by
  obtain ⟨hk, k, p, V, hx, hv, hI, hr, hf, rfl⟩ := hJ
  obtain ⟨h1, h2⟩ := id hP
  have t1 := keepR_T hk
  have t1 : TM M1 = TM M ∧ tpN M1 = tpN M ∧ (tpI M → tpI M1) := t1
  have hn : tpN M ≤ 700 := by
    have := h1.2
    show (M 0 6).toNat ≤ 700
    omega
  have e8 : M1 6 4 = V 0 8 := by
    rw [← body_08 (T := TM M) (n := tpN M) (V := V) (x := .inr p), ← hv]
    rfl
  obtain ⟨g1, g2⟩ := rd_s (T := TM M) hn hI
  have hb8 := hI.2.1
  have fin : ∀ M2, lexK M1 M2 → psR M2 (endS (TM M) (tpN M) (bodyS (TM M) (tpN M) V (.inr p)).2) → I_13 [ar 0] (up2 M2 6 4 (V 0 8 + 1)) := by
    intro M2 f1 f2
    have ev : vS 4 (up2 M2 6 4 (V 0 8 + 1)) = (lineE (TM M) (tpN M) V (.inr p)).1 := by
      rw [vS_line, lex_v f1, hv]
      rfl
    refine hI_13 (2 * k + 1) _ (by omega) ⟨keepR_u (m := 1) (keepR_tr hk (keepR_lex f1)) (by decide) (by decide), k, (lineE (TM M) (tpN M) V (.inr p)).2, ps_u (by decide) (by decide) f2, ?_, ?_, fun q hq => ?_, rfl⟩
    · rw [ev]; exact g1
    · rw [ev]; exact hr
    · have := g2 q hq
      omega
  have lx : lexP M1 := ⟨t1.2.2 h1, _, hx⟩
  simp only [e_wp dX7_valley_0 rfl, e_wp dX7_valley_1 rfl, e_wp dX7_valley_2 rfl, e_wp dX7_valley_5 rfl, e_wp dX7_valley_6 rfl, e_wp dX7_valley_9 rfl, e_wp dX7_valley_10 rfl, e_wp dX7_valley_13 rfl, e_wp dX7_valley_14 rfl, e_wp dX7_valley_17 rfl, e_wp dX7_valley_20 rfl, e_wp dX7_valley_21 rfl, e_wp dX7_valley_24 rfl, e_wp dX7_valley_27 rfl, e_wp dX7_valley_28 rfl, e_wp dX7_valley_31 rfl, e_wp dX7_valley_32 rfl, e_wp dX7_valley_33 rfl, e_wp dX7_valley_36 rfl, e_wp dX7_valley_37 rfl, e_wp dX7_valley_40 rfl, e_wp dX7_valley_43 rfl, e_wp dX7_valley_44 rfl, e_wp dX7_valley_45 rfl, e_wp dX7_valley_46 rfl, e_wp dX7_valley_49 rfl, e_wp dX7_valley_50 rfl, e_wp dX7_valley_51 rfl, e_wp dX7_valley_54 rfl, e_wp dX7_valley_57 rfl, e_wp dX7_valley_58 rfl, e_wp dX7_valley_59 rfl, e_wp dX7_valley_60 rfl, e_wp dX7_valley_63 rfl, e_wp dX7_valley_64 rfl, e_wp dX7_valley_66 rfl, e_wp dX7_valley_69 rfl, e_wp dX7_valley_72 rfl, e_wp dX7_valley_73 rfl, e_wp dX7_valley_74 rfl, e_wp dX7_valley_75 rfl, e_wp dX7_valley_78 rfl, e_wp dX7_valley_79 rfl, e_wp dX7_valley_81 rfl, e_wp dX7_valley_84 rfl, e_wp dX7_valley_87 rfl, e_wp dX7_valley_90 rfl, e_wp dX7_valley_91 rfl, e_wp dX7_valley_94 rfl, e_wp dX7_valley_95 rfl, e_wp dX7_valley_98 rfl, e_wp dX7_valley_101 rfl, e_wp dX7_valley_102 rfl, e_wp dX7_valley_105 rfl, e_wp dX7_valley_106 rfl, e_wp dX7_valley_109 rfl, e_wp dX7_valley_110 rfl, e_wp dX7_valley_111 rfl, e_wp dX7_valley_112 rfl, e_wp dX7_valley_113 rfl, e_wp dX7_valley_114 rfl, e_wp dX7_valley_115 rfl, e_wp dX7_valley_118 rfl, e_wp dX7_valley_119 rfl, e_wp dX7_valley_122 rfl, e_wp dX7_valley_123 rfl, e_wp dX7_valley_126 rfl, e_wp dX7_valley_129 rfl, e_wp dX7_valley_131 rfl, e_wp dX7_valley_132 rfl, e_wp dX7_valley_133 rfl, e_wp dX7_valley_134 rfl, e_wp dX7_valley_135 rfl, e_wp dX7_valley_138 rfl, e_wp dX7_valley_139 rfl, e_wp dX7_valley_142 rfl, e_wp dX7_valley_143 rfl, e_wp dX7_valley_144 rfl, p7_116, c7_clears, cs7_valley, c7_begins, c7_isGood, P7_isGood, V7_isGood, g7_157, g7_31, k7_261, c7_asks, k7_263, c7_number, c7_tells, k7_246, k7_265, c7_lineHere, c7_ends, c7_isOver, g7_168, c7_copyValley, a7_1, w7_1, a7_2, w7_2, a7_3, w7_3, a7_4, w7_4, a7_5, w7_5, a7_6, w7_6, a7_7, w7_7, a7_8, w7_8, a7_9, w7_9, a7_10, w7_10, a7_11, w7_11, a7_12, w7_12, a7_13, w7_13, a7_14, w7_14, a7_15, w7_15, a7_16, w7_16, a7_17, w7_17, a7_18, w7_18, a7_19, w7_19, a7_20, w7_20, a7_21, w7_21, a7_22, w7_22, a7_23, w7_23, a7_24, w7_24, a7_25, w7_25, a7_26, w7_26, a7_27, w7_27, a7_28, w7_28, a7_29, w7_29, a7_30, w7_30, a7_31, w7_31, a7_32, w7_32, a7_33, w7_33, e_iconst, e_bipush, e_sipush, e_lconst_0, e_lconst_1, e_iload, e_iload_0, e_iload_1, e_iload_2, e_iload_3, e_lload, e_lload_0, e_lload_1, e_lload_2, e_lload_3, e_aload, e_aload_0, e_aload_1, e_aload_2, e_aload_3, e_istore, e_istore_0, e_istore_1, e_istore_2, e_istore_3, e_astore, e_astore_0, e_astore_1, e_astore_2, e_astore_3, e_lstore, e_lstore_0, e_lstore_1, e_lstore_2, e_lstore_3, e_iinc, e_iadd, e_isub, e_imul, e_ladd, e_lsub, e_lmul, e_idiv, e_irem, e_ldiv, e_lrem, e_ineg, e_lneg, e_iand, e_ior, e_ixor, e_ishl, e_ishr, e_iushr, e_lcmp, e_i2l, e_l2i, e_i2b, e_i2s, e_dup_i, e_dup_r, e_pop_i, e_pop_r, e_dup2_l, e_dup2_ir, e_dup2_ii, e_ifeq, e_ifne, e_iflt, e_ifge, e_ifgt, e_ifle, e_iceq, e_icne, e_iclt, e_icge, e_icgt, e_icle, e_goto, e_switch, e_invokevirtual, e_invokestatic, e_invokespecial, e_ret0, e_ret1, e_ret2, e_ret3, ldI_s, ldL_s, ldR_s, clO_s, ctP_s, ctS_s, mgo_0, mgo_s, pjc_s, pj_0, pj_s, lk_s, rm1_0, rm1_i, rm1_r, rm1_l, rm2_0, rm2_i, rm2_r, rm2_l, csL_s, lc_lt, lc_ge, lc_gt, lc_le, lc_eq, b01_0, b01_1, b01_01, b01_n, up2_o, up2_s, up2_u, ne_eq, reduceCtorEq, Nat.reduceAdd, Nat.reduceEqDiff, Nat.reduceLT, Nat.reduceLeDiff, Int.reduceLE, Int.reduceLT, Int.reduceAdd, Int.reduceNeg, Int.reduceMul, Int.reduceSub, Int.reduceEq, Int.reduceToNat, Int.reduceNatCast, Int.cast_ofNat_Int, ↓reduceIte, and_self, List.drop_succ_cons, List.drop_zero, List.take_succ_cons, List.take_zero, List.length_cons, List.length_nil, List.reverse_cons, List.reverse_nil, List.nil_append, List.cons_append, Option.toList, true_and, and_true, or_false, false_or, or_true, true_or, forall_const, Classical.not_not, not_false_eq_true, not_true_eq_false, false_implies, true_implies, implies_true, imp_self]
  refine ⟨fun q => ?_, fun q => ⟨lx, fun M2 R2 => ?_⟩⟩
  · rw [e8]
    refine ⟨by omega, fin M1 lex_rf ?_⟩
    revert hx
    generalize (bodyS (TM M) (tpN M) V (.inr p)).2 = y
    intro hx
    cases y with
    | inl e => exact hx
    | inr r => exact absurd hx.1 q
  · obtain ⟨r1, r2⟩ := R2
    have r3 := r2 _ hx
    rw [t1.1, t1.2.1] at r3
    rw [show M2 6 = M1 6 from r1.1 _ (by decide), e8]
    exact ⟨by omega, fin M2 r1 r3⟩
set_option maxHeartbeats 4000000 in
set_option maxRecDepth 100000 in
theorem m7_valley : MOK cl7 sh7 tyl7 [] 7 yX7_valley cX7_valley 1 (some .int) sp7_valley := by
  refine mok_of (own := RX7) (tb := tb7 (csL cs7_valley)) (rt := 1) (fuel := 400) (fun avs M Q => [(13, [0], fun m_ vs M1 => vs = [ar 0] ∧ J7_valley_13 M m_ M1), (94, [0], fun m_ vs M1 => vs = [ar 0] ∧ J7_valley_94 M m_ M1)]) (by decide) rfl nil_nw (tbOK7 _) rfl (csL_all ?_) ?_ ?_ ?_
  · intro q hq
    simp only [cs7_valley, List.mem_cons, List.not_mem_nil, or_false] at hq
    rcases hq with rfl | rfl | rfl | rfl | rfl | rfl | rfl | rfl | rfl | rfl
    · exact cg7_clears (by decide)
    · exact cg7_begins (by decide)
    · exact cg7_isGood (by decide)
    · exact cg7_asks (by decide)
    · exact cg7_number (by decide)
    · exact cg7_tells (by decide)
    · exact cg7_lineHere (by decide)
    · exact cg7_ends (by decide)
    · exact cg7_isOver (by decide)
    · exact cg7_copyValley (by decide)
  · intro avs M Q hsp
    obtain ⟨xs, hx⟩ := spR_un _ _ _ hsp
    obtain ⟨e, hl⟩ := unA_mkT hx
    obtain rfl := len0 hl
    have e : avs = [ar 0] := e
    subst e
    simp [szL, isL]
  · intro avs M Q hM hav hsp
    obtain ⟨xs, hx⟩ := spR_un _ _ _ hsp
    obtain ⟨e, hl⟩ := unA_mkT hx
    obtain rfl := len0 hl
    have e : avs = [ar 0] := e
    subst e
    exact in7_valley hM hsp.1 hsp.2 _ (fun m_ M2 hJ => ⟨m_, rfl, hJ⟩) _ (fun m_ M2 hJ => ⟨m_, rfl, hJ⟩)
  · intro avs M Q hM hav hsp q hq m_ vs M1 hM1 hv hJ
    obtain ⟨xs, hx⟩ := spR_un _ _ _ hsp
    obtain ⟨e, hl⟩ := unA_mkT hx
    obtain rfl := len0 hl
    have e : avs = [ar 0] := e
    subst e
    simp only [List.mem_cons, List.not_mem_nil, or_false] at hq
    rcases hq with rfl | rfl
    · obtain ⟨rfl, hJ⟩ := hJ
      exact at7_valley_13 hM hsp.1 hsp.2 hM1 hJ _ (fun m2 M2 hm hJ2 => ⟨m2, hm, rfl, hJ2⟩) _ (fun m2 M2 hm hJ2 => ⟨m2, hm, rfl, hJ2⟩)
    · obtain ⟨rfl, hJ⟩ := hJ
      exact at7_valley_94 hM hsp.1 hsp.2 hM1 hJ _ (fun m2 M2 hm hJ2 => ⟨m2, hm, rfl, hJ2⟩) _ (fun m2 M2 hm hJ2 => ⟨m2, hm, rfl, hJ2⟩)
