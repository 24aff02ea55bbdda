/-! SagMemoryModel: rows of numbers -/
/-- what stays when slots are written -/
def keepW (M M1 : Mm) : Prop := (∀ k, k ∈ [5, 6, 7, 8, 9, 10, 11, 12, 13] → M1 k = M k) ∧ ∀ j, j ∈ [6, 14, 15] → M1 0 j = M 0 j
theorem keepW_of {M M1 : Mm} (h : keepM M M1) : keepW M M1 := ⟨fun k hk => h.1 k (by revert hk; simp only [List.mem_cons, List.not_mem_nil, or_false]; omega), h.2⟩
theorem keepW_v {M M1 : Mm} (h : keepW M M1) (s : Nat) : vS s M1 = vS s M := vS_eq fun k hk => h.1 k (by revert hk; simp only [List.mem_cons, List.not_mem_nil, or_false]; omega)
theorem keepW_u {M M1 : Mm} {k j : Nat} {x : Int} (h : keepW M M1) (hk : k ∉ [0, 5, 6, 7, 8, 9, 10, 11, 12, 13]) : keepW M (up2 M1 k j x) := by
  refine ⟨fun k' h' => ?_, fun j' h' => ?_⟩
  · rw [up2_ne (fun e => hk (by rw [← e]; exact List.mem_cons_of_mem _ h'))]
    exact h.1 k' h'
  · rw [up2_o (fun e => hk (by rw [← e]; decide))]
    exact h.2 j' h'
abbrev upS (sl : Nat → Sl) (s : Nat) (x : Sl) : Nat → Sl := fun k => if k = s then x else sl k
/-- slots: their numbers lie apart -/
def ok4 (M : Mm) : Prop := ∀ s : Nat, s < 4 → okSl (slM M s) ∧ 0 ≤ M 2 s ∧ M 2 s ≤ 60
abbrev rowP (s w n : Int) : Prop := (0 ≤ s ∧ s ≤ 3) ∧ (0 ≤ w ∧ w ≤ 3) ∧ n ≤ 60
def A_row (s w n : Int) : Int := if rowP s w n then (if n < 0 then -3 else 0) else -2
def N_row (sl : Nat → Sl) (s w n : Int) : Nat → Sl := if rowP s w n ∧ 0 ≤ n then upS sl s.toNat ((w, n), fun _ => 0) else sl
def P7_row (s : Int) (w : Int) (n : Int) (M : Mm) : Prop := ok4 M
def R7_row (s : Int) (w : Int) (n : Int) (M : Mm) (v : Int) (M1 : Mm) : Prop := keepW M M1 ∧ v = A_row s w n ∧ ∀ k : Nat, k < 4 → slM M1 k = N_row (slM M) s w n k
def sp7_row : Spec := spR true [0, 0, 0] 1 (fun x M => P7_row (x 0) (x 1) (x 2) M) (fun x M v M1 => R7_row (x 0) (x 1) (x 2) M v M1)
theorem c7_row {s w n : Int} {M : Mm} {Q : Option AV → Mm → Prop} : sp7_row [ar 0, ai s, ai w, ai n] M Q = (P7_row s w n M ∧ ∀ (v : Int) (M1 : Mm), R7_row s w n M v M1 → Q (some (ai v)) M1) := rfl
def cs7_row : List (Nat × Nat × Nat × Spec) := [(125, 0, 1, sp7_isSlot), (121, 0, 3, sp7_in)]
def J7_row_57 (s : Int) (w : Int) (n : Int) (M : Mm) (m : Nat) (s_ : Int) (n_ : Int) (k : Int) (M1 : Mm) : Prop := s = s_ ∧ n = n_ ∧ (rowP s w n ∧ 0 ≤ n) ∧ keepW M M1 ∧ ∃ a : Nat, k = a ∧ (a : Int) ≤ n ∧ (∀ j : Nat, j < 4 → M1 1 j = (if j = s.toNat then w else M 1 j) ∧ M1 2 j = (if j = s.toNat then n else M 2 j)) ∧ (∀ j : Nat, ¬ (60 * s.toNat ≤ j ∧ j < 60 * s.toNat + 60) → M1 3 j = M 3 j) ∧ (∀ j : Nat, j < a → M1 3 (60 * s.toNat + j) = 0) ∧ m = 60 - a
set_option maxHeartbeats 4000000 in
set_option maxRecDepth 100000 in
theorem in7_row {s w n : Int} {M : Mm} {Q : Option AV → Mm → Prop} (hM : okM sh7 M) (h_s : i32 s) (h_w : i32 w) (h_n : i32 n) (hP : P7_row s w n M) (hQ : ∀ (v : Int) (M1 : Mm), R7_row s w n M v M1 → Q (some (ai v)) M1) (I_57 : List AV → Mm → Prop) (hI_57 : ∀ (m_ : Nat) (y_s_ : Int) (y_n_ : Int) (y_k : Int) (M2 : Mm), J7_row_57 s w n M m_ y_s_ y_n_ y_k M2 → I_57 [ar 0, ai y_s_, ai y_n_, ai y_k] M2) : wp (tb7 (csL cs7_row)) sh7 5 1 cX7_row [(57, [0, 1, 3, 4], I_57)] Q 400 0 [(0, ar 0), (1, ai s), (2, ai w), (3, ai n)] [] M := by
  have hk0 : keepM M (up2 M 0 0 0) := keep_u0 keep_rf (by decide)
  have no : ∀ x, x = -2 → ¬ rowP s w n → Q (some (ai x)) (up2 M 0 0 0) := by
    rintro x rfl q
    exact hQ _ _ ⟨keepW_of hk0, (if_neg q).symm, fun k hk => by rw [slM_eq hk0]; exact (congrFun (if_neg (fun z => q z.1)) k).symm⟩
  simp only [e_wp dX7_row_0 rfl, e_wp dX7_row_1 rfl, e_wp dX7_row_2 rfl, e_wp dX7_row_5 rfl, e_wp dX7_row_6 rfl, e_wp dX7_row_9 rfl, e_wp dX7_row_12 rfl, e_wp dX7_row_13 rfl, e_wp dX7_row_14 rfl, e_wp dX7_row_15 rfl, e_wp dX7_row_18 rfl, e_wp dX7_row_21 rfl, e_wp dX7_row_24 rfl, e_wp dX7_row_25 rfl, e_wp dX7_row_27 rfl, e_wp dX7_row_30 rfl, e_wp dX7_row_32 rfl, e_wp dX7_row_33 rfl, e_wp dX7_row_34 rfl, e_wp dX7_row_37 rfl, e_wp dX7_row_39 rfl, e_wp dX7_row_40 rfl, e_wp dX7_row_41 rfl, e_wp dX7_row_44 rfl, e_wp dX7_row_45 rfl, e_wp dX7_row_46 rfl, e_wp dX7_row_47 rfl, e_wp dX7_row_48 rfl, e_wp dX7_row_51 rfl, e_wp dX7_row_52 rfl, e_wp dX7_row_53 rfl, e_wp dX7_row_54 rfl, e_wp dX7_row_55 rfl, e_wp dX7_row_57 rfl, e_wp dX7_row_59 rfl, e_wp dX7_row_60 rfl, e_wp dX7_row_63 rfl, e_wp dX7_row_64 rfl, e_wp dX7_row_67 rfl, e_wp dX7_row_69 rfl, e_wp dX7_row_70 rfl, e_wp dX7_row_71 rfl, e_wp dX7_row_73 rfl, e_wp dX7_row_74 rfl, e_wp dX7_row_75 rfl, e_wp dX7_row_76 rfl, e_wp dX7_row_79 rfl, e_wp dX7_row_82 rfl, e_wp dX7_row_83 rfl, p7_116, c7_isSlot, P7_isSlot, V7_isSlot, cs7_row, k7_119, c7_in, P7_in, V7_in, g7_7, g7_13, g7_16, a7_1, w7_1, a7_2, w7_2, a7_3, w7_3, a7_4, w7_4, a7_5, w7_5, a7_6, w7_6, a7_7, w7_7, a7_8, w7_8, a7_9, w7_9, a7_10, w7_10, a7_11, w7_11, a7_12, w7_12, a7_13, w7_13, a7_14, w7_14, a7_15, w7_15, a7_16, w7_16, a7_17, w7_17, a7_18, w7_18, a7_19, w7_19, a7_20, w7_20, a7_21, w7_21, a7_22, w7_22, a7_23, w7_23, a7_24, w7_24, a7_25, w7_25, a7_26, w7_26, a7_27, w7_27, a7_28, w7_28, a7_29, w7_29, a7_30, w7_30, a7_31, w7_31, a7_32, w7_32, a7_33, w7_33, e_iconst, e_bipush, e_sipush, e_lconst_0, e_lconst_1, e_iload, e_iload_0, e_iload_1, e_iload_2, e_iload_3, e_lload, e_lload_0, e_lload_1, e_lload_2, e_lload_3, e_aload, e_aload_0, e_aload_1, e_aload_2, e_aload_3, e_istore, e_istore_0, e_istore_1, e_istore_2, e_istore_3, e_astore, e_astore_0, e_astore_1, e_astore_2, e_astore_3, e_lstore, e_lstore_0, e_lstore_1, e_lstore_2, e_lstore_3, e_iinc, e_iadd, e_isub, e_imul, e_ladd, e_lsub, e_lmul, e_idiv, e_irem, e_ldiv, e_lrem, e_ineg, e_lneg, e_iand, e_ior, e_ixor, e_ishl, e_ishr, e_iushr, e_lcmp, e_i2l, e_l2i, e_i2b, e_i2s, e_dup_i, e_dup_r, e_pop_i, e_pop_r, e_dup2_l, e_dup2_ir, e_dup2_ii, e_ifeq, e_ifne, e_iflt, e_ifge, e_ifgt, e_ifle, e_iceq, e_icne, e_iclt, e_icge, e_icgt, e_icle, e_goto, e_switch, e_invokevirtual, e_invokestatic, e_invokespecial, e_ret0, e_ret1, e_ret2, e_ret3, ldI_s, ldL_s, ldR_s, clO_s, ctP_s, ctS_s, mgo_0, mgo_s, pjc_s, pj_0, pj_s, lk_s, rm1_0, rm1_i, rm1_r, rm1_l, rm2_0, rm2_i, rm2_r, rm2_l, csL_s, lc_lt, lc_ge, lc_gt, lc_le, lc_eq, b01_0, b01_1, b01_01, b01_n, up2_o, up2_s, up2_u, ne_eq, reduceCtorEq, Nat.reduceAdd, Nat.reduceEqDiff, Nat.reduceLT, Nat.reduceLeDiff, Int.reduceLE, Int.reduceLT, Int.reduceAdd, Int.reduceNeg, Int.reduceMul, Int.reduceSub, Int.reduceEq, Int.reduceToNat, Int.reduceNatCast, Int.cast_ofNat_Int, ↓reduceIte, and_self, List.drop_succ_cons, List.drop_zero, List.take_succ_cons, List.take_zero, List.length_cons, List.length_nil, List.reverse_cons, List.reverse_nil, List.nil_append, List.cons_append, Option.toList, true_and, and_true, or_false, false_or, or_true, true_or, forall_const, Classical.not_not, not_false_eq_true, not_true_eq_false, false_implies, true_implies, implies_true, imp_self]
  refine ⟨fun q => no _ rfl (fun z => q z.1), fun q => ⟨fun z => no _ rfl (fun y => z y.2.1), fun z => ⟨fun y => ⟨fun u => ⟨by omega, by omega, ?_⟩, fun u => ?_⟩, fun y => no _ rfl (fun u => absurd u.2.2 (by omega))⟩⟩⟩
  · refine hI_57 (60 - 0) _ _ _ _ ⟨rfl, rfl, ⟨⟨q, z, y⟩, u⟩, keepW_u (keepW_u (keepW_of hk0) (by decide)) (by decide), 0, rfl, u, fun j hj => ?_, fun j hj => rfl, fun j hj => by omega, rfl⟩
    by_cases e : j = s.toNat
    · rw [if_pos e, if_pos e, e, up2_o (by decide), up2_s, up2_s]
      exact ⟨rfl, rfl⟩
    · rw [if_neg e, if_neg e, up2_o (by decide), up2_n e, up2_n e]
      exact ⟨rfl, rfl⟩
  · exact hQ _ _ ⟨keepW_of hk0, ((if_pos ⟨q, z, y⟩).trans (if_pos (by omega))).symm, fun k hk => by rw [slM_eq hk0]; exact (congrFun (if_neg (fun z => absurd z.2 (by omega))) k).symm⟩
set_option maxHeartbeats 4000000 in
set_option maxRecDepth 100000 in
theorem at7_row_57 {s w n : Int} {M : Mm} {Q : Option AV → Mm → Prop} (hM : okM sh7 M) (h_s : i32 s) (h_w : i32 w) (h_n : i32 n) (hP : P7_row s w n M) (hQ : ∀ (v : Int) (M1 : Mm), R7_row s w n M v M1 → Q (some (ai v)) M1) {m : Nat} {s_ n_ k : Int} {M1 : Mm} (hM1 : okM sh7 M1) (h_s_ : i32 s_) (h_n_ : i32 n_) (h_k : i32 k) (hJ : J7_row_57 s w n M m s_ n_ k M1) (I_57 : List AV → Mm → Prop) (hI_57 : ∀ (m_ : Nat) (y_s_ : Int) (y_n_ : Int) (y_k : Int) (M2 : Mm), m_ < m → J7_row_57 s w n M m_ y_s_ y_n_ y_k M2 → I_57 [ar 0, ai y_s_, ai y_n_, ai y_k] M2) : wp (tb7 (csL cs7_row)) sh7 5 1 cX7_row [(57, [0, 1, 3, 4], I_57)] Q 400 57 [(0, ar 0), (1, ai s_), (3, ai n_), (4, ai k)] [] M1 := by
  obtain ⟨rfl, rfl, ⟨hr, hn⟩, hk, a, rfl, ha, h1, h2, h3, rfl⟩ := hJ
  obtain ⟨q1, q2, q3⟩ := hr
  have i1 : ((60 : Int) * s + a).toNat = 60 * s.toNat + a := by omega
  simp only [e_wp dX7_row_0 rfl, e_wp dX7_row_1 rfl, e_wp dX7_row_2 rfl, e_wp dX7_row_5 rfl, e_wp dX7_row_6 rfl, e_wp dX7_row_9 rfl, e_wp dX7_row_12 rfl, e_wp dX7_row_13 rfl, e_wp dX7_row_14 rfl, e_wp dX7_row_15 rfl, e_wp dX7_row_18 rfl, e_wp dX7_row_21 rfl, e_wp dX7_row_24 rfl, e_wp dX7_row_25 rfl, e_wp dX7_row_27 rfl, e_wp dX7_row_30 rfl, e_wp dX7_row_32 rfl, e_wp dX7_row_33 rfl, e_wp dX7_row_34 rfl, e_wp dX7_row_37 rfl, e_wp dX7_row_39 rfl, e_wp dX7_row_40 rfl, e_wp dX7_row_41 rfl, e_wp dX7_row_44 rfl, e_wp dX7_row_45 rfl, e_wp dX7_row_46 rfl, e_wp dX7_row_47 rfl, e_wp dX7_row_48 rfl, e_wp dX7_row_51 rfl, e_wp dX7_row_52 rfl, e_wp dX7_row_53 rfl, e_wp dX7_row_54 rfl, e_wp dX7_row_55 rfl, e_wp dX7_row_57 rfl, e_wp dX7_row_59 rfl, e_wp dX7_row_60 rfl, e_wp dX7_row_63 rfl, e_wp dX7_row_64 rfl, e_wp dX7_row_67 rfl, e_wp dX7_row_69 rfl, e_wp dX7_row_70 rfl, e_wp dX7_row_71 rfl, e_wp dX7_row_73 rfl, e_wp dX7_row_74 rfl, e_wp dX7_row_75 rfl, e_wp dX7_row_76 rfl, e_wp dX7_row_79 rfl, e_wp dX7_row_82 rfl, e_wp dX7_row_83 rfl, p7_116, c7_isSlot, P7_isSlot, V7_isSlot, cs7_row, k7_119, c7_in, P7_in, V7_in, g7_7, g7_13, g7_16, a7_1, w7_1, a7_2, w7_2, a7_3, w7_3, a7_4, w7_4, a7_5, w7_5, a7_6, w7_6, a7_7, w7_7, a7_8, w7_8, a7_9, w7_9, a7_10, w7_10, a7_11, w7_11, a7_12, w7_12, a7_13, w7_13, a7_14, w7_14, a7_15, w7_15, a7_16, w7_16, a7_17, w7_17, a7_18, w7_18, a7_19, w7_19, a7_20, w7_20, a7_21, w7_21, a7_22, w7_22, a7_23, w7_23, a7_24, w7_24, a7_25, w7_25, a7_26, w7_26, a7_27, w7_27, a7_28, w7_28, a7_29, w7_29, a7_30, w7_30, a7_31, w7_31, a7_32, w7_32, a7_33, w7_33, e_iconst, e_bipush, e_sipush, e_lconst_0, e_lconst_1, e_iload, e_iload_0, e_iload_1, e_iload_2, e_iload_3, e_lload, e_lload_0, e_lload_1, e_lload_2, e_lload_3, e_aload, e_aload_0, e_aload_1, e_aload_2, e_aload_3, e_istore, e_istore_0, e_istore_1, e_istore_2, e_istore_3, e_astore, e_astore_0, e_astore_1, e_astore_2, e_astore_3, e_lstore, e_lstore_0, e_lstore_1, e_lstore_2, e_lstore_3, e_iinc, e_iadd, e_isub, e_imul, e_ladd, e_lsub, e_lmul, e_idiv, e_irem, e_ldiv, e_lrem, e_ineg, e_lneg, e_iand, e_ior, e_ixor, e_ishl, e_ishr, e_iushr, e_lcmp, e_i2l, e_l2i, e_i2b, e_i2s, e_dup_i, e_dup_r, e_pop_i, e_pop_r, e_dup2_l, e_dup2_ir, e_dup2_ii, e_ifeq, e_ifne, e_iflt, e_ifge, e_ifgt, e_ifle, e_iceq, e_icne, e_iclt, e_icge, e_icgt, e_icle, e_goto, e_switch, e_invokevirtual, e_invokestatic, e_invokespecial, e_ret0, e_ret1, e_ret2, e_ret3, ldI_s, ldL_s, ldR_s, clO_s, ctP_s, ctS_s, mgo_0, mgo_s, pjc_s, pj_0, pj_s, lk_s, rm1_0, rm1_i, rm1_r, rm1_l, rm2_0, rm2_i, rm2_r, rm2_l, csL_s, lc_lt, lc_ge, lc_gt, lc_le, lc_eq, b01_0, b01_1, b01_01, b01_n, up2_o, up2_s, up2_u, ne_eq, reduceCtorEq, Nat.reduceAdd, Nat.reduceEqDiff, Nat.reduceLT, Nat.reduceLeDiff, Int.reduceLE, Int.reduceLT, Int.reduceAdd, Int.reduceNeg, Int.reduceMul, Int.reduceSub, Int.reduceEq, Int.reduceToNat, Int.reduceNatCast, Int.cast_ofNat_Int, ↓reduceIte, and_self, List.drop_succ_cons, List.drop_zero, List.take_succ_cons, List.take_zero, List.length_cons, List.length_nil, List.reverse_cons, List.reverse_nil, List.nil_append, List.cons_append, Option.toList, true_and, and_true, or_false, false_or, or_true, true_or, forall_const, Classical.not_not, not_false_eq_true, not_true_eq_false, false_implies, true_implies, implies_true, imp_self, i1]
  refine ⟨fun q => hQ _ _ ⟨hk, ((if_pos ⟨q1, q2, q3⟩).trans (if_neg (by omega))).symm, fun k hk4 => ?_⟩, fun q => ?_⟩
  · obtain ⟨y1, y2⟩ := h1 k hk4
    rw [show N_row (slM M) s w n k = if k = s.toNat then ((w, n), fun _ => 0) else slM M k from congrFun (if_pos ⟨⟨q1, q2, q3⟩, hn⟩) k]
    unfold slM
    rw [y1, y2]
    by_cases e : k = s.toNat
    · rw [if_pos e, if_pos e, if_pos e, e]
      refine Prod.ext rfl (funext fun j => ?_)
      show (if (j : Int) < n then M1 3 (60 * s.toNat + j) else 0) = 0
      split
      · exact h3 j (by omega)
      · rfl
    · rw [if_neg e, if_neg e, if_neg e]
      refine Prod.ext rfl (funext fun j => ?_)
      show (if (j : Int) < M 2 k then M1 3 (60 * k + j) else 0) = (if (j : Int) < M 2 k then M 3 (60 * k + j) else 0)
      have hb := (hP k hk4).2
      by_cases z : (j : Int) < M 2 k
      · rw [if_pos z, if_pos z, h2 _ (by omega)]
      · rw [if_neg z, if_neg z]
  · repeat (refine And.intro (by omega) ?_)
    refine hI_57 (60 - (a + 1)) _ _ _ _ (by omega) ⟨rfl, rfl, ⟨⟨q1, q2, q3⟩, hn⟩, keepW_u hk (by decide), a + 1, by omega, by omega, h1, fun j hj => ?_, fun j hj => ?_, rfl⟩
    · rw [up2_n (by omega)]; exact h2 j hj
    · by_cases e : j = a
      · rw [e, up2_s]
      · rw [up2_n (by omega)]; exact h3 j (by omega)
set_option maxHeartbeats 4000000 in
set_option maxRecDepth 100000 in
theorem m7_row : MOK cl7 sh7 tyl7 [] 2 yX7_row cX7_row 5 (some .int) sp7_row := by
  refine mok_of (own := RX7) (tb := tb7 (csL cs7_row)) (rt := 1) (fuel := 400) (fun avs M Q => [(57, [0, 1, 3, 4], fun m_ vs M1 => ∃ y_s_ : Int, ∃ y_n_ : Int, ∃ y_k : Int, vs = [ar 0, ai y_s_, ai y_n_, ai y_k] ∧ J7_row_57 (pa true [0, 0, 0] avs 0) (pa true [0, 0, 0] avs 1) (pa true [0, 0, 0] avs 2) M m_ y_s_ y_n_ y_k M1)]) (by decide) rfl nil_nw (tbOK7 _) rfl (csL_all ?_) ?_ ?_ ?_
  · intro q hq
    simp only [cs7_row, List.mem_cons, List.not_mem_nil, or_false] at hq
    rcases hq with rfl | rfl
    · exact cg7_isSlot (by decide)
    · exact cg7_in (by decide)
  · intro avs M Q hsp
    obtain ⟨xs, hx⟩ := spR_un _ _ _ hsp
    obtain ⟨e, hl⟩ := unA_mkT hx
    obtain ⟨s, w, n, rfl⟩ := len3 hl
    have e : avs = [ar 0, ai s, ai w, ai n] := e
    subst e
    simp [szL, isL]
  · intro avs M Q hM hav hsp
    obtain ⟨xs, hx⟩ := spR_un _ _ _ hsp
    obtain ⟨e, hl⟩ := unA_mkT hx
    obtain ⟨s, w, n, rfl⟩ := len3 hl
    have e : avs = [ar 0, ai s, ai w, ai n] := e
    subst e
    exact in7_row hM (hav (ai s) (by simp)) (hav (ai w) (by simp)) (hav (ai n) (by simp)) hsp.1 hsp.2 _ (fun m_ y_s_ y_n_ y_k M2 hJ => ⟨m_, y_s_, y_n_, y_k, rfl, hJ⟩)
  · intro avs M Q hM hav hsp q hq m_ vs M1 hM1 hv hJ
    obtain ⟨xs, hx⟩ := spR_un _ _ _ hsp
    obtain ⟨e, hl⟩ := unA_mkT hx
    obtain ⟨s, w, n, rfl⟩ := len3 hl
    have e : avs = [ar 0, ai s, ai w, ai n] := e
    subst e
    simp only [List.mem_cons, List.not_mem_nil, or_false] at hq
    rcases hq with rfl
    · obtain ⟨y_s_, y_n_, y_k, rfl, hJ⟩ := hJ
      exact at7_row_57 hM (hav (ai s) (by simp)) (hav (ai w) (by simp)) (hav (ai n) (by simp)) hsp.1 hsp.2 hM1 (hv (1, ai y_s_) (List.mem_of_getElem? (i := 1) rfl)) (hv (3, ai y_n_) (List.mem_of_getElem? (i := 2) rfl)) (hv (4, ai y_k) (List.mem_of_getElem? (i := 3) rfl)) hJ _ (fun m2 z_s_ z_n_ z_k M2 hm hJ2 => ⟨m2, hm, z_s_, z_n_, z_k, rfl, hJ2⟩)
/-- a number cut to a width -/
def cutP (v w : Int) : Int := if w = 0 then (v.bmod 4294967296).bmod 256 else if w = 1 then (v.bmod 4294967296).bmod 65536 else if w = 2 then v.bmod 4294967296 else v
def P7_cut (v : Int) (w : Int) (M : Mm) : Prop := True
def V7_cut (v : Int) (w : Int) (M : Mm) : Int := cutP v w
def sp7_cut : Spec := spF false [1, 0] 2 (fun x M => P7_cut (x 0) (x 1) M) (fun x M => V7_cut (x 0) (x 1) M)
theorem c7_cut {v w : Int} {M : Mm} {Q : Option AV → Mm → Prop} : sp7_cut [al v, ai w] M Q = (P7_cut v w M ∧ Q (some (al (V7_cut v w M))) M) := rfl
def cs7_cut : List (Nat × Nat × Nat × Spec) := []
set_option maxHeartbeats 4000000 in
set_option maxRecDepth 100000 in
theorem in7_cut {v w : Int} {M : Mm} {Q : Option AV → Mm → Prop} (hM : okM sh7 M) (h_v : i64 v) (h_w : i32 w) (hP : P7_cut v w M) (hQ : Q (some (al (V7_cut v w M))) M) : wp (tb7 (csL cs7_cut)) sh7 3 3 cX7_cut [] Q 400 0 [(0, al v), (2, ai w)] [] M := by
  have hV : V7_cut v w M = if w = 0 then (v.bmod 4294967296).bmod 256 else if w = 1 then (v.bmod 4294967296).bmod 65536 else if w = 2 then v.bmod 4294967296 else v := rfl
  rw [hV] at hQ
  simp only [e_wp dX7_cut_0 rfl, e_wp dX7_cut_1 rfl, e_wp dX7_cut_4 rfl, e_wp dX7_cut_5 rfl, e_wp dX7_cut_6 rfl, e_wp dX7_cut_7 rfl, e_wp dX7_cut_8 rfl, e_wp dX7_cut_11 rfl, e_wp dX7_cut_12 rfl, e_wp dX7_cut_13 rfl, e_wp dX7_cut_16 rfl, e_wp dX7_cut_17 rfl, e_wp dX7_cut_18 rfl, e_wp dX7_cut_19 rfl, e_wp dX7_cut_20 rfl, e_wp dX7_cut_23 rfl, e_wp dX7_cut_24 rfl, e_wp dX7_cut_25 rfl, e_wp dX7_cut_28 rfl, e_wp dX7_cut_29 rfl, e_wp dX7_cut_30 rfl, e_wp dX7_cut_31 rfl, e_wp dX7_cut_34 rfl, e_wp dX7_cut_35 rfl, e_iconst, e_bipush, e_sipush, e_lconst_0, e_lconst_1, e_iload, e_iload_0, e_iload_1, e_iload_2, e_iload_3, e_lload, e_lload_0, e_lload_1, e_lload_2, e_lload_3, e_aload, e_aload_0, e_aload_1, e_aload_2, e_aload_3, e_istore, e_istore_0, e_istore_1, e_istore_2, e_istore_3, e_astore, e_astore_0, e_astore_1, e_astore_2, e_astore_3, e_lstore, e_lstore_0, e_lstore_1, e_lstore_2, e_lstore_3, e_iinc, e_iadd, e_isub, e_imul, e_ladd, e_lsub, e_lmul, e_idiv, e_irem, e_ldiv, e_lrem, e_ineg, e_lneg, e_iand, e_ior, e_ixor, e_ishl, e_ishr, e_iushr, e_lcmp, e_i2l, e_l2i, e_i2b, e_i2s, e_dup_i, e_dup_r, e_pop_i, e_pop_r, e_dup2_l, e_dup2_ir, e_dup2_ii, e_ifeq, e_ifne, e_iflt, e_ifge, e_ifgt, e_ifle, e_iceq, e_icne, e_iclt, e_icge, e_icgt, e_icle, e_goto, e_switch, e_invokevirtual, e_invokestatic, e_invokespecial, e_ret0, e_ret1, e_ret2, e_ret3, ldI_s, ldL_s, ldR_s, clO_s, ctP_s, ctS_s, mgo_0, mgo_s, pjc_s, pj_0, pj_s, lk_s, rm1_0, rm1_i, rm1_r, rm1_l, rm2_0, rm2_i, rm2_r, rm2_l, csL_s, lc_lt, lc_ge, lc_gt, lc_le, lc_eq, b01_0, b01_1, b01_01, b01_n, up2_o, up2_s, up2_u, ne_eq, reduceCtorEq, Nat.reduceAdd, Nat.reduceEqDiff, Nat.reduceLT, Nat.reduceLeDiff, Int.reduceLE, Int.reduceLT, Int.reduceAdd, Int.reduceNeg, Int.reduceMul, Int.reduceSub, Int.reduceEq, Int.reduceToNat, Int.reduceNatCast, Int.cast_ofNat_Int, ↓reduceIte, and_self, List.drop_succ_cons, List.drop_zero, List.take_succ_cons, List.take_zero, List.length_cons, List.length_nil, List.reverse_cons, List.reverse_nil, List.nil_append, List.cons_append, Option.toList, true_and, and_true, or_false, false_or, or_true, true_or, forall_const, Classical.not_not, not_false_eq_true, not_true_eq_false, false_implies, true_implies, implies_true, imp_self]
  refine ⟨fun q => ⟨fun z => ⟨fun y => ?_, fun y => ?_⟩, fun z => ?_⟩, fun q => ?_⟩ <;> simp_all
set_option maxHeartbeats 4000000 in
set_option maxRecDepth 100000 in
theorem m7_cut : MOK cl7 sh7 tyl7 [] 0 yX7_cut cX7_cut 3 (some .long) sp7_cut := by
  refine mok_of (own := RX7) (tb := tb7 (csL cs7_cut)) (rt := 3) (fuel := 400) (fun avs M Q => []) (by decide) rfl nil_nw (tbOK7 _) rfl (csL_all ?_) ?_ ?_ ?_
  · intro q hq; cases hq
  · intro avs M Q hsp
    obtain ⟨xs, hx⟩ := spF_un _ _ _ hsp
    obtain ⟨e, hl⟩ := unA_mk hx
    obtain ⟨v, w, rfl⟩ := len2 hl
    have e : avs = [al v, ai w] := e
    subst e
    simp [szL, isL]
  · intro avs M Q hM hav hsp
    obtain ⟨xs, hx⟩ := spF_un _ _ _ hsp
    obtain ⟨e, hl⟩ := unA_mk hx
    obtain ⟨v, w, rfl⟩ := len2 hl
    have e : avs = [al v, ai w] := e
    subst e
    exact in7_cut hM (hav (al v) (by simp)) (hav (ai w) (by simp)) hsp.1 hsp.2
  · intro avs M Q hM hav hsp q hq m_ vs M1 hM1 hv hJ
    obtain ⟨xs, hx⟩ := spF_un _ _ _ hsp
    obtain ⟨e, hl⟩ := unA_mk hx
    obtain ⟨v, w, rfl⟩ := len2 hl
    have e : avs = [al v, ai w] := e
    subst e
    cases hq
theorem cg7_cut {lvl : Nat} (h : 0 < lvl) : CG RX7 cl7 sh7 tyl7 [] lvl 0 129 2 sp7_cut := cg_S (sg := [1, 0]) nil_nw spF_mono spF_un m7_cut h rfl (by decide) ⟨by decide, by decide, rfl⟩ q1674 q1675 q138 q1676
abbrev wrtP (sl : Nat → Sl) (s i : Int) : Prop := (0 ≤ s ∧ s ≤ 3) ∧ ¬ (sl s.toNat).1.1 = -1 ∧ 0 ≤ i ∧ i < (sl s.toNat).1.2
def A_write (sl : Nat → Sl) (s i : Int) : Int := if 0 ≤ s ∧ s ≤ 3 then (if (sl s.toNat).1.1 = -1 then -6 else if 0 ≤ i ∧ i < (sl s.toNat).1.2 then 0 else -7) else -2
def N_write (sl : Nat → Sl) (s i x : Int) : Nat → Sl := if wrtP sl s i then upS sl s.toNat ((sl s.toNat).1, fun j => if j = i.toNat then cutP x (sl s.toNat).1.1 else (sl s.toNat).2 j) else sl
def P7_write (s : Int) (i : Int) (x : Int) (M : Mm) : Prop := ok4 M
def R7_write (s : Int) (i : Int) (x : Int) (M : Mm) (v : Int) (M1 : Mm) : Prop := keepW M M1 ∧ v = A_write (slM M) s i ∧ ∀ k : Nat, k < 4 → slM M1 k = N_write (slM M) s i x k
def sp7_write : Spec := spR true [0, 0, 1] 1 (fun x M => P7_write (x 0) (x 1) (x 2) M) (fun x M v M1 => R7_write (x 0) (x 1) (x 2) M v M1)
theorem c7_write {s i x : Int} {M : Mm} {Q : Option AV → Mm → Prop} : sp7_write [ar 0, ai s, ai i, al x] M Q = (P7_write s i x M ∧ ∀ (v : Int) (M1 : Mm), R7_write s i x M v M1 → Q (some (ai v)) M1) := rfl
def cs7_write : List (Nat × Nat × Nat × Spec) := [(125, 0, 1, sp7_isSlot), (121, 0, 3, sp7_in), (129, 0, 2, sp7_cut)]
set_option maxHeartbeats 4000000 in
set_option maxRecDepth 100000 in
theorem in7_write {s i x : Int} {M : Mm} {Q : Option AV → Mm → Prop} (hM : okM sh7 M) (h_s : i32 s) (h_i : i32 i) (h_x : i64 x) (hP : P7_write s i x M) (hQ : ∀ (v : Int) (M1 : Mm), R7_write s i x M v M1 → Q (some (ai v)) M1) : wp (tb7 (csL cs7_write)) sh7 5 1 cX7_write [] Q 400 0 [(0, ar 0), (1, ai s), (2, ai i), (3, al x)] [] M := by
  have hk0 : keepM M (up2 M 0 0 0) := keep_u0 keep_rf (by decide)
  have no : ∀ y, y = A_write (slM M) s i → ¬ wrtP (slM M) s i → Q (some (ai y)) (up2 M 0 0 0) := by
    rintro y rfl q
    exact hQ _ _ ⟨keepW_of hk0, rfl, fun k hk => by rw [slM_eq hk0]; exact (congrFun (if_neg q) k).symm⟩
  simp only [e_wp dX7_write_0 rfl, e_wp dX7_write_1 rfl, e_wp dX7_write_2 rfl, e_wp dX7_write_5 rfl, e_wp dX7_write_6 rfl, e_wp dX7_write_9 rfl, e_wp dX7_write_12 rfl, e_wp dX7_write_14 rfl, e_wp dX7_write_15 rfl, e_wp dX7_write_16 rfl, e_wp dX7_write_19 rfl, e_wp dX7_write_20 rfl, e_wp dX7_write_21 rfl, e_wp dX7_write_22 rfl, e_wp dX7_write_25 rfl, e_wp dX7_write_27 rfl, e_wp dX7_write_28 rfl, e_wp dX7_write_29 rfl, e_wp dX7_write_30 rfl, e_wp dX7_write_31 rfl, e_wp dX7_write_32 rfl, e_wp dX7_write_35 rfl, e_wp dX7_write_36 rfl, e_wp dX7_write_37 rfl, e_wp dX7_write_38 rfl, e_wp dX7_write_39 rfl, e_wp dX7_write_40 rfl, e_wp dX7_write_43 rfl, e_wp dX7_write_46 rfl, e_wp dX7_write_48 rfl, e_wp dX7_write_49 rfl, e_wp dX7_write_50 rfl, e_wp dX7_write_53 rfl, e_wp dX7_write_55 rfl, e_wp dX7_write_56 rfl, e_wp dX7_write_57 rfl, e_wp dX7_write_58 rfl, e_wp dX7_write_59 rfl, e_wp dX7_write_60 rfl, e_wp dX7_write_61 rfl, e_wp dX7_write_64 rfl, e_wp dX7_write_65 rfl, e_wp dX7_write_66 rfl, e_wp dX7_write_69 rfl, e_wp dX7_write_70 rfl, e_wp dX7_write_71 rfl, p7_116, c7_isSlot, P7_isSlot, V7_isSlot, cs7_write, g7_7, g7_13, c7_in, P7_in, V7_in, g7_16, c7_cut, P7_cut, V7_cut, a7_1, w7_1, a7_2, w7_2, a7_3, w7_3, a7_4, w7_4, a7_5, w7_5, a7_6, w7_6, a7_7, w7_7, a7_8, w7_8, a7_9, w7_9, a7_10, w7_10, a7_11, w7_11, a7_12, w7_12, a7_13, w7_13, a7_14, w7_14, a7_15, w7_15, a7_16, w7_16, a7_17, w7_17, a7_18, w7_18, a7_19, w7_19, a7_20, w7_20, a7_21, w7_21, a7_22, w7_22, a7_23, w7_23, a7_24, w7_24, a7_25, w7_25, a7_26, w7_26, a7_27, w7_27, a7_28, w7_28, a7_29, w7_29, a7_30, w7_30, a7_31, w7_31, a7_32, w7_32, a7_33, w7_33, e_iconst, e_bipush, e_sipush, e_lconst_0, e_lconst_1, e_iload, e_iload_0, e_iload_1, e_iload_2, e_iload_3, e_lload, e_lload_0, e_lload_1, e_lload_2, e_lload_3, e_aload, e_aload_0, e_aload_1, e_aload_2, e_aload_3, e_istore, e_istore_0, e_istore_1, e_istore_2, e_istore_3, e_astore, e_astore_0, e_astore_1, e_astore_2, e_astore_3, e_lstore, e_lstore_0, e_lstore_1, e_lstore_2, e_lstore_3, e_iinc, e_iadd, e_isub, e_imul, e_ladd, e_lsub, e_lmul, e_idiv, e_irem, e_ldiv, e_lrem, e_ineg, e_lneg, e_iand, e_ior, e_ixor, e_ishl, e_ishr, e_iushr, e_lcmp, e_i2l, e_l2i, e_i2b, e_i2s, e_dup_i, e_dup_r, e_pop_i, e_pop_r, e_dup2_l, e_dup2_ir, e_dup2_ii, e_ifeq, e_ifne, e_iflt, e_ifge, e_ifgt, e_ifle, e_iceq, e_icne, e_iclt, e_icge, e_icgt, e_icle, e_goto, e_switch, e_invokevirtual, e_invokestatic, e_invokespecial, e_ret0, e_ret1, e_ret2, e_ret3, ldI_s, ldL_s, ldR_s, clO_s, ctP_s, ctS_s, mgo_0, mgo_s, pjc_s, pj_0, pj_s, lk_s, rm1_0, rm1_i, rm1_r, rm1_l, rm2_0, rm2_i, rm2_r, rm2_l, csL_s, lc_lt, lc_ge, lc_gt, lc_le, lc_eq, b01_0, b01_1, b01_01, b01_n, up2_o, up2_s, up2_u, ne_eq, reduceCtorEq, Nat.reduceAdd, Nat.reduceEqDiff, Nat.reduceLT, Nat.reduceLeDiff, Int.reduceLE, Int.reduceLT, Int.reduceAdd, Int.reduceNeg, Int.reduceMul, Int.reduceSub, Int.reduceEq, Int.reduceToNat, Int.reduceNatCast, Int.cast_ofNat_Int, ↓reduceIte, and_self, List.drop_succ_cons, List.drop_zero, List.take_succ_cons, List.take_zero, List.length_cons, List.length_nil, List.reverse_cons, List.reverse_nil, List.nil_append, List.cons_append, Option.toList, true_and, and_true, or_false, false_or, or_true, true_or, forall_const, Classical.not_not, not_false_eq_true, not_true_eq_false, false_implies, true_implies, implies_true, imp_self]
  refine ⟨fun q => ⟨by omega, fun z => ?_, fun z => no _ ((if_pos q).trans (if_pos z)).symm (fun y => y.2.1 z)⟩, fun q => no _ (if_neg q).symm (fun z => q z.1)⟩
  obtain ⟨hs, hs2⟩ := hP s.toNat (by omega)
  have i1 : ((60 : Int) * s + i).toNat = 60 * s.toNat + i.toNat ∨ ¬ 0 ≤ i := by omega
  repeat (refine And.intro (by omega) ?_)
  have c1 : ¬ (0 ≤ i ∧ i ≤ M 2 s.toNat - 1) → Q (some (ai (-7))) (up2 M 0 0 0) := fun y => no _ ((if_pos q).trans ((if_neg z).trans (if_neg (by show ¬ (0 ≤ i ∧ i < M 2 s.toNat); omega)))).symm (fun u => y (by have u2 : 0 ≤ i ∧ i < M 2 s.toNat := u.2.2; omega))
  have c2 : (0 ≤ i ∧ i ≤ M 2 s.toNat - 1) → i32 (60 * s) ∧ i32 (60 * s + i) ∧ (0 ≤ s ∧ s < 4) ∧ (0 ≤ 60 * s + i ∧ 60 * s + i < 240) ∧ Q (some (ai 0)) (up2 (up2 M 0 0 0) 3 (60 * s + i).toNat (cutP x (M 1 s.toNat))) := by
    intro y
    refine ⟨by omega, by omega, by omega, by omega, ?_⟩
    have w1 : wrtP (slM M) s i := ⟨q, z, by show 0 ≤ i ∧ i < M 2 s.toNat; omega⟩
    refine hQ _ _ ⟨keepW_u (keepW_of hk0) (by decide), ((if_pos q).trans ((if_neg z).trans (if_pos w1.2.2))).symm, fun k hk => ?_⟩
    rw [show N_write (slM M) s i x k = if k = s.toNat then ((slM M s.toNat).1, fun j => if j = i.toNat then cutP x (slM M s.toNat).1.1 else (slM M s.toNat).2 j) else slM M k from congrFun (if_pos w1) k]
    have i2 : (60 * s + i).toNat = 60 * s.toNat + i.toNat := by omega
    rw [i2]
    by_cases e : k = s.toNat
    · rw [if_pos e, e]
      refine Prod.ext rfl (funext fun j => ?_)
      show (if (j : Int) < M 2 s.toNat then up2 (up2 M 0 0 0) 3 (60 * s.toNat + i.toNat) (cutP x (M 1 s.toNat)) 3 (60 * s.toNat + j) else 0) = (if j = i.toNat then cutP x (M 1 s.toNat) else (if (j : Int) < M 2 s.toNat then M 3 (60 * s.toNat + j) else 0))
      by_cases u : j = i.toNat
      · rw [if_pos u, u, up2_s, if_pos (by omega)]
      · rw [if_neg u, up2_n (by omega)]; rfl
    · rw [if_neg e]
      refine Prod.ext rfl (funext fun j => ?_)
      show (if (j : Int) < M 2 k then up2 (up2 M 0 0 0) 3 (60 * s.toNat + i.toNat) (cutP x (M 1 s.toNat)) 3 (60 * k + j) else 0) = (if (j : Int) < M 2 k then M 3 (60 * k + j) else 0)
      have hb := (hP k hk).2
      by_cases u : (j : Int) < M 2 k
      · rw [if_pos u, if_pos u, up2_n (by omega)]; rfl
      · rw [if_neg u, if_neg u]
  first
  | exact ⟨c2, c1⟩
  | (refine ⟨fun y => ?_, fun y => c1 y⟩; obtain ⟨d1, d2, d3, d4, d5⟩ := c2 y; (repeat' (refine And.intro ?_ ?_)) <;> first | assumption | omega)
set_option maxHeartbeats 4000000 in
set_option maxRecDepth 100000 in
theorem m7_write : MOK cl7 sh7 tyl7 [] 2 yX7_write cX7_write 5 (some .int) sp7_write := by
  refine mok_of (own := RX7) (tb := tb7 (csL cs7_write)) (rt := 1) (fuel := 400) (fun avs M Q => []) (by decide) rfl nil_nw (tbOK7 _) rfl (csL_all ?_) ?_ ?_ ?_
  · intro q hq
    simp only [cs7_write, List.mem_cons, List.not_mem_nil, or_false] at hq
    rcases hq with rfl | rfl | rfl
    · exact cg7_isSlot (by decide)
    · exact cg7_in (by decide)
    · exact cg7_cut (by decide)
  · intro avs M Q hsp
    obtain ⟨xs, hx⟩ := spR_un _ _ _ hsp
    obtain ⟨e, hl⟩ := unA_mkT hx
    obtain ⟨s, i, x, rfl⟩ := len3 hl
    have e : avs = [ar 0, ai s, ai i, al x] := e
    subst e
    simp [szL, isL]
  · intro avs M Q hM hav hsp
    obtain ⟨xs, hx⟩ := spR_un _ _ _ hsp
    obtain ⟨e, hl⟩ := unA_mkT hx
    obtain ⟨s, i, x, rfl⟩ := len3 hl
    have e : avs = [ar 0, ai s, ai i, al x] := e
    subst e
    exact in7_write hM (hav (ai s) (by simp)) (hav (ai i) (by simp)) (hav (al x) (by simp)) hsp.1 hsp.2
  · intro avs M Q hM hav hsp q hq m_ vs M1 hM1 hv hJ
    obtain ⟨xs, hx⟩ := spR_un _ _ _ hsp
    obtain ⟨e, hl⟩ := unA_mkT hx
    obtain ⟨s, i, x, rfl⟩ := len3 hl
    have e : avs = [ar 0, ai s, ai i, al x] := e
    subst e
    cases hq
abbrev pstP (sl : Nat → Sl) (s i t k n : Int) : Prop := ((0 ≤ s ∧ s ≤ 3) ∧ 0 ≤ t ∧ t ≤ 3) ∧ (¬ (sl s.toNat).1.1 = -1 ∧ ¬ (sl t.toNat).1.1 = -1) ∧ (sl s.toNat).1.1 = (sl t.toNat).1.1 ∧ 0 ≤ i ∧ 0 ≤ k ∧ 0 ≤ n ∧ i + n ≤ (sl s.toNat).1.2 ∧ k + n ≤ (sl t.toNat).1.2
def A_paste (sl : Nat → Sl) (s i t k n : Int) : Int := if (0 ≤ s ∧ s ≤ 3) ∧ 0 ≤ t ∧ t ≤ 3 then (if ¬ (sl s.toNat).1.1 = -1 ∧ ¬ (sl t.toNat).1.1 = -1 then (if (sl s.toNat).1.1 = (sl t.toNat).1.1 then (if 0 ≤ i ∧ 0 ≤ k ∧ 0 ≤ n ∧ i + n ≤ (sl s.toNat).1.2 ∧ k + n ≤ (sl t.toNat).1.2 then 0 else -7) else -8) else -6) else -2
def N_paste (sl : Nat → Sl) (s i t k n : Int) : Nat → Sl := if pstP sl s i t k n then upS sl t.toNat ((sl t.toNat).1, fun j => if k ≤ (j : Int) ∧ (j : Int) < k + n then (sl s.toNat).2 (i.toNat + (j - k.toNat)) else (sl t.toNat).2 j) else sl
def P7_paste (s : Int) (i : Int) (t : Int) (k : Int) (n : Int) (M : Mm) : Prop := ok4 M
def R7_paste (s : Int) (i : Int) (t : Int) (k : Int) (n : Int) (M : Mm) (v : Int) (M1 : Mm) : Prop := keepW M M1 ∧ v = A_paste (slM M) s i t k n ∧ ∀ z : Nat, z < 4 → slM M1 z = N_paste (slM M) s i t k n z
def sp7_paste : Spec := spR true [0, 0, 0, 0, 0] 1 (fun x M => P7_paste (x 0) (x 1) (x 2) (x 3) (x 4) M) (fun x M v M1 => R7_paste (x 0) (x 1) (x 2) (x 3) (x 4) M v M1)
theorem c7_paste {s i t k n : Int} {M : Mm} {Q : Option AV → Mm → Prop} : sp7_paste [ar 0, ai s, ai i, ai t, ai k, ai n] M Q = (P7_paste s i t k n M ∧ ∀ (v : Int) (M1 : Mm), R7_paste s i t k n M v M1 → Q (some (ai v)) M1) := rfl
def cs7_paste : List (Nat × Nat × Nat × Spec) := [(125, 0, 1, sp7_isSlot)]
def J7_paste_118 (s : Int) (i : Int) (t : Int) (k : Int) (n : Int) (M : Mm) (m : Nat) (s_ : Int) (i_ : Int) (t_ : Int) (k_ : Int) (n_ : Int) (x : Int) (M1 : Mm) : Prop := s = s_ ∧ i = i_ ∧ t = t_ ∧ k = k_ ∧ n = n_ ∧ pstP (slM M) s i t k n ∧ keepM M M1 ∧ ∃ a : Nat, x = a ∧ (a : Int) ≤ n ∧ (∀ j : Nat, j < a → M1 4 j = M 3 (60 * s.toNat + i.toNat + j)) ∧ m = 1000 + (60 - a)
def J7_paste_155 (s : Int) (i : Int) (t : Int) (k : Int) (n : Int) (M : Mm) (m : Nat) (t_ : Int) (k_ : Int) (n_ : Int) (x : Int) (M1 : Mm) : Prop := t = t_ ∧ k = k_ ∧ n = n_ ∧ pstP (slM M) s i t k n ∧ keepW M M1 ∧ M1 1 = M 1 ∧ M1 2 = M 2 ∧ (∀ j : Nat, (j : Int) < n → M1 4 j = M 3 (60 * s.toNat + i.toNat + j)) ∧ ∃ a : Nat, x = a ∧ (a : Int) ≤ n ∧ (∀ j : Nat, j < a → M1 3 (60 * t.toNat + k.toNat + j) = M 3 (60 * s.toNat + i.toNat + j)) ∧ (∀ j : Nat, ¬ (60 * t.toNat + k.toNat ≤ j ∧ j < 60 * t.toNat + k.toNat + a) → M1 3 j = M 3 j) ∧ m = 60 - a
set_option maxHeartbeats 4000000 in
set_option maxRecDepth 100000 in
theorem in7_paste {s i t k n : Int} {M : Mm} {Q : Option AV → Mm → Prop} (hM : okM sh7 M) (h_s : i32 s) (h_i : i32 i) (h_t : i32 t) (h_k : i32 k) (h_n : i32 n) (hP : P7_paste s i t k n M) (hQ : ∀ (v : Int) (M1 : Mm), R7_paste s i t k n M v M1 → Q (some (ai v)) M1) (I_118 : List AV → Mm → Prop) (hI_118 : ∀ (m_ : Nat) (y_s_ : Int) (y_i_ : Int) (y_t_ : Int) (y_k_ : Int) (y_n_ : Int) (y_x : Int) (M2 : Mm), J7_paste_118 s i t k n M m_ y_s_ y_i_ y_t_ y_k_ y_n_ y_x M2 → I_118 [ar 0, ai y_s_, ai y_i_, ai y_t_, ai y_k_, ai y_n_, ai y_x] M2) (I_155 : List AV → Mm → Prop) (hI_155 : ∀ (m_ : Nat) (y_t_ : Int) (y_k_ : Int) (y_n_ : Int) (y_x : Int) (M2 : Mm), J7_paste_155 s i t k n M m_ y_t_ y_k_ y_n_ y_x M2 → I_155 [ar 0, ai y_t_, ai y_k_, ai y_n_, ai y_x] M2) : wp (tb7 (csL cs7_paste)) sh7 7 1 cX7_paste [(118, [0, 1, 2, 3, 4, 5, 6], I_118), (155, [0, 3, 4, 5, 6], I_155)] Q 400 0 [(0, ar 0), (1, ai s), (2, ai i), (3, ai t), (4, ai k), (5, ai n)] [] M := by
  have hk0 : keepM M (up2 M 0 0 0) := keep_u0 keep_rf (by decide)
  have no : ∀ y, y = A_paste (slM M) s i t k n → ¬ pstP (slM M) s i t k n → Q (some (ai y)) (up2 M 0 0 0) := by
    rintro y rfl q
    exact hQ _ _ ⟨keepW_of hk0, rfl, fun z hz => by rw [slM_eq hk0]; exact (congrFun (if_neg q) z).symm⟩
  have b2 : ¬ ((0 ≤ s ∧ s ≤ 3) ∧ 0 ≤ t ∧ t ≤ 3) → Q (some (ai (-2))) (up2 M 0 0 0) := fun q => no _ (if_neg q).symm (fun z => q z.1)
  have b6 : ((0 ≤ s ∧ s ≤ 3) ∧ 0 ≤ t ∧ t ≤ 3) → ¬ (¬ M 1 s.toNat = -1 ∧ ¬ M 1 t.toNat = -1) → Q (some (ai (-6))) (up2 M 0 0 0) := fun q z => no _ ((if_pos q).trans (if_neg z)).symm (fun y => z y.2.1)
  have b8 : ((0 ≤ s ∧ s ≤ 3) ∧ 0 ≤ t ∧ t ≤ 3) → (¬ M 1 s.toNat = -1 ∧ ¬ M 1 t.toNat = -1) → ¬ M 1 s.toNat = M 1 t.toNat → Q (some (ai (-8))) (up2 M 0 0 0) := fun q z y => no _ ((if_pos q).trans ((if_pos z).trans (if_neg y))).symm (fun u => y u.2.2.1)
  have b7 : ((0 ≤ s ∧ s ≤ 3) ∧ 0 ≤ t ∧ t ≤ 3) → (¬ M 1 s.toNat = -1 ∧ ¬ M 1 t.toNat = -1) → M 1 s.toNat = M 1 t.toNat → ¬ (0 ≤ i ∧ 0 ≤ k ∧ 0 ≤ n ∧ i + n ≤ M 2 s.toNat ∧ k + n ≤ M 2 t.toNat) → Q (some (ai (-7))) (up2 M 0 0 0) := fun q z y u => no _ ((if_pos q).trans ((if_pos z).trans ((if_pos y).trans (if_neg u)))).symm (fun w => u w.2.2.2)
  have b0 : ((0 ≤ s ∧ s ≤ 3) ∧ 0 ≤ t ∧ t ≤ 3) → (¬ M 1 s.toNat = -1 ∧ ¬ M 1 t.toNat = -1) → M 1 s.toNat = M 1 t.toNat → (0 ≤ i ∧ 0 ≤ k ∧ 0 ≤ n ∧ i + n ≤ M 2 s.toNat ∧ k + n ≤ M 2 t.toNat) → I_118 [ar 0, ai s, ai i, ai t, ai k, ai n, ai 0] (up2 M 0 0 0) := fun q z y u => hI_118 (1000 + (60 - 0)) _ _ _ _ _ _ _ ⟨rfl, rfl, rfl, rfl, rfl, ⟨q, z, y, u⟩, hk0, 0, rfl, u.2.2.1, fun j hj => by omega, rfl⟩
  have hs := fun q : 0 ≤ s ∧ s ≤ 3 => (hP s.toNat (by omega)).2
  have ht := fun q : 0 ≤ t ∧ t ≤ 3 => (hP t.toNat (by omega)).2
  simp only [e_wp dX7_paste_0 rfl, e_wp dX7_paste_1 rfl, e_wp dX7_paste_2 rfl, e_wp dX7_paste_5 rfl, e_wp dX7_paste_6 rfl, e_wp dX7_paste_9 rfl, e_wp dX7_paste_12 rfl, e_wp dX7_paste_13 rfl, e_wp dX7_paste_16 rfl, e_wp dX7_paste_19 rfl, e_wp dX7_paste_21 rfl, e_wp dX7_paste_22 rfl, e_wp dX7_paste_23 rfl, e_wp dX7_paste_26 rfl, e_wp dX7_paste_27 rfl, e_wp dX7_paste_28 rfl, e_wp dX7_paste_29 rfl, e_wp dX7_paste_32 rfl, e_wp dX7_paste_33 rfl, e_wp dX7_paste_36 rfl, e_wp dX7_paste_37 rfl, e_wp dX7_paste_38 rfl, e_wp dX7_paste_39 rfl, e_wp dX7_paste_42 rfl, e_wp dX7_paste_44 rfl, e_wp dX7_paste_45 rfl, e_wp dX7_paste_46 rfl, e_wp dX7_paste_49 rfl, e_wp dX7_paste_50 rfl, e_wp dX7_paste_51 rfl, e_wp dX7_paste_52 rfl, e_wp dX7_paste_55 rfl, e_wp dX7_paste_56 rfl, e_wp dX7_paste_57 rfl, e_wp dX7_paste_60 rfl, e_wp dX7_paste_62 rfl, e_wp dX7_paste_63 rfl, e_wp dX7_paste_64 rfl, e_wp dX7_paste_67 rfl, e_wp dX7_paste_69 rfl, e_wp dX7_paste_72 rfl, e_wp dX7_paste_74 rfl, e_wp dX7_paste_77 rfl, e_wp dX7_paste_78 rfl, e_wp dX7_paste_79 rfl, e_wp dX7_paste_81 rfl, e_wp dX7_paste_82 rfl, e_wp dX7_paste_83 rfl, e_wp dX7_paste_84 rfl, e_wp dX7_paste_87 rfl, e_wp dX7_paste_88 rfl, e_wp dX7_paste_89 rfl, e_wp dX7_paste_90 rfl, e_wp dX7_paste_91 rfl, e_wp dX7_paste_94 rfl, e_wp dX7_paste_96 rfl, e_wp dX7_paste_97 rfl, e_wp dX7_paste_99 rfl, e_wp dX7_paste_100 rfl, e_wp dX7_paste_101 rfl, e_wp dX7_paste_102 rfl, e_wp dX7_paste_105 rfl, e_wp dX7_paste_106 rfl, e_wp dX7_paste_107 rfl, e_wp dX7_paste_108 rfl, e_wp dX7_paste_109 rfl, e_wp dX7_paste_112 rfl, e_wp dX7_paste_114 rfl, e_wp dX7_paste_115 rfl, e_wp dX7_paste_116 rfl, e_wp dX7_paste_118 rfl, e_wp dX7_paste_120 rfl, e_wp dX7_paste_122 rfl, e_wp dX7_paste_125 rfl, e_wp dX7_paste_126 rfl, e_wp dX7_paste_129 rfl, e_wp dX7_paste_131 rfl, e_wp dX7_paste_132 rfl, e_wp dX7_paste_135 rfl, e_wp dX7_paste_137 rfl, e_wp dX7_paste_138 rfl, e_wp dX7_paste_139 rfl, e_wp dX7_paste_140 rfl, e_wp dX7_paste_141 rfl, e_wp dX7_paste_143 rfl, e_wp dX7_paste_144 rfl, e_wp dX7_paste_145 rfl, e_wp dX7_paste_146 rfl, e_wp dX7_paste_149 rfl, e_wp dX7_paste_152 rfl, e_wp dX7_paste_153 rfl, e_wp dX7_paste_155 rfl, e_wp dX7_paste_157 rfl, e_wp dX7_paste_159 rfl, e_wp dX7_paste_162 rfl, e_wp dX7_paste_163 rfl, e_wp dX7_paste_166 rfl, e_wp dX7_paste_168 rfl, e_wp dX7_paste_169 rfl, e_wp dX7_paste_170 rfl, e_wp dX7_paste_172 rfl, e_wp dX7_paste_173 rfl, e_wp dX7_paste_175 rfl, e_wp dX7_paste_176 rfl, e_wp dX7_paste_177 rfl, e_wp dX7_paste_180 rfl, e_wp dX7_paste_182 rfl, e_wp dX7_paste_183 rfl, e_wp dX7_paste_184 rfl, e_wp dX7_paste_187 rfl, e_wp dX7_paste_190 rfl, e_wp dX7_paste_191 rfl, p7_116, c7_isSlot, P7_isSlot, V7_isSlot, cs7_paste, g7_7, g7_13, g7_20, g7_16, a7_1, w7_1, a7_2, w7_2, a7_3, w7_3, a7_4, w7_4, a7_5, w7_5, a7_6, w7_6, a7_7, w7_7, a7_8, w7_8, a7_9, w7_9, a7_10, w7_10, a7_11, w7_11, a7_12, w7_12, a7_13, w7_13, a7_14, w7_14, a7_15, w7_15, a7_16, w7_16, a7_17, w7_17, a7_18, w7_18, a7_19, w7_19, a7_20, w7_20, a7_21, w7_21, a7_22, w7_22, a7_23, w7_23, a7_24, w7_24, a7_25, w7_25, a7_26, w7_26, a7_27, w7_27, a7_28, w7_28, a7_29, w7_29, a7_30, w7_30, a7_31, w7_31, a7_32, w7_32, a7_33, w7_33, e_iconst, e_bipush, e_sipush, e_lconst_0, e_lconst_1, e_iload, e_iload_0, e_iload_1, e_iload_2, e_iload_3, e_lload, e_lload_0, e_lload_1, e_lload_2, e_lload_3, e_aload, e_aload_0, e_aload_1, e_aload_2, e_aload_3, e_istore, e_istore_0, e_istore_1, e_istore_2, e_istore_3, e_astore, e_astore_0, e_astore_1, e_astore_2, e_astore_3, e_lstore, e_lstore_0, e_lstore_1, e_lstore_2, e_lstore_3, e_iinc, e_iadd, e_isub, e_imul, e_ladd, e_lsub, e_lmul, e_idiv, e_irem, e_ldiv, e_lrem, e_ineg, e_lneg, e_iand, e_ior, e_ixor, e_ishl, e_ishr, e_iushr, e_lcmp, e_i2l, e_l2i, e_i2b, e_i2s, e_dup_i, e_dup_r, e_pop_i, e_pop_r, e_dup2_l, e_dup2_ir, e_dup2_ii, e_ifeq, e_ifne, e_iflt, e_ifge, e_ifgt, e_ifle, e_iceq, e_icne, e_iclt, e_icge, e_icgt, e_icle, e_goto, e_switch, e_invokevirtual, e_invokestatic, e_invokespecial, e_ret0, e_ret1, e_ret2, e_ret3, ldI_s, ldL_s, ldR_s, clO_s, ctP_s, ctS_s, mgo_0, mgo_s, pjc_s, pj_0, pj_s, lk_s, rm1_0, rm1_i, rm1_r, rm1_l, rm2_0, rm2_i, rm2_r, rm2_l, csL_s, lc_lt, lc_ge, lc_gt, lc_le, lc_eq, b01_0, b01_1, b01_01, b01_n, up2_o, up2_s, up2_u, ne_eq, reduceCtorEq, Nat.reduceAdd, Nat.reduceEqDiff, Nat.reduceLT, Nat.reduceLeDiff, Int.reduceLE, Int.reduceLT, Int.reduceAdd, Int.reduceNeg, Int.reduceMul, Int.reduceSub, Int.reduceEq, Int.reduceToNat, Int.reduceNatCast, Int.cast_ofNat_Int, ↓reduceIte, and_self, List.drop_succ_cons, List.drop_zero, List.take_succ_cons, List.take_zero, List.length_cons, List.length_nil, List.reverse_cons, List.reverse_nil, List.nil_append, List.cons_append, Option.toList, true_and, and_true, or_false, false_or, or_true, true_or, forall_const, Classical.not_not, not_false_eq_true, not_true_eq_false, false_implies, true_implies, implies_true, imp_self]
  (repeat' (first | (intro _) | (refine And.intro ?_ ?_))) <;> first | omega | exact b2 (by omega) | exact b6 (by omega) (by omega) | exact b8 (by omega) (by omega) (by omega) | exact b7 (by omega) (by omega) (by omega) (by omega) | exact b0 (by omega) (by omega) (by omega) (by omega)
set_option maxHeartbeats 4000000 in
set_option maxRecDepth 100000 in
theorem at7_paste_118 {s i t k n : Int} {M : Mm} {Q : Option AV → Mm → Prop} (hM : okM sh7 M) (h_s : i32 s) (h_i : i32 i) (h_t : i32 t) (h_k : i32 k) (h_n : i32 n) (hP : P7_paste s i t k n M) (hQ : ∀ (v : Int) (M1 : Mm), R7_paste s i t k n M v M1 → Q (some (ai v)) M1) {m : Nat} {s_ i_ t_ k_ n_ x : Int} {M1 : Mm} (hM1 : okM sh7 M1) (h_s_ : i32 s_) (h_i_ : i32 i_) (h_t_ : i32 t_) (h_k_ : i32 k_) (h_n_ : i32 n_) (h_x : i32 x) (hJ : J7_paste_118 s i t k n M m s_ i_ t_ k_ n_ x M1) (I_118 : List AV → Mm → Prop) (hI_118 : ∀ (m_ : Nat) (y_s_ : Int) (y_i_ : Int) (y_t_ : Int) (y_k_ : Int) (y_n_ : Int) (y_x : Int) (M2 : Mm), m_ < m → J7_paste_118 s i t k n M m_ y_s_ y_i_ y_t_ y_k_ y_n_ y_x M2 → I_118 [ar 0, ai y_s_, ai y_i_, ai y_t_, ai y_k_, ai y_n_, ai y_x] M2) (I_155 : List AV → Mm → Prop) (hI_155 : ∀ (m_ : Nat) (y_t_ : Int) (y_k_ : Int) (y_n_ : Int) (y_x : Int) (M2 : Mm), m_ < m → J7_paste_155 s i t k n M m_ y_t_ y_k_ y_n_ y_x M2 → I_155 [ar 0, ai y_t_, ai y_k_, ai y_n_, ai y_x] M2) : wp (tb7 (csL cs7_paste)) sh7 7 1 cX7_paste [(118, [0, 1, 2, 3, 4, 5, 6], I_118), (155, [0, 3, 4, 5, 6], I_155)] Q 400 118 [(0, ar 0), (1, ai s_), (2, ai i_), (3, ai t_), (4, ai k_), (5, ai n_), (6, ai x)] [] M1 := by
  obtain ⟨rfl, rfl, rfl, rfl, rfl, hp, hk, a, rfl, ha, hm, rfl⟩ := hJ
  obtain ⟨⟨p1, p2⟩, p3, p4, p5, p6, p7, p8, p9⟩ := id hp
  have p8 : i + n ≤ M 2 s.toNat := p8
  have p9 : k + n ≤ M 2 t.toNat := p9
  have hs := (hP s.toNat (by omega)).2
  have e3 : M1 3 = M 3 := hk.1 _ (by decide)
  have i1 : ((60 : Int) * s + i + a).toNat = 60 * s.toNat + i.toNat + a := by omega
  simp only [e_wp dX7_paste_0 rfl, e_wp dX7_paste_1 rfl, e_wp dX7_paste_2 rfl, e_wp dX7_paste_5 rfl, e_wp dX7_paste_6 rfl, e_wp dX7_paste_9 rfl, e_wp dX7_paste_12 rfl, e_wp dX7_paste_13 rfl, e_wp dX7_paste_16 rfl, e_wp dX7_paste_19 rfl, e_wp dX7_paste_21 rfl, e_wp dX7_paste_22 rfl, e_wp dX7_paste_23 rfl, e_wp dX7_paste_26 rfl, e_wp dX7_paste_27 rfl, e_wp dX7_paste_28 rfl, e_wp dX7_paste_29 rfl, e_wp dX7_paste_32 rfl, e_wp dX7_paste_33 rfl, e_wp dX7_paste_36 rfl, e_wp dX7_paste_37 rfl, e_wp dX7_paste_38 rfl, e_wp dX7_paste_39 rfl, e_wp dX7_paste_42 rfl, e_wp dX7_paste_44 rfl, e_wp dX7_paste_45 rfl, e_wp dX7_paste_46 rfl, e_wp dX7_paste_49 rfl, e_wp dX7_paste_50 rfl, e_wp dX7_paste_51 rfl, e_wp dX7_paste_52 rfl, e_wp dX7_paste_55 rfl, e_wp dX7_paste_56 rfl, e_wp dX7_paste_57 rfl, e_wp dX7_paste_60 rfl, e_wp dX7_paste_62 rfl, e_wp dX7_paste_63 rfl, e_wp dX7_paste_64 rfl, e_wp dX7_paste_67 rfl, e_wp dX7_paste_69 rfl, e_wp dX7_paste_72 rfl, e_wp dX7_paste_74 rfl, e_wp dX7_paste_77 rfl, e_wp dX7_paste_78 rfl, e_wp dX7_paste_79 rfl, e_wp dX7_paste_81 rfl, e_wp dX7_paste_82 rfl, e_wp dX7_paste_83 rfl, e_wp dX7_paste_84 rfl, e_wp dX7_paste_87 rfl, e_wp dX7_paste_88 rfl, e_wp dX7_paste_89 rfl, e_wp dX7_paste_90 rfl, e_wp dX7_paste_91 rfl, e_wp dX7_paste_94 rfl, e_wp dX7_paste_96 rfl, e_wp dX7_paste_97 rfl, e_wp dX7_paste_99 rfl, e_wp dX7_paste_100 rfl, e_wp dX7_paste_101 rfl, e_wp dX7_paste_102 rfl, e_wp dX7_paste_105 rfl, e_wp dX7_paste_106 rfl, e_wp dX7_paste_107 rfl, e_wp dX7_paste_108 rfl, e_wp dX7_paste_109 rfl, e_wp dX7_paste_112 rfl, e_wp dX7_paste_114 rfl, e_wp dX7_paste_115 rfl, e_wp dX7_paste_116 rfl, e_wp dX7_paste_118 rfl, e_wp dX7_paste_120 rfl, e_wp dX7_paste_122 rfl, e_wp dX7_paste_125 rfl, e_wp dX7_paste_126 rfl, e_wp dX7_paste_129 rfl, e_wp dX7_paste_131 rfl, e_wp dX7_paste_132 rfl, e_wp dX7_paste_135 rfl, e_wp dX7_paste_137 rfl, e_wp dX7_paste_138 rfl, e_wp dX7_paste_139 rfl, e_wp dX7_paste_140 rfl, e_wp dX7_paste_141 rfl, e_wp dX7_paste_143 rfl, e_wp dX7_paste_144 rfl, e_wp dX7_paste_145 rfl, e_wp dX7_paste_146 rfl, e_wp dX7_paste_149 rfl, e_wp dX7_paste_152 rfl, e_wp dX7_paste_153 rfl, e_wp dX7_paste_155 rfl, e_wp dX7_paste_157 rfl, e_wp dX7_paste_159 rfl, e_wp dX7_paste_162 rfl, e_wp dX7_paste_163 rfl, e_wp dX7_paste_166 rfl, e_wp dX7_paste_168 rfl, e_wp dX7_paste_169 rfl, e_wp dX7_paste_170 rfl, e_wp dX7_paste_172 rfl, e_wp dX7_paste_173 rfl, e_wp dX7_paste_175 rfl, e_wp dX7_paste_176 rfl, e_wp dX7_paste_177 rfl, e_wp dX7_paste_180 rfl, e_wp dX7_paste_182 rfl, e_wp dX7_paste_183 rfl, e_wp dX7_paste_184 rfl, e_wp dX7_paste_187 rfl, e_wp dX7_paste_190 rfl, e_wp dX7_paste_191 rfl, p7_116, c7_isSlot, P7_isSlot, V7_isSlot, cs7_paste, g7_7, g7_13, g7_20, g7_16, a7_1, w7_1, a7_2, w7_2, a7_3, w7_3, a7_4, w7_4, a7_5, w7_5, a7_6, w7_6, a7_7, w7_7, a7_8, w7_8, a7_9, w7_9, a7_10, w7_10, a7_11, w7_11, a7_12, w7_12, a7_13, w7_13, a7_14, w7_14, a7_15, w7_15, a7_16, w7_16, a7_17, w7_17, a7_18, w7_18, a7_19, w7_19, a7_20, w7_20, a7_21, w7_21, a7_22, w7_22, a7_23, w7_23, a7_24, w7_24, a7_25, w7_25, a7_26, w7_26, a7_27, w7_27, a7_28, w7_28, a7_29, w7_29, a7_30, w7_30, a7_31, w7_31, a7_32, w7_32, a7_33, w7_33, e_iconst, e_bipush, e_sipush, e_lconst_0, e_lconst_1, e_iload, e_iload_0, e_iload_1, e_iload_2, e_iload_3, e_lload, e_lload_0, e_lload_1, e_lload_2, e_lload_3, e_aload, e_aload_0, e_aload_1, e_aload_2, e_aload_3, e_istore, e_istore_0, e_istore_1, e_istore_2, e_istore_3, e_astore, e_astore_0, e_astore_1, e_astore_2, e_astore_3, e_lstore, e_lstore_0, e_lstore_1, e_lstore_2, e_lstore_3, e_iinc, e_iadd, e_isub, e_imul, e_ladd, e_lsub, e_lmul, e_idiv, e_irem, e_ldiv, e_lrem, e_ineg, e_lneg, e_iand, e_ior, e_ixor, e_ishl, e_ishr, e_iushr, e_lcmp, e_i2l, e_l2i, e_i2b, e_i2s, e_dup_i, e_dup_r, e_pop_i, e_pop_r, e_dup2_l, e_dup2_ir, e_dup2_ii, e_ifeq, e_ifne, e_iflt, e_ifge, e_ifgt, e_ifle, e_iceq, e_icne, e_iclt, e_icge, e_icgt, e_icle, e_goto, e_switch, e_invokevirtual, e_invokestatic, e_invokespecial, e_ret0, e_ret1, e_ret2, e_ret3, ldI_s, ldL_s, ldR_s, clO_s, ctP_s, ctS_s, mgo_0, mgo_s, pjc_s, pj_0, pj_s, lk_s, rm1_0, rm1_i, rm1_r, rm1_l, rm2_0, rm2_i, rm2_r, rm2_l, csL_s, lc_lt, lc_ge, lc_gt, lc_le, lc_eq, b01_0, b01_1, b01_01, b01_n, up2_o, up2_s, up2_u, ne_eq, reduceCtorEq, Nat.reduceAdd, Nat.reduceEqDiff, Nat.reduceLT, Nat.reduceLeDiff, Int.reduceLE, Int.reduceLT, Int.reduceAdd, Int.reduceNeg, Int.reduceMul, Int.reduceSub, Int.reduceEq, Int.reduceToNat, Int.reduceNatCast, Int.cast_ofNat_Int, ↓reduceIte, and_self, List.drop_succ_cons, List.drop_zero, List.take_succ_cons, List.take_zero, List.length_cons, List.length_nil, List.reverse_cons, List.reverse_nil, List.nil_append, List.cons_append, Option.toList, true_and, and_true, or_false, false_or, or_true, true_or, forall_const, Classical.not_not, not_false_eq_true, not_true_eq_false, false_implies, true_implies, implies_true, imp_self, e3, i1, Int.toNat_natCast]
  refine ⟨fun q => ?_, fun q => ?_⟩
  · exact hI_155 (60 - 0) _ _ _ _ _ (by omega) ⟨rfl, rfl, rfl, hp, keepW_of hk, hk.1 _ (by decide), hk.1 _ (by decide), fun j hj => hm j (by omega), 0, rfl, p7, fun j hj => by omega, fun j _ => by rw [e3], rfl⟩
  · repeat (refine And.intro (by omega) ?_)
    refine hI_118 (1000 + (60 - (a + 1))) _ _ _ _ _ _ _ (by omega) ⟨rfl, rfl, rfl, rfl, rfl, hp, keep_u hk (by decide), a + 1, by omega, by omega, fun j hj => ?_, rfl⟩
    by_cases e : j = a
    · rw [e, up2_s]
    · rw [up2_n e]; exact hm j (by omega)
set_option maxHeartbeats 4000000 in
set_option maxRecDepth 100000 in
theorem at7_paste_155 {s i t k n : Int} {M : Mm} {Q : Option AV → Mm → Prop} (hM : okM sh7 M) (h_s : i32 s) (h_i : i32 i) (h_t : i32 t) (h_k : i32 k) (h_n : i32 n) (hP : P7_paste s i t k n M) (hQ : ∀ (v : Int) (M1 : Mm), R7_paste s i t k n M v M1 → Q (some (ai v)) M1) {m : Nat} {t_ k_ n_ x : Int} {M1 : Mm} (hM1 : okM sh7 M1) (h_t_ : i32 t_) (h_k_ : i32 k_) (h_n_ : i32 n_) (h_x : i32 x) (hJ : J7_paste_155 s i t k n M m t_ k_ n_ x M1) (I_118 : List AV → Mm → Prop) (hI_118 : ∀ (m_ : Nat) (y_s_ : Int) (y_i_ : Int) (y_t_ : Int) (y_k_ : Int) (y_n_ : Int) (y_x : Int) (M2 : Mm), m_ < m → J7_paste_118 s i t k n M m_ y_s_ y_i_ y_t_ y_k_ y_n_ y_x M2 → I_118 [ar 0, ai y_s_, ai y_i_, ai y_t_, ai y_k_, ai y_n_, ai y_x] M2) (I_155 : List AV → Mm → Prop) (hI_155 : ∀ (m_ : Nat) (y_t_ : Int) (y_k_ : Int) (y_n_ : Int) (y_x : Int) (M2 : Mm), m_ < m → J7_paste_155 s i t k n M m_ y_t_ y_k_ y_n_ y_x M2 → I_155 [ar 0, ai y_t_, ai y_k_, ai y_n_, ai y_x] M2) : wp (tb7 (csL cs7_paste)) sh7 7 1 cX7_paste [(118, [0, 1, 2, 3, 4, 5, 6], I_118), (155, [0, 3, 4, 5, 6], I_155)] Q 400 155 [(0, ar 0), (3, ai t_), (4, ai k_), (5, ai n_), (6, ai x)] [] M1 := by
  obtain ⟨rfl, rfl, rfl, hp, hk, e1, e2, hm, a, rfl, ha, hc, ho, rfl⟩ := hJ
  obtain ⟨⟨p1, p2⟩, p3, p4, p5, p6, p7, p8, p9⟩ := id hp
  have p8 : i + n ≤ M 2 s.toNat := p8
  have p9 : k + n ≤ M 2 t.toNat := p9
  have hs := (hP s.toNat (by omega)).2
  have ht := (hP t.toNat (by omega)).2
  have i1 : ((60 : Int) * t + k + a).toNat = 60 * t.toNat + k.toNat + a := by omega
  simp only [e_wp dX7_paste_0 rfl, e_wp dX7_paste_1 rfl, e_wp dX7_paste_2 rfl, e_wp dX7_paste_5 rfl, e_wp dX7_paste_6 rfl, e_wp dX7_paste_9 rfl, e_wp dX7_paste_12 rfl, e_wp dX7_paste_13 rfl, e_wp dX7_paste_16 rfl, e_wp dX7_paste_19 rfl, e_wp dX7_paste_21 rfl, e_wp dX7_paste_22 rfl, e_wp dX7_paste_23 rfl, e_wp dX7_paste_26 rfl, e_wp dX7_paste_27 rfl, e_wp dX7_paste_28 rfl, e_wp dX7_paste_29 rfl, e_wp dX7_paste_32 rfl, e_wp dX7_paste_33 rfl, e_wp dX7_paste_36 rfl, e_wp dX7_paste_37 rfl, e_wp dX7_paste_38 rfl, e_wp dX7_paste_39 rfl, e_wp dX7_paste_42 rfl, e_wp dX7_paste_44 rfl, e_wp dX7_paste_45 rfl, e_wp dX7_paste_46 rfl, e_wp dX7_paste_49 rfl, e_wp dX7_paste_50 rfl, e_wp dX7_paste_51 rfl, e_wp dX7_paste_52 rfl, e_wp dX7_paste_55 rfl, e_wp dX7_paste_56 rfl, e_wp dX7_paste_57 rfl, e_wp dX7_paste_60 rfl, e_wp dX7_paste_62 rfl, e_wp dX7_paste_63 rfl, e_wp dX7_paste_64 rfl, e_wp dX7_paste_67 rfl, e_wp dX7_paste_69 rfl, e_wp dX7_paste_72 rfl, e_wp dX7_paste_74 rfl, e_wp dX7_paste_77 rfl, e_wp dX7_paste_78 rfl, e_wp dX7_paste_79 rfl, e_wp dX7_paste_81 rfl, e_wp dX7_paste_82 rfl, e_wp dX7_paste_83 rfl, e_wp dX7_paste_84 rfl, e_wp dX7_paste_87 rfl, e_wp dX7_paste_88 rfl, e_wp dX7_paste_89 rfl, e_wp dX7_paste_90 rfl, e_wp dX7_paste_91 rfl, e_wp dX7_paste_94 rfl, e_wp dX7_paste_96 rfl, e_wp dX7_paste_97 rfl, e_wp dX7_paste_99 rfl, e_wp dX7_paste_100 rfl, e_wp dX7_paste_101 rfl, e_wp dX7_paste_102 rfl, e_wp dX7_paste_105 rfl, e_wp dX7_paste_106 rfl, e_wp dX7_paste_107 rfl, e_wp dX7_paste_108 rfl, e_wp dX7_paste_109 rfl, e_wp dX7_paste_112 rfl, e_wp dX7_paste_114 rfl, e_wp dX7_paste_115 rfl, e_wp dX7_paste_116 rfl, e_wp dX7_paste_118 rfl, e_wp dX7_paste_120 rfl, e_wp dX7_paste_122 rfl, e_wp dX7_paste_125 rfl, e_wp dX7_paste_126 rfl, e_wp dX7_paste_129 rfl, e_wp dX7_paste_131 rfl, e_wp dX7_paste_132 rfl, e_wp dX7_paste_135 rfl, e_wp dX7_paste_137 rfl, e_wp dX7_paste_138 rfl, e_wp dX7_paste_139 rfl, e_wp dX7_paste_140 rfl, e_wp dX7_paste_141 rfl, e_wp dX7_paste_143 rfl, e_wp dX7_paste_144 rfl, e_wp dX7_paste_145 rfl, e_wp dX7_paste_146 rfl, e_wp dX7_paste_149 rfl, e_wp dX7_paste_152 rfl, e_wp dX7_paste_153 rfl, e_wp dX7_paste_155 rfl, e_wp dX7_paste_157 rfl, e_wp dX7_paste_159 rfl, e_wp dX7_paste_162 rfl, e_wp dX7_paste_163 rfl, e_wp dX7_paste_166 rfl, e_wp dX7_paste_168 rfl, e_wp dX7_paste_169 rfl, e_wp dX7_paste_170 rfl, e_wp dX7_paste_172 rfl, e_wp dX7_paste_173 rfl, e_wp dX7_paste_175 rfl, e_wp dX7_paste_176 rfl, e_wp dX7_paste_177 rfl, e_wp dX7_paste_180 rfl, e_wp dX7_paste_182 rfl, e_wp dX7_paste_183 rfl, e_wp dX7_paste_184 rfl, e_wp dX7_paste_187 rfl, e_wp dX7_paste_190 rfl, e_wp dX7_paste_191 rfl, p7_116, c7_isSlot, P7_isSlot, V7_isSlot, cs7_paste, g7_7, g7_13, g7_20, g7_16, a7_1, w7_1, a7_2, w7_2, a7_3, w7_3, a7_4, w7_4, a7_5, w7_5, a7_6, w7_6, a7_7, w7_7, a7_8, w7_8, a7_9, w7_9, a7_10, w7_10, a7_11, w7_11, a7_12, w7_12, a7_13, w7_13, a7_14, w7_14, a7_15, w7_15, a7_16, w7_16, a7_17, w7_17, a7_18, w7_18, a7_19, w7_19, a7_20, w7_20, a7_21, w7_21, a7_22, w7_22, a7_23, w7_23, a7_24, w7_24, a7_25, w7_25, a7_26, w7_26, a7_27, w7_27, a7_28, w7_28, a7_29, w7_29, a7_30, w7_30, a7_31, w7_31, a7_32, w7_32, a7_33, w7_33, e_iconst, e_bipush, e_sipush, e_lconst_0, e_lconst_1, e_iload, e_iload_0, e_iload_1, e_iload_2, e_iload_3, e_lload, e_lload_0, e_lload_1, e_lload_2, e_lload_3, e_aload, e_aload_0, e_aload_1, e_aload_2, e_aload_3, e_istore, e_istore_0, e_istore_1, e_istore_2, e_istore_3, e_astore, e_astore_0, e_astore_1, e_astore_2, e_astore_3, e_lstore, e_lstore_0, e_lstore_1, e_lstore_2, e_lstore_3, e_iinc, e_iadd, e_isub, e_imul, e_ladd, e_lsub, e_lmul, e_idiv, e_irem, e_ldiv, e_lrem, e_ineg, e_lneg, e_iand, e_ior, e_ixor, e_ishl, e_ishr, e_iushr, e_lcmp, e_i2l, e_l2i, e_i2b, e_i2s, e_dup_i, e_dup_r, e_pop_i, e_pop_r, e_dup2_l, e_dup2_ir, e_dup2_ii, e_ifeq, e_ifne, e_iflt, e_ifge, e_ifgt, e_ifle, e_iceq, e_icne, e_iclt, e_icge, e_icgt, e_icle, e_goto, e_switch, e_invokevirtual, e_invokestatic, e_invokespecial, e_ret0, e_ret1, e_ret2, e_ret3, ldI_s, ldL_s, ldR_s, clO_s, ctP_s, ctS_s, mgo_0, mgo_s, pjc_s, pj_0, pj_s, lk_s, rm1_0, rm1_i, rm1_r, rm1_l, rm2_0, rm2_i, rm2_r, rm2_l, csL_s, lc_lt, lc_ge, lc_gt, lc_le, lc_eq, b01_0, b01_1, b01_01, b01_n, up2_o, up2_s, up2_u, ne_eq, reduceCtorEq, Nat.reduceAdd, Nat.reduceEqDiff, Nat.reduceLT, Nat.reduceLeDiff, Int.reduceLE, Int.reduceLT, Int.reduceAdd, Int.reduceNeg, Int.reduceMul, Int.reduceSub, Int.reduceEq, Int.reduceToNat, Int.reduceNatCast, Int.cast_ofNat_Int, ↓reduceIte, and_self, List.drop_succ_cons, List.drop_zero, List.take_succ_cons, List.take_zero, List.length_cons, List.length_nil, List.reverse_cons, List.reverse_nil, List.nil_append, List.cons_append, Option.toList, true_and, and_true, or_false, false_or, or_true, true_or, forall_const, Classical.not_not, not_false_eq_true, not_true_eq_false, false_implies, true_implies, implies_true, imp_self, i1, Int.toNat_natCast]
  refine ⟨fun q => hQ _ _ ⟨hk, ((if_pos ⟨p1, p2⟩).trans ((if_pos p3).trans ((if_pos p4).trans (if_pos ⟨p5, p6, p7, p8, p9⟩)))).symm, fun z hz => ?_⟩, fun q => ?_⟩
  · have ea : (a : Int) = n := by omega
    have hb := (hP z hz).2
    rw [show N_paste (slM M) s i t k n z = if z = t.toNat then ((slM M t.toNat).1, fun (j : Nat) => if k ≤ (j : Int) ∧ (j : Int) < k + n then (slM M s.toNat).2 (i.toNat + (j - k.toNat)) else (slM M t.toNat).2 j) else slM M z from congrFun (if_pos hp) z]
    by_cases e : z = t.toNat
    · rw [if_pos e, e]
      refine Prod.ext (by show (M1 1 t.toNat, M1 2 t.toNat) = (M 1 t.toNat, M 2 t.toNat); rw [e1, e2]) (funext fun j => ?_)
      show (if (j : Int) < M1 2 t.toNat then M1 3 (60 * t.toNat + j) else 0) = (if k ≤ (j : Int) ∧ (j : Int) < k + n then (if ((i.toNat + (j - k.toNat) : Nat) : Int) < M 2 s.toNat then M 3 (60 * s.toNat + (i.toNat + (j - k.toNat))) else 0) else (if (j : Int) < M 2 t.toNat then M 3 (60 * t.toNat + j) else 0))
      rw [e2]
      by_cases u : k ≤ (j : Int) ∧ (j : Int) < k + n
      · rw [if_pos u, if_pos (by omega), if_pos (by omega)]
        have := hc (j - k.toNat) (by omega)
        rw [show 60 * t.toNat + k.toNat + (j - k.toNat) = 60 * t.toNat + j by omega, show 60 * s.toNat + i.toNat + (j - k.toNat) = 60 * s.toNat + (i.toNat + (j - k.toNat)) by omega] at this
        exact this
      · rw [if_neg u]
        by_cases w : (j : Int) < M 2 t.toNat
        · rw [if_pos w, if_pos w, ho _ (by omega)]
        · rw [if_neg w, if_neg w]
    · rw [if_neg e]
      refine Prod.ext (by show (M1 1 z, M1 2 z) = (M 1 z, M 2 z); rw [e1, e2]) (funext fun j => ?_)
      show (if (j : Int) < M1 2 z then M1 3 (60 * z + j) else 0) = (if (j : Int) < M 2 z then M 3 (60 * z + j) else 0)
      rw [e2]
      by_cases w : (j : Int) < M 2 z
      · rw [if_pos w, if_pos w, ho _ (by omega)]
      · rw [if_neg w, if_neg w]
  · have ex := hm a q
    repeat (refine And.intro (by omega) ?_)
    rw [ex]
    refine hI_155 (60 - (a + 1)) _ _ _ _ _ (by omega) ⟨rfl, rfl, rfl, hp, keepW_u hk (by decide), e1, e2, fun j hj => hm j hj, a + 1, by omega, by omega, fun j hj => ?_, fun j hj => ?_, rfl⟩
    · by_cases e : j = a
      · rw [e, up2_s]
      · rw [up2_n (by omega)]; exact hc j (by omega)
    · rw [up2_n (by omega)]; exact ho j (by omega)
set_option maxHeartbeats 4000000 in
set_option maxRecDepth 100000 in
theorem m7_paste : MOK cl7 sh7 tyl7 [] 2 yX7_paste cX7_paste 7 (some .int) sp7_paste := by
  refine mok_of (own := RX7) (tb := tb7 (csL cs7_paste)) (rt := 1) (fuel := 400) (fun avs M Q => [(118, [0, 1, 2, 3, 4, 5, 6], fun m_ vs M1 => ∃ y_s_ : Int, ∃ y_i_ : Int, ∃ y_t_ : Int, ∃ y_k_ : Int, ∃ y_n_ : Int, ∃ y_x : Int, vs = [ar 0, ai y_s_, ai y_i_, ai y_t_, ai y_k_, ai y_n_, ai y_x] ∧ J7_paste_118 (pa true [0, 0, 0, 0, 0] avs 0) (pa true [0, 0, 0, 0, 0] avs 1) (pa true [0, 0, 0, 0, 0] avs 2) (pa true [0, 0, 0, 0, 0] avs 3) (pa true [0, 0, 0, 0, 0] avs 4) M m_ y_s_ y_i_ y_t_ y_k_ y_n_ y_x M1), (155, [0, 3, 4, 5, 6], fun m_ vs M1 => ∃ y_t_ : Int, ∃ y_k_ : Int, ∃ y_n_ : Int, ∃ y_x : Int, vs = [ar 0, ai y_t_, ai y_k_, ai y_n_, ai y_x] ∧ J7_paste_155 (pa true [0, 0, 0, 0, 0] avs 0) (pa true [0, 0, 0, 0, 0] avs 1) (pa true [0, 0, 0, 0, 0] avs 2) (pa true [0, 0, 0, 0, 0] avs 3) (pa true [0, 0, 0, 0, 0] avs 4) M m_ y_t_ y_k_ y_n_ y_x M1)]) (by decide) rfl nil_nw (tbOK7 _) rfl (csL_all ?_) ?_ ?_ ?_
  · intro q hq
    simp only [cs7_paste, List.mem_cons, List.not_mem_nil, or_false] at hq
    rcases hq with rfl
    · exact cg7_isSlot (by decide)
  · intro avs M Q hsp
    obtain ⟨xs, hx⟩ := spR_un _ _ _ hsp
    obtain ⟨e, hl⟩ := unA_mkT hx
    obtain ⟨s, i, t, k, n, rfl⟩ := len5 hl
    have e : avs = [ar 0, ai s, ai i, ai t, ai k, ai n] := e
    subst e
    simp [szL, isL]
  · intro avs M Q hM hav hsp
    obtain ⟨xs, hx⟩ := spR_un _ _ _ hsp
    obtain ⟨e, hl⟩ := unA_mkT hx
    obtain ⟨s, i, t, k, n, rfl⟩ := len5 hl
    have e : avs = [ar 0, ai s, ai i, ai t, ai k, ai n] := e
    subst e
    exact in7_paste hM (hav (ai s) (by simp)) (hav (ai i) (by simp)) (hav (ai t) (by simp)) (hav (ai k) (by simp)) (hav (ai n) (by simp)) hsp.1 hsp.2 _ (fun m_ y_s_ y_i_ y_t_ y_k_ y_n_ y_x M2 hJ => ⟨m_, y_s_, y_i_, y_t_, y_k_, y_n_, y_x, rfl, hJ⟩) _ (fun m_ y_t_ y_k_ y_n_ y_x M2 hJ => ⟨m_, y_t_, y_k_, y_n_, y_x, rfl, hJ⟩)
  · intro avs M Q hM hav hsp q hq m_ vs M1 hM1 hv hJ
    obtain ⟨xs, hx⟩ := spR_un _ _ _ hsp
    obtain ⟨e, hl⟩ := unA_mkT hx
    obtain ⟨s, i, t, k, n, rfl⟩ := len5 hl
    have e : avs = [ar 0, ai s, ai i, ai t, ai k, ai n] := e
    subst e
    simp only [List.mem_cons, List.not_mem_nil, or_false] at hq
    rcases hq with rfl | rfl
    · obtain ⟨y_s_, y_i_, y_t_, y_k_, y_n_, y_x, rfl, hJ⟩ := hJ
      exact at7_paste_118 hM (hav (ai s) (by simp)) (hav (ai i) (by simp)) (hav (ai t) (by simp)) (hav (ai k) (by simp)) (hav (ai n) (by simp)) hsp.1 hsp.2 hM1 (hv (1, ai y_s_) (List.mem_of_getElem? (i := 1) rfl)) (hv (2, ai y_i_) (List.mem_of_getElem? (i := 2) rfl)) (hv (3, ai y_t_) (List.mem_of_getElem? (i := 3) rfl)) (hv (4, ai y_k_) (List.mem_of_getElem? (i := 4) rfl)) (hv (5, ai y_n_) (List.mem_of_getElem? (i := 5) rfl)) (hv (6, ai y_x) (List.mem_of_getElem? (i := 6) rfl)) hJ _ (fun m2 z_s_ z_i_ z_t_ z_k_ z_n_ z_x M2 hm hJ2 => ⟨m2, hm, z_s_, z_i_, z_t_, z_k_, z_n_, z_x, rfl, hJ2⟩) _ (fun m2 z_t_ z_k_ z_n_ z_x M2 hm hJ2 => ⟨m2, hm, z_t_, z_k_, z_n_, z_x, rfl, hJ2⟩)
    · obtain ⟨y_t_, y_k_, y_n_, y_x, rfl, hJ⟩ := hJ
      exact at7_paste_155 hM (hav (ai s) (by simp)) (hav (ai i) (by simp)) (hav (ai t) (by simp)) (hav (ai k) (by simp)) (hav (ai n) (by simp)) hsp.1 hsp.2 hM1 (hv (3, ai y_t_) (List.mem_of_getElem? (i := 1) rfl)) (hv (4, ai y_k_) (List.mem_of_getElem? (i := 2) rfl)) (hv (5, ai y_n_) (List.mem_of_getElem? (i := 3) rfl)) (hv (6, ai y_x) (List.mem_of_getElem? (i := 4) rfl)) hJ _ (fun m2 z_s_ z_i_ z_t_ z_k_ z_n_ z_x M2 hm hJ2 => ⟨m2, hm, z_s_, z_i_, z_t_, z_k_, z_n_, z_x, rfl, hJ2⟩) _ (fun m2 z_t_ z_k_ z_n_ z_x M2 hm hJ2 => ⟨m2, hm, z_t_, z_k_, z_n_, z_x, rfl, hJ2⟩)
