/-! SagMemoryModel: what is done -/
/-- what stays whatever is done to the valley that holds -/
def keepO (M M1 : Mm) : Prop := (∀ k, k ∈ [1, 2, 3, 5, 13] → M1 k = M k) ∧ (∀ j, j ∈ [6, 14, 15] → M1 0 j = M 0 j) ∧ ∀ s, 1 ≤ s → s ≤ 3 → vS s M1 = vS s M
theorem keepO_of {M M1 : Mm} (h : keepM M M1) : keepO M M1 := ⟨fun k hk => h.1 k (by revert hk; simp only [List.mem_cons, List.not_mem_nil, or_false]; omega), h.2, fun s _ _ => keep_v h s⟩
theorem keepO_tr {M M1 M2 : Mm} (h : keepO M M1) (h2 : keepO M1 M2) : keepO M M2 := ⟨fun k hk => (h2.1 k hk).trans (h.1 k hk), fun j hj => (h2.2.1 j hj).trans (h.2.1 j hj), fun s a b => (h2.2.2 s a b).trans (h.2.2 s a b)⟩
def doP (V : Vy) (w c b : Int) : Vy := fun i j => if i = 0 ∧ j = 7 then V 0 7 + 1 else if i = 9 ∧ (j : Int) = V 0 7 then w else if i = 10 ∧ (j : Int) = V 0 7 then c else if i = 11 ∧ (j : Int) = V 0 7 then b else V i j
def undoP (V : Vy) : Vy := fun i j => if i = 0 ∧ j = 7 then V 0 7 - 1 else if (i = 9 ∨ i = 10 ∨ i = 11) ∧ V 0 7 - 1 ≤ (j : Int) then 0 else V i j
def anewP (V : Vy) : Vy := fun i j => if i = 0 ∧ j = 7 then 0 else if i = 9 ∨ i = 10 ∨ i = 11 then 0 else V i j
theorem do_9 {V : Vy} {w c b : Int} {j : Nat} : doP V w c b 9 j = (if (j : Int) = V 0 7 then w else V 9 j) ∧ doP V w c b 10 j = (if (j : Int) = V 0 7 then c else V 10 j) ∧ doP V w c b 11 j = (if (j : Int) = V 0 7 then b else V 11 j) := by
  simp [doP]
theorem vS_hi (M : Mm) (s k j : Nat) : vS s M (k + 12) j = 0 := rfl
set_option maxRecDepth 100000 in
theorem vS_act {M M1 : Mm} {s : Nat} (h : ∀ k ∈ [6, 8, 9, 10, 11], M1 k = M k) (h7 : ∀ j, ¬ j = 8 * s + 7 → j < 8 * s + 8 → 8 * s ≤ j → M1 7 j = M 7 j) : ∀ i j, ¬ (i = 0 ∧ j = 7) → ¬ (i = 9 ∨ i = 10 ∨ i = 11) → vS s M1 i j = vS s M i j := by
  have h6 := h 6 (by decide)
  have h8 := h 8 (by decide)
  have h9 := h 9 (by decide)
  have h10 := h 10 (by decide)
  have h11 := h 11 (by decide)
  have a3 := h7 (8 * s + 3) (by omega) (by omega) (by omega)
  have a4 := h7 (8 * s + 4) (by omega) (by omega) (by omega)
  have a5 := h7 (8 * s + 5) (by omega) (by omega) (by omega)
  have a6 := h7 (8 * s + 6) (by omega) (by omega) (by omega)
  intro i j h1 h2
  have r0 : ∀ N : Mm, vS s N 0 j = (if j < 8 then N 7 (8 * s + j) else if j = 8 then N 6 s else 0) := fun _ => rfl
  by_cases c0 : i = 0
  · subst c0
    rw [r0, r0, h6]
    by_cases e : j < 8
    · rw [if_pos e, if_pos e, h7 (8 * s + j) (by omega) (by omega) (by omega)]
    · rw [if_neg e, if_neg e]
  by_cases c1 : i = 1
  · subst c1
    rw [show ∀ N : Mm, vS s N 1 j = (if (j : Int) < N 7 (8 * s + 3) then N 8 (2 * (3 * s + j)) else 0) from fun _ => rfl, show ∀ N : Mm, vS s N 1 j = (if (j : Int) < N 7 (8 * s + 3) then N 8 (2 * (3 * s + j)) else 0) from fun _ => rfl, a3, h8]
  by_cases c2 : i = 2
  · subst c2
    rw [show ∀ N : Mm, vS s N 2 j = (if (j : Int) < N 7 (8 * s + 3) then N 8 (2 * (3 * s + j) + 1) else 0) from fun _ => rfl, show ∀ N : Mm, vS s N 2 j = (if (j : Int) < N 7 (8 * s + 3) then N 8 (2 * (3 * s + j) + 1) else 0) from fun _ => rfl, a3, h8]
  by_cases c3 : i = 3
  · subst c3
    rw [show ∀ N : Mm, vS s N 3 j = (if (j : Int) < N 7 (8 * s + 4) then N 9 (2 * (7 * s + j)) else 0) from fun _ => rfl, show ∀ N : Mm, vS s N 3 j = (if (j : Int) < N 7 (8 * s + 4) then N 9 (2 * (7 * s + j)) else 0) from fun _ => rfl, a4, h9]
  by_cases c4 : i = 4
  · subst c4
    rw [show ∀ N : Mm, vS s N 4 j = (if (j : Int) < N 7 (8 * s + 4) then N 9 (2 * (7 * s + j) + 1) else 0) from fun _ => rfl, show ∀ N : Mm, vS s N 4 j = (if (j : Int) < N 7 (8 * s + 4) then N 9 (2 * (7 * s + j) + 1) else 0) from fun _ => rfl, a4, h9]
  by_cases c5 : i = 5
  · subst c5
    rw [show ∀ N : Mm, vS s N 5 j = (if (j : Int) < N 7 (8 * s + 5) then N 10 (3 * (5 * s + j)) else 0) from fun _ => rfl, show ∀ N : Mm, vS s N 5 j = (if (j : Int) < N 7 (8 * s + 5) then N 10 (3 * (5 * s + j)) else 0) from fun _ => rfl, a5, h10]
  by_cases c6 : i = 6
  · subst c6
    rw [show ∀ N : Mm, vS s N 6 j = (if (j : Int) < N 7 (8 * s + 5) then N 10 (3 * (5 * s + j) + 1) else 0) from fun _ => rfl, show ∀ N : Mm, vS s N 6 j = (if (j : Int) < N 7 (8 * s + 5) then N 10 (3 * (5 * s + j) + 1) else 0) from fun _ => rfl, a5, h10]
  by_cases c7 : i = 7
  · subst c7
    rw [show ∀ N : Mm, vS s N 7 j = (if (j : Int) < N 7 (8 * s + 5) then N 10 (3 * (5 * s + j) + 2) else 0) from fun _ => rfl, show ∀ N : Mm, vS s N 7 j = (if (j : Int) < N 7 (8 * s + 5) then N 10 (3 * (5 * s + j) + 2) else 0) from fun _ => rfl, a5, h10]
  by_cases c8 : i = 8
  · subst c8
    rw [show ∀ N : Mm, vS s N 8 j = (if j = 0 then frB (fun k => N 11 (4 * s + k)) (N 7 (8 * s + 6)).toNat else 0) from fun _ => rfl, show ∀ N : Mm, vS s N 8 j = (if j = 0 then frB (fun k => N 11 (4 * s + k)) (N 7 (8 * s + 6)).toNat else 0) from fun _ => rfl, a6, h11]
  obtain ⟨k, rfl⟩ : ∃ k, i = k + 12 := ⟨i - 12, by omega⟩
  exact (vS_hi M1 s k j).trans (vS_hi M s k j).symm
theorem vM_07 (M : Mm) : vM M 0 7 = M 7 7 := rfl
theorem vM_act (M : Mm) (j : Nat) : vM M 9 j = (if (j : Int) < M 7 7 then M 12 (3 * j) else 0) ∧ vM M 10 j = (if (j : Int) < M 7 7 then M 12 (3 * j + 1) else 0) ∧ vM M 11 j = (if (j : Int) < M 7 7 then M 12 (3 * j + 2) else 0) := by
  have e : 30 * 0 + j = j := by omega
  refine ⟨?_, ?_, ?_⟩
  · show (if (j : Int) < M 7 7 then M 12 (3 * (30 * 0 + j)) else 0) = _
    rw [e]
  · show (if (j : Int) < M 7 7 then M 12 (3 * (30 * 0 + j) + 1) else 0) = _
    rw [e]
  · show (if (j : Int) < M 7 7 then M 12 (3 * (30 * 0 + j) + 2) else 0) = _
    rw [e]
/-- slots behind the first are not met by the first's acts -/
theorem vS_far {M M1 : Mm} {s : Nat} (hs : 1 ≤ s) (h : ∀ k ∈ [6, 8, 9, 10, 11], M1 k = M k) (h7 : ∀ j, 8 ≤ j → M1 7 j = M 7 j) (h12 : ∀ j, 90 ≤ j → M1 12 j = M 12 j) : vS s M1 = vS s M := by
  funext i j
  by_cases q : i = 9 ∨ i = 10 ∨ i = 11
  · have a7 := h7 (8 * s + 7) (by omega)
    have b0 := h12 (3 * (30 * s + j)) (by omega)
    have b1 := h12 (3 * (30 * s + j) + 1) (by omega)
    have b2 := h12 (3 * (30 * s + j) + 2) (by omega)
    rcases q with rfl | rfl | rfl
    · show (if (j : Int) < M1 7 (8 * s + 7) then M1 12 (3 * (30 * s + j)) else 0) = (if (j : Int) < M 7 (8 * s + 7) then M 12 (3 * (30 * s + j)) else 0)
      rw [a7, b0]
    · show (if (j : Int) < M1 7 (8 * s + 7) then M1 12 (3 * (30 * s + j) + 1) else 0) = (if (j : Int) < M 7 (8 * s + 7) then M 12 (3 * (30 * s + j) + 1) else 0)
      rw [a7, b1]
    · show (if (j : Int) < M1 7 (8 * s + 7) then M1 12 (3 * (30 * s + j) + 2) else 0) = (if (j : Int) < M 7 (8 * s + 7) then M 12 (3 * (30 * s + j) + 2) else 0)
      rw [a7, b2]
  · by_cases e : i = 0 ∧ j = 7
    · obtain ⟨rfl, rfl⟩ := e
      exact h7 (8 * s + 7) (by omega)
    · exact vS_act h (fun j _ _ _ => h7 j (by omega)) i j e q
def P7_does (w : Int) (c : Int) (b : Int) (M : Mm) : Prop := 0 ≤ M 7 7 ∧ M 7 7 < 30
def R7_does (w : Int) (c : Int) (b : Int) (M : Mm) (M1 : Mm) : Prop := frm [7, 12] M M1 ∧ vM M1 = doP (vM M) w c b ∧ ∀ s, 1 ≤ s → vS s M1 = vS s M
def sp7_does : Spec := spV true [0, 0, 0] (fun x M => P7_does (x 0) (x 1) (x 2) M) (fun x M M1 => R7_does (x 0) (x 1) (x 2) M M1)
theorem c7_does {w c b : Int} {M : Mm} {Q : Option AV → Mm → Prop} : sp7_does [ar 0, ai w, ai c, ai b] M Q = (P7_does w c b M ∧ ∀ (M1 : Mm), R7_does w c b M M1 → Q none M1) := rfl
def cs7_does : List (Nat × Nat × Nat × Spec) := []
set_option maxHeartbeats 4000000 in
set_option maxRecDepth 100000 in
theorem in7_does {w c b : Int} {M : Mm} {Q : Option AV → Mm → Prop} (hM : okM sh7 M) (h_w : i32 w) (h_c : i32 c) (h_b : i32 b) (hP : P7_does w c b M) (hQ : ∀ (M1 : Mm), R7_does w c b M M1 → Q none M1) : wp (tb7 (csL cs7_does)) sh7 5 0 cX7_does [] Q 400 0 [(0, ar 0), (1, ai w), (2, ai c), (3, ai b)] [] M := by
  obtain ⟨h1, h2⟩ := id hP
  obtain ⟨n, hn⟩ := Int.eq_ofNat_of_zero_le h1
  have i0 : ((3 : Int) * n).toNat = 3 * n := by omega
  have i1 : ((3 : Int) * n + 1).toNat = 3 * n + 1 := by omega
  have i2 : ((3 : Int) * n + 2).toNat = 3 * n + 2 := by omega
  simp only [e_wp dX7_does_0 rfl, e_wp dX7_does_1 rfl, e_wp dX7_does_2 rfl, e_wp dX7_does_5 rfl, e_wp dX7_does_7 rfl, e_wp dX7_does_8 rfl, e_wp dX7_does_9 rfl, e_wp dX7_does_11 rfl, e_wp dX7_does_12 rfl, e_wp dX7_does_15 rfl, e_wp dX7_does_17 rfl, e_wp dX7_does_18 rfl, e_wp dX7_does_19 rfl, e_wp dX7_does_20 rfl, e_wp dX7_does_23 rfl, e_wp dX7_does_25 rfl, e_wp dX7_does_26 rfl, e_wp dX7_does_27 rfl, e_wp dX7_does_28 rfl, e_wp dX7_does_29 rfl, e_wp dX7_does_30 rfl, e_wp dX7_does_33 rfl, e_wp dX7_does_35 rfl, e_wp dX7_does_36 rfl, e_wp dX7_does_37 rfl, e_wp dX7_does_38 rfl, e_wp dX7_does_39 rfl, e_wp dX7_does_40 rfl, e_wp dX7_does_43 rfl, e_wp dX7_does_45 rfl, e_wp dX7_does_46 rfl, e_wp dX7_does_47 rfl, e_wp dX7_does_48 rfl, e_wp dX7_does_49 rfl, e_wp dX7_does_50 rfl, g7_34, g7_49, a7_1, w7_1, a7_2, w7_2, a7_3, w7_3, a7_4, w7_4, a7_5, w7_5, a7_6, w7_6, a7_7, w7_7, a7_8, w7_8, a7_9, w7_9, a7_10, w7_10, a7_11, w7_11, a7_12, w7_12, a7_13, w7_13, a7_14, w7_14, a7_15, w7_15, a7_16, w7_16, a7_17, w7_17, a7_18, w7_18, a7_19, w7_19, a7_20, w7_20, a7_21, w7_21, a7_22, w7_22, a7_23, w7_23, a7_24, w7_24, a7_25, w7_25, a7_26, w7_26, a7_27, w7_27, a7_28, w7_28, a7_29, w7_29, a7_30, w7_30, a7_31, w7_31, a7_32, w7_32, a7_33, w7_33, e_iconst, e_bipush, e_sipush, e_lconst_0, e_lconst_1, e_iload, e_iload_0, e_iload_1, e_iload_2, e_iload_3, e_lload, e_lload_0, e_lload_1, e_lload_2, e_lload_3, e_aload, e_aload_0, e_aload_1, e_aload_2, e_aload_3, e_istore, e_istore_0, e_istore_1, e_istore_2, e_istore_3, e_astore, e_astore_0, e_astore_1, e_astore_2, e_astore_3, e_lstore, e_lstore_0, e_lstore_1, e_lstore_2, e_lstore_3, e_iinc, e_iadd, e_isub, e_imul, e_ladd, e_lsub, e_lmul, e_idiv, e_irem, e_ldiv, e_lrem, e_ineg, e_lneg, e_iand, e_ior, e_ixor, e_ishl, e_ishr, e_iushr, e_lcmp, e_i2l, e_l2i, e_i2b, e_i2s, e_dup_i, e_dup_r, e_pop_i, e_pop_r, e_dup2_l, e_dup2_ir, e_dup2_ii, e_ifeq, e_ifne, e_iflt, e_ifge, e_ifgt, e_ifle, e_iceq, e_icne, e_iclt, e_icge, e_icgt, e_icle, e_goto, e_switch, e_invokevirtual, e_invokestatic, e_invokespecial, e_ret0, e_ret1, e_ret2, e_ret3, ldI_s, ldL_s, ldR_s, clO_s, ctP_s, ctS_s, mgo_0, mgo_s, pjc_s, pj_0, pj_s, lk_s, rm1_0, rm1_i, rm1_r, rm1_l, rm2_0, rm2_i, rm2_r, rm2_l, csL_s, lc_lt, lc_ge, lc_gt, lc_le, lc_eq, b01_0, b01_1, b01_01, b01_n, up2_o, up2_s, up2_u, ne_eq, reduceCtorEq, Nat.reduceAdd, Nat.reduceEqDiff, Nat.reduceLT, Nat.reduceLeDiff, Int.reduceLE, Int.reduceLT, Int.reduceAdd, Int.reduceNeg, Int.reduceMul, Int.reduceSub, Int.reduceEq, Int.reduceToNat, Int.reduceNatCast, Int.cast_ofNat_Int, ↓reduceIte, and_self, List.drop_succ_cons, List.drop_zero, List.take_succ_cons, List.take_zero, List.length_cons, List.length_nil, List.reverse_cons, List.reverse_nil, List.nil_append, List.cons_append, Option.toList, true_and, and_true, or_false, false_or, or_true, true_or, forall_const, Classical.not_not, not_false_eq_true, not_true_eq_false, false_implies, true_implies, implies_true, imp_self, hn, i0, i1, i2]
  repeat (refine And.intro (by omega) ?_)
  have e7 : (up2 (up2 (up2 (up2 M 12 (3 * n) w) 12 (3 * n + 1) c) 12 (3 * n + 2) b) 7 7 ((n : Int) + 1)) 7 7 = (n : Int) + 1 := up2_s
  refine hQ _ ⟨frm_up (frm_up (frm_up (frm_up frm_rf (by decide)) (by decide)) (by decide)) (by decide), ?_, fun s hs => ?_⟩
  · funext i j
    by_cases q : i = 9 ∨ i = 10 ∨ i = 11
    · obtain ⟨x1, x2, x3⟩ := vM_act (up2 (up2 (up2 (up2 M 12 (3 * n) w) 12 (3 * n + 1) c) 12 (3 * n + 2) b) 7 7 ((n : Int) + 1)) j
      obtain ⟨y1, y2, y3⟩ := vM_act M j
      have e0 : vM M 0 7 = (n : Int) := hn
      rcases q with rfl | rfl | rfl
      · rw [x1, e7]
        rw [do_9.1, e0, y1, hn, up2_o (by decide), up2_n (by omega), up2_n (by omega)]
        by_cases e : j = n
        · rw [e, if_pos (by omega), if_pos rfl, up2_s]
        · rw [if_neg (show ¬ (j : Int) = n by omega), up2_n (by omega)]
          by_cases z : (j : Int) < n
          · rw [if_pos z, if_pos (by omega)]
          · rw [if_neg z, if_neg (by omega)]
      · rw [x2, e7]
        rw [do_9.2.1, e0, y2, hn, up2_o (by decide), up2_n (by omega)]
        by_cases e : j = n
        · rw [e, if_pos (by omega), if_pos rfl, up2_s]
        · rw [if_neg (show ¬ (j : Int) = n by omega), up2_n (by omega), up2_n (by omega)]
          by_cases z : (j : Int) < n
          · rw [if_pos z, if_pos (by omega)]
          · rw [if_neg z, if_neg (by omega)]
      · rw [x3, e7]
        rw [do_9.2.2, e0, y3, hn, up2_o (by decide)]
        by_cases e : j = n
        · rw [e, if_pos (by omega), if_pos rfl, up2_s]
        · rw [if_neg (show ¬ (j : Int) = n by omega), up2_n (by omega), up2_n (by omega), up2_n (by omega)]
          by_cases z : (j : Int) < n
          · rw [if_pos z, if_pos (by omega)]
          · rw [if_neg z, if_neg (by omega)]
    · by_cases e : i = 0 ∧ j = 7
      · obtain ⟨rfl, rfl⟩ := e
        refine e7.trans ?_
        rw [← hn]
        rfl
      · refine (vS_act (s := 0) (M := M) ?_ ?_ i j e q).trans ?_
        rotate_left 2
        · unfold doP
          rw [if_neg e, if_neg (by omega), if_neg (by omega), if_neg (by omega)]
        · intro k hk
          simp only [List.mem_cons, List.not_mem_nil, or_false] at hk
          rcases hk with rfl | rfl | rfl | rfl | rfl <;> rfl
        · intro j h1 _ _
          rw [up2_n (by omega)]; rfl
  · refine vS_far hs ?_ ?_ ?_
    · intro k hk
      simp only [List.mem_cons, List.not_mem_nil, or_false] at hk
      rcases hk with rfl | rfl | rfl | rfl | rfl <;> rfl
    · intro j hj
      rw [up2_n (by omega)]; rfl
    · intro j hj
      rw [up2_o (by decide), up2_n (by omega), up2_n (by omega), up2_n (by omega)]
set_option maxHeartbeats 4000000 in
set_option maxRecDepth 100000 in
theorem m7_does : MOK cl7 sh7 tyl7 [] 0 yX7_does cX7_does 5 none sp7_does := by
  refine mok_of (own := RX7) (tb := tb7 (csL cs7_does)) (rt := 0) (fuel := 400) (fun avs M Q => []) (by decide) rfl nil_nw (tbOK7 _) rfl (csL_all ?_) ?_ ?_ ?_
  · intro q hq; cases hq
  · intro avs M Q hsp
    obtain ⟨xs, hx⟩ := spV_un _ _ _ hsp
    obtain ⟨e, hl⟩ := unA_mkT hx
    obtain ⟨w, c, b, rfl⟩ := len3 hl
    have e : avs = [ar 0, ai w, ai c, ai b] := e
    subst e
    simp [szL, isL]
  · intro avs M Q hM hav hsp
    obtain ⟨xs, hx⟩ := spV_un _ _ _ hsp
    obtain ⟨e, hl⟩ := unA_mkT hx
    obtain ⟨w, c, b, rfl⟩ := len3 hl
    have e : avs = [ar 0, ai w, ai c, ai b] := e
    subst e
    exact in7_does hM (hav (ai w) (by simp)) (hav (ai c) (by simp)) (hav (ai b) (by simp)) hsp.1 hsp.2
  · intro avs M Q hM hav hsp q hq m_ vs M1 hM1 hv hJ
    obtain ⟨xs, hx⟩ := spV_un _ _ _ hsp
    obtain ⟨e, hl⟩ := unA_mkT hx
    obtain ⟨w, c, b, rfl⟩ := len3 hl
    have e : avs = [ar 0, ai w, ai c, ai b] := e
    subst e
    cases hq
theorem cg7_does {lvl : Nat} (h : 0 < lvl) : CG RX7 cl7 sh7 tyl7 [] lvl 1 502 4 sp7_does := cg_V (sg := [0, 0, 0]) nil_nw spV_mono spV_un m7_does h rfl (by decide) rfl rfl ⟨rfl, by decide, by decide, rfl⟩ q2246 q2248 qs126 q138 q2249
theorem keepO_do {M M1 : Mm} (h : frm [7, 12] M M1) (h2 : ∀ s, 1 ≤ s → vS s M1 = vS s M) : keepO M M1 := ⟨fun k hk => h k (by revert hk; simp only [List.mem_cons, List.not_mem_nil, or_false]; omega), fun j _ => by rw [h 0 (by decide)], fun s a _ => h2 s a⟩
abbrev sndP (V : Vy) (c b : Int) : Prop := isC V c ∧ (b = -1 ∨ isB V b)
def A_send (V : Vy) (c b : Int) : Int := if sndP V c b then (if V 0 7 = 30 then -5 else byF V (V 0 7).toNat c.toNat) else -2
def N_send (V : Vy) (c b : Int) : Vy := if sndP V c b ∧ ¬ V 0 7 = 30 then doP V 0 c b else V
def P7_send (c : Int) (b : Int) (M : Mm) : Prop := okY (vM M)
def R7_send (c : Int) (b : Int) (M : Mm) (v : Int) (M1 : Mm) : Prop := keepO M M1 ∧ v = A_send (vM M) c b ∧ vM M1 = N_send (vM M) c b
def sp7_send : Spec := spR true [0, 0] 1 (fun x M => P7_send (x 0) (x 1) M) (fun x M v M1 => R7_send (x 0) (x 1) M v M1)
theorem c7_send {c b : Int} {M : Mm} {Q : Option AV → Mm → Prop} : sp7_send [ar 0, ai c, ai b] M Q = (P7_send c b M ∧ ∀ (v : Int) (M1 : Mm), R7_send c b M v M1 → Q (some (ai v)) M1) := rfl
def cs7_send : List (Nat × Nat × Nat × Spec) := [(289, 1, 2, sp7_isCart), (292, 1, 2, sp7_isBridge), (330, 1, 1, sp7_lays), (502, 1, 4, sp7_does)]
set_option maxHeartbeats 4000000 in
set_option maxRecDepth 100000 in
theorem in7_send {c b : Int} {M : Mm} {Q : Option AV → Mm → Prop} (hM : okM sh7 M) (h_c : i32 c) (h_b : i32 b) (hP : P7_send c b M) (hQ : ∀ (v : Int) (M1 : Mm), R7_send c b M v M1 → Q (some (ai v)) M1) : wp (tb7 (csL cs7_send)) sh7 3 1 cX7_send [] Q 400 0 [(0, ar 0), (1, ai c), (2, ai b)] [] M := by
  have h4 : 0 ≤ M 7 4 ∧ M 7 4 ≤ 7 := hP.2.2.2.2.1
  have h3 : 0 ≤ M 7 3 ∧ M 7 3 ≤ 3 := hP.2.2.2.1
  have h7 : 0 ≤ M 7 7 ∧ M 7 7 ≤ 30 := hP.2.2.2.2.2.2.2.1
  have hk0 : keepM M (up2 M 0 0 0) := keep_u0 keep_rf (by decide)
  have hV : vM (up2 M 0 0 0) = vM M := keep_v hk0 0
  have hP0 : okY (vM (up2 M 0 0 0)) := by rw [hV]; exact hP
  have no : ∀ x, x = -2 → ¬ ((0 ≤ c ∧ c < M 7 4) ∧ (b = -1 ∨ (0 ≤ b ∧ b < M 7 3))) → Q (some (ai x)) (up2 M 0 0 0) := by
    rintro x rfl q
    exact hQ _ _ ⟨keepO_of hk0, (if_neg q).symm, by rw [hV]; exact (if_neg (fun z => q z.1)).symm⟩
  have fu : ((0 ≤ c ∧ c < M 7 4) ∧ (b = -1 ∨ (0 ≤ b ∧ b < M 7 3))) → M 7 7 = 30 → Q (some (ai (-5))) (up2 M 0 0 0) := by
    intro q z
    exact hQ _ _ ⟨keepO_of hk0, ((if_pos q).trans (if_pos z)).symm, by rw [hV]; exact (if_neg (fun y => y.2 z)).symm⟩
  have ye : ((0 ≤ c ∧ c < M 7 4) ∧ (b = -1 ∨ (0 ≤ b ∧ b < M 7 3))) → ¬ M 7 7 = 30 → P7_lays (up2 M 0 0 0) ∧ ∀ M1, R7_lays (up2 M 0 0 0) M1 → P7_does 0 c b M1 ∧ ∀ M2, R7_does 0 c b M1 M2 → (0 ≤ c ∧ c < 7) ∧ Q (some (ai (M2 15 c.toNat))) M2 := by
    intro q z
    refine ⟨hP0, fun M1 hR => ?_⟩
    obtain ⟨k1, k2⟩ := tl_use hR
    have k1 := keep_tr hk0 k1
    have eV : vM M1 = vM M := keep_v k1 0
    rw [hV] at k2
    have e7 : M1 7 = M 7 := keep_has k1
    refine ⟨⟨by rw [e7]; omega, by rw [e7]; omega⟩, fun M2 hR2 => ?_⟩
    obtain ⟨r1, r2, r3⟩ := hR2
    have e15 : M2 15 = M1 15 := r1 _ (by decide)
    refine ⟨by omega, hQ _ _ ⟨keepO_tr (keepO_of k1) (keepO_do r1 r3), ?_, ?_⟩⟩
    · have e := congrFun (congrFun k2 2) c.toNat
      have hc : ((c.toNat : Nat) : Int) < vM M 0 4 := by show _ < M 7 4; omega
      rw [nC_s (by decide) hc] at e
      rw [e15, show M1 15 c.toNat = _ from e]
      show (if ((c.toNat : Nat) : Int) < vM M 0 4 then byF (vM M) (vM M 0 7).toNat c.toNat else 0) = _
      rw [if_pos hc]
      exact ((if_pos q).trans (if_neg z)).symm
    · rw [r2, eV]
      exact (if_pos ⟨q, z⟩).symm
  simp only [e_wp dX7_send_0 rfl, e_wp dX7_send_1 rfl, e_wp dX7_send_2 rfl, e_wp dX7_send_5 rfl, e_wp dX7_send_6 rfl, e_wp dX7_send_7 rfl, e_wp dX7_send_8 rfl, e_wp dX7_send_11 rfl, e_wp dX7_send_14 rfl, e_wp dX7_send_15 rfl, e_wp dX7_send_16 rfl, e_wp dX7_send_19 rfl, e_wp dX7_send_20 rfl, e_wp dX7_send_21 rfl, e_wp dX7_send_22 rfl, e_wp dX7_send_25 rfl, e_wp dX7_send_28 rfl, e_wp dX7_send_30 rfl, e_wp dX7_send_31 rfl, e_wp dX7_send_32 rfl, e_wp dX7_send_35 rfl, e_wp dX7_send_37 rfl, e_wp dX7_send_38 rfl, e_wp dX7_send_40 rfl, e_wp dX7_send_43 rfl, e_wp dX7_send_45 rfl, e_wp dX7_send_46 rfl, e_wp dX7_send_47 rfl, e_wp dX7_send_50 rfl, e_wp dX7_send_51 rfl, e_wp dX7_send_52 rfl, e_wp dX7_send_53 rfl, e_wp dX7_send_54 rfl, e_wp dX7_send_57 rfl, e_wp dX7_send_58 rfl, e_wp dX7_send_61 rfl, e_wp dX7_send_62 rfl, e_wp dX7_send_63 rfl, p7_116, c7_isCart, P7_isCart, V7_isCart, cs7_send, c7_isBridge, P7_isBridge, V7_isBridge, g7_34, c7_lays, c7_does, g7_59, a7_1, w7_1, a7_2, w7_2, a7_3, w7_3, a7_4, w7_4, a7_5, w7_5, a7_6, w7_6, a7_7, w7_7, a7_8, w7_8, a7_9, w7_9, a7_10, w7_10, a7_11, w7_11, a7_12, w7_12, a7_13, w7_13, a7_14, w7_14, a7_15, w7_15, a7_16, w7_16, a7_17, w7_17, a7_18, w7_18, a7_19, w7_19, a7_20, w7_20, a7_21, w7_21, a7_22, w7_22, a7_23, w7_23, a7_24, w7_24, a7_25, w7_25, a7_26, w7_26, a7_27, w7_27, a7_28, w7_28, a7_29, w7_29, a7_30, w7_30, a7_31, w7_31, a7_32, w7_32, a7_33, w7_33, e_iconst, e_bipush, e_sipush, e_lconst_0, e_lconst_1, e_iload, e_iload_0, e_iload_1, e_iload_2, e_iload_3, e_lload, e_lload_0, e_lload_1, e_lload_2, e_lload_3, e_aload, e_aload_0, e_aload_1, e_aload_2, e_aload_3, e_istore, e_istore_0, e_istore_1, e_istore_2, e_istore_3, e_astore, e_astore_0, e_astore_1, e_astore_2, e_astore_3, e_lstore, e_lstore_0, e_lstore_1, e_lstore_2, e_lstore_3, e_iinc, e_iadd, e_isub, e_imul, e_ladd, e_lsub, e_lmul, e_idiv, e_irem, e_ldiv, e_lrem, e_ineg, e_lneg, e_iand, e_ior, e_ixor, e_ishl, e_ishr, e_iushr, e_lcmp, e_i2l, e_l2i, e_i2b, e_i2s, e_dup_i, e_dup_r, e_pop_i, e_pop_r, e_dup2_l, e_dup2_ir, e_dup2_ii, e_ifeq, e_ifne, e_iflt, e_ifge, e_ifgt, e_ifle, e_iceq, e_icne, e_iclt, e_icge, e_icgt, e_icle, e_goto, e_switch, e_invokevirtual, e_invokestatic, e_invokespecial, e_ret0, e_ret1, e_ret2, e_ret3, ldI_s, ldL_s, ldR_s, clO_s, ctP_s, ctS_s, mgo_0, mgo_s, pjc_s, pj_0, pj_s, lk_s, rm1_0, rm1_i, rm1_r, rm1_l, rm2_0, rm2_i, rm2_r, rm2_l, csL_s, lc_lt, lc_ge, lc_gt, lc_le, lc_eq, b01_0, b01_1, b01_01, b01_n, up2_o, up2_s, up2_u, ne_eq, reduceCtorEq, Nat.reduceAdd, Nat.reduceEqDiff, Nat.reduceLT, Nat.reduceLeDiff, Int.reduceLE, Int.reduceLT, Int.reduceAdd, Int.reduceNeg, Int.reduceMul, Int.reduceSub, Int.reduceEq, Int.reduceToNat, Int.reduceNatCast, Int.cast_ofNat_Int, ↓reduceIte, and_self, List.drop_succ_cons, List.drop_zero, List.take_succ_cons, List.take_zero, List.length_cons, List.length_nil, List.reverse_cons, List.reverse_nil, List.nil_append, List.cons_append, Option.toList, true_and, and_true, or_false, false_or, or_true, true_or, forall_const, Classical.not_not, not_false_eq_true, not_true_eq_false, false_implies, true_implies, implies_true, imp_self]
  refine ⟨h4, fun q => no _ rfl (fun z => q z.1), fun q => ⟨fun z => ⟨fun y => ye ⟨q, Or.inl z⟩ y, fun y => fu ⟨q, Or.inl z⟩ y⟩, fun z => ⟨h3, fun y => ⟨fun u => ye ⟨q, Or.inr y⟩ u, fun u => fu ⟨q, Or.inr y⟩ u⟩, fun y => no _ rfl (fun u => u.2.elim z y)⟩⟩⟩
set_option maxHeartbeats 4000000 in
set_option maxRecDepth 100000 in
theorem m7_send : MOK cl7 sh7 tyl7 [] 2 yX7_send cX7_send 3 (some .int) sp7_send := by
  refine mok_of (own := RX7) (tb := tb7 (csL cs7_send)) (rt := 1) (fuel := 400) (fun avs M Q => []) (by decide) rfl nil_nw (tbOK7 _) rfl (csL_all ?_) ?_ ?_ ?_
  · intro q hq
    simp only [cs7_send, List.mem_cons, List.not_mem_nil, or_false] at hq
    rcases hq with rfl | rfl | rfl | rfl
    · exact cg7_isCart (by decide)
    · exact cg7_isBridge (by decide)
    · exact cg7_lays (by decide)
    · exact cg7_does (by decide)
  · intro avs M Q hsp
    obtain ⟨xs, hx⟩ := spR_un _ _ _ hsp
    obtain ⟨e, hl⟩ := unA_mkT hx
    obtain ⟨c, b, rfl⟩ := len2 hl
    have e : avs = [ar 0, ai c, ai b] := e
    subst e
    simp [szL, isL]
  · intro avs M Q hM hav hsp
    obtain ⟨xs, hx⟩ := spR_un _ _ _ hsp
    obtain ⟨e, hl⟩ := unA_mkT hx
    obtain ⟨c, b, rfl⟩ := len2 hl
    have e : avs = [ar 0, ai c, ai b] := e
    subst e
    exact in7_send hM (hav (ai c) (by simp)) (hav (ai b) (by simp)) hsp.1 hsp.2
  · intro avs M Q hM hav hsp q hq m_ vs M1 hM1 hv hJ
    obtain ⟨xs, hx⟩ := spR_un _ _ _ hsp
    obtain ⟨e, hl⟩ := unA_mkT hx
    obtain ⟨c, b, rfl⟩ := len2 hl
    have e : avs = [ar 0, ai c, ai b] := e
    subst e
    cases hq
def A_freeze (V : Vy) (c n : Int) : Int := if isC V c ∧ 0 ≤ n ∧ n ≤ 1 then (if V 0 7 = 30 then -5 else b01 (bitP (coldF V (V 0 7).toNat) c)) else -2
def N_freeze (V : Vy) (c n : Int) : Vy := if (isC V c ∧ 0 ≤ n ∧ n ≤ 1) ∧ ¬ V 0 7 = 30 then doP V (if n = 1 then 1 else 2) c 0 else V
def P7_freeze (c : Int) (n : Int) (M : Mm) : Prop := okY (vM M)
def R7_freeze (c : Int) (n : Int) (M : Mm) (v : Int) (M1 : Mm) : Prop := keepO M M1 ∧ v = A_freeze (vM M) c n ∧ vM M1 = N_freeze (vM M) c n
def sp7_freeze : Spec := spR true [0, 0] 1 (fun x M => P7_freeze (x 0) (x 1) M) (fun x M v M1 => R7_freeze (x 0) (x 1) M v M1)
theorem c7_freeze {c n : Int} {M : Mm} {Q : Option AV → Mm → Prop} : sp7_freeze [ar 0, ai c, ai n] M Q = (P7_freeze c n M ∧ ∀ (v : Int) (M1 : Mm), R7_freeze c n M v M1 → Q (some (ai v)) M1) := rfl
def cs7_freeze : List (Nat × Nat × Nat × Spec) := [(289, 1, 2, sp7_isCart), (342, 0, 1, sp7_isHalf), (330, 1, 1, sp7_lays), (502, 1, 4, sp7_does), (307, 0, 2, sp7_isBit)]
set_option maxHeartbeats 4000000 in
set_option maxRecDepth 100000 in
theorem in7_freeze {c n : Int} {M : Mm} {Q : Option AV → Mm → Prop} (hM : okM sh7 M) (h_c : i32 c) (h_n : i32 n) (hP : P7_freeze c n M) (hQ : ∀ (v : Int) (M1 : Mm), R7_freeze c n M v M1 → Q (some (ai v)) M1) : wp (tb7 (csL cs7_freeze)) sh7 3 1 cX7_freeze [] Q 400 0 [(0, ar 0), (1, ai c), (2, ai n)] [] M := by
  have h4 : 0 ≤ M 7 4 ∧ M 7 4 ≤ 7 := hP.2.2.2.2.1
  have h7 : 0 ≤ M 7 7 ∧ M 7 7 ≤ 30 := hP.2.2.2.2.2.2.2.1
  have hk0 : keepM M (up2 M 0 0 0) := keep_u0 keep_rf (by decide)
  have hV : vM (up2 M 0 0 0) = vM M := keep_v hk0 0
  have hP0 : okY (vM (up2 M 0 0 0)) := by rw [hV]; exact hP
  have no : ∀ x, x = -2 → ¬ ((0 ≤ c ∧ c < M 7 4) ∧ 0 ≤ n ∧ n ≤ 1) → Q (some (ai x)) (up2 M 0 0 0) := by
    rintro x rfl q
    exact hQ _ _ ⟨keepO_of hk0, (if_neg q).symm, by rw [hV]; exact (if_neg (fun z => q z.1)).symm⟩
  simp only [e_wp dX7_freeze_0 rfl, e_wp dX7_freeze_1 rfl, e_wp dX7_freeze_2 rfl, e_wp dX7_freeze_5 rfl, e_wp dX7_freeze_6 rfl, e_wp dX7_freeze_7 rfl, e_wp dX7_freeze_8 rfl, e_wp dX7_freeze_11 rfl, e_wp dX7_freeze_14 rfl, e_wp dX7_freeze_15 rfl, e_wp dX7_freeze_18 rfl, e_wp dX7_freeze_21 rfl, e_wp dX7_freeze_23 rfl, e_wp dX7_freeze_24 rfl, e_wp dX7_freeze_25 rfl, e_wp dX7_freeze_28 rfl, e_wp dX7_freeze_30 rfl, e_wp dX7_freeze_31 rfl, e_wp dX7_freeze_33 rfl, e_wp dX7_freeze_36 rfl, e_wp dX7_freeze_38 rfl, e_wp dX7_freeze_39 rfl, e_wp dX7_freeze_40 rfl, e_wp dX7_freeze_43 rfl, e_wp dX7_freeze_44 rfl, e_wp dX7_freeze_45 rfl, e_wp dX7_freeze_46 rfl, e_wp dX7_freeze_49 rfl, e_wp dX7_freeze_50 rfl, e_wp dX7_freeze_53 rfl, e_wp dX7_freeze_54 rfl, e_wp dX7_freeze_55 rfl, e_wp dX7_freeze_56 rfl, e_wp dX7_freeze_59 rfl, e_wp dX7_freeze_60 rfl, e_wp dX7_freeze_63 rfl, e_wp dX7_freeze_64 rfl, e_wp dX7_freeze_67 rfl, e_wp dX7_freeze_70 rfl, e_wp dX7_freeze_71 rfl, e_wp dX7_freeze_74 rfl, e_wp dX7_freeze_75 rfl, p7_116, c7_isCart, P7_isCart, V7_isCart, cs7_freeze, c7_isHalf, P7_isHalf, V7_isHalf, g7_34, c7_lays, c7_does, g7_298, c7_isBit, P7_isBit, V7_isBit, a7_1, w7_1, a7_2, w7_2, a7_3, w7_3, a7_4, w7_4, a7_5, w7_5, a7_6, w7_6, a7_7, w7_7, a7_8, w7_8, a7_9, w7_9, a7_10, w7_10, a7_11, w7_11, a7_12, w7_12, a7_13, w7_13, a7_14, w7_14, a7_15, w7_15, a7_16, w7_16, a7_17, w7_17, a7_18, w7_18, a7_19, w7_19, a7_20, w7_20, a7_21, w7_21, a7_22, w7_22, a7_23, w7_23, a7_24, w7_24, a7_25, w7_25, a7_26, w7_26, a7_27, w7_27, a7_28, w7_28, a7_29, w7_29, a7_30, w7_30, a7_31, w7_31, a7_32, w7_32, a7_33, w7_33, e_iconst, e_bipush, e_sipush, e_lconst_0, e_lconst_1, e_iload, e_iload_0, e_iload_1, e_iload_2, e_iload_3, e_lload, e_lload_0, e_lload_1, e_lload_2, e_lload_3, e_aload, e_aload_0, e_aload_1, e_aload_2, e_aload_3, e_istore, e_istore_0, e_istore_1, e_istore_2, e_istore_3, e_astore, e_astore_0, e_astore_1, e_astore_2, e_astore_3, e_lstore, e_lstore_0, e_lstore_1, e_lstore_2, e_lstore_3, e_iinc, e_iadd, e_isub, e_imul, e_ladd, e_lsub, e_lmul, e_idiv, e_irem, e_ldiv, e_lrem, e_ineg, e_lneg, e_iand, e_ior, e_ixor, e_ishl, e_ishr, e_iushr, e_lcmp, e_i2l, e_l2i, e_i2b, e_i2s, e_dup_i, e_dup_r, e_pop_i, e_pop_r, e_dup2_l, e_dup2_ir, e_dup2_ii, e_ifeq, e_ifne, e_iflt, e_ifge, e_ifgt, e_ifle, e_iceq, e_icne, e_iclt, e_icge, e_icgt, e_icle, e_goto, e_switch, e_invokevirtual, e_invokestatic, e_invokespecial, e_ret0, e_ret1, e_ret2, e_ret3, ldI_s, ldL_s, ldR_s, clO_s, ctP_s, ctS_s, mgo_0, mgo_s, pjc_s, pj_0, pj_s, lk_s, rm1_0, rm1_i, rm1_r, rm1_l, rm2_0, rm2_i, rm2_r, rm2_l, csL_s, lc_lt, lc_ge, lc_gt, lc_le, lc_eq, b01_0, b01_1, b01_01, b01_n, up2_o, up2_s, up2_u, ne_eq, reduceCtorEq, Nat.reduceAdd, Nat.reduceEqDiff, Nat.reduceLT, Nat.reduceLeDiff, Int.reduceLE, Int.reduceLT, Int.reduceAdd, Int.reduceNeg, Int.reduceMul, Int.reduceSub, Int.reduceEq, Int.reduceToNat, Int.reduceNatCast, Int.cast_ofNat_Int, ↓reduceIte, and_self, List.drop_succ_cons, List.drop_zero, List.take_succ_cons, List.take_zero, List.length_cons, List.length_nil, List.reverse_cons, List.reverse_nil, List.nil_append, List.cons_append, Option.toList, true_and, and_true, or_false, false_or, or_true, true_or, forall_const, Classical.not_not, not_false_eq_true, not_true_eq_false, false_implies, true_implies, implies_true, imp_self]
  refine ⟨h4, fun q => no _ rfl (fun z => q z.1), fun q => ⟨fun z => ⟨fun y => ⟨hP0, fun M1 hR => ?_⟩, fun y => ?_⟩, fun z => no _ rfl (fun y => z y.2)⟩⟩
  · obtain ⟨k1, k2⟩ := tl_use hR
    have k1 := keep_tr hk0 k1
    have eV : vM M1 = vM M := keep_v k1 0
    rw [hV] at k2
    have e7 : M1 7 = M 7 := keep_has k1
    have ef : M1 0 25 = coldF (vM M) (vM M 0 7).toNat := congrFun (congrFun k2 0) 1
    have go : ∀ w, w = (if n = 1 then 1 else 2) → P7_does w c 0 M1 ∧ ∀ M2, R7_does w c 0 M1 M2 → (¬ bitP (M2 0 25) c → Q (some (ai 0)) M2) ∧ (bitP (M2 0 25) c → Q (some (ai 1)) M2) := by
      intro w hw
      refine ⟨⟨by rw [e7]; omega, by rw [e7]; omega⟩, fun M2 hR2 => ?_⟩
      obtain ⟨r1, r2, r3⟩ := hR2
      have e0 : M2 0 = M1 0 := r1 _ (by decide)
      have ev : vM M2 = N_freeze (vM M) c n := by
        rw [r2, eV, hw]
        exact (if_pos ⟨⟨q, z⟩, y⟩).symm
      have eA : A_freeze (vM M) c n = b01 (bitP (M2 0 25) c) := by
        rw [e0, ef]
        exact (if_pos ⟨q, z⟩).trans (if_neg y)
      have kk := keepO_tr (keepO_of k1) (keepO_do r1 r3)
      exact ⟨fun u => hQ _ _ ⟨kk, by rw [eA, b01_f u], ev⟩, fun u => hQ _ _ ⟨kk, by rw [eA, b01_t u], ev⟩⟩
    exact ⟨fun u => go 2 (if_neg u).symm, fun u => go 1 (if_pos u).symm⟩
  · exact hQ _ _ ⟨keepO_of hk0, ((if_pos ⟨q, z⟩).trans (if_pos y)).symm, by rw [hV]; exact (if_neg (fun u => u.2 y)).symm⟩
set_option maxHeartbeats 4000000 in
set_option maxRecDepth 100000 in
theorem m7_freeze : MOK cl7 sh7 tyl7 [] 2 yX7_freeze cX7_freeze 3 (some .int) sp7_freeze := by
  refine mok_of (own := RX7) (tb := tb7 (csL cs7_freeze)) (rt := 1) (fuel := 400) (fun avs M Q => []) (by decide) rfl nil_nw (tbOK7 _) rfl (csL_all ?_) ?_ ?_ ?_
  · intro q hq
    simp only [cs7_freeze, List.mem_cons, List.not_mem_nil, or_false] at hq
    rcases hq with rfl | rfl | rfl | rfl | rfl
    · exact cg7_isCart (by decide)
    · exact cg7_isHalf (by decide)
    · exact cg7_lays (by decide)
    · exact cg7_does (by decide)
    · exact cg7_isBit (by decide)
  · intro avs M Q hsp
    obtain ⟨xs, hx⟩ := spR_un _ _ _ hsp
    obtain ⟨e, hl⟩ := unA_mkT hx
    obtain ⟨c, n, rfl⟩ := len2 hl
    have e : avs = [ar 0, ai c, ai n] := e
    subst e
    simp [szL, isL]
  · intro avs M Q hM hav hsp
    obtain ⟨xs, hx⟩ := spR_un _ _ _ hsp
    obtain ⟨e, hl⟩ := unA_mkT hx
    obtain ⟨c, n, rfl⟩ := len2 hl
    have e : avs = [ar 0, ai c, ai n] := e
    subst e
    exact in7_freeze hM (hav (ai c) (by simp)) (hav (ai n) (by simp)) hsp.1 hsp.2
  · intro avs M Q hM hav hsp q hq m_ vs M1 hM1 hv hJ
    obtain ⟨xs, hx⟩ := spR_un _ _ _ hsp
    obtain ⟨e, hl⟩ := unA_mkT hx
    obtain ⟨c, n, rfl⟩ := len2 hl
    have e : avs = [ar 0, ai c, ai n] := e
    subst e
    cases hq
def A_undo (V : Vy) : Int := if 0 < V 0 8 then (if V 0 7 = 0 then -5 else V 0 7 - 1) else -2
def N_undo (V : Vy) : Vy := if 0 < V 0 8 ∧ ¬ V 0 7 = 0 then undoP V else V
def A_anew (V : Vy) : Int := if 0 < V 0 8 then V 0 7 else -2
def N_anew (V : Vy) : Vy := if 0 < V 0 8 then anewP V else V
/-- how many acts there are, laid anew -/
theorem act_v {M : Mm} {x : Int} (hx : 0 ≤ x ∧ x ≤ M 7 7) : keepO M (up2 (up2 M 0 0 0) 7 7 x) ∧ vM (up2 (up2 M 0 0 0) 7 7 x) = fun (i j : Nat) => if i = 0 ∧ j = 7 then x else if (i = 9 ∨ i = 10 ∨ i = 11) ∧ x ≤ (j : Int) then 0 else vM M i j := by
  have e7 : (up2 (up2 M 0 0 0) 7 7 x) 7 7 = x := up2_s
  refine ⟨⟨fun k hk => ?_, fun j hj => ?_, fun s hs _ => ?_⟩, ?_⟩
  · simp only [List.mem_cons, List.not_mem_nil, or_false] at hk
    rcases hk with rfl | rfl | rfl | rfl | rfl <;> rfl
  · simp only [List.mem_cons, List.not_mem_nil, or_false] at hj
    rw [up2_o (by decide), up2_n (by omega)]
  · refine vS_far hs ?_ ?_ (fun j _ => rfl)
    · intro k hk
      simp only [List.mem_cons, List.not_mem_nil, or_false] at hk
      rcases hk with rfl | rfl | rfl | rfl | rfl <;> rfl
    · intro j hj
      rw [up2_n (by omega)]; rfl
  · funext i j
    by_cases q : i = 9 ∨ i = 10 ∨ i = 11
    · obtain ⟨x1, x2, x3⟩ := vM_act (up2 (up2 M 0 0 0) 7 7 x) j
      obtain ⟨y1, y2, y3⟩ := vM_act M j
      rw [if_neg (by omega)]
      by_cases z : x ≤ (j : Int)
      · rw [if_pos ⟨q, z⟩]
        rcases q with rfl | rfl | rfl
        · rw [x1, e7, if_neg (by omega)]
        · rw [x2, e7, if_neg (by omega)]
        · rw [x3, e7, if_neg (by omega)]
      · rw [if_neg (fun w => z w.2)]
        rcases q with rfl | rfl | rfl
        · rw [x1, y1, e7, if_pos (by omega), if_pos (by omega)]; rfl
        · rw [x2, y2, e7, if_pos (by omega), if_pos (by omega)]; rfl
        · rw [x3, y3, e7, if_pos (by omega), if_pos (by omega)]; rfl
    · by_cases e : i = 0 ∧ j = 7
      · obtain ⟨rfl, rfl⟩ := e
        exact e7
      · rw [if_neg e, if_neg (fun w => q w.1)]
        refine vS_act (s := 0) (M := M) ?_ ?_ i j e q
        · intro k hk
          simp only [List.mem_cons, List.not_mem_nil, or_false] at hk
          rcases hk with rfl | rfl | rfl | rfl | rfl <;> rfl
        · intro j h1 _ _
          rw [up2_n (by omega)]; rfl
def P7_undo (M : Mm) : Prop := okY (vM M)
def R7_undo (M : Mm) (v : Int) (M1 : Mm) : Prop := keepO M M1 ∧ v = A_undo (vM M) ∧ vM M1 = N_undo (vM M)
def sp7_undo : Spec := spR true [] 1 (fun x M => P7_undo M) (fun x M v M1 => R7_undo M v M1)
theorem c7_undo {M : Mm} {Q : Option AV → Mm → Prop} : sp7_undo [ar 0] M Q = (P7_undo M ∧ ∀ (v : Int) (M1 : Mm), R7_undo M v M1 → Q (some (ai v)) M1) := rfl
def cs7_undo : List (Nat × Nat × Nat × Spec) := [(350, 1, 1, sp7_isValley)]
set_option maxHeartbeats 4000000 in
set_option maxRecDepth 100000 in
theorem in7_undo {M : Mm} {Q : Option AV → Mm → Prop} (hM : okM sh7 M) (hP : P7_undo M) (hQ : ∀ (v : Int) (M1 : Mm), R7_undo M v M1 → Q (some (ai v)) M1) : wp (tb7 (csL cs7_undo)) sh7 1 1 cX7_undo [] Q 400 0 [(0, ar 0)] [] M := by
  have h7 : 0 ≤ M 7 7 ∧ M 7 7 ≤ 30 := hP.2.2.2.2.2.2.2.1
  have hk0 : keepM M (up2 M 0 0 0) := keep_u0 keep_rf (by decide)
  have hV : vM (up2 M 0 0 0) = vM M := keep_v hk0 0
  simp only [e_wp dX7_undo_0 rfl, e_wp dX7_undo_1 rfl, e_wp dX7_undo_2 rfl, e_wp dX7_undo_5 rfl, e_wp dX7_undo_6 rfl, e_wp dX7_undo_9 rfl, e_wp dX7_undo_12 rfl, e_wp dX7_undo_14 rfl, e_wp dX7_undo_15 rfl, e_wp dX7_undo_16 rfl, e_wp dX7_undo_19 rfl, e_wp dX7_undo_21 rfl, e_wp dX7_undo_22 rfl, e_wp dX7_undo_25 rfl, e_wp dX7_undo_27 rfl, e_wp dX7_undo_28 rfl, e_wp dX7_undo_29 rfl, e_wp dX7_undo_32 rfl, e_wp dX7_undo_34 rfl, e_wp dX7_undo_35 rfl, e_wp dX7_undo_36 rfl, e_wp dX7_undo_37 rfl, e_wp dX7_undo_38 rfl, e_wp dX7_undo_39 rfl, e_wp dX7_undo_40 rfl, e_wp dX7_undo_43 rfl, e_wp dX7_undo_45 rfl, e_wp dX7_undo_46 rfl, p7_116, c7_isValley, P7_isValley, V7_isValley, cs7_undo, g7_34, a7_1, w7_1, a7_2, w7_2, a7_3, w7_3, a7_4, w7_4, a7_5, w7_5, a7_6, w7_6, a7_7, w7_7, a7_8, w7_8, a7_9, w7_9, a7_10, w7_10, a7_11, w7_11, a7_12, w7_12, a7_13, w7_13, a7_14, w7_14, a7_15, w7_15, a7_16, w7_16, a7_17, w7_17, a7_18, w7_18, a7_19, w7_19, a7_20, w7_20, a7_21, w7_21, a7_22, w7_22, a7_23, w7_23, a7_24, w7_24, a7_25, w7_25, a7_26, w7_26, a7_27, w7_27, a7_28, w7_28, a7_29, w7_29, a7_30, w7_30, a7_31, w7_31, a7_32, w7_32, a7_33, w7_33, e_iconst, e_bipush, e_sipush, e_lconst_0, e_lconst_1, e_iload, e_iload_0, e_iload_1, e_iload_2, e_iload_3, e_lload, e_lload_0, e_lload_1, e_lload_2, e_lload_3, e_aload, e_aload_0, e_aload_1, e_aload_2, e_aload_3, e_istore, e_istore_0, e_istore_1, e_istore_2, e_istore_3, e_astore, e_astore_0, e_astore_1, e_astore_2, e_astore_3, e_lstore, e_lstore_0, e_lstore_1, e_lstore_2, e_lstore_3, e_iinc, e_iadd, e_isub, e_imul, e_ladd, e_lsub, e_lmul, e_idiv, e_irem, e_ldiv, e_lrem, e_ineg, e_lneg, e_iand, e_ior, e_ixor, e_ishl, e_ishr, e_iushr, e_lcmp, e_i2l, e_l2i, e_i2b, e_i2s, e_dup_i, e_dup_r, e_pop_i, e_pop_r, e_dup2_l, e_dup2_ir, e_dup2_ii, e_ifeq, e_ifne, e_iflt, e_ifge, e_ifgt, e_ifle, e_iceq, e_icne, e_iclt, e_icge, e_icgt, e_icle, e_goto, e_switch, e_invokevirtual, e_invokestatic, e_invokespecial, e_ret0, e_ret1, e_ret2, e_ret3, ldI_s, ldL_s, ldR_s, clO_s, ctP_s, ctS_s, mgo_0, mgo_s, pjc_s, pj_0, pj_s, lk_s, rm1_0, rm1_i, rm1_r, rm1_l, rm2_0, rm2_i, rm2_r, rm2_l, csL_s, lc_lt, lc_ge, lc_gt, lc_le, lc_eq, b01_0, b01_1, b01_01, b01_n, up2_o, up2_s, up2_u, ne_eq, reduceCtorEq, Nat.reduceAdd, Nat.reduceEqDiff, Nat.reduceLT, Nat.reduceLeDiff, Int.reduceLE, Int.reduceLT, Int.reduceAdd, Int.reduceNeg, Int.reduceMul, Int.reduceSub, Int.reduceEq, Int.reduceToNat, Int.reduceNatCast, Int.cast_ofNat_Int, ↓reduceIte, and_self, List.drop_succ_cons, List.drop_zero, List.take_succ_cons, List.take_zero, List.length_cons, List.length_nil, List.reverse_cons, List.reverse_nil, List.nil_append, List.cons_append, Option.toList, true_and, and_true, or_false, false_or, or_true, true_or, forall_const, Classical.not_not, not_false_eq_true, not_true_eq_false, false_implies, true_implies, implies_true, imp_self]
  refine ⟨fun q => ⟨fun z => ?_, fun z => ?_⟩, fun q => hQ _ _ ⟨keepO_of hk0, (if_neg (by show ¬ 0 < M 6 0; omega)).symm, by rw [hV]; exact (if_neg (fun y => absurd y.1 (by show ¬ 0 < M 6 0; omega))).symm⟩⟩
  · obtain ⟨a1, a2⟩ := act_v (M := M) (x := M 7 7 - 1) (by omega)
    repeat (refine And.intro (by omega) ?_)
    refine hQ _ _ ⟨a1, ((if_pos q).trans (if_neg z)).symm, ?_⟩
    rw [a2]
    exact (if_pos (show 0 < vM M 0 8 ∧ ¬ vM M 0 7 = 0 from ⟨q, z⟩)).symm
  · exact hQ _ _ ⟨keepO_of hk0, ((if_pos q).trans (if_pos z)).symm, by rw [hV]; exact (if_neg (fun y => y.2 z)).symm⟩
set_option maxHeartbeats 4000000 in
set_option maxRecDepth 100000 in
theorem m7_undo : MOK cl7 sh7 tyl7 [] 1 yX7_undo cX7_undo 1 (some .int) sp7_undo := by
  refine mok_of (own := RX7) (tb := tb7 (csL cs7_undo)) (rt := 1) (fuel := 400) (fun avs M Q => []) (by decide) rfl nil_nw (tbOK7 _) rfl (csL_all ?_) ?_ ?_ ?_
  · intro q hq
    simp only [cs7_undo, List.mem_cons, List.not_mem_nil, or_false] at hq
    rcases hq with rfl
    · exact cg7_isValley (by decide)
  · intro avs M Q hsp
    obtain ⟨xs, hx⟩ := spR_un _ _ _ hsp
    obtain ⟨e, hl⟩ := unA_mkT hx
    obtain rfl := len0 hl
    have e : avs = [ar 0] := e
    subst e
    simp [szL, isL]
  · intro avs M Q hM hav hsp
    obtain ⟨xs, hx⟩ := spR_un _ _ _ hsp
    obtain ⟨e, hl⟩ := unA_mkT hx
    obtain rfl := len0 hl
    have e : avs = [ar 0] := e
    subst e
    exact in7_undo hM hsp.1 hsp.2
  · intro avs M Q hM hav hsp q hq m_ vs M1 hM1 hv hJ
    obtain ⟨xs, hx⟩ := spR_un _ _ _ hsp
    obtain ⟨e, hl⟩ := unA_mkT hx
    obtain rfl := len0 hl
    have e : avs = [ar 0] := e
    subst e
    cases hq
def P7_anew (M : Mm) : Prop := okY (vM M)
def R7_anew (M : Mm) (v : Int) (M1 : Mm) : Prop := keepO M M1 ∧ v = A_anew (vM M) ∧ vM M1 = N_anew (vM M)
def sp7_anew : Spec := spR true [] 1 (fun x M => P7_anew M) (fun x M v M1 => R7_anew M v M1)
theorem c7_anew {M : Mm} {Q : Option AV → Mm → Prop} : sp7_anew [ar 0] M Q = (P7_anew M ∧ ∀ (v : Int) (M1 : Mm), R7_anew M v M1 → Q (some (ai v)) M1) := rfl
def cs7_anew : List (Nat × Nat × Nat × Spec) := [(350, 1, 1, sp7_isValley)]
set_option maxHeartbeats 4000000 in
set_option maxRecDepth 100000 in
theorem in7_anew {M : Mm} {Q : Option AV → Mm → Prop} (hM : okM sh7 M) (hP : P7_anew M) (hQ : ∀ (v : Int) (M1 : Mm), R7_anew M v M1 → Q (some (ai v)) M1) : wp (tb7 (csL cs7_anew)) sh7 2 1 cX7_anew [] Q 400 0 [(0, ar 0)] [] M := by
  have h7 : 0 ≤ M 7 7 ∧ M 7 7 ≤ 30 := hP.2.2.2.2.2.2.2.1
  have hk0 : keepM M (up2 M 0 0 0) := keep_u0 keep_rf (by decide)
  have hV : vM (up2 M 0 0 0) = vM M := keep_v hk0 0
  simp only [e_wp dX7_anew_0 rfl, e_wp dX7_anew_1 rfl, e_wp dX7_anew_2 rfl, e_wp dX7_anew_5 rfl, e_wp dX7_anew_6 rfl, e_wp dX7_anew_9 rfl, e_wp dX7_anew_12 rfl, e_wp dX7_anew_14 rfl, e_wp dX7_anew_15 rfl, e_wp dX7_anew_16 rfl, e_wp dX7_anew_19 rfl, e_wp dX7_anew_21 rfl, e_wp dX7_anew_22 rfl, e_wp dX7_anew_23 rfl, e_wp dX7_anew_24 rfl, e_wp dX7_anew_27 rfl, e_wp dX7_anew_29 rfl, e_wp dX7_anew_30 rfl, e_wp dX7_anew_31 rfl, e_wp dX7_anew_32 rfl, p7_116, c7_isValley, P7_isValley, V7_isValley, cs7_anew, g7_34, a7_1, w7_1, a7_2, w7_2, a7_3, w7_3, a7_4, w7_4, a7_5, w7_5, a7_6, w7_6, a7_7, w7_7, a7_8, w7_8, a7_9, w7_9, a7_10, w7_10, a7_11, w7_11, a7_12, w7_12, a7_13, w7_13, a7_14, w7_14, a7_15, w7_15, a7_16, w7_16, a7_17, w7_17, a7_18, w7_18, a7_19, w7_19, a7_20, w7_20, a7_21, w7_21, a7_22, w7_22, a7_23, w7_23, a7_24, w7_24, a7_25, w7_25, a7_26, w7_26, a7_27, w7_27, a7_28, w7_28, a7_29, w7_29, a7_30, w7_30, a7_31, w7_31, a7_32, w7_32, a7_33, w7_33, e_iconst, e_bipush, e_sipush, e_lconst_0, e_lconst_1, e_iload, e_iload_0, e_iload_1, e_iload_2, e_iload_3, e_lload, e_lload_0, e_lload_1, e_lload_2, e_lload_3, e_aload, e_aload_0, e_aload_1, e_aload_2, e_aload_3, e_istore, e_istore_0, e_istore_1, e_istore_2, e_istore_3, e_astore, e_astore_0, e_astore_1, e_astore_2, e_astore_3, e_lstore, e_lstore_0, e_lstore_1, e_lstore_2, e_lstore_3, e_iinc, e_iadd, e_isub, e_imul, e_ladd, e_lsub, e_lmul, e_idiv, e_irem, e_ldiv, e_lrem, e_ineg, e_lneg, e_iand, e_ior, e_ixor, e_ishl, e_ishr, e_iushr, e_lcmp, e_i2l, e_l2i, e_i2b, e_i2s, e_dup_i, e_dup_r, e_pop_i, e_pop_r, e_dup2_l, e_dup2_ir, e_dup2_ii, e_ifeq, e_ifne, e_iflt, e_ifge, e_ifgt, e_ifle, e_iceq, e_icne, e_iclt, e_icge, e_icgt, e_icle, e_goto, e_switch, e_invokevirtual, e_invokestatic, e_invokespecial, e_ret0, e_ret1, e_ret2, e_ret3, ldI_s, ldL_s, ldR_s, clO_s, ctP_s, ctS_s, mgo_0, mgo_s, pjc_s, pj_0, pj_s, lk_s, rm1_0, rm1_i, rm1_r, rm1_l, rm2_0, rm2_i, rm2_r, rm2_l, csL_s, lc_lt, lc_ge, lc_gt, lc_le, lc_eq, b01_0, b01_1, b01_01, b01_n, up2_o, up2_s, up2_u, ne_eq, reduceCtorEq, Nat.reduceAdd, Nat.reduceEqDiff, Nat.reduceLT, Nat.reduceLeDiff, Int.reduceLE, Int.reduceLT, Int.reduceAdd, Int.reduceNeg, Int.reduceMul, Int.reduceSub, Int.reduceEq, Int.reduceToNat, Int.reduceNatCast, Int.cast_ofNat_Int, ↓reduceIte, and_self, List.drop_succ_cons, List.drop_zero, List.take_succ_cons, List.take_zero, List.length_cons, List.length_nil, List.reverse_cons, List.reverse_nil, List.nil_append, List.cons_append, Option.toList, true_and, and_true, or_false, false_or, or_true, true_or, forall_const, Classical.not_not, not_false_eq_true, not_true_eq_false, false_implies, true_implies, implies_true, imp_self]
  refine ⟨fun q => ?_, fun q => hQ _ _ ⟨keepO_of hk0, (if_neg (by show ¬ 0 < M 6 0; omega)).symm, by rw [hV]; exact (if_neg (by show ¬ 0 < M 6 0; omega)).symm⟩⟩
  obtain ⟨a1, a2⟩ := act_v (M := M) (x := 0) (by omega)
  repeat (refine And.intro (by omega) ?_)
  refine hQ _ _ ⟨a1, (if_pos q).symm, ?_⟩
  rw [a2, show N_anew (vM M) = anewP (vM M) from if_pos q]
  funext i j
  show _ = if i = 0 ∧ j = 7 then 0 else if i = 9 ∨ i = 10 ∨ i = 11 then 0 else vM M i j
  by_cases e : i = 0 ∧ j = 7
  · rw [if_pos e, if_pos e]
  · rw [if_neg e, if_neg e]
    by_cases q : i = 9 ∨ i = 10 ∨ i = 11
    · rw [if_pos q, if_pos ⟨q, by omega⟩]
    · rw [if_neg q, if_neg (fun w => q w.1)]
set_option maxHeartbeats 4000000 in
set_option maxRecDepth 100000 in
theorem m7_anew : MOK cl7 sh7 tyl7 [] 1 yX7_anew cX7_anew 2 (some .int) sp7_anew := by
  refine mok_of (own := RX7) (tb := tb7 (csL cs7_anew)) (rt := 1) (fuel := 400) (fun avs M Q => []) (by decide) rfl nil_nw (tbOK7 _) rfl (csL_all ?_) ?_ ?_ ?_
  · intro q hq
    simp only [cs7_anew, List.mem_cons, List.not_mem_nil, or_false] at hq
    rcases hq with rfl
    · exact cg7_isValley (by decide)
  · intro avs M Q hsp
    obtain ⟨xs, hx⟩ := spR_un _ _ _ hsp
    obtain ⟨e, hl⟩ := unA_mkT hx
    obtain rfl := len0 hl
    have e : avs = [ar 0] := e
    subst e
    simp [szL, isL]
  · intro avs M Q hM hav hsp
    obtain ⟨xs, hx⟩ := spR_un _ _ _ hsp
    obtain ⟨e, hl⟩ := unA_mkT hx
    obtain rfl := len0 hl
    have e : avs = [ar 0] := e
    subst e
    exact in7_anew hM hsp.1 hsp.2
  · intro avs M Q hM hav hsp q hq m_ vs M1 hM1 hv hJ
    obtain ⟨xs, hx⟩ := spR_un _ _ _ hsp
    obtain ⟨e, hl⟩ := unA_mkT hx
    obtain rfl := len0 hl
    have e : avs = [ar 0] := e
    subst e
    cases hq
abbrev ratP (V : Vy) (b n : Int) : Prop := isB V b ∧ 1 ≤ n ∧ n ≤ 300
def A_rate (V : Vy) (b n : Int) : Int := if ratP V b n then (if 0 < V 0 7 then -5 else V 1 b.toNat) else -2
def N_rate (V : Vy) (b n : Int) : Vy := if ratP V b n ∧ ¬ 0 < V 0 7 then up2 V 1 b.toNat n else V
def P7_rate (b : Int) (n : Int) (M : Mm) : Prop := okY (vM M)
def R7_rate (b : Int) (n : Int) (M : Mm) (v : Int) (M1 : Mm) : Prop := keepO M M1 ∧ v = A_rate (vM M) b n ∧ vM M1 = N_rate (vM M) b n
def sp7_rate : Spec := spR true [0, 0] 1 (fun x M => P7_rate (x 0) (x 1) M) (fun x M v M1 => R7_rate (x 0) (x 1) M v M1)
theorem c7_rate {b n : Int} {M : Mm} {Q : Option AV → Mm → Prop} : sp7_rate [ar 0, ai b, ai n] M Q = (P7_rate b n M ∧ ∀ (v : Int) (M1 : Mm), R7_rate b n M v M1 → Q (some (ai v)) M1) := rfl
def cs7_rate : List (Nat × Nat × Nat × Spec) := [(292, 1, 2, sp7_isBridge), (121, 0, 3, sp7_in)]
set_option maxHeartbeats 4000000 in
set_option maxRecDepth 100000 in
theorem in7_rate {b n : Int} {M : Mm} {Q : Option AV → Mm → Prop} (hM : okM sh7 M) (h_b : i32 b) (h_n : i32 n) (hP : P7_rate b n M) (hQ : ∀ (v : Int) (M1 : Mm), R7_rate b n M v M1 → Q (some (ai v)) M1) : wp (tb7 (csL cs7_rate)) sh7 4 1 cX7_rate [] Q 400 0 [(0, ar 0), (1, ai b), (2, ai n)] [] M := by
  have h3 : 0 ≤ M 7 3 ∧ M 7 3 ≤ 3 := hP.2.2.2.1
  have h7 : 0 ≤ M 7 7 ∧ M 7 7 ≤ 30 := hP.2.2.2.2.2.2.2.1
  have hk0 : keepM M (up2 M 0 0 0) := keep_u0 keep_rf (by decide)
  have hV : vM (up2 M 0 0 0) = vM M := keep_v hk0 0
  have no : ∀ x, x = -2 → ¬ ((0 ≤ b ∧ b < M 7 3) ∧ 1 ≤ n ∧ n ≤ 300) → Q (some (ai x)) (up2 M 0 0 0) := by
    rintro x rfl q
    exact hQ _ _ ⟨keepO_of hk0, (if_neg q).symm, by rw [hV]; exact (if_neg (fun z => q z.1)).symm⟩
  simp only [e_wp dX7_rate_0 rfl, e_wp dX7_rate_1 rfl, e_wp dX7_rate_2 rfl, e_wp dX7_rate_5 rfl, e_wp dX7_rate_6 rfl, e_wp dX7_rate_7 rfl, e_wp dX7_rate_8 rfl, e_wp dX7_rate_11 rfl, e_wp dX7_rate_14 rfl, e_wp dX7_rate_15 rfl, e_wp dX7_rate_16 rfl, e_wp dX7_rate_17 rfl, e_wp dX7_rate_20 rfl, e_wp dX7_rate_23 rfl, e_wp dX7_rate_26 rfl, e_wp dX7_rate_28 rfl, e_wp dX7_rate_29 rfl, e_wp dX7_rate_30 rfl, e_wp dX7_rate_33 rfl, e_wp dX7_rate_35 rfl, e_wp dX7_rate_36 rfl, e_wp dX7_rate_39 rfl, e_wp dX7_rate_41 rfl, e_wp dX7_rate_42 rfl, e_wp dX7_rate_43 rfl, e_wp dX7_rate_46 rfl, e_wp dX7_rate_47 rfl, e_wp dX7_rate_48 rfl, e_wp dX7_rate_49 rfl, e_wp dX7_rate_50 rfl, e_wp dX7_rate_51 rfl, e_wp dX7_rate_52 rfl, e_wp dX7_rate_55 rfl, e_wp dX7_rate_56 rfl, e_wp dX7_rate_57 rfl, e_wp dX7_rate_58 rfl, e_wp dX7_rate_59 rfl, e_wp dX7_rate_60 rfl, e_wp dX7_rate_61 rfl, p7_116, c7_isBridge, P7_isBridge, V7_isBridge, cs7_rate, k7_506, c7_in, P7_in, V7_in, g7_34, g7_37, a7_1, w7_1, a7_2, w7_2, a7_3, w7_3, a7_4, w7_4, a7_5, w7_5, a7_6, w7_6, a7_7, w7_7, a7_8, w7_8, a7_9, w7_9, a7_10, w7_10, a7_11, w7_11, a7_12, w7_12, a7_13, w7_13, a7_14, w7_14, a7_15, w7_15, a7_16, w7_16, a7_17, w7_17, a7_18, w7_18, a7_19, w7_19, a7_20, w7_20, a7_21, w7_21, a7_22, w7_22, a7_23, w7_23, a7_24, w7_24, a7_25, w7_25, a7_26, w7_26, a7_27, w7_27, a7_28, w7_28, a7_29, w7_29, a7_30, w7_30, a7_31, w7_31, a7_32, w7_32, a7_33, w7_33, e_iconst, e_bipush, e_sipush, e_lconst_0, e_lconst_1, e_iload, e_iload_0, e_iload_1, e_iload_2, e_iload_3, e_lload, e_lload_0, e_lload_1, e_lload_2, e_lload_3, e_aload, e_aload_0, e_aload_1, e_aload_2, e_aload_3, e_istore, e_istore_0, e_istore_1, e_istore_2, e_istore_3, e_astore, e_astore_0, e_astore_1, e_astore_2, e_astore_3, e_lstore, e_lstore_0, e_lstore_1, e_lstore_2, e_lstore_3, e_iinc, e_iadd, e_isub, e_imul, e_ladd, e_lsub, e_lmul, e_idiv, e_irem, e_ldiv, e_lrem, e_ineg, e_lneg, e_iand, e_ior, e_ixor, e_ishl, e_ishr, e_iushr, e_lcmp, e_i2l, e_l2i, e_i2b, e_i2s, e_dup_i, e_dup_r, e_pop_i, e_pop_r, e_dup2_l, e_dup2_ir, e_dup2_ii, e_ifeq, e_ifne, e_iflt, e_ifge, e_ifgt, e_ifle, e_iceq, e_icne, e_iclt, e_icge, e_icgt, e_icle, e_goto, e_switch, e_invokevirtual, e_invokestatic, e_invokespecial, e_ret0, e_ret1, e_ret2, e_ret3, ldI_s, ldL_s, ldR_s, clO_s, ctP_s, ctS_s, mgo_0, mgo_s, pjc_s, pj_0, pj_s, lk_s, rm1_0, rm1_i, rm1_r, rm1_l, rm2_0, rm2_i, rm2_r, rm2_l, csL_s, lc_lt, lc_ge, lc_gt, lc_le, lc_eq, b01_0, b01_1, b01_01, b01_n, up2_o, up2_s, up2_u, ne_eq, reduceCtorEq, Nat.reduceAdd, Nat.reduceEqDiff, Nat.reduceLT, Nat.reduceLeDiff, Int.reduceLE, Int.reduceLT, Int.reduceAdd, Int.reduceNeg, Int.reduceMul, Int.reduceSub, Int.reduceEq, Int.reduceToNat, Int.reduceNatCast, Int.cast_ofNat_Int, ↓reduceIte, and_self, List.drop_succ_cons, List.drop_zero, List.take_succ_cons, List.take_zero, List.length_cons, List.length_nil, List.reverse_cons, List.reverse_nil, List.nil_append, List.cons_append, Option.toList, true_and, and_true, or_false, false_or, or_true, true_or, forall_const, Classical.not_not, not_false_eq_true, not_true_eq_false, false_implies, true_implies, implies_true, imp_self]
  refine ⟨h3, fun q => no _ rfl (fun z => q z.1), fun q => ⟨fun z => ⟨fun y => ?_, fun y => ?_⟩, fun z => no _ rfl (fun y => z y.2)⟩⟩
  · have i1 : ((2 : Int) * b).toNat = 2 * b.toNat := by omega
    rw [i1]
    repeat (refine And.intro (by omega) ?_)
    obtain ⟨v1, -⟩ := vM_b M (b := b.toNat) (by omega)
    refine hQ _ _ ⟨⟨fun k hk => ?_, fun j hj => ?_, fun s hs _ => ?_⟩, ?_, ?_⟩
    · simp only [List.mem_cons, List.not_mem_nil, or_false] at hk
      rcases hk with rfl | rfl | rfl | rfl | rfl <;> rfl
    · simp only [List.mem_cons, List.not_mem_nil, or_false] at hj
      rw [up2_o (by decide), up2_n (by omega)]
    · funext i j
      have e8 : ∀ k, 6 ≤ k → up2 (up2 M 0 0 0) 8 (2 * b.toNat) n 8 k = M 8 k := fun k hk => by
        rw [up2_n (by omega)]; rfl
      match i with
      | 0 => rfl
      | 1 => show (if (j : Int) < M 7 (8 * s + 3) then up2 (up2 M 0 0 0) 8 (2 * b.toNat) n 8 (2 * (3 * s + j)) else 0) = _; rw [e8 _ (by omega)]; rfl
      | 2 => show (if (j : Int) < M 7 (8 * s + 3) then up2 (up2 M 0 0 0) 8 (2 * b.toNat) n 8 (2 * (3 * s + j) + 1) else 0) = _; rw [e8 _ (by omega)]; rfl
      | 3 => rfl
      | 4 => rfl
      | 5 => rfl
      | 6 => rfl
      | 7 => rfl
      | 8 => rfl
      | 9 => rfl
      | 10 => rfl
      | 11 => rfl
      | i + 12 => rfl
    · rw [← v1]
      exact ((if_pos ⟨q, z⟩).trans (if_neg (by show ¬ 0 < M 7 7; omega))).symm
    · rw [show N_rate (vM M) b n = up2 (vM M) 1 b.toNat n from if_pos ⟨⟨q, z⟩, by show ¬ 0 < M 7 7; omega⟩]
      have eb : ∀ j, up2 (up2 M 0 0 0) 8 (2 * b.toNat) n 8 (2 * (3 * 0 + j)) = if j = b.toNat then n else M 8 (2 * (3 * 0 + j)) := by
        intro j
        by_cases e : j = b.toNat
        · rw [if_pos e, e, show 2 * (3 * 0 + b.toNat) = 2 * b.toNat by omega, up2_s]
        · rw [if_neg e, up2_n (by omega)]; rfl
      funext i j
      match i with
      | 0 => rfl
      | 1 =>
        show (if (j : Int) < M 7 (8 * 0 + 3) then up2 (up2 M 0 0 0) 8 (2 * b.toNat) n 8 (2 * (3 * 0 + j)) else 0) = if 1 = 1 ∧ j = b.toNat then n else (if (j : Int) < M 7 (8 * 0 + 3) then M 8 (2 * (3 * 0 + j)) else 0)
        rw [eb]
        by_cases e : j = b.toNat
        · rw [if_pos e, if_pos (show (j : Int) < M 7 (8 * 0 + 3) by show (j : Int) < M 7 3; omega), if_pos (show 1 = 1 ∧ j = b.toNat from ⟨rfl, e⟩)]
        · rw [if_neg e, if_neg (show ¬ (1 = 1 ∧ j = b.toNat) from fun w => e w.2)]
      | 2 =>
        show (if (j : Int) < M 7 (8 * 0 + 3) then up2 (up2 M 0 0 0) 8 (2 * b.toNat) n 8 (2 * (3 * 0 + j) + 1) else 0) = _
        rw [up2_n (by omega)]; rfl
      | 3 => rfl
      | 4 => rfl
      | 5 => rfl
      | 6 => rfl
      | 7 => rfl
      | 8 => rfl
      | 9 => rfl
      | 10 => rfl
      | 11 => rfl
      | i + 12 => rfl
  · exact hQ _ _ ⟨keepO_of hk0, ((if_pos ⟨q, z⟩).trans (if_pos y)).symm, by rw [hV]; exact (if_neg (fun u => u.2 y)).symm⟩
set_option maxHeartbeats 4000000 in
set_option maxRecDepth 100000 in
theorem m7_rate : MOK cl7 sh7 tyl7 [] 2 yX7_rate cX7_rate 4 (some .int) sp7_rate := by
  refine mok_of (own := RX7) (tb := tb7 (csL cs7_rate)) (rt := 1) (fuel := 400) (fun avs M Q => []) (by decide) rfl nil_nw (tbOK7 _) rfl (csL_all ?_) ?_ ?_ ?_
  · intro q hq
    simp only [cs7_rate, List.mem_cons, List.not_mem_nil, or_false] at hq
    rcases hq with rfl | rfl
    · exact cg7_isBridge (by decide)
    · exact cg7_in (by decide)
  · intro avs M Q hsp
    obtain ⟨xs, hx⟩ := spR_un _ _ _ hsp
    obtain ⟨e, hl⟩ := unA_mkT hx
    obtain ⟨b, n, rfl⟩ := len2 hl
    have e : avs = [ar 0, ai b, ai n] := e
    subst e
    simp [szL, isL]
  · intro avs M Q hM hav hsp
    obtain ⟨xs, hx⟩ := spR_un _ _ _ hsp
    obtain ⟨e, hl⟩ := unA_mkT hx
    obtain ⟨b, n, rfl⟩ := len2 hl
    have e : avs = [ar 0, ai b, ai n] := e
    subst e
    exact in7_rate hM (hav (ai b) (by simp)) (hav (ai n) (by simp)) hsp.1 hsp.2
  · intro avs M Q hM hav hsp q hq m_ vs M1 hM1 hv hJ
    obtain ⟨xs, hx⟩ := spR_un _ _ _ hsp
    obtain ⟨e, hl⟩ := unA_mkT hx
    obtain ⟨b, n, rfl⟩ := len2 hl
    have e : avs = [ar 0, ai b, ai n] := e
    subst e
    cases hq
def A_count (V : Vy) (sl : Nat → Sl) (tp : Int) (w : Int) : Int := if 0 ≤ w ∧ w ≤ 7 then V 0 w.toNat else if w = 8 then V 0 8 else if w = 9 then tp else if w = 10 then sumN (fun k => if (sl k).1.1 = -1 then 0 else 1) 4 else -1
def P7_count (w : Int) (M : Mm) : Prop := okY (vM M)
def R7_count (w : Int) (M : Mm) (v : Int) (M1 : Mm) : Prop := keepM M M1 ∧ v = A_count (vM M) (slM M) (M 0 6) w
def sp7_count : Spec := spR true [0] 1 (fun x M => P7_count (x 0) M) (fun x M v M1 => R7_count (x 0) M v M1)
theorem c7_count {w : Int} {M : Mm} {Q : Option AV → Mm → Prop} : sp7_count [ar 0, ai w] M Q = (P7_count w M ∧ ∀ (v : Int) (M1 : Mm), R7_count w M v M1 → Q (some (ai v)) M1) := rfl
def cs7_count : List (Nat × Nat × Nat × Spec) := [(121, 0, 3, sp7_in)]
def J7_count_66 (w : Int) (M : Mm) (m : Nat) (n : Int) (k : Int) (M1 : Mm) : Prop := w = 10 ∧ keepM M M1 ∧ ∃ a : Nat, k = a ∧ a ≤ 4 ∧ n = sumN (fun k => if (slM M k).1.1 = -1 then 0 else 1) a ∧ m = 4 - a
set_option maxHeartbeats 4000000 in
set_option maxRecDepth 100000 in
theorem in7_count {w : Int} {M : Mm} {Q : Option AV → Mm → Prop} (hM : okM sh7 M) (h_w : i32 w) (hP : P7_count w M) (hQ : ∀ (v : Int) (M1 : Mm), R7_count w M v M1 → Q (some (ai v)) M1) (I_66 : List AV → Mm → Prop) (hI_66 : ∀ (m_ : Nat) (y_n : Int) (y_k : Int) (M2 : Mm), J7_count_66 w M m_ y_n y_k M2 → I_66 [ar 0, ai y_n, ai y_k] M2) : wp (tb7 (csL cs7_count)) sh7 4 1 cX7_count [(66, [0, 2, 3], I_66)] Q 400 0 [(0, ar 0), (1, ai w)] [] M := by
  have hk0 : keepM M (up2 M 0 0 0) := keep_u0 keep_rf (by decide)
  have e0 : A_count (vM M) (slM M) (M 0 6) w = if 0 ≤ w ∧ w ≤ 7 then vM M 0 w.toNat else if w = 8 then vM M 0 8 else if w = 9 then M 0 6 else if w = 10 then sumN (fun k => if (slM M k).1.1 = -1 then 0 else 1) 4 else -1 := rfl
  have e1 : 0 ≤ w ∧ w ≤ 7 → vM M 0 w.toNat = M 7 w.toNat := by
    intro q
    show (if w.toNat < 8 then M 7 (8 * 0 + w.toNat) else _) = _
    rw [if_pos (by omega), show 8 * 0 + w.toNat = w.toNat by omega]
  simp only [e_wp dX7_count_0 rfl, e_wp dX7_count_1 rfl, e_wp dX7_count_2 rfl, e_wp dX7_count_5 rfl, e_wp dX7_count_6 rfl, e_wp dX7_count_7 rfl, e_wp dX7_count_8 rfl, e_wp dX7_count_11 rfl, e_wp dX7_count_14 rfl, e_wp dX7_count_17 rfl, e_wp dX7_count_18 rfl, e_wp dX7_count_21 rfl, e_wp dX7_count_22 rfl, e_wp dX7_count_23 rfl, e_wp dX7_count_24 rfl, e_wp dX7_count_25 rfl, e_wp dX7_count_26 rfl, e_wp dX7_count_27 rfl, e_wp dX7_count_52 rfl, e_wp dX7_count_53 rfl, e_wp dX7_count_56 rfl, e_wp dX7_count_57 rfl, e_wp dX7_count_58 rfl, e_wp dX7_count_59 rfl, e_wp dX7_count_60 rfl, e_wp dX7_count_63 rfl, e_wp dX7_count_64 rfl, e_wp dX7_count_65 rfl, e_wp dX7_count_66 rfl, e_wp dX7_count_67 rfl, e_wp dX7_count_68 rfl, e_wp dX7_count_71 rfl, e_wp dX7_count_72 rfl, e_wp dX7_count_73 rfl, e_wp dX7_count_76 rfl, e_wp dX7_count_77 rfl, e_wp dX7_count_78 rfl, e_wp dX7_count_79 rfl, e_wp dX7_count_82 rfl, e_wp dX7_count_83 rfl, e_wp dX7_count_86 rfl, e_wp dX7_count_87 rfl, e_wp dX7_count_88 rfl, e_wp dX7_count_89 rfl, e_wp dX7_count_92 rfl, e_wp dX7_count_95 rfl, e_wp dX7_count_96 rfl, e_wp dX7_count_97 rfl, e_wp dX7_count_98 rfl, p7_116, k7_508, c7_in, P7_in, V7_in, cs7_count, g7_34, g7_31, g7_133, g7_7, a7_1, w7_1, a7_2, w7_2, a7_3, w7_3, a7_4, w7_4, a7_5, w7_5, a7_6, w7_6, a7_7, w7_7, a7_8, w7_8, a7_9, w7_9, a7_10, w7_10, a7_11, w7_11, a7_12, w7_12, a7_13, w7_13, a7_14, w7_14, a7_15, w7_15, a7_16, w7_16, a7_17, w7_17, a7_18, w7_18, a7_19, w7_19, a7_20, w7_20, a7_21, w7_21, a7_22, w7_22, a7_23, w7_23, a7_24, w7_24, a7_25, w7_25, a7_26, w7_26, a7_27, w7_27, a7_28, w7_28, a7_29, w7_29, a7_30, w7_30, a7_31, w7_31, a7_32, w7_32, a7_33, w7_33, e_iconst, e_bipush, e_sipush, e_lconst_0, e_lconst_1, e_iload, e_iload_0, e_iload_1, e_iload_2, e_iload_3, e_lload, e_lload_0, e_lload_1, e_lload_2, e_lload_3, e_aload, e_aload_0, e_aload_1, e_aload_2, e_aload_3, e_istore, e_istore_0, e_istore_1, e_istore_2, e_istore_3, e_astore, e_astore_0, e_astore_1, e_astore_2, e_astore_3, e_lstore, e_lstore_0, e_lstore_1, e_lstore_2, e_lstore_3, e_iinc, e_iadd, e_isub, e_imul, e_ladd, e_lsub, e_lmul, e_idiv, e_irem, e_ldiv, e_lrem, e_ineg, e_lneg, e_iand, e_ior, e_ixor, e_ishl, e_ishr, e_iushr, e_lcmp, e_i2l, e_l2i, e_i2b, e_i2s, e_dup_i, e_dup_r, e_pop_i, e_pop_r, e_dup2_l, e_dup2_ir, e_dup2_ii, e_ifeq, e_ifne, e_iflt, e_ifge, e_ifgt, e_ifle, e_iceq, e_icne, e_iclt, e_icge, e_icgt, e_icle, e_goto, e_switch, e_invokevirtual, e_invokestatic, e_invokespecial, e_ret0, e_ret1, e_ret2, e_ret3, ldI_s, ldL_s, ldR_s, clO_s, ctP_s, ctS_s, mgo_0, mgo_s, pjc_s, pj_0, pj_s, lk_s, rm1_0, rm1_i, rm1_r, rm1_l, rm2_0, rm2_i, rm2_r, rm2_l, csL_s, lc_lt, lc_ge, lc_gt, lc_le, lc_eq, b01_0, b01_1, b01_01, b01_n, up2_o, up2_s, up2_u, ne_eq, reduceCtorEq, Nat.reduceAdd, Nat.reduceEqDiff, Nat.reduceLT, Nat.reduceLeDiff, Int.reduceLE, Int.reduceLT, Int.reduceAdd, Int.reduceNeg, Int.reduceMul, Int.reduceSub, Int.reduceEq, Int.reduceToNat, Int.reduceNatCast, Int.cast_ofNat_Int, ↓reduceIte, and_self, List.drop_succ_cons, List.drop_zero, List.take_succ_cons, List.take_zero, List.length_cons, List.length_nil, List.reverse_cons, List.reverse_nil, List.nil_append, List.cons_append, Option.toList, true_and, and_true, or_false, false_or, or_true, true_or, forall_const, Classical.not_not, not_false_eq_true, not_true_eq_false, false_implies, true_implies, implies_true, imp_self, allJ, List.toList_toArray]
  refine ⟨fun q => ?_, fun q => ?_⟩
  · have go : ∀ x, x = A_count (vM M) (slM M) (M 0 6) w → Q (some (ai x)) (up2 M 0 0 0) := fun x hx => hQ _ _ ⟨hk0, hx⟩
    rw [e0, if_neg q] at go
    refine ⟨fun z => go _ ?_, fun z => go _ ?_, fun z => go _ ?_, fun z => hI_66 4 _ _ _ ⟨z, hk0, 0, rfl, by omega, rfl, rfl⟩⟩
    · rw [if_neg (by omega), if_neg (by omega), if_neg (by omega)]
    · rw [if_pos z]; rfl
    · rw [if_neg (by omega), if_pos z, up2_n (by decide)]
  · refine ⟨by omega, hQ _ _ ⟨hk0, ?_⟩⟩
    rw [e0, if_pos q, e1 q]
set_option maxHeartbeats 4000000 in
set_option maxRecDepth 100000 in
theorem at7_count_66 {w : Int} {M : Mm} {Q : Option AV → Mm → Prop} (hM : okM sh7 M) (h_w : i32 w) (hP : P7_count w M) (hQ : ∀ (v : Int) (M1 : Mm), R7_count w M v M1 → Q (some (ai v)) M1) {m : Nat} {n k : Int} {M1 : Mm} (hM1 : okM sh7 M1) (h_n : i32 n) (h_k : i32 k) (hJ : J7_count_66 w M m n k M1) (I_66 : List AV → Mm → Prop) (hI_66 : ∀ (m_ : Nat) (y_n : Int) (y_k : Int) (M2 : Mm), m_ < m → J7_count_66 w M m_ y_n y_k M2 → I_66 [ar 0, ai y_n, ai y_k] M2) : wp (tb7 (csL cs7_count)) sh7 4 1 cX7_count [(66, [0, 2, 3], I_66)] Q 400 66 [(0, ar 0), (2, ai n), (3, ai k)] [] M1 := by
  obtain ⟨hw, hk, a, rfl, ha, rfl, rfl⟩ := hJ
  have e1 : M1 1 = M 1 := hk.1 _ (by decide)
  have hs := sumN_b (f := fun k => if (slM M k).1.1 = -1 then 0 else 1) (B := 1) (n := a) (fun k _ => by split <;> omega)
  simp only [e_wp dX7_count_0 rfl, e_wp dX7_count_1 rfl, e_wp dX7_count_2 rfl, e_wp dX7_count_5 rfl, e_wp dX7_count_6 rfl, e_wp dX7_count_7 rfl, e_wp dX7_count_8 rfl, e_wp dX7_count_11 rfl, e_wp dX7_count_14 rfl, e_wp dX7_count_17 rfl, e_wp dX7_count_18 rfl, e_wp dX7_count_21 rfl, e_wp dX7_count_22 rfl, e_wp dX7_count_23 rfl, e_wp dX7_count_24 rfl, e_wp dX7_count_25 rfl, e_wp dX7_count_26 rfl, e_wp dX7_count_27 rfl, e_wp dX7_count_52 rfl, e_wp dX7_count_53 rfl, e_wp dX7_count_56 rfl, e_wp dX7_count_57 rfl, e_wp dX7_count_58 rfl, e_wp dX7_count_59 rfl, e_wp dX7_count_60 rfl, e_wp dX7_count_63 rfl, e_wp dX7_count_64 rfl, e_wp dX7_count_65 rfl, e_wp dX7_count_66 rfl, e_wp dX7_count_67 rfl, e_wp dX7_count_68 rfl, e_wp dX7_count_71 rfl, e_wp dX7_count_72 rfl, e_wp dX7_count_73 rfl, e_wp dX7_count_76 rfl, e_wp dX7_count_77 rfl, e_wp dX7_count_78 rfl, e_wp dX7_count_79 rfl, e_wp dX7_count_82 rfl, e_wp dX7_count_83 rfl, e_wp dX7_count_86 rfl, e_wp dX7_count_87 rfl, e_wp dX7_count_88 rfl, e_wp dX7_count_89 rfl, e_wp dX7_count_92 rfl, e_wp dX7_count_95 rfl, e_wp dX7_count_96 rfl, e_wp dX7_count_97 rfl, e_wp dX7_count_98 rfl, p7_116, k7_508, c7_in, P7_in, V7_in, cs7_count, g7_34, g7_31, g7_133, g7_7, a7_1, w7_1, a7_2, w7_2, a7_3, w7_3, a7_4, w7_4, a7_5, w7_5, a7_6, w7_6, a7_7, w7_7, a7_8, w7_8, a7_9, w7_9, a7_10, w7_10, a7_11, w7_11, a7_12, w7_12, a7_13, w7_13, a7_14, w7_14, a7_15, w7_15, a7_16, w7_16, a7_17, w7_17, a7_18, w7_18, a7_19, w7_19, a7_20, w7_20, a7_21, w7_21, a7_22, w7_22, a7_23, w7_23, a7_24, w7_24, a7_25, w7_25, a7_26, w7_26, a7_27, w7_27, a7_28, w7_28, a7_29, w7_29, a7_30, w7_30, a7_31, w7_31, a7_32, w7_32, a7_33, w7_33, e_iconst, e_bipush, e_sipush, e_lconst_0, e_lconst_1, e_iload, e_iload_0, e_iload_1, e_iload_2, e_iload_3, e_lload, e_lload_0, e_lload_1, e_lload_2, e_lload_3, e_aload, e_aload_0, e_aload_1, e_aload_2, e_aload_3, e_istore, e_istore_0, e_istore_1, e_istore_2, e_istore_3, e_astore, e_astore_0, e_astore_1, e_astore_2, e_astore_3, e_lstore, e_lstore_0, e_lstore_1, e_lstore_2, e_lstore_3, e_iinc, e_iadd, e_isub, e_imul, e_ladd, e_lsub, e_lmul, e_idiv, e_irem, e_ldiv, e_lrem, e_ineg, e_lneg, e_iand, e_ior, e_ixor, e_ishl, e_ishr, e_iushr, e_lcmp, e_i2l, e_l2i, e_i2b, e_i2s, e_dup_i, e_dup_r, e_pop_i, e_pop_r, e_dup2_l, e_dup2_ir, e_dup2_ii, e_ifeq, e_ifne, e_iflt, e_ifge, e_ifgt, e_ifle, e_iceq, e_icne, e_iclt, e_icge, e_icgt, e_icle, e_goto, e_switch, e_invokevirtual, e_invokestatic, e_invokespecial, e_ret0, e_ret1, e_ret2, e_ret3, ldI_s, ldL_s, ldR_s, clO_s, ctP_s, ctS_s, mgo_0, mgo_s, pjc_s, pj_0, pj_s, lk_s, rm1_0, rm1_i, rm1_r, rm1_l, rm2_0, rm2_i, rm2_r, rm2_l, csL_s, lc_lt, lc_ge, lc_gt, lc_le, lc_eq, b01_0, b01_1, b01_01, b01_n, up2_o, up2_s, up2_u, ne_eq, reduceCtorEq, Nat.reduceAdd, Nat.reduceEqDiff, Nat.reduceLT, Nat.reduceLeDiff, Int.reduceLE, Int.reduceLT, Int.reduceAdd, Int.reduceNeg, Int.reduceMul, Int.reduceSub, Int.reduceEq, Int.reduceToNat, Int.reduceNatCast, Int.cast_ofNat_Int, ↓reduceIte, and_self, List.drop_succ_cons, List.drop_zero, List.take_succ_cons, List.take_zero, List.length_cons, List.length_nil, List.reverse_cons, List.reverse_nil, List.nil_append, List.cons_append, Option.toList, true_and, and_true, or_false, false_or, or_true, true_or, forall_const, Classical.not_not, not_false_eq_true, not_true_eq_false, false_implies, true_implies, implies_true, imp_self, e1, Int.toNat_natCast]
  refine ⟨fun q => hQ _ _ ⟨hk, ?_⟩, fun q => ⟨by omega, fun z => ⟨by omega, by omega, ?_⟩, fun z => ⟨by omega, by omega, ?_⟩⟩⟩
  · have ea : a = 4 := by omega
    subst ea
    show _ = if 0 ≤ w ∧ w ≤ 7 then _ else if w = 8 then _ else if w = 9 then _ else if w = 10 then _ else (-1 : Int)
    rw [if_neg (by omega), if_neg (by omega), if_neg (by omega), if_pos hw]
  · refine hI_66 (4 - (a + 1)) _ _ _ (by omega) ⟨hw, hk, a + 1, by omega, by omega, ?_, rfl⟩
    show _ = sumN (fun k => if (slM M k).1.1 = -1 then 0 else 1) a + (if M 1 a = -1 then 0 else 1)
    first | rw [if_neg z] | rw [if_pos z]
  · refine hI_66 (4 - (a + 1)) _ _ _ (by omega) ⟨hw, hk, a + 1, by omega, by omega, ?_, rfl⟩
    show _ = sumN (fun k => if (slM M k).1.1 = -1 then 0 else 1) a + (if M 1 a = -1 then 0 else 1)
    first | rw [if_neg z] | rw [if_pos z]
set_option maxHeartbeats 4000000 in
set_option maxRecDepth 100000 in
theorem m7_count : MOK cl7 sh7 tyl7 [] 1 yX7_count cX7_count 4 (some .int) sp7_count := by
  refine mok_of (own := RX7) (tb := tb7 (csL cs7_count)) (rt := 1) (fuel := 400) (fun avs M Q => [(66, [0, 2, 3], fun m_ vs M1 => ∃ y_n : Int, ∃ y_k : Int, vs = [ar 0, ai y_n, ai y_k] ∧ J7_count_66 (pa true [0] avs 0) M m_ y_n y_k M1)]) (by decide) rfl nil_nw (tbOK7 _) rfl (csL_all ?_) ?_ ?_ ?_
  · intro q hq
    simp only [cs7_count, List.mem_cons, List.not_mem_nil, or_false] at hq
    rcases hq with rfl
    · exact cg7_in (by decide)
  · intro avs M Q hsp
    obtain ⟨xs, hx⟩ := spR_un _ _ _ hsp
    obtain ⟨e, hl⟩ := unA_mkT hx
    obtain ⟨w, rfl⟩ := len1 hl
    have e : avs = [ar 0, ai w] := e
    subst e
    simp [szL, isL]
  · intro avs M Q hM hav hsp
    obtain ⟨xs, hx⟩ := spR_un _ _ _ hsp
    obtain ⟨e, hl⟩ := unA_mkT hx
    obtain ⟨w, rfl⟩ := len1 hl
    have e : avs = [ar 0, ai w] := e
    subst e
    exact in7_count hM (hav (ai w) (by simp)) hsp.1 hsp.2 _ (fun m_ y_n y_k M2 hJ => ⟨m_, y_n, y_k, rfl, hJ⟩)
  · intro avs M Q hM hav hsp q hq m_ vs M1 hM1 hv hJ
    obtain ⟨xs, hx⟩ := spR_un _ _ _ hsp
    obtain ⟨e, hl⟩ := unA_mkT hx
    obtain ⟨w, rfl⟩ := len1 hl
    have e : avs = [ar 0, ai w] := e
    subst e
    simp only [List.mem_cons, List.not_mem_nil, or_false] at hq
    rcases hq with rfl
    · obtain ⟨y_n, y_k, rfl, hJ⟩ := hJ
      exact at7_count_66 hM (hav (ai w) (by simp)) hsp.1 hsp.2 hM1 (hv (2, ai y_n) (List.mem_of_getElem? (i := 1) rfl)) (hv (3, ai y_k) (List.mem_of_getElem? (i := 2) rfl)) hJ _ (fun m2 z_n z_k M2 hm hJ2 => ⟨m2, hm, z_n, z_k, rfl, hJ2⟩)
