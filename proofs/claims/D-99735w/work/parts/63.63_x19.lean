/-! SagMemory: orders -/
abbrev oxRows : List Nat := [0, 13, 14, 15, 25, 19, 20, 21, 22, 23, 24, 26, 27, 28, 29, 18]
def ordX (t : Int) (M M1 : Mm) : Prop := frm oxRows M M1 ∧ (wX M M1 ∧ ∀ j, ¬ j = 8 → ¬ j = 27 → ¬ j = 28 → ¬ j = 29 → M1 0 j = M 0 j) ∧ ∀ k : Nat, (k : Int) < t → M1 18 k = M 18 k
def acX (M : Mm) (a : Ac) : Prop := a.1.1 = M 0 27 ∧ a.1.2.1 = M 0 28 ∧ a.1.2.2 = M 0 29 ∧ ∀ k : Nat, (k : Int) < M 1 5 → a.2 k = M 29 k
def acXM (M : Mm) : Ac := ((M 0 27, M 0 28, M 0 29), fun k => M 29 k)
theorem acX_M (M : Mm) : acX M (acXM M) := ⟨rfl, rfl, rfl, fun _ _ => rfl⟩
theorem many_fold {i : Nat} {V : Vy} : ∀ {L : List Cf} {a : Ac}, 0 ≤ a.1.2.1 → 0 ≤ (L.foldl (keepP i V) a).1.2.1 ∧ (L.foldl (keepP i V) a).1.2.1 ≤ a.1.2.1 + L.length := by
  intro L
  induction L with
  | nil => intro a h; exact ⟨h, by show a.1.2.1 ≤ a.1.2.1 + 0; omega⟩
  | cons C L ih =>
    intro a h
    have h1 : 0 ≤ (keepP i V a C).1.2.1 ∧ (keepP i V a C).1.2.1 ≤ a.1.2.1 + 1 := by
      revert h
      unfold keepP
      dsimp only
      generalize sagF V C = s
      repeat' split
      all_goals omega
    have h2 := ih h1.1
    show 0 ≤ (L.foldl _ (keepP i V a C)).1.2.1 ∧ (L.foldl _ (keepP i V a C)).1.2.1 ≤ a.1.2.1 + ((L.length + 1 : Nat) : Int)
    omega
theorem keep_acX {rs : List (Nat × Nat)} {M M1 : Mm} {a : Int} {i : Nat} (hi : i ≠ 0) (ha : ∀ k : Nat, (k : Int) < M 1 5 → M a.toNat k = cX M i k) (h4 : M 1 5 ≤ 7) (h : R0_keeps rs a M M1) {A : Ac} (hA : acX M A) : acX M1 (keepP i (vX M) A (nX M)) := by
  obtain ⟨r1, r2, r3, r4, r5, r6⟩ := h
  obtain ⟨a1, a2, a3, a4⟩ := hA
  have e1 : M1 1 = M 1 := r1 _ (by decide)
  refine ⟨?_, ?_, ?_, fun k hk => ?_⟩
  · show (if sagF (vX M) (nX M) < A.1.1 then sagF (vX M) (nX M) else A.1.1) = _
    rw [a1, r3]
  · show (if sagF (vX M) (nX M) < A.1.1 then 1 else if sagF (vX M) (nX M) = A.1.1 then A.1.2.1 + 1 else A.1.2.1) = _
    rw [a1, a2, r4]
  · show (if A.1.2.2 < ovF (vX M) (nX M) then ovF (vX M) (nX M) else A.1.2.2) = _
    rw [a3, r5]
  · rw [e1] at hk
    rw [r6 k (by omega)]
    show (if sagF (vX M) (nX M) < A.1.1 then nX M i k else A.2 k) = _
    rw [a1, a4 k hk, ha k hk]
    have e : nX M i k = cX M i k := nC_s hi hk
    rw [e]
theorem cX_q {M M1 : Mm} (h0 : ∀ j, j ∈ [10, 24, 25] → M1 0 j = M 0 j) (h1 : M1 16 = M 16) (h2 : M1 17 = M 17) (h3 : M1 18 = M 18) : cX M1 = cX M := by
  have a := h0 10 (by decide)
  have b := h0 24 (by decide)
  have c := h0 25 (by decide)
  funext i j
  unfold cX
  rw [a, b, c, h1, h2, h3]
theorem nX_eq {M M1 : Mm} (hV : vX M1 = vX M) (hC : ∀ i j, ¬ i = 3 → cX M1 i j = cX M i j) {t n : Nat} (hn : (t : Int) + n = M 1 5) (hr : ∀ k : Nat, k < t → M1 18 k = M 18 k) : ∀ i j, ¬ (i = 3 ∧ t ≤ j ∧ j < t + n) → nX M1 i j = nX M i j := by
  intro i j h
  show (if i = 0 then cX M1 0 j else if (j : Int) < vX M1 0 4 then cX M1 i j else 0) = (if i = 0 then cX M 0 j else if (j : Int) < vX M 0 4 then cX M i j else 0)
  rw [hV, hC 0 j (by decide)]
  have e4 : vX M 0 4 = M 1 5 := rfl
  split
  · rfl
  · split
    · by_cases e : i = 3
      · rw [e]
        exact hr j (by omega)
      · exact hC i j e
    · rfl
theorem ordX_rf {t : Int} {M : Mm} : ordX t M M := ⟨frm_rf, ⟨wX_eq rfl, fun _ _ _ _ _ => rfl⟩, fun _ _ => rfl⟩
theorem ordX_tr {t : Int} {M M1 M2 : Mm} (h : ordX t M M1) (h2 : ordX t M1 M2) : ordX t M M2 := ⟨frm_tr h.1 h2.1 (fun _ q => q), ⟨wX_tr h.2.1.1 h2.2.1.1, fun j a b c d => (h2.2.1.2 j a b c d).trans (h.2.1.2 j a b c d)⟩, fun k hk => (h2.2.2 k hk).trans (h.2.2 k hk)⟩
theorem ordX_w {t t' : Int} {M M1 : Mm} (h : ordX t M M1) (ht : t' ≤ t) : ordX t' M M1 := ⟨h.1, h.2.1, fun k hk => h.2.2 k (by omega)⟩
theorem ordX_row {t : Nat} {M : Mm} {x : Int} : ordX t M (up2 M 18 t x) := ⟨frm_up frm_rf (by decide), ⟨wX_eq (up2_o (by decide)), fun j _ _ _ _ => up2_o (by decide)⟩, fun k hk => up2_n (by omega)⟩
theorem ordX_v {t : Int} {M M1 : Mm} (h : ordX t M M1) : vX M1 = vX M := vX_frm h.1 (by decide)
theorem ordX_c {t : Int} {M M1 : Mm} (h : ordX t M M1) : ∀ i j, ¬ i = 3 → cX M1 i j = cX M i j := by
  intro i j hi
  match i with
  | 0 =>
    show (if j = 0 then M1 0 10 - 2 else if j = 1 then M1 0 24 else M1 0 25) = (if j = 0 then M 0 10 - 2 else if j = 1 then M 0 24 else M 0 25)
    rw [h.2.1.2 10 (by decide) (by decide) (by decide) (by decide), h.2.1.2 24 (by decide) (by decide) (by decide) (by decide), h.2.1.2 25 (by decide) (by decide) (by decide) (by decide)]
  | 1 => exact congrFun (h.1 16 (by decide)) j
  | 2 => exact congrFun (h.1 17 (by decide)) j
  | 3 => exact absurd rfl hi
  | i + 4 => rfl
theorem up_rowX {M : Mm} {t : Nat} {x : Int} (ht : (t : Int) < M 1 5) : nX (up2 M 18 t x) = up2 (nX M) 3 t x := by
  have hV : vX (up2 M 18 t x) = vX M := ordX_v (t := t) ordX_row
  have hC := ordX_c (ordX_row (t := t) (M := M) (x := x))
  have e4 : vX M 0 4 = M 1 5 := rfl
  funext i j
  show (if i = 0 then cX (up2 M 18 t x) 0 j else if (j : Int) < vX (up2 M 18 t x) 0 4 then cX (up2 M 18 t x) i j else 0) = (if i = 3 ∧ j = t then x else if i = 0 then cX M 0 j else if (j : Int) < vX M 0 4 then cX M i j else 0)
  rw [hV, hC 0 j (by decide)]
  by_cases e : i = 3
  · subst e
    have d3 : ¬ (3 : Nat) = 0 := by decide
    by_cases z : j = t
    · subst z
      have y : (j : Int) < vX M 0 4 := by omega
      simp only [if_neg d3, if_pos y, if_pos (show (3 : Nat) = 3 ∧ j = j from ⟨rfl, rfl⟩)]
      exact up2_s
    · have z' : ¬ ((3 : Nat) = 3 ∧ j = t) := fun q => z q.2
      by_cases y : (j : Int) < vX M 0 4
      · simp only [if_neg d3, if_pos y, if_neg z']
        exact (up2_n z).trans (if_neg (fun q : True ∧ j = t => z q.2)).symm
      · simp only [if_neg d3, if_neg y]
        exact (if_neg (fun q : True ∧ j = t => z q.2)).symm
  · have e' : ¬ (i = 3 ∧ j = t) := fun q => e q.1
    simp only [if_neg e', hC i j e]
def P0_orders (d_ : Nat) (rs : List (Nat × Nat)) (t : Int) (used : Int) (M : Mm) : Prop := okY (vX M) ∧ okCf (vX M) (cX M) ∧ baseI M ∧ (0 ≤ t ∧ t ≤ M 1 5 ∧ M 1 5 + 1 ≤ t + d_) ∧ (∀ k c : Nat, (k : Int) < t → M 18 k = c → bitP used c) ∧ (∀ k j : Nat, (k : Int) < t → (j : Int) < t → M 18 k = M 18 j → k = j) ∧ 0 ≤ M 0 28 ∧ M 0 28 + (ordL (vX M) (M 1 5 - t).toNat (nX M) t.toNat used).length ≤ 1000000000
def R0_orders (d_ : Nat) (rs : List (Nat × Nat)) (t : Int) (used : Int) (M : Mm) (M1 : Mm) : Prop := ordX t M M1 ∧ okCf (vX M1) (cX M1) ∧ ∀ a, acX M a → acX M1 ((ordL (vX M) (M 1 5 - t).toNat (nX M) t.toNat used).foldl (keepP 3 (vX M)) a)
def sp0_orders (d_ : Nat) (rs : List (Nat × Nat)) : Spec := spV true [0, 0] (fun x M => P0_orders d_ rs (x 0) (x 1) M) (fun x M M1 => R0_orders d_ rs (x 0) (x 1) M M1)
theorem c0_orders {d_ : Nat} {rs : List (Nat × Nat)} {t used : Int} {M : Mm} {Q : Option AV → Mm → Prop} : sp0_orders d_ rs [ar 0, ai t, ai used] M Q = (P0_orders d_ rs t used M ∧ ∀ (M1 : Mm), R0_orders d_ rs t used M M1 → Q none M1) := rfl
def cs0_orders (d_ : Nat) (rs : List (Nat × Nat)) : List (Nat × Nat × Nat × Spec) := [(305, 1, 2, (sp0_keeps rs)), (238, 0, 2, (sp0_isOf rs)), (309, 1, 3, (sp0_orders d_ rs))]
def J0_orders_22 (d_ : Nat) (rs : List (Nat × Nat)) (t : Int) (used : Int) (M : Mm) (m : Nat) (t_ : Int) (u_ : Int) (c : Int) (M1 : Mm) : Prop := t = t_ ∧ used = u_ ∧ t < M 1 5 ∧ ordX t M M1 ∧ okCf (vX M1) (cX M1) ∧ ∃ a : Nat, c = a ∧ (a : Int) ≤ M 1 5 ∧ (∀ x, acX M x → acX M1 ((catN (ordB (vX M) (M 1 5 - t - 1).toNat (nX M) t.toNat used) a).foldl (keepP 3 (vX M)) x)) ∧ m = 10 - a
set_option maxHeartbeats 4000000 in
set_option maxRecDepth 100000 in
theorem in0_orders {d_ : Nat} {rs : List (Nat × Nat)} {t used : Int} {M : Mm} {Q : Option AV → Mm → Prop} (hM : okM (sh8 rs) M) (h_t : i32 t) (h_used : i32 used) (hP : P0_orders (d_ + 1) rs t used M) (hQ : ∀ (M1 : Mm), R0_orders (d_ + 1) rs t used M M1 → Q none M1) (I_22 : List AV → Mm → Prop) (hI_22 : ∀ (m_ : Nat) (y_t_ : Int) (y_u_ : Int) (y_c : Int) (M2 : Mm), J0_orders_22 (d_ + 1) rs t used M m_ y_t_ y_u_ y_c M2 → I_22 [ar 0, ai y_t_, ai y_u_, ai y_c] M2) : wp (tb0 (csL (cs0_orders d_ rs))) (sh8 rs) 4 0 cX0_orders [(22, [0, 1, 2, 3], I_22)] Q 400 0 [(0, ar 0), (1, ai t), (2, ai used)] [] M := by
  obtain ⟨h1, h2, hB, h3, h4, h5, h6, h7⟩ := id hP
  have b4 : 0 ≤ M 1 5 ∧ M 1 5 ≤ 7 := (okY_n h1).2.1
  simp only [e_wp dX0_orders_0 rfl, e_wp dX0_orders_1 rfl, e_wp dX0_orders_2 rfl, e_wp dX0_orders_5 rfl, e_wp dX0_orders_8 rfl, e_wp dX0_orders_11 rfl, e_wp dX0_orders_12 rfl, e_wp dX0_orders_13 rfl, e_wp dX0_orders_16 rfl, e_wp dX0_orders_19 rfl, e_wp dX0_orders_20 rfl, e_wp dX0_orders_21 rfl, e_wp dX0_orders_22 rfl, e_wp dX0_orders_23 rfl, e_wp dX0_orders_24 rfl, e_wp dX0_orders_27 rfl, e_wp dX0_orders_30 rfl, e_wp dX0_orders_33 rfl, e_wp dX0_orders_34 rfl, e_wp dX0_orders_35 rfl, e_wp dX0_orders_38 rfl, e_wp dX0_orders_41 rfl, e_wp dX0_orders_44 rfl, e_wp dX0_orders_45 rfl, e_wp dX0_orders_48 rfl, e_wp dX0_orders_49 rfl, e_wp dX0_orders_50 rfl, e_wp dX0_orders_51 rfl, e_wp dX0_orders_52 rfl, e_wp dX0_orders_53 rfl, e_wp dX0_orders_54 rfl, e_wp dX0_orders_55 rfl, e_wp dX0_orders_56 rfl, e_wp dX0_orders_57 rfl, e_wp dX0_orders_58 rfl, e_wp dX0_orders_59 rfl, e_wp dX0_orders_60 rfl, e_wp dX0_orders_63 rfl, e_wp dX0_orders_66 rfl, e_wp dX0_orders_69 rfl, g0_10, g0_156, g0_62, c0_keeps, cs0_orders, c0_isOf, P0_isOf, V0_isOf, c0_orders, a8_13, w8_13, a8_14, w8_14, a8_15, w8_15, a8_16, w8_16, a8_17, w8_17, a8_18, w8_18, a8_19, w8_19, a8_20, w8_20, a8_21, w8_21, a8_22, w8_22, a8_23, w8_23, a8_24, w8_24, a8_25, w8_25, a8_26, w8_26, a8_27, w8_27, a8_28, w8_28, a8_29, w8_29, a8_30, w8_30, a8_31, w8_31, a8_32, w8_32, a8_33, w8_33, a8_34, w8_34, a8_35, w8_35, a8_36, w8_36, a8_37, w8_37, a8_38, w8_38, a8_39, w8_39, a8_40, w8_40, a8_12, w8_12, a8_6, a8_7, e_iconst, e_bipush, e_sipush, e_lconst_0, e_lconst_1, e_iload, e_iload_0, e_iload_1, e_iload_2, e_iload_3, e_lload, e_lload_0, e_lload_1, e_lload_2, e_lload_3, e_aload, e_aload_0, e_aload_1, e_aload_2, e_aload_3, e_istore, e_istore_0, e_istore_1, e_istore_2, e_istore_3, e_astore, e_astore_0, e_astore_1, e_astore_2, e_astore_3, e_lstore, e_lstore_0, e_lstore_1, e_lstore_2, e_lstore_3, e_iinc, e_iadd, e_isub, e_imul, e_ladd, e_lsub, e_lmul, e_idiv, e_irem, e_ldiv, e_lrem, e_ineg, e_lneg, e_iand, e_ior, e_ixor, e_ishl, e_ishr, e_iushr, e_lcmp, e_i2l, e_l2i, e_i2b, e_i2s, e_dup_i, e_dup_r, e_pop_i, e_pop_r, e_dup2_l, e_dup2_ir, e_dup2_ii, e_ifeq, e_ifne, e_iflt, e_ifge, e_ifgt, e_ifle, e_iceq, e_icne, e_iclt, e_icge, e_icgt, e_icle, e_goto, e_switch, e_invokevirtual, e_invokestatic, e_invokespecial, e_ret0, e_ret1, e_ret2, e_ret3, ldI_s, ldL_s, ldR_s, clO_s, ctP_s, ctS_s, mgo_0, mgo_s, pjc_s, pj_0, pj_s, lk_s, rm1_0, rm1_i, rm1_r, rm1_l, rm2_0, rm2_i, rm2_r, rm2_l, csL_s, lc_lt, lc_ge, lc_gt, lc_le, lc_eq, b01_0, b01_1, b01_01, b01_n, up2_o, up2_s, up2_u, ne_eq, reduceCtorEq, Nat.reduceAdd, Nat.reduceEqDiff, Nat.reduceLT, Nat.reduceLeDiff, Int.reduceLE, Int.reduceLT, Int.reduceAdd, Int.reduceNeg, Int.reduceMul, Int.reduceSub, Int.reduceEq, Int.reduceToNat, Int.reduceNatCast, Int.cast_ofNat_Int, ↓reduceIte, and_self, List.drop_succ_cons, List.drop_zero, List.take_succ_cons, List.take_zero, List.length_cons, List.length_nil, List.reverse_cons, List.reverse_nil, List.nil_append, List.cons_append, Option.toList, true_and, and_true, or_false, false_or, or_true, true_or, forall_const, Classical.not_not, not_false_eq_true, not_true_eq_false, false_implies, true_implies, implies_true, imp_self]
  refine ⟨fun q => ?_, fun q => ?_⟩
  · exact hI_22 10 _ _ _ _ ⟨rfl, rfl, by omega, ordX_rf, h2, 0, rfl, by omega, fun x hx => hx, rfl⟩
  · have hi : injR (vX M) (nX M) := fun t' t'' q1 q2 q3 => by
      have q3 : M 18 t' = M 18 t'' := (nC_s (C := cX M) (i := 3) (by decide) q1).symm.trans (q3.trans (nC_s (C := cX M) (i := 3) (by decide) q2))
      have e4 : vX M 0 4 = M 1 5 := rfl
      exact h5 t' t'' (by omega) (by omega) q3
    refine ⟨⟨by decide, h1, h2, hB, hi, h6, by omega⟩, fun M1 hR => hQ _ ?_⟩
    have hR' := hR
    obtain ⟨r1, r2, -⟩ := hR
    have eV : vX M1 = vX M := vX_frm r1 (by decide)
    have eC : cX M1 = cX M := cX_q (fun j hj => r2.2 j (by revert hj; simp only [List.mem_cons, List.not_mem_nil, or_false]; omega) (by revert hj; simp only [List.mem_cons, List.not_mem_nil, or_false]; omega) (by revert hj; simp only [List.mem_cons, List.not_mem_nil, or_false]; omega) (by revert hj; simp only [List.mem_cons, List.not_mem_nil, or_false]; omega)) (r1 _ (by decide)) (r1 _ (by decide)) (r1 _ (by decide))
    refine ⟨⟨frm_w r1 (by decide), r2, fun k _ => congrFun (r1 18 (by decide)) k⟩, by rw [eV, eC]; exact h2, fun A hA => ?_⟩
    have eL : ordL (vX M) (M 1 5 - t).toNat (nX M) t.toNat used = [nX M] := by
      rw [show (M 1 5 - t).toNat = 0 by omega]
      rfl
    rw [eL]
    exact keep_acX (by decide) (fun _ _ => rfl) b4.2 hR' hA
set_option maxHeartbeats 4000000 in
set_option maxRecDepth 100000 in
theorem at0_orders_22 {d_ : Nat} {rs : List (Nat × Nat)} {t used : Int} {M : Mm} {Q : Option AV → Mm → Prop} (hM : okM (sh8 rs) M) (h_t : i32 t) (h_used : i32 used) (hP : P0_orders (d_ + 1) rs t used M) (hQ : ∀ (M1 : Mm), R0_orders (d_ + 1) rs t used M M1 → Q none M1) {m : Nat} {t_ u_ c : Int} {M1 : Mm} (hM1 : okM (sh8 rs) M1) (h_t_ : i32 t_) (h_u_ : i32 u_) (h_c : i32 c) (hJ : J0_orders_22 (d_ + 1) rs t used M m t_ u_ c M1) (I_22 : List AV → Mm → Prop) (hI_22 : ∀ (m_ : Nat) (y_t_ : Int) (y_u_ : Int) (y_c : Int) (M2 : Mm), m_ < m → J0_orders_22 (d_ + 1) rs t used M m_ y_t_ y_u_ y_c M2 → I_22 [ar 0, ai y_t_, ai y_u_, ai y_c] M2) : wp (tb0 (csL (cs0_orders d_ rs))) (sh8 rs) 4 0 cX0_orders [(22, [0, 1, 2, 3], I_22)] Q 400 22 [(0, ar 0), (1, ai t_), (2, ai u_), (3, ai c)] [] M1 := by
  obtain ⟨rfl, rfl, ht, hK, hC, a, rfl, ha, hA, rfl⟩ := hJ
  obtain ⟨h1, h2, hB, h3, h4, h5, h6, h7⟩ := id hP
  have b4' : 0 ≤ M 1 5 ∧ M 1 5 ≤ 7 := (okY_n h1).2.1
  obtain ⟨u, rfl⟩ := Int.eq_ofNat_of_zero_le h3.1
  have e7 : M1 1 = M 1 := hK.1 _ (by decide)
  have eL : ordL (vX M) (M 1 5 - u).toNat (nX M) u used = catN (ordB (vX M) (M 1 5 - u - 1).toNat (nX M) u used) (M 1 5).toNat := by
    rw [show (M 1 5 - u).toNat = (M 1 5 - u - 1).toNat + 1 by omega]
    rfl
  simp only [e_wp dX0_orders_0 rfl, e_wp dX0_orders_1 rfl, e_wp dX0_orders_2 rfl, e_wp dX0_orders_5 rfl, e_wp dX0_orders_8 rfl, e_wp dX0_orders_11 rfl, e_wp dX0_orders_12 rfl, e_wp dX0_orders_13 rfl, e_wp dX0_orders_16 rfl, e_wp dX0_orders_19 rfl, e_wp dX0_orders_20 rfl, e_wp dX0_orders_21 rfl, e_wp dX0_orders_22 rfl, e_wp dX0_orders_23 rfl, e_wp dX0_orders_24 rfl, e_wp dX0_orders_27 rfl, e_wp dX0_orders_30 rfl, e_wp dX0_orders_33 rfl, e_wp dX0_orders_34 rfl, e_wp dX0_orders_35 rfl, e_wp dX0_orders_38 rfl, e_wp dX0_orders_41 rfl, e_wp dX0_orders_44 rfl, e_wp dX0_orders_45 rfl, e_wp dX0_orders_48 rfl, e_wp dX0_orders_49 rfl, e_wp dX0_orders_50 rfl, e_wp dX0_orders_51 rfl, e_wp dX0_orders_52 rfl, e_wp dX0_orders_53 rfl, e_wp dX0_orders_54 rfl, e_wp dX0_orders_55 rfl, e_wp dX0_orders_56 rfl, e_wp dX0_orders_57 rfl, e_wp dX0_orders_58 rfl, e_wp dX0_orders_59 rfl, e_wp dX0_orders_60 rfl, e_wp dX0_orders_63 rfl, e_wp dX0_orders_66 rfl, e_wp dX0_orders_69 rfl, g0_10, g0_156, g0_62, c0_keeps, cs0_orders, c0_isOf, P0_isOf, V0_isOf, c0_orders, a8_13, w8_13, a8_14, w8_14, a8_15, w8_15, a8_16, w8_16, a8_17, w8_17, a8_18, w8_18, a8_19, w8_19, a8_20, w8_20, a8_21, w8_21, a8_22, w8_22, a8_23, w8_23, a8_24, w8_24, a8_25, w8_25, a8_26, w8_26, a8_27, w8_27, a8_28, w8_28, a8_29, w8_29, a8_30, w8_30, a8_31, w8_31, a8_32, w8_32, a8_33, w8_33, a8_34, w8_34, a8_35, w8_35, a8_36, w8_36, a8_37, w8_37, a8_38, w8_38, a8_39, w8_39, a8_40, w8_40, a8_12, w8_12, a8_6, a8_7, e_iconst, e_bipush, e_sipush, e_lconst_0, e_lconst_1, e_iload, e_iload_0, e_iload_1, e_iload_2, e_iload_3, e_lload, e_lload_0, e_lload_1, e_lload_2, e_lload_3, e_aload, e_aload_0, e_aload_1, e_aload_2, e_aload_3, e_istore, e_istore_0, e_istore_1, e_istore_2, e_istore_3, e_astore, e_astore_0, e_astore_1, e_astore_2, e_astore_3, e_lstore, e_lstore_0, e_lstore_1, e_lstore_2, e_lstore_3, e_iinc, e_iadd, e_isub, e_imul, e_ladd, e_lsub, e_lmul, e_idiv, e_irem, e_ldiv, e_lrem, e_ineg, e_lneg, e_iand, e_ior, e_ixor, e_ishl, e_ishr, e_iushr, e_lcmp, e_i2l, e_l2i, e_i2b, e_i2s, e_dup_i, e_dup_r, e_pop_i, e_pop_r, e_dup2_l, e_dup2_ir, e_dup2_ii, e_ifeq, e_ifne, e_iflt, e_ifge, e_ifgt, e_ifle, e_iceq, e_icne, e_iclt, e_icge, e_icgt, e_icle, e_goto, e_switch, e_invokevirtual, e_invokestatic, e_invokespecial, e_ret0, e_ret1, e_ret2, e_ret3, ldI_s, ldL_s, ldR_s, clO_s, ctP_s, ctS_s, mgo_0, mgo_s, pjc_s, pj_0, pj_s, lk_s, rm1_0, rm1_i, rm1_r, rm1_l, rm2_0, rm2_i, rm2_r, rm2_l, csL_s, lc_lt, lc_ge, lc_gt, lc_le, lc_eq, b01_0, b01_1, b01_01, b01_n, up2_o, up2_s, up2_u, ne_eq, reduceCtorEq, Nat.reduceAdd, Nat.reduceEqDiff, Nat.reduceLT, Nat.reduceLeDiff, Int.reduceLE, Int.reduceLT, Int.reduceAdd, Int.reduceNeg, Int.reduceMul, Int.reduceSub, Int.reduceEq, Int.reduceToNat, Int.reduceNatCast, Int.cast_ofNat_Int, ↓reduceIte, and_self, List.drop_succ_cons, List.drop_zero, List.take_succ_cons, List.take_zero, List.length_cons, List.length_nil, List.reverse_cons, List.reverse_nil, List.nil_append, List.cons_append, Option.toList, true_and, and_true, or_false, false_or, or_true, true_or, forall_const, Classical.not_not, not_false_eq_true, not_true_eq_false, false_implies, true_implies, implies_true, imp_self, Int.toNat_natCast]
  simp only [Int.toNat_natCast] at hA h7
  rw [e7]
  refine ⟨fun q => ?_, fun q => ⟨fun z => ?_, fun z => ⟨by omega, ?_⟩⟩⟩
  · refine hQ _ ⟨hK, hC, fun x hx => ?_⟩
    rw [Int.toNat_natCast, eL, show (M 1 5).toNat = a by omega]
    exact hA x hx
  · have eV := ordX_v hK
    have hK2 : ordX (u : Nat) M (up2 M1 18 u a) := ordX_tr hK ordX_row
    have eV2 := ordX_v hK2
    have eb : ordB (vX M) (M 1 5 - u - 1).toNat (nX M) u used a = ordL (vX M) (M 1 5 - u - 1).toNat (up2 (nX M) 3 u a) (u + 1) (bor used (bshl 1 a)) := if_neg z
    have eN : ordL (vX M) (M 1 5 - u - 1).toNat (nX (up2 M1 18 u a)) (u + 1) (bor used (bshl 1 a)) = ordL (vX M) (M 1 5 - u - 1).toNat (up2 (nX M) 3 u a) (u + 1) (bor used (bshl 1 a)) := by
      rw [up_rowX (by rw [e7]; omega)]
      refine ordL_congr fun i j hij => ?_
      show (if i = 3 ∧ j = u then (a : Int) else nX M1 i j) = (if i = 3 ∧ j = u then (a : Int) else nX M i j)
      split
      · rfl
      · exact nX_eq eV (ordX_c hK) (t := u) (n := (M 1 5 - u).toNat) (by omega) (fun k hk => hK.2.2 k (by omega)) i j (by omega)
    have e70 : (up2 M1 18 u a) 1 = M 1 := (up2_ne (by decide)).trans e7
    have i1 : (M 1 5 - (u + 1)).toNat = (M 1 5 - u - 1).toNat := by omega
    have i2 : ((u : Int) + 1).toNat = u + 1 := by omega
    have r1 : ∀ k : Nat, k < u → up2 M1 18 u a 18 k = M 18 k := fun k hk => hK2.2.2 k (by omega)
    have hmub : 0 ≤ up2 M1 18 u a 0 28 ∧ up2 M1 18 u a 0 28 + (ordB (vX M) (M 1 5 - u - 1).toNat (nX M) u used a).length ≤ 1000000000 := by
      have x1 := hA _ (acX_M M)
      have x2 := many_fold (i := 3) (V := vX M) (L := catN (ordB (vX M) (M 1 5 - u - 1).toNat (nX M) u used) a) (a := acXM M) h6
      rw [x1.2.1] at x2
      have x0 : (acXM M).1.2.1 = M 0 28 := rfl
      have x3 := catN_le (f := ordB (vX M) (M 1 5 - u - 1).toNat (nX M) u used) (a := a + 1) (n := (M 1 5).toNat) (by omega)
      have x4 : (catN (ordB (vX M) (M 1 5 - u - 1).toNat (nX M) u used) (a + 1)).length = (catN (ordB (vX M) (M 1 5 - u - 1).toNat (nX M) u used) a).length + (ordB (vX M) (M 1 5 - u - 1).toNat (nX M) u used a).length := List.length_append
      have x5 : up2 M1 18 u a 0 28 = M1 0 28 := up2_o (by decide)
      rw [eL] at h7
      omega
    repeat (refine And.intro (by omega) ?_)
    refine ⟨⟨by rw [eV2]; exact h1, ?_, base_f hK2.1 (by decide) (by decide) hB, ?_, ?_, ?_, hmub.1, ?_⟩, fun M4 hR4 => ⟨by omega, ?_⟩⟩
    · rw [eV2]
      refine ⟨hC.1, fun c hc => ?_⟩
      have x := hC.2 c (by rw [eV]; exact hc)
      have x3 : 0 ≤ M1 18 c ∧ M1 18 c < vX M1 0 4 := x.2.2
      rw [eV] at x3
      refine ⟨x.1, by rw [← eV]; exact x.2.1, ?_⟩
      show 0 ≤ up2 M1 18 u a 18 c ∧ up2 M1 18 u a 18 c < vX M 0 4
      by_cases e : c = u
      · rw [e, up2_s]
        exact ⟨by omega, q⟩
      · rw [up2_n e]; exact x3
    · rw [e70]; omega
    · intro k c hk hc
      by_cases e : k = u
      · rw [e, up2_s] at hc
        have := (bit_or (u := used) (c := a) (k := c) (by omega) (by omega)).mpr (Or.inr (by omega))
        exact this
      · rw [r1 k (by omega)] at hc
        have x3 : 0 ≤ M 18 k ∧ M 18 k < M 1 5 := (h2.2 k (by show (k : Int) < M 1 5; omega)).2.2
        exact (bit_or (u := used) (c := a) (k := c) (by omega) (by omega)).mpr (Or.inl (h4 k c (by omega) hc))
    · intro k j hk hj e
      by_cases e1 : k = u <;> by_cases e2 : j = u
      · omega
      · rw [e1, up2_s, r1 j (by omega)] at e
        exact absurd (h4 j a (by omega) e.symm) z
      · rw [e2, up2_s, r1 k (by omega)] at e
        exact absurd (h4 k a (by omega) e) z
      · rw [r1 k (by omega), r1 j (by omega)] at e
        exact h5 k j (by omega) (by omega) e
    · rw [eV2, e70, i1, i2, eN, ← eb]
      exact hmub.2
    · obtain ⟨y1, y2, y3⟩ := hR4
      rw [eV2, e70, i1, i2, eN, ← eb] at y3
      refine hI_22 (10 - (a + 1)) _ _ _ _ (by omega) ⟨rfl, rfl, ht, ordX_tr hK2 (ordX_w y1 (by omega)), y2, a + 1, by omega, by omega, fun x hx => ?_, rfl⟩
      show acX M4 ((catN _ a ++ ordB (vX M) (M 1 5 - u - 1).toNat (nX M) u used a).foldl _ x)
      rw [List.foldl_append]
      refine y3 _ ?_
      obtain ⟨v1, v2, v3, v4⟩ := hA x hx
      refine ⟨?_, ?_, ?_, fun k hk => ?_⟩
      · rw [up2_o (by decide)]; exact v1
      · rw [up2_o (by decide)]; exact v2
      · rw [up2_o (by decide)]; exact v3
      · rw [up2_o (by decide)]; exact v4 k (by rw [e7, ← e70]; exact hk)
  · refine hI_22 (10 - (a + 1)) _ _ _ _ (by omega) ⟨rfl, rfl, ht, hK, hC, a + 1, by omega, by omega, fun x hx => ?_, rfl⟩
    have : ordB (vX M) (M 1 5 - u - 1).toNat (nX M) u used a = [] := if_pos z
    show acX M1 ((catN _ a ++ ordB (vX M) (M 1 5 - u - 1).toNat (nX M) u used a).foldl _ x)
    rw [this, List.append_nil]
    exact hA x hx
theorem z0_orders {rs : List (Nat × Nat)} {t used : Int} {M : Mm} (hP : P0_orders 0 rs t used M) : False := by
  obtain ⟨h1, h2, hB, h3, h4⟩ := hP
  omega
theorem r0_orders {rs : List (Nat × Nat)} {lvl d_ : Nat} (ih : MOK cl8 (sh8 rs) tyl8 Nws8 (8 + d_) yX0_orders cX0_orders 4 none (sp0_orders d_ rs)) (h : 8 + d_ < lvl) : CG RX0 cl8 (sh8 rs) tyl8 Nws8 lvl 1 309 3 (sp0_orders d_ rs) := cg_V (sg := [0, 0]) nws8_ok spV_mono spV_un ih h rfl (by decide) rfl rfl ⟨rfl, by decide, by decide, rfl⟩ q980 q982 qs33 q128 q983
set_option maxHeartbeats 4000000 in
set_option maxRecDepth 100000 in
theorem m0_orders {rs : List (Nat × Nat)} : ∀ d_ : Nat, MOK cl8 (sh8 rs) tyl8 Nws8 (8 + d_) yX0_orders cX0_orders 4 none (sp0_orders d_ rs) := by
  intro d_
  induction d_ with
  | zero =>
    intro l D ca ad sz avs M Q hM hav hsp
    exfalso
    obtain ⟨xs, hx⟩ := spV_un _ _ _ hsp
    obtain ⟨e, hl⟩ := unA_mkT hx
    obtain ⟨t, used, rfl⟩ := len2 hl
    have e : avs = [ar 0, ai t, ai used] := e
    subst e
    exact z0_orders hsp.1
  | succ d_ ih =>
    refine mok_of (own := RX0) (tb := tb0 (csL (cs0_orders d_ rs))) (rt := 0) (fuel := 400) (fun avs M Q => [(22, [0, 1, 2, 3], fun m_ vs M1 => ∃ y_t_ : Int, ∃ y_u_ : Int, ∃ y_c : Int, vs = [ar 0, ai y_t_, ai y_u_, ai y_c] ∧ J0_orders_22 (d_ + 1) rs (pa true [0, 0] avs 0) (pa true [0, 0] avs 1) M m_ y_t_ y_u_ y_c M1)]) (by decide) rfl nws8_ok (tbOK0 _) rfl (csL_all ?_) ?_ ?_ ?_
    · intro q hq
      simp only [cs0_orders, List.mem_cons, List.not_mem_nil, or_false] at hq
      rcases hq with rfl | rfl | rfl
      · exact cg0_keeps (by omega)
      · exact cg0_isOf (by omega)
      · exact r0_orders ih (by omega)
    · intro avs M Q hsp
      obtain ⟨xs, hx⟩ := spV_un _ _ _ hsp
      obtain ⟨e, hl⟩ := unA_mkT hx
      obtain ⟨t, used, rfl⟩ := len2 hl
      have e : avs = [ar 0, ai t, ai used] := e
      subst e
      simp [szL, isL]
    · intro avs M Q hM hav hsp
      obtain ⟨xs, hx⟩ := spV_un _ _ _ hsp
      obtain ⟨e, hl⟩ := unA_mkT hx
      obtain ⟨t, used, rfl⟩ := len2 hl
      have e : avs = [ar 0, ai t, ai used] := e
      subst e
      exact in0_orders hM (hav (ai t) (by simp)) (hav (ai used) (by simp)) hsp.1 hsp.2 _ (fun m_ y_t_ y_u_ y_c M2 hJ => ⟨m_, y_t_, y_u_, y_c, rfl, hJ⟩)
    · intro avs M Q hM hav hsp q hq m_ vs M1 hM1 hv hJ
      obtain ⟨xs, hx⟩ := spV_un _ _ _ hsp
      obtain ⟨e, hl⟩ := unA_mkT hx
      obtain ⟨t, used, rfl⟩ := len2 hl
      have e : avs = [ar 0, ai t, ai used] := e
      subst e
      simp only [List.mem_cons, List.not_mem_nil, or_false] at hq
      rcases hq with rfl
      · obtain ⟨y_t_, y_u_, y_c, rfl, hJ⟩ := hJ
        exact at0_orders_22 hM (hav (ai t) (by simp)) (hav (ai used) (by simp)) hsp.1 hsp.2 hM1 (hv (1, ai y_t_) (List.mem_of_getElem? (i := 1) rfl)) (hv (2, ai y_u_) (List.mem_of_getElem? (i := 2) rfl)) (hv (3, ai y_c) (List.mem_of_getElem? (i := 3) rfl)) hJ _ (fun m2 z_t_ z_u_ z_c M2 hm hJ2 => ⟨m2, hm, z_t_, z_u_, z_c, rfl, hJ2⟩)
theorem cg0_orders {rs : List (Nat × Nat)} {lvl d_ : Nat} (h : 8 + d_ < lvl) : CG RX0 cl8 (sh8 rs) tyl8 Nws8 lvl 1 309 3 (sp0_orders d_ rs) := r0_orders (m0_orders d_) h
theorem fold_initX {V : Vy} {i : Nat} (hY : okY V) {L : List Cf} (hL : ∀ D, D ∈ L → okCf V D) (hn : ∃ D, D ∈ L) {a a' : Ac} (h1 : 100000 ≤ a.1.1) (h2 : 100000 ≤ a'.1.1) (h3 : a.1.2.2 = a'.1.2.2) : L.foldl (keepP i V) a = L.foldl (keepP i V) a' := by
  cases L with
  | nil => obtain ⟨D, hD⟩ := hn; cases hD
  | cons C L =>
    have hb := sagF_b hY (hL C List.mem_cons_self)
    show L.foldl (keepP i V) (keepP i V a C) = L.foldl (keepP i V) (keepP i V a' C)
    have : keepP i V a C = keepP i V a' C := by
      unfold keepP
      rw [h3]
      have z : sagF V C < a.1.1 := by omega
      have z' : sagF V C < a'.1.1 := by omega
      simp only [if_pos z, if_pos z']
    rw [this]
/-- a question's rows begin -/
def P0_starts (rs : List (Nat × Nat)) (M : Mm) : Prop := okX M
def R0_starts (rs : List (Nat × Nat)) (M : Mm) (M1 : Mm) : Prop := keepX M M1 ∧ nC (vX M) (cX M1) = tellP (vX M) ∧ M1 0 27 = 1000000000 ∧ M1 0 28 = 0 ∧ M1 0 29 = 0
def sp0_starts (rs : List (Nat × Nat)) : Spec := spV true [] (fun x M => P0_starts rs M) (fun x M M1 => R0_starts rs M M1)
theorem c0_starts {rs : List (Nat × Nat)} {M : Mm} {Q : Option AV → Mm → Prop} : sp0_starts rs [ar 0] M Q = (P0_starts rs M ∧ ∀ (M1 : Mm), R0_starts rs M M1 → Q none M1) := rfl
def cs0_starts (rs : List (Nat × Nat)) : List (Nat × Nat × Nat × Spec) := [(250, 1, 1, (sp0_asItIs rs))]
set_option maxHeartbeats 4000000 in
set_option maxRecDepth 100000 in
theorem in0_starts {rs : List (Nat × Nat)} {M : Mm} {Q : Option AV → Mm → Prop} (hM : okM (sh8 rs) M) (hP : P0_starts rs M) (hQ : ∀ (M1 : Mm), R0_starts rs M M1 → Q none M1) : wp (tb0 (csL (cs0_starts rs))) (sh8 rs) 1 0 cX0_starts [] Q 400 0 [(0, ar 0)] [] M := by
  obtain ⟨hY, hB⟩ := id hP
  simp only [e_wp dX0_starts_0 rfl, e_wp dX0_starts_1 rfl, e_wp dX0_starts_4 rfl, e_wp dX0_starts_5 rfl, e_wp dX0_starts_8 rfl, e_wp dX0_starts_11 rfl, e_wp dX0_starts_12 rfl, e_wp dX0_starts_13 rfl, e_wp dX0_starts_16 rfl, e_wp dX0_starts_17 rfl, e_wp dX0_starts_18 rfl, e_wp dX0_starts_21 rfl, c0_asItIs, cs0_starts, k0_284, p0_285, p0_288, p0_291, e_iconst, e_bipush, e_sipush, e_lconst_0, e_lconst_1, e_iload, e_iload_0, e_iload_1, e_iload_2, e_iload_3, e_lload, e_lload_0, e_lload_1, e_lload_2, e_lload_3, e_aload, e_aload_0, e_aload_1, e_aload_2, e_aload_3, e_istore, e_istore_0, e_istore_1, e_istore_2, e_istore_3, e_astore, e_astore_0, e_astore_1, e_astore_2, e_astore_3, e_lstore, e_lstore_0, e_lstore_1, e_lstore_2, e_lstore_3, e_iinc, e_iadd, e_isub, e_imul, e_ladd, e_lsub, e_lmul, e_idiv, e_irem, e_ldiv, e_lrem, e_ineg, e_lneg, e_iand, e_ior, e_ixor, e_ishl, e_ishr, e_iushr, e_lcmp, e_i2l, e_l2i, e_i2b, e_i2s, e_dup_i, e_dup_r, e_pop_i, e_pop_r, e_dup2_l, e_dup2_ir, e_dup2_ii, e_ifeq, e_ifne, e_iflt, e_ifge, e_ifgt, e_ifle, e_iceq, e_icne, e_iclt, e_icge, e_icgt, e_icle, e_goto, e_switch, e_invokevirtual, e_invokestatic, e_invokespecial, e_ret0, e_ret1, e_ret2, e_ret3, ldI_s, ldL_s, ldR_s, clO_s, ctP_s, ctS_s, mgo_0, mgo_s, pjc_s, pj_0, pj_s, lk_s, rm1_0, rm1_i, rm1_r, rm1_l, rm2_0, rm2_i, rm2_r, rm2_l, csL_s, lc_lt, lc_ge, lc_gt, lc_le, lc_eq, b01_0, b01_1, b01_01, b01_n, up2_o, up2_s, up2_u, ne_eq, reduceCtorEq, Nat.reduceAdd, Nat.reduceEqDiff, Nat.reduceLT, Nat.reduceLeDiff, Int.reduceLE, Int.reduceLT, Int.reduceAdd, Int.reduceNeg, Int.reduceMul, Int.reduceSub, Int.reduceEq, Int.reduceToNat, Int.reduceNatCast, Int.cast_ofNat_Int, ↓reduceIte, and_self, List.drop_succ_cons, List.drop_zero, List.take_succ_cons, List.take_zero, List.length_cons, List.length_nil, List.reverse_cons, List.reverse_nil, List.nil_append, List.cons_append, Option.toList, true_and, and_true, or_false, false_or, or_true, true_or, forall_const, Classical.not_not, not_false_eq_true, not_true_eq_false, false_implies, true_implies, implies_true, imp_self]
  refine ⟨⟨hY, hB⟩, fun M1 hR => hQ _ ?_⟩
  obtain ⟨r1, r2, r3⟩ := hR
  refine ⟨keepX_u (keepX_u (keepX_u (keepX_tell r1 r2) (by decide) (by decide)) (by decide) (by decide)) (by decide) (by decide), ?_, ?_, ?_, up2_s⟩
  · rw [show cX (up2 (up2 (up2 M1 0 27 1000000000) 0 28 0) 0 29 0) = cX M1 from cX_q (fun j hj => by rw [up2_n (by revert hj; simp only [List.mem_cons, List.not_mem_nil, or_false]; omega), up2_n (by revert hj; simp only [List.mem_cons, List.not_mem_nil, or_false]; omega), up2_n (by revert hj; simp only [List.mem_cons, List.not_mem_nil, or_false]; omega)]) rfl rfl rfl]
    exact r3
  · rw [up2_n (by decide), up2_n (by decide), up2_s]
  · rw [up2_n (by decide), up2_s]
set_option maxHeartbeats 4000000 in
set_option maxRecDepth 100000 in
theorem m0_starts {rs : List (Nat × Nat)} : MOK cl8 (sh8 rs) tyl8 Nws8 2 yX0_starts cX0_starts 1 none (sp0_starts rs) := by
  refine mok_of (own := RX0) (tb := tb0 (csL (cs0_starts rs))) (rt := 0) (fuel := 400) (fun avs M Q => []) (by decide) rfl nws8_ok (tbOK0 _) rfl (csL_all ?_) ?_ ?_ ?_
  · intro q hq
    simp only [cs0_starts, List.mem_cons, List.not_mem_nil, or_false] at hq
    rcases hq with rfl
    · exact cg0_asItIs (by decide)
  · intro avs M Q hsp
    obtain ⟨xs, hx⟩ := spV_un _ _ _ hsp
    obtain ⟨e, hl⟩ := unA_mkT hx
    obtain rfl := len0 hl
    have e : avs = [ar 0] := e
    subst e
    simp [szL, isL]
  · intro avs M Q hM hav hsp
    obtain ⟨xs, hx⟩ := spV_un _ _ _ hsp
    obtain ⟨e, hl⟩ := unA_mkT hx
    obtain rfl := len0 hl
    have e : avs = [ar 0] := e
    subst e
    exact in0_starts hM hsp.1 hsp.2
  · intro avs M Q hM hav hsp q hq m_ vs M1 hM1 hv hJ
    obtain ⟨xs, hx⟩ := spV_un _ _ _ hsp
    obtain ⟨e, hl⟩ := unA_mkT hx
    obtain rfl := len0 hl
    have e : avs = [ar 0] := e
    subst e
    cases hq
theorem cg0_starts {rs : List (Nat × Nat)} {lvl : Nat} (h : 2 < lvl) : CG RX0 cl8 (sh8 rs) tyl8 Nws8 lvl 1 312 1 (sp0_starts rs) := cg_V (sg := []) nws8_ok spV_mono spV_un m0_starts h rfl (by decide) rfl rfl ⟨rfl, by decide, by decide, rfl⟩ q975 q977 qs32 q128 q978
theorem keepX_ord {t : Int} {M M1 : Mm} (h : ordX t M M1) : keepX M M1 := ⟨frm_w h.1 (by decide), fun j hj => by
  simp only [List.mem_cons, List.not_mem_nil, or_false] at hj
  exact h.2.1.2 j (by omega) (by omega) (by omega) (by omega), h.2.1.1⟩
theorem acX_v {M M1 : Mm} {a : Ac} (h : acX M1 a) : M1 0 27 = a.1.1 ∧ M1 0 28 = a.1.2.1 ∧ M1 0 29 = a.1.2.2 := ⟨h.1.symm, h.2.1.symm, h.2.2.1.symm⟩
def P0_asksOrders (rs : List (Nat × Nat)) (M : Mm) : Prop := okX M
def R0_asksOrders (rs : List (Nat × Nat)) (M : Mm) (v : Int) (M1 : Mm) : Prop := keepX M M1 ∧ v = b01 (0 < M 1 3) ∧ (v = 1 → acX M1 (ordA (vX M)))
def sp0_asksOrders (rs : List (Nat × Nat)) : Spec := spR true [] 1 (fun x M => P0_asksOrders rs M) (fun x M v M1 => R0_asksOrders rs M v M1)
theorem c0_asksOrders {rs : List (Nat × Nat)} {M : Mm} {Q : Option AV → Mm → Prop} : sp0_asksOrders rs [ar 0] M Q = (P0_asksOrders rs M ∧ ∀ (v : Int) (M1 : Mm), R0_asksOrders rs M v M1 → Q (some (ai v)) M1) := rfl
def cs0_asksOrders (rs : List (Nat × Nat)) : List (Nat × Nat × Nat × Spec) := [(256, 1, 1, (sp0_isValley rs)), (312, 1, 1, (sp0_starts rs)), (309, 1, 3, (sp0_orders 8 rs))]
set_option maxHeartbeats 4000000 in
set_option maxRecDepth 100000 in
theorem in0_asksOrders {rs : List (Nat × Nat)} {M : Mm} {Q : Option AV → Mm → Prop} (hM : okM (sh8 rs) M) (hP : P0_asksOrders rs M) (hQ : ∀ (v : Int) (M1 : Mm), R0_asksOrders rs M v M1 → Q (some (ai v)) M1) : wp (tb0 (csL (cs0_asksOrders rs))) (sh8 rs) 1 2 cX0_asksOrders [] Q 400 0 [(0, ar 0)] [] M := by
  obtain ⟨hY, hB⟩ := id hP
  have h4 : 0 ≤ M 1 5 ∧ M 1 5 ≤ 7 := (okY_n hY).2.1
  simp only [e_wp dX0_asksOrders_0 rfl, e_wp dX0_asksOrders_1 rfl, e_wp dX0_asksOrders_4 rfl, e_wp dX0_asksOrders_7 rfl, e_wp dX0_asksOrders_8 rfl, e_wp dX0_asksOrders_9 rfl, e_wp dX0_asksOrders_10 rfl, e_wp dX0_asksOrders_13 rfl, e_wp dX0_asksOrders_14 rfl, e_wp dX0_asksOrders_15 rfl, e_wp dX0_asksOrders_16 rfl, e_wp dX0_asksOrders_19 rfl, e_wp dX0_asksOrders_20 rfl, c0_isValley, P0_isValley, V0_isValley, cs0_asksOrders, c0_starts, c0_orders, e_iconst, e_bipush, e_sipush, e_lconst_0, e_lconst_1, e_iload, e_iload_0, e_iload_1, e_iload_2, e_iload_3, e_lload, e_lload_0, e_lload_1, e_lload_2, e_lload_3, e_aload, e_aload_0, e_aload_1, e_aload_2, e_aload_3, e_istore, e_istore_0, e_istore_1, e_istore_2, e_istore_3, e_astore, e_astore_0, e_astore_1, e_astore_2, e_astore_3, e_lstore, e_lstore_0, e_lstore_1, e_lstore_2, e_lstore_3, e_iinc, e_iadd, e_isub, e_imul, e_ladd, e_lsub, e_lmul, e_idiv, e_irem, e_ldiv, e_lrem, e_ineg, e_lneg, e_iand, e_ior, e_ixor, e_ishl, e_ishr, e_iushr, e_lcmp, e_i2l, e_l2i, e_i2b, e_i2s, e_dup_i, e_dup_r, e_pop_i, e_pop_r, e_dup2_l, e_dup2_ir, e_dup2_ii, e_ifeq, e_ifne, e_iflt, e_ifge, e_ifgt, e_ifle, e_iceq, e_icne, e_iclt, e_icge, e_icgt, e_icle, e_goto, e_switch, e_invokevirtual, e_invokestatic, e_invokespecial, e_ret0, e_ret1, e_ret2, e_ret3, ldI_s, ldL_s, ldR_s, clO_s, ctP_s, ctS_s, mgo_0, mgo_s, pjc_s, pj_0, pj_s, lk_s, rm1_0, rm1_i, rm1_r, rm1_l, rm2_0, rm2_i, rm2_r, rm2_l, csL_s, lc_lt, lc_ge, lc_gt, lc_le, lc_eq, b01_0, b01_1, b01_01, b01_n, up2_o, up2_s, up2_u, ne_eq, reduceCtorEq, Nat.reduceAdd, Nat.reduceEqDiff, Nat.reduceLT, Nat.reduceLeDiff, Int.reduceLE, Int.reduceLT, Int.reduceAdd, Int.reduceNeg, Int.reduceMul, Int.reduceSub, Int.reduceEq, Int.reduceToNat, Int.reduceNatCast, Int.cast_ofNat_Int, ↓reduceIte, and_self, List.drop_succ_cons, List.drop_zero, List.take_succ_cons, List.take_zero, List.length_cons, List.length_nil, List.reverse_cons, List.reverse_nil, List.nil_append, List.cons_append, Option.toList, true_and, and_true, or_false, false_or, or_true, true_or, forall_const, Classical.not_not, not_false_eq_true, not_true_eq_false, false_implies, true_implies, implies_true, imp_self]
  refine ⟨fun q => ⟨⟨hY, hB⟩, fun M1 hR => ?_⟩, fun q => hQ _ _ ⟨keepX_rf, (b01_f (by omega)).symm, fun z => absurd z (by decide)⟩⟩
  obtain ⟨hk, r3, r4, r5, r6⟩ := hR
  have eV := keepX_v hk
  have e1 := keepX_1 hk
  have hC : okCf (vX M) (cX M1) := okCf_un (by rw [r3]; exact okCf_tell hY)
  have eN : nX M1 = tellP (vX M) := by
    show nC (vX M1) (cX M1) = _
    rw [eV, r3]
  have hlen := ordL_len (V := vX M) h4.2 (n := (M 1 5).toNat) (C := tellP (vX M)) (t := 0) (u := 0)
  have hp : 7 ^ (M 1 5).toNat ≤ 7 ^ 7 := Nat.pow_le_pow_right (by omega) (by omega)
  have hp7 : (7 : Nat) ^ 7 = 823543 := by decide
  have i0 : (M 1 5 - 0).toNat = (M 1 5).toNat := by omega
  refine ⟨⟨by rw [eV]; exact hY, by rw [eV]; exact hC, keepX_b hk hB, by rw [e1]; omega, fun k c hk => by omega, fun k j hk => by omega, by omega, ?_⟩, fun M2 hR2 => hQ _ _ ⟨?_, (b01_t q).symm, fun _ => ?_⟩⟩
  · rw [eV, e1, eN, r5, i0]
    show (0 : Int) + ((ordL (vX M) (M 1 5).toNat (tellP (vX M)) 0 0).length : Nat) ≤ _
    omega
  · exact keepX_tr hk (keepX_ord hR2.1)
  · obtain ⟨s1, s2, s3⟩ := hR2
    rw [eV, e1, eN, i0] at s3
    have s4 := s3 _ (acX_M _)
    have := fold_initX (i := 3) hY (L := ordL (vX M) (M 1 5).toNat (tellP (vX M)) 0 0) (fun D hD => ordL_ok (okCf_tell hY) D hD) (ordL_ne h4.2 (by show ((0 : Nat) : Int) + (M 1 5).toNat = M 1 5; omega) (fun j _ h => bit_z j h)) (a := acXM M1) (a' := ((100000, 0, 0), fun _ => 0)) (by show 100000 ≤ M1 0 27; omega) (by show (100000 : Int) ≤ 100000; omega) r6
    show acX M2 ((ordL (vX M) (M 1 5).toNat (tellP (vX M)) 0 0).foldl (keepP 3 (vX M)) ((100000, 0, 0), fun _ => 0))
    rw [← this]
    exact s4
set_option maxHeartbeats 4000000 in
set_option maxRecDepth 100000 in
theorem m0_asksOrders {rs : List (Nat × Nat)} : MOK cl8 (sh8 rs) tyl8 Nws8 17 yX0_asksOrders cX0_asksOrders 1 (some .boolean) (sp0_asksOrders rs) := by
  refine mok_of (own := RX0) (tb := tb0 (csL (cs0_asksOrders rs))) (rt := 2) (fuel := 400) (fun avs M Q => []) (by decide) rfl nws8_ok (tbOK0 _) rfl (csL_all ?_) ?_ ?_ ?_
  · intro q hq
    simp only [cs0_asksOrders, List.mem_cons, List.not_mem_nil, or_false] at hq
    rcases hq with rfl | rfl | rfl
    · exact cg0_isValley (by decide)
    · exact cg0_starts (by decide)
    · exact cg0_orders (d_ := 8) (by decide)
  · intro avs M Q hsp
    obtain ⟨xs, hx⟩ := spR_un _ _ _ hsp
    obtain ⟨e, hl⟩ := unA_mkT hx
    obtain rfl := len0 hl
    have e : avs = [ar 0] := e
    subst e
    simp [szL, isL]
  · intro avs M Q hM hav hsp
    obtain ⟨xs, hx⟩ := spR_un _ _ _ hsp
    obtain ⟨e, hl⟩ := unA_mkT hx
    obtain rfl := len0 hl
    have e : avs = [ar 0] := e
    subst e
    exact in0_asksOrders hM hsp.1 hsp.2
  · intro avs M Q hM hav hsp q hq m_ vs M1 hM1 hv hJ
    obtain ⟨xs, hx⟩ := spR_un _ _ _ hsp
    obtain ⟨e, hl⟩ := unA_mkT hx
    obtain rfl := len0 hl
    have e : avs = [ar 0] := e
    subst e
    cases hq
theorem cg0_asksOrders {rs : List (Nat × Nat)} {lvl : Nat} (h : 17 < lvl) : CG RX0 cl8 (sh8 rs) tyl8 Nws8 lvl 1 318 1 (sp0_asksOrders rs) := cg_V (sg := []) nws8_ok spR_mono spR_un m0_asksOrders h rfl (by decide) rfl rfl ⟨rfl, by decide, by decide, rfl⟩ q971 q973 qs31 q128 q974
def P0_least (rs : List (Nat × Nat)) (M : Mm) : Prop := okX M
def R0_least (rs : List (Nat × Nat)) (M : Mm) (v : Int) (M1 : Mm) : Prop := keepX M M1 ∧ v = A_least (vX M)
def sp0_least (rs : List (Nat × Nat)) : Spec := spR true [] 1 (fun x M => P0_least rs M) (fun x M v M1 => R0_least rs M v M1)
theorem c0_least {rs : List (Nat × Nat)} {M : Mm} {Q : Option AV → Mm → Prop} : sp0_least rs [ar 0] M Q = (P0_least rs M ∧ ∀ (v : Int) (M1 : Mm), R0_least rs M v M1 → Q (some (ai v)) M1) := rfl
def cs0_least (rs : List (Nat × Nat)) : List (Nat × Nat × Nat × Spec) := [(318, 1, 1, (sp0_asksOrders rs))]
set_option maxHeartbeats 4000000 in
set_option maxRecDepth 100000 in
theorem in0_least {rs : List (Nat × Nat)} {M : Mm} {Q : Option AV → Mm → Prop} (hM : okM (sh8 rs) M) (hP : P0_least rs M) (hQ : ∀ (v : Int) (M1 : Mm), R0_least rs M v M1 → Q (some (ai v)) M1) : wp (tb0 (csL (cs0_least rs))) (sh8 rs) 1 1 cX0_least [] Q 400 0 [(0, ar 0)] [] M := by
  simp only [e_wp dX0_least_0 rfl, e_wp dX0_least_1 rfl, e_wp dX0_least_4 rfl, e_wp dX0_least_7 rfl, e_wp dX0_least_8 rfl, e_wp dX0_least_11 rfl, e_wp dX0_least_14 rfl, e_wp dX0_least_16 rfl, c0_asksOrders, cs0_least, g0_285, e_iconst, e_bipush, e_sipush, e_lconst_0, e_lconst_1, e_iload, e_iload_0, e_iload_1, e_iload_2, e_iload_3, e_lload, e_lload_0, e_lload_1, e_lload_2, e_lload_3, e_aload, e_aload_0, e_aload_1, e_aload_2, e_aload_3, e_istore, e_istore_0, e_istore_1, e_istore_2, e_istore_3, e_astore, e_astore_0, e_astore_1, e_astore_2, e_astore_3, e_lstore, e_lstore_0, e_lstore_1, e_lstore_2, e_lstore_3, e_iinc, e_iadd, e_isub, e_imul, e_ladd, e_lsub, e_lmul, e_idiv, e_irem, e_ldiv, e_lrem, e_ineg, e_lneg, e_iand, e_ior, e_ixor, e_ishl, e_ishr, e_iushr, e_lcmp, e_i2l, e_l2i, e_i2b, e_i2s, e_dup_i, e_dup_r, e_pop_i, e_pop_r, e_dup2_l, e_dup2_ir, e_dup2_ii, e_ifeq, e_ifne, e_iflt, e_ifge, e_ifgt, e_ifle, e_iceq, e_icne, e_iclt, e_icge, e_icgt, e_icle, e_goto, e_switch, e_invokevirtual, e_invokestatic, e_invokespecial, e_ret0, e_ret1, e_ret2, e_ret3, ldI_s, ldL_s, ldR_s, clO_s, ctP_s, ctS_s, mgo_0, mgo_s, pjc_s, pj_0, pj_s, lk_s, rm1_0, rm1_i, rm1_r, rm1_l, rm2_0, rm2_i, rm2_r, rm2_l, csL_s, lc_lt, lc_ge, lc_gt, lc_le, lc_eq, b01_0, b01_1, b01_01, b01_n, up2_o, up2_s, up2_u, ne_eq, reduceCtorEq, Nat.reduceAdd, Nat.reduceEqDiff, Nat.reduceLT, Nat.reduceLeDiff, Int.reduceLE, Int.reduceLT, Int.reduceAdd, Int.reduceNeg, Int.reduceMul, Int.reduceSub, Int.reduceEq, Int.reduceToNat, Int.reduceNatCast, Int.cast_ofNat_Int, ↓reduceIte, and_self, List.drop_succ_cons, List.drop_zero, List.take_succ_cons, List.take_zero, List.length_cons, List.length_nil, List.reverse_cons, List.reverse_nil, List.nil_append, List.cons_append, Option.toList, true_and, and_true, or_false, false_or, or_true, true_or, forall_const, Classical.not_not, not_false_eq_true, not_true_eq_false, false_implies, true_implies, implies_true, imp_self]
  refine ⟨hP, fun v M1 hR => ?_⟩
  obtain ⟨k1, k2, k3⟩ := hR
  refine ⟨fun z => hQ _ _ ⟨k1, ?_⟩, fun z => hQ _ _ ⟨k1, ?_⟩⟩
  · rw [k2, b01_0] at z
    exact (if_neg z).symm
  · have z1 := z
    rw [k2, b01_0] at z1
    have q := Classical.not_not.mp z1
    rw [(acX_v (M := M) (k3 (by rw [k2, b01_t q]))).1]
    exact (if_pos q).symm
set_option maxHeartbeats 4000000 in
set_option maxRecDepth 100000 in
theorem m0_least {rs : List (Nat × Nat)} : MOK cl8 (sh8 rs) tyl8 Nws8 18 yX0_least cX0_least 1 (some .int) (sp0_least rs) := by
  refine mok_of (own := RX0) (tb := tb0 (csL (cs0_least rs))) (rt := 1) (fuel := 400) (fun avs M Q => []) (by decide) rfl nws8_ok (tbOK0 _) rfl (csL_all ?_) ?_ ?_ ?_
  · intro q hq
    simp only [cs0_least, List.mem_cons, List.not_mem_nil, or_false] at hq
    rcases hq with rfl
    · exact cg0_asksOrders (by decide)
  · intro avs M Q hsp
    obtain ⟨xs, hx⟩ := spR_un _ _ _ hsp
    obtain ⟨e, hl⟩ := unA_mkT hx
    obtain rfl := len0 hl
    have e : avs = [ar 0] := e
    subst e
    simp [szL, isL]
  · intro avs M Q hM hav hsp
    obtain ⟨xs, hx⟩ := spR_un _ _ _ hsp
    obtain ⟨e, hl⟩ := unA_mkT hx
    obtain rfl := len0 hl
    have e : avs = [ar 0] := e
    subst e
    exact in0_least hM hsp.1 hsp.2
  · intro avs M Q hM hav hsp q hq m_ vs M1 hM1 hv hJ
    obtain ⟨xs, hx⟩ := spR_un _ _ _ hsp
    obtain ⟨e, hl⟩ := unA_mkT hx
    obtain rfl := len0 hl
    have e : avs = [ar 0] := e
    subst e
    cases hq
def P0_orders_2 (rs : List (Nat × Nat)) (M : Mm) : Prop := okX M
def R0_orders_2 (rs : List (Nat × Nat)) (M : Mm) (v : Int) (M1 : Mm) : Prop := keepX M M1 ∧ v = A_orders (vX M)
def sp0_orders_2 (rs : List (Nat × Nat)) : Spec := spR true [] 1 (fun x M => P0_orders_2 rs M) (fun x M v M1 => R0_orders_2 rs M v M1)
theorem c0_orders_2 {rs : List (Nat × Nat)} {M : Mm} {Q : Option AV → Mm → Prop} : sp0_orders_2 rs [ar 0] M Q = (P0_orders_2 rs M ∧ ∀ (v : Int) (M1 : Mm), R0_orders_2 rs M v M1 → Q (some (ai v)) M1) := rfl
def cs0_orders_2 (rs : List (Nat × Nat)) : List (Nat × Nat × Nat × Spec) := [(318, 1, 1, (sp0_asksOrders rs))]
set_option maxHeartbeats 4000000 in
set_option maxRecDepth 100000 in
theorem in0_orders_2 {rs : List (Nat × Nat)} {M : Mm} {Q : Option AV → Mm → Prop} (hM : okM (sh8 rs) M) (hP : P0_orders_2 rs M) (hQ : ∀ (v : Int) (M1 : Mm), R0_orders_2 rs M v M1 → Q (some (ai v)) M1) : wp (tb0 (csL (cs0_orders_2 rs))) (sh8 rs) 1 1 cX0_orders_2 [] Q 400 0 [(0, ar 0)] [] M := by
  simp only [e_wp dX0_orders_2_0 rfl, e_wp dX0_orders_2_1 rfl, e_wp dX0_orders_2_4 rfl, e_wp dX0_orders_2_7 rfl, e_wp dX0_orders_2_8 rfl, e_wp dX0_orders_2_11 rfl, e_wp dX0_orders_2_14 rfl, e_wp dX0_orders_2_16 rfl, c0_asksOrders, cs0_orders_2, g0_288, e_iconst, e_bipush, e_sipush, e_lconst_0, e_lconst_1, e_iload, e_iload_0, e_iload_1, e_iload_2, e_iload_3, e_lload, e_lload_0, e_lload_1, e_lload_2, e_lload_3, e_aload, e_aload_0, e_aload_1, e_aload_2, e_aload_3, e_istore, e_istore_0, e_istore_1, e_istore_2, e_istore_3, e_astore, e_astore_0, e_astore_1, e_astore_2, e_astore_3, e_lstore, e_lstore_0, e_lstore_1, e_lstore_2, e_lstore_3, e_iinc, e_iadd, e_isub, e_imul, e_ladd, e_lsub, e_lmul, e_idiv, e_irem, e_ldiv, e_lrem, e_ineg, e_lneg, e_iand, e_ior, e_ixor, e_ishl, e_ishr, e_iushr, e_lcmp, e_i2l, e_l2i, e_i2b, e_i2s, e_dup_i, e_dup_r, e_pop_i, e_pop_r, e_dup2_l, e_dup2_ir, e_dup2_ii, e_ifeq, e_ifne, e_iflt, e_ifge, e_ifgt, e_ifle, e_iceq, e_icne, e_iclt, e_icge, e_icgt, e_icle, e_goto, e_switch, e_invokevirtual, e_invokestatic, e_invokespecial, e_ret0, e_ret1, e_ret2, e_ret3, ldI_s, ldL_s, ldR_s, clO_s, ctP_s, ctS_s, mgo_0, mgo_s, pjc_s, pj_0, pj_s, lk_s, rm1_0, rm1_i, rm1_r, rm1_l, rm2_0, rm2_i, rm2_r, rm2_l, csL_s, lc_lt, lc_ge, lc_gt, lc_le, lc_eq, b01_0, b01_1, b01_01, b01_n, up2_o, up2_s, up2_u, ne_eq, reduceCtorEq, Nat.reduceAdd, Nat.reduceEqDiff, Nat.reduceLT, Nat.reduceLeDiff, Int.reduceLE, Int.reduceLT, Int.reduceAdd, Int.reduceNeg, Int.reduceMul, Int.reduceSub, Int.reduceEq, Int.reduceToNat, Int.reduceNatCast, Int.cast_ofNat_Int, ↓reduceIte, and_self, List.drop_succ_cons, List.drop_zero, List.take_succ_cons, List.take_zero, List.length_cons, List.length_nil, List.reverse_cons, List.reverse_nil, List.nil_append, List.cons_append, Option.toList, true_and, and_true, or_false, false_or, or_true, true_or, forall_const, Classical.not_not, not_false_eq_true, not_true_eq_false, false_implies, true_implies, implies_true, imp_self]
  refine ⟨hP, fun v M1 hR => ?_⟩
  obtain ⟨k1, k2, k3⟩ := hR
  refine ⟨fun z => hQ _ _ ⟨k1, ?_⟩, fun z => hQ _ _ ⟨k1, ?_⟩⟩
  · rw [k2, b01_0] at z
    exact (if_neg z).symm
  · have z1 := z
    rw [k2, b01_0] at z1
    have q := Classical.not_not.mp z1
    rw [(acX_v (M := M) (k3 (by rw [k2, b01_t q]))).2.1]
    exact (if_pos q).symm
set_option maxHeartbeats 4000000 in
set_option maxRecDepth 100000 in
theorem m0_orders_2 {rs : List (Nat × Nat)} : MOK cl8 (sh8 rs) tyl8 Nws8 18 yX0_orders_2 cX0_orders_2 1 (some .int) (sp0_orders_2 rs) := by
  refine mok_of (own := RX0) (tb := tb0 (csL (cs0_orders_2 rs))) (rt := 1) (fuel := 400) (fun avs M Q => []) (by decide) rfl nws8_ok (tbOK0 _) rfl (csL_all ?_) ?_ ?_ ?_
  · intro q hq
    simp only [cs0_orders_2, List.mem_cons, List.not_mem_nil, or_false] at hq
    rcases hq with rfl
    · exact cg0_asksOrders (by decide)
  · intro avs M Q hsp
    obtain ⟨xs, hx⟩ := spR_un _ _ _ hsp
    obtain ⟨e, hl⟩ := unA_mkT hx
    obtain rfl := len0 hl
    have e : avs = [ar 0] := e
    subst e
    simp [szL, isL]
  · intro avs M Q hM hav hsp
    obtain ⟨xs, hx⟩ := spR_un _ _ _ hsp
    obtain ⟨e, hl⟩ := unA_mkT hx
    obtain rfl := len0 hl
    have e : avs = [ar 0] := e
    subst e
    exact in0_orders_2 hM hsp.1 hsp.2
  · intro avs M Q hM hav hsp q hq m_ vs M1 hM1 hv hJ
    obtain ⟨xs, hx⟩ := spR_un _ _ _ hsp
    obtain ⟨e, hl⟩ := unA_mkT hx
    obtain rfl := len0 hl
    have e : avs = [ar 0] := e
    subst e
    cases hq
def P0_across (rs : List (Nat × Nat)) (M : Mm) : Prop := okX M
def R0_across (rs : List (Nat × Nat)) (M : Mm) (v : Int) (M1 : Mm) : Prop := keepX M M1 ∧ v = A_across (vX M)
def sp0_across (rs : List (Nat × Nat)) : Spec := spR true [] 1 (fun x M => P0_across rs M) (fun x M v M1 => R0_across rs M v M1)
theorem c0_across {rs : List (Nat × Nat)} {M : Mm} {Q : Option AV → Mm → Prop} : sp0_across rs [ar 0] M Q = (P0_across rs M ∧ ∀ (v : Int) (M1 : Mm), R0_across rs M v M1 → Q (some (ai v)) M1) := rfl
def cs0_across (rs : List (Nat × Nat)) : List (Nat × Nat × Nat × Spec) := [(318, 1, 1, (sp0_asksOrders rs))]
set_option maxHeartbeats 4000000 in
set_option maxRecDepth 100000 in
theorem in0_across {rs : List (Nat × Nat)} {M : Mm} {Q : Option AV → Mm → Prop} (hM : okM (sh8 rs) M) (hP : P0_across rs M) (hQ : ∀ (v : Int) (M1 : Mm), R0_across rs M v M1 → Q (some (ai v)) M1) : wp (tb0 (csL (cs0_across rs))) (sh8 rs) 1 1 cX0_across [] Q 400 0 [(0, ar 0)] [] M := by
  simp only [e_wp dX0_across_0 rfl, e_wp dX0_across_1 rfl, e_wp dX0_across_4 rfl, e_wp dX0_across_7 rfl, e_wp dX0_across_8 rfl, e_wp dX0_across_11 rfl, e_wp dX0_across_14 rfl, e_wp dX0_across_16 rfl, c0_asksOrders, cs0_across, g0_291, e_iconst, e_bipush, e_sipush, e_lconst_0, e_lconst_1, e_iload, e_iload_0, e_iload_1, e_iload_2, e_iload_3, e_lload, e_lload_0, e_lload_1, e_lload_2, e_lload_3, e_aload, e_aload_0, e_aload_1, e_aload_2, e_aload_3, e_istore, e_istore_0, e_istore_1, e_istore_2, e_istore_3, e_astore, e_astore_0, e_astore_1, e_astore_2, e_astore_3, e_lstore, e_lstore_0, e_lstore_1, e_lstore_2, e_lstore_3, e_iinc, e_iadd, e_isub, e_imul, e_ladd, e_lsub, e_lmul, e_idiv, e_irem, e_ldiv, e_lrem, e_ineg, e_lneg, e_iand, e_ior, e_ixor, e_ishl, e_ishr, e_iushr, e_lcmp, e_i2l, e_l2i, e_i2b, e_i2s, e_dup_i, e_dup_r, e_pop_i, e_pop_r, e_dup2_l, e_dup2_ir, e_dup2_ii, e_ifeq, e_ifne, e_iflt, e_ifge, e_ifgt, e_ifle, e_iceq, e_icne, e_iclt, e_icge, e_icgt, e_icle, e_goto, e_switch, e_invokevirtual, e_invokestatic, e_invokespecial, e_ret0, e_ret1, e_ret2, e_ret3, ldI_s, ldL_s, ldR_s, clO_s, ctP_s, ctS_s, mgo_0, mgo_s, pjc_s, pj_0, pj_s, lk_s, rm1_0, rm1_i, rm1_r, rm1_l, rm2_0, rm2_i, rm2_r, rm2_l, csL_s, lc_lt, lc_ge, lc_gt, lc_le, lc_eq, b01_0, b01_1, b01_01, b01_n, up2_o, up2_s, up2_u, ne_eq, reduceCtorEq, Nat.reduceAdd, Nat.reduceEqDiff, Nat.reduceLT, Nat.reduceLeDiff, Int.reduceLE, Int.reduceLT, Int.reduceAdd, Int.reduceNeg, Int.reduceMul, Int.reduceSub, Int.reduceEq, Int.reduceToNat, Int.reduceNatCast, Int.cast_ofNat_Int, ↓reduceIte, and_self, List.drop_succ_cons, List.drop_zero, List.take_succ_cons, List.take_zero, List.length_cons, List.length_nil, List.reverse_cons, List.reverse_nil, List.nil_append, List.cons_append, Option.toList, true_and, and_true, or_false, false_or, or_true, true_or, forall_const, Classical.not_not, not_false_eq_true, not_true_eq_false, false_implies, true_implies, implies_true, imp_self]
  refine ⟨hP, fun v M1 hR => ?_⟩
  obtain ⟨k1, k2, k3⟩ := hR
  refine ⟨fun z => hQ _ _ ⟨k1, ?_⟩, fun z => hQ _ _ ⟨k1, ?_⟩⟩
  · rw [k2, b01_0] at z
    exact (if_neg z).symm
  · have z1 := z
    rw [k2, b01_0] at z1
    have q := Classical.not_not.mp z1
    rw [(acX_v (M := M) (k3 (by rw [k2, b01_t q]))).2.2]
    exact (if_pos q).symm
set_option maxHeartbeats 4000000 in
set_option maxRecDepth 100000 in
theorem m0_across {rs : List (Nat × Nat)} : MOK cl8 (sh8 rs) tyl8 Nws8 18 yX0_across cX0_across 1 (some .int) (sp0_across rs) := by
  refine mok_of (own := RX0) (tb := tb0 (csL (cs0_across rs))) (rt := 1) (fuel := 400) (fun avs M Q => []) (by decide) rfl nws8_ok (tbOK0 _) rfl (csL_all ?_) ?_ ?_ ?_
  · intro q hq
    simp only [cs0_across, List.mem_cons, List.not_mem_nil, or_false] at hq
    rcases hq with rfl
    · exact cg0_asksOrders (by decide)
  · intro avs M Q hsp
    obtain ⟨xs, hx⟩ := spR_un _ _ _ hsp
    obtain ⟨e, hl⟩ := unA_mkT hx
    obtain rfl := len0 hl
    have e : avs = [ar 0] := e
    subst e
    simp [szL, isL]
  · intro avs M Q hM hav hsp
    obtain ⟨xs, hx⟩ := spR_un _ _ _ hsp
    obtain ⟨e, hl⟩ := unA_mkT hx
    obtain rfl := len0 hl
    have e : avs = [ar 0] := e
    subst e
    exact in0_across hM hsp.1 hsp.2
  · intro avs M Q hM hav hsp q hq m_ vs M1 hM1 hv hJ
    obtain ⟨xs, hx⟩ := spR_un _ _ _ hsp
    obtain ⟨e, hl⟩ := unA_mkT hx
    obtain rfl := len0 hl
    have e : avs = [ar 0] := e
    subst e
    cases hq
/-- carts stand in told valleys alone -/
abbrev okN (M : Mm) : Prop := 0 < M 1 5 → 0 < M 1 3
def P0_order (rs : List (Nat × Nat)) (i : Int) (M : Mm) : Prop := okX M ∧ okN M
def R0_order (rs : List (Nat × Nat)) (i : Int) (M : Mm) (v : Int) (M1 : Mm) : Prop := keepX M M1 ∧ v = A_order (vX M) i
def sp0_order (rs : List (Nat × Nat)) : Spec := spR true [0] 1 (fun x M => P0_order rs (x 0) M) (fun x M v M1 => R0_order rs (x 0) M v M1)
theorem c0_order {rs : List (Nat × Nat)} {i : Int} {M : Mm} {Q : Option AV → Mm → Prop} : sp0_order rs [ar 0, ai i] M Q = (P0_order rs i M ∧ ∀ (v : Int) (M1 : Mm), R0_order rs i M v M1 → Q (some (ai v)) M1) := rfl
def cs0_order (rs : List (Nat × Nat)) : List (Nat × Nat × Nat × Spec) := [(159, 1, 2, (sp0_isCart rs)), (318, 1, 1, (sp0_asksOrders rs))]
set_option maxHeartbeats 4000000 in
set_option maxRecDepth 100000 in
theorem in0_order {rs : List (Nat × Nat)} {i : Int} {M : Mm} {Q : Option AV → Mm → Prop} (hM : okM (sh8 rs) M) (h_i : i32 i) (hP : P0_order rs i M) (hQ : ∀ (v : Int) (M1 : Mm), R0_order rs i M v M1 → Q (some (ai v)) M1) : wp (tb0 (csL (cs0_order rs))) (sh8 rs) 2 1 cX0_order [] Q 400 0 [(0, ar 0), (1, ai i)] [] M := by
  obtain ⟨⟨hY, hB⟩, hN⟩ := id hP
  have h4 : 0 ≤ M 1 5 ∧ M 1 5 ≤ 7 := (okY_n hY).2.1
  simp only [e_wp dX0_order_0 rfl, e_wp dX0_order_1 rfl, e_wp dX0_order_2 rfl, e_wp dX0_order_3 rfl, e_wp dX0_order_6 rfl, e_wp dX0_order_9 rfl, e_wp dX0_order_10 rfl, e_wp dX0_order_13 rfl, e_wp dX0_order_16 rfl, e_wp dX0_order_17 rfl, e_wp dX0_order_20 rfl, e_wp dX0_order_21 rfl, e_wp dX0_order_22 rfl, e_wp dX0_order_25 rfl, e_wp dX0_order_27 rfl, c0_isCart, P0_isCart, V0_isCart, cs0_order, c0_asksOrders, g0_95, a8_13, w8_13, a8_14, w8_14, a8_15, w8_15, a8_16, w8_16, a8_17, w8_17, a8_18, w8_18, a8_19, w8_19, a8_20, w8_20, a8_21, w8_21, a8_22, w8_22, a8_23, w8_23, a8_24, w8_24, a8_25, w8_25, a8_26, w8_26, a8_27, w8_27, a8_28, w8_28, a8_29, w8_29, a8_30, w8_30, a8_31, w8_31, a8_32, w8_32, a8_33, w8_33, a8_34, w8_34, a8_35, w8_35, a8_36, w8_36, a8_37, w8_37, a8_38, w8_38, a8_39, w8_39, a8_40, w8_40, a8_12, w8_12, a8_6, a8_7, e_iconst, e_bipush, e_sipush, e_lconst_0, e_lconst_1, e_iload, e_iload_0, e_iload_1, e_iload_2, e_iload_3, e_lload, e_lload_0, e_lload_1, e_lload_2, e_lload_3, e_aload, e_aload_0, e_aload_1, e_aload_2, e_aload_3, e_istore, e_istore_0, e_istore_1, e_istore_2, e_istore_3, e_astore, e_astore_0, e_astore_1, e_astore_2, e_astore_3, e_lstore, e_lstore_0, e_lstore_1, e_lstore_2, e_lstore_3, e_iinc, e_iadd, e_isub, e_imul, e_ladd, e_lsub, e_lmul, e_idiv, e_irem, e_ldiv, e_lrem, e_ineg, e_lneg, e_iand, e_ior, e_ixor, e_ishl, e_ishr, e_iushr, e_lcmp, e_i2l, e_l2i, e_i2b, e_i2s, e_dup_i, e_dup_r, e_pop_i, e_pop_r, e_dup2_l, e_dup2_ir, e_dup2_ii, e_ifeq, e_ifne, e_iflt, e_ifge, e_ifgt, e_ifle, e_iceq, e_icne, e_iclt, e_icge, e_icgt, e_icle, e_goto, e_switch, e_invokevirtual, e_invokestatic, e_invokespecial, e_ret0, e_ret1, e_ret2, e_ret3, ldI_s, ldL_s, ldR_s, clO_s, ctP_s, ctS_s, mgo_0, mgo_s, pjc_s, pj_0, pj_s, lk_s, rm1_0, rm1_i, rm1_r, rm1_l, rm2_0, rm2_i, rm2_r, rm2_l, csL_s, lc_lt, lc_ge, lc_gt, lc_le, lc_eq, b01_0, b01_1, b01_01, b01_n, up2_o, up2_s, up2_u, ne_eq, reduceCtorEq, Nat.reduceAdd, Nat.reduceEqDiff, Nat.reduceLT, Nat.reduceLeDiff, Int.reduceLE, Int.reduceLT, Int.reduceAdd, Int.reduceNeg, Int.reduceMul, Int.reduceSub, Int.reduceEq, Int.reduceToNat, Int.reduceNatCast, Int.cast_ofNat_Int, ↓reduceIte, and_self, List.drop_succ_cons, List.drop_zero, List.take_succ_cons, List.take_zero, List.length_cons, List.length_nil, List.reverse_cons, List.reverse_nil, List.nil_append, List.cons_append, Option.toList, true_and, and_true, or_false, false_or, or_true, true_or, forall_const, Classical.not_not, not_false_eq_true, not_true_eq_false, false_implies, true_implies, implies_true, imp_self]
  refine ⟨h4, fun q => hQ _ _ ⟨keepX_rf, (if_neg q).symm⟩, fun q => ⟨⟨hY, hB⟩, fun v M1 hR => ?_⟩⟩
  obtain ⟨k1, k2, k3⟩ := hR
  refine ⟨fun z => ?_, fun z => ?_⟩
  · rw [k2, b01_0] at z
    exact absurd (hN (by omega)) z
  · have k4 := k3 (by rw [k2, b01_t (hN (by omega))])
    refine ⟨by omega, hQ _ _ ⟨k1, ?_⟩⟩
    exact (k4.2.2.2 i.toNat (by rw [keepX_1 k1]; omega)).symm.trans (if_pos q).symm
set_option maxHeartbeats 4000000 in
set_option maxRecDepth 100000 in
theorem m0_order {rs : List (Nat × Nat)} : MOK cl8 (sh8 rs) tyl8 Nws8 18 yX0_order cX0_order 2 (some .int) (sp0_order rs) := by
  refine mok_of (own := RX0) (tb := tb0 (csL (cs0_order rs))) (rt := 1) (fuel := 400) (fun avs M Q => []) (by decide) rfl nws8_ok (tbOK0 _) rfl (csL_all ?_) ?_ ?_ ?_
  · intro q hq
    simp only [cs0_order, List.mem_cons, List.not_mem_nil, or_false] at hq
    rcases hq with rfl | rfl
    · exact cg0_isCart (by decide)
    · exact cg0_asksOrders (by decide)
  · intro avs M Q hsp
    obtain ⟨xs, hx⟩ := spR_un _ _ _ hsp
    obtain ⟨e, hl⟩ := unA_mkT hx
    obtain ⟨i, rfl⟩ := len1 hl
    have e : avs = [ar 0, ai i] := e
    subst e
    simp [szL, isL]
  · intro avs M Q hM hav hsp
    obtain ⟨xs, hx⟩ := spR_un _ _ _ hsp
    obtain ⟨e, hl⟩ := unA_mkT hx
    obtain ⟨i, rfl⟩ := len1 hl
    have e : avs = [ar 0, ai i] := e
    subst e
    exact in0_order hM (hav (ai i) (by simp)) hsp.1 hsp.2
  · intro avs M Q hM hav hsp q hq m_ vs M1 hM1 hv hJ
    obtain ⟨xs, hx⟩ := spR_un _ _ _ hsp
    obtain ⟨e, hl⟩ := unA_mkT hx
    obtain ⟨i, rfl⟩ := len1 hl
    have e : avs = [ar 0, ai i] := e
    subst e
    cases hq
