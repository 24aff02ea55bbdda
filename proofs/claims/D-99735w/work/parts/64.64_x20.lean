/-! SagMemory: routes -/
abbrev rxRows : List Nat := [0, 13, 14, 15, 25, 19, 20, 21, 22, 23, 24, 26, 27, 28, 29, 17]
def rouX (t : Int) (M M1 : Mm) : Prop := frm rxRows M M1 ∧ (wX M M1 ∧ ∀ j, ¬ j = 8 → ¬ j = 27 → ¬ j = 28 → ¬ j = 29 → M1 0 j = M 0 j) ∧ ∀ k : Nat, (k : Int) < t → M1 17 k = M 17 k
theorem rouX_rf {t : Int} {M : Mm} : rouX t M M := ⟨frm_rf, ⟨wX_eq rfl, fun _ _ _ _ _ => rfl⟩, fun _ _ => rfl⟩
theorem rouX_tr {t : Int} {M M1 M2 : Mm} (h : rouX t M M1) (h2 : rouX t M1 M2) : rouX t M M2 := ⟨frm_tr h.1 h2.1 (fun _ q => q), ⟨wX_tr h.2.1.1 h2.2.1.1, fun j a b c d => (h2.2.1.2 j a b c d).trans (h.2.1.2 j a b c d)⟩, fun k hk => (h2.2.2 k hk).trans (h.2.2 k hk)⟩
theorem rouX_w {t t' : Int} {M M1 : Mm} (h : rouX t M M1) (ht : t' ≤ t) : rouX t' M M1 := ⟨h.1, h.2.1, fun k hk => h.2.2 k (by omega)⟩
theorem rouX_by {t : Nat} {M : Mm} {x : Int} : rouX t M (up2 M 17 t x) := ⟨frm_up frm_rf (by decide), ⟨wX_eq (up2_o (by decide)), fun j _ _ _ _ => up2_o (by decide)⟩, fun k hk => up2_n (by omega)⟩
theorem rouX_v {t : Int} {M M1 : Mm} (h : rouX t M M1) : vX M1 = vX M := vX_frm h.1 (by decide)
theorem rouX_c {t : Int} {M M1 : Mm} (h : rouX t M M1) : ∀ i j, ¬ i = 2 → cX M1 i j = cX M i j := by
  intro i j hi
  match i with
  | 0 =>
    show (if j = 0 then M1 0 10 - 2 else if j = 1 then M1 0 24 else M1 0 25) = (if j = 0 then M 0 10 - 2 else if j = 1 then M 0 24 else M 0 25)
    rw [h.2.1.2 10 (by decide) (by decide) (by decide) (by decide), h.2.1.2 24 (by decide) (by decide) (by decide) (by decide), h.2.1.2 25 (by decide) (by decide) (by decide) (by decide)]
  | 1 => exact congrFun (h.1 16 (by decide)) j
  | 2 => exact absurd rfl hi
  | 3 => exact congrFun (h.1 18 (by decide)) j
  | i + 4 => rfl
theorem nX_eq2 {M M1 : Mm} (hV : vX M1 = vX M) (hC : ∀ i j, ¬ i = 2 → cX M1 i j = cX M i j) {t n : Nat} (hn : (t : Int) + n = M 1 5) (hr : ∀ k : Nat, k < t → M1 17 k = M 17 k) : ∀ i j, ¬ (i = 2 ∧ t ≤ j ∧ j < t + n) → nX M1 i j = nX M i j := by
  intro i j h
  show (if i = 0 then cX M1 0 j else if (j : Int) < vX M1 0 4 then cX M1 i j else 0) = (if i = 0 then cX M 0 j else if (j : Int) < vX M 0 4 then cX M i j else 0)
  rw [hV, hC 0 j (by decide)]
  have e4 : vX M 0 4 = M 1 5 := rfl
  split
  · rfl
  · split
    · by_cases e : i = 2
      · rw [e]
        exact hr j (by omega)
      · exact hC i j e
    · rfl
theorem up_byX {M : Mm} {t : Nat} {x : Int} (ht : (t : Int) < M 1 5) : nX (up2 M 17 t x) = up2 (nX M) 2 t x := by
  have hV : vX (up2 M 17 t x) = vX M := rouX_v (t := t) rouX_by
  have hC := rouX_c (rouX_by (t := t) (M := M) (x := x))
  have e4 : vX M 0 4 = M 1 5 := rfl
  funext i j
  show (if i = 0 then cX (up2 M 17 t x) 0 j else if (j : Int) < vX (up2 M 17 t x) 0 4 then cX (up2 M 17 t x) i j else 0) = (if i = 2 ∧ j = t then x else if i = 0 then cX M 0 j else if (j : Int) < vX M 0 4 then cX M i j else 0)
  rw [hV, hC 0 j (by decide)]
  by_cases e : i = 2
  · subst e
    have d3 : ¬ (2 : Nat) = 0 := by decide
    by_cases z : j = t
    · subst z
      have y : (j : Int) < vX M 0 4 := by omega
      simp only [if_neg d3, if_pos y, if_pos (show (2 : Nat) = 2 ∧ j = j from ⟨rfl, rfl⟩)]
      exact up2_s
    · have z' : ¬ ((2 : Nat) = 2 ∧ j = t) := fun q => z q.2
      by_cases y : (j : Int) < vX M 0 4
      · simp only [if_neg d3, if_pos y, if_neg z']
        exact (up2_n z).trans (if_neg (fun q : True ∧ j = t => z q.2)).symm
      · simp only [if_neg d3, if_neg y]
        exact (if_neg (fun q : True ∧ j = t => z q.2)).symm
  · have e' : ¬ (i = 2 ∧ j = t) := fun q => e q.1
    simp only [if_neg e', hC i j e]
theorem routL_len {V : Vy} (h : V 0 3 ≤ 3) : ∀ {n : Nat} {C : Cf} {t : Nat}, (routL V n C t).length ≤ 3 ^ n := by
  intro n
  induction n with
  | zero => intro C t; exact Nat.le_refl _
  | succ n ih =>
    intro C t
    rw [routL_s]
    refine Nat.le_trans (catN_len (B := 3 ^ n) (fun k _ => ih)) ?_
    rw [Nat.pow_succ, Nat.mul_comm]
    exact Nat.mul_le_mul_left _ (by omega)
def P0_routes_2 (d_ : Nat) (rs : List (Nat × Nat)) (t : Int) (M : Mm) : Prop := okY (vX M) ∧ okCf (vX M) (cX M) ∧ baseI M ∧ (0 ≤ t ∧ t ≤ M 1 5 ∧ M 1 5 + 1 ≤ t + d_) ∧ (∀ k : Nat, (k : Int) < M 1 5 → M 18 k = k) ∧ 0 ≤ M 0 28 ∧ M 0 28 + (routL (vX M) (M 1 5 - t).toNat (nX M) t.toNat).length ≤ 1000000000
def R0_routes_2 (d_ : Nat) (rs : List (Nat × Nat)) (t : Int) (M : Mm) (M1 : Mm) : Prop := rouX t M M1 ∧ okCf (vX M1) (cX M1) ∧ ∀ a, acX M a → acX M1 ((routL (vX M) (M 1 5 - t).toNat (nX M) t.toNat).foldl (keepP 2 (vX M)) a)
def sp0_routes_2 (d_ : Nat) (rs : List (Nat × Nat)) : Spec := spV true [0] (fun x M => P0_routes_2 d_ rs (x 0) M) (fun x M M1 => R0_routes_2 d_ rs (x 0) M M1)
theorem c0_routes_2 {d_ : Nat} {rs : List (Nat × Nat)} {t : Int} {M : Mm} {Q : Option AV → Mm → Prop} : sp0_routes_2 d_ rs [ar 0, ai t] M Q = (P0_routes_2 d_ rs t M ∧ ∀ (M1 : Mm), R0_routes_2 d_ rs t M M1 → Q none M1) := rfl
def cs0_routes_2 (d_ : Nat) (rs : List (Nat × Nat)) : List (Nat × Nat × Nat × Spec) := [(305, 1, 2, (sp0_keeps rs)), (315, 1, 2, (sp0_routes_2 d_ rs))]
def J0_routes_2_22 (d_ : Nat) (rs : List (Nat × Nat)) (t : Int) (M : Mm) (m : Nat) (t_ : Int) (c : Int) (M1 : Mm) : Prop := t = t_ ∧ t < M 1 5 ∧ rouX t M M1 ∧ okCf (vX M1) (cX M1) ∧ ∃ a : Nat, c = a ∧ (a : Int) ≤ M 1 4 ∧ (∀ x, acX M x → acX M1 ((catN (routB (vX M) (M 1 5 - t - 1).toNat (nX M) t.toNat) a).foldl (keepP 2 (vX M)) x)) ∧ m = 10 - a
set_option maxHeartbeats 4000000 in
set_option maxRecDepth 100000 in
theorem in0_routes_2 {d_ : Nat} {rs : List (Nat × Nat)} {t : Int} {M : Mm} {Q : Option AV → Mm → Prop} (hM : okM (sh8 rs) M) (h_t : i32 t) (hP : P0_routes_2 (d_ + 1) rs t M) (hQ : ∀ (M1 : Mm), R0_routes_2 (d_ + 1) rs t M M1 → Q none M1) (I_22 : List AV → Mm → Prop) (hI_22 : ∀ (m_ : Nat) (y_t_ : Int) (y_c : Int) (M2 : Mm), J0_routes_2_22 (d_ + 1) rs t M m_ y_t_ y_c M2 → I_22 [ar 0, ai y_t_, ai y_c] M2) : wp (tb0 (csL (cs0_routes_2 d_ rs))) (sh8 rs) 3 0 cX0_routes_2 [(22, [0, 1, 2], I_22)] Q 400 0 [(0, ar 0), (1, ai t)] [] M := by
  obtain ⟨h1, h2, hB, h3, h5, h6, h7⟩ := id hP
  have b4 : 0 ≤ M 1 5 ∧ M 1 5 ≤ 7 := (okY_n h1).2.1
  have b3 : 0 ≤ M 1 4 ∧ M 1 4 ≤ 3 := (okY_n h1).1
  simp only [e_wp dX0_routes_2_0 rfl, e_wp dX0_routes_2_1 rfl, e_wp dX0_routes_2_2 rfl, e_wp dX0_routes_2_5 rfl, e_wp dX0_routes_2_8 rfl, e_wp dX0_routes_2_11 rfl, e_wp dX0_routes_2_12 rfl, e_wp dX0_routes_2_13 rfl, e_wp dX0_routes_2_16 rfl, e_wp dX0_routes_2_19 rfl, e_wp dX0_routes_2_20 rfl, e_wp dX0_routes_2_21 rfl, e_wp dX0_routes_2_22 rfl, e_wp dX0_routes_2_23 rfl, e_wp dX0_routes_2_24 rfl, e_wp dX0_routes_2_27 rfl, e_wp dX0_routes_2_30 rfl, e_wp dX0_routes_2_33 rfl, e_wp dX0_routes_2_34 rfl, e_wp dX0_routes_2_37 rfl, e_wp dX0_routes_2_38 rfl, e_wp dX0_routes_2_39 rfl, e_wp dX0_routes_2_40 rfl, e_wp dX0_routes_2_41 rfl, e_wp dX0_routes_2_42 rfl, e_wp dX0_routes_2_43 rfl, e_wp dX0_routes_2_44 rfl, e_wp dX0_routes_2_47 rfl, e_wp dX0_routes_2_50 rfl, e_wp dX0_routes_2_53 rfl, g0_10, g0_156, g0_59, c0_keeps, cs0_routes_2, g0_153, c0_routes_2, a8_13, w8_13, a8_14, w8_14, a8_15, w8_15, a8_16, w8_16, a8_17, w8_17, a8_18, w8_18, a8_19, w8_19, a8_20, w8_20, a8_21, w8_21, a8_22, w8_22, a8_23, w8_23, a8_24, w8_24, a8_25, w8_25, a8_26, w8_26, a8_27, w8_27, a8_28, w8_28, a8_29, w8_29, a8_30, w8_30, a8_31, w8_31, a8_32, w8_32, a8_33, w8_33, a8_34, w8_34, a8_35, w8_35, a8_36, w8_36, a8_37, w8_37, a8_38, w8_38, a8_39, w8_39, a8_40, w8_40, a8_12, w8_12, a8_6, a8_7, e_iconst, e_bipush, e_sipush, e_lconst_0, e_lconst_1, e_iload, e_iload_0, e_iload_1, e_iload_2, e_iload_3, e_lload, e_lload_0, e_lload_1, e_lload_2, e_lload_3, e_aload, e_aload_0, e_aload_1, e_aload_2, e_aload_3, e_istore, e_istore_0, e_istore_1, e_istore_2, e_istore_3, e_astore, e_astore_0, e_astore_1, e_astore_2, e_astore_3, e_lstore, e_lstore_0, e_lstore_1, e_lstore_2, e_lstore_3, e_iinc, e_iadd, e_isub, e_imul, e_ladd, e_lsub, e_lmul, e_idiv, e_irem, e_ldiv, e_lrem, e_ineg, e_lneg, e_iand, e_ior, e_ixor, e_ishl, e_ishr, e_iushr, e_lcmp, e_i2l, e_l2i, e_i2b, e_i2s, e_dup_i, e_dup_r, e_pop_i, e_pop_r, e_dup2_l, e_dup2_ir, e_dup2_ii, e_ifeq, e_ifne, e_iflt, e_ifge, e_ifgt, e_ifle, e_iceq, e_icne, e_iclt, e_icge, e_icgt, e_icle, e_goto, e_switch, e_invokevirtual, e_invokestatic, e_invokespecial, e_ret0, e_ret1, e_ret2, e_ret3, ldI_s, ldL_s, ldR_s, clO_s, ctP_s, ctS_s, mgo_0, mgo_s, pjc_s, pj_0, pj_s, lk_s, rm1_0, rm1_i, rm1_r, rm1_l, rm2_0, rm2_i, rm2_r, rm2_l, csL_s, lc_lt, lc_ge, lc_gt, lc_le, lc_eq, b01_0, b01_1, b01_01, b01_n, up2_o, up2_s, up2_u, ne_eq, reduceCtorEq, Nat.reduceAdd, Nat.reduceEqDiff, Nat.reduceLT, Nat.reduceLeDiff, Int.reduceLE, Int.reduceLT, Int.reduceAdd, Int.reduceNeg, Int.reduceMul, Int.reduceSub, Int.reduceEq, Int.reduceToNat, Int.reduceNatCast, Int.cast_ofNat_Int, ↓reduceIte, and_self, List.drop_succ_cons, List.drop_zero, List.take_succ_cons, List.take_zero, List.length_cons, List.length_nil, List.reverse_cons, List.reverse_nil, List.nil_append, List.cons_append, Option.toList, true_and, and_true, or_false, false_or, or_true, true_or, forall_const, Classical.not_not, not_false_eq_true, not_true_eq_false, false_implies, true_implies, implies_true, imp_self]
  refine ⟨fun q => ?_, fun q => ?_⟩
  · exact hI_22 10 _ _ _ ⟨rfl, by omega, rouX_rf, h2, 0, rfl, by omega, fun x hx => hx, rfl⟩
  · have hi : injR (vX M) (nX M) := fun t' t'' q1 q2 q3 => by
      have q3 : M 18 t' = M 18 t'' := (nC_s (C := cX M) (i := 3) (by decide) q1).symm.trans (q3.trans (nC_s (C := cX M) (i := 3) (by decide) q2))
      have e4 : vX M 0 4 = M 1 5 := rfl
      rw [h5 t' (by omega), h5 t'' (by omega)] at q3
      omega
    refine ⟨⟨by decide, h1, h2, hB, hi, h6, by omega⟩, fun M1 hR => hQ _ ?_⟩
    have hR' := hR
    obtain ⟨r1, r2, -⟩ := hR
    have eV : vX M1 = vX M := vX_frm r1 (by decide)
    have eC : cX M1 = cX M := cX_q (fun j hj => r2.2 j (by revert hj; simp only [List.mem_cons, List.not_mem_nil, or_false]; omega) (by revert hj; simp only [List.mem_cons, List.not_mem_nil, or_false]; omega) (by revert hj; simp only [List.mem_cons, List.not_mem_nil, or_false]; omega) (by revert hj; simp only [List.mem_cons, List.not_mem_nil, or_false]; omega)) (r1 _ (by decide)) (r1 _ (by decide)) (r1 _ (by decide))
    refine ⟨⟨frm_w r1 (by decide), r2, fun k _ => congrFun (r1 17 (by decide)) k⟩, by rw [eV, eC]; exact h2, fun A hA => ?_⟩
    have eL : routL (vX M) (M 1 5 - t).toNat (nX M) t.toNat = [nX M] := by
      rw [show (M 1 5 - t).toNat = 0 by omega]
      rfl
    rw [eL]
    exact keep_acX (by decide) (fun _ _ => rfl) b4.2 hR' hA
set_option maxHeartbeats 4000000 in
set_option maxRecDepth 100000 in
theorem at0_routes_2_22 {d_ : Nat} {rs : List (Nat × Nat)} {t : Int} {M : Mm} {Q : Option AV → Mm → Prop} (hM : okM (sh8 rs) M) (h_t : i32 t) (hP : P0_routes_2 (d_ + 1) rs t M) (hQ : ∀ (M1 : Mm), R0_routes_2 (d_ + 1) rs t M M1 → Q none M1) {m : Nat} {t_ c : Int} {M1 : Mm} (hM1 : okM (sh8 rs) M1) (h_t_ : i32 t_) (h_c : i32 c) (hJ : J0_routes_2_22 (d_ + 1) rs t M m t_ c M1) (I_22 : List AV → Mm → Prop) (hI_22 : ∀ (m_ : Nat) (y_t_ : Int) (y_c : Int) (M2 : Mm), m_ < m → J0_routes_2_22 (d_ + 1) rs t M m_ y_t_ y_c M2 → I_22 [ar 0, ai y_t_, ai y_c] M2) : wp (tb0 (csL (cs0_routes_2 d_ rs))) (sh8 rs) 3 0 cX0_routes_2 [(22, [0, 1, 2], I_22)] Q 400 22 [(0, ar 0), (1, ai t_), (2, ai c)] [] M1 := by
  obtain ⟨rfl, ht, hK, hC, a, rfl, ha, hA, rfl⟩ := hJ
  obtain ⟨h1, h2, hB, h3, h5, h6, h7⟩ := id hP
  have b4' : 0 ≤ M 1 5 ∧ M 1 5 ≤ 7 := (okY_n h1).2.1
  have b3 : 0 ≤ M 1 4 ∧ M 1 4 ≤ 3 := (okY_n h1).1
  obtain ⟨u, rfl⟩ := Int.eq_ofNat_of_zero_le h3.1
  have e7 : M1 1 = M 1 := hK.1 _ (by decide)
  have eL : routL (vX M) (M 1 5 - u).toNat (nX M) u = catN (routB (vX M) (M 1 5 - u - 1).toNat (nX M) u) (M 1 4).toNat := by
    rw [show (M 1 5 - u).toNat = (M 1 5 - u - 1).toNat + 1 by omega]
    rfl
  simp only [e_wp dX0_routes_2_0 rfl, e_wp dX0_routes_2_1 rfl, e_wp dX0_routes_2_2 rfl, e_wp dX0_routes_2_5 rfl, e_wp dX0_routes_2_8 rfl, e_wp dX0_routes_2_11 rfl, e_wp dX0_routes_2_12 rfl, e_wp dX0_routes_2_13 rfl, e_wp dX0_routes_2_16 rfl, e_wp dX0_routes_2_19 rfl, e_wp dX0_routes_2_20 rfl, e_wp dX0_routes_2_21 rfl, e_wp dX0_routes_2_22 rfl, e_wp dX0_routes_2_23 rfl, e_wp dX0_routes_2_24 rfl, e_wp dX0_routes_2_27 rfl, e_wp dX0_routes_2_30 rfl, e_wp dX0_routes_2_33 rfl, e_wp dX0_routes_2_34 rfl, e_wp dX0_routes_2_37 rfl, e_wp dX0_routes_2_38 rfl, e_wp dX0_routes_2_39 rfl, e_wp dX0_routes_2_40 rfl, e_wp dX0_routes_2_41 rfl, e_wp dX0_routes_2_42 rfl, e_wp dX0_routes_2_43 rfl, e_wp dX0_routes_2_44 rfl, e_wp dX0_routes_2_47 rfl, e_wp dX0_routes_2_50 rfl, e_wp dX0_routes_2_53 rfl, g0_10, g0_156, g0_59, c0_keeps, cs0_routes_2, g0_153, c0_routes_2, a8_13, w8_13, a8_14, w8_14, a8_15, w8_15, a8_16, w8_16, a8_17, w8_17, a8_18, w8_18, a8_19, w8_19, a8_20, w8_20, a8_21, w8_21, a8_22, w8_22, a8_23, w8_23, a8_24, w8_24, a8_25, w8_25, a8_26, w8_26, a8_27, w8_27, a8_28, w8_28, a8_29, w8_29, a8_30, w8_30, a8_31, w8_31, a8_32, w8_32, a8_33, w8_33, a8_34, w8_34, a8_35, w8_35, a8_36, w8_36, a8_37, w8_37, a8_38, w8_38, a8_39, w8_39, a8_40, w8_40, a8_12, w8_12, a8_6, a8_7, e_iconst, e_bipush, e_sipush, e_lconst_0, e_lconst_1, e_iload, e_iload_0, e_iload_1, e_iload_2, e_iload_3, e_lload, e_lload_0, e_lload_1, e_lload_2, e_lload_3, e_aload, e_aload_0, e_aload_1, e_aload_2, e_aload_3, e_istore, e_istore_0, e_istore_1, e_istore_2, e_istore_3, e_astore, e_astore_0, e_astore_1, e_astore_2, e_astore_3, e_lstore, e_lstore_0, e_lstore_1, e_lstore_2, e_lstore_3, e_iinc, e_iadd, e_isub, e_imul, e_ladd, e_lsub, e_lmul, e_idiv, e_irem, e_ldiv, e_lrem, e_ineg, e_lneg, e_iand, e_ior, e_ixor, e_ishl, e_ishr, e_iushr, e_lcmp, e_i2l, e_l2i, e_i2b, e_i2s, e_dup_i, e_dup_r, e_pop_i, e_pop_r, e_dup2_l, e_dup2_ir, e_dup2_ii, e_ifeq, e_ifne, e_iflt, e_ifge, e_ifgt, e_ifle, e_iceq, e_icne, e_iclt, e_icge, e_icgt, e_icle, e_goto, e_switch, e_invokevirtual, e_invokestatic, e_invokespecial, e_ret0, e_ret1, e_ret2, e_ret3, ldI_s, ldL_s, ldR_s, clO_s, ctP_s, ctS_s, mgo_0, mgo_s, pjc_s, pj_0, pj_s, lk_s, rm1_0, rm1_i, rm1_r, rm1_l, rm2_0, rm2_i, rm2_r, rm2_l, csL_s, lc_lt, lc_ge, lc_gt, lc_le, lc_eq, b01_0, b01_1, b01_01, b01_n, up2_o, up2_s, up2_u, ne_eq, reduceCtorEq, Nat.reduceAdd, Nat.reduceEqDiff, Nat.reduceLT, Nat.reduceLeDiff, Int.reduceLE, Int.reduceLT, Int.reduceAdd, Int.reduceNeg, Int.reduceMul, Int.reduceSub, Int.reduceEq, Int.reduceToNat, Int.reduceNatCast, Int.cast_ofNat_Int, ↓reduceIte, and_self, List.drop_succ_cons, List.drop_zero, List.take_succ_cons, List.take_zero, List.length_cons, List.length_nil, List.reverse_cons, List.reverse_nil, List.nil_append, List.cons_append, Option.toList, true_and, and_true, or_false, false_or, or_true, true_or, forall_const, Classical.not_not, not_false_eq_true, not_true_eq_false, false_implies, true_implies, implies_true, imp_self, Int.toNat_natCast]
  simp only [Int.toNat_natCast] at hA h7
  rw [e7]
  refine ⟨fun q => ?_, fun q => ?_⟩
  · refine hQ _ ⟨hK, hC, fun x hx => ?_⟩
    rw [Int.toNat_natCast, eL, show (M 1 4).toNat = a by omega]
    exact hA x hx
  · have eV := rouX_v hK
    have hK2 : rouX (u : Nat) M (up2 M1 17 u a) := rouX_tr hK rouX_by
    have eV2 := rouX_v hK2
    have eN : routL (vX M) (M 1 5 - u - 1).toNat (nX (up2 M1 17 u a)) (u + 1) = routB (vX M) (M 1 5 - u - 1).toNat (nX M) u a := by
      rw [up_byX (by rw [e7]; omega)]
      refine routL_congr fun i j hij => ?_
      show (if i = 2 ∧ j = u then (a : Int) else nX M1 i j) = (if i = 2 ∧ j = u then (a : Int) else nX M i j)
      split
      · rfl
      · exact nX_eq2 eV (rouX_c hK) (t := u) (n := (M 1 5 - u).toNat) (by omega) (fun k hk => hK.2.2 k (by omega)) i j (by omega)
    have e70 : (up2 M1 17 u a) 1 = M 1 := (up2_ne (by decide)).trans e7
    have i1 : (M 1 5 - (u + 1)).toNat = (M 1 5 - u - 1).toNat := by omega
    have i2 : ((u : Int) + 1).toNat = u + 1 := by omega
    have hmub : 0 ≤ up2 M1 17 u a 0 28 ∧ up2 M1 17 u a 0 28 + (routB (vX M) (M 1 5 - u - 1).toNat (nX M) u a).length ≤ 1000000000 := by
      have x1 := hA _ (acX_M M)
      have x2 := many_fold (i := 2) (V := vX M) (L := catN (routB (vX M) (M 1 5 - u - 1).toNat (nX M) u) a) (a := acXM M) h6
      rw [x1.2.1] at x2
      have x0 : (acXM M).1.2.1 = M 0 28 := rfl
      have x3 := catN_le (f := routB (vX M) (M 1 5 - u - 1).toNat (nX M) u) (a := a + 1) (n := (M 1 4).toNat) (by omega)
      have x4 : (catN (routB (vX M) (M 1 5 - u - 1).toNat (nX M) u) (a + 1)).length = (catN (routB (vX M) (M 1 5 - u - 1).toNat (nX M) u) a).length + (routB (vX M) (M 1 5 - u - 1).toNat (nX M) u a).length := List.length_append
      have x5 : up2 M1 17 u a 0 28 = M1 0 28 := up2_o (by decide)
      rw [eL] at h7
      omega
    repeat (refine And.intro (by omega) ?_)
    refine ⟨⟨by rw [eV2]; exact h1, ?_, base_f hK2.1 (by decide) (by decide) hB, ?_, ?_, hmub.1, ?_⟩, fun M4 hR4 => ⟨by omega, ?_⟩⟩
    · rw [eV2]
      refine ⟨hC.1, fun c hc => ?_⟩
      have x := hC.2 c (by rw [eV]; exact hc)
      have x3 : -1 ≤ M1 17 c ∧ M1 17 c < vX M1 0 3 := x.2.1
      have x4 : 0 ≤ M1 18 c ∧ M1 18 c < vX M1 0 4 := x.2.2
      rw [eV] at x3 x4
      refine ⟨x.1, ?_, x4⟩
      show -1 ≤ up2 M1 17 u a 17 c ∧ up2 M1 17 u a 17 c < vX M 0 3
      by_cases e : c = u
      · rw [e, up2_s]
        exact ⟨by omega, q⟩
      · rw [up2_n e]; exact x3
    · rw [e70]; omega
    · rw [e70, hK2.1 18 (by decide)]; exact h5
    · rw [eV2, e70, i1, i2, eN]
      exact hmub.2
    · obtain ⟨y1, y2, y3⟩ := hR4
      rw [eV2, e70, i1, i2, eN] at y3
      refine hI_22 (10 - (a + 1)) _ _ _ (by omega) ⟨rfl, ht, rouX_tr hK2 (rouX_w y1 (by omega)), y2, a + 1, by omega, by omega, fun x hx => ?_, rfl⟩
      show acX M4 ((catN _ a ++ routB (vX M) (M 1 5 - u - 1).toNat (nX M) u a).foldl _ x)
      rw [List.foldl_append]
      refine y3 _ ?_
      obtain ⟨v1, v2, v3, v4⟩ := hA x hx
      refine ⟨?_, ?_, ?_, fun k hk => ?_⟩
      · rw [up2_o (by decide)]; exact v1
      · rw [up2_o (by decide)]; exact v2
      · rw [up2_o (by decide)]; exact v3
      · rw [up2_o (by decide)]; exact v4 k (by rw [e7, ← e70]; exact hk)
theorem z0_routes_2 {rs : List (Nat × Nat)} {t : Int} {M : Mm} (hP : P0_routes_2 0 rs t M) : False := by
  obtain ⟨h1, h2, hB, h3, h4⟩ := hP
  omega
theorem r0_routes_2 {rs : List (Nat × Nat)} {lvl d_ : Nat} (ih : MOK cl8 (sh8 rs) tyl8 Nws8 (8 + d_) yX0_routes_2 cX0_routes_2 3 none (sp0_routes_2 d_ rs)) (h : 8 + d_ < lvl) : CG RX0 cl8 (sh8 rs) tyl8 Nws8 lvl 1 315 2 (sp0_routes_2 d_ rs) := cg_V (sg := [0]) nws8_ok spV_mono spV_un ih h rfl (by decide) rfl rfl ⟨rfl, by decide, by decide, rfl⟩ q1023 q1025 qs38 q128 q1026
set_option maxHeartbeats 4000000 in
set_option maxRecDepth 100000 in
theorem m0_routes_2 {rs : List (Nat × Nat)} : ∀ d_ : Nat, MOK cl8 (sh8 rs) tyl8 Nws8 (8 + d_) yX0_routes_2 cX0_routes_2 3 none (sp0_routes_2 d_ rs) := by
  intro d_
  induction d_ with
  | zero =>
    intro l D ca ad sz avs M Q hM hav hsp
    exfalso
    obtain ⟨xs, hx⟩ := spV_un _ _ _ hsp
    obtain ⟨e, hl⟩ := unA_mkT hx
    obtain ⟨t, rfl⟩ := len1 hl
    have e : avs = [ar 0, ai t] := e
    subst e
    exact z0_routes_2 hsp.1
  | succ d_ ih =>
    refine mok_of (own := RX0) (tb := tb0 (csL (cs0_routes_2 d_ rs))) (rt := 0) (fuel := 400) (fun avs M Q => [(22, [0, 1, 2], fun m_ vs M1 => ∃ y_t_ : Int, ∃ y_c : Int, vs = [ar 0, ai y_t_, ai y_c] ∧ J0_routes_2_22 (d_ + 1) rs (pa true [0] avs 0) M m_ y_t_ y_c M1)]) (by decide) rfl nws8_ok (tbOK0 _) rfl (csL_all ?_) ?_ ?_ ?_
    · intro q hq
      simp only [cs0_routes_2, List.mem_cons, List.not_mem_nil, or_false] at hq
      rcases hq with rfl | rfl
      · exact cg0_keeps (by omega)
      · exact r0_routes_2 ih (by omega)
    · intro avs M Q hsp
      obtain ⟨xs, hx⟩ := spV_un _ _ _ hsp
      obtain ⟨e, hl⟩ := unA_mkT hx
      obtain ⟨t, rfl⟩ := len1 hl
      have e : avs = [ar 0, ai t] := e
      subst e
      simp [szL, isL]
    · intro avs M Q hM hav hsp
      obtain ⟨xs, hx⟩ := spV_un _ _ _ hsp
      obtain ⟨e, hl⟩ := unA_mkT hx
      obtain ⟨t, rfl⟩ := len1 hl
      have e : avs = [ar 0, ai t] := e
      subst e
      exact in0_routes_2 hM (hav (ai t) (by simp)) hsp.1 hsp.2 _ (fun m_ y_t_ y_c M2 hJ => ⟨m_, y_t_, y_c, rfl, hJ⟩)
    · intro avs M Q hM hav hsp q hq m_ vs M1 hM1 hv hJ
      obtain ⟨xs, hx⟩ := spV_un _ _ _ hsp
      obtain ⟨e, hl⟩ := unA_mkT hx
      obtain ⟨t, rfl⟩ := len1 hl
      have e : avs = [ar 0, ai t] := e
      subst e
      simp only [List.mem_cons, List.not_mem_nil, or_false] at hq
      rcases hq with rfl
      · obtain ⟨y_t_, y_c, rfl, hJ⟩ := hJ
        exact at0_routes_2_22 hM (hav (ai t) (by simp)) hsp.1 hsp.2 hM1 (hv (1, ai y_t_) (List.mem_of_getElem? (i := 1) rfl)) (hv (2, ai y_c) (List.mem_of_getElem? (i := 2) rfl)) hJ _ (fun m2 z_t_ z_c M2 hm hJ2 => ⟨m2, hm, z_t_, z_c, rfl, hJ2⟩)
theorem cg0_routes_2 {rs : List (Nat × Nat)} {lvl d_ : Nat} (h : 8 + d_ < lvl) : CG RX0 cl8 (sh8 rs) tyl8 Nws8 lvl 1 315 2 (sp0_routes_2 d_ rs) := r0_routes_2 (m0_routes_2 d_) h
theorem keepX_rou {t : Int} {M M1 : Mm} (h : rouX t M M1) : keepX M M1 := ⟨frm_w h.1 (by decide), fun j hj => by
  simp only [List.mem_cons, List.not_mem_nil, or_false] at hj
  exact h.2.1.2 j (by omega) (by omega) (by omega) (by omega), h.2.1.1⟩
def P0_asksRoutes (rs : List (Nat × Nat)) (M : Mm) : Prop := okX M
def R0_asksRoutes (rs : List (Nat × Nat)) (M : Mm) (v : Int) (M1 : Mm) : Prop := keepX M M1 ∧ v = b01 (0 < M 1 3) ∧ (v = 1 → acX M1 (routA (vX M)))
def sp0_asksRoutes (rs : List (Nat × Nat)) : Spec := spR true [] 1 (fun x M => P0_asksRoutes rs M) (fun x M v M1 => R0_asksRoutes rs M v M1)
theorem c0_asksRoutes {rs : List (Nat × Nat)} {M : Mm} {Q : Option AV → Mm → Prop} : sp0_asksRoutes rs [ar 0] M Q = (P0_asksRoutes rs M ∧ ∀ (v : Int) (M1 : Mm), R0_asksRoutes rs M v M1 → Q (some (ai v)) M1) := rfl
def cs0_asksRoutes (rs : List (Nat × Nat)) : List (Nat × Nat × Nat × Spec) := [(256, 1, 1, (sp0_isValley rs)), (312, 1, 1, (sp0_starts rs)), (315, 1, 2, (sp0_routes_2 8 rs))]
set_option maxHeartbeats 4000000 in
set_option maxRecDepth 100000 in
theorem in0_asksRoutes {rs : List (Nat × Nat)} {M : Mm} {Q : Option AV → Mm → Prop} (hM : okM (sh8 rs) M) (hP : P0_asksRoutes rs M) (hQ : ∀ (v : Int) (M1 : Mm), R0_asksRoutes rs M v M1 → Q (some (ai v)) M1) : wp (tb0 (csL (cs0_asksRoutes rs))) (sh8 rs) 1 2 cX0_asksRoutes [] Q 400 0 [(0, ar 0)] [] M := by
  obtain ⟨hY, hB⟩ := id hP
  have h4 : 0 ≤ M 1 5 ∧ M 1 5 ≤ 7 := (okY_n hY).2.1
  have h3 : 0 ≤ M 1 4 ∧ M 1 4 ≤ 3 := (okY_n hY).1
  simp only [e_wp dX0_asksRoutes_0 rfl, e_wp dX0_asksRoutes_1 rfl, e_wp dX0_asksRoutes_4 rfl, e_wp dX0_asksRoutes_7 rfl, e_wp dX0_asksRoutes_8 rfl, e_wp dX0_asksRoutes_9 rfl, e_wp dX0_asksRoutes_10 rfl, e_wp dX0_asksRoutes_13 rfl, e_wp dX0_asksRoutes_14 rfl, e_wp dX0_asksRoutes_15 rfl, e_wp dX0_asksRoutes_18 rfl, e_wp dX0_asksRoutes_19 rfl, c0_isValley, P0_isValley, V0_isValley, cs0_asksRoutes, c0_starts, c0_routes_2, e_iconst, e_bipush, e_sipush, e_lconst_0, e_lconst_1, e_iload, e_iload_0, e_iload_1, e_iload_2, e_iload_3, e_lload, e_lload_0, e_lload_1, e_lload_2, e_lload_3, e_aload, e_aload_0, e_aload_1, e_aload_2, e_aload_3, e_istore, e_istore_0, e_istore_1, e_istore_2, e_istore_3, e_astore, e_astore_0, e_astore_1, e_astore_2, e_astore_3, e_lstore, e_lstore_0, e_lstore_1, e_lstore_2, e_lstore_3, e_iinc, e_iadd, e_isub, e_imul, e_ladd, e_lsub, e_lmul, e_idiv, e_irem, e_ldiv, e_lrem, e_ineg, e_lneg, e_iand, e_ior, e_ixor, e_ishl, e_ishr, e_iushr, e_lcmp, e_i2l, e_l2i, e_i2b, e_i2s, e_dup_i, e_dup_r, e_pop_i, e_pop_r, e_dup2_l, e_dup2_ir, e_dup2_ii, e_ifeq, e_ifne, e_iflt, e_ifge, e_ifgt, e_ifle, e_iceq, e_icne, e_iclt, e_icge, e_icgt, e_icle, e_goto, e_switch, e_invokevirtual, e_invokestatic, e_invokespecial, e_ret0, e_ret1, e_ret2, e_ret3, ldI_s, ldL_s, ldR_s, clO_s, ctP_s, ctS_s, mgo_0, mgo_s, pjc_s, pj_0, pj_s, lk_s, rm1_0, rm1_i, rm1_r, rm1_l, rm2_0, rm2_i, rm2_r, rm2_l, csL_s, lc_lt, lc_ge, lc_gt, lc_le, lc_eq, b01_0, b01_1, b01_01, b01_n, up2_o, up2_s, up2_u, ne_eq, reduceCtorEq, Nat.reduceAdd, Nat.reduceEqDiff, Nat.reduceLT, Nat.reduceLeDiff, Int.reduceLE, Int.reduceLT, Int.reduceAdd, Int.reduceNeg, Int.reduceMul, Int.reduceSub, Int.reduceEq, Int.reduceToNat, Int.reduceNatCast, Int.cast_ofNat_Int, ↓reduceIte, and_self, List.drop_succ_cons, List.drop_zero, List.take_succ_cons, List.take_zero, List.length_cons, List.length_nil, List.reverse_cons, List.reverse_nil, List.nil_append, List.cons_append, Option.toList, true_and, and_true, or_false, false_or, or_true, true_or, forall_const, Classical.not_not, not_false_eq_true, not_true_eq_false, false_implies, true_implies, implies_true, imp_self]
  refine ⟨fun q => ⟨⟨hY, hB⟩, fun M1 hR => ?_⟩, fun q => hQ _ _ ⟨keepX_rf, (b01_f (by omega)).symm, fun z => absurd z (by decide)⟩⟩
  obtain ⟨hk, r3, r4, r5, r6⟩ := hR
  have eV := keepX_v hk
  have e1 := keepX_1 hk
  have hC : okCf (vX M) (cX M1) := okCf_un (by rw [r3]; exact okCf_tell hY)
  have eN : nX M1 = tellP (vX M) := by
    show nC (vX M1) (cX M1) = _
    rw [eV, r3]
  have hlen := routL_len (V := vX M) h3.2 (n := (M 1 5).toNat) (C := tellP (vX M)) (t := 0)
  have hp : 3 ^ (M 1 5).toNat ≤ 3 ^ 7 := Nat.pow_le_pow_right (by omega) (by omega)
  have hp7 : (3 : Nat) ^ 7 = 2187 := by decide
  have i0 : (M 1 5 - 0).toNat = (M 1 5).toNat := by omega
  have hrow : ∀ k : Nat, (k : Int) < M 1 5 → M1 18 k = k := fun k hk => by
    have x : nC (vX M) (cX M1) 3 k = k := by rw [r3]; exact tell_row hk
    exact (nC_s (C := cX M1) (i := 3) (by decide) hk).symm.trans x
  refine ⟨⟨by rw [eV]; exact hY, by rw [eV]; exact hC, keepX_b hk hB, by rw [e1]; omega, by rw [e1]; exact hrow, by omega, ?_⟩, fun M2 hR2 => hQ _ _ ⟨?_, (b01_t q).symm, fun _ => ?_⟩⟩
  · rw [eV, e1, eN, r5, i0]
    show (0 : Int) + ((routL (vX M) (M 1 5).toNat (tellP (vX M)) 0).length : Nat) ≤ _
    omega
  · exact keepX_tr hk (keepX_rou hR2.1)
  · obtain ⟨s1, s2, s3⟩ := hR2
    rw [eV, e1, eN, i0] at s3
    have s4 := s3 _ (acX_M _)
    have := fold_initX (i := 2) hY (L := routL (vX M) (M 1 5).toNat (tellP (vX M)) 0) (fun D hD => routL_ok (okCf_tell hY) D hD) (routL_n0 hY) (a := acXM M1) (a' := ((100000, 0, 0), fun _ => 0)) (by show 100000 ≤ M1 0 27; omega) (by show (100000 : Int) ≤ 100000; omega) r6
    show acX M2 ((routL (vX M) (M 1 5).toNat (tellP (vX M)) 0).foldl (keepP 2 (vX M)) ((100000, 0, 0), fun _ => 0))
    rw [← this]
    exact s4
set_option maxHeartbeats 4000000 in
set_option maxRecDepth 100000 in
theorem m0_asksRoutes {rs : List (Nat × Nat)} : MOK cl8 (sh8 rs) tyl8 Nws8 17 yX0_asksRoutes cX0_asksRoutes 1 (some .boolean) (sp0_asksRoutes rs) := by
  refine mok_of (own := RX0) (tb := tb0 (csL (cs0_asksRoutes rs))) (rt := 2) (fuel := 400) (fun avs M Q => []) (by decide) rfl nws8_ok (tbOK0 _) rfl (csL_all ?_) ?_ ?_ ?_
  · intro q hq
    simp only [cs0_asksRoutes, List.mem_cons, List.not_mem_nil, or_false] at hq
    rcases hq with rfl | rfl | rfl
    · exact cg0_isValley (by decide)
    · exact cg0_starts (by decide)
    · exact cg0_routes_2 (d_ := 8) (by decide)
  · intro avs M Q hsp
    obtain ⟨xs, hx⟩ := spR_un _ _ _ hsp
    obtain ⟨e, hl⟩ := unA_mkT hx
    obtain rfl := len0 hl
    have e : avs = [ar 0] := e
    subst e
    simp [szL, isL]
  · intro avs M Q hM hav hsp
    obtain ⟨xs, hx⟩ := spR_un _ _ _ hsp
    obtain ⟨e, hl⟩ := unA_mkT hx
    obtain rfl := len0 hl
    have e : avs = [ar 0] := e
    subst e
    exact in0_asksRoutes hM hsp.1 hsp.2
  · intro avs M Q hM hav hsp q hq m_ vs M1 hM1 hv hJ
    obtain ⟨xs, hx⟩ := spR_un _ _ _ hsp
    obtain ⟨e, hl⟩ := unA_mkT hx
    obtain rfl := len0 hl
    have e : avs = [ar 0] := e
    subst e
    cases hq
theorem cg0_asksRoutes {rs : List (Nat × Nat)} {lvl : Nat} (h : 17 < lvl) : CG RX0 cl8 (sh8 rs) tyl8 Nws8 lvl 1 321 1 (sp0_asksRoutes rs) := cg_V (sg := []) nws8_ok spR_mono spR_un m0_asksRoutes h rfl (by decide) rfl rfl ⟨rfl, by decide, by decide, rfl⟩ q1019 q1021 qs37 q128 q1022
def P0_routes (rs : List (Nat × Nat)) (M : Mm) : Prop := okX M
def R0_routes (rs : List (Nat × Nat)) (M : Mm) (v : Int) (M1 : Mm) : Prop := keepX M M1 ∧ v = A_routes (vX M)
def sp0_routes (rs : List (Nat × Nat)) : Spec := spR true [] 1 (fun x M => P0_routes rs M) (fun x M v M1 => R0_routes rs M v M1)
theorem c0_routes {rs : List (Nat × Nat)} {M : Mm} {Q : Option AV → Mm → Prop} : sp0_routes rs [ar 0] M Q = (P0_routes rs M ∧ ∀ (v : Int) (M1 : Mm), R0_routes rs M v M1 → Q (some (ai v)) M1) := rfl
def cs0_routes (rs : List (Nat × Nat)) : List (Nat × Nat × Nat × Spec) := [(321, 1, 1, (sp0_asksRoutes rs))]
set_option maxHeartbeats 4000000 in
set_option maxRecDepth 100000 in
theorem in0_routes {rs : List (Nat × Nat)} {M : Mm} {Q : Option AV → Mm → Prop} (hM : okM (sh8 rs) M) (hP : P0_routes rs M) (hQ : ∀ (v : Int) (M1 : Mm), R0_routes rs M v M1 → Q (some (ai v)) M1) : wp (tb0 (csL (cs0_routes rs))) (sh8 rs) 1 1 cX0_routes [] Q 400 0 [(0, ar 0)] [] M := by
  simp only [e_wp dX0_routes_0 rfl, e_wp dX0_routes_1 rfl, e_wp dX0_routes_4 rfl, e_wp dX0_routes_7 rfl, e_wp dX0_routes_8 rfl, e_wp dX0_routes_11 rfl, e_wp dX0_routes_14 rfl, e_wp dX0_routes_16 rfl, c0_asksRoutes, cs0_routes, g0_285, e_iconst, e_bipush, e_sipush, e_lconst_0, e_lconst_1, e_iload, e_iload_0, e_iload_1, e_iload_2, e_iload_3, e_lload, e_lload_0, e_lload_1, e_lload_2, e_lload_3, e_aload, e_aload_0, e_aload_1, e_aload_2, e_aload_3, e_istore, e_istore_0, e_istore_1, e_istore_2, e_istore_3, e_astore, e_astore_0, e_astore_1, e_astore_2, e_astore_3, e_lstore, e_lstore_0, e_lstore_1, e_lstore_2, e_lstore_3, e_iinc, e_iadd, e_isub, e_imul, e_ladd, e_lsub, e_lmul, e_idiv, e_irem, e_ldiv, e_lrem, e_ineg, e_lneg, e_iand, e_ior, e_ixor, e_ishl, e_ishr, e_iushr, e_lcmp, e_i2l, e_l2i, e_i2b, e_i2s, e_dup_i, e_dup_r, e_pop_i, e_pop_r, e_dup2_l, e_dup2_ir, e_dup2_ii, e_ifeq, e_ifne, e_iflt, e_ifge, e_ifgt, e_ifle, e_iceq, e_icne, e_iclt, e_icge, e_icgt, e_icle, e_goto, e_switch, e_invokevirtual, e_invokestatic, e_invokespecial, e_ret0, e_ret1, e_ret2, e_ret3, ldI_s, ldL_s, ldR_s, clO_s, ctP_s, ctS_s, mgo_0, mgo_s, pjc_s, pj_0, pj_s, lk_s, rm1_0, rm1_i, rm1_r, rm1_l, rm2_0, rm2_i, rm2_r, rm2_l, csL_s, lc_lt, lc_ge, lc_gt, lc_le, lc_eq, b01_0, b01_1, b01_01, b01_n, up2_o, up2_s, up2_u, ne_eq, reduceCtorEq, Nat.reduceAdd, Nat.reduceEqDiff, Nat.reduceLT, Nat.reduceLeDiff, Int.reduceLE, Int.reduceLT, Int.reduceAdd, Int.reduceNeg, Int.reduceMul, Int.reduceSub, Int.reduceEq, Int.reduceToNat, Int.reduceNatCast, Int.cast_ofNat_Int, ↓reduceIte, and_self, List.drop_succ_cons, List.drop_zero, List.take_succ_cons, List.take_zero, List.length_cons, List.length_nil, List.reverse_cons, List.reverse_nil, List.nil_append, List.cons_append, Option.toList, true_and, and_true, or_false, false_or, or_true, true_or, forall_const, Classical.not_not, not_false_eq_true, not_true_eq_false, false_implies, true_implies, implies_true, imp_self]
  refine ⟨hP, fun v M1 hR => ?_⟩
  obtain ⟨k1, k2, k3⟩ := hR
  refine ⟨fun z => hQ _ _ ⟨k1, ?_⟩, fun z => hQ _ _ ⟨k1, ?_⟩⟩
  · rw [k2, b01_0] at z
    exact (if_neg z).symm
  · have z1 := z
    rw [k2, b01_0] at z1
    have q := Classical.not_not.mp z1
    rw [(acX_v (M := M) (k3 (by rw [k2, b01_t q]))).1]
    exact (if_pos q).symm
set_option maxHeartbeats 4000000 in
set_option maxRecDepth 100000 in
theorem m0_routes {rs : List (Nat × Nat)} : MOK cl8 (sh8 rs) tyl8 Nws8 18 yX0_routes cX0_routes 1 (some .int) (sp0_routes rs) := by
  refine mok_of (own := RX0) (tb := tb0 (csL (cs0_routes rs))) (rt := 1) (fuel := 400) (fun avs M Q => []) (by decide) rfl nws8_ok (tbOK0 _) rfl (csL_all ?_) ?_ ?_ ?_
  · intro q hq
    simp only [cs0_routes, List.mem_cons, List.not_mem_nil, or_false] at hq
    rcases hq with rfl
    · exact cg0_asksRoutes (by decide)
  · intro avs M Q hsp
    obtain ⟨xs, hx⟩ := spR_un _ _ _ hsp
    obtain ⟨e, hl⟩ := unA_mkT hx
    obtain rfl := len0 hl
    have e : avs = [ar 0] := e
    subst e
    simp [szL, isL]
  · intro avs M Q hM hav hsp
    obtain ⟨xs, hx⟩ := spR_un _ _ _ hsp
    obtain ⟨e, hl⟩ := unA_mkT hx
    obtain rfl := len0 hl
    have e : avs = [ar 0] := e
    subst e
    exact in0_routes hM hsp.1 hsp.2
  · intro avs M Q hM hav hsp q hq m_ vs M1 hM1 hv hJ
    obtain ⟨xs, hx⟩ := spR_un _ _ _ hsp
    obtain ⟨e, hl⟩ := unA_mkT hx
    obtain rfl := len0 hl
    have e : avs = [ar 0] := e
    subst e
    cases hq
def P0_safe (rs : List (Nat × Nat)) (M : Mm) : Prop := okX M
def R0_safe (rs : List (Nat × Nat)) (M : Mm) (v : Int) (M1 : Mm) : Prop := keepX M M1 ∧ v = A_safe (vX M)
def sp0_safe (rs : List (Nat × Nat)) : Spec := spR true [] 1 (fun x M => P0_safe rs M) (fun x M v M1 => R0_safe rs M v M1)
theorem c0_safe {rs : List (Nat × Nat)} {M : Mm} {Q : Option AV → Mm → Prop} : sp0_safe rs [ar 0] M Q = (P0_safe rs M ∧ ∀ (v : Int) (M1 : Mm), R0_safe rs M v M1 → Q (some (ai v)) M1) := rfl
def cs0_safe (rs : List (Nat × Nat)) : List (Nat × Nat × Nat × Spec) := [(321, 1, 1, (sp0_asksRoutes rs))]
set_option maxHeartbeats 4000000 in
set_option maxRecDepth 100000 in
theorem in0_safe {rs : List (Nat × Nat)} {M : Mm} {Q : Option AV → Mm → Prop} (hM : okM (sh8 rs) M) (hP : P0_safe rs M) (hQ : ∀ (v : Int) (M1 : Mm), R0_safe rs M v M1 → Q (some (ai v)) M1) : wp (tb0 (csL (cs0_safe rs))) (sh8 rs) 1 1 cX0_safe [] Q 400 0 [(0, ar 0)] [] M := by
  simp only [e_wp dX0_safe_0 rfl, e_wp dX0_safe_1 rfl, e_wp dX0_safe_4 rfl, e_wp dX0_safe_7 rfl, e_wp dX0_safe_8 rfl, e_wp dX0_safe_11 rfl, e_wp dX0_safe_14 rfl, e_wp dX0_safe_16 rfl, c0_asksRoutes, cs0_safe, g0_291, e_iconst, e_bipush, e_sipush, e_lconst_0, e_lconst_1, e_iload, e_iload_0, e_iload_1, e_iload_2, e_iload_3, e_lload, e_lload_0, e_lload_1, e_lload_2, e_lload_3, e_aload, e_aload_0, e_aload_1, e_aload_2, e_aload_3, e_istore, e_istore_0, e_istore_1, e_istore_2, e_istore_3, e_astore, e_astore_0, e_astore_1, e_astore_2, e_astore_3, e_lstore, e_lstore_0, e_lstore_1, e_lstore_2, e_lstore_3, e_iinc, e_iadd, e_isub, e_imul, e_ladd, e_lsub, e_lmul, e_idiv, e_irem, e_ldiv, e_lrem, e_ineg, e_lneg, e_iand, e_ior, e_ixor, e_ishl, e_ishr, e_iushr, e_lcmp, e_i2l, e_l2i, e_i2b, e_i2s, e_dup_i, e_dup_r, e_pop_i, e_pop_r, e_dup2_l, e_dup2_ir, e_dup2_ii, e_ifeq, e_ifne, e_iflt, e_ifge, e_ifgt, e_ifle, e_iceq, e_icne, e_iclt, e_icge, e_icgt, e_icle, e_goto, e_switch, e_invokevirtual, e_invokestatic, e_invokespecial, e_ret0, e_ret1, e_ret2, e_ret3, ldI_s, ldL_s, ldR_s, clO_s, ctP_s, ctS_s, mgo_0, mgo_s, pjc_s, pj_0, pj_s, lk_s, rm1_0, rm1_i, rm1_r, rm1_l, rm2_0, rm2_i, rm2_r, rm2_l, csL_s, lc_lt, lc_ge, lc_gt, lc_le, lc_eq, b01_0, b01_1, b01_01, b01_n, up2_o, up2_s, up2_u, ne_eq, reduceCtorEq, Nat.reduceAdd, Nat.reduceEqDiff, Nat.reduceLT, Nat.reduceLeDiff, Int.reduceLE, Int.reduceLT, Int.reduceAdd, Int.reduceNeg, Int.reduceMul, Int.reduceSub, Int.reduceEq, Int.reduceToNat, Int.reduceNatCast, Int.cast_ofNat_Int, ↓reduceIte, and_self, List.drop_succ_cons, List.drop_zero, List.take_succ_cons, List.take_zero, List.length_cons, List.length_nil, List.reverse_cons, List.reverse_nil, List.nil_append, List.cons_append, Option.toList, true_and, and_true, or_false, false_or, or_true, true_or, forall_const, Classical.not_not, not_false_eq_true, not_true_eq_false, false_implies, true_implies, implies_true, imp_self]
  refine ⟨hP, fun v M1 hR => ?_⟩
  obtain ⟨k1, k2, k3⟩ := hR
  refine ⟨fun z => hQ _ _ ⟨k1, ?_⟩, fun z => hQ _ _ ⟨k1, ?_⟩⟩
  · rw [k2, b01_0] at z
    exact (if_neg z).symm
  · have z1 := z
    rw [k2, b01_0] at z1
    have q := Classical.not_not.mp z1
    rw [(acX_v (M := M) (k3 (by rw [k2, b01_t q]))).2.2]
    exact (if_pos q).symm
set_option maxHeartbeats 4000000 in
set_option maxRecDepth 100000 in
theorem m0_safe {rs : List (Nat × Nat)} : MOK cl8 (sh8 rs) tyl8 Nws8 18 yX0_safe cX0_safe 1 (some .int) (sp0_safe rs) := by
  refine mok_of (own := RX0) (tb := tb0 (csL (cs0_safe rs))) (rt := 1) (fuel := 400) (fun avs M Q => []) (by decide) rfl nws8_ok (tbOK0 _) rfl (csL_all ?_) ?_ ?_ ?_
  · intro q hq
    simp only [cs0_safe, List.mem_cons, List.not_mem_nil, or_false] at hq
    rcases hq with rfl
    · exact cg0_asksRoutes (by decide)
  · intro avs M Q hsp
    obtain ⟨xs, hx⟩ := spR_un _ _ _ hsp
    obtain ⟨e, hl⟩ := unA_mkT hx
    obtain rfl := len0 hl
    have e : avs = [ar 0] := e
    subst e
    simp [szL, isL]
  · intro avs M Q hM hav hsp
    obtain ⟨xs, hx⟩ := spR_un _ _ _ hsp
    obtain ⟨e, hl⟩ := unA_mkT hx
    obtain rfl := len0 hl
    have e : avs = [ar 0] := e
    subst e
    exact in0_safe hM hsp.1 hsp.2
  · intro avs M Q hM hav hsp q hq m_ vs M1 hM1 hv hJ
    obtain ⟨xs, hx⟩ := spR_un _ _ _ hsp
    obtain ⟨e, hl⟩ := unA_mkT hx
    obtain rfl := len0 hl
    have e : avs = [ar 0] := e
    subst e
    cases hq
def P0_route (rs : List (Nat × Nat)) (i : Int) (M : Mm) : Prop := okX M ∧ okN M
def R0_route (rs : List (Nat × Nat)) (i : Int) (M : Mm) (v : Int) (M1 : Mm) : Prop := keepX M M1 ∧ v = A_route (vX M) i
def sp0_route (rs : List (Nat × Nat)) : Spec := spR true [0] 1 (fun x M => P0_route rs (x 0) M) (fun x M v M1 => R0_route rs (x 0) M v M1)
theorem c0_route {rs : List (Nat × Nat)} {i : Int} {M : Mm} {Q : Option AV → Mm → Prop} : sp0_route rs [ar 0, ai i] M Q = (P0_route rs i M ∧ ∀ (v : Int) (M1 : Mm), R0_route rs i M v M1 → Q (some (ai v)) M1) := rfl
def cs0_route (rs : List (Nat × Nat)) : List (Nat × Nat × Nat × Spec) := [(159, 1, 2, (sp0_isCart rs)), (321, 1, 1, (sp0_asksRoutes rs))]
set_option maxHeartbeats 4000000 in
set_option maxRecDepth 100000 in
theorem in0_route {rs : List (Nat × Nat)} {i : Int} {M : Mm} {Q : Option AV → Mm → Prop} (hM : okM (sh8 rs) M) (h_i : i32 i) (hP : P0_route rs i M) (hQ : ∀ (v : Int) (M1 : Mm), R0_route rs i M v M1 → Q (some (ai v)) M1) : wp (tb0 (csL (cs0_route rs))) (sh8 rs) 2 1 cX0_route [] Q 400 0 [(0, ar 0), (1, ai i)] [] M := by
  obtain ⟨⟨hY, hB⟩, hN⟩ := id hP
  have h4 : 0 ≤ M 1 5 ∧ M 1 5 ≤ 7 := (okY_n hY).2.1
  simp only [e_wp dX0_route_0 rfl, e_wp dX0_route_1 rfl, e_wp dX0_route_2 rfl, e_wp dX0_route_3 rfl, e_wp dX0_route_6 rfl, e_wp dX0_route_9 rfl, e_wp dX0_route_10 rfl, e_wp dX0_route_13 rfl, e_wp dX0_route_16 rfl, e_wp dX0_route_17 rfl, e_wp dX0_route_20 rfl, e_wp dX0_route_21 rfl, e_wp dX0_route_22 rfl, e_wp dX0_route_25 rfl, e_wp dX0_route_27 rfl, c0_isCart, P0_isCart, V0_isCart, cs0_route, c0_asksRoutes, g0_95, a8_13, w8_13, a8_14, w8_14, a8_15, w8_15, a8_16, w8_16, a8_17, w8_17, a8_18, w8_18, a8_19, w8_19, a8_20, w8_20, a8_21, w8_21, a8_22, w8_22, a8_23, w8_23, a8_24, w8_24, a8_25, w8_25, a8_26, w8_26, a8_27, w8_27, a8_28, w8_28, a8_29, w8_29, a8_30, w8_30, a8_31, w8_31, a8_32, w8_32, a8_33, w8_33, a8_34, w8_34, a8_35, w8_35, a8_36, w8_36, a8_37, w8_37, a8_38, w8_38, a8_39, w8_39, a8_40, w8_40, a8_12, w8_12, a8_6, a8_7, e_iconst, e_bipush, e_sipush, e_lconst_0, e_lconst_1, e_iload, e_iload_0, e_iload_1, e_iload_2, e_iload_3, e_lload, e_lload_0, e_lload_1, e_lload_2, e_lload_3, e_aload, e_aload_0, e_aload_1, e_aload_2, e_aload_3, e_istore, e_istore_0, e_istore_1, e_istore_2, e_istore_3, e_astore, e_astore_0, e_astore_1, e_astore_2, e_astore_3, e_lstore, e_lstore_0, e_lstore_1, e_lstore_2, e_lstore_3, e_iinc, e_iadd, e_isub, e_imul, e_ladd, e_lsub, e_lmul, e_idiv, e_irem, e_ldiv, e_lrem, e_ineg, e_lneg, e_iand, e_ior, e_ixor, e_ishl, e_ishr, e_iushr, e_lcmp, e_i2l, e_l2i, e_i2b, e_i2s, e_dup_i, e_dup_r, e_pop_i, e_pop_r, e_dup2_l, e_dup2_ir, e_dup2_ii, e_ifeq, e_ifne, e_iflt, e_ifge, e_ifgt, e_ifle, e_iceq, e_icne, e_iclt, e_icge, e_icgt, e_icle, e_goto, e_switch, e_invokevirtual, e_invokestatic, e_invokespecial, e_ret0, e_ret1, e_ret2, e_ret3, ldI_s, ldL_s, ldR_s, clO_s, ctP_s, ctS_s, mgo_0, mgo_s, pjc_s, pj_0, pj_s, lk_s, rm1_0, rm1_i, rm1_r, rm1_l, rm2_0, rm2_i, rm2_r, rm2_l, csL_s, lc_lt, lc_ge, lc_gt, lc_le, lc_eq, b01_0, b01_1, b01_01, b01_n, up2_o, up2_s, up2_u, ne_eq, reduceCtorEq, Nat.reduceAdd, Nat.reduceEqDiff, Nat.reduceLT, Nat.reduceLeDiff, Int.reduceLE, Int.reduceLT, Int.reduceAdd, Int.reduceNeg, Int.reduceMul, Int.reduceSub, Int.reduceEq, Int.reduceToNat, Int.reduceNatCast, Int.cast_ofNat_Int, ↓reduceIte, and_self, List.drop_succ_cons, List.drop_zero, List.take_succ_cons, List.take_zero, List.length_cons, List.length_nil, List.reverse_cons, List.reverse_nil, List.nil_append, List.cons_append, Option.toList, true_and, and_true, or_false, false_or, or_true, true_or, forall_const, Classical.not_not, not_false_eq_true, not_true_eq_false, false_implies, true_implies, implies_true, imp_self]
  refine ⟨h4, fun q => hQ _ _ ⟨keepX_rf, (if_neg q).symm⟩, fun q => ⟨⟨hY, hB⟩, fun v M1 hR => ?_⟩⟩
  obtain ⟨k1, k2, k3⟩ := hR
  refine ⟨fun z => ?_, fun z => ?_⟩
  · rw [k2, b01_0] at z
    exact absurd (hN (by omega)) z
  · have k4 := k3 (by rw [k2, b01_t (hN (by omega))])
    refine ⟨by omega, hQ _ _ ⟨k1, ?_⟩⟩
    exact (k4.2.2.2 i.toNat (by rw [keepX_1 k1]; omega)).symm.trans (if_pos q).symm
set_option maxHeartbeats 4000000 in
set_option maxRecDepth 100000 in
theorem m0_route {rs : List (Nat × Nat)} : MOK cl8 (sh8 rs) tyl8 Nws8 18 yX0_route cX0_route 2 (some .int) (sp0_route rs) := by
  refine mok_of (own := RX0) (tb := tb0 (csL (cs0_route rs))) (rt := 1) (fuel := 400) (fun avs M Q => []) (by decide) rfl nws8_ok (tbOK0 _) rfl (csL_all ?_) ?_ ?_ ?_
  · intro q hq
    simp only [cs0_route, List.mem_cons, List.not_mem_nil, or_false] at hq
    rcases hq with rfl | rfl
    · exact cg0_isCart (by decide)
    · exact cg0_asksRoutes (by decide)
  · intro avs M Q hsp
    obtain ⟨xs, hx⟩ := spR_un _ _ _ hsp
    obtain ⟨e, hl⟩ := unA_mkT hx
    obtain ⟨i, rfl⟩ := len1 hl
    have e : avs = [ar 0, ai i] := e
    subst e
    simp [szL, isL]
  · intro avs M Q hM hav hsp
    obtain ⟨xs, hx⟩ := spR_un _ _ _ hsp
    obtain ⟨e, hl⟩ := unA_mkT hx
    obtain ⟨i, rfl⟩ := len1 hl
    have e : avs = [ar 0, ai i] := e
    subst e
    exact in0_route hM (hav (ai i) (by simp)) hsp.1 hsp.2
  · intro avs M Q hM hav hsp q hq m_ vs M1 hM1 hv hJ
    obtain ⟨xs, hx⟩ := spR_un _ _ _ hsp
    obtain ⟨e, hl⟩ := unA_mkT hx
    obtain ⟨i, rfl⟩ := len1 hl
    have e : avs = [ar 0, ai i] := e
    subst e
    cases hq
