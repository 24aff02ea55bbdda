/-! SagMemoryModel: routes -/
/-- all routes from cart c on -/
def routL (V : Vy) : Nat → Cf → Nat → List Cf
  | 0, C, _ => [C]
  | n + 1, C, c => catN (fun b => routL V n (up2 C 2 c b) (c + 1)) (V 0 3).toNat
abbrev routB (V : Vy) (n : Nat) (C : Cf) (c : Nat) : Nat → List Cf := fun b => routL V n (up2 C 2 c b) (c + 1)
theorem routL_s {V : Vy} {n : Nat} {C : Cf} {c : Nat} : routL V (n + 1) C c = catN (routB V n C c) (V 0 3).toNat := rfl
theorem routL_congr {V : Vy} : ∀ {n : Nat} {C C' : Cf} {t : Nat}, (∀ i j, ¬ (i = 2 ∧ t ≤ j ∧ j < t + n) → C i j = C' i j) → routL V n C t = routL V n C' t := by
  intro n
  induction n with
  | zero =>
    intro C C' t h
    have : C = C' := funext fun i => funext fun j => h i j (by omega)
    rw [this]
  | succ n ih =>
    intro C C' t h
    rw [routL_s, routL_s]
    refine catN_congr fun c _ => ?_
    refine ih fun i j hij => ?_
    show (if i = 2 ∧ j = t then (c : Int) else C i j) = (if i = 2 ∧ j = t then (c : Int) else C' i j)
    split
    · rfl
    · exact h i j (by omega)
theorem okCf_by {V : Vy} {C : Cf} {t : Nat} {c : Nat} (h : okCf V C) (hc : (c : Int) < V 0 3) : okCf V (up2 C 2 t c) := by
  refine ⟨by rw [up2_o (by decide)]; exact h.1, fun k hk => ?_⟩
  rw [up2_o (show (1 : Nat) ≠ 2 by decide), up2_o (show (3 : Nat) ≠ 2 by decide)]
  obtain ⟨h1, h2, h3⟩ := h.2 k hk
  refine ⟨h1, ?_, h3⟩
  by_cases e : k = t
  · rw [e, up2_s]; omega
  · rw [up2_n e]; exact h2
theorem routL_ok {V : Vy} : ∀ {n : Nat} {C : Cf} {t : Nat}, okCf V C → ∀ D, D ∈ routL V n C t → okCf V D := by
  intro n
  induction n with
  | zero =>
    intro C t h D hD
    obtain rfl := List.mem_singleton.mp hD
    exact h
  | succ n ih =>
    intro C t h D hD
    rw [routL_s] at hD
    obtain ⟨k, hk, hD⟩ := catN_mem.mp hD
    exact ih (okCf_by h (by omega)) D hD
theorem routL_ne {V : Vy} (h3 : 1 ≤ V 0 3) : ∀ {n : Nat} {C : Cf} {t : Nat}, ∃ D, D ∈ routL V n C t := by
  intro n
  induction n with
  | zero => intro C t; exact ⟨C, List.mem_cons_self⟩
  | succ n ih =>
    intro C t
    obtain ⟨D, hD⟩ := ih (C := up2 C 2 t ((0 : Nat) : Int)) (t := t + 1)
    exact ⟨D, by rw [routL_s]; exact catN_mem.mpr ⟨0, by omega, hD⟩⟩
abbrev rouRows : List Nat := [0, 15, 30, 17, 18, 19, 20, 21, 22, 23, 24, 25, 26, 27, 28, 29]
def rouK (t : Int) (M M1 : Mm) : Prop := frm rouRows M M1 ∧ (∀ j, ¬ j = 43 → ¬ j = 45 → M1 0 j = M 0 j) ∧ ∀ k : Nat, (k : Int) < t → M1 15 k = M 15 k
def acR (M : Mm) (a : Ac) : Prop := a.1.1 = M 0 43 ∧ a.1.2.2 = M 0 45 ∧ ∀ k : Nat, (k : Int) < M 7 4 → a.2 k = M 30 k
theorem acR_M (M : Mm) : acR M (acM M) := ⟨rfl, rfl, fun _ _ => rfl⟩
theorem cM_ne2 {M M1 : Mm} (h0 : ∀ j, j = 24 ∨ j = 25 ∨ j = 26 → M1 0 j = M 0 j) (h1 : M1 14 = M 14) (h2 : M1 16 = M 16) : ∀ i j, ¬ i = 2 → cM M1 i j = cM M i j := by
  intro i j h
  match i with
  | 0 =>
    show (if j = 0 then M1 0 24 else if j = 1 then M1 0 25 else M1 0 26) = (if j = 0 then M 0 24 else if j = 1 then M 0 25 else M 0 26)
    rw [h0 24 (by omega), h0 25 (by omega), h0 26 (by omega)]
  | 1 => exact congrFun h1 j
  | 3 => exact congrFun h2 j
  | 2 => exact absurd rfl h
  | i + 4 => rfl
theorem rouK_rf {t : Int} {M : Mm} : rouK t M M := ⟨frm_rf, fun _ _ _ => rfl, fun _ _ => rfl⟩
theorem rouK_tr {t : Int} {M M1 M2 : Mm} (h : rouK t M M1) (h2 : rouK t M1 M2) : rouK t M M2 := ⟨frm_tr h.1 h2.1 (fun _ q => q), fun j a b => (h2.2.1 j a b).trans (h.2.1 j a b), fun k hk => (h2.2.2 k hk).trans (h.2.2 k hk)⟩
theorem rouK_w {t t' : Int} {M M1 : Mm} (h : rouK t M M1) (ht : t' ≤ t) : rouK t' M M1 := ⟨h.1, h.2.1, fun k hk => h.2.2 k (by omega)⟩
theorem rouK_by {t : Nat} {M : Mm} {x : Int} : rouK t M (up2 M 15 t x) := ⟨frm_up frm_rf (by decide), fun j _ _ => up2_o (by decide), fun k hk => up2_n (by omega)⟩
theorem rouK_v {t : Int} {M M1 : Mm} (h : rouK t M M1) : vM M1 = vM M := vS_frm h.1 (by decide)
theorem rouK_c {t : Int} {M M1 : Mm} (h : rouK t M M1) : ∀ i j, ¬ i = 2 → cM M1 i j = cM M i j := cM_ne2 (fun j hj => h.2.1 j (by omega) (by omega)) (h.1 _ (by decide)) (h.1 _ (by decide))
theorem nM_eq2 {M M1 : Mm} (hV : vM M1 = vM M) (hC : ∀ i j, ¬ i = 2 → cM M1 i j = cM M i j) {t n : Nat} (hn : (t : Int) + n = M 7 4) (hr : ∀ k : Nat, k < t → M1 15 k = M 15 k) : ∀ i j, ¬ (i = 2 ∧ t ≤ j ∧ j < t + n) → nM M1 i j = nM M i j := by
  intro i j h
  show (if i = 0 then cM M1 0 j else if (j : Int) < vM M1 0 4 then cM M1 i j else 0) = (if i = 0 then cM M 0 j else if (j : Int) < vM M 0 4 then cM M i j else 0)
  rw [hV, hC 0 j (by decide)]
  have e4 : vM M 0 4 = M 7 4 := rfl
  split
  · rfl
  · split
    · by_cases e : i = 2
      · rw [e]
        exact hr j (by omega)
      · exact hC i j e
    · rfl
theorem up_by {M : Mm} {t : Nat} {x : Int} (ht : (t : Int) < M 7 4) : nM (up2 M 15 t x) = up2 (nM M) 2 t x := by
  have hV : vM (up2 M 15 t x) = vM M := rouK_v (t := t) rouK_by
  have hC := rouK_c (rouK_by (t := t) (M := M) (x := x))
  have e4 : vM M 0 4 = M 7 4 := rfl
  funext i j
  show (if i = 0 then cM (up2 M 15 t x) 0 j else if (j : Int) < vM (up2 M 15 t x) 0 4 then cM (up2 M 15 t x) i j else 0) = (if i = 2 ∧ j = t then x else if i = 0 then cM M 0 j else if (j : Int) < vM M 0 4 then cM M i j else 0)
  rw [hV, hC 0 j (by decide)]
  by_cases e : i = 2
  · subst e
    have d3 : ¬ (2 : Nat) = 0 := by decide
    by_cases z : j = t
    · subst z
      have y : (j : Int) < vM M 0 4 := by omega
      simp only [if_neg d3, if_pos y, if_pos (show (2 : Nat) = 2 ∧ j = j from ⟨rfl, rfl⟩)]
      exact up2_s
    · by_cases y : (j : Int) < vM M 0 4
      · simp only [if_neg d3, if_pos y]
        exact (up2_n z).trans (if_neg (fun q : True ∧ j = t => z q.2)).symm
      · simp only [if_neg d3, if_neg y]
        exact (if_neg (fun q : True ∧ j = t => z q.2)).symm
  · have e' : ¬ (i = 2 ∧ j = t) := fun q => e q.1
    simp only [if_neg e', hC i j e]
def P7_routesFrom (d_ : Nat) (t : Int) (M : Mm) : Prop := okY (vM M) ∧ okCf (vM M) (cM M) ∧ (0 ≤ t ∧ t ≤ M 7 4 ∧ M 7 4 + 1 ≤ t + d_) ∧ (∀ k : Nat, (k : Int) < M 7 4 → M 16 k = k)
def R7_routesFrom (d_ : Nat) (t : Int) (M : Mm) (M1 : Mm) : Prop := rouK t M M1 ∧ okCf (vM M1) (cM M1) ∧ ∀ a, acR M a → acR M1 ((routL (vM M) (M 7 4 - t).toNat (nM M) t.toNat).foldl (keepP 2 (vM M)) a)
def sp7_routesFrom (d_ : Nat) : Spec := spV true [0] (fun x M => P7_routesFrom d_ (x 0) M) (fun x M M1 => R7_routesFrom d_ (x 0) M M1)
theorem c7_routesFrom {d_ : Nat} {t : Int} {M : Mm} {Q : Option AV → Mm → Prop} : sp7_routesFrom d_ [ar 0, ai t] M Q = (P7_routesFrom d_ t M ∧ ∀ (M1 : Mm), R7_routesFrom d_ t M M1 → Q none M1) := rfl
def cs7_routesFrom (d_ : Nat) : List (Nat × Nat × Nat × Spec) := [(286, 1, 1, sp7_carts), (333, 1, 1, sp7_runs), (339, 1, 1, sp7_sagAll), (368, 1, 1, sp7_overAll), (283, 1, 1, sp7_bridges), (380, 1, 2, sp7_routesFrom d_)]
def J7_routesFrom_33 (d_ : Nat) (t : Int) (M : Mm) (m : Nat) (t_ : Int) (k : Int) (M1 : Mm) : Prop := t = t_ ∧ t = M 7 4 ∧ sagF (vM M) (nM M) < M 0 43 ∧ ∃ M0 : Mm, R7_runs M M0 ∧ frm [0, 30] M0 M1 ∧ (∀ j, ¬ j = 43 → M1 0 j = M 0 j) ∧ M1 0 43 = sagF (vM M) (nM M) ∧ ∃ a : Nat, k = a ∧ (a : Int) ≤ t ∧ (∀ j : Nat, j < a → M1 30 j = M 15 j) ∧ m = 8 - a
def J7_routesFrom_56 (d_ : Nat) (t : Int) (M : Mm) (m : Nat) (M1 : Mm) : Prop := t = M 7 4 ∧ ∃ M0 : Mm, R7_runs M M0 ∧ frm [0, 30] M0 M1 ∧ (∀ j, ¬ j = 43 → M1 0 j = M 0 j) ∧ M1 0 43 = (if sagF (vM M) (nM M) < M 0 43 then sagF (vM M) (nM M) else M 0 43) ∧ (∀ j : Nat, (j : Int) < t → M1 30 j = (if sagF (vM M) (nM M) < M 0 43 then M 15 j else M 30 j)) ∧ m = 0
def J7_routesFrom_85 (d_ : Nat) (t : Int) (M : Mm) (m : Nat) (t_ : Int) (b : Int) (M1 : Mm) : Prop := t = t_ ∧ t < M 7 4 ∧ rouK t M M1 ∧ okCf (vM M1) (cM M1) ∧ ∃ a : Nat, b = a ∧ (a : Int) ≤ M 7 3 ∧ (∀ x, acR M x → acR M1 ((catN (routB (vM M) (M 7 4 - t - 1).toNat (nM M) t.toNat) a).foldl (keepP 2 (vM M)) x)) ∧ m = 10 - a
set_option maxHeartbeats 4000000 in
set_option maxRecDepth 100000 in
theorem in7_routesFrom {d_ : Nat} {t : Int} {M : Mm} {Q : Option AV → Mm → Prop} (hM : okM sh7 M) (h_t : i32 t) (hP : P7_routesFrom (d_ + 1) t M) (hQ : ∀ (M1 : Mm), R7_routesFrom (d_ + 1) t M M1 → Q none M1) (I_33 : List AV → Mm → Prop) (hI_33 : ∀ (m_ : Nat) (y_t_ : Int) (y_k : Int) (M2 : Mm), J7_routesFrom_33 (d_ + 1) t M m_ y_t_ y_k M2 → I_33 [ar 0, ai y_t_, ai y_k] M2) (I_56 : List AV → Mm → Prop) (hI_56 : ∀ (m_ : Nat) (M2 : Mm), J7_routesFrom_56 (d_ + 1) t M m_ M2 → I_56 [ar 0] M2) (I_85 : List AV → Mm → Prop) (hI_85 : ∀ (m_ : Nat) (y_t_ : Int) (y_b : Int) (M2 : Mm), J7_routesFrom_85 (d_ + 1) t M m_ y_t_ y_b M2 → I_85 [ar 0, ai y_t_, ai y_b] M2) : wp (tb7 (csL (cs7_routesFrom d_))) sh7 3 0 cX7_routesFrom [(33, [0, 1, 2], I_33), (56, [0], I_56), (85, [0, 1, 2], I_85)] Q 400 0 [(0, ar 0), (1, ai t)] [] M := by
  obtain ⟨h1, h2, h3, h5⟩ := id hP
  have b4 := (okY_n h1).2.1
  have b3 := (okY_n h1).1
  have b4' : 0 ≤ M 7 4 ∧ M 7 4 ≤ 7 := b4
  have b3' : 0 ≤ M 7 3 ∧ M 7 3 ≤ 3 := b3
  simp only [e_wp dX7_routesFrom_0 rfl, e_wp dX7_routesFrom_1 rfl, e_wp dX7_routesFrom_2 rfl, e_wp dX7_routesFrom_5 rfl, e_wp dX7_routesFrom_8 rfl, e_wp dX7_routesFrom_9 rfl, e_wp dX7_routesFrom_12 rfl, e_wp dX7_routesFrom_13 rfl, e_wp dX7_routesFrom_16 rfl, e_wp dX7_routesFrom_17 rfl, e_wp dX7_routesFrom_20 rfl, e_wp dX7_routesFrom_23 rfl, e_wp dX7_routesFrom_24 rfl, e_wp dX7_routesFrom_25 rfl, e_wp dX7_routesFrom_28 rfl, e_wp dX7_routesFrom_31 rfl, e_wp dX7_routesFrom_32 rfl, e_wp dX7_routesFrom_33 rfl, e_wp dX7_routesFrom_34 rfl, e_wp dX7_routesFrom_35 rfl, e_wp dX7_routesFrom_38 rfl, e_wp dX7_routesFrom_39 rfl, e_wp dX7_routesFrom_42 rfl, e_wp dX7_routesFrom_43 rfl, e_wp dX7_routesFrom_44 rfl, e_wp dX7_routesFrom_47 rfl, e_wp dX7_routesFrom_48 rfl, e_wp dX7_routesFrom_49 rfl, e_wp dX7_routesFrom_50 rfl, e_wp dX7_routesFrom_53 rfl, e_wp dX7_routesFrom_56 rfl, e_wp dX7_routesFrom_57 rfl, e_wp dX7_routesFrom_58 rfl, e_wp dX7_routesFrom_61 rfl, e_wp dX7_routesFrom_62 rfl, e_wp dX7_routesFrom_65 rfl, e_wp dX7_routesFrom_68 rfl, e_wp dX7_routesFrom_69 rfl, e_wp dX7_routesFrom_72 rfl, e_wp dX7_routesFrom_75 rfl, e_wp dX7_routesFrom_76 rfl, e_wp dX7_routesFrom_79 rfl, e_wp dX7_routesFrom_82 rfl, e_wp dX7_routesFrom_83 rfl, e_wp dX7_routesFrom_84 rfl, e_wp dX7_routesFrom_85 rfl, e_wp dX7_routesFrom_86 rfl, e_wp dX7_routesFrom_87 rfl, e_wp dX7_routesFrom_90 rfl, e_wp dX7_routesFrom_93 rfl, e_wp dX7_routesFrom_94 rfl, e_wp dX7_routesFrom_97 rfl, e_wp dX7_routesFrom_98 rfl, e_wp dX7_routesFrom_99 rfl, e_wp dX7_routesFrom_100 rfl, e_wp dX7_routesFrom_101 rfl, e_wp dX7_routesFrom_102 rfl, e_wp dX7_routesFrom_103 rfl, e_wp dX7_routesFrom_104 rfl, e_wp dX7_routesFrom_107 rfl, e_wp dX7_routesFrom_110 rfl, e_wp dX7_routesFrom_113 rfl, c7_carts, P7_carts, V7_carts, cs7_routesFrom, c7_runs, c7_sagAll, P7_sagAll, V7_sagAll, g7_362, p7_362, g7_104, g7_59, c7_overAll, P7_overAll, V7_overAll, g7_371, p7_371, c7_bridges, P7_bridges, V7_bridges, c7_routesFrom, a7_1, w7_1, a7_2, w7_2, a7_3, w7_3, a7_4, w7_4, a7_5, w7_5, a7_6, w7_6, a7_7, w7_7, a7_8, w7_8, a7_9, w7_9, a7_10, w7_10, a7_11, w7_11, a7_12, w7_12, a7_13, w7_13, a7_14, w7_14, a7_15, w7_15, a7_16, w7_16, a7_17, w7_17, a7_18, w7_18, a7_19, w7_19, a7_20, w7_20, a7_21, w7_21, a7_22, w7_22, a7_23, w7_23, a7_24, w7_24, a7_25, w7_25, a7_26, w7_26, a7_27, w7_27, a7_28, w7_28, a7_29, w7_29, a7_30, w7_30, a7_31, w7_31, a7_32, w7_32, a7_33, w7_33, e_iconst, e_bipush, e_sipush, e_lconst_0, e_lconst_1, e_iload, e_iload_0, e_iload_1, e_iload_2, e_iload_3, e_lload, e_lload_0, e_lload_1, e_lload_2, e_lload_3, e_aload, e_aload_0, e_aload_1, e_aload_2, e_aload_3, e_istore, e_istore_0, e_istore_1, e_istore_2, e_istore_3, e_astore, e_astore_0, e_astore_1, e_astore_2, e_astore_3, e_lstore, e_lstore_0, e_lstore_1, e_lstore_2, e_lstore_3, e_iinc, e_iadd, e_isub, e_imul, e_ladd, e_lsub, e_lmul, e_idiv, e_irem, e_ldiv, e_lrem, e_ineg, e_lneg, e_iand, e_ior, e_ixor, e_ishl, e_ishr, e_iushr, e_lcmp, e_i2l, e_l2i, e_i2b, e_i2s, e_dup_i, e_dup_r, e_pop_i, e_pop_r, e_dup2_l, e_dup2_ir, e_dup2_ii, e_ifeq, e_ifne, e_iflt, e_ifge, e_ifgt, e_ifle, e_iceq, e_icne, e_iclt, e_icge, e_icgt, e_icle, e_goto, e_switch, e_invokevirtual, e_invokestatic, e_invokespecial, e_ret0, e_ret1, e_ret2, e_ret3, ldI_s, ldL_s, ldR_s, clO_s, ctP_s, ctS_s, mgo_0, mgo_s, pjc_s, pj_0, pj_s, lk_s, rm1_0, rm1_i, rm1_r, rm1_l, rm2_0, rm2_i, rm2_r, rm2_l, csL_s, lc_lt, lc_ge, lc_gt, lc_le, lc_eq, b01_0, b01_1, b01_01, b01_n, up2_o, up2_s, up2_u, ne_eq, reduceCtorEq, Nat.reduceAdd, Nat.reduceEqDiff, Nat.reduceLT, Nat.reduceLeDiff, Int.reduceLE, Int.reduceLT, Int.reduceAdd, Int.reduceNeg, Int.reduceMul, Int.reduceSub, Int.reduceEq, Int.reduceToNat, Int.reduceNatCast, Int.cast_ofNat_Int, ↓reduceIte, and_self, List.drop_succ_cons, List.drop_zero, List.take_succ_cons, List.take_zero, List.length_cons, List.length_nil, List.reverse_cons, List.reverse_nil, List.nil_append, List.cons_append, Option.toList, true_and, and_true, or_false, false_or, or_true, true_or, forall_const, Classical.not_not, not_false_eq_true, not_true_eq_false, false_implies, true_implies, implies_true, imp_self]
  refine ⟨fun q => ?_, fun q => ⟨⟨h1, h2⟩, fun M1 hR => ?_⟩⟩
  · exact hI_85 10 _ _ _ ⟨rfl, by omega, rouK_rf, h2, 0, rfl, by omega, fun x hx => hx, rfl⟩
  · have hR' := hR
    obtain ⟨r1, r2⟩ := hR
    have e7 : M1 7 = M 7 := r1 _ (by decide)
    have e0 : M1 0 = M 0 := r1 _ (by decide)
    have es : sumN (fun b => sagP (mb M1 b)) (M1 7 3).toNat = sagF (vM M) (nM M) := by
      rw [e7]; exact sag_out r2
    rw [es, e0, e7]
    have hb : 0 ≤ sagF (vM M) (nM M) ∧ sagF (vM M) (nM M) ≤ 2376 := sagF_b h1 (okCf_n h2)
    have hbk : (0 ≤ M 7 3 ∧ M 7 3 ≤ 3) ∧ ∀ (b : Nat), (b : Int) < M 7 3 → okB M1 b := ⟨b3', fun b hb => (r2.1 b hb).1⟩
    refine ⟨hbk, fun z => ?_, fun z => ⟨hbk, ?_⟩⟩
    · refine hI_56 0 _ ⟨q, M1, hR', frm_rf, fun j _ => by rw [e0], ?_, fun j hj => ?_, rfl⟩
      · rw [if_neg (by omega), e0]
      · rw [if_neg (by omega), r1 _ (by decide)]
    · refine hI_33 8 _ _ _ ⟨rfl, q, z, M1, hR', frm_up frm_rf (by decide), fun j y1 => ?_, up2_s, 0, rfl, h3.1, fun j hj => by omega, rfl⟩
      rw [up2_n (by omega), e0]
set_option maxHeartbeats 4000000 in
set_option maxRecDepth 100000 in
theorem at7_routesFrom_33 {d_ : Nat} {t : Int} {M : Mm} {Q : Option AV → Mm → Prop} (hM : okM sh7 M) (h_t : i32 t) (hP : P7_routesFrom (d_ + 1) t M) (hQ : ∀ (M1 : Mm), R7_routesFrom (d_ + 1) t M M1 → Q none M1) {m : Nat} {t_ k : Int} {M1 : Mm} (hM1 : okM sh7 M1) (h_t_ : i32 t_) (h_k : i32 k) (hJ : J7_routesFrom_33 (d_ + 1) t M m t_ k M1) (I_33 : List AV → Mm → Prop) (hI_33 : ∀ (m_ : Nat) (y_t_ : Int) (y_k : Int) (M2 : Mm), m_ < m → J7_routesFrom_33 (d_ + 1) t M m_ y_t_ y_k M2 → I_33 [ar 0, ai y_t_, ai y_k] M2) (I_56 : List AV → Mm → Prop) (hI_56 : ∀ (m_ : Nat) (M2 : Mm), m_ < m → J7_routesFrom_56 (d_ + 1) t M m_ M2 → I_56 [ar 0] M2) (I_85 : List AV → Mm → Prop) (hI_85 : ∀ (m_ : Nat) (y_t_ : Int) (y_b : Int) (M2 : Mm), m_ < m → J7_routesFrom_85 (d_ + 1) t M m_ y_t_ y_b M2 → I_85 [ar 0, ai y_t_, ai y_b] M2) : wp (tb7 (csL (cs7_routesFrom d_))) sh7 3 0 cX7_routesFrom [(33, [0, 1, 2], I_33), (56, [0], I_56), (85, [0, 1, 2], I_85)] Q 400 33 [(0, ar 0), (1, ai t_), (2, ai k)] [] M1 := by
  obtain ⟨rfl, ht, hlt, M0, hR, f1, f2, f3, a, rfl, ha, f5, rfl⟩ := hJ
  obtain ⟨h1, h2, h3, h5⟩ := id hP
  have b4 := (okY_n h1).2.1
  have b4' : 0 ≤ M 7 4 ∧ M 7 4 ≤ 7 := b4
  have e16 : M1 15 = M 15 := (f1 _ (by decide)).trans (hR.1 _ (by decide))
  simp only [e_wp dX7_routesFrom_0 rfl, e_wp dX7_routesFrom_1 rfl, e_wp dX7_routesFrom_2 rfl, e_wp dX7_routesFrom_5 rfl, e_wp dX7_routesFrom_8 rfl, e_wp dX7_routesFrom_9 rfl, e_wp dX7_routesFrom_12 rfl, e_wp dX7_routesFrom_13 rfl, e_wp dX7_routesFrom_16 rfl, e_wp dX7_routesFrom_17 rfl, e_wp dX7_routesFrom_20 rfl, e_wp dX7_routesFrom_23 rfl, e_wp dX7_routesFrom_24 rfl, e_wp dX7_routesFrom_25 rfl, e_wp dX7_routesFrom_28 rfl, e_wp dX7_routesFrom_31 rfl, e_wp dX7_routesFrom_32 rfl, e_wp dX7_routesFrom_33 rfl, e_wp dX7_routesFrom_34 rfl, e_wp dX7_routesFrom_35 rfl, e_wp dX7_routesFrom_38 rfl, e_wp dX7_routesFrom_39 rfl, e_wp dX7_routesFrom_42 rfl, e_wp dX7_routesFrom_43 rfl, e_wp dX7_routesFrom_44 rfl, e_wp dX7_routesFrom_47 rfl, e_wp dX7_routesFrom_48 rfl, e_wp dX7_routesFrom_49 rfl, e_wp dX7_routesFrom_50 rfl, e_wp dX7_routesFrom_53 rfl, e_wp dX7_routesFrom_56 rfl, e_wp dX7_routesFrom_57 rfl, e_wp dX7_routesFrom_58 rfl, e_wp dX7_routesFrom_61 rfl, e_wp dX7_routesFrom_62 rfl, e_wp dX7_routesFrom_65 rfl, e_wp dX7_routesFrom_68 rfl, e_wp dX7_routesFrom_69 rfl, e_wp dX7_routesFrom_72 rfl, e_wp dX7_routesFrom_75 rfl, e_wp dX7_routesFrom_76 rfl, e_wp dX7_routesFrom_79 rfl, e_wp dX7_routesFrom_82 rfl, e_wp dX7_routesFrom_83 rfl, e_wp dX7_routesFrom_84 rfl, e_wp dX7_routesFrom_85 rfl, e_wp dX7_routesFrom_86 rfl, e_wp dX7_routesFrom_87 rfl, e_wp dX7_routesFrom_90 rfl, e_wp dX7_routesFrom_93 rfl, e_wp dX7_routesFrom_94 rfl, e_wp dX7_routesFrom_97 rfl, e_wp dX7_routesFrom_98 rfl, e_wp dX7_routesFrom_99 rfl, e_wp dX7_routesFrom_100 rfl, e_wp dX7_routesFrom_101 rfl, e_wp dX7_routesFrom_102 rfl, e_wp dX7_routesFrom_103 rfl, e_wp dX7_routesFrom_104 rfl, e_wp dX7_routesFrom_107 rfl, e_wp dX7_routesFrom_110 rfl, e_wp dX7_routesFrom_113 rfl, c7_carts, P7_carts, V7_carts, cs7_routesFrom, c7_runs, c7_sagAll, P7_sagAll, V7_sagAll, g7_362, p7_362, g7_104, g7_59, c7_overAll, P7_overAll, V7_overAll, g7_371, p7_371, c7_bridges, P7_bridges, V7_bridges, c7_routesFrom, a7_1, w7_1, a7_2, w7_2, a7_3, w7_3, a7_4, w7_4, a7_5, w7_5, a7_6, w7_6, a7_7, w7_7, a7_8, w7_8, a7_9, w7_9, a7_10, w7_10, a7_11, w7_11, a7_12, w7_12, a7_13, w7_13, a7_14, w7_14, a7_15, w7_15, a7_16, w7_16, a7_17, w7_17, a7_18, w7_18, a7_19, w7_19, a7_20, w7_20, a7_21, w7_21, a7_22, w7_22, a7_23, w7_23, a7_24, w7_24, a7_25, w7_25, a7_26, w7_26, a7_27, w7_27, a7_28, w7_28, a7_29, w7_29, a7_30, w7_30, a7_31, w7_31, a7_32, w7_32, a7_33, w7_33, e_iconst, e_bipush, e_sipush, e_lconst_0, e_lconst_1, e_iload, e_iload_0, e_iload_1, e_iload_2, e_iload_3, e_lload, e_lload_0, e_lload_1, e_lload_2, e_lload_3, e_aload, e_aload_0, e_aload_1, e_aload_2, e_aload_3, e_istore, e_istore_0, e_istore_1, e_istore_2, e_istore_3, e_astore, e_astore_0, e_astore_1, e_astore_2, e_astore_3, e_lstore, e_lstore_0, e_lstore_1, e_lstore_2, e_lstore_3, e_iinc, e_iadd, e_isub, e_imul, e_ladd, e_lsub, e_lmul, e_idiv, e_irem, e_ldiv, e_lrem, e_ineg, e_lneg, e_iand, e_ior, e_ixor, e_ishl, e_ishr, e_iushr, e_lcmp, e_i2l, e_l2i, e_i2b, e_i2s, e_dup_i, e_dup_r, e_pop_i, e_pop_r, e_dup2_l, e_dup2_ir, e_dup2_ii, e_ifeq, e_ifne, e_iflt, e_ifge, e_ifgt, e_ifle, e_iceq, e_icne, e_iclt, e_icge, e_icgt, e_icle, e_goto, e_switch, e_invokevirtual, e_invokestatic, e_invokespecial, e_ret0, e_ret1, e_ret2, e_ret3, ldI_s, ldL_s, ldR_s, clO_s, ctP_s, ctS_s, mgo_0, mgo_s, pjc_s, pj_0, pj_s, lk_s, rm1_0, rm1_i, rm1_r, rm1_l, rm2_0, rm2_i, rm2_r, rm2_l, csL_s, lc_lt, lc_ge, lc_gt, lc_le, lc_eq, b01_0, b01_1, b01_01, b01_n, up2_o, up2_s, up2_u, ne_eq, reduceCtorEq, Nat.reduceAdd, Nat.reduceEqDiff, Nat.reduceLT, Nat.reduceLeDiff, Int.reduceLE, Int.reduceLT, Int.reduceAdd, Int.reduceNeg, Int.reduceMul, Int.reduceSub, Int.reduceEq, Int.reduceToNat, Int.reduceNatCast, Int.cast_ofNat_Int, ↓reduceIte, and_self, List.drop_succ_cons, List.drop_zero, List.take_succ_cons, List.take_zero, List.length_cons, List.length_nil, List.reverse_cons, List.reverse_nil, List.nil_append, List.cons_append, Option.toList, true_and, and_true, or_false, false_or, or_true, true_or, forall_const, Classical.not_not, not_false_eq_true, not_true_eq_false, false_implies, true_implies, implies_true, imp_self, Int.toNat_natCast]
  refine ⟨fun q => ?_, fun q => ?_⟩
  · refine hI_56 0 _ (by omega) ⟨ht, M0, hR, f1, f2, ?_, fun j hj => ?_, rfl⟩
    · rw [if_pos hlt, f3]
    · rw [if_pos hlt, f5 j (by omega)]
  · repeat (refine And.intro (by omega) ?_)
    refine hI_33 (8 - (a + 1)) _ _ _ (by omega) ⟨rfl, ht, hlt, M0, hR, frm_up f1 (by decide), fun j y1 => ?_, ?_, a + 1, by omega, by omega, fun j hj => ?_, rfl⟩
    · rw [up2_o (by decide)]; exact f2 j y1
    · rw [up2_o (by decide)]; exact f3
    · by_cases e : j = a
      · rw [e, up2_s, e16]
      · rw [up2_n e]; exact f5 j (by omega)
set_option maxHeartbeats 4000000 in
set_option maxRecDepth 100000 in
theorem at7_routesFrom_56 {d_ : Nat} {t : Int} {M : Mm} {Q : Option AV → Mm → Prop} (hM : okM sh7 M) (h_t : i32 t) (hP : P7_routesFrom (d_ + 1) t M) (hQ : ∀ (M1 : Mm), R7_routesFrom (d_ + 1) t M M1 → Q none M1) {m : Nat} {M1 : Mm} (hM1 : okM sh7 M1) (hJ : J7_routesFrom_56 (d_ + 1) t M m M1) (I_33 : List AV → Mm → Prop) (hI_33 : ∀ (m_ : Nat) (y_t_ : Int) (y_k : Int) (M2 : Mm), m_ < m → J7_routesFrom_33 (d_ + 1) t M m_ y_t_ y_k M2 → I_33 [ar 0, ai y_t_, ai y_k] M2) (I_56 : List AV → Mm → Prop) (hI_56 : ∀ (m_ : Nat) (M2 : Mm), m_ < m → J7_routesFrom_56 (d_ + 1) t M m_ M2 → I_56 [ar 0] M2) (I_85 : List AV → Mm → Prop) (hI_85 : ∀ (m_ : Nat) (y_t_ : Int) (y_b : Int) (M2 : Mm), m_ < m → J7_routesFrom_85 (d_ + 1) t M m_ y_t_ y_b M2 → I_85 [ar 0, ai y_t_, ai y_b] M2) : wp (tb7 (csL (cs7_routesFrom d_))) sh7 3 0 cX7_routesFrom [(33, [0, 1, 2], I_33), (56, [0], I_56), (85, [0, 1, 2], I_85)] Q 400 56 [(0, ar 0)] [] M1 := by
  obtain ⟨ht, M0, hR, f1, f2, f3, f5, rfl⟩ := hJ
  obtain ⟨h1, h2, h3, h5⟩ := id hP
  have b4 := (okY_n h1).2.1
  have b4' : 0 ≤ M 7 4 ∧ M 7 4 ≤ 7 := b4
  obtain ⟨r1, r2⟩ := id hR
  have e7 : M1 7 = M 7 := (f1 _ (by decide)).trans (r1 _ (by decide))
  have e22 : M1 22 = M0 22 := f1 _ (by decide)
  have hK : frm rouRows M M1 := frm_tr (frm_w r1 (by decide)) f1 (by decide)
  have hi : injR (vM M) (nM M) := fun t' t'' q1 q2 q3 => by
    have q3 : M 16 t' = M 16 t'' := (nC_s (C := cM M) (i := 3) (by decide) q1).symm.trans (q3.trans (nC_s (C := cM M) (i := 3) (by decide) q2))
    have e4 : vM M 0 4 = M 7 4 := rfl
    rw [h5 t' (by omega), h5 t'' (by omega)] at q3
    omega
  have eo : sumN (fun c => if M1 22 c = -1 then 0 else 1) (M1 7 4).toNat = ovF (vM M) (nM M) := by
    rw [e22, e7]
    exact over_out (okCf_n h2) hi r2
  have eL : routL (vM M) (M 7 4 - t).toNat (nM M) t.toNat = [nM M] := by
    rw [show (M 7 4 - t).toNat = 0 by omega]
    rfl
  have e45 : M1 0 45 = M 0 45 := f2 45 (by decide)
  have go : ∀ y, y = (if M 0 45 < ovF (vM M) (nM M) then ovF (vM M) (nM M) else M 0 45) → Q none (up2 M1 0 45 y) := by
    intro y hy
    have eb : (up2 M1 0 45 y) 15 = M 15 := (up2_ne (by decide)).trans ((f1 _ (by decide)).trans (r1 _ (by decide)))
    have hk : rouK t M (up2 M1 0 45 y) := ⟨frm_up hK (by decide), fun j a b => by
      rw [up2_n (by omega)]
      exact f2 j a, fun k hk => by rw [eb]⟩
    refine hQ _ ⟨hk, ?_, ?_⟩
    · rw [rouK_v hk]
      refine ⟨by rw [rouK_c hk 0 0 (by decide)]; exact h2.1, fun c hc => ?_⟩
      rw [rouK_c hk 1 c (by decide), rouK_c hk 3 c (by decide)]
      have : cM (up2 M1 0 45 y) 2 c = cM M 2 c := congrFun eb c
      rw [this]
      exact h2.2 c hc
    · intro A hA
      obtain ⟨a1, a3, a4⟩ := hA
      rw [eL]
      show acR _ (keepP 2 (vM M) A (nM M))
      refine ⟨?_, ?_, fun k hk => ?_⟩
      · show (if sagF (vM M) (nM M) < A.1.1 then sagF (vM M) (nM M) else A.1.1) = _
        rw [a1, up2_n (by decide)]
        exact f3.symm
      · show (if A.1.2.2 < ovF (vM M) (nM M) then ovF (vM M) (nM M) else A.1.2.2) = _
        rw [a3, up2_s]
        exact hy.symm
      · rw [up2_o (by decide), e7] at hk
        rw [up2_o (by decide), f5 k (by omega)]
        show (if sagF (vM M) (nM M) < A.1.1 then nM M 2 k else A.2 k) = _
        rw [a1, a4 k hk]
        split
        · exact nC_s (by decide) hk
        · rfl
  simp only [e_wp dX7_routesFrom_0 rfl, e_wp dX7_routesFrom_1 rfl, e_wp dX7_routesFrom_2 rfl, e_wp dX7_routesFrom_5 rfl, e_wp dX7_routesFrom_8 rfl, e_wp dX7_routesFrom_9 rfl, e_wp dX7_routesFrom_12 rfl, e_wp dX7_routesFrom_13 rfl, e_wp dX7_routesFrom_16 rfl, e_wp dX7_routesFrom_17 rfl, e_wp dX7_routesFrom_20 rfl, e_wp dX7_routesFrom_23 rfl, e_wp dX7_routesFrom_24 rfl, e_wp dX7_routesFrom_25 rfl, e_wp dX7_routesFrom_28 rfl, e_wp dX7_routesFrom_31 rfl, e_wp dX7_routesFrom_32 rfl, e_wp dX7_routesFrom_33 rfl, e_wp dX7_routesFrom_34 rfl, e_wp dX7_routesFrom_35 rfl, e_wp dX7_routesFrom_38 rfl, e_wp dX7_routesFrom_39 rfl, e_wp dX7_routesFrom_42 rfl, e_wp dX7_routesFrom_43 rfl, e_wp dX7_routesFrom_44 rfl, e_wp dX7_routesFrom_47 rfl, e_wp dX7_routesFrom_48 rfl, e_wp dX7_routesFrom_49 rfl, e_wp dX7_routesFrom_50 rfl, e_wp dX7_routesFrom_53 rfl, e_wp dX7_routesFrom_56 rfl, e_wp dX7_routesFrom_57 rfl, e_wp dX7_routesFrom_58 rfl, e_wp dX7_routesFrom_61 rfl, e_wp dX7_routesFrom_62 rfl, e_wp dX7_routesFrom_65 rfl, e_wp dX7_routesFrom_68 rfl, e_wp dX7_routesFrom_69 rfl, e_wp dX7_routesFrom_72 rfl, e_wp dX7_routesFrom_75 rfl, e_wp dX7_routesFrom_76 rfl, e_wp dX7_routesFrom_79 rfl, e_wp dX7_routesFrom_82 rfl, e_wp dX7_routesFrom_83 rfl, e_wp dX7_routesFrom_84 rfl, e_wp dX7_routesFrom_85 rfl, e_wp dX7_routesFrom_86 rfl, e_wp dX7_routesFrom_87 rfl, e_wp dX7_routesFrom_90 rfl, e_wp dX7_routesFrom_93 rfl, e_wp dX7_routesFrom_94 rfl, e_wp dX7_routesFrom_97 rfl, e_wp dX7_routesFrom_98 rfl, e_wp dX7_routesFrom_99 rfl, e_wp dX7_routesFrom_100 rfl, e_wp dX7_routesFrom_101 rfl, e_wp dX7_routesFrom_102 rfl, e_wp dX7_routesFrom_103 rfl, e_wp dX7_routesFrom_104 rfl, e_wp dX7_routesFrom_107 rfl, e_wp dX7_routesFrom_110 rfl, e_wp dX7_routesFrom_113 rfl, c7_carts, P7_carts, V7_carts, cs7_routesFrom, c7_runs, c7_sagAll, P7_sagAll, V7_sagAll, g7_362, p7_362, g7_104, g7_59, c7_overAll, P7_overAll, V7_overAll, g7_371, p7_371, c7_bridges, P7_bridges, V7_bridges, c7_routesFrom, a7_1, w7_1, a7_2, w7_2, a7_3, w7_3, a7_4, w7_4, a7_5, w7_5, a7_6, w7_6, a7_7, w7_7, a7_8, w7_8, a7_9, w7_9, a7_10, w7_10, a7_11, w7_11, a7_12, w7_12, a7_13, w7_13, a7_14, w7_14, a7_15, w7_15, a7_16, w7_16, a7_17, w7_17, a7_18, w7_18, a7_19, w7_19, a7_20, w7_20, a7_21, w7_21, a7_22, w7_22, a7_23, w7_23, a7_24, w7_24, a7_25, w7_25, a7_26, w7_26, a7_27, w7_27, a7_28, w7_28, a7_29, w7_29, a7_30, w7_30, a7_31, w7_31, a7_32, w7_32, a7_33, w7_33, e_iconst, e_bipush, e_sipush, e_lconst_0, e_lconst_1, e_iload, e_iload_0, e_iload_1, e_iload_2, e_iload_3, e_lload, e_lload_0, e_lload_1, e_lload_2, e_lload_3, e_aload, e_aload_0, e_aload_1, e_aload_2, e_aload_3, e_istore, e_istore_0, e_istore_1, e_istore_2, e_istore_3, e_astore, e_astore_0, e_astore_1, e_astore_2, e_astore_3, e_lstore, e_lstore_0, e_lstore_1, e_lstore_2, e_lstore_3, e_iinc, e_iadd, e_isub, e_imul, e_ladd, e_lsub, e_lmul, e_idiv, e_irem, e_ldiv, e_lrem, e_ineg, e_lneg, e_iand, e_ior, e_ixor, e_ishl, e_ishr, e_iushr, e_lcmp, e_i2l, e_l2i, e_i2b, e_i2s, e_dup_i, e_dup_r, e_pop_i, e_pop_r, e_dup2_l, e_dup2_ir, e_dup2_ii, e_ifeq, e_ifne, e_iflt, e_ifge, e_ifgt, e_ifle, e_iceq, e_icne, e_iclt, e_icge, e_icgt, e_icle, e_goto, e_switch, e_invokevirtual, e_invokestatic, e_invokespecial, e_ret0, e_ret1, e_ret2, e_ret3, ldI_s, ldL_s, ldR_s, clO_s, ctP_s, ctS_s, mgo_0, mgo_s, pjc_s, pj_0, pj_s, lk_s, rm1_0, rm1_i, rm1_r, rm1_l, rm2_0, rm2_i, rm2_r, rm2_l, csL_s, lc_lt, lc_ge, lc_gt, lc_le, lc_eq, b01_0, b01_1, b01_01, b01_n, up2_o, up2_s, up2_u, ne_eq, reduceCtorEq, Nat.reduceAdd, Nat.reduceEqDiff, Nat.reduceLT, Nat.reduceLeDiff, Int.reduceLE, Int.reduceLT, Int.reduceAdd, Int.reduceNeg, Int.reduceMul, Int.reduceSub, Int.reduceEq, Int.reduceToNat, Int.reduceNatCast, Int.cast_ofNat_Int, ↓reduceIte, and_self, List.drop_succ_cons, List.drop_zero, List.take_succ_cons, List.take_zero, List.length_cons, List.length_nil, List.reverse_cons, List.reverse_nil, List.nil_append, List.cons_append, Option.toList, true_and, and_true, or_false, false_or, or_true, true_or, forall_const, Classical.not_not, not_false_eq_true, not_true_eq_false, false_implies, true_implies, implies_true, imp_self]
  rw [eo, e7, e45]
  exact ⟨b4', fun w => go _ (if_neg (by omega)).symm, fun w => ⟨b4', go _ (if_pos w).symm⟩⟩
set_option maxHeartbeats 4000000 in
set_option maxRecDepth 100000 in
theorem at7_routesFrom_85 {d_ : Nat} {t : Int} {M : Mm} {Q : Option AV → Mm → Prop} (hM : okM sh7 M) (h_t : i32 t) (hP : P7_routesFrom (d_ + 1) t M) (hQ : ∀ (M1 : Mm), R7_routesFrom (d_ + 1) t M M1 → Q none M1) {m : Nat} {t_ b : Int} {M1 : Mm} (hM1 : okM sh7 M1) (h_t_ : i32 t_) (h_b : i32 b) (hJ : J7_routesFrom_85 (d_ + 1) t M m t_ b M1) (I_33 : List AV → Mm → Prop) (hI_33 : ∀ (m_ : Nat) (y_t_ : Int) (y_k : Int) (M2 : Mm), m_ < m → J7_routesFrom_33 (d_ + 1) t M m_ y_t_ y_k M2 → I_33 [ar 0, ai y_t_, ai y_k] M2) (I_56 : List AV → Mm → Prop) (hI_56 : ∀ (m_ : Nat) (M2 : Mm), m_ < m → J7_routesFrom_56 (d_ + 1) t M m_ M2 → I_56 [ar 0] M2) (I_85 : List AV → Mm → Prop) (hI_85 : ∀ (m_ : Nat) (y_t_ : Int) (y_b : Int) (M2 : Mm), m_ < m → J7_routesFrom_85 (d_ + 1) t M m_ y_t_ y_b M2 → I_85 [ar 0, ai y_t_, ai y_b] M2) : wp (tb7 (csL (cs7_routesFrom d_))) sh7 3 0 cX7_routesFrom [(33, [0, 1, 2], I_33), (56, [0], I_56), (85, [0, 1, 2], I_85)] Q 400 85 [(0, ar 0), (1, ai t_), (2, ai b)] [] M1 := by
  obtain ⟨rfl, ht, hK, hC, a, rfl, ha, hA, rfl⟩ := hJ
  obtain ⟨h1, h2, h3, h5⟩ := id hP
  have b4 := (okY_n h1).2.1
  have b3 := (okY_n h1).1
  have b4' : 0 ≤ M 7 4 ∧ M 7 4 ≤ 7 := b4
  have b3' : 0 ≤ M 7 3 ∧ M 7 3 ≤ 3 := b3
  obtain ⟨u, rfl⟩ := Int.eq_ofNat_of_zero_le h3.1
  have e7 : M1 7 = M 7 := hK.1 _ (by decide)
  have eL : routL (vM M) (M 7 4 - u).toNat (nM M) u = catN (routB (vM M) (M 7 4 - u - 1).toNat (nM M) u) (M 7 3).toNat := by
    rw [show (M 7 4 - u).toNat = (M 7 4 - u - 1).toNat + 1 by omega]
    rfl
  simp only [e_wp dX7_routesFrom_0 rfl, e_wp dX7_routesFrom_1 rfl, e_wp dX7_routesFrom_2 rfl, e_wp dX7_routesFrom_5 rfl, e_wp dX7_routesFrom_8 rfl, e_wp dX7_routesFrom_9 rfl, e_wp dX7_routesFrom_12 rfl, e_wp dX7_routesFrom_13 rfl, e_wp dX7_routesFrom_16 rfl, e_wp dX7_routesFrom_17 rfl, e_wp dX7_routesFrom_20 rfl, e_wp dX7_routesFrom_23 rfl, e_wp dX7_routesFrom_24 rfl, e_wp dX7_routesFrom_25 rfl, e_wp dX7_routesFrom_28 rfl, e_wp dX7_routesFrom_31 rfl, e_wp dX7_routesFrom_32 rfl, e_wp dX7_routesFrom_33 rfl, e_wp dX7_routesFrom_34 rfl, e_wp dX7_routesFrom_35 rfl, e_wp dX7_routesFrom_38 rfl, e_wp dX7_routesFrom_39 rfl, e_wp dX7_routesFrom_42 rfl, e_wp dX7_routesFrom_43 rfl, e_wp dX7_routesFrom_44 rfl, e_wp dX7_routesFrom_47 rfl, e_wp dX7_routesFrom_48 rfl, e_wp dX7_routesFrom_49 rfl, e_wp dX7_routesFrom_50 rfl, e_wp dX7_routesFrom_53 rfl, e_wp dX7_routesFrom_56 rfl, e_wp dX7_routesFrom_57 rfl, e_wp dX7_routesFrom_58 rfl, e_wp dX7_routesFrom_61 rfl, e_wp dX7_routesFrom_62 rfl, e_wp dX7_routesFrom_65 rfl, e_wp dX7_routesFrom_68 rfl, e_wp dX7_routesFrom_69 rfl, e_wp dX7_routesFrom_72 rfl, e_wp dX7_routesFrom_75 rfl, e_wp dX7_routesFrom_76 rfl, e_wp dX7_routesFrom_79 rfl, e_wp dX7_routesFrom_82 rfl, e_wp dX7_routesFrom_83 rfl, e_wp dX7_routesFrom_84 rfl, e_wp dX7_routesFrom_85 rfl, e_wp dX7_routesFrom_86 rfl, e_wp dX7_routesFrom_87 rfl, e_wp dX7_routesFrom_90 rfl, e_wp dX7_routesFrom_93 rfl, e_wp dX7_routesFrom_94 rfl, e_wp dX7_routesFrom_97 rfl, e_wp dX7_routesFrom_98 rfl, e_wp dX7_routesFrom_99 rfl, e_wp dX7_routesFrom_100 rfl, e_wp dX7_routesFrom_101 rfl, e_wp dX7_routesFrom_102 rfl, e_wp dX7_routesFrom_103 rfl, e_wp dX7_routesFrom_104 rfl, e_wp dX7_routesFrom_107 rfl, e_wp dX7_routesFrom_110 rfl, e_wp dX7_routesFrom_113 rfl, c7_carts, P7_carts, V7_carts, cs7_routesFrom, c7_runs, c7_sagAll, P7_sagAll, V7_sagAll, g7_362, p7_362, g7_104, g7_59, c7_overAll, P7_overAll, V7_overAll, g7_371, p7_371, c7_bridges, P7_bridges, V7_bridges, c7_routesFrom, a7_1, w7_1, a7_2, w7_2, a7_3, w7_3, a7_4, w7_4, a7_5, w7_5, a7_6, w7_6, a7_7, w7_7, a7_8, w7_8, a7_9, w7_9, a7_10, w7_10, a7_11, w7_11, a7_12, w7_12, a7_13, w7_13, a7_14, w7_14, a7_15, w7_15, a7_16, w7_16, a7_17, w7_17, a7_18, w7_18, a7_19, w7_19, a7_20, w7_20, a7_21, w7_21, a7_22, w7_22, a7_23, w7_23, a7_24, w7_24, a7_25, w7_25, a7_26, w7_26, a7_27, w7_27, a7_28, w7_28, a7_29, w7_29, a7_30, w7_30, a7_31, w7_31, a7_32, w7_32, a7_33, w7_33, e_iconst, e_bipush, e_sipush, e_lconst_0, e_lconst_1, e_iload, e_iload_0, e_iload_1, e_iload_2, e_iload_3, e_lload, e_lload_0, e_lload_1, e_lload_2, e_lload_3, e_aload, e_aload_0, e_aload_1, e_aload_2, e_aload_3, e_istore, e_istore_0, e_istore_1, e_istore_2, e_istore_3, e_astore, e_astore_0, e_astore_1, e_astore_2, e_astore_3, e_lstore, e_lstore_0, e_lstore_1, e_lstore_2, e_lstore_3, e_iinc, e_iadd, e_isub, e_imul, e_ladd, e_lsub, e_lmul, e_idiv, e_irem, e_ldiv, e_lrem, e_ineg, e_lneg, e_iand, e_ior, e_ixor, e_ishl, e_ishr, e_iushr, e_lcmp, e_i2l, e_l2i, e_i2b, e_i2s, e_dup_i, e_dup_r, e_pop_i, e_pop_r, e_dup2_l, e_dup2_ir, e_dup2_ii, e_ifeq, e_ifne, e_iflt, e_ifge, e_ifgt, e_ifle, e_iceq, e_icne, e_iclt, e_icge, e_icgt, e_icle, e_goto, e_switch, e_invokevirtual, e_invokestatic, e_invokespecial, e_ret0, e_ret1, e_ret2, e_ret3, ldI_s, ldL_s, ldR_s, clO_s, ctP_s, ctS_s, mgo_0, mgo_s, pjc_s, pj_0, pj_s, lk_s, rm1_0, rm1_i, rm1_r, rm1_l, rm2_0, rm2_i, rm2_r, rm2_l, csL_s, lc_lt, lc_ge, lc_gt, lc_le, lc_eq, b01_0, b01_1, b01_01, b01_n, up2_o, up2_s, up2_u, ne_eq, reduceCtorEq, Nat.reduceAdd, Nat.reduceEqDiff, Nat.reduceLT, Nat.reduceLeDiff, Int.reduceLE, Int.reduceLT, Int.reduceAdd, Int.reduceNeg, Int.reduceMul, Int.reduceSub, Int.reduceEq, Int.reduceToNat, Int.reduceNatCast, Int.cast_ofNat_Int, ↓reduceIte, and_self, List.drop_succ_cons, List.drop_zero, List.take_succ_cons, List.take_zero, List.length_cons, List.length_nil, List.reverse_cons, List.reverse_nil, List.nil_append, List.cons_append, Option.toList, true_and, and_true, or_false, false_or, or_true, true_or, forall_const, Classical.not_not, not_false_eq_true, not_true_eq_false, false_implies, true_implies, implies_true, imp_self, Int.toNat_natCast]
  simp only [Int.toNat_natCast] at hA
  rw [e7]
  refine ⟨fun q => ?_, fun q => ⟨by omega, by omega, ?_⟩⟩
  · refine hQ _ ⟨hK, hC, fun x hx => ?_⟩
    rw [Int.toNat_natCast, eL, show (M 7 3).toNat = a by omega]
    exact hA x hx
  · have eV := rouK_v hK
    have hK2 : rouK (u : Nat) M (up2 M1 15 u a) := rouK_tr hK rouK_by
    have eV2 := rouK_v hK2
    have eN : routL (vM M) (M 7 4 - u - 1).toNat (nM (up2 M1 15 u a)) (u + 1) = routB (vM M) (M 7 4 - u - 1).toNat (nM M) u a := by
      rw [up_by (by rw [e7]; omega)]
      refine routL_congr fun i j hij => ?_
      show (if i = 2 ∧ j = u then (a : Int) else nM M1 i j) = (if i = 2 ∧ j = u then (a : Int) else nM M i j)
      split
      · rfl
      · exact nM_eq2 eV (rouK_c hK) (t := u) (n := (M 7 4 - u).toNat) (by omega) (fun k hk => hK.2.2 k (by omega)) i j (by omega)
    have e70 : (up2 M1 15 u a) 7 = M 7 := (up2_ne (by decide)).trans e7
    have i1 : (M 7 4 - (u + 1)).toNat = (M 7 4 - u - 1).toNat := by omega
    have i2 : ((u : Int) + 1).toNat = u + 1 := by omega
    refine ⟨⟨by rw [eV2]; exact h1, ?_, ?_, ?_⟩, fun M4 hR4 => ⟨by omega, ?_⟩⟩
    · rw [eV2]
      refine ⟨hC.1, fun c hc => ?_⟩
      have x := hC.2 c (by rw [eV]; exact hc)
      have x3 : -1 ≤ M1 15 c ∧ M1 15 c < vM M1 0 3 := x.2.1
      have x4 : 0 ≤ M1 16 c ∧ M1 16 c < vM M1 0 4 := x.2.2
      rw [eV] at x3 x4
      refine ⟨x.1, ?_, x4⟩
      show -1 ≤ up2 M1 15 u a 15 c ∧ up2 M1 15 u a 15 c < vM M 0 3
      by_cases e : c = u
      · rw [e, up2_s]
        exact ⟨by omega, q⟩
      · rw [up2_n e]; exact x3
    · rw [e70]; omega
    · rw [e70, hK2.1 16 (by decide)]; exact h5
    · obtain ⟨y1, y2, y3⟩ := hR4
      rw [eV2, e70, i1, i2, eN] at y3
      refine hI_85 (10 - (a + 1)) _ _ _ (by omega) ⟨rfl, ht, rouK_tr hK2 (rouK_w y1 (by omega)), y2, a + 1, by omega, by omega, fun x hx => ?_, rfl⟩
      show acR M4 ((catN _ a ++ routB (vM M) (M 7 4 - u - 1).toNat (nM M) u a).foldl _ x)
      rw [List.foldl_append]
      refine y3 _ ?_
      obtain ⟨v1, v3, v4⟩ := hA x hx
      refine ⟨?_, ?_, fun k hk => ?_⟩
      · rw [up2_o (by decide)]; exact v1
      · rw [up2_o (by decide)]; exact v3
      · rw [up2_o (by decide)]; exact v4 k (by rw [e7, ← e70]; exact hk)
theorem z7_routesFrom {t : Int} {M : Mm} (hP : P7_routesFrom 0 t M) : False := by
  obtain ⟨h1, h2, h3, h4⟩ := hP
  omega
theorem r7_routesFrom {lvl d_ : Nat} (ih : MOK cl7 sh7 tyl7 [] (4 + d_) yX7_routesFrom cX7_routesFrom 3 none (sp7_routesFrom d_)) (h : 4 + d_ < lvl) : CG RX7 cl7 sh7 tyl7 [] lvl 1 380 2 (sp7_routesFrom d_) := cg_V (sg := [0]) nil_nw spV_mono spV_un ih h rfl (by decide) rfl rfl ⟨rfl, by decide, by decide, rfl⟩ q2046 q2048 qs108 q138 q2049
set_option maxHeartbeats 4000000 in
set_option maxRecDepth 100000 in
theorem m7_routesFrom : ∀ d_ : Nat, MOK cl7 sh7 tyl7 [] (4 + d_) yX7_routesFrom cX7_routesFrom 3 none (sp7_routesFrom d_) := by
  intro d_
  induction d_ with
  | zero =>
    intro l D ca ad sz avs M Q hM hav hsp
    exfalso
    obtain ⟨xs, hx⟩ := spV_un _ _ _ hsp
    obtain ⟨e, hl⟩ := unA_mkT hx
    obtain ⟨t, rfl⟩ := len1 hl
    have e : avs = [ar 0, ai t] := e
    subst e
    exact z7_routesFrom hsp.1
  | succ d_ ih =>
    refine mok_of (own := RX7) (tb := tb7 (csL (cs7_routesFrom d_))) (rt := 0) (fuel := 400) (fun avs M Q => [(33, [0, 1, 2], fun m_ vs M1 => ∃ y_t_ : Int, ∃ y_k : Int, vs = [ar 0, ai y_t_, ai y_k] ∧ J7_routesFrom_33 (d_ + 1) (pa true [0] avs 0) M m_ y_t_ y_k M1), (56, [0], fun m_ vs M1 => vs = [ar 0] ∧ J7_routesFrom_56 (d_ + 1) (pa true [0] avs 0) M m_ M1), (85, [0, 1, 2], fun m_ vs M1 => ∃ y_t_ : Int, ∃ y_b : Int, vs = [ar 0, ai y_t_, ai y_b] ∧ J7_routesFrom_85 (d_ + 1) (pa true [0] avs 0) M m_ y_t_ y_b M1)]) (by decide) rfl nil_nw (tbOK7 _) rfl (csL_all ?_) ?_ ?_ ?_
    · intro q hq
      simp only [cs7_routesFrom, List.mem_cons, List.not_mem_nil, or_false] at hq
      rcases hq with rfl | rfl | rfl | rfl | rfl | rfl
      · exact cg7_carts (by omega)
      · exact cg7_runs (by omega)
      · exact cg7_sagAll (by omega)
      · exact cg7_overAll (by omega)
      · exact cg7_bridges (by omega)
      · exact r7_routesFrom ih (by omega)
    · intro avs M Q hsp
      obtain ⟨xs, hx⟩ := spV_un _ _ _ hsp
      obtain ⟨e, hl⟩ := unA_mkT hx
      obtain ⟨t, rfl⟩ := len1 hl
      have e : avs = [ar 0, ai t] := e
      subst e
      simp [szL, isL]
    · intro avs M Q hM hav hsp
      obtain ⟨xs, hx⟩ := spV_un _ _ _ hsp
      obtain ⟨e, hl⟩ := unA_mkT hx
      obtain ⟨t, rfl⟩ := len1 hl
      have e : avs = [ar 0, ai t] := e
      subst e
      exact in7_routesFrom hM (hav (ai t) (by simp)) hsp.1 hsp.2 _ (fun m_ y_t_ y_k M2 hJ => ⟨m_, y_t_, y_k, rfl, hJ⟩) _ (fun m_ M2 hJ => ⟨m_, rfl, hJ⟩) _ (fun m_ y_t_ y_b M2 hJ => ⟨m_, y_t_, y_b, rfl, hJ⟩)
    · intro avs M Q hM hav hsp q hq m_ vs M1 hM1 hv hJ
      obtain ⟨xs, hx⟩ := spV_un _ _ _ hsp
      obtain ⟨e, hl⟩ := unA_mkT hx
      obtain ⟨t, rfl⟩ := len1 hl
      have e : avs = [ar 0, ai t] := e
      subst e
      simp only [List.mem_cons, List.not_mem_nil, or_false] at hq
      rcases hq with rfl | rfl | rfl
      · obtain ⟨y_t_, y_k, rfl, hJ⟩ := hJ
        exact at7_routesFrom_33 hM (hav (ai t) (by simp)) hsp.1 hsp.2 hM1 (hv (1, ai y_t_) (List.mem_of_getElem? (i := 1) rfl)) (hv (2, ai y_k) (List.mem_of_getElem? (i := 2) rfl)) hJ _ (fun m2 z_t_ z_k M2 hm hJ2 => ⟨m2, hm, z_t_, z_k, rfl, hJ2⟩) _ (fun m2 M2 hm hJ2 => ⟨m2, hm, rfl, hJ2⟩) _ (fun m2 z_t_ z_b M2 hm hJ2 => ⟨m2, hm, z_t_, z_b, rfl, hJ2⟩)
      · obtain ⟨rfl, hJ⟩ := hJ
        exact at7_routesFrom_56 hM (hav (ai t) (by simp)) hsp.1 hsp.2 hM1 hJ _ (fun m2 z_t_ z_k M2 hm hJ2 => ⟨m2, hm, z_t_, z_k, rfl, hJ2⟩) _ (fun m2 M2 hm hJ2 => ⟨m2, hm, rfl, hJ2⟩) _ (fun m2 z_t_ z_b M2 hm hJ2 => ⟨m2, hm, z_t_, z_b, rfl, hJ2⟩)
      · obtain ⟨y_t_, y_b, rfl, hJ⟩ := hJ
        exact at7_routesFrom_85 hM (hav (ai t) (by simp)) hsp.1 hsp.2 hM1 (hv (1, ai y_t_) (List.mem_of_getElem? (i := 1) rfl)) (hv (2, ai y_b) (List.mem_of_getElem? (i := 2) rfl)) hJ _ (fun m2 z_t_ z_k M2 hm hJ2 => ⟨m2, hm, z_t_, z_k, rfl, hJ2⟩) _ (fun m2 M2 hm hJ2 => ⟨m2, hm, rfl, hJ2⟩) _ (fun m2 z_t_ z_b M2 hm hJ2 => ⟨m2, hm, z_t_, z_b, rfl, hJ2⟩)
theorem cg7_routesFrom {lvl d_ : Nat} (h : 4 + d_ < lvl) : CG RX7 cl7 sh7 tyl7 [] lvl 1 380 2 (sp7_routesFrom d_) := r7_routesFrom (m7_routesFrom d_) h
/-- all routes -/
def routA (V : Vy) : Ac := (routL V (V 0 4).toNat (tellP V) 0).foldl (keepP 2 V) ((100000, 0, 0), fun _ => 0)
theorem keep_rou {t : Int} {M M1 : Mm} (h : rouK t M M1) : keepM M M1 := ⟨fun k hk => h.1 k (by revert hk; simp only [rouRows, List.mem_cons, List.not_mem_nil, or_false]; omega), fun j hj => by
  simp only [List.mem_cons, List.not_mem_nil, or_false] at hj
  exact h.2.1 j (by omega) (by omega)⟩
theorem routL_n0 {V : Vy} (hY : okY V) {C : Cf} : ∃ D, D ∈ routL V (V 0 4).toNat C 0 := by
  by_cases e : V 0 4 = 0
  · rw [e]; exact ⟨C, List.mem_cons_self⟩
  · have h4 := (okY_n hY).2.1
    have := (okY_c hY 0 (by omega)).2
    exact routL_ne (by omega)
def P7_laysRoutes (M : Mm) : Prop := okY (vM M)
def R7_laysRoutes (M : Mm) (M1 : Mm) : Prop := keepM M M1 ∧ acR M1 (routA (vM M))
def sp7_laysRoutes : Spec := spV true [] (fun x M => P7_laysRoutes M) (fun x M M1 => R7_laysRoutes M M1)
theorem c7_laysRoutes {M : Mm} {Q : Option AV → Mm → Prop} : sp7_laysRoutes [ar 0] M Q = (P7_laysRoutes M ∧ ∀ (M1 : Mm), R7_laysRoutes M M1 → Q none M1) := rfl
def cs7_laysRoutes : List (Nat × Nat × Nat × Spec) := [(330, 1, 1, sp7_lays), (380, 1, 2, (sp7_routesFrom 8))]
set_option maxHeartbeats 4000000 in
set_option maxRecDepth 100000 in
theorem in7_laysRoutes {M : Mm} {Q : Option AV → Mm → Prop} (hM : okM sh7 M) (hP : P7_laysRoutes M) (hQ : ∀ (M1 : Mm), R7_laysRoutes M M1 → Q none M1) : wp (tb7 (csL cs7_laysRoutes)) sh7 1 0 cX7_laysRoutes [] Q 400 0 [(0, ar 0)] [] M := by
  have h4 : 0 ≤ M 7 4 ∧ M 7 4 ≤ 7 := hP.2.2.2.2.1
  simp only [e_wp dX7_laysRoutes_0 rfl, e_wp dX7_laysRoutes_1 rfl, e_wp dX7_laysRoutes_4 rfl, e_wp dX7_laysRoutes_5 rfl, e_wp dX7_laysRoutes_7 rfl, e_wp dX7_laysRoutes_10 rfl, e_wp dX7_laysRoutes_11 rfl, e_wp dX7_laysRoutes_12 rfl, e_wp dX7_laysRoutes_15 rfl, e_wp dX7_laysRoutes_16 rfl, e_wp dX7_laysRoutes_17 rfl, e_wp dX7_laysRoutes_20 rfl, c7_lays, cs7_laysRoutes, k7_166, p7_362, p7_371, c7_routesFrom, e_iconst, e_bipush, e_sipush, e_lconst_0, e_lconst_1, e_iload, e_iload_0, e_iload_1, e_iload_2, e_iload_3, e_lload, e_lload_0, e_lload_1, e_lload_2, e_lload_3, e_aload, e_aload_0, e_aload_1, e_aload_2, e_aload_3, e_istore, e_istore_0, e_istore_1, e_istore_2, e_istore_3, e_astore, e_astore_0, e_astore_1, e_astore_2, e_astore_3, e_lstore, e_lstore_0, e_lstore_1, e_lstore_2, e_lstore_3, e_iinc, e_iadd, e_isub, e_imul, e_ladd, e_lsub, e_lmul, e_idiv, e_irem, e_ldiv, e_lrem, e_ineg, e_lneg, e_iand, e_ior, e_ixor, e_ishl, e_ishr, e_iushr, e_lcmp, e_i2l, e_l2i, e_i2b, e_i2s, e_dup_i, e_dup_r, e_pop_i, e_pop_r, e_dup2_l, e_dup2_ir, e_dup2_ii, e_ifeq, e_ifne, e_iflt, e_ifge, e_ifgt, e_ifle, e_iceq, e_icne, e_iclt, e_icge, e_icgt, e_icle, e_goto, e_switch, e_invokevirtual, e_invokestatic, e_invokespecial, e_ret0, e_ret1, e_ret2, e_ret3, ldI_s, ldL_s, ldR_s, clO_s, ctP_s, ctS_s, mgo_0, mgo_s, pjc_s, pj_0, pj_s, lk_s, rm1_0, rm1_i, rm1_r, rm1_l, rm2_0, rm2_i, rm2_r, rm2_l, csL_s, lc_lt, lc_ge, lc_gt, lc_le, lc_eq, b01_0, b01_1, b01_01, b01_n, up2_o, up2_s, up2_u, ne_eq, reduceCtorEq, Nat.reduceAdd, Nat.reduceEqDiff, Nat.reduceLT, Nat.reduceLeDiff, Int.reduceLE, Int.reduceLT, Int.reduceAdd, Int.reduceNeg, Int.reduceMul, Int.reduceSub, Int.reduceEq, Int.reduceToNat, Int.reduceNatCast, Int.cast_ofNat_Int, ↓reduceIte, and_self, List.drop_succ_cons, List.drop_zero, List.take_succ_cons, List.take_zero, List.length_cons, List.length_nil, List.reverse_cons, List.reverse_nil, List.nil_append, List.cons_append, Option.toList, true_and, and_true, or_false, false_or, or_true, true_or, forall_const, Classical.not_not, not_false_eq_true, not_true_eq_false, false_implies, true_implies, implies_true, imp_self]
  refine ⟨hP, fun M1 hR => ?_⟩
  obtain ⟨r1, r2, r3⟩ := hR
  have hk : keepM M (up2 (up2 M1 0 43 100000) 0 45 0) := keep_u0 (keep_u0 (keep_tell r1 r2) (by decide)) (by decide)
  have eV : vM (up2 (up2 M1 0 43 100000) 0 45 0) = vM M := keep_v hk 0
  have e7 : (up2 (up2 M1 0 43 100000) 0 45 0) 7 = M 7 := hk.1 _ (by decide)
  have eC : cM (up2 (up2 M1 0 43 100000) 0 45 0) = cM M1 := by
    funext i j
    match i with
    | 0 =>
      show (if j = 0 then up2 (up2 M1 0 43 100000) 0 45 0 0 24 else if j = 1 then up2 (up2 M1 0 43 100000) 0 45 0 0 25 else up2 (up2 M1 0 43 100000) 0 45 0 0 26) = (if j = 0 then M1 0 24 else if j = 1 then M1 0 25 else M1 0 26)
      rw [up2_n (by decide), up2_n (by decide), up2_n (by decide), up2_n (by decide), up2_n (by decide), up2_n (by decide)]
    | 1 => rfl
    | 2 => rfl
    | 3 => rfl
    | i + 4 => rfl
  have eN : nM (up2 (up2 M1 0 43 100000) 0 45 0) = tellP (vM M) := by
    show nC (vM _) (cM _) = _
    rw [eV, eC, r3]
  have hC : okCf (vM M) (cM M1) := okCf_un (by rw [r3]; exact okCf_tell hP)
  have i0 : (M 7 4 - 0).toNat = (M 7 4).toNat := by omega
  have hrow : ∀ k : Nat, (k : Int) < M 7 4 → M1 16 k = k := fun k hk => by
    have x : nC (vM M) (cM M1) 3 k = k := by rw [r3]; exact tell_row hk
    exact (nC_s (C := cM M1) (i := 3) (by decide) hk).symm.trans x
  refine ⟨⟨by rw [eV]; exact hP, by rw [eV, eC]; exact hC, by rw [e7]; omega, fun k hk => ?_⟩, fun M2 hR2 => hQ _ ?_⟩
  · rw [e7] at hk
    rw [up2_o (by decide), up2_o (by decide)]
    exact hrow k hk
  · obtain ⟨s1, s2, s3⟩ := hR2
    rw [eV, e7, eN, i0] at s3
    have s4 := s3 _ (acR_M _)
    refine ⟨keep_tr hk (keep_rou s1), ?_⟩
    have := fold_init (i := 2) hP (L := routL (vM M) (M 7 4).toNat (tellP (vM M)) 0) (fun D hD => routL_ok (okCf_tell hP) D hD) (routL_n0 hP) (a := acM (up2 (up2 M1 0 43 100000) 0 45 0)) (a' := ((100000, 0, 0), fun _ => 0)) ((acR_M _).1.trans ((up2_n (by decide)).trans up2_s)) rfl ((acR_M _).2.1.trans up2_s)
    show acR M2 ((routL (vM M) (M 7 4).toNat (tellP (vM M)) 0).foldl (keepP 2 (vM M)) ((100000, 0, 0), fun _ => 0))
    rw [← this]
    exact s4
set_option maxHeartbeats 4000000 in
set_option maxRecDepth 100000 in
theorem m7_laysRoutes : MOK cl7 sh7 tyl7 [] 13 yX7_laysRoutes cX7_laysRoutes 1 none sp7_laysRoutes := by
  refine mok_of (own := RX7) (tb := tb7 (csL cs7_laysRoutes)) (rt := 0) (fuel := 400) (fun avs M Q => []) (by decide) rfl nil_nw (tbOK7 _) rfl (csL_all ?_) ?_ ?_ ?_
  · intro q hq
    simp only [cs7_laysRoutes, List.mem_cons, List.not_mem_nil, or_false] at hq
    rcases hq with rfl | rfl
    · exact cg7_lays (by decide)
    · exact cg7_routesFrom (d_ := 8) (by decide)
  · intro avs M Q hsp
    obtain ⟨xs, hx⟩ := spV_un _ _ _ hsp
    obtain ⟨e, hl⟩ := unA_mkT hx
    obtain rfl := len0 hl
    have e : avs = [ar 0] := e
    subst e
    simp [szL, isL]
  · intro avs M Q hM hav hsp
    obtain ⟨xs, hx⟩ := spV_un _ _ _ hsp
    obtain ⟨e, hl⟩ := unA_mkT hx
    obtain rfl := len0 hl
    have e : avs = [ar 0] := e
    subst e
    exact in7_laysRoutes hM hsp.1 hsp.2
  · intro avs M Q hM hav hsp q hq m_ vs M1 hM1 hv hJ
    obtain ⟨xs, hx⟩ := spV_un _ _ _ hsp
    obtain ⟨e, hl⟩ := unA_mkT hx
    obtain rfl := len0 hl
    have e : avs = [ar 0] := e
    subst e
    cases hq
theorem cg7_laysRoutes {lvl : Nat} (h : 13 < lvl) : CG RX7 cl7 sh7 tyl7 [] lvl 1 383 1 sp7_laysRoutes := cg_V (sg := []) nil_nw spV_mono spV_un m7_laysRoutes h rfl (by decide) rfl rfl ⟨rfl, by decide, by decide, rfl⟩ q2042 q2044 qs107 q138 q2045
def A_routes (V : Vy) : Int := if 0 < V 0 8 then (routA V).1.1 else -2
def P7_routes (M : Mm) : Prop := okY (vM M)
def R7_routes (M : Mm) (v : Int) (M1 : Mm) : Prop := keepM M M1 ∧ v = A_routes (vM M)
def sp7_routes : Spec := spR true [] 1 (fun x M => P7_routes M) (fun x M v M1 => R7_routes M v M1)
theorem c7_routes {M : Mm} {Q : Option AV → Mm → Prop} : sp7_routes [ar 0] M Q = (P7_routes M ∧ ∀ (v : Int) (M1 : Mm), R7_routes M v M1 → Q (some (ai v)) M1) := rfl
def cs7_routes : List (Nat × Nat × Nat × Spec) := [(350, 1, 1, sp7_isValley), (383, 1, 1, sp7_laysRoutes)]
set_option maxHeartbeats 4000000 in
set_option maxRecDepth 100000 in
theorem in7_routes {M : Mm} {Q : Option AV → Mm → Prop} (hM : okM sh7 M) (hP : P7_routes M) (hQ : ∀ (v : Int) (M1 : Mm), R7_routes M v M1 → Q (some (ai v)) M1) : wp (tb7 (csL cs7_routes)) sh7 1 1 cX7_routes [] Q 400 0 [(0, ar 0)] [] M := by
  have h4 : 0 ≤ M 7 4 ∧ M 7 4 ≤ 7 := hP.2.2.2.2.1
  have h3 : 0 ≤ M 7 3 ∧ M 7 3 ≤ 3 := hP.2.2.2.1
  have hk0 : keepM M (up2 M 0 0 0) := keep_u0 keep_rf (by decide)
  have hV : vM (up2 M 0 0 0) = vM M := keep_v hk0 0
  have hP0 : okY (vM (up2 M 0 0 0)) := by rw [hV]; exact hP
  simp only [e_wp dX7_routes_0 rfl, e_wp dX7_routes_1 rfl, e_wp dX7_routes_2 rfl, e_wp dX7_routes_5 rfl, e_wp dX7_routes_6 rfl, e_wp dX7_routes_9 rfl, e_wp dX7_routes_12 rfl, e_wp dX7_routes_14 rfl, e_wp dX7_routes_15 rfl, e_wp dX7_routes_16 rfl, e_wp dX7_routes_19 rfl, e_wp dX7_routes_20 rfl, e_wp dX7_routes_23 rfl, p7_116, c7_isValley, P7_isValley, V7_isValley, cs7_routes, c7_laysRoutes, g7_362, e_iconst, e_bipush, e_sipush, e_lconst_0, e_lconst_1, e_iload, e_iload_0, e_iload_1, e_iload_2, e_iload_3, e_lload, e_lload_0, e_lload_1, e_lload_2, e_lload_3, e_aload, e_aload_0, e_aload_1, e_aload_2, e_aload_3, e_istore, e_istore_0, e_istore_1, e_istore_2, e_istore_3, e_astore, e_astore_0, e_astore_1, e_astore_2, e_astore_3, e_lstore, e_lstore_0, e_lstore_1, e_lstore_2, e_lstore_3, e_iinc, e_iadd, e_isub, e_imul, e_ladd, e_lsub, e_lmul, e_idiv, e_irem, e_ldiv, e_lrem, e_ineg, e_lneg, e_iand, e_ior, e_ixor, e_ishl, e_ishr, e_iushr, e_lcmp, e_i2l, e_l2i, e_i2b, e_i2s, e_dup_i, e_dup_r, e_pop_i, e_pop_r, e_dup2_l, e_dup2_ir, e_dup2_ii, e_ifeq, e_ifne, e_iflt, e_ifge, e_ifgt, e_ifle, e_iceq, e_icne, e_iclt, e_icge, e_icgt, e_icle, e_goto, e_switch, e_invokevirtual, e_invokestatic, e_invokespecial, e_ret0, e_ret1, e_ret2, e_ret3, ldI_s, ldL_s, ldR_s, clO_s, ctP_s, ctS_s, mgo_0, mgo_s, pjc_s, pj_0, pj_s, lk_s, rm1_0, rm1_i, rm1_r, rm1_l, rm2_0, rm2_i, rm2_r, rm2_l, csL_s, lc_lt, lc_ge, lc_gt, lc_le, lc_eq, b01_0, b01_1, b01_01, b01_n, up2_o, up2_s, up2_u, ne_eq, reduceCtorEq, Nat.reduceAdd, Nat.reduceEqDiff, Nat.reduceLT, Nat.reduceLeDiff, Int.reduceLE, Int.reduceLT, Int.reduceAdd, Int.reduceNeg, Int.reduceMul, Int.reduceSub, Int.reduceEq, Int.reduceToNat, Int.reduceNatCast, Int.cast_ofNat_Int, ↓reduceIte, and_self, List.drop_succ_cons, List.drop_zero, List.take_succ_cons, List.take_zero, List.length_cons, List.length_nil, List.reverse_cons, List.reverse_nil, List.nil_append, List.cons_append, Option.toList, true_and, and_true, or_false, false_or, or_true, true_or, forall_const, Classical.not_not, not_false_eq_true, not_true_eq_false, false_implies, true_implies, implies_true, imp_self]
  refine ⟨fun q => ⟨hP0, fun M1 hR => ?_⟩, fun q => hQ _ _ ⟨hk0, (if_neg q).symm⟩⟩
  obtain ⟨k1, k2⟩ := hR
  rw [hV] at k2
  exact hQ _ _ ⟨keep_tr hk0 k1, k2.1.symm.trans (if_pos q).symm⟩
set_option maxHeartbeats 4000000 in
set_option maxRecDepth 100000 in
theorem m7_routes : MOK cl7 sh7 tyl7 [] 14 yX7_routes cX7_routes 1 (some .int) sp7_routes := by
  refine mok_of (own := RX7) (tb := tb7 (csL cs7_routes)) (rt := 1) (fuel := 400) (fun avs M Q => []) (by decide) rfl nil_nw (tbOK7 _) rfl (csL_all ?_) ?_ ?_ ?_
  · intro q hq
    simp only [cs7_routes, List.mem_cons, List.not_mem_nil, or_false] at hq
    rcases hq with rfl | rfl
    · exact cg7_isValley (by decide)
    · exact cg7_laysRoutes (by decide)
  · intro avs M Q hsp
    obtain ⟨xs, hx⟩ := spR_un _ _ _ hsp
    obtain ⟨e, hl⟩ := unA_mkT hx
    obtain rfl := len0 hl
    have e : avs = [ar 0] := e
    subst e
    simp [szL, isL]
  · intro avs M Q hM hav hsp
    obtain ⟨xs, hx⟩ := spR_un _ _ _ hsp
    obtain ⟨e, hl⟩ := unA_mkT hx
    obtain rfl := len0 hl
    have e : avs = [ar 0] := e
    subst e
    exact in7_routes hM hsp.1 hsp.2
  · intro avs M Q hM hav hsp q hq m_ vs M1 hM1 hv hJ
    obtain ⟨xs, hx⟩ := spR_un _ _ _ hsp
    obtain ⟨e, hl⟩ := unA_mkT hx
    obtain rfl := len0 hl
    have e : avs = [ar 0] := e
    subst e
    cases hq
def A_safe (V : Vy) : Int := if 0 < V 0 8 then (routA V).1.2.2 else -2
def P7_safe (M : Mm) : Prop := okY (vM M)
def R7_safe (M : Mm) (v : Int) (M1 : Mm) : Prop := keepM M M1 ∧ v = A_safe (vM M)
def sp7_safe : Spec := spR true [] 1 (fun x M => P7_safe M) (fun x M v M1 => R7_safe M v M1)
theorem c7_safe {M : Mm} {Q : Option AV → Mm → Prop} : sp7_safe [ar 0] M Q = (P7_safe M ∧ ∀ (v : Int) (M1 : Mm), R7_safe M v M1 → Q (some (ai v)) M1) := rfl
def cs7_safe : List (Nat × Nat × Nat × Spec) := [(350, 1, 1, sp7_isValley), (383, 1, 1, sp7_laysRoutes)]
set_option maxHeartbeats 4000000 in
set_option maxRecDepth 100000 in
theorem in7_safe {M : Mm} {Q : Option AV → Mm → Prop} (hM : okM sh7 M) (hP : P7_safe M) (hQ : ∀ (v : Int) (M1 : Mm), R7_safe M v M1 → Q (some (ai v)) M1) : wp (tb7 (csL cs7_safe)) sh7 1 1 cX7_safe [] Q 400 0 [(0, ar 0)] [] M := by
  have h4 : 0 ≤ M 7 4 ∧ M 7 4 ≤ 7 := hP.2.2.2.2.1
  have h3 : 0 ≤ M 7 3 ∧ M 7 3 ≤ 3 := hP.2.2.2.1
  have hk0 : keepM M (up2 M 0 0 0) := keep_u0 keep_rf (by decide)
  have hV : vM (up2 M 0 0 0) = vM M := keep_v hk0 0
  have hP0 : okY (vM (up2 M 0 0 0)) := by rw [hV]; exact hP
  simp only [e_wp dX7_safe_0 rfl, e_wp dX7_safe_1 rfl, e_wp dX7_safe_2 rfl, e_wp dX7_safe_5 rfl, e_wp dX7_safe_6 rfl, e_wp dX7_safe_9 rfl, e_wp dX7_safe_12 rfl, e_wp dX7_safe_14 rfl, e_wp dX7_safe_15 rfl, e_wp dX7_safe_16 rfl, e_wp dX7_safe_19 rfl, e_wp dX7_safe_20 rfl, e_wp dX7_safe_23 rfl, p7_116, c7_isValley, P7_isValley, V7_isValley, cs7_safe, c7_laysRoutes, g7_371, e_iconst, e_bipush, e_sipush, e_lconst_0, e_lconst_1, e_iload, e_iload_0, e_iload_1, e_iload_2, e_iload_3, e_lload, e_lload_0, e_lload_1, e_lload_2, e_lload_3, e_aload, e_aload_0, e_aload_1, e_aload_2, e_aload_3, e_istore, e_istore_0, e_istore_1, e_istore_2, e_istore_3, e_astore, e_astore_0, e_astore_1, e_astore_2, e_astore_3, e_lstore, e_lstore_0, e_lstore_1, e_lstore_2, e_lstore_3, e_iinc, e_iadd, e_isub, e_imul, e_ladd, e_lsub, e_lmul, e_idiv, e_irem, e_ldiv, e_lrem, e_ineg, e_lneg, e_iand, e_ior, e_ixor, e_ishl, e_ishr, e_iushr, e_lcmp, e_i2l, e_l2i, e_i2b, e_i2s, e_dup_i, e_dup_r, e_pop_i, e_pop_r, e_dup2_l, e_dup2_ir, e_dup2_ii, e_ifeq, e_ifne, e_iflt, e_ifge, e_ifgt, e_ifle, e_iceq, e_icne, e_iclt, e_icge, e_icgt, e_icle, e_goto, e_switch, e_invokevirtual, e_invokestatic, e_invokespecial, e_ret0, e_ret1, e_ret2, e_ret3, ldI_s, ldL_s, ldR_s, clO_s, ctP_s, ctS_s, mgo_0, mgo_s, pjc_s, pj_0, pj_s, lk_s, rm1_0, rm1_i, rm1_r, rm1_l, rm2_0, rm2_i, rm2_r, rm2_l, csL_s, lc_lt, lc_ge, lc_gt, lc_le, lc_eq, b01_0, b01_1, b01_01, b01_n, up2_o, up2_s, up2_u, ne_eq, reduceCtorEq, Nat.reduceAdd, Nat.reduceEqDiff, Nat.reduceLT, Nat.reduceLeDiff, Int.reduceLE, Int.reduceLT, Int.reduceAdd, Int.reduceNeg, Int.reduceMul, Int.reduceSub, Int.reduceEq, Int.reduceToNat, Int.reduceNatCast, Int.cast_ofNat_Int, ↓reduceIte, and_self, List.drop_succ_cons, List.drop_zero, List.take_succ_cons, List.take_zero, List.length_cons, List.length_nil, List.reverse_cons, List.reverse_nil, List.nil_append, List.cons_append, Option.toList, true_and, and_true, or_false, false_or, or_true, true_or, forall_const, Classical.not_not, not_false_eq_true, not_true_eq_false, false_implies, true_implies, implies_true, imp_self]
  refine ⟨fun q => ⟨hP0, fun M1 hR => ?_⟩, fun q => hQ _ _ ⟨hk0, (if_neg q).symm⟩⟩
  obtain ⟨k1, k2⟩ := hR
  rw [hV] at k2
  exact hQ _ _ ⟨keep_tr hk0 k1, k2.2.1.symm.trans (if_pos q).symm⟩
set_option maxHeartbeats 4000000 in
set_option maxRecDepth 100000 in
theorem m7_safe : MOK cl7 sh7 tyl7 [] 14 yX7_safe cX7_safe 1 (some .int) sp7_safe := by
  refine mok_of (own := RX7) (tb := tb7 (csL cs7_safe)) (rt := 1) (fuel := 400) (fun avs M Q => []) (by decide) rfl nil_nw (tbOK7 _) rfl (csL_all ?_) ?_ ?_ ?_
  · intro q hq
    simp only [cs7_safe, List.mem_cons, List.not_mem_nil, or_false] at hq
    rcases hq with rfl | rfl
    · exact cg7_isValley (by decide)
    · exact cg7_laysRoutes (by decide)
  · intro avs M Q hsp
    obtain ⟨xs, hx⟩ := spR_un _ _ _ hsp
    obtain ⟨e, hl⟩ := unA_mkT hx
    obtain rfl := len0 hl
    have e : avs = [ar 0] := e
    subst e
    simp [szL, isL]
  · intro avs M Q hM hav hsp
    obtain ⟨xs, hx⟩ := spR_un _ _ _ hsp
    obtain ⟨e, hl⟩ := unA_mkT hx
    obtain rfl := len0 hl
    have e : avs = [ar 0] := e
    subst e
    exact in7_safe hM hsp.1 hsp.2
  · intro avs M Q hM hav hsp q hq m_ vs M1 hM1 hv hJ
    obtain ⟨xs, hx⟩ := spR_un _ _ _ hsp
    obtain ⟨e, hl⟩ := unA_mkT hx
    obtain rfl := len0 hl
    have e : avs = [ar 0] := e
    subst e
    cases hq
def A_route (V : Vy) (c : Int) : Int := if isC V c then (routA V).2 c.toNat else -2
def P7_route (c : Int) (M : Mm) : Prop := okY (vM M)
def R7_route (c : Int) (M : Mm) (v : Int) (M1 : Mm) : Prop := keepM M M1 ∧ v = A_route (vM M) c
def sp7_route : Spec := spR true [0] 1 (fun x M => P7_route (x 0) M) (fun x M v M1 => R7_route (x 0) M v M1)
theorem c7_route {c : Int} {M : Mm} {Q : Option AV → Mm → Prop} : sp7_route [ar 0, ai c] M Q = (P7_route c M ∧ ∀ (v : Int) (M1 : Mm), R7_route c M v M1 → Q (some (ai v)) M1) := rfl
def cs7_route : List (Nat × Nat × Nat × Spec) := [(289, 1, 2, sp7_isCart), (383, 1, 1, sp7_laysRoutes)]
set_option maxHeartbeats 4000000 in
set_option maxRecDepth 100000 in
theorem in7_route {c : Int} {M : Mm} {Q : Option AV → Mm → Prop} (hM : okM sh7 M) (h_c : i32 c) (hP : P7_route c M) (hQ : ∀ (v : Int) (M1 : Mm), R7_route c M v M1 → Q (some (ai v)) M1) : wp (tb7 (csL cs7_route)) sh7 2 1 cX7_route [] Q 400 0 [(0, ar 0), (1, ai c)] [] M := by
  have h4 : 0 ≤ M 7 4 ∧ M 7 4 ≤ 7 := hP.2.2.2.2.1
  have h3 : 0 ≤ M 7 3 ∧ M 7 3 ≤ 3 := hP.2.2.2.1
  have hk0 : keepM M (up2 M 0 0 0) := keep_u0 keep_rf (by decide)
  have hV : vM (up2 M 0 0 0) = vM M := keep_v hk0 0
  have hP0 : okY (vM (up2 M 0 0 0)) := by rw [hV]; exact hP
  simp only [e_wp dX7_route_0 rfl, e_wp dX7_route_1 rfl, e_wp dX7_route_2 rfl, e_wp dX7_route_5 rfl, e_wp dX7_route_6 rfl, e_wp dX7_route_7 rfl, e_wp dX7_route_8 rfl, e_wp dX7_route_11 rfl, e_wp dX7_route_14 rfl, e_wp dX7_route_16 rfl, e_wp dX7_route_17 rfl, e_wp dX7_route_18 rfl, e_wp dX7_route_21 rfl, e_wp dX7_route_22 rfl, e_wp dX7_route_25 rfl, e_wp dX7_route_26 rfl, e_wp dX7_route_27 rfl, p7_116, c7_isCart, P7_isCart, V7_isCart, cs7_route, c7_laysRoutes, g7_104, a7_1, w7_1, a7_2, w7_2, a7_3, w7_3, a7_4, w7_4, a7_5, w7_5, a7_6, w7_6, a7_7, w7_7, a7_8, w7_8, a7_9, w7_9, a7_10, w7_10, a7_11, w7_11, a7_12, w7_12, a7_13, w7_13, a7_14, w7_14, a7_15, w7_15, a7_16, w7_16, a7_17, w7_17, a7_18, w7_18, a7_19, w7_19, a7_20, w7_20, a7_21, w7_21, a7_22, w7_22, a7_23, w7_23, a7_24, w7_24, a7_25, w7_25, a7_26, w7_26, a7_27, w7_27, a7_28, w7_28, a7_29, w7_29, a7_30, w7_30, a7_31, w7_31, a7_32, w7_32, a7_33, w7_33, e_iconst, e_bipush, e_sipush, e_lconst_0, e_lconst_1, e_iload, e_iload_0, e_iload_1, e_iload_2, e_iload_3, e_lload, e_lload_0, e_lload_1, e_lload_2, e_lload_3, e_aload, e_aload_0, e_aload_1, e_aload_2, e_aload_3, e_istore, e_istore_0, e_istore_1, e_istore_2, e_istore_3, e_astore, e_astore_0, e_astore_1, e_astore_2, e_astore_3, e_lstore, e_lstore_0, e_lstore_1, e_lstore_2, e_lstore_3, e_iinc, e_iadd, e_isub, e_imul, e_ladd, e_lsub, e_lmul, e_idiv, e_irem, e_ldiv, e_lrem, e_ineg, e_lneg, e_iand, e_ior, e_ixor, e_ishl, e_ishr, e_iushr, e_lcmp, e_i2l, e_l2i, e_i2b, e_i2s, e_dup_i, e_dup_r, e_pop_i, e_pop_r, e_dup2_l, e_dup2_ir, e_dup2_ii, e_ifeq, e_ifne, e_iflt, e_ifge, e_ifgt, e_ifle, e_iceq, e_icne, e_iclt, e_icge, e_icgt, e_icle, e_goto, e_switch, e_invokevirtual, e_invokestatic, e_invokespecial, e_ret0, e_ret1, e_ret2, e_ret3, ldI_s, ldL_s, ldR_s, clO_s, ctP_s, ctS_s, mgo_0, mgo_s, pjc_s, pj_0, pj_s, lk_s, rm1_0, rm1_i, rm1_r, rm1_l, rm2_0, rm2_i, rm2_r, rm2_l, csL_s, lc_lt, lc_ge, lc_gt, lc_le, lc_eq, b01_0, b01_1, b01_01, b01_n, up2_o, up2_s, up2_u, ne_eq, reduceCtorEq, Nat.reduceAdd, Nat.reduceEqDiff, Nat.reduceLT, Nat.reduceLeDiff, Int.reduceLE, Int.reduceLT, Int.reduceAdd, Int.reduceNeg, Int.reduceMul, Int.reduceSub, Int.reduceEq, Int.reduceToNat, Int.reduceNatCast, Int.cast_ofNat_Int, ↓reduceIte, and_self, List.drop_succ_cons, List.drop_zero, List.take_succ_cons, List.take_zero, List.length_cons, List.length_nil, List.reverse_cons, List.reverse_nil, List.nil_append, List.cons_append, Option.toList, true_and, and_true, or_false, false_or, or_true, true_or, forall_const, Classical.not_not, not_false_eq_true, not_true_eq_false, false_implies, true_implies, implies_true, imp_self]
  refine ⟨h4, fun q => ⟨hP0, fun M1 hR => ?_⟩, fun q => hQ _ _ ⟨hk0, (if_neg q).symm⟩⟩
  obtain ⟨k1, k2⟩ := hR
  rw [hV] at k2
  have e7 : M1 7 = M 7 := keep_has (keep_tr hk0 k1)
  exact ⟨by omega, hQ _ _ ⟨keep_tr hk0 k1, (k2.2.2 c.toNat (by rw [e7]; omega)).symm.trans (if_pos q).symm⟩⟩
set_option maxHeartbeats 4000000 in
set_option maxRecDepth 100000 in
theorem m7_route : MOK cl7 sh7 tyl7 [] 14 yX7_route cX7_route 2 (some .int) sp7_route := by
  refine mok_of (own := RX7) (tb := tb7 (csL cs7_route)) (rt := 1) (fuel := 400) (fun avs M Q => []) (by decide) rfl nil_nw (tbOK7 _) rfl (csL_all ?_) ?_ ?_ ?_
  · intro q hq
    simp only [cs7_route, List.mem_cons, List.not_mem_nil, or_false] at hq
    rcases hq with rfl | rfl
    · exact cg7_isCart (by decide)
    · exact cg7_laysRoutes (by decide)
  · intro avs M Q hsp
    obtain ⟨xs, hx⟩ := spR_un _ _ _ hsp
    obtain ⟨e, hl⟩ := unA_mkT hx
    obtain ⟨c, rfl⟩ := len1 hl
    have e : avs = [ar 0, ai c] := e
    subst e
    simp [szL, isL]
  · intro avs M Q hM hav hsp
    obtain ⟨xs, hx⟩ := spR_un _ _ _ hsp
    obtain ⟨e, hl⟩ := unA_mkT hx
    obtain ⟨c, rfl⟩ := len1 hl
    have e : avs = [ar 0, ai c] := e
    subst e
    exact in7_route hM (hav (ai c) (by simp)) hsp.1 hsp.2
  · intro avs M Q hM hav hsp q hq m_ vs M1 hM1 hv hJ
    obtain ⟨xs, hx⟩ := spR_un _ _ _ hsp
    obtain ⟨e, hl⟩ := unA_mkT hx
    obtain ⟨c, rfl⟩ := len1 hl
    have e : avs = [ar 0, ai c] := e
    subst e
    cases hq
