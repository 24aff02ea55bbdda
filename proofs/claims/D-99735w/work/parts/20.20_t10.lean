/-! SagMemoryModel: orders -/
abbrev nM (M : Mm) : Cf := nC (vM M) (cM M)
abbrev ordRows : List Nat := [0, 16, 30, 17, 18, 19, 20, 21, 22, 23, 24, 25, 26, 27, 28, 29]
def ordK (t : Int) (M M1 : Mm) : Prop := frm ordRows M M1 ∧ (∀ j, ¬ j = 43 → ¬ j = 44 → ¬ j = 45 → M1 0 j = M 0 j) ∧ ∀ k : Nat, (k : Int) < t → M1 16 k = M 16 k
def acO (M : Mm) (a : Ac) : Prop := a.1.1 = M 0 43 ∧ a.1.2.1 = M 0 44 ∧ a.1.2.2 = M 0 45 ∧ ∀ k : Nat, (k : Int) < M 7 4 → a.2 k = M 30 k
def acM (M : Mm) : Ac := ((M 0 43, M 0 44, M 0 45), fun k => M 30 k)
theorem acO_M (M : Mm) : acO M (acM M) := ⟨rfl, rfl, rfl, fun _ _ => rfl⟩
def mubM (M : Mm) : Int := if M 0 43 = 100000 then 0 else M 0 44
theorem mub_ac {M : Mm} {a : Ac} (h : acO M a) : mubA a = mubM M := by
  unfold mubA mubM
  rw [h.1, h.2.1]
theorem nM_eq {M M1 : Mm} (hV : vM M1 = vM M) (hC : ∀ i j, ¬ i = 3 → cM M1 i j = cM M i j) {t n : Nat} (hn : (t : Int) + n = M 7 4) (hr : ∀ k : Nat, k < t → M1 16 k = M 16 k) : ∀ i j, ¬ (i = 3 ∧ t ≤ j ∧ j < t + n) → nM M1 i j = nM M i j := by
  intro i j h
  show (if i = 0 then cM M1 0 j else if (j : Int) < vM M1 0 4 then cM M1 i j else 0) = (if i = 0 then cM M 0 j else if (j : Int) < vM M 0 4 then cM M i j else 0)
  rw [hV, hC 0 j (by decide)]
  have e4 : vM M 0 4 = M 7 4 := rfl
  split
  · rfl
  · split
    · by_cases e : i = 3
      · rw [e]
        exact hr j (by omega)
      · exact hC i j e
    · rfl
theorem cM_ne3 {M M1 : Mm} (h0 : ∀ j, j = 24 ∨ j = 25 ∨ j = 26 → M1 0 j = M 0 j) (h1 : M1 14 = M 14) (h2 : M1 15 = M 15) : ∀ i j, ¬ i = 3 → cM M1 i j = cM M i j := by
  intro i j h
  match i with
  | 0 =>
    show (if j = 0 then M1 0 24 else if j = 1 then M1 0 25 else M1 0 26) = (if j = 0 then M 0 24 else if j = 1 then M 0 25 else M 0 26)
    rw [h0 24 (by omega), h0 25 (by omega), h0 26 (by omega)]
  | 1 => exact congrFun h1 j
  | 2 => exact congrFun h2 j
  | 3 => exact absurd rfl h
  | i + 4 => rfl
theorem ordK_rf {t : Int} {M : Mm} : ordK t M M := ⟨frm_rf, fun _ _ _ _ => rfl, fun _ _ => rfl⟩
theorem ordK_tr {t : Int} {M M1 M2 : Mm} (h : ordK t M M1) (h2 : ordK t M1 M2) : ordK t M M2 := ⟨frm_tr h.1 h2.1 (fun _ q => q), fun j a b c => (h2.2.1 j a b c).trans (h.2.1 j a b c), fun k hk => (h2.2.2 k hk).trans (h.2.2 k hk)⟩
theorem ordK_w {t t' : Int} {M M1 : Mm} (h : ordK t M M1) (ht : t' ≤ t) : ordK t' M M1 := ⟨h.1, h.2.1, fun k hk => h.2.2 k (by omega)⟩
theorem ordK_row {t : Nat} {M : Mm} {x : Int} : ordK t M (up2 M 16 t x) := ⟨frm_up frm_rf (by decide), fun j _ _ _ => up2_o (by decide), fun k hk => up2_n (by omega)⟩
theorem ordK_v {t : Int} {M M1 : Mm} (h : ordK t M M1) : vM M1 = vM M := vS_frm h.1 (by decide)
theorem ordK_c {t : Int} {M M1 : Mm} (h : ordK t M M1) : ∀ i j, ¬ i = 3 → cM M1 i j = cM M i j := cM_ne3 (fun j hj => h.2.1 j (by omega) (by omega) (by omega)) (h.1 _ (by decide)) (h.1 _ (by decide))
theorem up_row {M : Mm} {t : Nat} {x : Int} (ht : (t : Int) < M 7 4) : nM (up2 M 16 t x) = up2 (nM M) 3 t x := by
  have hV : vM (up2 M 16 t x) = vM M := ordK_v (t := t) ordK_row
  have hC := ordK_c (ordK_row (t := t) (M := M) (x := x))
  have e4 : vM M 0 4 = M 7 4 := rfl
  funext i j
  show (if i = 0 then cM (up2 M 16 t x) 0 j else if (j : Int) < vM (up2 M 16 t x) 0 4 then cM (up2 M 16 t x) i j else 0) = (if i = 3 ∧ j = t then x else if i = 0 then cM M 0 j else if (j : Int) < vM M 0 4 then cM M i j else 0)
  rw [hV, hC 0 j (by decide)]
  by_cases e : i = 3
  · subst e
    have d3 : ¬ (3 : Nat) = 0 := by decide
    by_cases z : j = t
    · subst z
      have y : (j : Int) < vM M 0 4 := by omega
      simp only [if_neg d3, if_pos y, if_pos (show (3 : Nat) = 3 ∧ j = j from ⟨rfl, rfl⟩)]
      exact up2_s
    · have z' : ¬ ((3 : Nat) = 3 ∧ j = t) := fun q => z q.2
      by_cases y : (j : Int) < vM M 0 4
      · simp only [if_neg d3, if_pos y, if_neg z']
        exact (up2_n z).trans (if_neg (fun q : True ∧ j = t => z q.2)).symm
      · simp only [if_neg d3, if_neg y]
        exact (if_neg (fun q : True ∧ j = t => z q.2)).symm
  · have e' : ¬ (i = 3 ∧ j = t) := fun q => e q.1
    simp only [if_neg e', hC i j e]
def P7_ordersFrom (d_ : Nat) (t : Int) (used : Int) (M : Mm) : Prop := okY (vM M) ∧ okCf (vM M) (cM M) ∧ (0 ≤ t ∧ t ≤ M 7 4 ∧ M 7 4 + 1 ≤ t + d_) ∧ (∀ k c : Nat, (k : Int) < t → M 16 k = c → bitP used c) ∧ (∀ k j : Nat, (k : Int) < t → (j : Int) < t → M 16 k = M 16 j → k = j) ∧ 0 ≤ mubM M ∧ mubM M + (ordL (vM M) (M 7 4 - t).toNat (nM M) t.toNat used).length ≤ 1000000000
def R7_ordersFrom (d_ : Nat) (t : Int) (used : Int) (M : Mm) (M1 : Mm) : Prop := ordK t M M1 ∧ okCf (vM M1) (cM M1) ∧ ∀ a, acO M a → acO M1 ((ordL (vM M) (M 7 4 - t).toNat (nM M) t.toNat used).foldl (keepP 3 (vM M)) a)
def sp7_ordersFrom (d_ : Nat) : Spec := spV true [0, 0] (fun x M => P7_ordersFrom d_ (x 0) (x 1) M) (fun x M M1 => R7_ordersFrom d_ (x 0) (x 1) M M1)
theorem c7_ordersFrom {d_ : Nat} {t used : Int} {M : Mm} {Q : Option AV → Mm → Prop} : sp7_ordersFrom d_ [ar 0, ai t, ai used] M Q = (P7_ordersFrom d_ t used M ∧ ∀ (M1 : Mm), R7_ordersFrom d_ t used M M1 → Q none M1) := rfl
def cs7_ordersFrom (d_ : Nat) : List (Nat × Nat × Nat × Spec) := [(286, 1, 1, sp7_carts), (333, 1, 1, sp7_runs), (339, 1, 1, sp7_sagAll), (368, 1, 1, sp7_overAll), (307, 0, 2, sp7_isBit), (374, 1, 3, sp7_ordersFrom d_)]
def J7_ordersFrom_38 (d_ : Nat) (t : Int) (used : Int) (M : Mm) (m : Nat) (t_ : Int) (n : Int) (k : Int) (M1 : Mm) : Prop := t = t_ ∧ t = M 7 4 ∧ n = sagF (vM M) (nM M) ∧ n < M 0 43 ∧ ∃ M0 : Mm, R7_runs M M0 ∧ frm [0, 30] M0 M1 ∧ (∀ j, ¬ j = 43 → ¬ j = 44 → M1 0 j = M 0 j) ∧ M1 0 43 = n ∧ M1 0 44 = 0 ∧ ∃ a : Nat, k = a ∧ (a : Int) ≤ t ∧ (∀ j : Nat, j < a → M1 30 j = M 16 j) ∧ m = 8 - a
def J7_ordersFrom_64 (d_ : Nat) (t : Int) (used : Int) (M : Mm) (m : Nat) (n : Int) (M1 : Mm) : Prop := t = M 7 4 ∧ n = sagF (vM M) (nM M) ∧ ∃ M0 : Mm, R7_runs M M0 ∧ frm [0, 30] M0 M1 ∧ (∀ j, ¬ j = 43 → ¬ j = 44 → M1 0 j = M 0 j) ∧ M1 0 43 = (if n < M 0 43 then n else M 0 43) ∧ M1 0 44 = (if n < M 0 43 then 0 else M 0 44) ∧ (∀ j : Nat, (j : Int) < t → M1 30 j = (if n < M 0 43 then M 16 j else M 30 j)) ∧ m = 0
def J7_ordersFrom_115 (d_ : Nat) (t : Int) (used : Int) (M : Mm) (m : Nat) (t_ : Int) (u_ : Int) (c : Int) (M1 : Mm) : Prop := t = t_ ∧ used = u_ ∧ t < M 7 4 ∧ ordK t M M1 ∧ okCf (vM M1) (cM M1) ∧ ∃ a : Nat, c = a ∧ (a : Int) ≤ M 7 4 ∧ (∀ x, acO M x → acO M1 ((catN (ordB (vM M) (M 7 4 - t - 1).toNat (nM M) t.toNat used) a).foldl (keepP 3 (vM M)) x)) ∧ m = 10 - a
set_option maxHeartbeats 4000000 in
set_option maxRecDepth 100000 in
theorem in7_ordersFrom {d_ : Nat} {t used : Int} {M : Mm} {Q : Option AV → Mm → Prop} (hM : okM sh7 M) (h_t : i32 t) (h_used : i32 used) (hP : P7_ordersFrom (d_ + 1) t used M) (hQ : ∀ (M1 : Mm), R7_ordersFrom (d_ + 1) t used M M1 → Q none M1) (I_38 : List AV → Mm → Prop) (hI_38 : ∀ (m_ : Nat) (y_t_ : Int) (y_n : Int) (y_k : Int) (M2 : Mm), J7_ordersFrom_38 (d_ + 1) t used M m_ y_t_ y_n y_k M2 → I_38 [ar 0, ai y_t_, ai y_n, ai y_k] M2) (I_64 : List AV → Mm → Prop) (hI_64 : ∀ (m_ : Nat) (y_n : Int) (M2 : Mm), J7_ordersFrom_64 (d_ + 1) t used M m_ y_n M2 → I_64 [ar 0, ai y_n] M2) (I_115 : List AV → Mm → Prop) (hI_115 : ∀ (m_ : Nat) (y_t_ : Int) (y_u_ : Int) (y_c : Int) (M2 : Mm), J7_ordersFrom_115 (d_ + 1) t used M m_ y_t_ y_u_ y_c M2 → I_115 [ar 0, ai y_t_, ai y_u_, ai y_c] M2) : wp (tb7 (csL (cs7_ordersFrom d_))) sh7 5 0 cX7_ordersFrom [(38, [0, 1, 3, 4], I_38), (64, [0, 3], I_64), (115, [0, 1, 2, 3], I_115)] Q 400 0 [(0, ar 0), (1, ai t), (2, ai used)] [] M := by
  obtain ⟨h1, h2, h3, h4, h5, h6, h7⟩ := id hP
  have b4 := (okY_n h1).2.1
  have b3 := (okY_n h1).1
  have b4' : 0 ≤ M 7 4 ∧ M 7 4 ≤ 7 := b4
  have b3' : 0 ≤ M 7 3 ∧ M 7 3 ≤ 3 := b3
  simp only [e_wp dX7_ordersFrom_0 rfl, e_wp dX7_ordersFrom_1 rfl, e_wp dX7_ordersFrom_2 rfl, e_wp dX7_ordersFrom_5 rfl, e_wp dX7_ordersFrom_8 rfl, e_wp dX7_ordersFrom_9 rfl, e_wp dX7_ordersFrom_12 rfl, e_wp dX7_ordersFrom_13 rfl, e_wp dX7_ordersFrom_16 rfl, e_wp dX7_ordersFrom_17 rfl, e_wp dX7_ordersFrom_18 rfl, e_wp dX7_ordersFrom_19 rfl, e_wp dX7_ordersFrom_22 rfl, e_wp dX7_ordersFrom_25 rfl, e_wp dX7_ordersFrom_26 rfl, e_wp dX7_ordersFrom_27 rfl, e_wp dX7_ordersFrom_30 rfl, e_wp dX7_ordersFrom_31 rfl, e_wp dX7_ordersFrom_32 rfl, e_wp dX7_ordersFrom_35 rfl, e_wp dX7_ordersFrom_36 rfl, e_wp dX7_ordersFrom_38 rfl, e_wp dX7_ordersFrom_40 rfl, e_wp dX7_ordersFrom_41 rfl, e_wp dX7_ordersFrom_44 rfl, e_wp dX7_ordersFrom_45 rfl, e_wp dX7_ordersFrom_48 rfl, e_wp dX7_ordersFrom_50 rfl, e_wp dX7_ordersFrom_51 rfl, e_wp dX7_ordersFrom_54 rfl, e_wp dX7_ordersFrom_56 rfl, e_wp dX7_ordersFrom_57 rfl, e_wp dX7_ordersFrom_58 rfl, e_wp dX7_ordersFrom_61 rfl, e_wp dX7_ordersFrom_64 rfl, e_wp dX7_ordersFrom_65 rfl, e_wp dX7_ordersFrom_66 rfl, e_wp dX7_ordersFrom_69 rfl, e_wp dX7_ordersFrom_70 rfl, e_wp dX7_ordersFrom_71 rfl, e_wp dX7_ordersFrom_74 rfl, e_wp dX7_ordersFrom_77 rfl, e_wp dX7_ordersFrom_78 rfl, e_wp dX7_ordersFrom_81 rfl, e_wp dX7_ordersFrom_82 rfl, e_wp dX7_ordersFrom_83 rfl, e_wp dX7_ordersFrom_86 rfl, e_wp dX7_ordersFrom_87 rfl, e_wp dX7_ordersFrom_88 rfl, e_wp dX7_ordersFrom_91 rfl, e_wp dX7_ordersFrom_92 rfl, e_wp dX7_ordersFrom_95 rfl, e_wp dX7_ordersFrom_98 rfl, e_wp dX7_ordersFrom_99 rfl, e_wp dX7_ordersFrom_102 rfl, e_wp dX7_ordersFrom_105 rfl, e_wp dX7_ordersFrom_106 rfl, e_wp dX7_ordersFrom_109 rfl, e_wp dX7_ordersFrom_112 rfl, e_wp dX7_ordersFrom_113 rfl, e_wp dX7_ordersFrom_114 rfl, e_wp dX7_ordersFrom_115 rfl, e_wp dX7_ordersFrom_116 rfl, e_wp dX7_ordersFrom_117 rfl, e_wp dX7_ordersFrom_120 rfl, e_wp dX7_ordersFrom_123 rfl, e_wp dX7_ordersFrom_124 rfl, e_wp dX7_ordersFrom_125 rfl, e_wp dX7_ordersFrom_128 rfl, e_wp dX7_ordersFrom_131 rfl, e_wp dX7_ordersFrom_134 rfl, e_wp dX7_ordersFrom_135 rfl, e_wp dX7_ordersFrom_138 rfl, e_wp dX7_ordersFrom_139 rfl, e_wp dX7_ordersFrom_140 rfl, e_wp dX7_ordersFrom_141 rfl, e_wp dX7_ordersFrom_142 rfl, e_wp dX7_ordersFrom_143 rfl, e_wp dX7_ordersFrom_144 rfl, e_wp dX7_ordersFrom_145 rfl, e_wp dX7_ordersFrom_146 rfl, e_wp dX7_ordersFrom_147 rfl, e_wp dX7_ordersFrom_148 rfl, e_wp dX7_ordersFrom_149 rfl, e_wp dX7_ordersFrom_150 rfl, e_wp dX7_ordersFrom_153 rfl, e_wp dX7_ordersFrom_156 rfl, e_wp dX7_ordersFrom_159 rfl, c7_carts, P7_carts, V7_carts, cs7_ordersFrom, c7_runs, c7_sagAll, P7_sagAll, V7_sagAll, g7_362, p7_362, p7_365, g7_104, g7_62, g7_365, c7_overAll, P7_overAll, V7_overAll, g7_371, p7_371, c7_isBit, P7_isBit, V7_isBit, c7_ordersFrom, a7_1, w7_1, a7_2, w7_2, a7_3, w7_3, a7_4, w7_4, a7_5, w7_5, a7_6, w7_6, a7_7, w7_7, a7_8, w7_8, a7_9, w7_9, a7_10, w7_10, a7_11, w7_11, a7_12, w7_12, a7_13, w7_13, a7_14, w7_14, a7_15, w7_15, a7_16, w7_16, a7_17, w7_17, a7_18, w7_18, a7_19, w7_19, a7_20, w7_20, a7_21, w7_21, a7_22, w7_22, a7_23, w7_23, a7_24, w7_24, a7_25, w7_25, a7_26, w7_26, a7_27, w7_27, a7_28, w7_28, a7_29, w7_29, a7_30, w7_30, a7_31, w7_31, a7_32, w7_32, a7_33, w7_33, e_iconst, e_bipush, e_sipush, e_lconst_0, e_lconst_1, e_iload, e_iload_0, e_iload_1, e_iload_2, e_iload_3, e_lload, e_lload_0, e_lload_1, e_lload_2, e_lload_3, e_aload, e_aload_0, e_aload_1, e_aload_2, e_aload_3, e_istore, e_istore_0, e_istore_1, e_istore_2, e_istore_3, e_astore, e_astore_0, e_astore_1, e_astore_2, e_astore_3, e_lstore, e_lstore_0, e_lstore_1, e_lstore_2, e_lstore_3, e_iinc, e_iadd, e_isub, e_imul, e_ladd, e_lsub, e_lmul, e_idiv, e_irem, e_ldiv, e_lrem, e_ineg, e_lneg, e_iand, e_ior, e_ixor, e_ishl, e_ishr, e_iushr, e_lcmp, e_i2l, e_l2i, e_i2b, e_i2s, e_dup_i, e_dup_r, e_pop_i, e_pop_r, e_dup2_l, e_dup2_ir, e_dup2_ii, e_ifeq, e_ifne, e_iflt, e_ifge, e_ifgt, e_ifle, e_iceq, e_icne, e_iclt, e_icge, e_icgt, e_icle, e_goto, e_switch, e_invokevirtual, e_invokestatic, e_invokespecial, e_ret0, e_ret1, e_ret2, e_ret3, ldI_s, ldL_s, ldR_s, clO_s, ctP_s, ctS_s, mgo_0, mgo_s, pjc_s, pj_0, pj_s, lk_s, rm1_0, rm1_i, rm1_r, rm1_l, rm2_0, rm2_i, rm2_r, rm2_l, csL_s, lc_lt, lc_ge, lc_gt, lc_le, lc_eq, b01_0, b01_1, b01_01, b01_n, up2_o, up2_s, up2_u, ne_eq, reduceCtorEq, Nat.reduceAdd, Nat.reduceEqDiff, Nat.reduceLT, Nat.reduceLeDiff, Int.reduceLE, Int.reduceLT, Int.reduceAdd, Int.reduceNeg, Int.reduceMul, Int.reduceSub, Int.reduceEq, Int.reduceToNat, Int.reduceNatCast, Int.cast_ofNat_Int, ↓reduceIte, and_self, List.drop_succ_cons, List.drop_zero, List.take_succ_cons, List.take_zero, List.length_cons, List.length_nil, List.reverse_cons, List.reverse_nil, List.nil_append, List.cons_append, Option.toList, true_and, and_true, or_false, false_or, or_true, true_or, forall_const, Classical.not_not, not_false_eq_true, not_true_eq_false, false_implies, true_implies, implies_true, imp_self]
  refine ⟨fun q => ?_, fun q => ⟨⟨h1, h2⟩, fun M1 hR => ?_⟩⟩
  · exact hI_115 10 _ _ _ _ ⟨rfl, rfl, by omega, ordK_rf, h2, 0, rfl, by omega, fun x hx => hx, rfl⟩
  · have hR' := hR
    obtain ⟨r1, r2⟩ := hR
    have e7 : M1 7 = M 7 := r1 _ (by decide)
    have e0 : M1 0 = M 0 := r1 _ (by decide)
    have es : sumN (fun b => sagP (mb M1 b)) (M1 7 3).toNat = sagF (vM M) (nM M) := by
      rw [e7]; exact sag_out r2
    rw [es, e0, e7]
    have hb : 0 ≤ sagF (vM M) (nM M) ∧ sagF (vM M) (nM M) ≤ 2376 := sagF_b h1 (okCf_n h2)
    refine ⟨⟨b3', fun b hb => (r2.1 b hb).1⟩, fun z => ?_, fun z => ?_⟩
    · refine hI_64 0 _ _ ⟨q, rfl, M1, hR', frm_rf, fun j _ _ => by rw [e0], ?_, ?_, fun j hj => ?_, rfl⟩
      · rw [if_neg (by omega), e0]
      · rw [if_neg (by omega), e0]
      · rw [if_neg (by omega), r1 _ (by decide)]
    · refine hI_38 8 _ _ _ _ ⟨rfl, q, rfl, z, M1, hR', frm_up (frm_up frm_rf (by decide)) (by decide), fun j y1 y2 => ?_, ?_, up2_s, 0, rfl, h3.1, fun j hj => by omega, rfl⟩
      · rw [up2_n (by omega), up2_n (by omega), e0]
      · rw [up2_n (by decide), up2_s]
set_option maxHeartbeats 4000000 in
set_option maxRecDepth 100000 in
theorem at7_ordersFrom_38 {d_ : Nat} {t used : Int} {M : Mm} {Q : Option AV → Mm → Prop} (hM : okM sh7 M) (h_t : i32 t) (h_used : i32 used) (hP : P7_ordersFrom (d_ + 1) t used M) (hQ : ∀ (M1 : Mm), R7_ordersFrom (d_ + 1) t used M M1 → Q none M1) {m : Nat} {t_ n k : Int} {M1 : Mm} (hM1 : okM sh7 M1) (h_t_ : i32 t_) (h_n : i32 n) (h_k : i32 k) (hJ : J7_ordersFrom_38 (d_ + 1) t used M m t_ n k M1) (I_38 : List AV → Mm → Prop) (hI_38 : ∀ (m_ : Nat) (y_t_ : Int) (y_n : Int) (y_k : Int) (M2 : Mm), m_ < m → J7_ordersFrom_38 (d_ + 1) t used M m_ y_t_ y_n y_k M2 → I_38 [ar 0, ai y_t_, ai y_n, ai y_k] M2) (I_64 : List AV → Mm → Prop) (hI_64 : ∀ (m_ : Nat) (y_n : Int) (M2 : Mm), m_ < m → J7_ordersFrom_64 (d_ + 1) t used M m_ y_n M2 → I_64 [ar 0, ai y_n] M2) (I_115 : List AV → Mm → Prop) (hI_115 : ∀ (m_ : Nat) (y_t_ : Int) (y_u_ : Int) (y_c : Int) (M2 : Mm), m_ < m → J7_ordersFrom_115 (d_ + 1) t used M m_ y_t_ y_u_ y_c M2 → I_115 [ar 0, ai y_t_, ai y_u_, ai y_c] M2) : wp (tb7 (csL (cs7_ordersFrom d_))) sh7 5 0 cX7_ordersFrom [(38, [0, 1, 3, 4], I_38), (64, [0, 3], I_64), (115, [0, 1, 2, 3], I_115)] Q 400 38 [(0, ar 0), (1, ai t_), (3, ai n), (4, ai k)] [] M1 := by
  obtain ⟨rfl, ht, rfl, hlt, M0, hR, f1, f2, f3, f4, a, rfl, ha, f5, rfl⟩ := hJ
  obtain ⟨h1, h2, h3, h4, h5, h6, h7⟩ := id hP
  have b4 := (okY_n h1).2.1
  have b4' : 0 ≤ M 7 4 ∧ M 7 4 ≤ 7 := b4
  have e16 : M1 16 = M 16 := (f1 _ (by decide)).trans (hR.1 _ (by decide))
  simp only [e_wp dX7_ordersFrom_0 rfl, e_wp dX7_ordersFrom_1 rfl, e_wp dX7_ordersFrom_2 rfl, e_wp dX7_ordersFrom_5 rfl, e_wp dX7_ordersFrom_8 rfl, e_wp dX7_ordersFrom_9 rfl, e_wp dX7_ordersFrom_12 rfl, e_wp dX7_ordersFrom_13 rfl, e_wp dX7_ordersFrom_16 rfl, e_wp dX7_ordersFrom_17 rfl, e_wp dX7_ordersFrom_18 rfl, e_wp dX7_ordersFrom_19 rfl, e_wp dX7_ordersFrom_22 rfl, e_wp dX7_ordersFrom_25 rfl, e_wp dX7_ordersFrom_26 rfl, e_wp dX7_ordersFrom_27 rfl, e_wp dX7_ordersFrom_30 rfl, e_wp dX7_ordersFrom_31 rfl, e_wp dX7_ordersFrom_32 rfl, e_wp dX7_ordersFrom_35 rfl, e_wp dX7_ordersFrom_36 rfl, e_wp dX7_ordersFrom_38 rfl, e_wp dX7_ordersFrom_40 rfl, e_wp dX7_ordersFrom_41 rfl, e_wp dX7_ordersFrom_44 rfl, e_wp dX7_ordersFrom_45 rfl, e_wp dX7_ordersFrom_48 rfl, e_wp dX7_ordersFrom_50 rfl, e_wp dX7_ordersFrom_51 rfl, e_wp dX7_ordersFrom_54 rfl, e_wp dX7_ordersFrom_56 rfl, e_wp dX7_ordersFrom_57 rfl, e_wp dX7_ordersFrom_58 rfl, e_wp dX7_ordersFrom_61 rfl, e_wp dX7_ordersFrom_64 rfl, e_wp dX7_ordersFrom_65 rfl, e_wp dX7_ordersFrom_66 rfl, e_wp dX7_ordersFrom_69 rfl, e_wp dX7_ordersFrom_70 rfl, e_wp dX7_ordersFrom_71 rfl, e_wp dX7_ordersFrom_74 rfl, e_wp dX7_ordersFrom_77 rfl, e_wp dX7_ordersFrom_78 rfl, e_wp dX7_ordersFrom_81 rfl, e_wp dX7_ordersFrom_82 rfl, e_wp dX7_ordersFrom_83 rfl, e_wp dX7_ordersFrom_86 rfl, e_wp dX7_ordersFrom_87 rfl, e_wp dX7_ordersFrom_88 rfl, e_wp dX7_ordersFrom_91 rfl, e_wp dX7_ordersFrom_92 rfl, e_wp dX7_ordersFrom_95 rfl, e_wp dX7_ordersFrom_98 rfl, e_wp dX7_ordersFrom_99 rfl, e_wp dX7_ordersFrom_102 rfl, e_wp dX7_ordersFrom_105 rfl, e_wp dX7_ordersFrom_106 rfl, e_wp dX7_ordersFrom_109 rfl, e_wp dX7_ordersFrom_112 rfl, e_wp dX7_ordersFrom_113 rfl, e_wp dX7_ordersFrom_114 rfl, e_wp dX7_ordersFrom_115 rfl, e_wp dX7_ordersFrom_116 rfl, e_wp dX7_ordersFrom_117 rfl, e_wp dX7_ordersFrom_120 rfl, e_wp dX7_ordersFrom_123 rfl, e_wp dX7_ordersFrom_124 rfl, e_wp dX7_ordersFrom_125 rfl, e_wp dX7_ordersFrom_128 rfl, e_wp dX7_ordersFrom_131 rfl, e_wp dX7_ordersFrom_134 rfl, e_wp dX7_ordersFrom_135 rfl, e_wp dX7_ordersFrom_138 rfl, e_wp dX7_ordersFrom_139 rfl, e_wp dX7_ordersFrom_140 rfl, e_wp dX7_ordersFrom_141 rfl, e_wp dX7_ordersFrom_142 rfl, e_wp dX7_ordersFrom_143 rfl, e_wp dX7_ordersFrom_144 rfl, e_wp dX7_ordersFrom_145 rfl, e_wp dX7_ordersFrom_146 rfl, e_wp dX7_ordersFrom_147 rfl, e_wp dX7_ordersFrom_148 rfl, e_wp dX7_ordersFrom_149 rfl, e_wp dX7_ordersFrom_150 rfl, e_wp dX7_ordersFrom_153 rfl, e_wp dX7_ordersFrom_156 rfl, e_wp dX7_ordersFrom_159 rfl, c7_carts, P7_carts, V7_carts, cs7_ordersFrom, c7_runs, c7_sagAll, P7_sagAll, V7_sagAll, g7_362, p7_362, p7_365, g7_104, g7_62, g7_365, c7_overAll, P7_overAll, V7_overAll, g7_371, p7_371, c7_isBit, P7_isBit, V7_isBit, c7_ordersFrom, a7_1, w7_1, a7_2, w7_2, a7_3, w7_3, a7_4, w7_4, a7_5, w7_5, a7_6, w7_6, a7_7, w7_7, a7_8, w7_8, a7_9, w7_9, a7_10, w7_10, a7_11, w7_11, a7_12, w7_12, a7_13, w7_13, a7_14, w7_14, a7_15, w7_15, a7_16, w7_16, a7_17, w7_17, a7_18, w7_18, a7_19, w7_19, a7_20, w7_20, a7_21, w7_21, a7_22, w7_22, a7_23, w7_23, a7_24, w7_24, a7_25, w7_25, a7_26, w7_26, a7_27, w7_27, a7_28, w7_28, a7_29, w7_29, a7_30, w7_30, a7_31, w7_31, a7_32, w7_32, a7_33, w7_33, e_iconst, e_bipush, e_sipush, e_lconst_0, e_lconst_1, e_iload, e_iload_0, e_iload_1, e_iload_2, e_iload_3, e_lload, e_lload_0, e_lload_1, e_lload_2, e_lload_3, e_aload, e_aload_0, e_aload_1, e_aload_2, e_aload_3, e_istore, e_istore_0, e_istore_1, e_istore_2, e_istore_3, e_astore, e_astore_0, e_astore_1, e_astore_2, e_astore_3, e_lstore, e_lstore_0, e_lstore_1, e_lstore_2, e_lstore_3, e_iinc, e_iadd, e_isub, e_imul, e_ladd, e_lsub, e_lmul, e_idiv, e_irem, e_ldiv, e_lrem, e_ineg, e_lneg, e_iand, e_ior, e_ixor, e_ishl, e_ishr, e_iushr, e_lcmp, e_i2l, e_l2i, e_i2b, e_i2s, e_dup_i, e_dup_r, e_pop_i, e_pop_r, e_dup2_l, e_dup2_ir, e_dup2_ii, e_ifeq, e_ifne, e_iflt, e_ifge, e_ifgt, e_ifle, e_iceq, e_icne, e_iclt, e_icge, e_icgt, e_icle, e_goto, e_switch, e_invokevirtual, e_invokestatic, e_invokespecial, e_ret0, e_ret1, e_ret2, e_ret3, ldI_s, ldL_s, ldR_s, clO_s, ctP_s, ctS_s, mgo_0, mgo_s, pjc_s, pj_0, pj_s, lk_s, rm1_0, rm1_i, rm1_r, rm1_l, rm2_0, rm2_i, rm2_r, rm2_l, csL_s, lc_lt, lc_ge, lc_gt, lc_le, lc_eq, b01_0, b01_1, b01_01, b01_n, up2_o, up2_s, up2_u, ne_eq, reduceCtorEq, Nat.reduceAdd, Nat.reduceEqDiff, Nat.reduceLT, Nat.reduceLeDiff, Int.reduceLE, Int.reduceLT, Int.reduceAdd, Int.reduceNeg, Int.reduceMul, Int.reduceSub, Int.reduceEq, Int.reduceToNat, Int.reduceNatCast, Int.cast_ofNat_Int, ↓reduceIte, and_self, List.drop_succ_cons, List.drop_zero, List.take_succ_cons, List.take_zero, List.length_cons, List.length_nil, List.reverse_cons, List.reverse_nil, List.nil_append, List.cons_append, Option.toList, true_and, and_true, or_false, false_or, or_true, true_or, forall_const, Classical.not_not, not_false_eq_true, not_true_eq_false, false_implies, true_implies, implies_true, imp_self, Int.toNat_natCast]
  refine ⟨fun q => ?_, fun q => ?_⟩
  · refine hI_64 0 _ _ (by omega) ⟨ht, rfl, M0, hR, f1, f2, ?_, ?_, fun j hj => ?_, rfl⟩
    · rw [if_pos hlt, f3]
    · rw [if_pos hlt, f4]
    · rw [if_pos hlt, f5 j (by omega)]
  · repeat (refine And.intro (by omega) ?_)
    refine hI_38 (8 - (a + 1)) _ _ _ _ (by omega) ⟨rfl, ht, rfl, hlt, M0, hR, frm_up f1 (by decide), fun j y1 y2 => ?_, ?_, ?_, a + 1, by omega, by omega, fun j hj => ?_, rfl⟩
    · rw [up2_o (by decide)]; exact f2 j y1 y2
    · rw [up2_o (by decide)]; exact f3
    · rw [up2_o (by decide)]; exact f4
    · by_cases e : j = a
      · rw [e, up2_s, e16]
      · rw [up2_n e]; exact f5 j (by omega)
set_option maxHeartbeats 4000000 in
set_option maxRecDepth 100000 in
theorem at7_ordersFrom_64 {d_ : Nat} {t used : Int} {M : Mm} {Q : Option AV → Mm → Prop} (hM : okM sh7 M) (h_t : i32 t) (h_used : i32 used) (hP : P7_ordersFrom (d_ + 1) t used M) (hQ : ∀ (M1 : Mm), R7_ordersFrom (d_ + 1) t used M M1 → Q none M1) {m : Nat} {n : Int} {M1 : Mm} (hM1 : okM sh7 M1) (h_n : i32 n) (hJ : J7_ordersFrom_64 (d_ + 1) t used M m n M1) (I_38 : List AV → Mm → Prop) (hI_38 : ∀ (m_ : Nat) (y_t_ : Int) (y_n : Int) (y_k : Int) (M2 : Mm), m_ < m → J7_ordersFrom_38 (d_ + 1) t used M m_ y_t_ y_n y_k M2 → I_38 [ar 0, ai y_t_, ai y_n, ai y_k] M2) (I_64 : List AV → Mm → Prop) (hI_64 : ∀ (m_ : Nat) (y_n : Int) (M2 : Mm), m_ < m → J7_ordersFrom_64 (d_ + 1) t used M m_ y_n M2 → I_64 [ar 0, ai y_n] M2) (I_115 : List AV → Mm → Prop) (hI_115 : ∀ (m_ : Nat) (y_t_ : Int) (y_u_ : Int) (y_c : Int) (M2 : Mm), m_ < m → J7_ordersFrom_115 (d_ + 1) t used M m_ y_t_ y_u_ y_c M2 → I_115 [ar 0, ai y_t_, ai y_u_, ai y_c] M2) : wp (tb7 (csL (cs7_ordersFrom d_))) sh7 5 0 cX7_ordersFrom [(38, [0, 1, 3, 4], I_38), (64, [0, 3], I_64), (115, [0, 1, 2, 3], I_115)] Q 400 64 [(0, ar 0), (3, ai n)] [] M1 := by
  obtain ⟨ht, rfl, M0, hR, f1, f2, f3, f4, f5, rfl⟩ := hJ
  obtain ⟨h1, h2, h3, h4, h5, h6, h7⟩ := id hP
  have b4 := (okY_n h1).2.1
  have b4' : 0 ≤ M 7 4 ∧ M 7 4 ≤ 7 := b4
  have hb : 0 ≤ sagF (vM M) (nM M) ∧ sagF (vM M) (nM M) ≤ 2376 := sagF_b h1 (okCf_n h2)
  obtain ⟨r1, r2⟩ := id hR
  have e7 : M1 7 = M 7 := (f1 _ (by decide)).trans (r1 _ (by decide))
  have e22 : M1 22 = M0 22 := f1 _ (by decide)
  have hK : frm ordRows M M1 := frm_tr (frm_w r1 (by decide)) f1 (by decide)
  have hi : injR (vM M) (nM M) := fun t' t'' q1 q2 q3 => by
    have q3 : M 16 t' = M 16 t'' := (nC_s (C := cM M) (i := 3) (by decide) q1).symm.trans (q3.trans (nC_s (C := cM M) (i := 3) (by decide) q2))
    have e4 : vM M 0 4 = M 7 4 := rfl
    exact h5 t' t'' (by omega) (by omega) q3
  have eo : sumN (fun c => if M1 22 c = -1 then 0 else 1) (M1 7 4).toNat = ovF (vM M) (nM M) := by
    rw [e22, e7]
    exact over_out (okCf_n h2) hi r2
  have eL : ordL (vM M) (M 7 4 - t).toNat (nM M) t.toNat used = [nM M] := by
    rw [show (M 7 4 - t).toNat = 0 by omega]
    rfl
  have e45 : M1 0 45 = M 0 45 := f2 45 (by decide) (by decide)
  have hmu : ¬ sagF (vM M) (nM M) < M 0 43 → sagF (vM M) (nM M) = M 0 43 → 0 ≤ M 0 44 ∧ M 0 44 ≤ 1000000000 := by
    intro _ z
    have : mubM M = M 0 44 := if_neg (by omega)
    omega
  have go : ∀ x y, x = (if sagF (vM M) (nM M) < M 0 43 then 1 else if sagF (vM M) (nM M) = M 0 43 then M 0 44 + 1 else M 0 44) → y = (if M 0 45 < ovF (vM M) (nM M) then ovF (vM M) (nM M) else M 0 45) → Q none (up2 (up2 M1 0 44 x) 0 45 y) := by
    intro x y hx hy
    refine hQ _ ⟨⟨frm_up (frm_up hK (by decide)) (by decide), fun j a b c => ?_, fun k hk => ?_⟩, ?_, ?_⟩
    · rw [up2_n (by omega), up2_n (by omega)]
      exact f2 j a b
    · rw [up2_o (by decide), up2_o (by decide)]
      exact congrFun ((f1 _ (by decide)).trans (r1 _ (by decide))) k
    · have hk : ordK 0 M (up2 (up2 M1 0 44 x) 0 45 y) := ⟨frm_up (frm_up hK (by decide)) (by decide), fun j a b c => by
        rw [up2_n (by omega), up2_n (by omega)]
        exact f2 j a b, fun k hk => by omega⟩
      rw [ordK_v hk]
      refine ⟨by rw [ordK_c hk 0 0 (by decide)]; exact h2.1, fun c hc => ?_⟩
      rw [ordK_c hk 1 c (by decide), ordK_c hk 2 c (by decide)]
      have : cM (up2 (up2 M1 0 44 x) 0 45 y) 3 c = cM M 3 c := by
        show up2 (up2 M1 0 44 x) 0 45 y 16 c = M 16 c
        rw [up2_o (by decide), up2_o (by decide)]
        exact congrFun ((f1 _ (by decide)).trans (r1 _ (by decide))) c
      rw [this]
      exact h2.2 c hc
    · intro A hA
      obtain ⟨a1, a2, a3, a4⟩ := hA
      rw [eL]
      show acO _ (keepP 3 (vM M) A (nM M))
      refine ⟨?_, ?_, ?_, fun k hk => ?_⟩
      · show (if sagF (vM M) (nM M) < A.1.1 then sagF (vM M) (nM M) else A.1.1) = _
        rw [a1, up2_n (by decide), up2_n (by decide)]
        exact f3.symm
      · show (if sagF (vM M) (nM M) < A.1.1 then 1 else if sagF (vM M) (nM M) = A.1.1 then A.1.2.1 + 1 else A.1.2.1) = _
        rw [a1, a2, up2_n (by decide), up2_s]
        exact hx.symm
      · show (if A.1.2.2 < ovF (vM M) (nM M) then ovF (vM M) (nM M) else A.1.2.2) = _
        rw [a3, up2_s]
        exact hy.symm
      · rw [up2_o (by decide), up2_o (by decide), e7] at hk
        rw [up2_o (by decide), up2_o (by decide), f5 k (by omega)]
        show (if sagF (vM M) (nM M) < A.1.1 then nM M 3 k else A.2 k) = _
        rw [a1, a4 k hk]
        split
        · exact nC_s (by decide) hk
        · rfl
  simp only [e_wp dX7_ordersFrom_0 rfl, e_wp dX7_ordersFrom_1 rfl, e_wp dX7_ordersFrom_2 rfl, e_wp dX7_ordersFrom_5 rfl, e_wp dX7_ordersFrom_8 rfl, e_wp dX7_ordersFrom_9 rfl, e_wp dX7_ordersFrom_12 rfl, e_wp dX7_ordersFrom_13 rfl, e_wp dX7_ordersFrom_16 rfl, e_wp dX7_ordersFrom_17 rfl, e_wp dX7_ordersFrom_18 rfl, e_wp dX7_ordersFrom_19 rfl, e_wp dX7_ordersFrom_22 rfl, e_wp dX7_ordersFrom_25 rfl, e_wp dX7_ordersFrom_26 rfl, e_wp dX7_ordersFrom_27 rfl, e_wp dX7_ordersFrom_30 rfl, e_wp dX7_ordersFrom_31 rfl, e_wp dX7_ordersFrom_32 rfl, e_wp dX7_ordersFrom_35 rfl, e_wp dX7_ordersFrom_36 rfl, e_wp dX7_ordersFrom_38 rfl, e_wp dX7_ordersFrom_40 rfl, e_wp dX7_ordersFrom_41 rfl, e_wp dX7_ordersFrom_44 rfl, e_wp dX7_ordersFrom_45 rfl, e_wp dX7_ordersFrom_48 rfl, e_wp dX7_ordersFrom_50 rfl, e_wp dX7_ordersFrom_51 rfl, e_wp dX7_ordersFrom_54 rfl, e_wp dX7_ordersFrom_56 rfl, e_wp dX7_ordersFrom_57 rfl, e_wp dX7_ordersFrom_58 rfl, e_wp dX7_ordersFrom_61 rfl, e_wp dX7_ordersFrom_64 rfl, e_wp dX7_ordersFrom_65 rfl, e_wp dX7_ordersFrom_66 rfl, e_wp dX7_ordersFrom_69 rfl, e_wp dX7_ordersFrom_70 rfl, e_wp dX7_ordersFrom_71 rfl, e_wp dX7_ordersFrom_74 rfl, e_wp dX7_ordersFrom_77 rfl, e_wp dX7_ordersFrom_78 rfl, e_wp dX7_ordersFrom_81 rfl, e_wp dX7_ordersFrom_82 rfl, e_wp dX7_ordersFrom_83 rfl, e_wp dX7_ordersFrom_86 rfl, e_wp dX7_ordersFrom_87 rfl, e_wp dX7_ordersFrom_88 rfl, e_wp dX7_ordersFrom_91 rfl, e_wp dX7_ordersFrom_92 rfl, e_wp dX7_ordersFrom_95 rfl, e_wp dX7_ordersFrom_98 rfl, e_wp dX7_ordersFrom_99 rfl, e_wp dX7_ordersFrom_102 rfl, e_wp dX7_ordersFrom_105 rfl, e_wp dX7_ordersFrom_106 rfl, e_wp dX7_ordersFrom_109 rfl, e_wp dX7_ordersFrom_112 rfl, e_wp dX7_ordersFrom_113 rfl, e_wp dX7_ordersFrom_114 rfl, e_wp dX7_ordersFrom_115 rfl, e_wp dX7_ordersFrom_116 rfl, e_wp dX7_ordersFrom_117 rfl, e_wp dX7_ordersFrom_120 rfl, e_wp dX7_ordersFrom_123 rfl, e_wp dX7_ordersFrom_124 rfl, e_wp dX7_ordersFrom_125 rfl, e_wp dX7_ordersFrom_128 rfl, e_wp dX7_ordersFrom_131 rfl, e_wp dX7_ordersFrom_134 rfl, e_wp dX7_ordersFrom_135 rfl, e_wp dX7_ordersFrom_138 rfl, e_wp dX7_ordersFrom_139 rfl, e_wp dX7_ordersFrom_140 rfl, e_wp dX7_ordersFrom_141 rfl, e_wp dX7_ordersFrom_142 rfl, e_wp dX7_ordersFrom_143 rfl, e_wp dX7_ordersFrom_144 rfl, e_wp dX7_ordersFrom_145 rfl, e_wp dX7_ordersFrom_146 rfl, e_wp dX7_ordersFrom_147 rfl, e_wp dX7_ordersFrom_148 rfl, e_wp dX7_ordersFrom_149 rfl, e_wp dX7_ordersFrom_150 rfl, e_wp dX7_ordersFrom_153 rfl, e_wp dX7_ordersFrom_156 rfl, e_wp dX7_ordersFrom_159 rfl, c7_carts, P7_carts, V7_carts, cs7_ordersFrom, c7_runs, c7_sagAll, P7_sagAll, V7_sagAll, g7_362, p7_362, p7_365, g7_104, g7_62, g7_365, c7_overAll, P7_overAll, V7_overAll, g7_371, p7_371, c7_isBit, P7_isBit, V7_isBit, c7_ordersFrom, a7_1, w7_1, a7_2, w7_2, a7_3, w7_3, a7_4, w7_4, a7_5, w7_5, a7_6, w7_6, a7_7, w7_7, a7_8, w7_8, a7_9, w7_9, a7_10, w7_10, a7_11, w7_11, a7_12, w7_12, a7_13, w7_13, a7_14, w7_14, a7_15, w7_15, a7_16, w7_16, a7_17, w7_17, a7_18, w7_18, a7_19, w7_19, a7_20, w7_20, a7_21, w7_21, a7_22, w7_22, a7_23, w7_23, a7_24, w7_24, a7_25, w7_25, a7_26, w7_26, a7_27, w7_27, a7_28, w7_28, a7_29, w7_29, a7_30, w7_30, a7_31, w7_31, a7_32, w7_32, a7_33, w7_33, e_iconst, e_bipush, e_sipush, e_lconst_0, e_lconst_1, e_iload, e_iload_0, e_iload_1, e_iload_2, e_iload_3, e_lload, e_lload_0, e_lload_1, e_lload_2, e_lload_3, e_aload, e_aload_0, e_aload_1, e_aload_2, e_aload_3, e_istore, e_istore_0, e_istore_1, e_istore_2, e_istore_3, e_astore, e_astore_0, e_astore_1, e_astore_2, e_astore_3, e_lstore, e_lstore_0, e_lstore_1, e_lstore_2, e_lstore_3, e_iinc, e_iadd, e_isub, e_imul, e_ladd, e_lsub, e_lmul, e_idiv, e_irem, e_ldiv, e_lrem, e_ineg, e_lneg, e_iand, e_ior, e_ixor, e_ishl, e_ishr, e_iushr, e_lcmp, e_i2l, e_l2i, e_i2b, e_i2s, e_dup_i, e_dup_r, e_pop_i, e_pop_r, e_dup2_l, e_dup2_ir, e_dup2_ii, e_ifeq, e_ifne, e_iflt, e_ifge, e_ifgt, e_ifle, e_iceq, e_icne, e_iclt, e_icge, e_icgt, e_icle, e_goto, e_switch, e_invokevirtual, e_invokestatic, e_invokespecial, e_ret0, e_ret1, e_ret2, e_ret3, ldI_s, ldL_s, ldR_s, clO_s, ctP_s, ctS_s, mgo_0, mgo_s, pjc_s, pj_0, pj_s, lk_s, rm1_0, rm1_i, rm1_r, rm1_l, rm2_0, rm2_i, rm2_r, rm2_l, csL_s, lc_lt, lc_ge, lc_gt, lc_le, lc_eq, b01_0, b01_1, b01_01, b01_n, up2_o, up2_s, up2_u, ne_eq, reduceCtorEq, Nat.reduceAdd, Nat.reduceEqDiff, Nat.reduceLT, Nat.reduceLeDiff, Int.reduceLE, Int.reduceLT, Int.reduceAdd, Int.reduceNeg, Int.reduceMul, Int.reduceSub, Int.reduceEq, Int.reduceToNat, Int.reduceNatCast, Int.cast_ofNat_Int, ↓reduceIte, and_self, List.drop_succ_cons, List.drop_zero, List.take_succ_cons, List.take_zero, List.length_cons, List.length_nil, List.reverse_cons, List.reverse_nil, List.nil_append, List.cons_append, Option.toList, true_and, and_true, or_false, false_or, or_true, true_or, forall_const, Classical.not_not, not_false_eq_true, not_true_eq_false, false_implies, true_implies, implies_true, imp_self]
  rw [eo, e7, up2_n (by decide), up2_n (by decide), e45, f3, f4]
  generalize hs : sagF (vM M) (nM M) = s at *
  generalize ho : ovF (vM M) (nM M) = o at *
  by_cases z : s < M 0 43
  · simp only [if_pos z] at go ⊢
    refine ⟨fun q => absurd trivial q, fun _ => ⟨by omega, b4', fun w => go _ _ rfl (if_neg (by omega)).symm, fun w => ⟨b4', go _ _ rfl (if_pos w).symm⟩⟩⟩
  · simp only [if_neg z] at go ⊢
    have hi : i32 (M 0 44) := hM 0 _ rfl 44 0 rfl
    refine ⟨fun q => ⟨?_, b4', fun w => go _ _ (by rw [if_neg q]; omega) (if_neg (by omega)).symm, fun w => ⟨b4', go _ _ (by rw [if_neg q]; omega) (if_pos w).symm⟩⟩, fun q => ?_⟩
    · rw [Int.add_zero]; exact hi
    · have := hmu z q
      exact ⟨by omega, b4', fun w => go _ _ (if_pos q).symm (if_neg (by omega)).symm, fun w => ⟨b4', go _ _ (if_pos q).symm (if_pos w).symm⟩⟩
set_option maxHeartbeats 4000000 in
set_option maxRecDepth 100000 in
theorem at7_ordersFrom_115 {d_ : Nat} {t used : Int} {M : Mm} {Q : Option AV → Mm → Prop} (hM : okM sh7 M) (h_t : i32 t) (h_used : i32 used) (hP : P7_ordersFrom (d_ + 1) t used M) (hQ : ∀ (M1 : Mm), R7_ordersFrom (d_ + 1) t used M M1 → Q none M1) {m : Nat} {t_ u_ c : Int} {M1 : Mm} (hM1 : okM sh7 M1) (h_t_ : i32 t_) (h_u_ : i32 u_) (h_c : i32 c) (hJ : J7_ordersFrom_115 (d_ + 1) t used M m t_ u_ c M1) (I_38 : List AV → Mm → Prop) (hI_38 : ∀ (m_ : Nat) (y_t_ : Int) (y_n : Int) (y_k : Int) (M2 : Mm), m_ < m → J7_ordersFrom_38 (d_ + 1) t used M m_ y_t_ y_n y_k M2 → I_38 [ar 0, ai y_t_, ai y_n, ai y_k] M2) (I_64 : List AV → Mm → Prop) (hI_64 : ∀ (m_ : Nat) (y_n : Int) (M2 : Mm), m_ < m → J7_ordersFrom_64 (d_ + 1) t used M m_ y_n M2 → I_64 [ar 0, ai y_n] M2) (I_115 : List AV → Mm → Prop) (hI_115 : ∀ (m_ : Nat) (y_t_ : Int) (y_u_ : Int) (y_c : Int) (M2 : Mm), m_ < m → J7_ordersFrom_115 (d_ + 1) t used M m_ y_t_ y_u_ y_c M2 → I_115 [ar 0, ai y_t_, ai y_u_, ai y_c] M2) : wp (tb7 (csL (cs7_ordersFrom d_))) sh7 5 0 cX7_ordersFrom [(38, [0, 1, 3, 4], I_38), (64, [0, 3], I_64), (115, [0, 1, 2, 3], I_115)] Q 400 115 [(0, ar 0), (1, ai t_), (2, ai u_), (3, ai c)] [] M1 := by
  obtain ⟨rfl, rfl, ht, hK, hC, a, rfl, ha, hA, rfl⟩ := hJ
  obtain ⟨h1, h2, h3, h4, h5, h6, h7⟩ := id hP
  have b4 := (okY_n h1).2.1
  have b4' : 0 ≤ M 7 4 ∧ M 7 4 ≤ 7 := b4
  obtain ⟨u, rfl⟩ := Int.eq_ofNat_of_zero_le h3.1
  have e7 : M1 7 = M 7 := hK.1 _ (by decide)
  have eL : ordL (vM M) (M 7 4 - u).toNat (nM M) u used = catN (ordB (vM M) (M 7 4 - u - 1).toNat (nM M) u used) (M 7 4).toNat := by
    rw [show (M 7 4 - u).toNat = (M 7 4 - u - 1).toNat + 1 by omega]
    rfl
  simp only [e_wp dX7_ordersFrom_0 rfl, e_wp dX7_ordersFrom_1 rfl, e_wp dX7_ordersFrom_2 rfl, e_wp dX7_ordersFrom_5 rfl, e_wp dX7_ordersFrom_8 rfl, e_wp dX7_ordersFrom_9 rfl, e_wp dX7_ordersFrom_12 rfl, e_wp dX7_ordersFrom_13 rfl, e_wp dX7_ordersFrom_16 rfl, e_wp dX7_ordersFrom_17 rfl, e_wp dX7_ordersFrom_18 rfl, e_wp dX7_ordersFrom_19 rfl, e_wp dX7_ordersFrom_22 rfl, e_wp dX7_ordersFrom_25 rfl, e_wp dX7_ordersFrom_26 rfl, e_wp dX7_ordersFrom_27 rfl, e_wp dX7_ordersFrom_30 rfl, e_wp dX7_ordersFrom_31 rfl, e_wp dX7_ordersFrom_32 rfl, e_wp dX7_ordersFrom_35 rfl, e_wp dX7_ordersFrom_36 rfl, e_wp dX7_ordersFrom_38 rfl, e_wp dX7_ordersFrom_40 rfl, e_wp dX7_ordersFrom_41 rfl, e_wp dX7_ordersFrom_44 rfl, e_wp dX7_ordersFrom_45 rfl, e_wp dX7_ordersFrom_48 rfl, e_wp dX7_ordersFrom_50 rfl, e_wp dX7_ordersFrom_51 rfl, e_wp dX7_ordersFrom_54 rfl, e_wp dX7_ordersFrom_56 rfl, e_wp dX7_ordersFrom_57 rfl, e_wp dX7_ordersFrom_58 rfl, e_wp dX7_ordersFrom_61 rfl, e_wp dX7_ordersFrom_64 rfl, e_wp dX7_ordersFrom_65 rfl, e_wp dX7_ordersFrom_66 rfl, e_wp dX7_ordersFrom_69 rfl, e_wp dX7_ordersFrom_70 rfl, e_wp dX7_ordersFrom_71 rfl, e_wp dX7_ordersFrom_74 rfl, e_wp dX7_ordersFrom_77 rfl, e_wp dX7_ordersFrom_78 rfl, e_wp dX7_ordersFrom_81 rfl, e_wp dX7_ordersFrom_82 rfl, e_wp dX7_ordersFrom_83 rfl, e_wp dX7_ordersFrom_86 rfl, e_wp dX7_ordersFrom_87 rfl, e_wp dX7_ordersFrom_88 rfl, e_wp dX7_ordersFrom_91 rfl, e_wp dX7_ordersFrom_92 rfl, e_wp dX7_ordersFrom_95 rfl, e_wp dX7_ordersFrom_98 rfl, e_wp dX7_ordersFrom_99 rfl, e_wp dX7_ordersFrom_102 rfl, e_wp dX7_ordersFrom_105 rfl, e_wp dX7_ordersFrom_106 rfl, e_wp dX7_ordersFrom_109 rfl, e_wp dX7_ordersFrom_112 rfl, e_wp dX7_ordersFrom_113 rfl, e_wp dX7_ordersFrom_114 rfl, e_wp dX7_ordersFrom_115 rfl, e_wp dX7_ordersFrom_116 rfl, e_wp dX7_ordersFrom_117 rfl, e_wp dX7_ordersFrom_120 rfl, e_wp dX7_ordersFrom_123 rfl, e_wp dX7_ordersFrom_124 rfl, e_wp dX7_ordersFrom_125 rfl, e_wp dX7_ordersFrom_128 rfl, e_wp dX7_ordersFrom_131 rfl, e_wp dX7_ordersFrom_134 rfl, e_wp dX7_ordersFrom_135 rfl, e_wp dX7_ordersFrom_138 rfl, e_wp dX7_ordersFrom_139 rfl, e_wp dX7_ordersFrom_140 rfl, e_wp dX7_ordersFrom_141 rfl, e_wp dX7_ordersFrom_142 rfl, e_wp dX7_ordersFrom_143 rfl, e_wp dX7_ordersFrom_144 rfl, e_wp dX7_ordersFrom_145 rfl, e_wp dX7_ordersFrom_146 rfl, e_wp dX7_ordersFrom_147 rfl, e_wp dX7_ordersFrom_148 rfl, e_wp dX7_ordersFrom_149 rfl, e_wp dX7_ordersFrom_150 rfl, e_wp dX7_ordersFrom_153 rfl, e_wp dX7_ordersFrom_156 rfl, e_wp dX7_ordersFrom_159 rfl, c7_carts, P7_carts, V7_carts, cs7_ordersFrom, c7_runs, c7_sagAll, P7_sagAll, V7_sagAll, g7_362, p7_362, p7_365, g7_104, g7_62, g7_365, c7_overAll, P7_overAll, V7_overAll, g7_371, p7_371, c7_isBit, P7_isBit, V7_isBit, c7_ordersFrom, a7_1, w7_1, a7_2, w7_2, a7_3, w7_3, a7_4, w7_4, a7_5, w7_5, a7_6, w7_6, a7_7, w7_7, a7_8, w7_8, a7_9, w7_9, a7_10, w7_10, a7_11, w7_11, a7_12, w7_12, a7_13, w7_13, a7_14, w7_14, a7_15, w7_15, a7_16, w7_16, a7_17, w7_17, a7_18, w7_18, a7_19, w7_19, a7_20, w7_20, a7_21, w7_21, a7_22, w7_22, a7_23, w7_23, a7_24, w7_24, a7_25, w7_25, a7_26, w7_26, a7_27, w7_27, a7_28, w7_28, a7_29, w7_29, a7_30, w7_30, a7_31, w7_31, a7_32, w7_32, a7_33, w7_33, e_iconst, e_bipush, e_sipush, e_lconst_0, e_lconst_1, e_iload, e_iload_0, e_iload_1, e_iload_2, e_iload_3, e_lload, e_lload_0, e_lload_1, e_lload_2, e_lload_3, e_aload, e_aload_0, e_aload_1, e_aload_2, e_aload_3, e_istore, e_istore_0, e_istore_1, e_istore_2, e_istore_3, e_astore, e_astore_0, e_astore_1, e_astore_2, e_astore_3, e_lstore, e_lstore_0, e_lstore_1, e_lstore_2, e_lstore_3, e_iinc, e_iadd, e_isub, e_imul, e_ladd, e_lsub, e_lmul, e_idiv, e_irem, e_ldiv, e_lrem, e_ineg, e_lneg, e_iand, e_ior, e_ixor, e_ishl, e_ishr, e_iushr, e_lcmp, e_i2l, e_l2i, e_i2b, e_i2s, e_dup_i, e_dup_r, e_pop_i, e_pop_r, e_dup2_l, e_dup2_ir, e_dup2_ii, e_ifeq, e_ifne, e_iflt, e_ifge, e_ifgt, e_ifle, e_iceq, e_icne, e_iclt, e_icge, e_icgt, e_icle, e_goto, e_switch, e_invokevirtual, e_invokestatic, e_invokespecial, e_ret0, e_ret1, e_ret2, e_ret3, ldI_s, ldL_s, ldR_s, clO_s, ctP_s, ctS_s, mgo_0, mgo_s, pjc_s, pj_0, pj_s, lk_s, rm1_0, rm1_i, rm1_r, rm1_l, rm2_0, rm2_i, rm2_r, rm2_l, csL_s, lc_lt, lc_ge, lc_gt, lc_le, lc_eq, b01_0, b01_1, b01_01, b01_n, up2_o, up2_s, up2_u, ne_eq, reduceCtorEq, Nat.reduceAdd, Nat.reduceEqDiff, Nat.reduceLT, Nat.reduceLeDiff, Int.reduceLE, Int.reduceLT, Int.reduceAdd, Int.reduceNeg, Int.reduceMul, Int.reduceSub, Int.reduceEq, Int.reduceToNat, Int.reduceNatCast, Int.cast_ofNat_Int, ↓reduceIte, and_self, List.drop_succ_cons, List.drop_zero, List.take_succ_cons, List.take_zero, List.length_cons, List.length_nil, List.reverse_cons, List.reverse_nil, List.nil_append, List.cons_append, Option.toList, true_and, and_true, or_false, false_or, or_true, true_or, forall_const, Classical.not_not, not_false_eq_true, not_true_eq_false, false_implies, true_implies, implies_true, imp_self, Int.toNat_natCast]
  simp only [Int.toNat_natCast] at hA h7
  rw [e7]
  refine ⟨fun q => ?_, fun q => ⟨fun z => ?_, fun z => ⟨by omega, ?_⟩⟩⟩
  · refine hQ _ ⟨hK, hC, fun x hx => ?_⟩
    rw [Int.toNat_natCast, eL, show (M 7 4).toNat = a by omega]
    exact hA x hx
  · have eV := ordK_v hK
    have hK2 : ordK (u : Nat) M (up2 M1 16 u a) := ordK_tr hK ordK_row
    have eV2 := ordK_v hK2
    have eb : ordB (vM M) (M 7 4 - u - 1).toNat (nM M) u used a = ordL (vM M) (M 7 4 - u - 1).toNat (up2 (nM M) 3 u a) (u + 1) (bor used (bshl 1 a)) := if_neg z
    have eN : ordL (vM M) (M 7 4 - u - 1).toNat (nM (up2 M1 16 u a)) (u + 1) (bor used (bshl 1 a)) = ordL (vM M) (M 7 4 - u - 1).toNat (up2 (nM M) 3 u a) (u + 1) (bor used (bshl 1 a)) := by
      rw [up_row (by rw [e7]; omega)]
      refine ordL_congr fun i j hij => ?_
      show (if i = 3 ∧ j = u then (a : Int) else nM M1 i j) = (if i = 3 ∧ j = u then (a : Int) else nM M i j)
      split
      · rfl
      · exact nM_eq eV (ordK_c hK) (t := u) (n := (M 7 4 - u).toNat) (by omega) (fun k hk => hK.2.2 k (by omega)) i j (by omega)
    have e70 : (up2 M1 16 u a) 7 = M 7 := (up2_ne (by decide)).trans e7
    have i1 : (M 7 4 - (u + 1)).toNat = (M 7 4 - u - 1).toNat := by omega
    have i2 : ((u : Int) + 1).toNat = u + 1 := by omega
    have r1 : ∀ k : Nat, k < u → up2 M1 16 u a 16 k = M 16 k := fun k hk => hK2.2.2 k (by omega)
    have hmub : 0 ≤ mubM (up2 M1 16 u a) ∧ mubM (up2 M1 16 u a) + (ordB (vM M) (M 7 4 - u - 1).toNat (nM M) u used a).length ≤ 1000000000 := by
      have x1 := hA _ (acO_M M)
      have x2 := mub_fold (i := 3) (V := vM M) (L := catN (ordB (vM M) (M 7 4 - u - 1).toNat (nM M) u used) a) (a := acM M) (by rw [mub_ac (acO_M M)]; exact h6)
      rw [mub_ac (acO_M M), mub_ac x1] at x2
      have x3 := catN_le (f := ordB (vM M) (M 7 4 - u - 1).toNat (nM M) u used) (a := a + 1) (n := (M 7 4).toNat) (by omega)
      have x4 : (catN (ordB (vM M) (M 7 4 - u - 1).toNat (nM M) u used) (a + 1)).length = (catN (ordB (vM M) (M 7 4 - u - 1).toNat (nM M) u used) a).length + (ordB (vM M) (M 7 4 - u - 1).toNat (nM M) u used a).length := List.length_append
      have x5 : mubM (up2 M1 16 u a) = mubM M1 := by
        unfold mubM
        rw [up2_o (by decide), up2_o (by decide)]
      rw [eL] at h7
      omega
    repeat (refine And.intro (by omega) ?_)
    refine ⟨⟨by rw [eV2]; exact h1, ?_, ?_, ?_, ?_, hmub.1, ?_⟩, fun M4 hR4 => ⟨by omega, ?_⟩⟩
    · rw [eV2]
      refine ⟨hC.1, fun c hc => ?_⟩
      have x := hC.2 c (by rw [eV]; exact hc)
      have x3 : 0 ≤ M1 16 c ∧ M1 16 c < vM M1 0 4 := x.2.2
      rw [eV] at x3
      refine ⟨x.1, by rw [← eV]; exact x.2.1, ?_⟩
      show 0 ≤ up2 M1 16 u a 16 c ∧ up2 M1 16 u a 16 c < vM M 0 4
      by_cases e : c = u
      · rw [e, up2_s]
        exact ⟨by omega, q⟩
      · rw [up2_n e]; exact x3
    · rw [e70]; omega
    · intro k c hk hc
      by_cases e : k = u
      · rw [e, up2_s] at hc
        have := (bit_or (u := used) (c := a) (k := c) (by omega) (by omega)).mpr (Or.inr (by omega))
        exact this
      · rw [r1 k (by omega)] at hc
        have x3 : 0 ≤ M 16 k ∧ M 16 k < M 7 4 := (h2.2 k (by show (k : Int) < M 7 4; omega)).2.2
        exact (bit_or (u := used) (c := a) (k := c) (by omega) (by omega)).mpr (Or.inl (h4 k c (by omega) hc))
    · intro k j hk hj e
      by_cases e1 : k = u <;> by_cases e2 : j = u
      · omega
      · rw [e1, up2_s, r1 j (by omega)] at e
        exact absurd (h4 j a (by omega) e.symm) z
      · rw [e2, up2_s, r1 k (by omega)] at e
        exact absurd (h4 k a (by omega) e) z
      · rw [r1 k (by omega), r1 j (by omega)] at e
        exact h5 k j (by omega) (by omega) e
    · rw [eV2, e70, i1, i2, eN, ← eb]
      exact hmub.2
    · obtain ⟨y1, y2, y3⟩ := hR4
      rw [eV2, e70, i1, i2, eN, ← eb] at y3
      refine hI_115 (10 - (a + 1)) _ _ _ _ (by omega) ⟨rfl, rfl, ht, ordK_tr hK2 (ordK_w y1 (by omega)), y2, a + 1, by omega, by omega, fun x hx => ?_, rfl⟩
      show acO M4 ((catN _ a ++ ordB (vM M) (M 7 4 - u - 1).toNat (nM M) u used a).foldl _ x)
      rw [List.foldl_append]
      refine y3 _ ?_
      obtain ⟨v1, v2, v3, v4⟩ := hA x hx
      refine ⟨?_, ?_, ?_, fun k hk => ?_⟩
      · rw [up2_o (by decide)]; exact v1
      · rw [up2_o (by decide)]; exact v2
      · rw [up2_o (by decide)]; exact v3
      · rw [up2_o (by decide)]; exact v4 k (by rw [e7, ← e70]; exact hk)
  · refine hI_115 (10 - (a + 1)) _ _ _ _ (by omega) ⟨rfl, rfl, ht, hK, hC, a + 1, by omega, by omega, fun x hx => ?_, rfl⟩
    have : ordB (vM M) (M 7 4 - u - 1).toNat (nM M) u used a = [] := if_pos z
    show acO M1 ((catN _ a ++ ordB (vM M) (M 7 4 - u - 1).toNat (nM M) u used a).foldl _ x)
    rw [this, List.append_nil]
    exact hA x hx
theorem z7_ordersFrom {t used : Int} {M : Mm} (hP : P7_ordersFrom 0 t used M) : False := by
  obtain ⟨h1, h2, h3, h4⟩ := hP
  omega
theorem r7_ordersFrom {lvl d_ : Nat} (ih : MOK cl7 sh7 tyl7 [] (4 + d_) yX7_ordersFrom cX7_ordersFrom 5 none (sp7_ordersFrom d_)) (h : 4 + d_ < lvl) : CG RX7 cl7 sh7 tyl7 [] lvl 1 374 3 (sp7_ordersFrom d_) := cg_V (sg := [0, 0]) nil_nw spV_mono spV_un ih h rfl (by decide) rfl rfl ⟨rfl, by decide, by decide, rfl⟩ q2014 q2016 qs104 q138 q2017
set_option maxHeartbeats 4000000 in
set_option maxRecDepth 100000 in
theorem m7_ordersFrom : ∀ d_ : Nat, MOK cl7 sh7 tyl7 [] (4 + d_) yX7_ordersFrom cX7_ordersFrom 5 none (sp7_ordersFrom d_) := by
  intro d_
  induction d_ with
  | zero =>
    intro l D ca ad sz avs M Q hM hav hsp
    exfalso
    obtain ⟨xs, hx⟩ := spV_un _ _ _ hsp
    obtain ⟨e, hl⟩ := unA_mkT hx
    obtain ⟨t, used, rfl⟩ := len2 hl
    have e : avs = [ar 0, ai t, ai used] := e
    subst e
    exact z7_ordersFrom hsp.1
  | succ d_ ih =>
    refine mok_of (own := RX7) (tb := tb7 (csL (cs7_ordersFrom d_))) (rt := 0) (fuel := 400) (fun avs M Q => [(38, [0, 1, 3, 4], fun m_ vs M1 => ∃ y_t_ : Int, ∃ y_n : Int, ∃ y_k : Int, vs = [ar 0, ai y_t_, ai y_n, ai y_k] ∧ J7_ordersFrom_38 (d_ + 1) (pa true [0, 0] avs 0) (pa true [0, 0] avs 1) M m_ y_t_ y_n y_k M1), (64, [0, 3], fun m_ vs M1 => ∃ y_n : Int, vs = [ar 0, ai y_n] ∧ J7_ordersFrom_64 (d_ + 1) (pa true [0, 0] avs 0) (pa true [0, 0] avs 1) M m_ y_n M1), (115, [0, 1, 2, 3], fun m_ vs M1 => ∃ y_t_ : Int, ∃ y_u_ : Int, ∃ y_c : Int, vs = [ar 0, ai y_t_, ai y_u_, ai y_c] ∧ J7_ordersFrom_115 (d_ + 1) (pa true [0, 0] avs 0) (pa true [0, 0] avs 1) M m_ y_t_ y_u_ y_c M1)]) (by decide) rfl nil_nw (tbOK7 _) rfl (csL_all ?_) ?_ ?_ ?_
    · intro q hq
      simp only [cs7_ordersFrom, List.mem_cons, List.not_mem_nil, or_false] at hq
      rcases hq with rfl | rfl | rfl | rfl | rfl | rfl
      · exact cg7_carts (by omega)
      · exact cg7_runs (by omega)
      · exact cg7_sagAll (by omega)
      · exact cg7_overAll (by omega)
      · exact cg7_isBit (by omega)
      · exact r7_ordersFrom ih (by omega)
    · intro avs M Q hsp
      obtain ⟨xs, hx⟩ := spV_un _ _ _ hsp
      obtain ⟨e, hl⟩ := unA_mkT hx
      obtain ⟨t, used, rfl⟩ := len2 hl
      have e : avs = [ar 0, ai t, ai used] := e
      subst e
      simp [szL, isL]
    · intro avs M Q hM hav hsp
      obtain ⟨xs, hx⟩ := spV_un _ _ _ hsp
      obtain ⟨e, hl⟩ := unA_mkT hx
      obtain ⟨t, used, rfl⟩ := len2 hl
      have e : avs = [ar 0, ai t, ai used] := e
      subst e
      exact in7_ordersFrom hM (hav (ai t) (by simp)) (hav (ai used) (by simp)) hsp.1 hsp.2 _ (fun m_ y_t_ y_n y_k M2 hJ => ⟨m_, y_t_, y_n, y_k, rfl, hJ⟩) _ (fun m_ y_n M2 hJ => ⟨m_, y_n, rfl, hJ⟩) _ (fun m_ y_t_ y_u_ y_c M2 hJ => ⟨m_, y_t_, y_u_, y_c, rfl, hJ⟩)
    · intro avs M Q hM hav hsp q hq m_ vs M1 hM1 hv hJ
      obtain ⟨xs, hx⟩ := spV_un _ _ _ hsp
      obtain ⟨e, hl⟩ := unA_mkT hx
      obtain ⟨t, used, rfl⟩ := len2 hl
      have e : avs = [ar 0, ai t, ai used] := e
      subst e
      simp only [List.mem_cons, List.not_mem_nil, or_false] at hq
      rcases hq with rfl | rfl | rfl
      · obtain ⟨y_t_, y_n, y_k, rfl, hJ⟩ := hJ
        exact at7_ordersFrom_38 hM (hav (ai t) (by simp)) (hav (ai used) (by simp)) hsp.1 hsp.2 hM1 (hv (1, ai y_t_) (List.mem_of_getElem? (i := 1) rfl)) (hv (3, ai y_n) (List.mem_of_getElem? (i := 2) rfl)) (hv (4, ai y_k) (List.mem_of_getElem? (i := 3) rfl)) hJ _ (fun m2 z_t_ z_n z_k M2 hm hJ2 => ⟨m2, hm, z_t_, z_n, z_k, rfl, hJ2⟩) _ (fun m2 z_n M2 hm hJ2 => ⟨m2, hm, z_n, rfl, hJ2⟩) _ (fun m2 z_t_ z_u_ z_c M2 hm hJ2 => ⟨m2, hm, z_t_, z_u_, z_c, rfl, hJ2⟩)
      · obtain ⟨y_n, rfl, hJ⟩ := hJ
        exact at7_ordersFrom_64 hM (hav (ai t) (by simp)) (hav (ai used) (by simp)) hsp.1 hsp.2 hM1 (hv (3, ai y_n) (List.mem_of_getElem? (i := 1) rfl)) hJ _ (fun m2 z_t_ z_n z_k M2 hm hJ2 => ⟨m2, hm, z_t_, z_n, z_k, rfl, hJ2⟩) _ (fun m2 z_n M2 hm hJ2 => ⟨m2, hm, z_n, rfl, hJ2⟩) _ (fun m2 z_t_ z_u_ z_c M2 hm hJ2 => ⟨m2, hm, z_t_, z_u_, z_c, rfl, hJ2⟩)
      · obtain ⟨y_t_, y_u_, y_c, rfl, hJ⟩ := hJ
        exact at7_ordersFrom_115 hM (hav (ai t) (by simp)) (hav (ai used) (by simp)) hsp.1 hsp.2 hM1 (hv (1, ai y_t_) (List.mem_of_getElem? (i := 1) rfl)) (hv (2, ai y_u_) (List.mem_of_getElem? (i := 2) rfl)) (hv (3, ai y_c) (List.mem_of_getElem? (i := 3) rfl)) hJ _ (fun m2 z_t_ z_n z_k M2 hm hJ2 => ⟨m2, hm, z_t_, z_n, z_k, rfl, hJ2⟩) _ (fun m2 z_n M2 hm hJ2 => ⟨m2, hm, z_n, rfl, hJ2⟩) _ (fun m2 z_t_ z_u_ z_c M2 hm hJ2 => ⟨m2, hm, z_t_, z_u_, z_c, rfl, hJ2⟩)
theorem cg7_ordersFrom {lvl d_ : Nat} (h : 4 + d_ < lvl) : CG RX7 cl7 sh7 tyl7 [] lvl 1 374 3 (sp7_ordersFrom d_) := r7_ordersFrom (m7_ordersFrom d_) h
theorem catN_mem {α : Type} {f : Nat → List α} {x : α} : ∀ {n : Nat}, x ∈ catN f n ↔ ∃ k, k < n ∧ x ∈ f k := by
  intro n
  induction n with
  | zero => constructor
            · intro h; cases h
            · rintro ⟨k, hk, _⟩; omega
  | succ n ih =>
    show x ∈ catN f n ++ f n ↔ _
    rw [List.mem_append, ih]
    constructor
    · rintro (⟨k, hk, h⟩ | h)
      · exact ⟨k, by omega, h⟩
      · exact ⟨n, by omega, h⟩
    · rintro ⟨k, hk, h⟩
      by_cases e : k = n
      · exact Or.inr (e ▸ h)
      · exact Or.inl ⟨k, by omega, h⟩
theorem okCf_row {V : Vy} {C : Cf} {t : Nat} {c : Nat} (h : okCf V C) (hc : (c : Int) < V 0 4) : okCf V (up2 C 3 t c) := by
  refine ⟨by rw [up2_o (by decide)]; exact h.1, fun k hk => ?_⟩
  rw [up2_o (show (1 : Nat) ≠ 3 by decide), up2_o (show (2 : Nat) ≠ 3 by decide)]
  obtain ⟨h1, h2, h3⟩ := h.2 k hk
  refine ⟨h1, h2, ?_⟩
  by_cases e : k = t
  · rw [e, up2_s]; omega
  · rw [up2_n e]; exact h3
theorem ordL_ok {V : Vy} : ∀ {n : Nat} {C : Cf} {t : Nat} {u : Int}, okCf V C → ∀ D, D ∈ ordL V n C t u → okCf V D := by
  intro n
  induction n with
  | zero =>
    intro C t u h D hD
    obtain rfl := List.mem_singleton.mp hD
    exact h
  | succ n ih =>
    intro C t u h D hD
    rw [ordL_s] at hD
    obtain ⟨k, hk, hD⟩ := catN_mem.mp hD
    have hD : D ∈ (if bitP u k then [] else ordL V n (up2 C 3 t k) (t + 1) (bor u (bshl 1 k))) := hD
    by_cases z : bitP u k
    · rw [if_pos z] at hD; cases hD
    · rw [if_neg z] at hD
      exact ih (okCf_row h (by omega)) D hD
theorem ordL_ne {V : Vy} (h4 : V 0 4 ≤ 7) : ∀ {n : Nat} {C : Cf} {t : Nat} {u : Int}, (t : Int) + n = V 0 4 → (∀ j : Nat, t ≤ j → j < 8 → ¬ bitP u j) → ∃ D, D ∈ ordL V n C t u := by
  intro n
  induction n with
  | zero => intro C t u _ _; exact ⟨C, List.mem_cons_self⟩
  | succ n ih =>
    intro C t u ht h
    obtain ⟨D, hD⟩ := ih (C := up2 C 3 t t) (t := t + 1) (u := bor u (bshl 1 t)) (by omega) (fun j h1 h2 q => by
      rcases (bit_or (by omega) h2).mp q with q | q
      · exact h j (by omega) h2 q
      · omega)
    refine ⟨D, ?_⟩
    rw [ordL_s]
    refine catN_mem.mpr ⟨t, by omega, ?_⟩
    show D ∈ (if bitP u t then [] else ordL V n (up2 C 3 t t) (t + 1) (bor u (bshl 1 t)))
    rw [if_neg (h t (by omega) (by omega))]
    exact hD
theorem fold_init {V : Vy} {i : Nat} (hY : okY V) {L : List Cf} (hL : ∀ D, D ∈ L → okCf V D) (hn : ∃ D, D ∈ L) {a a' : Ac} (h1 : a.1.1 = 100000) (h2 : a'.1.1 = 100000) (h3 : a.1.2.2 = a'.1.2.2) : L.foldl (keepP i V) a = L.foldl (keepP i V) a' := by
  cases L with
  | nil => obtain ⟨D, hD⟩ := hn; cases hD
  | cons C L =>
    have hb := sagF_b hY (hL C List.mem_cons_self)
    show L.foldl (keepP i V) (keepP i V a C) = L.foldl (keepP i V) (keepP i V a' C)
    have : keepP i V a C = keepP i V a' C := by
      unfold keepP
      rw [h1, h2, h3]
      have z : sagF V C < 100000 := by omega
      simp only [if_pos z]
    rw [this]
/-- all orders -/
def ordA (V : Vy) : Ac := (ordL V (V 0 4).toNat (tellP V) 0 0).foldl (keepP 3 V) ((100000, 0, 0), fun _ => 0)
theorem keep_tl {M M1 : Mm} (h : frm tellRows M M1) (h0 : row0 M M1) : keepM M M1 := keep_tell h h0
theorem keep_ord {t : Int} {M M1 : Mm} (h : ordK t M M1) : keepM M M1 := ⟨fun k hk => h.1 k (by revert hk; simp only [ordRows, List.mem_cons, List.not_mem_nil, or_false]; omega), fun j hj => by
  simp only [List.mem_cons, List.not_mem_nil, or_false] at hj
  exact h.2.1 j (by omega) (by omega) (by omega)⟩
def P7_laysOrders (M : Mm) : Prop := okY (vM M)
def R7_laysOrders (M : Mm) (M1 : Mm) : Prop := keepM M M1 ∧ acO M1 (ordA (vM M))
def sp7_laysOrders : Spec := spV true [] (fun x M => P7_laysOrders M) (fun x M M1 => R7_laysOrders M M1)
theorem c7_laysOrders {M : Mm} {Q : Option AV → Mm → Prop} : sp7_laysOrders [ar 0] M Q = (P7_laysOrders M ∧ ∀ (M1 : Mm), R7_laysOrders M M1 → Q none M1) := rfl
def cs7_laysOrders : List (Nat × Nat × Nat × Spec) := [(330, 1, 1, sp7_lays), (374, 1, 3, (sp7_ordersFrom 8))]
set_option maxHeartbeats 4000000 in
set_option maxRecDepth 100000 in
theorem in7_laysOrders {M : Mm} {Q : Option AV → Mm → Prop} (hM : okM sh7 M) (hP : P7_laysOrders M) (hQ : ∀ (M1 : Mm), R7_laysOrders M M1 → Q none M1) : wp (tb7 (csL cs7_laysOrders)) sh7 1 0 cX7_laysOrders [] Q 400 0 [(0, ar 0)] [] M := by
  have h4 : 0 ≤ M 7 4 ∧ M 7 4 ≤ 7 := hP.2.2.2.2.1
  simp only [e_wp dX7_laysOrders_0 rfl, e_wp dX7_laysOrders_1 rfl, e_wp dX7_laysOrders_4 rfl, e_wp dX7_laysOrders_5 rfl, e_wp dX7_laysOrders_7 rfl, e_wp dX7_laysOrders_10 rfl, e_wp dX7_laysOrders_11 rfl, e_wp dX7_laysOrders_12 rfl, e_wp dX7_laysOrders_15 rfl, e_wp dX7_laysOrders_16 rfl, e_wp dX7_laysOrders_17 rfl, e_wp dX7_laysOrders_18 rfl, e_wp dX7_laysOrders_21 rfl, c7_lays, cs7_laysOrders, k7_166, p7_362, p7_371, c7_ordersFrom, e_iconst, e_bipush, e_sipush, e_lconst_0, e_lconst_1, e_iload, e_iload_0, e_iload_1, e_iload_2, e_iload_3, e_lload, e_lload_0, e_lload_1, e_lload_2, e_lload_3, e_aload, e_aload_0, e_aload_1, e_aload_2, e_aload_3, e_istore, e_istore_0, e_istore_1, e_istore_2, e_istore_3, e_astore, e_astore_0, e_astore_1, e_astore_2, e_astore_3, e_lstore, e_lstore_0, e_lstore_1, e_lstore_2, e_lstore_3, e_iinc, e_iadd, e_isub, e_imul, e_ladd, e_lsub, e_lmul, e_idiv, e_irem, e_ldiv, e_lrem, e_ineg, e_lneg, e_iand, e_ior, e_ixor, e_ishl, e_ishr, e_iushr, e_lcmp, e_i2l, e_l2i, e_i2b, e_i2s, e_dup_i, e_dup_r, e_pop_i, e_pop_r, e_dup2_l, e_dup2_ir, e_dup2_ii, e_ifeq, e_ifne, e_iflt, e_ifge, e_ifgt, e_ifle, e_iceq, e_icne, e_iclt, e_icge, e_icgt, e_icle, e_goto, e_switch, e_invokevirtual, e_invokestatic, e_invokespecial, e_ret0, e_ret1, e_ret2, e_ret3, ldI_s, ldL_s, ldR_s, clO_s, ctP_s, ctS_s, mgo_0, mgo_s, pjc_s, pj_0, pj_s, lk_s, rm1_0, rm1_i, rm1_r, rm1_l, rm2_0, rm2_i, rm2_r, rm2_l, csL_s, lc_lt, lc_ge, lc_gt, lc_le, lc_eq, b01_0, b01_1, b01_01, b01_n, up2_o, up2_s, up2_u, ne_eq, reduceCtorEq, Nat.reduceAdd, Nat.reduceEqDiff, Nat.reduceLT, Nat.reduceLeDiff, Int.reduceLE, Int.reduceLT, Int.reduceAdd, Int.reduceNeg, Int.reduceMul, Int.reduceSub, Int.reduceEq, Int.reduceToNat, Int.reduceNatCast, Int.cast_ofNat_Int, ↓reduceIte, and_self, List.drop_succ_cons, List.drop_zero, List.take_succ_cons, List.take_zero, List.length_cons, List.length_nil, List.reverse_cons, List.reverse_nil, List.nil_append, List.cons_append, Option.toList, true_and, and_true, or_false, false_or, or_true, true_or, forall_const, Classical.not_not, not_false_eq_true, not_true_eq_false, false_implies, true_implies, implies_true, imp_self]
  refine ⟨hP, fun M1 hR => ?_⟩
  obtain ⟨r1, r2, r3⟩ := hR
  have hk : keepM M (up2 (up2 M1 0 43 100000) 0 45 0) := keep_u0 (keep_u0 (keep_tell r1 r2) (by decide)) (by decide)
  have eV : vM (up2 (up2 M1 0 43 100000) 0 45 0) = vM M := keep_v hk 0
  have e7 : (up2 (up2 M1 0 43 100000) 0 45 0) 7 = M 7 := hk.1 _ (by decide)
  have eC : cM (up2 (up2 M1 0 43 100000) 0 45 0) = cM M1 := by
    funext i j
    match i with
    | 0 =>
      show (if j = 0 then up2 (up2 M1 0 43 100000) 0 45 0 0 24 else if j = 1 then up2 (up2 M1 0 43 100000) 0 45 0 0 25 else up2 (up2 M1 0 43 100000) 0 45 0 0 26) = (if j = 0 then M1 0 24 else if j = 1 then M1 0 25 else M1 0 26)
      rw [up2_n (by decide), up2_n (by decide), up2_n (by decide), up2_n (by decide), up2_n (by decide), up2_n (by decide)]
    | 1 => rfl
    | 2 => rfl
    | 3 => rfl
    | i + 4 => rfl
  have eN : nM (up2 (up2 M1 0 43 100000) 0 45 0) = tellP (vM M) := by
    show nC (vM _) (cM _) = _
    rw [eV, eC, r3]
  have hC : okCf (vM M) (cM M1) := okCf_un (by rw [r3]; exact okCf_tell hP)
  have e0 : mubM (up2 (up2 M1 0 43 100000) 0 45 0) = 0 := if_pos (by rw [up2_n (by decide), up2_s])
  have hlen := ordL_len (V := vM M) h4.2 (n := (M 7 4).toNat) (C := tellP (vM M)) (t := 0) (u := 0)
  have hp : 7 ^ (M 7 4).toNat ≤ 7 ^ 7 := Nat.pow_le_pow_right (by omega) (by omega)
  have hp7 : (7 : Nat) ^ 7 = 823543 := by decide
  have i0 : (M 7 4 - 0).toNat = (M 7 4).toNat := by omega
  refine ⟨⟨by rw [eV]; exact hP, by rw [eV, eC]; exact hC, by rw [e7]; omega, fun k c hk => by omega, fun k j hk => by omega, by omega, ?_⟩, fun M2 hR2 => hQ _ ?_⟩
  · rw [eV, e7, eN, e0, i0]
    show (0 : Int) + ((ordL (vM M) (M 7 4).toNat (tellP (vM M)) 0 0).length : Nat) ≤ _
    omega
  · obtain ⟨s1, s2, s3⟩ := hR2
    rw [eV, e7, eN, i0] at s3
    have s4 := s3 _ (acO_M _)
    refine ⟨keep_tr hk (keep_ord s1), ?_⟩
    have := fold_init (i := 3) hP (L := ordL (vM M) (M 7 4).toNat (tellP (vM M)) 0 0) (fun D hD => ordL_ok (okCf_tell hP) D hD) (ordL_ne h4.2 (by show ((0 : Nat) : Int) + (M 7 4).toNat = M 7 4; omega) (fun j _ h => bit_z j h)) (a := acM (up2 (up2 M1 0 43 100000) 0 45 0)) (a' := ((100000, 0, 0), fun _ => 0)) ((acO_M _).1.trans ((up2_n (by decide)).trans up2_s)) rfl ((acO_M _).2.2.1.trans up2_s)
    show acO M2 ((ordL (vM M) (M 7 4).toNat (tellP (vM M)) 0 0).foldl (keepP 3 (vM M)) ((100000, 0, 0), fun _ => 0))
    rw [← this]
    exact s4
set_option maxHeartbeats 4000000 in
set_option maxRecDepth 100000 in
theorem m7_laysOrders : MOK cl7 sh7 tyl7 [] 13 yX7_laysOrders cX7_laysOrders 1 none sp7_laysOrders := by
  refine mok_of (own := RX7) (tb := tb7 (csL cs7_laysOrders)) (rt := 0) (fuel := 400) (fun avs M Q => []) (by decide) rfl nil_nw (tbOK7 _) rfl (csL_all ?_) ?_ ?_ ?_
  · intro q hq
    simp only [cs7_laysOrders, List.mem_cons, List.not_mem_nil, or_false] at hq
    rcases hq with rfl | rfl
    · exact cg7_lays (by decide)
    · exact cg7_ordersFrom (d_ := 8) (by decide)
  · intro avs M Q hsp
    obtain ⟨xs, hx⟩ := spV_un _ _ _ hsp
    obtain ⟨e, hl⟩ := unA_mkT hx
    obtain rfl := len0 hl
    have e : avs = [ar 0] := e
    subst e
    simp [szL, isL]
  · intro avs M Q hM hav hsp
    obtain ⟨xs, hx⟩ := spV_un _ _ _ hsp
    obtain ⟨e, hl⟩ := unA_mkT hx
    obtain rfl := len0 hl
    have e : avs = [ar 0] := e
    subst e
    exact in7_laysOrders hM hsp.1 hsp.2
  · intro avs M Q hM hav hsp q hq m_ vs M1 hM1 hv hJ
    obtain ⟨xs, hx⟩ := spV_un _ _ _ hsp
    obtain ⟨e, hl⟩ := unA_mkT hx
    obtain rfl := len0 hl
    have e : avs = [ar 0] := e
    subst e
    cases hq
theorem cg7_laysOrders {lvl : Nat} (h : 13 < lvl) : CG RX7 cl7 sh7 tyl7 [] lvl 1 377 1 sp7_laysOrders := cg_V (sg := []) nil_nw spV_mono spV_un m7_laysOrders h rfl (by decide) rfl rfl ⟨rfl, by decide, by decide, rfl⟩ q2010 q2012 qs103 q138 q2013
def A_least (V : Vy) : Int := if 0 < V 0 8 then (ordA V).1.1 else -2
def P7_least (M : Mm) : Prop := okY (vM M)
def R7_least (M : Mm) (v : Int) (M1 : Mm) : Prop := keepM M M1 ∧ v = A_least (vM M)
def sp7_least : Spec := spR true [] 1 (fun x M => P7_least M) (fun x M v M1 => R7_least M v M1)
theorem c7_least {M : Mm} {Q : Option AV → Mm → Prop} : sp7_least [ar 0] M Q = (P7_least M ∧ ∀ (v : Int) (M1 : Mm), R7_least M v M1 → Q (some (ai v)) M1) := rfl
def cs7_least : List (Nat × Nat × Nat × Spec) := [(350, 1, 1, sp7_isValley), (377, 1, 1, sp7_laysOrders)]
set_option maxHeartbeats 4000000 in
set_option maxRecDepth 100000 in
theorem in7_least {M : Mm} {Q : Option AV → Mm → Prop} (hM : okM sh7 M) (hP : P7_least M) (hQ : ∀ (v : Int) (M1 : Mm), R7_least M v M1 → Q (some (ai v)) M1) : wp (tb7 (csL cs7_least)) sh7 1 1 cX7_least [] Q 400 0 [(0, ar 0)] [] M := by
  have h4 : 0 ≤ M 7 4 ∧ M 7 4 ≤ 7 := hP.2.2.2.2.1
  have h3 : 0 ≤ M 7 3 ∧ M 7 3 ≤ 3 := hP.2.2.2.1
  have hk0 : keepM M (up2 M 0 0 0) := keep_u0 keep_rf (by decide)
  have hV : vM (up2 M 0 0 0) = vM M := keep_v hk0 0
  have hP0 : okY (vM (up2 M 0 0 0)) := by rw [hV]; exact hP
  simp only [e_wp dX7_least_0 rfl, e_wp dX7_least_1 rfl, e_wp dX7_least_2 rfl, e_wp dX7_least_5 rfl, e_wp dX7_least_6 rfl, e_wp dX7_least_9 rfl, e_wp dX7_least_12 rfl, e_wp dX7_least_14 rfl, e_wp dX7_least_15 rfl, e_wp dX7_least_16 rfl, e_wp dX7_least_19 rfl, e_wp dX7_least_20 rfl, e_wp dX7_least_23 rfl, p7_116, c7_isValley, P7_isValley, V7_isValley, cs7_least, c7_laysOrders, g7_362, e_iconst, e_bipush, e_sipush, e_lconst_0, e_lconst_1, e_iload, e_iload_0, e_iload_1, e_iload_2, e_iload_3, e_lload, e_lload_0, e_lload_1, e_lload_2, e_lload_3, e_aload, e_aload_0, e_aload_1, e_aload_2, e_aload_3, e_istore, e_istore_0, e_istore_1, e_istore_2, e_istore_3, e_astore, e_astore_0, e_astore_1, e_astore_2, e_astore_3, e_lstore, e_lstore_0, e_lstore_1, e_lstore_2, e_lstore_3, e_iinc, e_iadd, e_isub, e_imul, e_ladd, e_lsub, e_lmul, e_idiv, e_irem, e_ldiv, e_lrem, e_ineg, e_lneg, e_iand, e_ior, e_ixor, e_ishl, e_ishr, e_iushr, e_lcmp, e_i2l, e_l2i, e_i2b, e_i2s, e_dup_i, e_dup_r, e_pop_i, e_pop_r, e_dup2_l, e_dup2_ir, e_dup2_ii, e_ifeq, e_ifne, e_iflt, e_ifge, e_ifgt, e_ifle, e_iceq, e_icne, e_iclt, e_icge, e_icgt, e_icle, e_goto, e_switch, e_invokevirtual, e_invokestatic, e_invokespecial, e_ret0, e_ret1, e_ret2, e_ret3, ldI_s, ldL_s, ldR_s, clO_s, ctP_s, ctS_s, mgo_0, mgo_s, pjc_s, pj_0, pj_s, lk_s, rm1_0, rm1_i, rm1_r, rm1_l, rm2_0, rm2_i, rm2_r, rm2_l, csL_s, lc_lt, lc_ge, lc_gt, lc_le, lc_eq, b01_0, b01_1, b01_01, b01_n, up2_o, up2_s, up2_u, ne_eq, reduceCtorEq, Nat.reduceAdd, Nat.reduceEqDiff, Nat.reduceLT, Nat.reduceLeDiff, Int.reduceLE, Int.reduceLT, Int.reduceAdd, Int.reduceNeg, Int.reduceMul, Int.reduceSub, Int.reduceEq, Int.reduceToNat, Int.reduceNatCast, Int.cast_ofNat_Int, ↓reduceIte, and_self, List.drop_succ_cons, List.drop_zero, List.take_succ_cons, List.take_zero, List.length_cons, List.length_nil, List.reverse_cons, List.reverse_nil, List.nil_append, List.cons_append, Option.toList, true_and, and_true, or_false, false_or, or_true, true_or, forall_const, Classical.not_not, not_false_eq_true, not_true_eq_false, false_implies, true_implies, implies_true, imp_self]
  refine ⟨fun q => ⟨hP0, fun M1 hR => ?_⟩, fun q => hQ _ _ ⟨hk0, (if_neg q).symm⟩⟩
  obtain ⟨k1, k2⟩ := hR
  rw [hV] at k2
  exact hQ _ _ ⟨keep_tr hk0 k1, k2.1.symm.trans (if_pos q).symm⟩
set_option maxHeartbeats 4000000 in
set_option maxRecDepth 100000 in
theorem m7_least : MOK cl7 sh7 tyl7 [] 14 yX7_least cX7_least 1 (some .int) sp7_least := by
  refine mok_of (own := RX7) (tb := tb7 (csL cs7_least)) (rt := 1) (fuel := 400) (fun avs M Q => []) (by decide) rfl nil_nw (tbOK7 _) rfl (csL_all ?_) ?_ ?_ ?_
  · intro q hq
    simp only [cs7_least, List.mem_cons, List.not_mem_nil, or_false] at hq
    rcases hq with rfl | rfl
    · exact cg7_isValley (by decide)
    · exact cg7_laysOrders (by decide)
  · intro avs M Q hsp
    obtain ⟨xs, hx⟩ := spR_un _ _ _ hsp
    obtain ⟨e, hl⟩ := unA_mkT hx
    obtain rfl := len0 hl
    have e : avs = [ar 0] := e
    subst e
    simp [szL, isL]
  · intro avs M Q hM hav hsp
    obtain ⟨xs, hx⟩ := spR_un _ _ _ hsp
    obtain ⟨e, hl⟩ := unA_mkT hx
    obtain rfl := len0 hl
    have e : avs = [ar 0] := e
    subst e
    exact in7_least hM hsp.1 hsp.2
  · intro avs M Q hM hav hsp q hq m_ vs M1 hM1 hv hJ
    obtain ⟨xs, hx⟩ := spR_un _ _ _ hsp
    obtain ⟨e, hl⟩ := unA_mkT hx
    obtain rfl := len0 hl
    have e : avs = [ar 0] := e
    subst e
    cases hq
def A_orders (V : Vy) : Int := if 0 < V 0 8 then (ordA V).1.2.1 else -2
def P7_orders (M : Mm) : Prop := okY (vM M)
def R7_orders (M : Mm) (v : Int) (M1 : Mm) : Prop := keepM M M1 ∧ v = A_orders (vM M)
def sp7_orders : Spec := spR true [] 1 (fun x M => P7_orders M) (fun x M v M1 => R7_orders M v M1)
theorem c7_orders {M : Mm} {Q : Option AV → Mm → Prop} : sp7_orders [ar 0] M Q = (P7_orders M ∧ ∀ (v : Int) (M1 : Mm), R7_orders M v M1 → Q (some (ai v)) M1) := rfl
def cs7_orders : List (Nat × Nat × Nat × Spec) := [(350, 1, 1, sp7_isValley), (377, 1, 1, sp7_laysOrders)]
set_option maxHeartbeats 4000000 in
set_option maxRecDepth 100000 in
theorem in7_orders {M : Mm} {Q : Option AV → Mm → Prop} (hM : okM sh7 M) (hP : P7_orders M) (hQ : ∀ (v : Int) (M1 : Mm), R7_orders M v M1 → Q (some (ai v)) M1) : wp (tb7 (csL cs7_orders)) sh7 1 1 cX7_orders [] Q 400 0 [(0, ar 0)] [] M := by
  have h4 : 0 ≤ M 7 4 ∧ M 7 4 ≤ 7 := hP.2.2.2.2.1
  have h3 : 0 ≤ M 7 3 ∧ M 7 3 ≤ 3 := hP.2.2.2.1
  have hk0 : keepM M (up2 M 0 0 0) := keep_u0 keep_rf (by decide)
  have hV : vM (up2 M 0 0 0) = vM M := keep_v hk0 0
  have hP0 : okY (vM (up2 M 0 0 0)) := by rw [hV]; exact hP
  simp only [e_wp dX7_orders_0 rfl, e_wp dX7_orders_1 rfl, e_wp dX7_orders_2 rfl, e_wp dX7_orders_5 rfl, e_wp dX7_orders_6 rfl, e_wp dX7_orders_9 rfl, e_wp dX7_orders_12 rfl, e_wp dX7_orders_14 rfl, e_wp dX7_orders_15 rfl, e_wp dX7_orders_16 rfl, e_wp dX7_orders_19 rfl, e_wp dX7_orders_20 rfl, e_wp dX7_orders_23 rfl, p7_116, c7_isValley, P7_isValley, V7_isValley, cs7_orders, c7_laysOrders, g7_365, e_iconst, e_bipush, e_sipush, e_lconst_0, e_lconst_1, e_iload, e_iload_0, e_iload_1, e_iload_2, e_iload_3, e_lload, e_lload_0, e_lload_1, e_lload_2, e_lload_3, e_aload, e_aload_0, e_aload_1, e_aload_2, e_aload_3, e_istore, e_istore_0, e_istore_1, e_istore_2, e_istore_3, e_astore, e_astore_0, e_astore_1, e_astore_2, e_astore_3, e_lstore, e_lstore_0, e_lstore_1, e_lstore_2, e_lstore_3, e_iinc, e_iadd, e_isub, e_imul, e_ladd, e_lsub, e_lmul, e_idiv, e_irem, e_ldiv, e_lrem, e_ineg, e_lneg, e_iand, e_ior, e_ixor, e_ishl, e_ishr, e_iushr, e_lcmp, e_i2l, e_l2i, e_i2b, e_i2s, e_dup_i, e_dup_r, e_pop_i, e_pop_r, e_dup2_l, e_dup2_ir, e_dup2_ii, e_ifeq, e_ifne, e_iflt, e_ifge, e_ifgt, e_ifle, e_iceq, e_icne, e_iclt, e_icge, e_icgt, e_icle, e_goto, e_switch, e_invokevirtual, e_invokestatic, e_invokespecial, e_ret0, e_ret1, e_ret2, e_ret3, ldI_s, ldL_s, ldR_s, clO_s, ctP_s, ctS_s, mgo_0, mgo_s, pjc_s, pj_0, pj_s, lk_s, rm1_0, rm1_i, rm1_r, rm1_l, rm2_0, rm2_i, rm2_r, rm2_l, csL_s, lc_lt, lc_ge, lc_gt, lc_le, lc_eq, b01_0, b01_1, b01_01, b01_n, up2_o, up2_s, up2_u, ne_eq, reduceCtorEq, Nat.reduceAdd, Nat.reduceEqDiff, Nat.reduceLT, Nat.reduceLeDiff, Int.reduceLE, Int.reduceLT, Int.reduceAdd, Int.reduceNeg, Int.reduceMul, Int.reduceSub, Int.reduceEq, Int.reduceToNat, Int.reduceNatCast, Int.cast_ofNat_Int, ↓reduceIte, and_self, List.drop_succ_cons, List.drop_zero, List.take_succ_cons, List.take_zero, List.length_cons, List.length_nil, List.reverse_cons, List.reverse_nil, List.nil_append, List.cons_append, Option.toList, true_and, and_true, or_false, false_or, or_true, true_or, forall_const, Classical.not_not, not_false_eq_true, not_true_eq_false, false_implies, true_implies, implies_true, imp_self]
  refine ⟨fun q => ⟨hP0, fun M1 hR => ?_⟩, fun q => hQ _ _ ⟨hk0, (if_neg q).symm⟩⟩
  obtain ⟨k1, k2⟩ := hR
  rw [hV] at k2
  exact hQ _ _ ⟨keep_tr hk0 k1, k2.2.1.symm.trans (if_pos q).symm⟩
set_option maxHeartbeats 4000000 in
set_option maxRecDepth 100000 in
theorem m7_orders : MOK cl7 sh7 tyl7 [] 14 yX7_orders cX7_orders 1 (some .int) sp7_orders := by
  refine mok_of (own := RX7) (tb := tb7 (csL cs7_orders)) (rt := 1) (fuel := 400) (fun avs M Q => []) (by decide) rfl nil_nw (tbOK7 _) rfl (csL_all ?_) ?_ ?_ ?_
  · intro q hq
    simp only [cs7_orders, List.mem_cons, List.not_mem_nil, or_false] at hq
    rcases hq with rfl | rfl
    · exact cg7_isValley (by decide)
    · exact cg7_laysOrders (by decide)
  · intro avs M Q hsp
    obtain ⟨xs, hx⟩ := spR_un _ _ _ hsp
    obtain ⟨e, hl⟩ := unA_mkT hx
    obtain rfl := len0 hl
    have e : avs = [ar 0] := e
    subst e
    simp [szL, isL]
  · intro avs M Q hM hav hsp
    obtain ⟨xs, hx⟩ := spR_un _ _ _ hsp
    obtain ⟨e, hl⟩ := unA_mkT hx
    obtain rfl := len0 hl
    have e : avs = [ar 0] := e
    subst e
    exact in7_orders hM hsp.1 hsp.2
  · intro avs M Q hM hav hsp q hq m_ vs M1 hM1 hv hJ
    obtain ⟨xs, hx⟩ := spR_un _ _ _ hsp
    obtain ⟨e, hl⟩ := unA_mkT hx
    obtain rfl := len0 hl
    have e : avs = [ar 0] := e
    subst e
    cases hq
def A_across (V : Vy) : Int := if 0 < V 0 8 then (ordA V).1.2.2 else -2
def P7_across (M : Mm) : Prop := okY (vM M)
def R7_across (M : Mm) (v : Int) (M1 : Mm) : Prop := keepM M M1 ∧ v = A_across (vM M)
def sp7_across : Spec := spR true [] 1 (fun x M => P7_across M) (fun x M v M1 => R7_across M v M1)
theorem c7_across {M : Mm} {Q : Option AV → Mm → Prop} : sp7_across [ar 0] M Q = (P7_across M ∧ ∀ (v : Int) (M1 : Mm), R7_across M v M1 → Q (some (ai v)) M1) := rfl
def cs7_across : List (Nat × Nat × Nat × Spec) := [(350, 1, 1, sp7_isValley), (377, 1, 1, sp7_laysOrders)]
set_option maxHeartbeats 4000000 in
set_option maxRecDepth 100000 in
theorem in7_across {M : Mm} {Q : Option AV → Mm → Prop} (hM : okM sh7 M) (hP : P7_across M) (hQ : ∀ (v : Int) (M1 : Mm), R7_across M v M1 → Q (some (ai v)) M1) : wp (tb7 (csL cs7_across)) sh7 1 1 cX7_across [] Q 400 0 [(0, ar 0)] [] M := by
  have h4 : 0 ≤ M 7 4 ∧ M 7 4 ≤ 7 := hP.2.2.2.2.1
  have h3 : 0 ≤ M 7 3 ∧ M 7 3 ≤ 3 := hP.2.2.2.1
  have hk0 : keepM M (up2 M 0 0 0) := keep_u0 keep_rf (by decide)
  have hV : vM (up2 M 0 0 0) = vM M := keep_v hk0 0
  have hP0 : okY (vM (up2 M 0 0 0)) := by rw [hV]; exact hP
  simp only [e_wp dX7_across_0 rfl, e_wp dX7_across_1 rfl, e_wp dX7_across_2 rfl, e_wp dX7_across_5 rfl, e_wp dX7_across_6 rfl, e_wp dX7_across_9 rfl, e_wp dX7_across_12 rfl, e_wp dX7_across_14 rfl, e_wp dX7_across_15 rfl, e_wp dX7_across_16 rfl, e_wp dX7_across_19 rfl, e_wp dX7_across_20 rfl, e_wp dX7_across_23 rfl, p7_116, c7_isValley, P7_isValley, V7_isValley, cs7_across, c7_laysOrders, g7_371, e_iconst, e_bipush, e_sipush, e_lconst_0, e_lconst_1, e_iload, e_iload_0, e_iload_1, e_iload_2, e_iload_3, e_lload, e_lload_0, e_lload_1, e_lload_2, e_lload_3, e_aload, e_aload_0, e_aload_1, e_aload_2, e_aload_3, e_istore, e_istore_0, e_istore_1, e_istore_2, e_istore_3, e_astore, e_astore_0, e_astore_1, e_astore_2, e_astore_3, e_lstore, e_lstore_0, e_lstore_1, e_lstore_2, e_lstore_3, e_iinc, e_iadd, e_isub, e_imul, e_ladd, e_lsub, e_lmul, e_idiv, e_irem, e_ldiv, e_lrem, e_ineg, e_lneg, e_iand, e_ior, e_ixor, e_ishl, e_ishr, e_iushr, e_lcmp, e_i2l, e_l2i, e_i2b, e_i2s, e_dup_i, e_dup_r, e_pop_i, e_pop_r, e_dup2_l, e_dup2_ir, e_dup2_ii, e_ifeq, e_ifne, e_iflt, e_ifge, e_ifgt, e_ifle, e_iceq, e_icne, e_iclt, e_icge, e_icgt, e_icle, e_goto, e_switch, e_invokevirtual, e_invokestatic, e_invokespecial, e_ret0, e_ret1, e_ret2, e_ret3, ldI_s, ldL_s, ldR_s, clO_s, ctP_s, ctS_s, mgo_0, mgo_s, pjc_s, pj_0, pj_s, lk_s, rm1_0, rm1_i, rm1_r, rm1_l, rm2_0, rm2_i, rm2_r, rm2_l, csL_s, lc_lt, lc_ge, lc_gt, lc_le, lc_eq, b01_0, b01_1, b01_01, b01_n, up2_o, up2_s, up2_u, ne_eq, reduceCtorEq, Nat.reduceAdd, Nat.reduceEqDiff, Nat.reduceLT, Nat.reduceLeDiff, Int.reduceLE, Int.reduceLT, Int.reduceAdd, Int.reduceNeg, Int.reduceMul, Int.reduceSub, Int.reduceEq, Int.reduceToNat, Int.reduceNatCast, Int.cast_ofNat_Int, ↓reduceIte, and_self, List.drop_succ_cons, List.drop_zero, List.take_succ_cons, List.take_zero, List.length_cons, List.length_nil, List.reverse_cons, List.reverse_nil, List.nil_append, List.cons_append, Option.toList, true_and, and_true, or_false, false_or, or_true, true_or, forall_const, Classical.not_not, not_false_eq_true, not_true_eq_false, false_implies, true_implies, implies_true, imp_self]
  refine ⟨fun q => ⟨hP0, fun M1 hR => ?_⟩, fun q => hQ _ _ ⟨hk0, (if_neg q).symm⟩⟩
  obtain ⟨k1, k2⟩ := hR
  rw [hV] at k2
  exact hQ _ _ ⟨keep_tr hk0 k1, k2.2.2.1.symm.trans (if_pos q).symm⟩
set_option maxHeartbeats 4000000 in
set_option maxRecDepth 100000 in
theorem m7_across : MOK cl7 sh7 tyl7 [] 14 yX7_across cX7_across 1 (some .int) sp7_across := by
  refine mok_of (own := RX7) (tb := tb7 (csL cs7_across)) (rt := 1) (fuel := 400) (fun avs M Q => []) (by decide) rfl nil_nw (tbOK7 _) rfl (csL_all ?_) ?_ ?_ ?_
  · intro q hq
    simp only [cs7_across, List.mem_cons, List.not_mem_nil, or_false] at hq
    rcases hq with rfl | rfl
    · exact cg7_isValley (by decide)
    · exact cg7_laysOrders (by decide)
  · intro avs M Q hsp
    obtain ⟨xs, hx⟩ := spR_un _ _ _ hsp
    obtain ⟨e, hl⟩ := unA_mkT hx
    obtain rfl := len0 hl
    have e : avs = [ar 0] := e
    subst e
    simp [szL, isL]
  · intro avs M Q hM hav hsp
    obtain ⟨xs, hx⟩ := spR_un _ _ _ hsp
    obtain ⟨e, hl⟩ := unA_mkT hx
    obtain rfl := len0 hl
    have e : avs = [ar 0] := e
    subst e
    exact in7_across hM hsp.1 hsp.2
  · intro avs M Q hM hav hsp q hq m_ vs M1 hM1 hv hJ
    obtain ⟨xs, hx⟩ := spR_un _ _ _ hsp
    obtain ⟨e, hl⟩ := unA_mkT hx
    obtain rfl := len0 hl
    have e : avs = [ar 0] := e
    subst e
    cases hq
def A_order (V : Vy) (c : Int) : Int := if isC V c then (ordA V).2 c.toNat else -2
def P7_order (c : Int) (M : Mm) : Prop := okY (vM M)
def R7_order (c : Int) (M : Mm) (v : Int) (M1 : Mm) : Prop := keepM M M1 ∧ v = A_order (vM M) c
def sp7_order : Spec := spR true [0] 1 (fun x M => P7_order (x 0) M) (fun x M v M1 => R7_order (x 0) M v M1)
theorem c7_order {c : Int} {M : Mm} {Q : Option AV → Mm → Prop} : sp7_order [ar 0, ai c] M Q = (P7_order c M ∧ ∀ (v : Int) (M1 : Mm), R7_order c M v M1 → Q (some (ai v)) M1) := rfl
def cs7_order : List (Nat × Nat × Nat × Spec) := [(289, 1, 2, sp7_isCart), (377, 1, 1, sp7_laysOrders)]
set_option maxHeartbeats 4000000 in
set_option maxRecDepth 100000 in
theorem in7_order {c : Int} {M : Mm} {Q : Option AV → Mm → Prop} (hM : okM sh7 M) (h_c : i32 c) (hP : P7_order c M) (hQ : ∀ (v : Int) (M1 : Mm), R7_order c M v M1 → Q (some (ai v)) M1) : wp (tb7 (csL cs7_order)) sh7 2 1 cX7_order [] Q 400 0 [(0, ar 0), (1, ai c)] [] M := by
  have h4 : 0 ≤ M 7 4 ∧ M 7 4 ≤ 7 := hP.2.2.2.2.1
  have h3 : 0 ≤ M 7 3 ∧ M 7 3 ≤ 3 := hP.2.2.2.1
  have hk0 : keepM M (up2 M 0 0 0) := keep_u0 keep_rf (by decide)
  have hV : vM (up2 M 0 0 0) = vM M := keep_v hk0 0
  have hP0 : okY (vM (up2 M 0 0 0)) := by rw [hV]; exact hP
  simp only [e_wp dX7_order_0 rfl, e_wp dX7_order_1 rfl, e_wp dX7_order_2 rfl, e_wp dX7_order_5 rfl, e_wp dX7_order_6 rfl, e_wp dX7_order_7 rfl, e_wp dX7_order_8 rfl, e_wp dX7_order_11 rfl, e_wp dX7_order_14 rfl, e_wp dX7_order_16 rfl, e_wp dX7_order_17 rfl, e_wp dX7_order_18 rfl, e_wp dX7_order_21 rfl, e_wp dX7_order_22 rfl, e_wp dX7_order_25 rfl, e_wp dX7_order_26 rfl, e_wp dX7_order_27 rfl, p7_116, c7_isCart, P7_isCart, V7_isCart, cs7_order, c7_laysOrders, g7_104, a7_1, w7_1, a7_2, w7_2, a7_3, w7_3, a7_4, w7_4, a7_5, w7_5, a7_6, w7_6, a7_7, w7_7, a7_8, w7_8, a7_9, w7_9, a7_10, w7_10, a7_11, w7_11, a7_12, w7_12, a7_13, w7_13, a7_14, w7_14, a7_15, w7_15, a7_16, w7_16, a7_17, w7_17, a7_18, w7_18, a7_19, w7_19, a7_20, w7_20, a7_21, w7_21, a7_22, w7_22, a7_23, w7_23, a7_24, w7_24, a7_25, w7_25, a7_26, w7_26, a7_27, w7_27, a7_28, w7_28, a7_29, w7_29, a7_30, w7_30, a7_31, w7_31, a7_32, w7_32, a7_33, w7_33, e_iconst, e_bipush, e_sipush, e_lconst_0, e_lconst_1, e_iload, e_iload_0, e_iload_1, e_iload_2, e_iload_3, e_lload, e_lload_0, e_lload_1, e_lload_2, e_lload_3, e_aload, e_aload_0, e_aload_1, e_aload_2, e_aload_3, e_istore, e_istore_0, e_istore_1, e_istore_2, e_istore_3, e_astore, e_astore_0, e_astore_1, e_astore_2, e_astore_3, e_lstore, e_lstore_0, e_lstore_1, e_lstore_2, e_lstore_3, e_iinc, e_iadd, e_isub, e_imul, e_ladd, e_lsub, e_lmul, e_idiv, e_irem, e_ldiv, e_lrem, e_ineg, e_lneg, e_iand, e_ior, e_ixor, e_ishl, e_ishr, e_iushr, e_lcmp, e_i2l, e_l2i, e_i2b, e_i2s, e_dup_i, e_dup_r, e_pop_i, e_pop_r, e_dup2_l, e_dup2_ir, e_dup2_ii, e_ifeq, e_ifne, e_iflt, e_ifge, e_ifgt, e_ifle, e_iceq, e_icne, e_iclt, e_icge, e_icgt, e_icle, e_goto, e_switch, e_invokevirtual, e_invokestatic, e_invokespecial, e_ret0, e_ret1, e_ret2, e_ret3, ldI_s, ldL_s, ldR_s, clO_s, ctP_s, ctS_s, mgo_0, mgo_s, pjc_s, pj_0, pj_s, lk_s, rm1_0, rm1_i, rm1_r, rm1_l, rm2_0, rm2_i, rm2_r, rm2_l, csL_s, lc_lt, lc_ge, lc_gt, lc_le, lc_eq, b01_0, b01_1, b01_01, b01_n, up2_o, up2_s, up2_u, ne_eq, reduceCtorEq, Nat.reduceAdd, Nat.reduceEqDiff, Nat.reduceLT, Nat.reduceLeDiff, Int.reduceLE, Int.reduceLT, Int.reduceAdd, Int.reduceNeg, Int.reduceMul, Int.reduceSub, Int.reduceEq, Int.reduceToNat, Int.reduceNatCast, Int.cast_ofNat_Int, ↓reduceIte, and_self, List.drop_succ_cons, List.drop_zero, List.take_succ_cons, List.take_zero, List.length_cons, List.length_nil, List.reverse_cons, List.reverse_nil, List.nil_append, List.cons_append, Option.toList, true_and, and_true, or_false, false_or, or_true, true_or, forall_const, Classical.not_not, not_false_eq_true, not_true_eq_false, false_implies, true_implies, implies_true, imp_self]
  refine ⟨h4, fun q => ⟨hP0, fun M1 hR => ?_⟩, fun q => hQ _ _ ⟨hk0, (if_neg q).symm⟩⟩
  obtain ⟨k1, k2⟩ := hR
  rw [hV] at k2
  have e7 : M1 7 = M 7 := keep_has (keep_tr hk0 k1)
  exact ⟨by omega, hQ _ _ ⟨keep_tr hk0 k1, (k2.2.2.2 c.toNat (by rw [e7]; omega)).symm.trans (if_pos q).symm⟩⟩
set_option maxHeartbeats 4000000 in
set_option maxRecDepth 100000 in
theorem m7_order : MOK cl7 sh7 tyl7 [] 14 yX7_order cX7_order 2 (some .int) sp7_order := by
  refine mok_of (own := RX7) (tb := tb7 (csL cs7_order)) (rt := 1) (fuel := 400) (fun avs M Q => []) (by decide) rfl nil_nw (tbOK7 _) rfl (csL_all ?_) ?_ ?_ ?_
  · intro q hq
    simp only [cs7_order, List.mem_cons, List.not_mem_nil, or_false] at hq
    rcases hq with rfl | rfl
    · exact cg7_isCart (by decide)
    · exact cg7_laysOrders (by decide)
  · intro avs M Q hsp
    obtain ⟨xs, hx⟩ := spR_un _ _ _ hsp
    obtain ⟨e, hl⟩ := unA_mkT hx
    obtain ⟨c, rfl⟩ := len1 hl
    have e : avs = [ar 0, ai c] := e
    subst e
    simp [szL, isL]
  · intro avs M Q hM hav hsp
    obtain ⟨xs, hx⟩ := spR_un _ _ _ hsp
    obtain ⟨e, hl⟩ := unA_mkT hx
    obtain ⟨c, rfl⟩ := len1 hl
    have e : avs = [ar 0, ai c] := e
    subst e
    exact in7_order hM (hav (ai c) (by simp)) hsp.1 hsp.2
  · intro avs M Q hM hav hsp q hq m_ vs M1 hM1 hv hJ
    obtain ⟨xs, hx⟩ := spR_un _ _ _ hsp
    obtain ⟨e, hl⟩ := unA_mkT hx
    obtain ⟨c, rfl⟩ := len1 hl
    have e : avs = [ar 0, ai c] := e
    subst e
    cases hq
