/-! SagMemory: a slot's row is written to -/
/-- two slots never share a row -/
def okSJ (rs : List (Nat × Nat)) (M : Mm) : Prop := okSX rs M ∧ ∀ s t : Nat, s < 4 → t < 4 → s ≠ t → M (8 + s) 0 = M (8 + t) 0 → M (8 + s) 0 < 0
/-- all but rows stays (and ghosts) -/
def kpS (M M1 : Mm) : Prop := ∀ k j, k < 41 → j < 900000 → M1 k j = M k j
theorem kpS_rf {M : Mm} : kpS M M := fun _ _ _ _ => rfl
theorem kpS_g {M : Mm} {x : Int} : kpS M (gh M x) := fun k j _ hj => by
  show up2 M 0 900000 x k j = M k j
  rw [up2_r, if_neg (fun z => by omega)]
theorem slX_g {rs : List (Nat × Nat)} {M : Mm} {x : Int} {s : Nat} (hS : okSX rs M) (hs : s < 4) : slX rs (gh M x) s = slX rs M s := by
  have e8 : gh M x (8 + s) = M (8 + s) := up2_ne (by omega)
  unfold slX
  rw [e8]
  rcases hS s hs with q | q
  · rw [if_pos q, if_pos q]
  · rw [show gh M x (M (8 + s) 0).toNat = M (M (8 + s) 0).toNat from up2_ne (by have := q.1; omega)]
theorem wrt_slX {rs : List (Nat × Nat)} {M : Mm} {s : Nat} {i x : Int} (hS : okSJ rs M) (hs : s < 4) (hn : ¬ M (8 + s) 0 < 0) (hi : 0 ≤ i ∧ i < rN rs (M (8 + s) 0)) : ∀ z : Nat, z < 4 → slX rs (up2 M (M (8 + s) 0).toNat i.toNat x) z = if z = s then ((slX rs M s).1, fun j => if j = i.toNat then x else (slX rs M s).2 j) else slX rs M z := by
  intro z hz
  have hr := (hS.1 s hs).resolve_left hn
  have hr41 := hr.1
  have e8 : up2 M (M (8 + s) 0).toNat i.toNat x (8 + z) = M (8 + z) := up2_ne (by omega)
  by_cases e : z = s
  · subst e
    rw [if_pos rfl, slX_p (by rw [e8]; exact hn), slX_p hn, e8]
    refine Prod.ext rfl (funext fun j => ?_)
    show (if j < rN rs (M (8 + z) 0) then up2 M (M (8 + z) 0).toNat i.toNat x (M (8 + z) 0).toNat j else 0) = if j = i.toNat then x else if j < rN rs (M (8 + z) 0) then M (M (8 + z) 0).toNat j else 0
    by_cases q : j = i.toNat
    · rw [if_pos q, q, up2_s, if_pos (by omega)]
    · rw [if_neg q, up2_n q]
  · rw [if_neg e]
    unfold slX
    rw [e8]
    rcases hS.1 z hz with q | q
    · rw [if_pos q, if_pos q]
    · have hq := q.1
      have hne : (M (8 + z) 0).toNat ≠ (M (8 + s) 0).toNat := by
        intro w
        have := hS.2 z s hz hs e (by omega)
        omega
      rw [up2_ne hne]
theorem hH_write {rs : List (Nat × Nat)} : ∀ (p : Program) (l : Launch) (e : Env) (R : Room) (s : State) (m : MethodId) (args : Array Value) (below : List Frame) (meth : Method) (c : Code) (QQ : State → Prop) (D : va_G) (A : Nat → Prop) (ad : Nat → Nat) (ca : Nat → ClassId) (Q : Option AV → Mm → Prop), fx p s m args c cX0_write D cl8 ca tyl8 RX0 Nws8 → c.exceptionTable.toList = tableOf [(10, 22, 23, 345), (10, 22, 28, 497)] → rtOK 1 meth.sig.returnType → meth.locks = false → (∀ (H : Heap) (locs : List Loc) (g : JFrame), W p l e R s m args below meth c H locs 3 222 (MQ below (vq D cl8 tyl8 ad ca (sh8 rs) A Q) args s 3 222 A) g → W p l e R s m args below meth c H locs 3 222 QQ g) → ∀ pc M', (pc = 18 ∧ ((M' 0 900000 = 0 ∧ Q (some (ai (-6))) M') ∨ (M' 0 900000 = 1 ∧ Q (some (ai (-7))) M'))) → thW p l e R s m args below meth c QQ D cl8 A ad ca (sh8 rs) fl0 6 3 222 pc M' := by
  intro p l e R s m args below meth c QQ D A ad ca Q F htab hrt hlocks hR pc M' h
  obtain ⟨rfl, ⟨h1, h2⟩ | ⟨h1, h2⟩⟩ := h
  · exact th_catch F htab hrt hlocks hR [] _ _ rfl (fun z hz => by cases hz) rfl (by decide) q1055 n_q1077 (by rw [h1]; rfl) (Or.inr ⟨5, by decide, dX0_write_23, dX0_write_25, dX0_write_27⟩) (by decide) h2
  · refine th_catch F htab hrt hlocks hR [⟨10, 22, 23, 345⟩] _ _ rfl (fun z hz => ?_) rfl (by decide) q1432 n_q1447 (by rw [h1]; rfl) (Or.inr ⟨5, by decide, dX0_write_28, dX0_write_30, dX0_write_32⟩) (by decide) h2
    obtain rfl := List.mem_singleton.mp hz
    exact Or.inr ⟨by decide, _, q1055, nc_6⟩
def P0_writeA (rs : List (Nat × Nat)) (s : Int) (i : Int) (v : Int) (M : Mm) : Prop := baseI M ∧ okSJ rs M
def R0_writeA (rs : List (Nat × Nat)) (s : Int) (i : Int) (v : Int) (M : Mm) (r : Option AV) (M1 : Mm) : Prop := ∃ w, r = some (ai w) ∧ w = A_write (slX rs M) s i ∧ kpS M M1 ∧ ∀ z : Nat, z < 4 → slX rs M1 z = N_write (slX rs M) s i v z
def sp0_writeA (rs : List (Nat × Nat)) : Spec := spX true [0, 0, 1] (fun x M => P0_writeA rs (x 0) (x 1) (x 2) M) (fun x M r M1 => R0_writeA rs (x 0) (x 1) (x 2) M r M1)
theorem c0_writeA {rs : List (Nat × Nat)} {s i v : Int} {M : Mm} {Q : Option AV → Mm → Prop} : sp0_writeA rs [ar 0, ai s, ai i, al v] M Q = (P0_writeA rs s i v M ∧ ∀ (r : Option AV) (M1 : Mm), R0_writeA rs s i v M r M1 → Q r M1) := rfl
def cs0_writeA (rs : List (Nat × Nat)) : List (Nat × Nat × Nat × Spec) := [(330, 0, 1, (sp0_isSlot rs))]
def xs0_writeA (rs : List (Nat × Nat)) : List (Nat × Nat × Nat × Spec) := [(4935, 1, 3, sp6_putX rs)]
set_option maxHeartbeats 4000000 in
set_option maxRecDepth 100000 in
theorem in0_writeA {rs : List (Nat × Nat)} {s i v : Int} {M : Mm} {Q : Option AV → Mm → Prop} (hM : okM (sh8 rs) M) (h_s : i32 s) (h_i : i32 i) (h_v : i64 v) (hP : P0_writeA rs s i v M) (hQ : ∀ (r : Option AV) (M1 : Mm), R0_writeA rs s i v M r M1 → Q r M1) : wpx (tb0 (csL (cs0_writeA rs))) (csL (xs0_writeA rs)) (sh8 rs) 6 1 cX0_write [] Q (fun pc M1 => pc = 18 ∧ ((M1 0 900000 = 0 ∧ Q (some (ai (-6))) M1) ∨ (M1 0 900000 = 1 ∧ Q (some (ai (-7))) M1))) 400 false 0 [(0, ar 0), (1, ai s), (2, ai i), (3, al v)] [] M := by
  obtain ⟨hB, hS⟩ := id hP
  by_cases hq : 0 ≤ s ∧ s ≤ 3
  · have hf := fval_s hB hq
    have hs4 : s.toNat < 4 := by omega
    simp only [e_wpy (k := 9) dX0_write_0 rfl rfl rfl, e_wpy (k := 3306) dX0_write_1 rfl rfl rfl, e_wpy (k := 9) dX0_write_4 rfl rfl rfl, e_wpy (k := 9) dX0_write_7 rfl rfl rfl, e_wpy (k := 9) dX0_write_9 rfl rfl rfl, e_wpy (k := 9) dX0_write_10 rfl rfl rfl, e_wpy (k := 9) dX0_write_11 rfl rfl rfl, e_wpy (k := 9) dX0_write_14 rfl rfl rfl, e_wpy (k := 9) dX0_write_15 rfl rfl rfl, e_wpy (k := 9) dX0_write_16 rfl rfl rfl, e_wpy (k := 9) dX0_write_17 rfl rfl rfl, e_wpy (k := 4935) dX0_write_18 rfl rfl rfl, e_wpy (k := 9) dX0_write_21 rfl rfl rfl, e_wpy (k := 9) dX0_write_22 rfl rfl rfl, e_wpy (k := 9) dX0_write_23 rfl rfl rfl, e_wpy (k := 9) dX0_write_25 rfl rfl rfl, e_wpy (k := 9) dX0_write_27 rfl rfl rfl, e_wpy (k := 9) dX0_write_28 rfl rfl rfl, e_wpy (k := 9) dX0_write_30 rfl rfl rfl, e_wpy (k := 9) dX0_write_32 rfl rfl rfl, xoff_a, ex_null_n, ex_null_r, ex_nonn_n, ex_nonn_r, ex_aret, xel_n, xel_s, xgo_0, xgo_1x, xgo_1v, xgo_1i, xgo_1l, xgo_1r, xgo_2, xgo_3, xgo_4, xgo_5x, xgo_5v, xgo_5i, xgo_5l, xgd_5, xgd_0, xgd_1, xgd_2, xgd_3, xgd_4, ath_y, xct_f, xct_t, xna_f, csL_n, Nat.reduceMul, retX_i, retX_l, retX_r, retX_v, c6_putX, P6_putX, xs0_writeA, c0_isSlot, P0_isSlot, V0_isSlot, cs0_writeA, g0_110, a8_13, w8_13, a8_14, w8_14, a8_15, w8_15, a8_16, w8_16, a8_17, w8_17, a8_18, w8_18, a8_19, w8_19, a8_20, w8_20, a8_21, w8_21, a8_22, w8_22, a8_23, w8_23, a8_24, w8_24, a8_25, w8_25, a8_26, w8_26, a8_27, w8_27, a8_28, w8_28, a8_29, w8_29, a8_30, w8_30, a8_31, w8_31, a8_32, w8_32, a8_33, w8_33, a8_34, w8_34, a8_35, w8_35, a8_36, w8_36, a8_37, w8_37, a8_38, w8_38, a8_39, w8_39, a8_40, w8_40, a8_12, w8_12, a8_6, a8_7, e_iconst, e_bipush, e_sipush, e_lconst_0, e_lconst_1, e_iload, e_iload_0, e_iload_1, e_iload_2, e_iload_3, e_lload, e_lload_0, e_lload_1, e_lload_2, e_lload_3, e_aload, e_aload_0, e_aload_1, e_aload_2, e_aload_3, e_istore, e_istore_0, e_istore_1, e_istore_2, e_istore_3, e_astore, e_astore_0, e_astore_1, e_astore_2, e_astore_3, e_lstore, e_lstore_0, e_lstore_1, e_lstore_2, e_lstore_3, e_iinc, e_iadd, e_isub, e_imul, e_ladd, e_lsub, e_lmul, e_idiv, e_irem, e_ldiv, e_lrem, e_ineg, e_lneg, e_iand, e_ior, e_ixor, e_ishl, e_ishr, e_iushr, e_lcmp, e_i2l, e_l2i, e_i2b, e_i2s, e_dup_i, e_dup_r, e_pop_i, e_pop_r, e_dup2_l, e_dup2_ir, e_dup2_ii, e_ifeq, e_ifne, e_iflt, e_ifge, e_ifgt, e_ifle, e_iceq, e_icne, e_iclt, e_icge, e_icgt, e_icle, e_goto, e_switch, e_invokevirtual, e_invokestatic, e_invokespecial, e_ret0, e_ret1, e_ret2, e_ret3, ldI_s, ldL_s, ldR_s, clO_s, ctP_s, ctS_s, mgo_0, mgo_s, pjc_s, pj_0, pj_s, lk_s, rm1_0, rm1_i, rm1_r, rm1_l, rm2_0, rm2_i, rm2_r, rm2_l, csL_s, lc_lt, lc_ge, lc_gt, lc_le, lc_eq, b01_0, b01_1, b01_01, b01_n, up2_o, up2_s, up2_u, ne_eq, reduceCtorEq, Nat.reduceAdd, Nat.reduceEqDiff, Nat.reduceLT, Nat.reduceLeDiff, Int.reduceLE, Int.reduceLT, Int.reduceAdd, Int.reduceNeg, Int.reduceMul, Int.reduceSub, Int.reduceEq, Int.reduceToNat, Int.reduceNatCast, Int.cast_ofNat_Int, ↓reduceIte, and_self, List.drop_succ_cons, List.drop_zero, List.take_succ_cons, List.take_zero, List.length_cons, List.length_nil, List.reverse_cons, List.reverse_nil, List.nil_append, List.cons_append, Option.toList, true_and, and_true, or_false, false_or, or_true, true_or, forall_const, Classical.not_not, not_false_eq_true, not_true_eq_false, false_implies, true_implies, implies_true, imp_self, hf, Int.toNat_natCast]
    refine ⟨fun _ => ⟨by omega, ⟨by omega, hS.1 s.toNat hs4⟩, fun r M1 hR => ?_⟩, fun q => absurd hq q⟩
    simp only [R6_putX, Int.toNat_natCast] at hR
    obtain ⟨h1, h2⟩ := hR
    by_cases hn : M (8 + s.toNat) 0 < 0
    · obtain ⟨rfl, rfl⟩ := h1 hn
      simp only [xgo_1x]
      have ew := (slX_w (rs := rs)).mpr hn
      refine Or.inl ⟨up2_s, hQ _ _ ⟨_, rfl, ((if_pos hq).trans (if_pos ew)).symm, kpS_g, fun z hz => ?_⟩⟩
      rw [slX_g hS.1 hz]
      exact (congrFun (if_neg (fun y => y.2.1 ew)) z).symm
    · have ew : ¬ (slX rs M s.toNat).1.1 = -1 := fun y => hn (slX_w.mp y)
      have en := n_slX ((hS.1 s.toNat hs4).resolve_left hn)
      by_cases hi : 0 ≤ i ∧ i < rN rs (M (8 + s.toNat) 0)
      · obtain ⟨rfl, rfl⟩ := (h2 hn).1 hi
        simp only [e_wpy (k := 4935) dX0_write_18 rfl rfl rfl, e_wpy (k := 9) dX0_write_21 rfl rfl rfl, e_wpy (k := 9) dX0_write_22 rfl rfl rfl, xoff_a, ex_null_n, ex_null_r, ex_nonn_n, ex_nonn_r, ex_aret, xel_n, xel_s, xgo_0, xgo_1x, xgo_1v, xgo_1i, xgo_1l, xgo_1r, xgo_2, xgo_3, xgo_4, xgo_5x, xgo_5v, xgo_5i, xgo_5l, xgd_5, xgd_0, xgd_1, xgd_2, xgd_3, xgd_4, ath_y, xct_f, xct_t, xna_f, csL_n, Nat.reduceMul, retX_i, retX_l, retX_r, retX_v, c6_putX, P6_putX, xs0_writeA, c0_isSlot, P0_isSlot, V0_isSlot, cs0_writeA, g0_110, a8_13, w8_13, a8_14, w8_14, a8_15, w8_15, a8_16, w8_16, a8_17, w8_17, a8_18, w8_18, a8_19, w8_19, a8_20, w8_20, a8_21, w8_21, a8_22, w8_22, a8_23, w8_23, a8_24, w8_24, a8_25, w8_25, a8_26, w8_26, a8_27, w8_27, a8_28, w8_28, a8_29, w8_29, a8_30, w8_30, a8_31, w8_31, a8_32, w8_32, a8_33, w8_33, a8_34, w8_34, a8_35, w8_35, a8_36, w8_36, a8_37, w8_37, a8_38, w8_38, a8_39, w8_39, a8_40, w8_40, a8_12, w8_12, a8_6, a8_7, e_iconst, e_bipush, e_sipush, e_lconst_0, e_lconst_1, e_iload, e_iload_0, e_iload_1, e_iload_2, e_iload_3, e_lload, e_lload_0, e_lload_1, e_lload_2, e_lload_3, e_aload, e_aload_0, e_aload_1, e_aload_2, e_aload_3, e_istore, e_istore_0, e_istore_1, e_istore_2, e_istore_3, e_astore, e_astore_0, e_astore_1, e_astore_2, e_astore_3, e_lstore, e_lstore_0, e_lstore_1, e_lstore_2, e_lstore_3, e_iinc, e_iadd, e_isub, e_imul, e_ladd, e_lsub, e_lmul, e_idiv, e_irem, e_ldiv, e_lrem, e_ineg, e_lneg, e_iand, e_ior, e_ixor, e_ishl, e_ishr, e_iushr, e_lcmp, e_i2l, e_l2i, e_i2b, e_i2s, e_dup_i, e_dup_r, e_pop_i, e_pop_r, e_dup2_l, e_dup2_ir, e_dup2_ii, e_ifeq, e_ifne, e_iflt, e_ifge, e_ifgt, e_ifle, e_iceq, e_icne, e_iclt, e_icge, e_icgt, e_icle, e_goto, e_switch, e_invokevirtual, e_invokestatic, e_invokespecial, e_ret0, e_ret1, e_ret2, e_ret3, ldI_s, ldL_s, ldR_s, clO_s, ctP_s, ctS_s, mgo_0, mgo_s, pjc_s, pj_0, pj_s, lk_s, rm1_0, rm1_i, rm1_r, rm1_l, rm2_0, rm2_i, rm2_r, rm2_l, csL_s, lc_lt, lc_ge, lc_gt, lc_le, lc_eq, b01_0, b01_1, b01_01, b01_n, up2_o, up2_s, up2_u, ne_eq, reduceCtorEq, Nat.reduceAdd, Nat.reduceEqDiff, Nat.reduceLT, Nat.reduceLeDiff, Int.reduceLE, Int.reduceLT, Int.reduceAdd, Int.reduceNeg, Int.reduceMul, Int.reduceSub, Int.reduceEq, Int.reduceToNat, Int.reduceNatCast, Int.cast_ofNat_Int, ↓reduceIte, and_self, List.drop_succ_cons, List.drop_zero, List.take_succ_cons, List.take_zero, List.length_cons, List.length_nil, List.reverse_cons, List.reverse_nil, List.nil_append, List.cons_append, Option.toList, true_and, and_true, or_false, false_or, or_true, true_or, forall_const, Classical.not_not, not_false_eq_true, not_true_eq_false, false_implies, true_implies, implies_true, imp_self]
        refine hQ _ _ ⟨_, rfl, ((if_pos hq).trans ((if_neg ew).trans (if_pos (by rw [en]; exact hi)))).symm, fun k j hk hj => up2_o (by have := ((hS.1 s.toNat hs4).resolve_left hn).1; omega), fun z hz => ?_⟩
        rw [wrt_slX hS hs4 hn hi z hz]
        unfold N_write
        rw [if_pos (show wrtP (slX rs M) s i from ⟨hq, ew, by rw [en]; exact hi⟩)]
        show _ = if z = s.toNat then _ else _
        rw [show (slX rs M s.toNat).1.1 = ((rW rs (M (8 + s.toNat) 0) : Nat) : Int) by rw [slX_p hn]]
      · obtain ⟨rfl, rfl⟩ := (h2 hn).2 hi
        simp only [xgo_1x]
        refine Or.inr ⟨up2_s, hQ _ _ ⟨_, rfl, ((if_pos hq).trans ((if_neg ew).trans (if_neg (by rw [en]; exact hi)))).symm, kpS_g, fun z hz => ?_⟩⟩
        rw [slX_g hS.1 hz]
        exact (congrFun (if_neg (fun y => hi (by have := y.2.2; rwa [en] at this))) z).symm
  · simp only [e_wpy (k := 9) dX0_write_0 rfl rfl rfl, e_wpy (k := 3306) dX0_write_1 rfl rfl rfl, e_wpy (k := 9) dX0_write_4 rfl rfl rfl, e_wpy (k := 9) dX0_write_7 rfl rfl rfl, e_wpy (k := 9) dX0_write_9 rfl rfl rfl, e_wpy (k := 9) dX0_write_10 rfl rfl rfl, e_wpy (k := 9) dX0_write_11 rfl rfl rfl, e_wpy (k := 9) dX0_write_14 rfl rfl rfl, e_wpy (k := 9) dX0_write_15 rfl rfl rfl, e_wpy (k := 9) dX0_write_16 rfl rfl rfl, e_wpy (k := 9) dX0_write_17 rfl rfl rfl, e_wpy (k := 4935) dX0_write_18 rfl rfl rfl, e_wpy (k := 9) dX0_write_21 rfl rfl rfl, e_wpy (k := 9) dX0_write_22 rfl rfl rfl, e_wpy (k := 9) dX0_write_23 rfl rfl rfl, e_wpy (k := 9) dX0_write_25 rfl rfl rfl, e_wpy (k := 9) dX0_write_27 rfl rfl rfl, e_wpy (k := 9) dX0_write_28 rfl rfl rfl, e_wpy (k := 9) dX0_write_30 rfl rfl rfl, e_wpy (k := 9) dX0_write_32 rfl rfl rfl, xoff_a, ex_null_n, ex_null_r, ex_nonn_n, ex_nonn_r, ex_aret, xel_n, xel_s, xgo_0, xgo_1x, xgo_1v, xgo_1i, xgo_1l, xgo_1r, xgo_2, xgo_3, xgo_4, xgo_5x, xgo_5v, xgo_5i, xgo_5l, xgd_5, xgd_0, xgd_1, xgd_2, xgd_3, xgd_4, ath_y, xct_f, xct_t, xna_f, csL_n, Nat.reduceMul, retX_i, retX_l, retX_r, retX_v, c6_putX, P6_putX, xs0_writeA, c0_isSlot, P0_isSlot, V0_isSlot, cs0_writeA, g0_110, a8_13, w8_13, a8_14, w8_14, a8_15, w8_15, a8_16, w8_16, a8_17, w8_17, a8_18, w8_18, a8_19, w8_19, a8_20, w8_20, a8_21, w8_21, a8_22, w8_22, a8_23, w8_23, a8_24, w8_24, a8_25, w8_25, a8_26, w8_26, a8_27, w8_27, a8_28, w8_28, a8_29, w8_29, a8_30, w8_30, a8_31, w8_31, a8_32, w8_32, a8_33, w8_33, a8_34, w8_34, a8_35, w8_35, a8_36, w8_36, a8_37, w8_37, a8_38, w8_38, a8_39, w8_39, a8_40, w8_40, a8_12, w8_12, a8_6, a8_7, e_iconst, e_bipush, e_sipush, e_lconst_0, e_lconst_1, e_iload, e_iload_0, e_iload_1, e_iload_2, e_iload_3, e_lload, e_lload_0, e_lload_1, e_lload_2, e_lload_3, e_aload, e_aload_0, e_aload_1, e_aload_2, e_aload_3, e_istore, e_istore_0, e_istore_1, e_istore_2, e_istore_3, e_astore, e_astore_0, e_astore_1, e_astore_2, e_astore_3, e_lstore, e_lstore_0, e_lstore_1, e_lstore_2, e_lstore_3, e_iinc, e_iadd, e_isub, e_imul, e_ladd, e_lsub, e_lmul, e_idiv, e_irem, e_ldiv, e_lrem, e_ineg, e_lneg, e_iand, e_ior, e_ixor, e_ishl, e_ishr, e_iushr, e_lcmp, e_i2l, e_l2i, e_i2b, e_i2s, e_dup_i, e_dup_r, e_pop_i, e_pop_r, e_dup2_l, e_dup2_ir, e_dup2_ii, e_ifeq, e_ifne, e_iflt, e_ifge, e_ifgt, e_ifle, e_iceq, e_icne, e_iclt, e_icge, e_icgt, e_icle, e_goto, e_switch, e_invokevirtual, e_invokestatic, e_invokespecial, e_ret0, e_ret1, e_ret2, e_ret3, ldI_s, ldL_s, ldR_s, clO_s, ctP_s, ctS_s, mgo_0, mgo_s, pjc_s, pj_0, pj_s, lk_s, rm1_0, rm1_i, rm1_r, rm1_l, rm2_0, rm2_i, rm2_r, rm2_l, csL_s, lc_lt, lc_ge, lc_gt, lc_le, lc_eq, b01_0, b01_1, b01_01, b01_n, up2_o, up2_s, up2_u, ne_eq, reduceCtorEq, Nat.reduceAdd, Nat.reduceEqDiff, Nat.reduceLT, Nat.reduceLeDiff, Int.reduceLE, Int.reduceLT, Int.reduceAdd, Int.reduceNeg, Int.reduceMul, Int.reduceSub, Int.reduceEq, Int.reduceToNat, Int.reduceNatCast, Int.cast_ofNat_Int, ↓reduceIte, and_self, List.drop_succ_cons, List.drop_zero, List.take_succ_cons, List.take_zero, List.length_cons, List.length_nil, List.reverse_cons, List.reverse_nil, List.nil_append, List.cons_append, Option.toList, true_and, and_true, or_false, false_or, or_true, true_or, forall_const, Classical.not_not, not_false_eq_true, not_true_eq_false, false_implies, true_implies, implies_true, imp_self]
    refine ⟨fun q => absurd q hq, fun _ => hQ _ _ ⟨_, rfl, (if_neg hq).symm, kpS_rf, fun z hz => (congrFun (if_neg (fun y => hq y.1)) z).symm⟩⟩
set_option maxHeartbeats 4000000 in
set_option maxRecDepth 100000 in
theorem m0_writeA {rs : List (Nat × Nat)} : MOKA cl8 (sh8 rs) tyl8 Nws8 evE 202 3 222 yX0_write (wsW_ yX0_write cX0_write 6 (some .int) [(10, 22, 23, 345), (10, 22, 28, 497)]) (sp0_writeA rs) := by
  refine mokAH_of (own := RX0) (fl := fl0) (tb := tb0 (csL (cs0_writeA rs))) (xt := csL (xs0_writeA rs)) (rt := 1) (fuel := 400) (thx := fun Q pc M1 => pc = 18 ∧ ((M1 0 900000 = 0 ∧ Q (some (ai (-6))) M1) ∨ (M1 0 900000 = 1 ∧ Q (some (ai (-7))) M1))) (fun avs M Q => []) (by decide) rfl nws8_ok (tbOK0 _) rfl (csL_all ?_) (csA_all ?_) ?_ hH_write ?_ ?_
  · intro q hq
    simp only [cs0_writeA, List.mem_cons, List.not_mem_nil, or_false] at hq
    rcases hq with rfl
    · exact cg0_isSlot (by decide)
  · intro q hq
    simp only [xs0_writeA, List.mem_cons, List.not_mem_nil, or_false] at hq
    rcases hq with rfl
    · exact Or.inr ⟨(by decide : ¬ (((1 : Nat) = 0 ∨ (1 : Nat) = 3) ∨ (1 : Nat) = 4)), cxe6_putX (by decide)⟩
  · intro avs M Q hsp
    obtain ⟨xs, hx⟩ := spX_un _ _ _ hsp
    obtain ⟨e, hl⟩ := unA_mkT hx
    obtain ⟨s, i, v, rfl⟩ := len3 hl
    have e : avs = [ar 0, ai s, ai i, al v] := e
    subst e
    simp [szL, isL]
  · intro avs M Q hM hav hsp
    obtain ⟨xs, hx⟩ := spX_un _ _ _ hsp
    obtain ⟨e, hl⟩ := unA_mkT hx
    obtain ⟨s, i, v, rfl⟩ := len3 hl
    have e : avs = [ar 0, ai s, ai i, al v] := e
    subst e
    exact in0_writeA hM (hav (ai s) (by simp)) (hav (ai i) (by simp)) (hav (al v) (by simp)) hsp.1 hsp.2
  · intro avs M Q hM hav hsp q hq m_ vs M1 hM1 hv hJ
    obtain ⟨xs, hx⟩ := spX_un _ _ _ hsp
    obtain ⟨e, hl⟩ := unA_mkT hx
    obtain ⟨s, i, v, rfl⟩ := len3 hl
    have e : avs = [ar 0, ai s, ai i, al v] := e
    subst e
    cases hq
