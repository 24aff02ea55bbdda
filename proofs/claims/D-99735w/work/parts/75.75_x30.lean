/-! SagMemory: which sets leave a row, answered (where a row is there) -/
theorem band_sub {x t : Int} (hx : i32 x) (h : band x (notI t) = 0) : band t x = x := by
  have h1 : Int32.ofInt x &&& (Int32.ofInt t ^^^ Int32.ofInt (-1)) = 0 := by
    have e : Int32.ofInt (notI t) = Int32.ofInt t ^^^ Int32.ofInt (-1) := Int32.ofInt_toInt _
    rw [← e]
    have h2 : (Int32.ofInt x &&& Int32.ofInt (notI t)).toInt = (0 : Int32).toInt := h
    exact Int32.toInt_inj.mp h2
  have h3 : Int32.ofInt t &&& Int32.ofInt x = Int32.ofInt x := by
    apply Int32.toBitVec_inj.mp
    have h4 := congrArg Int32.toBitVec h1
    rw [Int32.toBitVec_and, Int32.toBitVec_xor] at h4
    rw [Int32.toBitVec_and]
    refine BitVec.eq_of_getLsbD_eq fun i hi => ?_
    have h5 := congrArg (fun z => z.getLsbD i) h4
    simp only [BitVec.getLsbD_and, BitVec.getLsbD_xor] at h5 ⊢
    have h6 : (Int32.ofInt (-1)).toBitVec.getLsbD i = true := by
      have : (Int32.ofInt (-1)).toBitVec = BitVec.allOnes 32 := by decide
      rw [this, BitVec.getLsbD_allOnes]
      simp [hi]
    have h7 : (0 : Int32).toBitVec.getLsbD i = false := by
      have : (0 : Int32).toBitVec = 0#32 := rfl
      rw [this, BitVec.getLsbD_zero]
    rw [h6, h7] at h5
    cases hx' : (Int32.ofInt x).toBitVec.getLsbD i <;> cases ht : (Int32.ofInt t).toBitVec.getLsbD i <;> rw [hx', ht] at h5 <;> first | rfl | cases h5
  show (Int32.ofInt t &&& Int32.ofInt x).toInt = x
  rw [h3, n_of hx]
set_option maxRecDepth 100000 in
theorem full_dec : ∀ n : Fin 8, ∀ x : Fin 128, x.val < 2 ^ n.val → band (((2 ^ n.val : Nat) : Int) - 1) (x.val : Int) = (x.val : Int) := by decide
theorem allN_2 {t u : Int} : ∀ {L : List Int}, L ≠ [] → (∀ x ∈ L, band t x = x ∧ band u x = x) → allN t L = allN u L := by
  intro L
  induction L with
  | nil => intro h _; exact absurd rfl h
  | cons x L ih =>
    intro _ h
    by_cases e : L = []
    · subst e
      show band t x = band u x
      rw [(h x List.mem_cons_self).1, (h x List.mem_cons_self).2]
    · show band (allN t L) x = band (allN u L) x
      rw [ih e (fun y hy => h y (List.mem_cons_of_mem _ hy))]
theorem backL_tl {V : Vy} {s : Sl} {b : Int} : ∀ {n : Nat}, ∀ x ∈ backL V s b n, band x (notI (toldP V b (V 0 4).toNat)) = 0 := by
  intro n
  induction n with
  | zero => intro x h; cases h
  | succ n ih =>
    intro x hx
    by_cases h : band n (notI (toldP V b (V 0 4).toNat)) = 0 ∧ sameP (leftP V n (V 0 4).toNat) s
    · rw [backL_1 h] at hx
      rcases List.mem_cons.mp hx with e | e
      · rw [e]; exact h.1
      · exact ih x e
    · rw [backL_0 h] at hx
      exact ih x hx
theorem backL_all {V : Vy} {s : Sl} {b : Int} (h4 : 0 ≤ V 0 4 ∧ V 0 4 ≤ 7) (h : backS V s b ≠ []) : allN ((2 : Int) ^ (V 0 4).toNat - 1) (backS V s b) = allN (toldP V b (V 0 4).toNat) (backS V s b) := by
  refine allN_2 h fun x hx => ?_
  have hr := (@backL_rg V s b (2 ^ (V 0 4).toNat)).2 x hx
  have hp := pow7 (n := (V 0 4).toNat) (by omega)
  refine ⟨?_, band_sub (by unfold i32; omega) (backL_tl x hx)⟩
  obtain ⟨u, rfl⟩ := Int.eq_ofNat_of_zero_le hr.1
  have e := full_dec ⟨(V 0 4).toNat, by omega⟩ ⟨u, by omega⟩ (by show u < 2 ^ (V 0 4).toNat; omega)
  have e2 : (((2 : Nat) ^ (V 0 4).toNat : Nat) : Int) = (2 : Int) ^ (V 0 4).toNat := Int.natCast_pow 2 _
  rw [← e2]
  exact e
theorem stk_inv {α : Type} {f : Nat → α} {x : α} : ∀ {n : Nat}, x ∈ stk f n → ∃ k, k < n ∧ f k = x := by
  intro n
  induction n with
  | zero => intro h; cases h
  | succ n ih =>
    intro h
    rcases List.mem_cons.mp h with e | e
    · exact ⟨n, by omega, e.symm⟩
    · obtain ⟨k, h1, h2⟩ := ih e
      exact ⟨k, by omega, h2⟩
/-- what asksBack left -/
theorem bck_use {rs : List (Nat × Nat)} {s b v : Int} {M M1 : Mm} (hR : R0_asksBack rs s b M v M1) : v = whyP (vX M) (slX rs M) s b ∧ (v = 0 ∨ v = -2 ∨ v = -6) := by
  refine ⟨hR.2.1, ?_⟩
  rw [hR.2.1]
  unfold whyP
  split
  · split <;> simp
  · simp
abbrev bckP (rs : List (Nat × Nat)) (s b : Int) (M : Mm) : Prop := okX M ∧ okWi M ∧ okSX rs M ∧ ((0 ≤ s ∧ s ≤ 3) ∧ isB (vX M) b → ¬ M (8 + s.toNat) 0 < 0)
def P0_sets (rs : List (Nat × Nat)) (s : Int) (b : Int) (M : Mm) : Prop := bckP rs s b M
def R0_sets (rs : List (Nat × Nat)) (s : Int) (b : Int) (M : Mm) (v : Int) (M1 : Mm) : Prop := keepZ 7200 M M1 ∧ v = A_sets (vX M) (slX rs M) s b
def sp0_sets (rs : List (Nat × Nat)) : Spec := spR true [0, 0] 1 (fun x M => P0_sets rs (x 0) (x 1) M) (fun x M v M1 => R0_sets rs (x 0) (x 1) M v M1)
theorem c0_sets {rs : List (Nat × Nat)} {s b : Int} {M : Mm} {Q : Option AV → Mm → Prop} : sp0_sets rs [ar 0, ai s, ai b] M Q = (P0_sets rs s b M ∧ ∀ (v : Int) (M1 : Mm), R0_sets rs s b M v M1 → Q (some (ai v)) M1) := rfl
def cs0_sets (rs : List (Nat × Nat)) : List (Nat × Nat × Nat × Spec) := [(347, 1, 3, (sp0_asksBack rs))]
set_option maxHeartbeats 4000000 in
set_option maxRecDepth 100000 in
theorem in0_sets {rs : List (Nat × Nat)} {s b : Int} {M : Mm} {Q : Option AV → Mm → Prop} (hM : okM (sh8 rs) M) (h_s : i32 s) (h_b : i32 b) (hP : P0_sets rs s b M) (hQ : ∀ (v : Int) (M1 : Mm), R0_sets rs s b M v M1 → Q (some (ai v)) M1) : wp (tb0 (csL (cs0_sets rs))) (sh8 rs) 4 1 cX0_sets [] Q 400 0 [(0, ar 0), (1, ai s), (2, ai b)] [] M := by
  simp only [e_wp dX0_sets_0 rfl, e_wp dX0_sets_1 rfl, e_wp dX0_sets_2 rfl, e_wp dX0_sets_3 rfl, e_wp dX0_sets_6 rfl, e_wp dX0_sets_7 rfl, e_wp dX0_sets_8 rfl, e_wp dX0_sets_11 rfl, e_wp dX0_sets_12 rfl, e_wp dX0_sets_15 rfl, e_wp dX0_sets_16 rfl, e_wp dX0_sets_19 rfl, c0_asksBack, cs0_sets, g0_333, e_iconst, e_bipush, e_sipush, e_lconst_0, e_lconst_1, e_iload, e_iload_0, e_iload_1, e_iload_2, e_iload_3, e_lload, e_lload_0, e_lload_1, e_lload_2, e_lload_3, e_aload, e_aload_0, e_aload_1, e_aload_2, e_aload_3, e_istore, e_istore_0, e_istore_1, e_istore_2, e_istore_3, e_astore, e_astore_0, e_astore_1, e_astore_2, e_astore_3, e_lstore, e_lstore_0, e_lstore_1, e_lstore_2, e_lstore_3, e_iinc, e_iadd, e_isub, e_imul, e_ladd, e_lsub, e_lmul, e_idiv, e_irem, e_ldiv, e_lrem, e_ineg, e_lneg, e_iand, e_ior, e_ixor, e_ishl, e_ishr, e_iushr, e_lcmp, e_i2l, e_l2i, e_i2b, e_i2s, e_dup_i, e_dup_r, e_pop_i, e_pop_r, e_dup2_l, e_dup2_ir, e_dup2_ii, e_ifeq, e_ifne, e_iflt, e_ifge, e_ifgt, e_ifle, e_iceq, e_icne, e_iclt, e_icge, e_icgt, e_icle, e_goto, e_switch, e_invokevirtual, e_invokestatic, e_invokespecial, e_ret0, e_ret1, e_ret2, e_ret3, ldI_s, ldL_s, ldR_s, clO_s, ctP_s, ctS_s, mgo_0, mgo_s, pjc_s, pj_0, pj_s, lk_s, rm1_0, rm1_i, rm1_r, rm1_l, rm2_0, rm2_i, rm2_r, rm2_l, csL_s, lc_lt, lc_ge, lc_gt, lc_le, lc_eq, b01_0, b01_1, b01_01, b01_n, up2_o, up2_s, up2_u, ne_eq, reduceCtorEq, Nat.reduceAdd, Nat.reduceEqDiff, Nat.reduceLT, Nat.reduceLeDiff, Int.reduceLE, Int.reduceLT, Int.reduceAdd, Int.reduceNeg, Int.reduceMul, Int.reduceSub, Int.reduceEq, Int.reduceToNat, Int.reduceNatCast, Int.cast_ofNat_Int, ↓reduceIte, and_self, List.drop_succ_cons, List.drop_zero, List.take_succ_cons, List.take_zero, List.length_cons, List.length_nil, List.reverse_cons, List.reverse_nil, List.nil_append, List.cons_append, Option.toList, true_and, and_true, or_false, false_or, or_true, true_or, forall_const, Classical.not_not, not_false_eq_true, not_true_eq_false, false_implies, true_implies, implies_true, imp_self]
  refine ⟨hP, fun v M1 hR => ?_⟩
  obtain ⟨u1, u2⟩ := bck_use hR
  obtain ⟨r1, r2, r3⟩ := hR
  refine ⟨fun q => hQ _ _ ⟨r1, ?_⟩, fun q => hQ _ _ ⟨r1, ?_⟩⟩
  · have q0 : v = 0 := by omega
    rw [(r3 q0).1]
    exact (if_pos (u1.symm.trans q0)).symm
  · rw [u1]
    exact (if_neg (by rw [← u1]; omega)).symm
set_option maxHeartbeats 4000000 in
set_option maxRecDepth 100000 in
theorem m0_sets {rs : List (Nat × Nat)} : MOK cl8 (sh8 rs) tyl8 Nws8 6 yX0_sets cX0_sets 4 (some .int) (sp0_sets rs) := by
  refine mok_of (own := RX0) (tb := tb0 (csL (cs0_sets rs))) (rt := 1) (fuel := 400) (fun avs M Q => []) (by decide) rfl nws8_ok (tbOK0 _) rfl (csL_all ?_) ?_ ?_ ?_
  · intro q hq
    simp only [cs0_sets, List.mem_cons, List.not_mem_nil, or_false] at hq
    rcases hq with rfl
    · exact cg0_asksBack (by decide)
  · intro avs M Q hsp
    obtain ⟨xs, hx⟩ := spR_un _ _ _ hsp
    obtain ⟨e, hl⟩ := unA_mkT hx
    obtain ⟨s, b, rfl⟩ := len2 hl
    have e : avs = [ar 0, ai s, ai b] := e
    subst e
    simp [szL, isL]
  · intro avs M Q hM hav hsp
    obtain ⟨xs, hx⟩ := spR_un _ _ _ hsp
    obtain ⟨e, hl⟩ := unA_mkT hx
    obtain ⟨s, b, rfl⟩ := len2 hl
    have e : avs = [ar 0, ai s, ai b] := e
    subst e
    exact in0_sets hM (hav (ai s) (by simp)) (hav (ai b) (by simp)) hsp.1 hsp.2
  · intro avs M Q hM hav hsp q hq m_ vs M1 hM1 hv hJ
    obtain ⟨xs, hx⟩ := spR_un _ _ _ hsp
    obtain ⟨e, hl⟩ := unA_mkT hx
    obtain ⟨s, b, rfl⟩ := len2 hl
    have e : avs = [ar 0, ai s, ai b] := e
    subst e
    cases hq
def P0_surely (rs : List (Nat × Nat)) (s : Int) (b : Int) (M : Mm) : Prop := bckP rs s b M
def R0_surely (rs : List (Nat × Nat)) (s : Int) (b : Int) (M : Mm) (v : Int) (M1 : Mm) : Prop := keepZ 7200 M M1 ∧ v = A_surely (vX M) (slX rs M) s b
def sp0_surely (rs : List (Nat × Nat)) : Spec := spR true [0, 0] 1 (fun x M => P0_surely rs (x 0) (x 1) M) (fun x M v M1 => R0_surely rs (x 0) (x 1) M v M1)
theorem c0_surely {rs : List (Nat × Nat)} {s b : Int} {M : Mm} {Q : Option AV → Mm → Prop} : sp0_surely rs [ar 0, ai s, ai b] M Q = (P0_surely rs s b M ∧ ∀ (v : Int) (M1 : Mm), R0_surely rs s b M v M1 → Q (some (ai v)) M1) := rfl
def cs0_surely (rs : List (Nat × Nat)) : List (Nat × Nat × Nat × Spec) := [(347, 1, 3, (sp0_asksBack rs)), (336, 1, 1, (sp0_all_2 rs))]
def J0_surely_22 (rs : List (Nat × Nat)) (s : Int) (b : Int) (M : Mm) (m : Nat) (x : Int) (k : Int) (M1 : Mm) : Prop := keepZ 7200 M M1 ∧ whyP (vX M) (slX rs M) s b = 0 ∧ M1 0 31 = (backS (vX M) (slX rs M s.toNat) b).length ∧ bkX M1 = backS (vX M) (slX rs M s.toNat) b ∧ ∃ a : Nat, k = a ∧ (a : Int) ≤ M1 0 31 ∧ x = allN ((2 : Int) ^ (vX M 0 4).toNat - 1) (stk (fun k => M1 30 k) a) ∧ m = 128 - a
set_option maxHeartbeats 4000000 in
set_option maxRecDepth 100000 in
theorem in0_surely {rs : List (Nat × Nat)} {s b : Int} {M : Mm} {Q : Option AV → Mm → Prop} (hM : okM (sh8 rs) M) (h_s : i32 s) (h_b : i32 b) (hP : P0_surely rs s b M) (hQ : ∀ (v : Int) (M1 : Mm), R0_surely rs s b M v M1 → Q (some (ai v)) M1) (I_22 : List AV → Mm → Prop) (hI_22 : ∀ (m_ : Nat) (y_x : Int) (y_k : Int) (M2 : Mm), J0_surely_22 rs s b M m_ y_x y_k M2 → I_22 [ar 0, ai y_x, ai y_k] M2) : wp (tb0 (csL (cs0_surely rs))) (sh8 rs) 6 1 cX0_surely [(22, [0, 4, 5], I_22)] Q 400 0 [(0, ar 0), (1, ai s), (2, ai b)] [] M := by
  have h4 : 0 ≤ M 1 5 ∧ M 1 5 ≤ 7 := (okY_n hP.1.1).2.1
  simp only [e_wp dX0_surely_0 rfl, e_wp dX0_surely_1 rfl, e_wp dX0_surely_2 rfl, e_wp dX0_surely_3 rfl, e_wp dX0_surely_6 rfl, e_wp dX0_surely_7 rfl, e_wp dX0_surely_8 rfl, e_wp dX0_surely_11 rfl, e_wp dX0_surely_12 rfl, e_wp dX0_surely_13 rfl, e_wp dX0_surely_14 rfl, e_wp dX0_surely_17 rfl, e_wp dX0_surely_19 rfl, e_wp dX0_surely_20 rfl, e_wp dX0_surely_22 rfl, e_wp dX0_surely_24 rfl, e_wp dX0_surely_25 rfl, e_wp dX0_surely_28 rfl, e_wp dX0_surely_31 rfl, e_wp dX0_surely_33 rfl, e_wp dX0_surely_34 rfl, e_wp dX0_surely_37 rfl, e_wp dX0_surely_39 rfl, e_wp dX0_surely_40 rfl, e_wp dX0_surely_41 rfl, e_wp dX0_surely_43 rfl, e_wp dX0_surely_46 rfl, e_wp dX0_surely_49 rfl, e_wp dX0_surely_50 rfl, e_wp dX0_surely_53 rfl, e_wp dX0_surely_56 rfl, e_wp dX0_surely_57 rfl, e_wp dX0_surely_60 rfl, e_wp dX0_surely_62 rfl, c0_asksBack, cs0_surely, c0_all_2, P0_all_2, V0_all_2, g0_333, g0_98, a8_13, w8_13, a8_14, w8_14, a8_15, w8_15, a8_16, w8_16, a8_17, w8_17, a8_18, w8_18, a8_19, w8_19, a8_20, w8_20, a8_21, w8_21, a8_22, w8_22, a8_23, w8_23, a8_24, w8_24, a8_25, w8_25, a8_26, w8_26, a8_27, w8_27, a8_28, w8_28, a8_29, w8_29, a8_30, w8_30, a8_31, w8_31, a8_32, w8_32, a8_33, w8_33, a8_34, w8_34, a8_35, w8_35, a8_36, w8_36, a8_37, w8_37, a8_38, w8_38, a8_39, w8_39, a8_40, w8_40, a8_12, w8_12, a8_6, a8_7, e_iconst, e_bipush, e_sipush, e_lconst_0, e_lconst_1, e_iload, e_iload_0, e_iload_1, e_iload_2, e_iload_3, e_lload, e_lload_0, e_lload_1, e_lload_2, e_lload_3, e_aload, e_aload_0, e_aload_1, e_aload_2, e_aload_3, e_istore, e_istore_0, e_istore_1, e_istore_2, e_istore_3, e_astore, e_astore_0, e_astore_1, e_astore_2, e_astore_3, e_lstore, e_lstore_0, e_lstore_1, e_lstore_2, e_lstore_3, e_iinc, e_iadd, e_isub, e_imul, e_ladd, e_lsub, e_lmul, e_idiv, e_irem, e_ldiv, e_lrem, e_ineg, e_lneg, e_iand, e_ior, e_ixor, e_ishl, e_ishr, e_iushr, e_lcmp, e_i2l, e_l2i, e_i2b, e_i2s, e_dup_i, e_dup_r, e_pop_i, e_pop_r, e_dup2_l, e_dup2_ir, e_dup2_ii, e_ifeq, e_ifne, e_iflt, e_ifge, e_ifgt, e_ifle, e_iceq, e_icne, e_iclt, e_icge, e_icgt, e_icle, e_goto, e_switch, e_invokevirtual, e_invokestatic, e_invokespecial, e_ret0, e_ret1, e_ret2, e_ret3, ldI_s, ldL_s, ldR_s, clO_s, ctP_s, ctS_s, mgo_0, mgo_s, pjc_s, pj_0, pj_s, lk_s, rm1_0, rm1_i, rm1_r, rm1_l, rm2_0, rm2_i, rm2_r, rm2_l, csL_s, lc_lt, lc_ge, lc_gt, lc_le, lc_eq, b01_0, b01_1, b01_01, b01_n, up2_o, up2_s, up2_u, ne_eq, reduceCtorEq, Nat.reduceAdd, Nat.reduceEqDiff, Nat.reduceLT, Nat.reduceLeDiff, Int.reduceLE, Int.reduceLT, Int.reduceAdd, Int.reduceNeg, Int.reduceMul, Int.reduceSub, Int.reduceEq, Int.reduceToNat, Int.reduceNatCast, Int.cast_ofNat_Int, ↓reduceIte, and_self, List.drop_succ_cons, List.drop_zero, List.take_succ_cons, List.take_zero, List.length_cons, List.length_nil, List.reverse_cons, List.reverse_nil, List.nil_append, List.cons_append, Option.toList, true_and, and_true, or_false, false_or, or_true, true_or, forall_const, Classical.not_not, not_false_eq_true, not_true_eq_false, false_implies, true_implies, implies_true, imp_self]
  refine ⟨hP, fun v M1 hR => ?_⟩
  obtain ⟨u1, u2⟩ := bck_use hR
  obtain ⟨r1, r2, r3⟩ := hR
  have e1 : M1 1 = M 1 := keepZ_1 r1
  rw [e1]
  refine ⟨fun q => ⟨h4, hI_22 (128 - 0) _ _ _ ⟨r1, ?_, (r3 (by omega)).1, (r3 (by omega)).2, 0, rfl, ?_, rfl, rfl⟩⟩, fun q => hQ _ _ ⟨r1, ?_⟩⟩
  · omega
  · rw [(r3 (by omega)).1]; omega
  · rw [u1]
    exact (if_neg (by rw [← u1]; omega)).symm
set_option maxHeartbeats 4000000 in
set_option maxRecDepth 100000 in
theorem at0_surely_22 {rs : List (Nat × Nat)} {s b : Int} {M : Mm} {Q : Option AV → Mm → Prop} (hM : okM (sh8 rs) M) (h_s : i32 s) (h_b : i32 b) (hP : P0_surely rs s b M) (hQ : ∀ (v : Int) (M1 : Mm), R0_surely rs s b M v M1 → Q (some (ai v)) M1) {m : Nat} {x k : Int} {M1 : Mm} (hM1 : okM (sh8 rs) M1) (h_x : i32 x) (h_k : i32 k) (hJ : J0_surely_22 rs s b M m x k M1) (I_22 : List AV → Mm → Prop) (hI_22 : ∀ (m_ : Nat) (y_x : Int) (y_k : Int) (M2 : Mm), m_ < m → J0_surely_22 rs s b M m_ y_x y_k M2 → I_22 [ar 0, ai y_x, ai y_k] M2) : wp (tb0 (csL (cs0_surely rs))) (sh8 rs) 6 1 cX0_surely [(22, [0, 4, 5], I_22)] Q 400 22 [(0, ar 0), (4, ai x), (5, ai k)] [] M1 := by
  obtain ⟨hz, hq, hl, hb, a, rfl, ha, rfl, rfl⟩ := hJ
  have hrg := (@backL_rg (vX M) (slX rs M s.toNat) b (2 ^ (vX M 0 4).toNat)).1
  have h4 : 0 ≤ vX M 0 4 ∧ vX M 0 4 ≤ 7 := (okY_n hP.1.1).2.1
  have hp := pow7 (n := (vX M 0 4).toNat) (by omega)
  have hlen : (backS (vX M) (slX rs M s.toNat) b).length ≤ 128 := by show (backL _ _ _ _).length ≤ 128; omega
  simp only [e_wp dX0_surely_0 rfl, e_wp dX0_surely_1 rfl, e_wp dX0_surely_2 rfl, e_wp dX0_surely_3 rfl, e_wp dX0_surely_6 rfl, e_wp dX0_surely_7 rfl, e_wp dX0_surely_8 rfl, e_wp dX0_surely_11 rfl, e_wp dX0_surely_12 rfl, e_wp dX0_surely_13 rfl, e_wp dX0_surely_14 rfl, e_wp dX0_surely_17 rfl, e_wp dX0_surely_19 rfl, e_wp dX0_surely_20 rfl, e_wp dX0_surely_22 rfl, e_wp dX0_surely_24 rfl, e_wp dX0_surely_25 rfl, e_wp dX0_surely_28 rfl, e_wp dX0_surely_31 rfl, e_wp dX0_surely_33 rfl, e_wp dX0_surely_34 rfl, e_wp dX0_surely_37 rfl, e_wp dX0_surely_39 rfl, e_wp dX0_surely_40 rfl, e_wp dX0_surely_41 rfl, e_wp dX0_surely_43 rfl, e_wp dX0_surely_46 rfl, e_wp dX0_surely_49 rfl, e_wp dX0_surely_50 rfl, e_wp dX0_surely_53 rfl, e_wp dX0_surely_56 rfl, e_wp dX0_surely_57 rfl, e_wp dX0_surely_60 rfl, e_wp dX0_surely_62 rfl, c0_asksBack, cs0_surely, c0_all_2, P0_all_2, V0_all_2, g0_333, g0_98, a8_13, w8_13, a8_14, w8_14, a8_15, w8_15, a8_16, w8_16, a8_17, w8_17, a8_18, w8_18, a8_19, w8_19, a8_20, w8_20, a8_21, w8_21, a8_22, w8_22, a8_23, w8_23, a8_24, w8_24, a8_25, w8_25, a8_26, w8_26, a8_27, w8_27, a8_28, w8_28, a8_29, w8_29, a8_30, w8_30, a8_31, w8_31, a8_32, w8_32, a8_33, w8_33, a8_34, w8_34, a8_35, w8_35, a8_36, w8_36, a8_37, w8_37, a8_38, w8_38, a8_39, w8_39, a8_40, w8_40, a8_12, w8_12, a8_6, a8_7, e_iconst, e_bipush, e_sipush, e_lconst_0, e_lconst_1, e_iload, e_iload_0, e_iload_1, e_iload_2, e_iload_3, e_lload, e_lload_0, e_lload_1, e_lload_2, e_lload_3, e_aload, e_aload_0, e_aload_1, e_aload_2, e_aload_3, e_istore, e_istore_0, e_istore_1, e_istore_2, e_istore_3, e_astore, e_astore_0, e_astore_1, e_astore_2, e_astore_3, e_lstore, e_lstore_0, e_lstore_1, e_lstore_2, e_lstore_3, e_iinc, e_iadd, e_isub, e_imul, e_ladd, e_lsub, e_lmul, e_idiv, e_irem, e_ldiv, e_lrem, e_ineg, e_lneg, e_iand, e_ior, e_ixor, e_ishl, e_ishr, e_iushr, e_lcmp, e_i2l, e_l2i, e_i2b, e_i2s, e_dup_i, e_dup_r, e_pop_i, e_pop_r, e_dup2_l, e_dup2_ir, e_dup2_ii, e_ifeq, e_ifne, e_iflt, e_ifge, e_ifgt, e_ifle, e_iceq, e_icne, e_iclt, e_icge, e_icgt, e_icle, e_goto, e_switch, e_invokevirtual, e_invokestatic, e_invokespecial, e_ret0, e_ret1, e_ret2, e_ret3, ldI_s, ldL_s, ldR_s, clO_s, ctP_s, ctS_s, mgo_0, mgo_s, pjc_s, pj_0, pj_s, lk_s, rm1_0, rm1_i, rm1_r, rm1_l, rm2_0, rm2_i, rm2_r, rm2_l, csL_s, lc_lt, lc_ge, lc_gt, lc_le, lc_eq, b01_0, b01_1, b01_01, b01_n, up2_o, up2_s, up2_u, ne_eq, reduceCtorEq, Nat.reduceAdd, Nat.reduceEqDiff, Nat.reduceLT, Nat.reduceLeDiff, Int.reduceLE, Int.reduceLT, Int.reduceAdd, Int.reduceNeg, Int.reduceMul, Int.reduceSub, Int.reduceEq, Int.reduceToNat, Int.reduceNatCast, Int.cast_ofNat_Int, ↓reduceIte, and_self, List.drop_succ_cons, List.drop_zero, List.take_succ_cons, List.take_zero, List.length_cons, List.length_nil, List.reverse_cons, List.reverse_nil, List.nil_append, List.cons_append, Option.toList, true_and, and_true, or_false, false_or, or_true, true_or, forall_const, Classical.not_not, not_false_eq_true, not_true_eq_false, false_implies, true_implies, implies_true, imp_self, Int.toNat_natCast]
  refine ⟨fun q => ?_, fun q => ?_⟩
  · have ea : stk (fun k => M1 30 k) a = backS (vX M) (slX rs M s.toNat) b := by
      rw [← hb]; unfold bkX; rw [show (M1 0 31).toNat = a by omega]
    refine ⟨fun z => hQ _ _ ⟨hz, ?_⟩, fun z => hQ _ _ ⟨hz, ?_⟩⟩
    · have hne : backS (vX M) (slX rs M s.toNat) b ≠ [] := by
        intro y
        rw [y] at hl
        exact z hl
      rw [ea, backL_all h4 hne]
      exact ((if_pos hq).trans (if_neg (by rw [← hl]; exact z))).symm
    · exact ((if_pos hq).trans (if_pos (by rw [← hl]; exact z))).symm
  · refine ⟨by omega, by omega, hI_22 (128 - (a + 1)) _ _ _ (by omega) ⟨hz, hq, hl, hb, a + 1, by omega, by omega, rfl, rfl⟩⟩
set_option maxHeartbeats 4000000 in
set_option maxRecDepth 100000 in
theorem m0_surely {rs : List (Nat × Nat)} : MOK cl8 (sh8 rs) tyl8 Nws8 6 yX0_surely cX0_surely 6 (some .int) (sp0_surely rs) := by
  refine mok_of (own := RX0) (tb := tb0 (csL (cs0_surely rs))) (rt := 1) (fuel := 400) (fun avs M Q => [(22, [0, 4, 5], fun m_ vs M1 => ∃ y_x : Int, ∃ y_k : Int, vs = [ar 0, ai y_x, ai y_k] ∧ J0_surely_22 rs (pa true [0, 0] avs 0) (pa true [0, 0] avs 1) M m_ y_x y_k M1)]) (by decide) rfl nws8_ok (tbOK0 _) rfl (csL_all ?_) ?_ ?_ ?_
  · intro q hq
    simp only [cs0_surely, List.mem_cons, List.not_mem_nil, or_false] at hq
    rcases hq with rfl | rfl
    · exact cg0_asksBack (by decide)
    · exact cg0_all_2 (by decide)
  · intro avs M Q hsp
    obtain ⟨xs, hx⟩ := spR_un _ _ _ hsp
    obtain ⟨e, hl⟩ := unA_mkT hx
    obtain ⟨s, b, rfl⟩ := len2 hl
    have e : avs = [ar 0, ai s, ai b] := e
    subst e
    simp [szL, isL]
  · intro avs M Q hM hav hsp
    obtain ⟨xs, hx⟩ := spR_un _ _ _ hsp
    obtain ⟨e, hl⟩ := unA_mkT hx
    obtain ⟨s, b, rfl⟩ := len2 hl
    have e : avs = [ar 0, ai s, ai b] := e
    subst e
    exact in0_surely hM (hav (ai s) (by simp)) (hav (ai b) (by simp)) hsp.1 hsp.2 _ (fun m_ y_x y_k M2 hJ => ⟨m_, y_x, y_k, rfl, hJ⟩)
  · intro avs M Q hM hav hsp q hq m_ vs M1 hM1 hv hJ
    obtain ⟨xs, hx⟩ := spR_un _ _ _ hsp
    obtain ⟨e, hl⟩ := unA_mkT hx
    obtain ⟨s, b, rfl⟩ := len2 hl
    have e : avs = [ar 0, ai s, ai b] := e
    subst e
    simp only [List.mem_cons, List.not_mem_nil, or_false] at hq
    rcases hq with rfl
    · obtain ⟨y_x, y_k, rfl, hJ⟩ := hJ
      exact at0_surely_22 hM (hav (ai s) (by simp)) (hav (ai b) (by simp)) hsp.1 hsp.2 hM1 (hv (4, ai y_x) (List.mem_of_getElem? (i := 1) rfl)) (hv (5, ai y_k) (List.mem_of_getElem? (i := 2) rfl)) hJ _ (fun m2 z_x z_k M2 hm hJ2 => ⟨m2, hm, z_x, z_k, rfl, hJ2⟩)
def P0_never (rs : List (Nat × Nat)) (s : Int) (b : Int) (M : Mm) : Prop := bckP rs s b M
def R0_never (rs : List (Nat × Nat)) (s : Int) (b : Int) (M : Mm) (v : Int) (M1 : Mm) : Prop := keepZ 7200 M M1 ∧ v = A_never (vX M) (slX rs M) s b
def sp0_never (rs : List (Nat × Nat)) : Spec := spR true [0, 0] 1 (fun x M => P0_never rs (x 0) (x 1) M) (fun x M v M1 => R0_never rs (x 0) (x 1) M v M1)
theorem c0_never {rs : List (Nat × Nat)} {s b : Int} {M : Mm} {Q : Option AV → Mm → Prop} : sp0_never rs [ar 0, ai s, ai b] M Q = (P0_never rs s b M ∧ ∀ (v : Int) (M1 : Mm), R0_never rs s b M v M1 → Q (some (ai v)) M1) := rfl
def cs0_never (rs : List (Nat × Nat)) : List (Nat × Nat × Nat × Spec) := [(347, 1, 3, (sp0_asksBack rs)), (339, 1, 2, (sp0_toldBy rs))]
def J0_never_19 (rs : List (Nat × Nat)) (s : Int) (b : Int) (M : Mm) (m : Nat) (b_ : Int) (x : Int) (k : Int) (M1 : Mm) : Prop := b = b_ ∧ keepZ 7200 M M1 ∧ whyP (vX M) (slX rs M) s b = 0 ∧ M1 0 31 = (backS (vX M) (slX rs M s.toNat) b).length ∧ bkX M1 = backS (vX M) (slX rs M s.toNat) b ∧ ∃ a : Nat, k = a ∧ (a : Int) ≤ M1 0 31 ∧ x = anyN (stk (fun k => M1 30 k) a) ∧ m = 128 - a
set_option maxHeartbeats 4000000 in
set_option maxRecDepth 100000 in
theorem in0_never {rs : List (Nat × Nat)} {s b : Int} {M : Mm} {Q : Option AV → Mm → Prop} (hM : okM (sh8 rs) M) (h_s : i32 s) (h_b : i32 b) (hP : P0_never rs s b M) (hQ : ∀ (v : Int) (M1 : Mm), R0_never rs s b M v M1 → Q (some (ai v)) M1) (I_19 : List AV → Mm → Prop) (hI_19 : ∀ (m_ : Nat) (y_b_ : Int) (y_x : Int) (y_k : Int) (M2 : Mm), J0_never_19 rs s b M m_ y_b_ y_x y_k M2 → I_19 [ar 0, ai y_b_, ai y_x, ai y_k] M2) : wp (tb0 (csL (cs0_never rs))) (sh8 rs) 6 1 cX0_never [(19, [0, 2, 4, 5], I_19)] Q 400 0 [(0, ar 0), (1, ai s), (2, ai b)] [] M := by
  simp only [e_wp dX0_never_0 rfl, e_wp dX0_never_1 rfl, e_wp dX0_never_2 rfl, e_wp dX0_never_3 rfl, e_wp dX0_never_6 rfl, e_wp dX0_never_7 rfl, e_wp dX0_never_8 rfl, e_wp dX0_never_11 rfl, e_wp dX0_never_12 rfl, e_wp dX0_never_13 rfl, e_wp dX0_never_14 rfl, e_wp dX0_never_16 rfl, e_wp dX0_never_17 rfl, e_wp dX0_never_19 rfl, e_wp dX0_never_21 rfl, e_wp dX0_never_22 rfl, e_wp dX0_never_25 rfl, e_wp dX0_never_28 rfl, e_wp dX0_never_30 rfl, e_wp dX0_never_31 rfl, e_wp dX0_never_34 rfl, e_wp dX0_never_36 rfl, e_wp dX0_never_37 rfl, e_wp dX0_never_38 rfl, e_wp dX0_never_40 rfl, e_wp dX0_never_43 rfl, e_wp dX0_never_46 rfl, e_wp dX0_never_47 rfl, e_wp dX0_never_50 rfl, e_wp dX0_never_53 rfl, e_wp dX0_never_54 rfl, e_wp dX0_never_57 rfl, e_wp dX0_never_58 rfl, e_wp dX0_never_59 rfl, e_wp dX0_never_62 rfl, e_wp dX0_never_64 rfl, e_wp dX0_never_65 rfl, e_wp dX0_never_66 rfl, e_wp dX0_never_67 rfl, c0_asksBack, cs0_never, g0_333, g0_98, c0_toldBy, P0_toldBy, V0_toldBy, a8_13, w8_13, a8_14, w8_14, a8_15, w8_15, a8_16, w8_16, a8_17, w8_17, a8_18, w8_18, a8_19, w8_19, a8_20, w8_20, a8_21, w8_21, a8_22, w8_22, a8_23, w8_23, a8_24, w8_24, a8_25, w8_25, a8_26, w8_26, a8_27, w8_27, a8_28, w8_28, a8_29, w8_29, a8_30, w8_30, a8_31, w8_31, a8_32, w8_32, a8_33, w8_33, a8_34, w8_34, a8_35, w8_35, a8_36, w8_36, a8_37, w8_37, a8_38, w8_38, a8_39, w8_39, a8_40, w8_40, a8_12, w8_12, a8_6, a8_7, e_iconst, e_bipush, e_sipush, e_lconst_0, e_lconst_1, e_iload, e_iload_0, e_iload_1, e_iload_2, e_iload_3, e_lload, e_lload_0, e_lload_1, e_lload_2, e_lload_3, e_aload, e_aload_0, e_aload_1, e_aload_2, e_aload_3, e_istore, e_istore_0, e_istore_1, e_istore_2, e_istore_3, e_astore, e_astore_0, e_astore_1, e_astore_2, e_astore_3, e_lstore, e_lstore_0, e_lstore_1, e_lstore_2, e_lstore_3, e_iinc, e_iadd, e_isub, e_imul, e_ladd, e_lsub, e_lmul, e_idiv, e_irem, e_ldiv, e_lrem, e_ineg, e_lneg, e_iand, e_ior, e_ixor, e_ishl, e_ishr, e_iushr, e_lcmp, e_i2l, e_l2i, e_i2b, e_i2s, e_dup_i, e_dup_r, e_pop_i, e_pop_r, e_dup2_l, e_dup2_ir, e_dup2_ii, e_ifeq, e_ifne, e_iflt, e_ifge, e_ifgt, e_ifle, e_iceq, e_icne, e_iclt, e_icge, e_icgt, e_icle, e_goto, e_switch, e_invokevirtual, e_invokestatic, e_invokespecial, e_ret0, e_ret1, e_ret2, e_ret3, ldI_s, ldL_s, ldR_s, clO_s, ctP_s, ctS_s, mgo_0, mgo_s, pjc_s, pj_0, pj_s, lk_s, rm1_0, rm1_i, rm1_r, rm1_l, rm2_0, rm2_i, rm2_r, rm2_l, csL_s, lc_lt, lc_ge, lc_gt, lc_le, lc_eq, b01_0, b01_1, b01_01, b01_n, up2_o, up2_s, up2_u, ne_eq, reduceCtorEq, Nat.reduceAdd, Nat.reduceEqDiff, Nat.reduceLT, Nat.reduceLeDiff, Int.reduceLE, Int.reduceLT, Int.reduceAdd, Int.reduceNeg, Int.reduceMul, Int.reduceSub, Int.reduceEq, Int.reduceToNat, Int.reduceNatCast, Int.cast_ofNat_Int, ↓reduceIte, and_self, List.drop_succ_cons, List.drop_zero, List.take_succ_cons, List.take_zero, List.length_cons, List.length_nil, List.reverse_cons, List.reverse_nil, List.nil_append, List.cons_append, Option.toList, true_and, and_true, or_false, false_or, or_true, true_or, forall_const, Classical.not_not, not_false_eq_true, not_true_eq_false, false_implies, true_implies, implies_true, imp_self]
  refine ⟨hP, fun v M1 hR => ?_⟩
  obtain ⟨u1, u2⟩ := bck_use hR
  obtain ⟨r1, r2, r3⟩ := hR
  refine ⟨fun q => hI_19 (128 - 0) _ _ _ _ ⟨rfl, r1, ?_, (r3 (by omega)).1, (r3 (by omega)).2, 0, rfl, ?_, rfl, rfl⟩, fun q => hQ _ _ ⟨r1, ?_⟩⟩
  · omega
  · rw [(r3 (by omega)).1]; omega
  · rw [u1]
    exact (if_neg (by rw [← u1]; omega)).symm
set_option maxHeartbeats 4000000 in
set_option maxRecDepth 100000 in
theorem at0_never_19 {rs : List (Nat × Nat)} {s b : Int} {M : Mm} {Q : Option AV → Mm → Prop} (hM : okM (sh8 rs) M) (h_s : i32 s) (h_b : i32 b) (hP : P0_never rs s b M) (hQ : ∀ (v : Int) (M1 : Mm), R0_never rs s b M v M1 → Q (some (ai v)) M1) {m : Nat} {b_ x k : Int} {M1 : Mm} (hM1 : okM (sh8 rs) M1) (h_b_ : i32 b_) (h_x : i32 x) (h_k : i32 k) (hJ : J0_never_19 rs s b M m b_ x k M1) (I_19 : List AV → Mm → Prop) (hI_19 : ∀ (m_ : Nat) (y_b_ : Int) (y_x : Int) (y_k : Int) (M2 : Mm), m_ < m → J0_never_19 rs s b M m_ y_b_ y_x y_k M2 → I_19 [ar 0, ai y_b_, ai y_x, ai y_k] M2) : wp (tb0 (csL (cs0_never rs))) (sh8 rs) 6 1 cX0_never [(19, [0, 2, 4, 5], I_19)] Q 400 19 [(0, ar 0), (2, ai b_), (4, ai x), (5, ai k)] [] M1 := by
  obtain ⟨rfl, hz, hq, hl, hb, a, rfl, ha, rfl, rfl⟩ := hJ
  have hrg := (@backL_rg (vX M) (slX rs M s.toNat) b (2 ^ (vX M 0 4).toNat)).1
  have h4 : 0 ≤ vX M 0 4 ∧ vX M 0 4 ≤ 7 := (okY_n hP.1.1).2.1
  have hp := pow7 (n := (vX M 0 4).toNat) (by omega)
  have hlen : (backS (vX M) (slX rs M s.toNat) b).length ≤ 128 := by show (backL _ _ _ _).length ≤ 128; omega
  have e1 : M1 1 = M 1 := keepZ_1 hz
  have eV : vX M1 = vX M := keepZ_v hz
  simp only [e_wp dX0_never_0 rfl, e_wp dX0_never_1 rfl, e_wp dX0_never_2 rfl, e_wp dX0_never_3 rfl, e_wp dX0_never_6 rfl, e_wp dX0_never_7 rfl, e_wp dX0_never_8 rfl, e_wp dX0_never_11 rfl, e_wp dX0_never_12 rfl, e_wp dX0_never_13 rfl, e_wp dX0_never_14 rfl, e_wp dX0_never_16 rfl, e_wp dX0_never_17 rfl, e_wp dX0_never_19 rfl, e_wp dX0_never_21 rfl, e_wp dX0_never_22 rfl, e_wp dX0_never_25 rfl, e_wp dX0_never_28 rfl, e_wp dX0_never_30 rfl, e_wp dX0_never_31 rfl, e_wp dX0_never_34 rfl, e_wp dX0_never_36 rfl, e_wp dX0_never_37 rfl, e_wp dX0_never_38 rfl, e_wp dX0_never_40 rfl, e_wp dX0_never_43 rfl, e_wp dX0_never_46 rfl, e_wp dX0_never_47 rfl, e_wp dX0_never_50 rfl, e_wp dX0_never_53 rfl, e_wp dX0_never_54 rfl, e_wp dX0_never_57 rfl, e_wp dX0_never_58 rfl, e_wp dX0_never_59 rfl, e_wp dX0_never_62 rfl, e_wp dX0_never_64 rfl, e_wp dX0_never_65 rfl, e_wp dX0_never_66 rfl, e_wp dX0_never_67 rfl, c0_asksBack, cs0_never, g0_333, g0_98, c0_toldBy, P0_toldBy, V0_toldBy, a8_13, w8_13, a8_14, w8_14, a8_15, w8_15, a8_16, w8_16, a8_17, w8_17, a8_18, w8_18, a8_19, w8_19, a8_20, w8_20, a8_21, w8_21, a8_22, w8_22, a8_23, w8_23, a8_24, w8_24, a8_25, w8_25, a8_26, w8_26, a8_27, w8_27, a8_28, w8_28, a8_29, w8_29, a8_30, w8_30, a8_31, w8_31, a8_32, w8_32, a8_33, w8_33, a8_34, w8_34, a8_35, w8_35, a8_36, w8_36, a8_37, w8_37, a8_38, w8_38, a8_39, w8_39, a8_40, w8_40, a8_12, w8_12, a8_6, a8_7, e_iconst, e_bipush, e_sipush, e_lconst_0, e_lconst_1, e_iload, e_iload_0, e_iload_1, e_iload_2, e_iload_3, e_lload, e_lload_0, e_lload_1, e_lload_2, e_lload_3, e_aload, e_aload_0, e_aload_1, e_aload_2, e_aload_3, e_istore, e_istore_0, e_istore_1, e_istore_2, e_istore_3, e_astore, e_astore_0, e_astore_1, e_astore_2, e_astore_3, e_lstore, e_lstore_0, e_lstore_1, e_lstore_2, e_lstore_3, e_iinc, e_iadd, e_isub, e_imul, e_ladd, e_lsub, e_lmul, e_idiv, e_irem, e_ldiv, e_lrem, e_ineg, e_lneg, e_iand, e_ior, e_ixor, e_ishl, e_ishr, e_iushr, e_lcmp, e_i2l, e_l2i, e_i2b, e_i2s, e_dup_i, e_dup_r, e_pop_i, e_pop_r, e_dup2_l, e_dup2_ir, e_dup2_ii, e_ifeq, e_ifne, e_iflt, e_ifge, e_ifgt, e_ifle, e_iceq, e_icne, e_iclt, e_icge, e_icgt, e_icle, e_goto, e_switch, e_invokevirtual, e_invokestatic, e_invokespecial, e_ret0, e_ret1, e_ret2, e_ret3, ldI_s, ldL_s, ldR_s, clO_s, ctP_s, ctS_s, mgo_0, mgo_s, pjc_s, pj_0, pj_s, lk_s, rm1_0, rm1_i, rm1_r, rm1_l, rm2_0, rm2_i, rm2_r, rm2_l, csL_s, lc_lt, lc_ge, lc_gt, lc_le, lc_eq, b01_0, b01_1, b01_01, b01_n, up2_o, up2_s, up2_u, ne_eq, reduceCtorEq, Nat.reduceAdd, Nat.reduceEqDiff, Nat.reduceLT, Nat.reduceLeDiff, Int.reduceLE, Int.reduceLT, Int.reduceAdd, Int.reduceNeg, Int.reduceMul, Int.reduceSub, Int.reduceEq, Int.reduceToNat, Int.reduceNatCast, Int.cast_ofNat_Int, ↓reduceIte, and_self, List.drop_succ_cons, List.drop_zero, List.take_succ_cons, List.take_zero, List.length_cons, List.length_nil, List.reverse_cons, List.reverse_nil, List.nil_append, List.cons_append, Option.toList, true_and, and_true, or_false, false_or, or_true, true_or, forall_const, Classical.not_not, not_false_eq_true, not_true_eq_false, false_implies, true_implies, implies_true, imp_self, Int.toNat_natCast, e1, eV]
  refine ⟨fun q => ?_, fun q => ?_⟩
  · have ea : stk (fun k => M1 30 k) a = backS (vX M) (slX rs M s.toNat) b := by
      rw [← hb]; unfold bkX; rw [show (M1 0 31).toNat = a by omega]
    refine ⟨fun z => ⟨h4, hQ _ _ ⟨hz, ?_⟩⟩, fun z => hQ _ _ ⟨hz, ?_⟩⟩
    · rw [ea]
      exact ((if_pos hq).trans (if_neg (by rw [← hl]; exact z))).symm
    · exact ((if_pos hq).trans (if_pos (by rw [← hl]; exact z))).symm
  · refine ⟨by omega, by omega, hI_19 (128 - (a + 1)) _ _ _ _ (by omega) ⟨rfl, hz, hq, hl, hb, a + 1, by omega, by omega, rfl, rfl⟩⟩
set_option maxHeartbeats 4000000 in
set_option maxRecDepth 100000 in
theorem m0_never {rs : List (Nat × Nat)} : MOK cl8 (sh8 rs) tyl8 Nws8 6 yX0_never cX0_never 6 (some .int) (sp0_never rs) := by
  refine mok_of (own := RX0) (tb := tb0 (csL (cs0_never rs))) (rt := 1) (fuel := 400) (fun avs M Q => [(19, [0, 2, 4, 5], fun m_ vs M1 => ∃ y_b_ : Int, ∃ y_x : Int, ∃ y_k : Int, vs = [ar 0, ai y_b_, ai y_x, ai y_k] ∧ J0_never_19 rs (pa true [0, 0] avs 0) (pa true [0, 0] avs 1) M m_ y_b_ y_x y_k M1)]) (by decide) rfl nws8_ok (tbOK0 _) rfl (csL_all ?_) ?_ ?_ ?_
  · intro q hq
    simp only [cs0_never, List.mem_cons, List.not_mem_nil, or_false] at hq
    rcases hq with rfl | rfl
    · exact cg0_asksBack (by decide)
    · exact cg0_toldBy (by decide)
  · intro avs M Q hsp
    obtain ⟨xs, hx⟩ := spR_un _ _ _ hsp
    obtain ⟨e, hl⟩ := unA_mkT hx
    obtain ⟨s, b, rfl⟩ := len2 hl
    have e : avs = [ar 0, ai s, ai b] := e
    subst e
    simp [szL, isL]
  · intro avs M Q hM hav hsp
    obtain ⟨xs, hx⟩ := spR_un _ _ _ hsp
    obtain ⟨e, hl⟩ := unA_mkT hx
    obtain ⟨s, b, rfl⟩ := len2 hl
    have e : avs = [ar 0, ai s, ai b] := e
    subst e
    exact in0_never hM (hav (ai s) (by simp)) (hav (ai b) (by simp)) hsp.1 hsp.2 _ (fun m_ y_b_ y_x y_k M2 hJ => ⟨m_, y_b_, y_x, y_k, rfl, hJ⟩)
  · intro avs M Q hM hav hsp q hq m_ vs M1 hM1 hv hJ
    obtain ⟨xs, hx⟩ := spR_un _ _ _ hsp
    obtain ⟨e, hl⟩ := unA_mkT hx
    obtain ⟨s, b, rfl⟩ := len2 hl
    have e : avs = [ar 0, ai s, ai b] := e
    subst e
    simp only [List.mem_cons, List.not_mem_nil, or_false] at hq
    rcases hq with rfl
    · obtain ⟨y_b_, y_x, y_k, rfl, hJ⟩ := hJ
      exact at0_never_19 hM (hav (ai s) (by simp)) (hav (ai b) (by simp)) hsp.1 hsp.2 hM1 (hv (2, ai y_b_) (List.mem_of_getElem? (i := 1) rfl)) (hv (4, ai y_x) (List.mem_of_getElem? (i := 2) rfl)) (hv (5, ai y_k) (List.mem_of_getElem? (i := 3) rfl)) hJ _ (fun m2 z_b_ z_x z_k M2 hm hJ2 => ⟨m2, hm, z_b_, z_x, z_k, rfl, hJ2⟩)
def P0_fewest (rs : List (Nat × Nat)) (s : Int) (b : Int) (M : Mm) : Prop := bckP rs s b M
def R0_fewest (rs : List (Nat × Nat)) (s : Int) (b : Int) (M : Mm) (v : Int) (M1 : Mm) : Prop := keepZ 7200 M M1 ∧ v = A_fewest (vX M) (slX rs M) s b
def sp0_fewest (rs : List (Nat × Nat)) : Spec := spR true [0, 0] 1 (fun x M => P0_fewest rs (x 0) (x 1) M) (fun x M v M1 => R0_fewest rs (x 0) (x 1) M v M1)
theorem c0_fewest {rs : List (Nat × Nat)} {s b : Int} {M : Mm} {Q : Option AV → Mm → Prop} : sp0_fewest rs [ar 0, ai s, ai b] M Q = (P0_fewest rs s b M ∧ ∀ (v : Int) (M1 : Mm), R0_fewest rs s b M v M1 → Q (some (ai v)) M1) := rfl
def cs0_fewest (rs : List (Nat × Nat)) : List (Nat × Nat × Nat × Spec) := [(347, 1, 3, (sp0_asksBack rs)), (300, 0, 1, (sp0_bits rs))]
def J0_fewest_19 (rs : List (Nat × Nat)) (s : Int) (b : Int) (M : Mm) (m : Nat) (x : Int) (k : Int) (M1 : Mm) : Prop := keepZ 7200 M M1 ∧ whyP (vX M) (slX rs M) s b = 0 ∧ M1 0 31 = (backS (vX M) (slX rs M s.toNat) b).length ∧ bkX M1 = backS (vX M) (slX rs M s.toNat) b ∧ ∃ a : Nat, k = a ∧ (a : Int) ≤ M1 0 31 ∧ x = fewN (stk (fun k => M1 30 k) a) ∧ m = 128 - a
set_option maxHeartbeats 4000000 in
set_option maxRecDepth 100000 in
theorem in0_fewest {rs : List (Nat × Nat)} {s b : Int} {M : Mm} {Q : Option AV → Mm → Prop} (hM : okM (sh8 rs) M) (h_s : i32 s) (h_b : i32 b) (hP : P0_fewest rs s b M) (hQ : ∀ (v : Int) (M1 : Mm), R0_fewest rs s b M v M1 → Q (some (ai v)) M1) (I_19 : List AV → Mm → Prop) (hI_19 : ∀ (m_ : Nat) (y_x : Int) (y_k : Int) (M2 : Mm), J0_fewest_19 rs s b M m_ y_x y_k M2 → I_19 [ar 0, ai y_x, ai y_k] M2) : wp (tb0 (csL (cs0_fewest rs))) (sh8 rs) 6 1 cX0_fewest [(19, [0, 4, 5], I_19)] Q 400 0 [(0, ar 0), (1, ai s), (2, ai b)] [] M := by
  simp only [e_wp dX0_fewest_0 rfl, e_wp dX0_fewest_1 rfl, e_wp dX0_fewest_2 rfl, e_wp dX0_fewest_3 rfl, e_wp dX0_fewest_6 rfl, e_wp dX0_fewest_7 rfl, e_wp dX0_fewest_8 rfl, e_wp dX0_fewest_11 rfl, e_wp dX0_fewest_12 rfl, e_wp dX0_fewest_13 rfl, e_wp dX0_fewest_14 rfl, e_wp dX0_fewest_16 rfl, e_wp dX0_fewest_17 rfl, e_wp dX0_fewest_19 rfl, e_wp dX0_fewest_21 rfl, e_wp dX0_fewest_22 rfl, e_wp dX0_fewest_25 rfl, e_wp dX0_fewest_28 rfl, e_wp dX0_fewest_30 rfl, e_wp dX0_fewest_31 rfl, e_wp dX0_fewest_34 rfl, e_wp dX0_fewest_35 rfl, e_wp dX0_fewest_38 rfl, e_wp dX0_fewest_40 rfl, e_wp dX0_fewest_41 rfl, e_wp dX0_fewest_44 rfl, e_wp dX0_fewest_46 rfl, e_wp dX0_fewest_49 rfl, e_wp dX0_fewest_52 rfl, e_wp dX0_fewest_53 rfl, e_wp dX0_fewest_56 rfl, e_wp dX0_fewest_58 rfl, e_wp dX0_fewest_59 rfl, e_wp dX0_fewest_61 rfl, e_wp dX0_fewest_64 rfl, e_wp dX0_fewest_67 rfl, e_wp dX0_fewest_69 rfl, c0_asksBack, cs0_fewest, g0_333, g0_98, c0_bits, P0_bits, V0_bits, a8_13, w8_13, a8_14, w8_14, a8_15, w8_15, a8_16, w8_16, a8_17, w8_17, a8_18, w8_18, a8_19, w8_19, a8_20, w8_20, a8_21, w8_21, a8_22, w8_22, a8_23, w8_23, a8_24, w8_24, a8_25, w8_25, a8_26, w8_26, a8_27, w8_27, a8_28, w8_28, a8_29, w8_29, a8_30, w8_30, a8_31, w8_31, a8_32, w8_32, a8_33, w8_33, a8_34, w8_34, a8_35, w8_35, a8_36, w8_36, a8_37, w8_37, a8_38, w8_38, a8_39, w8_39, a8_40, w8_40, a8_12, w8_12, a8_6, a8_7, e_iconst, e_bipush, e_sipush, e_lconst_0, e_lconst_1, e_iload, e_iload_0, e_iload_1, e_iload_2, e_iload_3, e_lload, e_lload_0, e_lload_1, e_lload_2, e_lload_3, e_aload, e_aload_0, e_aload_1, e_aload_2, e_aload_3, e_istore, e_istore_0, e_istore_1, e_istore_2, e_istore_3, e_astore, e_astore_0, e_astore_1, e_astore_2, e_astore_3, e_lstore, e_lstore_0, e_lstore_1, e_lstore_2, e_lstore_3, e_iinc, e_iadd, e_isub, e_imul, e_ladd, e_lsub, e_lmul, e_idiv, e_irem, e_ldiv, e_lrem, e_ineg, e_lneg, e_iand, e_ior, e_ixor, e_ishl, e_ishr, e_iushr, e_lcmp, e_i2l, e_l2i, e_i2b, e_i2s, e_dup_i, e_dup_r, e_pop_i, e_pop_r, e_dup2_l, e_dup2_ir, e_dup2_ii, e_ifeq, e_ifne, e_iflt, e_ifge, e_ifgt, e_ifle, e_iceq, e_icne, e_iclt, e_icge, e_icgt, e_icle, e_goto, e_switch, e_invokevirtual, e_invokestatic, e_invokespecial, e_ret0, e_ret1, e_ret2, e_ret3, ldI_s, ldL_s, ldR_s, clO_s, ctP_s, ctS_s, mgo_0, mgo_s, pjc_s, pj_0, pj_s, lk_s, rm1_0, rm1_i, rm1_r, rm1_l, rm2_0, rm2_i, rm2_r, rm2_l, csL_s, lc_lt, lc_ge, lc_gt, lc_le, lc_eq, b01_0, b01_1, b01_01, b01_n, up2_o, up2_s, up2_u, ne_eq, reduceCtorEq, Nat.reduceAdd, Nat.reduceEqDiff, Nat.reduceLT, Nat.reduceLeDiff, Int.reduceLE, Int.reduceLT, Int.reduceAdd, Int.reduceNeg, Int.reduceMul, Int.reduceSub, Int.reduceEq, Int.reduceToNat, Int.reduceNatCast, Int.cast_ofNat_Int, ↓reduceIte, and_self, List.drop_succ_cons, List.drop_zero, List.take_succ_cons, List.take_zero, List.length_cons, List.length_nil, List.reverse_cons, List.reverse_nil, List.nil_append, List.cons_append, Option.toList, true_and, and_true, or_false, false_or, or_true, true_or, forall_const, Classical.not_not, not_false_eq_true, not_true_eq_false, false_implies, true_implies, implies_true, imp_self]
  refine ⟨hP, fun v M1 hR => ?_⟩
  obtain ⟨u1, u2⟩ := bck_use hR
  obtain ⟨r1, r2, r3⟩ := hR
  refine ⟨fun q => hI_19 (128 - 0) _ _ _ ⟨r1, ?_, (r3 (by omega)).1, (r3 (by omega)).2, 0, rfl, ?_, rfl, rfl⟩, fun q => hQ _ _ ⟨r1, ?_⟩⟩
  · omega
  · rw [(r3 (by omega)).1]; omega
  · rw [u1]
    exact (if_neg (by rw [← u1]; omega)).symm
set_option maxHeartbeats 4000000 in
set_option maxRecDepth 100000 in
theorem at0_fewest_19 {rs : List (Nat × Nat)} {s b : Int} {M : Mm} {Q : Option AV → Mm → Prop} (hM : okM (sh8 rs) M) (h_s : i32 s) (h_b : i32 b) (hP : P0_fewest rs s b M) (hQ : ∀ (v : Int) (M1 : Mm), R0_fewest rs s b M v M1 → Q (some (ai v)) M1) {m : Nat} {x k : Int} {M1 : Mm} (hM1 : okM (sh8 rs) M1) (h_x : i32 x) (h_k : i32 k) (hJ : J0_fewest_19 rs s b M m x k M1) (I_19 : List AV → Mm → Prop) (hI_19 : ∀ (m_ : Nat) (y_x : Int) (y_k : Int) (M2 : Mm), m_ < m → J0_fewest_19 rs s b M m_ y_x y_k M2 → I_19 [ar 0, ai y_x, ai y_k] M2) : wp (tb0 (csL (cs0_fewest rs))) (sh8 rs) 6 1 cX0_fewest [(19, [0, 4, 5], I_19)] Q 400 19 [(0, ar 0), (4, ai x), (5, ai k)] [] M1 := by
  obtain ⟨hz, hq, hl, hb, a, rfl, ha, rfl, rfl⟩ := hJ
  have hrg := @backL_rg (vX M) (slX rs M s.toNat) b (2 ^ (vX M 0 4).toNat)
  have h4 : 0 ≤ vX M 0 4 ∧ vX M 0 4 ≤ 7 := (okY_n hP.1.1).2.1
  have hp := pow7 (n := (vX M 0 4).toNat) (by omega)
  have hlen : (backS (vX M) (slX rs M s.toNat) b).length ≤ 128 := by show (backL _ _ _ _).length ≤ 128; have := hrg.1; omega
  have hal : ∀ k : Nat, (k : Int) < M1 0 31 → 0 ≤ M1 30 k ∧ M1 30 k < 128 := by
    intro k hk
    have h1 : M1 30 k ∈ bkX M1 := stk_mem (f := fun k => M1 30 k) (n := (M1 0 31).toNat) (k := k) (by omega)
    rw [hb] at h1
    have := hrg.2 _ h1
    omega
  have hfw : fewN (stk (fun k => M1 30 k) a) = -1 ∨ (0 ≤ fewN (stk (fun k => M1 30 k) a) ∧ fewN (stk (fun k => M1 30 k) a) < 128) := by
    refine fewN_rg fun x hx => ?_
    obtain ⟨k, hk, rfl⟩ := stk_inv hx
    exact hal k (by omega)
  have go : ∀ y, (a : Int) < M1 0 31 → y = fewN (stk (fun k => M1 30 k) (a + 1)) → i32 ((a : Int) + 1) ∧ I_19 [ar 0, ai y, ai ((a : Int) + 1)] M1 := by
    intro y g1 g2
    exact ⟨by omega, hI_19 (128 - (a + 1)) _ _ _ (by omega) ⟨hz, hq, hl, hb, a + 1, by omega, by omega, g2, rfl⟩⟩
  have ef : fewN (stk (fun k => M1 30 k) (a + 1)) = if fewN (stk (fun k => M1 30 k) a) = -1 ∨ szP (M1 30 a) < szP (fewN (stk (fun k => M1 30 k) a)) then M1 30 a else fewN (stk (fun k => M1 30 k) a) := rfl
  simp only [e_wp dX0_fewest_0 rfl, e_wp dX0_fewest_1 rfl, e_wp dX0_fewest_2 rfl, e_wp dX0_fewest_3 rfl, e_wp dX0_fewest_6 rfl, e_wp dX0_fewest_7 rfl, e_wp dX0_fewest_8 rfl, e_wp dX0_fewest_11 rfl, e_wp dX0_fewest_12 rfl, e_wp dX0_fewest_13 rfl, e_wp dX0_fewest_14 rfl, e_wp dX0_fewest_16 rfl, e_wp dX0_fewest_17 rfl, e_wp dX0_fewest_19 rfl, e_wp dX0_fewest_21 rfl, e_wp dX0_fewest_22 rfl, e_wp dX0_fewest_25 rfl, e_wp dX0_fewest_28 rfl, e_wp dX0_fewest_30 rfl, e_wp dX0_fewest_31 rfl, e_wp dX0_fewest_34 rfl, e_wp dX0_fewest_35 rfl, e_wp dX0_fewest_38 rfl, e_wp dX0_fewest_40 rfl, e_wp dX0_fewest_41 rfl, e_wp dX0_fewest_44 rfl, e_wp dX0_fewest_46 rfl, e_wp dX0_fewest_49 rfl, e_wp dX0_fewest_52 rfl, e_wp dX0_fewest_53 rfl, e_wp dX0_fewest_56 rfl, e_wp dX0_fewest_58 rfl, e_wp dX0_fewest_59 rfl, e_wp dX0_fewest_61 rfl, e_wp dX0_fewest_64 rfl, e_wp dX0_fewest_67 rfl, e_wp dX0_fewest_69 rfl, c0_asksBack, cs0_fewest, g0_333, g0_98, c0_bits, P0_bits, V0_bits, a8_13, w8_13, a8_14, w8_14, a8_15, w8_15, a8_16, w8_16, a8_17, w8_17, a8_18, w8_18, a8_19, w8_19, a8_20, w8_20, a8_21, w8_21, a8_22, w8_22, a8_23, w8_23, a8_24, w8_24, a8_25, w8_25, a8_26, w8_26, a8_27, w8_27, a8_28, w8_28, a8_29, w8_29, a8_30, w8_30, a8_31, w8_31, a8_32, w8_32, a8_33, w8_33, a8_34, w8_34, a8_35, w8_35, a8_36, w8_36, a8_37, w8_37, a8_38, w8_38, a8_39, w8_39, a8_40, w8_40, a8_12, w8_12, a8_6, a8_7, e_iconst, e_bipush, e_sipush, e_lconst_0, e_lconst_1, e_iload, e_iload_0, e_iload_1, e_iload_2, e_iload_3, e_lload, e_lload_0, e_lload_1, e_lload_2, e_lload_3, e_aload, e_aload_0, e_aload_1, e_aload_2, e_aload_3, e_istore, e_istore_0, e_istore_1, e_istore_2, e_istore_3, e_astore, e_astore_0, e_astore_1, e_astore_2, e_astore_3, e_lstore, e_lstore_0, e_lstore_1, e_lstore_2, e_lstore_3, e_iinc, e_iadd, e_isub, e_imul, e_ladd, e_lsub, e_lmul, e_idiv, e_irem, e_ldiv, e_lrem, e_ineg, e_lneg, e_iand, e_ior, e_ixor, e_ishl, e_ishr, e_iushr, e_lcmp, e_i2l, e_l2i, e_i2b, e_i2s, e_dup_i, e_dup_r, e_pop_i, e_pop_r, e_dup2_l, e_dup2_ir, e_dup2_ii, e_ifeq, e_ifne, e_iflt, e_ifge, e_ifgt, e_ifle, e_iceq, e_icne, e_iclt, e_icge, e_icgt, e_icle, e_goto, e_switch, e_invokevirtual, e_invokestatic, e_invokespecial, e_ret0, e_ret1, e_ret2, e_ret3, ldI_s, ldL_s, ldR_s, clO_s, ctP_s, ctS_s, mgo_0, mgo_s, pjc_s, pj_0, pj_s, lk_s, rm1_0, rm1_i, rm1_r, rm1_l, rm2_0, rm2_i, rm2_r, rm2_l, csL_s, lc_lt, lc_ge, lc_gt, lc_le, lc_eq, b01_0, b01_1, b01_01, b01_n, up2_o, up2_s, up2_u, ne_eq, reduceCtorEq, Nat.reduceAdd, Nat.reduceEqDiff, Nat.reduceLT, Nat.reduceLeDiff, Int.reduceLE, Int.reduceLT, Int.reduceAdd, Int.reduceNeg, Int.reduceMul, Int.reduceSub, Int.reduceEq, Int.reduceToNat, Int.reduceNatCast, Int.cast_ofNat_Int, ↓reduceIte, and_self, List.drop_succ_cons, List.drop_zero, List.take_succ_cons, List.take_zero, List.length_cons, List.length_nil, List.reverse_cons, List.reverse_nil, List.nil_append, List.cons_append, Option.toList, true_and, and_true, or_false, false_or, or_true, true_or, forall_const, Classical.not_not, not_false_eq_true, not_true_eq_false, false_implies, true_implies, implies_true, imp_self, Int.toNat_natCast]
  refine ⟨fun q => hQ _ _ ⟨hz, ?_⟩, fun q => ⟨fun z => ⟨by omega, go _ q (ef.trans (if_pos (Or.inl z))).symm⟩, fun z => ⟨by omega, hal a q, by omega, fun w => go _ q (ef.trans (if_neg (by omega))).symm, fun w => ⟨by omega, go _ q (ef.trans (if_pos (Or.inr w))).symm⟩⟩⟩⟩
  have ea : stk (fun k => M1 30 k) a = backS (vX M) (slX rs M s.toNat) b := by
    rw [← hb]; unfold bkX; rw [show (M1 0 31).toNat = a by omega]
  rw [ea]
  exact (if_pos hq).symm
set_option maxHeartbeats 4000000 in
set_option maxRecDepth 100000 in
theorem m0_fewest {rs : List (Nat × Nat)} : MOK cl8 (sh8 rs) tyl8 Nws8 6 yX0_fewest cX0_fewest 6 (some .int) (sp0_fewest rs) := by
  refine mok_of (own := RX0) (tb := tb0 (csL (cs0_fewest rs))) (rt := 1) (fuel := 400) (fun avs M Q => [(19, [0, 4, 5], fun m_ vs M1 => ∃ y_x : Int, ∃ y_k : Int, vs = [ar 0, ai y_x, ai y_k] ∧ J0_fewest_19 rs (pa true [0, 0] avs 0) (pa true [0, 0] avs 1) M m_ y_x y_k M1)]) (by decide) rfl nws8_ok (tbOK0 _) rfl (csL_all ?_) ?_ ?_ ?_
  · intro q hq
    simp only [cs0_fewest, List.mem_cons, List.not_mem_nil, or_false] at hq
    rcases hq with rfl | rfl
    · exact cg0_asksBack (by decide)
    · exact cg0_bits (by decide)
  · intro avs M Q hsp
    obtain ⟨xs, hx⟩ := spR_un _ _ _ hsp
    obtain ⟨e, hl⟩ := unA_mkT hx
    obtain ⟨s, b, rfl⟩ := len2 hl
    have e : avs = [ar 0, ai s, ai b] := e
    subst e
    simp [szL, isL]
  · intro avs M Q hM hav hsp
    obtain ⟨xs, hx⟩ := spR_un _ _ _ hsp
    obtain ⟨e, hl⟩ := unA_mkT hx
    obtain ⟨s, b, rfl⟩ := len2 hl
    have e : avs = [ar 0, ai s, ai b] := e
    subst e
    exact in0_fewest hM (hav (ai s) (by simp)) (hav (ai b) (by simp)) hsp.1 hsp.2 _ (fun m_ y_x y_k M2 hJ => ⟨m_, y_x, y_k, rfl, hJ⟩)
  · intro avs M Q hM hav hsp q hq m_ vs M1 hM1 hv hJ
    obtain ⟨xs, hx⟩ := spR_un _ _ _ hsp
    obtain ⟨e, hl⟩ := unA_mkT hx
    obtain ⟨s, b, rfl⟩ := len2 hl
    have e : avs = [ar 0, ai s, ai b] := e
    subst e
    simp only [List.mem_cons, List.not_mem_nil, or_false] at hq
    rcases hq with rfl
    · obtain ⟨y_x, y_k, rfl, hJ⟩ := hJ
      exact at0_fewest_19 hM (hav (ai s) (by simp)) (hav (ai b) (by simp)) hsp.1 hsp.2 hM1 (hv (4, ai y_x) (List.mem_of_getElem? (i := 1) rfl)) (hv (5, ai y_k) (List.mem_of_getElem? (i := 2) rfl)) hJ _ (fun m2 z_x z_k M2 hm hJ2 => ⟨m2, hm, z_x, z_k, rfl, hJ2⟩)
theorem bck_askP {rs : List (Nat × Nat)} {s b v : Int} {M M1 : Mm} (hp : bckP rs s b M) (hR : R0_asksBack rs s b M v M1) (h0 : v = 0) : P0_askOf rs M1 := by
  obtain ⟨r1, r2, r3⟩ := hR
  obtain ⟨hl, hb⟩ := r3 h0
  have hrg := @backL_rg (vX M) (slX rs M s.toNat) b (2 ^ (vX M 0 4).toNat)
  have h4 : 0 ≤ vX M 0 4 ∧ vX M 0 4 ≤ 7 := (okY_n hp.1.1).2.1
  have h4' : 0 ≤ M 1 5 ∧ M 1 5 ≤ 7 := h4
  have hp7 := pow7 (n := (vX M 0 4).toNat) (by omega)
  have hlen : (backS (vX M) (slX rs M s.toNat) b).length ≤ 128 := by show (backL _ _ _ _).length ≤ 128; have := hrg.1; omega
  have e1 : M1 1 = M 1 := keepZ_1 r1
  refine ⟨by omega, by rw [e1]; exact h4', fun x hx => ?_⟩
  rw [hb] at hx
  have := hrg.2 _ hx
  omega
theorem bck_askR {rs : List (Nat × Nat)} {s b v w : Int} {M M1 M2 : Mm} (hR : R0_asksBack rs s b M v M1) (h0 : v = 0) (hA : R0_askOf rs M1 w M2) : keepZ 7200 M M2 ∧ (w, M2 0 32) = bestN (wrsN (backS (vX M) (slX rs M s.toNat) b)) (backS (vX M) (slX rs M s.toNat) b).length (vX M 0 4).toNat := by
  obtain ⟨r1, r2, r3⟩ := hR
  obtain ⟨hl, hb⟩ := r3 h0
  obtain ⟨a1, a2, a3⟩ := hA
  have e1 : M1 1 = M 1 := keepZ_1 r1
  rw [hb, e1] at a3
  refine ⟨⟨frm_tr r1.1 a1 (by decide), fun j hj => (a2 j (by revert hj; simp only [List.mem_cons, List.not_mem_nil, or_false]; omega)).trans (r1.2.1 j hj), fun B h8 hB => ?_⟩, a3⟩
  have := r1.2.2 B h8 hB
  have e8 : M2 0 8 = M1 0 8 := a2 _ (by decide)
  omega
def P0_ask (rs : List (Nat × Nat)) (s : Int) (b : Int) (M : Mm) : Prop := bckP rs s b M
def R0_ask (rs : List (Nat × Nat)) (s : Int) (b : Int) (M : Mm) (v : Int) (M1 : Mm) : Prop := keepZ 7200 M M1 ∧ v = A_ask (vX M) (slX rs M) s b
def sp0_ask (rs : List (Nat × Nat)) : Spec := spR true [0, 0] 1 (fun x M => P0_ask rs (x 0) (x 1) M) (fun x M v M1 => R0_ask rs (x 0) (x 1) M v M1)
theorem c0_ask {rs : List (Nat × Nat)} {s b : Int} {M : Mm} {Q : Option AV → Mm → Prop} : sp0_ask rs [ar 0, ai s, ai b] M Q = (P0_ask rs s b M ∧ ∀ (v : Int) (M1 : Mm), R0_ask rs s b M v M1 → Q (some (ai v)) M1) := rfl
def cs0_ask (rs : List (Nat × Nat)) : List (Nat × Nat × Nat × Spec) := [(347, 1, 3, (sp0_asksBack rs)), (353, 1, 1, (sp0_askOf rs))]
set_option maxHeartbeats 4000000 in
set_option maxRecDepth 100000 in
theorem in0_ask {rs : List (Nat × Nat)} {s b : Int} {M : Mm} {Q : Option AV → Mm → Prop} (hM : okM (sh8 rs) M) (h_s : i32 s) (h_b : i32 b) (hP : P0_ask rs s b M) (hQ : ∀ (v : Int) (M1 : Mm), R0_ask rs s b M v M1 → Q (some (ai v)) M1) : wp (tb0 (csL (cs0_ask rs))) (sh8 rs) 4 1 cX0_ask [] Q 400 0 [(0, ar 0), (1, ai s), (2, ai b)] [] M := by
  simp only [e_wp dX0_ask_0 rfl, e_wp dX0_ask_1 rfl, e_wp dX0_ask_2 rfl, e_wp dX0_ask_3 rfl, e_wp dX0_ask_6 rfl, e_wp dX0_ask_7 rfl, e_wp dX0_ask_8 rfl, e_wp dX0_ask_11 rfl, e_wp dX0_ask_12 rfl, e_wp dX0_ask_15 rfl, e_wp dX0_ask_16 rfl, e_wp dX0_ask_19 rfl, c0_asksBack, cs0_ask, c0_askOf, e_iconst, e_bipush, e_sipush, e_lconst_0, e_lconst_1, e_iload, e_iload_0, e_iload_1, e_iload_2, e_iload_3, e_lload, e_lload_0, e_lload_1, e_lload_2, e_lload_3, e_aload, e_aload_0, e_aload_1, e_aload_2, e_aload_3, e_istore, e_istore_0, e_istore_1, e_istore_2, e_istore_3, e_astore, e_astore_0, e_astore_1, e_astore_2, e_astore_3, e_lstore, e_lstore_0, e_lstore_1, e_lstore_2, e_lstore_3, e_iinc, e_iadd, e_isub, e_imul, e_ladd, e_lsub, e_lmul, e_idiv, e_irem, e_ldiv, e_lrem, e_ineg, e_lneg, e_iand, e_ior, e_ixor, e_ishl, e_ishr, e_iushr, e_lcmp, e_i2l, e_l2i, e_i2b, e_i2s, e_dup_i, e_dup_r, e_pop_i, e_pop_r, e_dup2_l, e_dup2_ir, e_dup2_ii, e_ifeq, e_ifne, e_iflt, e_ifge, e_ifgt, e_ifle, e_iceq, e_icne, e_iclt, e_icge, e_icgt, e_icle, e_goto, e_switch, e_invokevirtual, e_invokestatic, e_invokespecial, e_ret0, e_ret1, e_ret2, e_ret3, ldI_s, ldL_s, ldR_s, clO_s, ctP_s, ctS_s, mgo_0, mgo_s, pjc_s, pj_0, pj_s, lk_s, rm1_0, rm1_i, rm1_r, rm1_l, rm2_0, rm2_i, rm2_r, rm2_l, csL_s, lc_lt, lc_ge, lc_gt, lc_le, lc_eq, b01_0, b01_1, b01_01, b01_n, up2_o, up2_s, up2_u, ne_eq, reduceCtorEq, Nat.reduceAdd, Nat.reduceEqDiff, Nat.reduceLT, Nat.reduceLeDiff, Int.reduceLE, Int.reduceLT, Int.reduceAdd, Int.reduceNeg, Int.reduceMul, Int.reduceSub, Int.reduceEq, Int.reduceToNat, Int.reduceNatCast, Int.cast_ofNat_Int, ↓reduceIte, and_self, List.drop_succ_cons, List.drop_zero, List.take_succ_cons, List.take_zero, List.length_cons, List.length_nil, List.reverse_cons, List.reverse_nil, List.nil_append, List.cons_append, Option.toList, true_and, and_true, or_false, false_or, or_true, true_or, forall_const, Classical.not_not, not_false_eq_true, not_true_eq_false, false_implies, true_implies, implies_true, imp_self]
  refine ⟨hP, fun v M1 hR => ?_⟩
  obtain ⟨u1, u2⟩ := bck_use hR
  refine ⟨fun q => ⟨bck_askP hP hR (by omega), fun w M2 hA => ?_⟩, fun q => hQ _ _ ⟨hR.1, ?_⟩⟩
  · obtain ⟨y1, y2⟩ := bck_askR hR (by omega) hA
    exact hQ _ _ ⟨y1, (congrArg Prod.fst y2).trans (if_pos (by omega)).symm⟩
  · rw [u1]
    exact (if_neg (by rw [← u1]; omega)).symm
set_option maxHeartbeats 4000000 in
set_option maxRecDepth 100000 in
theorem m0_ask {rs : List (Nat × Nat)} : MOK cl8 (sh8 rs) tyl8 Nws8 6 yX0_ask cX0_ask 4 (some .int) (sp0_ask rs) := by
  refine mok_of (own := RX0) (tb := tb0 (csL (cs0_ask rs))) (rt := 1) (fuel := 400) (fun avs M Q => []) (by decide) rfl nws8_ok (tbOK0 _) rfl (csL_all ?_) ?_ ?_ ?_
  · intro q hq
    simp only [cs0_ask, List.mem_cons, List.not_mem_nil, or_false] at hq
    rcases hq with rfl | rfl
    · exact cg0_asksBack (by decide)
    · exact cg0_askOf (by decide)
  · intro avs M Q hsp
    obtain ⟨xs, hx⟩ := spR_un _ _ _ hsp
    obtain ⟨e, hl⟩ := unA_mkT hx
    obtain ⟨s, b, rfl⟩ := len2 hl
    have e : avs = [ar 0, ai s, ai b] := e
    subst e
    simp [szL, isL]
  · intro avs M Q hM hav hsp
    obtain ⟨xs, hx⟩ := spR_un _ _ _ hsp
    obtain ⟨e, hl⟩ := unA_mkT hx
    obtain ⟨s, b, rfl⟩ := len2 hl
    have e : avs = [ar 0, ai s, ai b] := e
    subst e
    exact in0_ask hM (hav (ai s) (by simp)) (hav (ai b) (by simp)) hsp.1 hsp.2
  · intro avs M Q hM hav hsp q hq m_ vs M1 hM1 hv hJ
    obtain ⟨xs, hx⟩ := spR_un _ _ _ hsp
    obtain ⟨e, hl⟩ := unA_mkT hx
    obtain ⟨s, b, rfl⟩ := len2 hl
    have e : avs = [ar 0, ai s, ai b] := e
    subst e
    cases hq
def P0_leaves (rs : List (Nat × Nat)) (s : Int) (b : Int) (M : Mm) : Prop := bckP rs s b M
def R0_leaves (rs : List (Nat × Nat)) (s : Int) (b : Int) (M : Mm) (v : Int) (M1 : Mm) : Prop := keepZ 7200 M M1 ∧ v = A_leaves (vX M) (slX rs M) s b
def sp0_leaves (rs : List (Nat × Nat)) : Spec := spR true [0, 0] 1 (fun x M => P0_leaves rs (x 0) (x 1) M) (fun x M v M1 => R0_leaves rs (x 0) (x 1) M v M1)
theorem c0_leaves {rs : List (Nat × Nat)} {s b : Int} {M : Mm} {Q : Option AV → Mm → Prop} : sp0_leaves rs [ar 0, ai s, ai b] M Q = (P0_leaves rs s b M ∧ ∀ (v : Int) (M1 : Mm), R0_leaves rs s b M v M1 → Q (some (ai v)) M1) := rfl
def cs0_leaves (rs : List (Nat × Nat)) : List (Nat × Nat × Nat × Spec) := [(347, 1, 3, (sp0_asksBack rs)), (353, 1, 1, (sp0_askOf rs))]
set_option maxHeartbeats 4000000 in
set_option maxRecDepth 100000 in
theorem in0_leaves {rs : List (Nat × Nat)} {s b : Int} {M : Mm} {Q : Option AV → Mm → Prop} (hM : okM (sh8 rs) M) (h_s : i32 s) (h_b : i32 b) (hP : P0_leaves rs s b M) (hQ : ∀ (v : Int) (M1 : Mm), R0_leaves rs s b M v M1 → Q (some (ai v)) M1) : wp (tb0 (csL (cs0_leaves rs))) (sh8 rs) 4 1 cX0_leaves [] Q 400 0 [(0, ar 0), (1, ai s), (2, ai b)] [] M := by
  simp only [e_wp dX0_leaves_0 rfl, e_wp dX0_leaves_1 rfl, e_wp dX0_leaves_2 rfl, e_wp dX0_leaves_3 rfl, e_wp dX0_leaves_6 rfl, e_wp dX0_leaves_7 rfl, e_wp dX0_leaves_8 rfl, e_wp dX0_leaves_11 rfl, e_wp dX0_leaves_12 rfl, e_wp dX0_leaves_13 rfl, e_wp dX0_leaves_14 rfl, e_wp dX0_leaves_17 rfl, e_wp dX0_leaves_18 rfl, e_wp dX0_leaves_19 rfl, e_wp dX0_leaves_22 rfl, c0_asksBack, cs0_leaves, c0_askOf, g0_350, e_iconst, e_bipush, e_sipush, e_lconst_0, e_lconst_1, e_iload, e_iload_0, e_iload_1, e_iload_2, e_iload_3, e_lload, e_lload_0, e_lload_1, e_lload_2, e_lload_3, e_aload, e_aload_0, e_aload_1, e_aload_2, e_aload_3, e_istore, e_istore_0, e_istore_1, e_istore_2, e_istore_3, e_astore, e_astore_0, e_astore_1, e_astore_2, e_astore_3, e_lstore, e_lstore_0, e_lstore_1, e_lstore_2, e_lstore_3, e_iinc, e_iadd, e_isub, e_imul, e_ladd, e_lsub, e_lmul, e_idiv, e_irem, e_ldiv, e_lrem, e_ineg, e_lneg, e_iand, e_ior, e_ixor, e_ishl, e_ishr, e_iushr, e_lcmp, e_i2l, e_l2i, e_i2b, e_i2s, e_dup_i, e_dup_r, e_pop_i, e_pop_r, e_dup2_l, e_dup2_ir, e_dup2_ii, e_ifeq, e_ifne, e_iflt, e_ifge, e_ifgt, e_ifle, e_iceq, e_icne, e_iclt, e_icge, e_icgt, e_icle, e_goto, e_switch, e_invokevirtual, e_invokestatic, e_invokespecial, e_ret0, e_ret1, e_ret2, e_ret3, ldI_s, ldL_s, ldR_s, clO_s, ctP_s, ctS_s, mgo_0, mgo_s, pjc_s, pj_0, pj_s, lk_s, rm1_0, rm1_i, rm1_r, rm1_l, rm2_0, rm2_i, rm2_r, rm2_l, csL_s, lc_lt, lc_ge, lc_gt, lc_le, lc_eq, b01_0, b01_1, b01_01, b01_n, up2_o, up2_s, up2_u, ne_eq, reduceCtorEq, Nat.reduceAdd, Nat.reduceEqDiff, Nat.reduceLT, Nat.reduceLeDiff, Int.reduceLE, Int.reduceLT, Int.reduceAdd, Int.reduceNeg, Int.reduceMul, Int.reduceSub, Int.reduceEq, Int.reduceToNat, Int.reduceNatCast, Int.cast_ofNat_Int, ↓reduceIte, and_self, List.drop_succ_cons, List.drop_zero, List.take_succ_cons, List.take_zero, List.length_cons, List.length_nil, List.reverse_cons, List.reverse_nil, List.nil_append, List.cons_append, Option.toList, true_and, and_true, or_false, false_or, or_true, true_or, forall_const, Classical.not_not, not_false_eq_true, not_true_eq_false, false_implies, true_implies, implies_true, imp_self]
  refine ⟨hP, fun v M1 hR => ?_⟩
  obtain ⟨u1, u2⟩ := bck_use hR
  refine ⟨fun q => ⟨bck_askP hP hR (by omega), fun w M2 hA => ?_⟩, fun q => hQ _ _ ⟨hR.1, ?_⟩⟩
  · obtain ⟨y1, y2⟩ := bck_askR hR (by omega) hA
    exact hQ _ _ ⟨y1, (congrArg Prod.snd y2).trans (if_pos (by omega)).symm⟩
  · rw [u1]
    exact (if_neg (by rw [← u1]; omega)).symm
set_option maxHeartbeats 4000000 in
set_option maxRecDepth 100000 in
theorem m0_leaves {rs : List (Nat × Nat)} : MOK cl8 (sh8 rs) tyl8 Nws8 6 yX0_leaves cX0_leaves 4 (some .int) (sp0_leaves rs) := by
  refine mok_of (own := RX0) (tb := tb0 (csL (cs0_leaves rs))) (rt := 1) (fuel := 400) (fun avs M Q => []) (by decide) rfl nws8_ok (tbOK0 _) rfl (csL_all ?_) ?_ ?_ ?_
  · intro q hq
    simp only [cs0_leaves, List.mem_cons, List.not_mem_nil, or_false] at hq
    rcases hq with rfl | rfl
    · exact cg0_asksBack (by decide)
    · exact cg0_askOf (by decide)
  · intro avs M Q hsp
    obtain ⟨xs, hx⟩ := spR_un _ _ _ hsp
    obtain ⟨e, hl⟩ := unA_mkT hx
    obtain ⟨s, b, rfl⟩ := len2 hl
    have e : avs = [ar 0, ai s, ai b] := e
    subst e
    simp [szL, isL]
  · intro avs M Q hM hav hsp
    obtain ⟨xs, hx⟩ := spR_un _ _ _ hsp
    obtain ⟨e, hl⟩ := unA_mkT hx
    obtain ⟨s, b, rfl⟩ := len2 hl
    have e : avs = [ar 0, ai s, ai b] := e
    subst e
    exact in0_leaves hM (hav (ai s) (by simp)) (hav (ai b) (by simp)) hsp.1 hsp.2
  · intro avs M Q hM hav hsp q hq m_ vs M1 hM1 hv hJ
    obtain ⟨xs, hx⟩ := spR_un _ _ _ hsp
    obtain ⟨e, hl⟩ := unA_mkT hx
    obtain ⟨s, b, rfl⟩ := len2 hl
    have e : avs = [ar 0, ai s, ai b] := e
    subst e
    cases hq
