/-! SagMemory: a cart goes over -/
/-- what was wiped is counted on, or anew -/
def wX (M M1 : Mm) : Prop := ∀ B : Int, 8 ≤ B → 0 ≤ M 0 8 ∧ M 0 8 ≤ B → 0 ≤ M1 0 8 ∧ M1 0 8 ≤ B
theorem wX_eq {M M1 : Mm} (h : M1 0 8 = M 0 8) : wX M M1 := fun B _ h2 => by rw [h]; exact h2
theorem wX_tr {M M1 M2 : Mm} (h : wX M M1) (h2 : wX M1 M2) : wX M M2 := fun B h8 hb => h2 B h8 (h B h8 hb)
theorem wX_8 {M M1 : Mm} (h : 0 ≤ M1 0 8 ∧ M1 0 8 ≤ 8) : wX M M1 := fun B h8 _ => by omega
theorem cross_2b {law ld who : Int} (l : List Pr) : 0 ≤ (crossP law ld who l).2 ∧ (crossP law ld who l).2 ≤ l.length := by
  unfold crossP
  split
  · exact ⟨Int.le_refl _, by show (0 : Int) ≤ l.length; omega⟩
  · split
    · rename_i q
      have : l.length ≠ 0 := fun z => q.2.1 (List.length_eq_zero_iff.mp z)
      exact ⟨by show (0 : Int) ≤ 1; omega, by show (1 : Int) ≤ l.length; omega⟩
    · have h := pop_len ld l
      exact ⟨by show (0 : Int) ≤ (l.length : Int) - (popP ld l).length; omega, by show (l.length : Int) - (popP ld l).length ≤ l.length; omega⟩
/-- a cart goes over the bridge b -/
def goneR (c b turn : Int) (M M1 : Mm) : Prop :=
  let r := crossP (M 0 10 - 2) (M 16 c.toNat) turn (mbX M b)
  (mbX M1 b = r.1 ∧ okBX M1 b) ∧ (∀ b', okBX M b' → ¬ b' = b → mbX M1 b' = mbX M b' ∧ okBX M1 b') ∧ frm [0, 13, 14, 15, 19, 21, 22, 23, 24, 25] M M1 ∧ (∀ j, ¬ j = 8 → M1 0 j = M 0 j) ∧
  (∀ k, k ∈ [19, 21, 22, 23, 24] → ∀ j : Nat, ¬ j = c.toNat → M1 k j = M k j) ∧
  (M1 19 c.toNat = b ∧ M1 21 c.toNat = sagP r.1 - sagP (mbX M b) ∧ M1 22 c.toNat = (if lastP (mbX M b) < M 16 c.toNat then M 16 c.toNat - lastP (mbX M b) else 0) ∧ M1 24 c.toNat = r.2 ∧ M1 23 c.toNat = (if sagP r.1 - sagP (mbX M b) < 0 then 0 else M 34 b.toNat * (sagP r.1 - sagP (mbX M b))) ∧ M1 0 8 = r.2) ∧
  ∀ a : Nat, M1 25 a = if M 33 b.toNat < sagP r.1 ∧ a = b.toNat then c else M 25 a
/-- the memory when the load has gone over and what it told is written -/
def gonM (M1 : Mm) (ci : Nat) (dg pd : Int) : Mm := up2 (up2 (up2 M1 24 ci (M1 0 8)) 21 ci dg) 23 ci pd
theorem gone_of {M M1 M2 : Mm} {b c turn cr pd : Int} (hcr : cr = (if lastP (mbX M b) < M 16 c.toNat then M 16 c.toNat - lastP (mbX M b) else 0)) (hR : goR (M 0 10 - 2) b (M 16 c.toNat) turn (up2 (up2 (up2 M 19 c.toNat b) 22 c.toNat cr) 0 8 0) M1)
    (hpd : pd = (if sagP (mbX M1 b) - sagP (mbX M b) < 0 then 0 else M 34 b.toNat * (sagP (mbX M1 b) - sagP (mbX M b))))
    (h2 : M2 = if M 33 b.toNat < sagP (mbX M1 b) then up2 (gonM M1 c.toNat (sagP (mbX M1 b) - sagP (mbX M b)) pd) 25 b.toNat c else gonM M1 c.toNat (sagP (mbX M1 b) - sagP (mbX M b)) pd) : goneR c b turn M M2 := by
  obtain ⟨g1, g2, g3, g4, g5, g6⟩ := hR
  rw [mb_uX (by decide) (by decide) (by decide), mb_uX (by decide) (by decide) (by decide), mb_uX (by decide) (by decide) (by decide)] at g1 g3
  rw [up2_s] at g3
  have x13 : M2 13 = M1 13 := by
    rw [h2]; funext j; split <;> simp [gonM, up2_r]
  have x14 : M2 14 = M1 14 := by
    rw [h2]; funext j; split <;> simp [gonM, up2_r]
  have x15 : M2 15 = M1 15 := by
    rw [h2]; funext j; split <;> simp [gonM, up2_r]
  have x0 : M2 0 = M1 0 := by
    rw [h2]; funext j; split <;> simp [gonM, up2_r]
  have x19 : M2 19 = M1 19 := by
    rw [h2]; funext j; split <;> simp [gonM, up2_r]
  have x22 : M2 22 = M1 22 := by
    rw [h2]; funext j; split <;> simp [gonM, up2_r]
  have x21 : ∀ j, M2 21 j = if j = c.toNat then sagP (mbX M1 b) - sagP (mbX M b) else M1 21 j := by
    intro j
    rw [h2]; split <;> simp [gonM, up2_r]
  have x23 : ∀ j, M2 23 j = if j = c.toNat then pd else M1 23 j := by
    intro j
    rw [h2]; split <;> simp [gonM, up2_r]
  have x24 : ∀ j, M2 24 j = if j = c.toNat then M1 0 8 else M1 24 j := by
    intro j
    rw [h2]; split <;> simp [gonM, up2_r]
  have x25 : ∀ a, M2 25 a = if M 33 b.toNat < sagP (mbX M1 b) ∧ a = b.toNat then c else M1 25 a := by
    intro a
    rw [h2]
    split
    · rename_i q; simp [gonM, up2_r, q]
    · rename_i q; simp [gonM, up2_r, q]
  have em := fun b' => mb_eqX x13 x14 x15 b'
  have y19 : ∀ j, M1 19 j = if j = c.toNat then b else M 19 j := by
    intro j
    rw [g4 _ (by decide)]
    simp [up2_r]
  have y22 : ∀ j, M1 22 j = if j = c.toNat then cr else M 22 j := by
    intro j
    rw [g4 _ (by decide)]
    simp [up2_r]
  have yo : ∀ k, k ∉ [0, 13, 14, 15, 19, 22] → M1 k = M k := by
    intro k hk
    simp only [List.mem_cons, List.not_mem_nil, or_false, not_or] at hk
    rw [g4 k (by simp only [List.mem_cons, List.not_mem_nil, or_false]; omega)]
    rw [up2_ne (by omega), up2_ne (by omega), up2_ne (by omega)]
  rw [goneR]
  rw [← g1]
  refine ⟨⟨(em b).1, (em b).2.mpr g2⟩, fun b' hb hne => ?_, fun k hk => ?_, fun j hj => ?_, fun k hk j hj => ?_, ⟨?_, ?_, ?_, ?_, ?_, ?_⟩, fun a => ?_⟩
  · have hb' : okBX (up2 (up2 (up2 M 19 c.toNat b) 22 c.toNat cr) 0 8 0) b' := by
      rw [okB_uX (by decide) (by decide) (by decide), okB_uX (by decide) (by decide) (by decide), okB_uX (by decide) (by decide) (by decide)]
      exact hb
    obtain ⟨z1, z2⟩ := g6 b' hb' hne
    rw [mb_uX (by decide) (by decide) (by decide), mb_uX (by decide) (by decide) (by decide), mb_uX (by decide) (by decide) (by decide)] at z1
    exact ⟨(em b').1.trans z1, (em b').2.mpr z2⟩
  · simp only [List.mem_cons, List.not_mem_nil, or_false, not_or] at hk
    rw [← yo k (by simp only [List.mem_cons, List.not_mem_nil, or_false, not_or]; omega), h2]
    split
    · rw [up2_ne (by omega)]; unfold gonM; rw [up2_ne (by omega), up2_ne (by omega), up2_ne (by omega)]
    · unfold gonM; rw [up2_ne (by omega), up2_ne (by omega), up2_ne (by omega)]
  · rw [x0, g5 j hj, up2_n hj, up2_o (by decide), up2_o (by decide)]
  · simp only [List.mem_cons, List.not_mem_nil, or_false] at hk
    rcases hk with rfl | rfl | rfl | rfl | rfl
    · rw [x19, y19, if_neg hj]
    · rw [x21, if_neg hj, yo _ (by decide)]
    · rw [x22, y22, if_neg hj]
    · rw [x23, if_neg hj, yo _ (by decide)]
    · rw [x24, if_neg hj, yo _ (by decide)]
  · rw [x19, y19, if_pos rfl]
  · rw [x21, if_pos rfl]
  · rw [x22, y22, if_pos rfl, hcr]
  · rw [x24, if_pos rfl, g3]; omega
  · rw [x23, if_pos rfl, hpd]
  · rw [x0, g3]; omega
  · rw [x25, yo _ (by decide)]
def P0_goes_2 (rs : List (Nat × Nat)) (c : Int) (turn : Int) (M : Mm) : Prop := okY (vX M) ∧ okCf (vX M) (cX M) ∧ baseI M ∧ (0 ≤ c ∧ c < M 1 5) ∧ (0 ≤ M 20 c.toNat ∧ M 20 c.toNat < M 1 4) ∧ okBX M (M 20 c.toNat) ∧ M 15 (M 20 c.toNat).toNat ≤ 7
def R0_goes_2 (rs : List (Nat × Nat)) (c : Int) (turn : Int) (M : Mm) (M1 : Mm) : Prop := goneR c (M 20 c.toNat) turn M M1
def sp0_goes_2 (rs : List (Nat × Nat)) : Spec := spV true [0, 0] (fun x M => P0_goes_2 rs (x 0) (x 1) M) (fun x M M1 => R0_goes_2 rs (x 0) (x 1) M M1)
theorem c0_goes_2 {rs : List (Nat × Nat)} {c turn : Int} {M : Mm} {Q : Option AV → Mm → Prop} : sp0_goes_2 rs [ar 0, ai c, ai turn] M Q = (P0_goes_2 rs c turn M ∧ ∀ (M1 : Mm), R0_goes_2 rs c turn M M1 → Q none M1) := rfl
def cs0_goes_2 (rs : List (Nat × Nat)) : List (Nat × Nat × Nat × Spec) := [(218, 1, 2, (sp0_sagOf rs)), (222, 1, 2, (sp0_lastOf rs)), (225, 0, 2, (sp0_mmax rs)), (234, 1, 4, (sp0_wgoes rs))]
set_option maxHeartbeats 4000000 in
set_option maxRecDepth 100000 in
theorem in0_goes_2 {rs : List (Nat × Nat)} {c turn : Int} {M : Mm} {Q : Option AV → Mm → Prop} (hM : okM (sh8 rs) M) (h_c : i32 c) (h_turn : i32 turn) (hP : P0_goes_2 rs c turn M) (hQ : ∀ (M1 : Mm), R0_goes_2 rs c turn M M1 → Q none M1) : wp (tb0 (csL (cs0_goes_2 rs))) (sh8 rs) 5 0 cX0_goes_2 [] Q 400 0 [(0, ar 0), (1, ai c), (2, ai turn)] [] M := by
  obtain ⟨hY, hC, hB, hc, hb, h0, h1⟩ := id hP
  have hl : fval 2 (M 0 10) = ar (M 0 10).toNat := by
    have := hC.1
    have : 0 ≤ M 0 10 - 2 := this.1
    rw [← fval_n (M 0 10).toNat, show (((M 0 10).toNat : Nat) : Int) = M 0 10 by omega]
  simp only [e_wp dX0_goes_2_0 rfl, e_wp dX0_goes_2_1 rfl, e_wp dX0_goes_2_4 rfl, e_wp dX0_goes_2_5 rfl, e_wp dX0_goes_2_6 rfl, e_wp dX0_goes_2_7 rfl, e_wp dX0_goes_2_8 rfl, e_wp dX0_goes_2_9 rfl, e_wp dX0_goes_2_12 rfl, e_wp dX0_goes_2_14 rfl, e_wp dX0_goes_2_15 rfl, e_wp dX0_goes_2_18 rfl, e_wp dX0_goes_2_19 rfl, e_wp dX0_goes_2_20 rfl, e_wp dX0_goes_2_21 rfl, e_wp dX0_goes_2_22 rfl, e_wp dX0_goes_2_25 rfl, e_wp dX0_goes_2_26 rfl, e_wp dX0_goes_2_27 rfl, e_wp dX0_goes_2_28 rfl, e_wp dX0_goes_2_31 rfl, e_wp dX0_goes_2_32 rfl, e_wp dX0_goes_2_33 rfl, e_wp dX0_goes_2_34 rfl, e_wp dX0_goes_2_35 rfl, e_wp dX0_goes_2_38 rfl, e_wp dX0_goes_2_39 rfl, e_wp dX0_goes_2_42 rfl, e_wp dX0_goes_2_43 rfl, e_wp dX0_goes_2_44 rfl, e_wp dX0_goes_2_45 rfl, e_wp dX0_goes_2_48 rfl, e_wp dX0_goes_2_49 rfl, e_wp dX0_goes_2_52 rfl, e_wp dX0_goes_2_53 rfl, e_wp dX0_goes_2_54 rfl, e_wp dX0_goes_2_57 rfl, e_wp dX0_goes_2_58 rfl, e_wp dX0_goes_2_59 rfl, e_wp dX0_goes_2_60 rfl, e_wp dX0_goes_2_63 rfl, e_wp dX0_goes_2_64 rfl, e_wp dX0_goes_2_67 rfl, e_wp dX0_goes_2_68 rfl, e_wp dX0_goes_2_69 rfl, e_wp dX0_goes_2_72 rfl, e_wp dX0_goes_2_73 rfl, e_wp dX0_goes_2_74 rfl, e_wp dX0_goes_2_77 rfl, e_wp dX0_goes_2_78 rfl, e_wp dX0_goes_2_79 rfl, e_wp dX0_goes_2_80 rfl, e_wp dX0_goes_2_83 rfl, e_wp dX0_goes_2_85 rfl, e_wp dX0_goes_2_86 rfl, e_wp dX0_goes_2_87 rfl, e_wp dX0_goes_2_88 rfl, e_wp dX0_goes_2_91 rfl, e_wp dX0_goes_2_92 rfl, e_wp dX0_goes_2_93 rfl, e_wp dX0_goes_2_96 rfl, e_wp dX0_goes_2_99 rfl, e_wp dX0_goes_2_100 rfl, e_wp dX0_goes_2_101 rfl, e_wp dX0_goes_2_102 rfl, e_wp dX0_goes_2_103 rfl, e_wp dX0_goes_2_106 rfl, e_wp dX0_goes_2_107 rfl, e_wp dX0_goes_2_108 rfl, e_wp dX0_goes_2_111 rfl, e_wp dX0_goes_2_112 rfl, e_wp dX0_goes_2_113 rfl, e_wp dX0_goes_2_114 rfl, e_wp dX0_goes_2_115 rfl, e_wp dX0_goes_2_118 rfl, e_wp dX0_goes_2_119 rfl, e_wp dX0_goes_2_122 rfl, e_wp dX0_goes_2_125 rfl, e_wp dX0_goes_2_126 rfl, e_wp dX0_goes_2_127 rfl, e_wp dX0_goes_2_130 rfl, e_wp dX0_goes_2_131 rfl, e_wp dX0_goes_2_134 rfl, e_wp dX0_goes_2_135 rfl, e_wp dX0_goes_2_136 rfl, e_wp dX0_goes_2_137 rfl, g0_68, c0_sagOf, P0_sagOf, V0_sagOf, cs0_goes_2, g0_65, g0_74, g0_56, c0_lastOf, P0_lastOf, V0_lastOf, c0_mmax, P0_mmax, V0_mmax, p0_231, g0_52, c0_wgoes, g0_80, g0_231, g0_71, g0_77, g0_10, g0_177, g0_174, g0_83, a8_13, w8_13, a8_14, w8_14, a8_15, w8_15, a8_16, w8_16, a8_17, w8_17, a8_18, w8_18, a8_19, w8_19, a8_20, w8_20, a8_21, w8_21, a8_22, w8_22, a8_23, w8_23, a8_24, w8_24, a8_25, w8_25, a8_26, w8_26, a8_27, w8_27, a8_28, w8_28, a8_29, w8_29, a8_30, w8_30, a8_31, w8_31, a8_32, w8_32, a8_33, w8_33, a8_34, w8_34, a8_35, w8_35, a8_36, w8_36, a8_37, w8_37, a8_38, w8_38, a8_39, w8_39, a8_40, w8_40, a8_12, w8_12, a8_6, a8_7, e_iconst, e_bipush, e_sipush, e_lconst_0, e_lconst_1, e_iload, e_iload_0, e_iload_1, e_iload_2, e_iload_3, e_lload, e_lload_0, e_lload_1, e_lload_2, e_lload_3, e_aload, e_aload_0, e_aload_1, e_aload_2, e_aload_3, e_istore, e_istore_0, e_istore_1, e_istore_2, e_istore_3, e_astore, e_astore_0, e_astore_1, e_astore_2, e_astore_3, e_lstore, e_lstore_0, e_lstore_1, e_lstore_2, e_lstore_3, e_iinc, e_iadd, e_isub, e_imul, e_ladd, e_lsub, e_lmul, e_idiv, e_irem, e_ldiv, e_lrem, e_ineg, e_lneg, e_iand, e_ior, e_ixor, e_ishl, e_ishr, e_iushr, e_lcmp, e_i2l, e_l2i, e_i2b, e_i2s, e_dup_i, e_dup_r, e_pop_i, e_pop_r, e_dup2_l, e_dup2_ir, e_dup2_ii, e_ifeq, e_ifne, e_iflt, e_ifge, e_ifgt, e_ifle, e_iceq, e_icne, e_iclt, e_icge, e_icgt, e_icle, e_goto, e_switch, e_invokevirtual, e_invokestatic, e_invokespecial, e_ret0, e_ret1, e_ret2, e_ret3, ldI_s, ldL_s, ldR_s, clO_s, ctP_s, ctS_s, mgo_0, mgo_s, pjc_s, pj_0, pj_s, lk_s, rm1_0, rm1_i, rm1_r, rm1_l, rm2_0, rm2_i, rm2_r, rm2_l, csL_s, lc_lt, lc_ge, lc_gt, lc_le, lc_eq, b01_0, b01_1, b01_01, b01_n, up2_o, up2_s, up2_u, ne_eq, reduceCtorEq, Nat.reduceAdd, Nat.reduceEqDiff, Nat.reduceLT, Nat.reduceLeDiff, Int.reduceLE, Int.reduceLT, Int.reduceAdd, Int.reduceNeg, Int.reduceMul, Int.reduceSub, Int.reduceEq, Int.reduceToNat, Int.reduceNatCast, Int.cast_ofNat_Int, ↓reduceIte, and_self, List.drop_succ_cons, List.drop_zero, List.take_succ_cons, List.take_zero, List.length_cons, List.length_nil, List.reverse_cons, List.reverse_nil, List.nil_append, List.cons_append, Option.toList, true_and, and_true, or_false, false_or, or_true, true_or, forall_const, Classical.not_not, not_false_eq_true, not_true_eq_false, false_implies, true_implies, implies_true, imp_self, hl, okB_uX, mb_uX, up2_n]
  have hb7 : 0 ≤ M 34 (M 20 c.toNat).toNat ∧ M 34 (M 20 c.toNat).toNat ≤ 9 := by
    have k1 := (okY_b hY (M 20 c.toNat).toNat (by show (((M 20 c.toNat).toNat : Nat) : Int) < M 1 4; omega)).2
    rw [(vX_b M (by omega)).2] at k1
    exact k1
  have h3 := (okY_n hY).1
  have h3' : M 1 4 ≤ 3 := h3.2
  have h4 := (okY_n hY).2.1
  have h4' : M 1 5 ≤ 7 := h4.2
  have hC1 := hC.2 c.toNat (by show ((c.toNat : Nat) : Int) < M 1 5; omega)
  have hld : 1 ≤ M 16 c.toNat ∧ M 16 c.toNat ≤ 99 := hC1.1
  have hlaw : 0 ≤ M 0 10 - 2 ∧ M 0 10 - 2 ≤ 3 := hC.1
  have hlp := lastP_b h0.2.2
  have s1 := sagP_b h0.2.2
  have l1 := mb_lenX h0
  have n1 := h0.2.1
  generalize hcr : (if 0 < M 16 c.toNat - lastP (mbX M (M 20 c.toNat)) then M 16 c.toNat - lastP (mbX M (M 20 c.toNat)) else 0) = cr
  have hcr' : cr = (if lastP (mbX M (M 20 c.toNat)) < M 16 c.toNat then M 16 c.toNat - lastP (mbX M (M 20 c.toNat)) else 0) := by
    rw [← hcr]
    by_cases q : lastP (mbX M (M 20 c.toNat)) < M 16 c.toNat
    · rw [if_pos q, if_pos (by omega)]
    · rw [if_neg q, if_neg (by omega)]
  have eL : (((M 0 10).toNat : Nat) : Int) = M 0 10 := by omega
  have hG : goP (M 20 c.toNat) (M 16 c.toNat) (up2 (up2 (up2 M 19 c.toNat (M 20 c.toNat)) 22 c.toNat cr) 0 8 0) := by
    refine ⟨?_, ?_, hld, ?_⟩
    · rw [okB_uX (by decide) (by decide) (by decide), okB_uX (by decide) (by decide) (by decide), okB_uX (by decide) (by decide) (by decide)]
      exact h0
    · rw [up2_o (by decide), up2_o (by decide), up2_o (by decide)]; exact h1
    · rw [up2_s]; omega
  refine ⟨by omega, h0, by omega, by omega, h0, by omega, by omega, by omega, ⟨by omega, hG, ?_⟩, fun M1 hR => ?_⟩
  · rw [up2_o (by decide), up2_o (by decide), up2_o (by decide)]
    exact (hB 0 (by decide)).1
  · have hR : goR (((M 0 10).toNat : Int) - 2) (M 20 c.toNat) (M 16 c.toNat) turn (up2 (up2 (up2 M 19 c.toNat (M 20 c.toNat)) 22 c.toNat cr) 0 8 0) M1 := hR
    rw [eL] at hR
    have e34 : M1 34 = M 34 := by rw [hR.2.2.2.1 _ (by decide), up2_ne (by decide), up2_ne (by decide), up2_ne (by decide)]
    have e33 : M1 33 = M 33 := by rw [hR.2.2.2.1 _ (by decide), up2_ne (by decide), up2_ne (by decide), up2_ne (by decide)]
    have s2 := sagP_b hR.2.1.2.2
    have l2 := mb_lenX hR.2.1
    have n2 := hR.2.1.2.1
    rw [e34, e33]
    generalize hpd : (M 34 (M 20 c.toNat).toNat * if 0 < sagP (mbX M1 (M 20 c.toNat)) - sagP (mbX M (M 20 c.toNat)) then sagP (mbX M1 (M 20 c.toNat)) - sagP (mbX M (M 20 c.toNat)) else 0) = pd
    have hpd' : pd = (if sagP (mbX M1 (M 20 c.toNat)) - sagP (mbX M (M 20 c.toNat)) < 0 then 0 else M 34 (M 20 c.toNat).toNat * (sagP (mbX M1 (M 20 c.toNat)) - sagP (mbX M (M 20 c.toNat)))) := by
      rw [← hpd]
      by_cases q : sagP (mbX M1 (M 20 c.toNat)) - sagP (mbX M (M 20 c.toNat)) < 0
      · rw [if_pos q, if_neg (by omega), Int.mul_zero]
      · rw [if_neg q]
        by_cases q2 : 0 < sagP (mbX M1 (M 20 c.toNat)) - sagP (mbX M (M 20 c.toNat))
        · rw [if_pos q2]
        · rw [if_neg q2, show sagP (mbX M1 (M 20 c.toNat)) - sagP (mbX M (M 20 c.toNat)) = 0 by omega]
    have hpb : 0 ≤ pd ∧ pd ≤ 9 * 792 := by
      rw [hpd']
      split
      · omega
      · rename_i q
        have m1 := Int.mul_nonneg hb7.1 (show 0 ≤ sagP (mbX M1 (M 20 c.toNat)) - sagP (mbX M (M 20 c.toNat)) by omega)
        have m2 := Int.mul_le_mul hb7.2 (show sagP (mbX M1 (M 20 c.toNat)) - sagP (mbX M (M 20 c.toNat)) ≤ 792 by omega) (by omega) (by omega)
        omega
    refine ⟨by omega, hR.2.1, by omega, by omega, by omega, by omega, by omega, by omega, hR.2.1, by omega, fun q => ?_, fun q => ⟨by omega, ?_⟩⟩
    · refine hQ _ (gone_of hcr' hR hpd' ?_)
      rw [if_neg (by omega)]
      rfl
    · refine hQ _ (gone_of hcr' hR hpd' ?_)
      rw [if_pos q]
      rfl
set_option maxHeartbeats 4000000 in
set_option maxRecDepth 100000 in
theorem m0_goes_2 {rs : List (Nat × Nat)} : MOK cl8 (sh8 rs) tyl8 Nws8 4 yX0_goes_2 cX0_goes_2 5 none (sp0_goes_2 rs) := by
  refine mok_of (own := RX0) (tb := tb0 (csL (cs0_goes_2 rs))) (rt := 0) (fuel := 400) (fun avs M Q => []) (by decide) rfl nws8_ok (tbOK0 _) rfl (csL_all ?_) ?_ ?_ ?_
  · intro q hq
    simp only [cs0_goes_2, List.mem_cons, List.not_mem_nil, or_false] at hq
    rcases hq with rfl | rfl | rfl | rfl
    · exact cg0_sagOf (by decide)
    · exact cg0_lastOf (by decide)
    · exact cg0_mmax (by decide)
    · exact cg0_wgoes (by decide)
  · intro avs M Q hsp
    obtain ⟨xs, hx⟩ := spV_un _ _ _ hsp
    obtain ⟨e, hl⟩ := unA_mkT hx
    obtain ⟨c, turn, rfl⟩ := len2 hl
    have e : avs = [ar 0, ai c, ai turn] := e
    subst e
    simp [szL, isL]
  · intro avs M Q hM hav hsp
    obtain ⟨xs, hx⟩ := spV_un _ _ _ hsp
    obtain ⟨e, hl⟩ := unA_mkT hx
    obtain ⟨c, turn, rfl⟩ := len2 hl
    have e : avs = [ar 0, ai c, ai turn] := e
    subst e
    exact in0_goes_2 hM (hav (ai c) (by simp)) (hav (ai turn) (by simp)) hsp.1 hsp.2
  · intro avs M Q hM hav hsp q hq m_ vs M1 hM1 hv hJ
    obtain ⟨xs, hx⟩ := spV_un _ _ _ hsp
    obtain ⟨e, hl⟩ := unA_mkT hx
    obtain ⟨c, turn, rfl⟩ := len2 hl
    have e : avs = [ar 0, ai c, ai turn] := e
    subst e
    cases hq
theorem cg0_goes_2 {rs : List (Nat × Nat)} {lvl : Nat} (h : 4 < lvl) : CG RX0 cl8 (sh8 rs) tyl8 Nws8 lvl 1 247 3 (sp0_goes_2 rs) := cg_V (sg := [0, 0]) nws8_ok spV_mono spV_un m0_goes_2 h rfl (by decide) rfl rfl ⟨rfl, by decide, by decide, rfl⟩ q823 q825 qs23 q128 q826
