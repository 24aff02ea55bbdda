/-! SagMemory: frosts by chance -/
theorem wgt_o {V : Vy} {x : Int} : ∀ n : Nat, wgtP V x n = wgtP (fun _ _ => V 0 2) x n := by
  intro n
  induction n with
  | zero => rfl
  | succ n ih =>
    show wgtP V x n * (if bitP x n then V 0 2 else 10 - V 0 2) = wgtP (fun _ _ => V 0 2) x n * (if bitP x n then V 0 2 else 10 - V 0 2)
    rw [ih]
theorem wgt_dec : ∀ (o : Fin 11) (n : Fin 8), sumN (fun x => wgtP (fun _ _ => (o.val : Int)) x n.val) (2 ^ n.val) = tenP n.val := by decide +kernel
/-- all sets of frosts together -/
theorem wgt_all {V : Vy} (h : okY V) {n : Nat} (hn : n ≤ 7) : sumN (fun x => wgtP V x n) (2 ^ n) = tenP n := by
  have ho := h.2.2.1
  have e := wgt_dec ⟨(V 0 2).toNat, by omega⟩ ⟨n, by omega⟩
  have e : sumN (fun x => wgtP (fun _ _ => (((V 0 2).toNat : Nat) : Int)) x n) (2 ^ n) = tenP n := e
  rw [Int.toNat_of_nonneg ho.1] at e
  rw [← e]
  exact sumN_congr fun k _ => wgt_o n
theorem wgt_sb {V : Vy} (h : okY V) {n a : Nat} (hn : n ≤ 7) (ha : a ≤ 128) : 0 ≤ sumN (fun x => wgtP V x n) a ∧ sumN (fun x => wgtP V x n) a ≤ 1280000000 := by
  have ht := tenP_b hn
  have := sumN_b (f := fun x => wgtP V x n) (B := 10000000) (n := a) (fun k _ => by
    have := wgt_b h k n
    show 0 ≤ wgtP V k n ∧ wgtP V k n ≤ 10000000
    omega)
  omega
theorem exF_at {V : Vy} {M : Mm} {x : Int} (h : exF V (cX M)) (hx : M 0 24 = x) : nC V (cX M) = frsC V x := by
  have e := exF_u h x
  rw [← hx, up2_id] at e
  rw [e, hx]
theorem vak_x {V : Vy} {C : Cf} {M1 : Mm} (hr : ranX V C M1) {b : Nat} (hb : (b : Int) < V 0 3) : (if M1 25 b = -1 then 0 else 1) = vakP V C b 0 ∧ sagP (mbX M1 b) = vakP V C b 1 ∧ okBX M1 b := by
  have h1 := hr.2.1 b hb
  have hs := sim_run (V := V) (C := C) (w := whoX) (w' := whoM C) (V 0 4).toNat
  refine ⟨?_, ?_, (hr.1 b hb).1⟩
  · rw [h1.2, hs.2]
    rfl
  · rw [h1.1]
    exact sag_fst (hs.1 b)
def P0_laysChances (rs : List (Nat × Nat)) (b : Int) (M : Mm) : Prop := okX M ∧ isB (vX M) b
def R0_laysChances (rs : List (Nat × Nat)) (b : Int) (M : Mm) (M1 : Mm) : Prop := keepX M M1 ∧ M1 0 40 = tenP (vX M 0 4).toNat ∧ M1 0 41 = sumN (wF (vX M) b.toNat 0) (2 ^ (vX M 0 4).toNat) ∧ M1 0 42 = sumN (wF (vX M) b.toNat 1) (2 ^ (vX M 0 4).toNat)
def sp0_laysChances (rs : List (Nat × Nat)) : Spec := spV true [0] (fun x M => P0_laysChances rs (x 0) M) (fun x M M1 => R0_laysChances rs (x 0) M M1)
theorem c0_laysChances {rs : List (Nat × Nat)} {b : Int} {M : Mm} {Q : Option AV → Mm → Prop} : sp0_laysChances rs [ar 0, ai b] M Q = (P0_laysChances rs b M ∧ ∀ (M1 : Mm), R0_laysChances rs b M M1 → Q none M1) := rfl
def cs0_laysChances (rs : List (Nat × Nat)) : List (Nat × Nat × Nat × Spec) := [(250, 1, 1, (sp0_asItIs rs)), (336, 1, 1, (sp0_all_2 rs)), (238, 0, 2, (sp0_isOf rs)), (253, 1, 1, (sp0_lays rs)), (218, 1, 2, (sp0_sagOf rs))]
def J0_laysChances_24 (rs : List (Nat × Nat)) (b : Int) (M : Mm) (m : Nat) (b_ : Int) (M1 : Mm) : Prop := b = b_ ∧ keepX M M1 ∧ exF (vX M) (cX M1) ∧ ∃ a : Nat, M1 0 24 = a ∧ a ≤ 2 ^ (vX M 0 4).toNat ∧ M1 0 40 = sumN (fun x => wgtP (vX M) x (vX M 0 4).toNat) a ∧ M1 0 41 = sumN (wF (vX M) b.toNat 0) a ∧ M1 0 42 = sumN (wF (vX M) b.toNat 1) a ∧ m = (128 - a) * 10 + 9
def J0_laysChances_40 (rs : List (Nat × Nat)) (b : Int) (M : Mm) (m : Nat) (b_ : Int) (w : Int) (c : Int) (M1 : Mm) : Prop := b = b_ ∧ keepX M M1 ∧ exF (vX M) (cX M1) ∧ ∃ a i : Nat, M1 0 24 = a ∧ a < 2 ^ (vX M 0 4).toNat ∧ M1 0 40 = sumN (fun x => wgtP (vX M) x (vX M 0 4).toNat) a ∧ M1 0 41 = sumN (wF (vX M) b.toNat 0) a ∧ M1 0 42 = sumN (wF (vX M) b.toNat 1) a ∧ c = i ∧ (i : Int) ≤ M 1 5 ∧ w = wgtP (vX M) a i ∧ m = (128 - a) * 10 + (8 - i)
set_option maxHeartbeats 4000000 in
set_option maxRecDepth 100000 in
theorem in0_laysChances {rs : List (Nat × Nat)} {b : Int} {M : Mm} {Q : Option AV → Mm → Prop} (hM : okM (sh8 rs) M) (h_b : i32 b) (hP : P0_laysChances rs b M) (hQ : ∀ (M1 : Mm), R0_laysChances rs b M M1 → Q none M1) (I_24 : List AV → Mm → Prop) (hI_24 : ∀ (m_ : Nat) (y_b_ : Int) (M2 : Mm), J0_laysChances_24 rs b M m_ y_b_ M2 → I_24 [ar 0, ai y_b_] M2) (I_40 : List AV → Mm → Prop) (hI_40 : ∀ (m_ : Nat) (y_b_ : Int) (y_w : Int) (y_c : Int) (M2 : Mm), J0_laysChances_40 rs b M m_ y_b_ y_w y_c M2 → I_40 [ar 0, ai y_b_, al y_w, ai y_c] M2) : wp (tb0 (csL (cs0_laysChances rs))) (sh8 rs) 5 0 cX0_laysChances [(24, [0, 1], I_24), (40, [0, 1, 2, 4], I_40)] Q 400 0 [(0, ar 0), (1, ai b)] [] M := by
  obtain ⟨⟨hY, hB⟩, hb⟩ := id hP
  have hV : vX (up2 (up2 (up2 M 0 40 0) 0 41 0) 0 42 0) = vX M := vX_frm (frm_up (frm_up (frm_up frm_rf (by decide)) (by decide)) (by decide)) (rows := [0]) (by decide)
  have hk0 : keepX M (up2 (up2 (up2 M 0 40 0) 0 41 0) 0 42 0) := keepX_u (keepX_u (keepX_u keepX_rf (by decide) (by decide)) (by decide) (by decide)) (by decide) (by decide)
  simp only [e_wp dX0_laysChances_0 rfl, e_wp dX0_laysChances_1 rfl, e_wp dX0_laysChances_2 rfl, e_wp dX0_laysChances_5 rfl, e_wp dX0_laysChances_6 rfl, e_wp dX0_laysChances_7 rfl, e_wp dX0_laysChances_10 rfl, e_wp dX0_laysChances_11 rfl, e_wp dX0_laysChances_12 rfl, e_wp dX0_laysChances_15 rfl, e_wp dX0_laysChances_16 rfl, e_wp dX0_laysChances_19 rfl, e_wp dX0_laysChances_20 rfl, e_wp dX0_laysChances_21 rfl, e_wp dX0_laysChances_24 rfl, e_wp dX0_laysChances_25 rfl, e_wp dX0_laysChances_28 rfl, e_wp dX0_laysChances_29 rfl, e_wp dX0_laysChances_32 rfl, e_wp dX0_laysChances_35 rfl, e_wp dX0_laysChances_36 rfl, e_wp dX0_laysChances_37 rfl, e_wp dX0_laysChances_38 rfl, e_wp dX0_laysChances_40 rfl, e_wp dX0_laysChances_42 rfl, e_wp dX0_laysChances_43 rfl, e_wp dX0_laysChances_46 rfl, e_wp dX0_laysChances_49 rfl, e_wp dX0_laysChances_52 rfl, e_wp dX0_laysChances_53 rfl, e_wp dX0_laysChances_54 rfl, e_wp dX0_laysChances_57 rfl, e_wp dX0_laysChances_59 rfl, e_wp dX0_laysChances_62 rfl, e_wp dX0_laysChances_65 rfl, e_wp dX0_laysChances_66 rfl, e_wp dX0_laysChances_69 rfl, e_wp dX0_laysChances_72 rfl, e_wp dX0_laysChances_73 rfl, e_wp dX0_laysChances_76 rfl, e_wp dX0_laysChances_78 rfl, e_wp dX0_laysChances_79 rfl, e_wp dX0_laysChances_82 rfl, e_wp dX0_laysChances_85 rfl, e_wp dX0_laysChances_86 rfl, e_wp dX0_laysChances_87 rfl, e_wp dX0_laysChances_88 rfl, e_wp dX0_laysChances_89 rfl, e_wp dX0_laysChances_92 rfl, e_wp dX0_laysChances_95 rfl, e_wp dX0_laysChances_96 rfl, e_wp dX0_laysChances_99 rfl, e_wp dX0_laysChances_100 rfl, e_wp dX0_laysChances_101 rfl, e_wp dX0_laysChances_104 rfl, e_wp dX0_laysChances_105 rfl, e_wp dX0_laysChances_106 rfl, e_wp dX0_laysChances_109 rfl, e_wp dX0_laysChances_110 rfl, e_wp dX0_laysChances_111 rfl, e_wp dX0_laysChances_114 rfl, e_wp dX0_laysChances_115 rfl, e_wp dX0_laysChances_118 rfl, e_wp dX0_laysChances_119 rfl, e_wp dX0_laysChances_120 rfl, e_wp dX0_laysChances_121 rfl, e_wp dX0_laysChances_124 rfl, e_wp dX0_laysChances_125 rfl, e_wp dX0_laysChances_128 rfl, e_wp dX0_laysChances_129 rfl, e_wp dX0_laysChances_130 rfl, e_wp dX0_laysChances_133 rfl, e_wp dX0_laysChances_134 rfl, e_wp dX0_laysChances_135 rfl, e_wp dX0_laysChances_138 rfl, e_wp dX0_laysChances_139 rfl, e_wp dX0_laysChances_140 rfl, e_wp dX0_laysChances_141 rfl, e_wp dX0_laysChances_144 rfl, e_wp dX0_laysChances_145 rfl, e_wp dX0_laysChances_146 rfl, e_wp dX0_laysChances_147 rfl, e_wp dX0_laysChances_150 rfl, e_wp dX0_laysChances_151 rfl, e_wp dX0_laysChances_152 rfl, e_wp dX0_laysChances_155 rfl, e_wp dX0_laysChances_156 rfl, e_wp dX0_laysChances_157 rfl, e_wp dX0_laysChances_160 rfl, e_wp dX0_laysChances_163 rfl, p0_420, p0_424, p0_427, c0_asItIs, cs0_laysChances, p0_203, g0_203, c0_all_2, P0_all_2, V0_all_2, g0_10, g0_156, c0_isOf, P0_isOf, V0_isOf, g0_430, c0_lays, g0_420, g0_424, g0_83, g0_427, c0_sagOf, P0_sagOf, V0_sagOf, a8_13, w8_13, a8_14, w8_14, a8_15, w8_15, a8_16, w8_16, a8_17, w8_17, a8_18, w8_18, a8_19, w8_19, a8_20, w8_20, a8_21, w8_21, a8_22, w8_22, a8_23, w8_23, a8_24, w8_24, a8_25, w8_25, a8_26, w8_26, a8_27, w8_27, a8_28, w8_28, a8_29, w8_29, a8_30, w8_30, a8_31, w8_31, a8_32, w8_32, a8_33, w8_33, a8_34, w8_34, a8_35, w8_35, a8_36, w8_36, a8_37, w8_37, a8_38, w8_38, a8_39, w8_39, a8_40, w8_40, a8_12, w8_12, a8_6, a8_7, e_iconst, e_bipush, e_sipush, e_lconst_0, e_lconst_1, e_iload, e_iload_0, e_iload_1, e_iload_2, e_iload_3, e_lload, e_lload_0, e_lload_1, e_lload_2, e_lload_3, e_aload, e_aload_0, e_aload_1, e_aload_2, e_aload_3, e_istore, e_istore_0, e_istore_1, e_istore_2, e_istore_3, e_astore, e_astore_0, e_astore_1, e_astore_2, e_astore_3, e_lstore, e_lstore_0, e_lstore_1, e_lstore_2, e_lstore_3, e_iinc, e_iadd, e_isub, e_imul, e_ladd, e_lsub, e_lmul, e_idiv, e_irem, e_ldiv, e_lrem, e_ineg, e_lneg, e_iand, e_ior, e_ixor, e_ishl, e_ishr, e_iushr, e_lcmp, e_i2l, e_l2i, e_i2b, e_i2s, e_dup_i, e_dup_r, e_pop_i, e_pop_r, e_dup2_l, e_dup2_ir, e_dup2_ii, e_ifeq, e_ifne, e_iflt, e_ifge, e_ifgt, e_ifle, e_iceq, e_icne, e_iclt, e_icge, e_icgt, e_icle, e_goto, e_switch, e_invokevirtual, e_invokestatic, e_invokespecial, e_ret0, e_ret1, e_ret2, e_ret3, ldI_s, ldL_s, ldR_s, clO_s, ctP_s, ctS_s, mgo_0, mgo_s, pjc_s, pj_0, pj_s, lk_s, rm1_0, rm1_i, rm1_r, rm1_l, rm2_0, rm2_i, rm2_r, rm2_l, csL_s, lc_lt, lc_ge, lc_gt, lc_le, lc_eq, b01_0, b01_1, b01_01, b01_n, up2_o, up2_s, up2_u, ne_eq, reduceCtorEq, Nat.reduceAdd, Nat.reduceEqDiff, Nat.reduceLT, Nat.reduceLeDiff, Int.reduceLE, Int.reduceLT, Int.reduceAdd, Int.reduceNeg, Int.reduceMul, Int.reduceSub, Int.reduceEq, Int.reduceToNat, Int.reduceNatCast, Int.cast_ofNat_Int, ↓reduceIte, and_self, List.drop_succ_cons, List.drop_zero, List.take_succ_cons, List.take_zero, List.length_cons, List.length_nil, List.reverse_cons, List.reverse_nil, List.nil_append, List.cons_append, Option.toList, true_and, and_true, or_false, false_or, or_true, true_or, forall_const, Classical.not_not, not_false_eq_true, not_true_eq_false, false_implies, true_implies, implies_true, imp_self]
  refine ⟨⟨by rw [hV]; exact hY, keepX_b hk0 hB⟩, fun M1 hR => ?_⟩
  obtain ⟨r1, r2, r3⟩ := hR
  rw [hV] at r3
  have hk1 := keepX_tr hk0 (keepX_tell r1 r2)
  have q40 : M1 0 40 = 0 := (r2 40 (by decide) (by decide) (by decide)).trans (by rw [up2_n (by decide), up2_n (by decide), up2_s])
  have q41 : M1 0 41 = 0 := (r2 41 (by decide) (by decide) (by decide)).trans (by rw [up2_n (by decide), up2_s])
  have q42 : M1 0 42 = 0 := (r2 42 (by decide) (by decide) (by decide)).trans up2_s
  refine hI_24 ((128 - 0) * 10 + 9) _ _ ⟨rfl, keepX_u hk1 (by decide) (by decide), exF_s (exF_u (exF_0 r3) 0), 0, up2_s, Nat.zero_le _, ?_, ?_, ?_, rfl⟩
  · rw [up2_n (by decide), q40]; rfl
  · rw [up2_n (by decide), q41]; rfl
  · rw [up2_n (by decide), q42]; rfl
set_option maxHeartbeats 4000000 in
set_option maxRecDepth 100000 in
theorem at0_laysChances_24 {rs : List (Nat × Nat)} {b : Int} {M : Mm} {Q : Option AV → Mm → Prop} (hM : okM (sh8 rs) M) (h_b : i32 b) (hP : P0_laysChances rs b M) (hQ : ∀ (M1 : Mm), R0_laysChances rs b M M1 → Q none M1) {m : Nat} {b_ : Int} {M1 : Mm} (hM1 : okM (sh8 rs) M1) (h_b_ : i32 b_) (hJ : J0_laysChances_24 rs b M m b_ M1) (I_24 : List AV → Mm → Prop) (hI_24 : ∀ (m_ : Nat) (y_b_ : Int) (M2 : Mm), m_ < m → J0_laysChances_24 rs b M m_ y_b_ M2 → I_24 [ar 0, ai y_b_] M2) (I_40 : List AV → Mm → Prop) (hI_40 : ∀ (m_ : Nat) (y_b_ : Int) (y_w : Int) (y_c : Int) (M2 : Mm), m_ < m → J0_laysChances_40 rs b M m_ y_b_ y_w y_c M2 → I_40 [ar 0, ai y_b_, al y_w, ai y_c] M2) : wp (tb0 (csL (cs0_laysChances rs))) (sh8 rs) 5 0 cX0_laysChances [(24, [0, 1], I_24), (40, [0, 1, 2, 4], I_40)] Q 400 24 [(0, ar 0), (1, ai b_)] [] M1 := by
  obtain ⟨rfl, hk, hC, a, hf, ha, q1, q2, q3, rfl⟩ := hJ
  obtain ⟨⟨hY, hB⟩, hb⟩ := id hP
  have h4 : 0 ≤ M 1 5 ∧ M 1 5 ≤ 7 := (okY_n hY).2.1
  have hn7 : (vX M 0 4).toNat ≤ 7 := by show (M 1 5).toNat ≤ 7; omega
  have hp := pow7 hn7
  have hp0 := Nat.two_pow_pos (vX M 0 4).toNat
  have ep : (2 : Int) ^ (M 1 5).toNat - 1 = allB (vX M) := by rw [pow_i (by omega)]; rfl
  have eAll : allB (vX M) = ((2 ^ (vX M 0 4).toNat : Nat) : Int) - 1 := rfl
  have e1 := keepX_1 hk
  simp only [e_wp dX0_laysChances_0 rfl, e_wp dX0_laysChances_1 rfl, e_wp dX0_laysChances_2 rfl, e_wp dX0_laysChances_5 rfl, e_wp dX0_laysChances_6 rfl, e_wp dX0_laysChances_7 rfl, e_wp dX0_laysChances_10 rfl, e_wp dX0_laysChances_11 rfl, e_wp dX0_laysChances_12 rfl, e_wp dX0_laysChances_15 rfl, e_wp dX0_laysChances_16 rfl, e_wp dX0_laysChances_19 rfl, e_wp dX0_laysChances_20 rfl, e_wp dX0_laysChances_21 rfl, e_wp dX0_laysChances_24 rfl, e_wp dX0_laysChances_25 rfl, e_wp dX0_laysChances_28 rfl, e_wp dX0_laysChances_29 rfl, e_wp dX0_laysChances_32 rfl, e_wp dX0_laysChances_35 rfl, e_wp dX0_laysChances_36 rfl, e_wp dX0_laysChances_37 rfl, e_wp dX0_laysChances_38 rfl, e_wp dX0_laysChances_40 rfl, e_wp dX0_laysChances_42 rfl, e_wp dX0_laysChances_43 rfl, e_wp dX0_laysChances_46 rfl, e_wp dX0_laysChances_49 rfl, e_wp dX0_laysChances_52 rfl, e_wp dX0_laysChances_53 rfl, e_wp dX0_laysChances_54 rfl, e_wp dX0_laysChances_57 rfl, e_wp dX0_laysChances_59 rfl, e_wp dX0_laysChances_62 rfl, e_wp dX0_laysChances_65 rfl, e_wp dX0_laysChances_66 rfl, e_wp dX0_laysChances_69 rfl, e_wp dX0_laysChances_72 rfl, e_wp dX0_laysChances_73 rfl, e_wp dX0_laysChances_76 rfl, e_wp dX0_laysChances_78 rfl, e_wp dX0_laysChances_79 rfl, e_wp dX0_laysChances_82 rfl, e_wp dX0_laysChances_85 rfl, e_wp dX0_laysChances_86 rfl, e_wp dX0_laysChances_87 rfl, e_wp dX0_laysChances_88 rfl, e_wp dX0_laysChances_89 rfl, e_wp dX0_laysChances_92 rfl, e_wp dX0_laysChances_95 rfl, e_wp dX0_laysChances_96 rfl, e_wp dX0_laysChances_99 rfl, e_wp dX0_laysChances_100 rfl, e_wp dX0_laysChances_101 rfl, e_wp dX0_laysChances_104 rfl, e_wp dX0_laysChances_105 rfl, e_wp dX0_laysChances_106 rfl, e_wp dX0_laysChances_109 rfl, e_wp dX0_laysChances_110 rfl, e_wp dX0_laysChances_111 rfl, e_wp dX0_laysChances_114 rfl, e_wp dX0_laysChances_115 rfl, e_wp dX0_laysChances_118 rfl, e_wp dX0_laysChances_119 rfl, e_wp dX0_laysChances_120 rfl, e_wp dX0_laysChances_121 rfl, e_wp dX0_laysChances_124 rfl, e_wp dX0_laysChances_125 rfl, e_wp dX0_laysChances_128 rfl, e_wp dX0_laysChances_129 rfl, e_wp dX0_laysChances_130 rfl, e_wp dX0_laysChances_133 rfl, e_wp dX0_laysChances_134 rfl, e_wp dX0_laysChances_135 rfl, e_wp dX0_laysChances_138 rfl, e_wp dX0_laysChances_139 rfl, e_wp dX0_laysChances_140 rfl, e_wp dX0_laysChances_141 rfl, e_wp dX0_laysChances_144 rfl, e_wp dX0_laysChances_145 rfl, e_wp dX0_laysChances_146 rfl, e_wp dX0_laysChances_147 rfl, e_wp dX0_laysChances_150 rfl, e_wp dX0_laysChances_151 rfl, e_wp dX0_laysChances_152 rfl, e_wp dX0_laysChances_155 rfl, e_wp dX0_laysChances_156 rfl, e_wp dX0_laysChances_157 rfl, e_wp dX0_laysChances_160 rfl, e_wp dX0_laysChances_163 rfl, p0_420, p0_424, p0_427, c0_asItIs, cs0_laysChances, p0_203, g0_203, c0_all_2, P0_all_2, V0_all_2, g0_10, g0_156, c0_isOf, P0_isOf, V0_isOf, g0_430, c0_lays, g0_420, g0_424, g0_83, g0_427, c0_sagOf, P0_sagOf, V0_sagOf, a8_13, w8_13, a8_14, w8_14, a8_15, w8_15, a8_16, w8_16, a8_17, w8_17, a8_18, w8_18, a8_19, w8_19, a8_20, w8_20, a8_21, w8_21, a8_22, w8_22, a8_23, w8_23, a8_24, w8_24, a8_25, w8_25, a8_26, w8_26, a8_27, w8_27, a8_28, w8_28, a8_29, w8_29, a8_30, w8_30, a8_31, w8_31, a8_32, w8_32, a8_33, w8_33, a8_34, w8_34, a8_35, w8_35, a8_36, w8_36, a8_37, w8_37, a8_38, w8_38, a8_39, w8_39, a8_40, w8_40, a8_12, w8_12, a8_6, a8_7, e_iconst, e_bipush, e_sipush, e_lconst_0, e_lconst_1, e_iload, e_iload_0, e_iload_1, e_iload_2, e_iload_3, e_lload, e_lload_0, e_lload_1, e_lload_2, e_lload_3, e_aload, e_aload_0, e_aload_1, e_aload_2, e_aload_3, e_istore, e_istore_0, e_istore_1, e_istore_2, e_istore_3, e_astore, e_astore_0, e_astore_1, e_astore_2, e_astore_3, e_lstore, e_lstore_0, e_lstore_1, e_lstore_2, e_lstore_3, e_iinc, e_iadd, e_isub, e_imul, e_ladd, e_lsub, e_lmul, e_idiv, e_irem, e_ldiv, e_lrem, e_ineg, e_lneg, e_iand, e_ior, e_ixor, e_ishl, e_ishr, e_iushr, e_lcmp, e_i2l, e_l2i, e_i2b, e_i2s, e_dup_i, e_dup_r, e_pop_i, e_pop_r, e_dup2_l, e_dup2_ir, e_dup2_ii, e_ifeq, e_ifne, e_iflt, e_ifge, e_ifgt, e_ifle, e_iceq, e_icne, e_iclt, e_icge, e_icgt, e_icle, e_goto, e_switch, e_invokevirtual, e_invokestatic, e_invokespecial, e_ret0, e_ret1, e_ret2, e_ret3, ldI_s, ldL_s, ldR_s, clO_s, ctP_s, ctS_s, mgo_0, mgo_s, pjc_s, pj_0, pj_s, lk_s, rm1_0, rm1_i, rm1_r, rm1_l, rm2_0, rm2_i, rm2_r, rm2_l, csL_s, lc_lt, lc_ge, lc_gt, lc_le, lc_eq, b01_0, b01_1, b01_01, b01_n, up2_o, up2_s, up2_u, ne_eq, reduceCtorEq, Nat.reduceAdd, Nat.reduceEqDiff, Nat.reduceLT, Nat.reduceLeDiff, Int.reduceLE, Int.reduceLT, Int.reduceAdd, Int.reduceNeg, Int.reduceMul, Int.reduceSub, Int.reduceEq, Int.reduceToNat, Int.reduceNatCast, Int.cast_ofNat_Int, ↓reduceIte, and_self, List.drop_succ_cons, List.drop_zero, List.take_succ_cons, List.take_zero, List.length_cons, List.length_nil, List.reverse_cons, List.reverse_nil, List.nil_append, List.cons_append, Option.toList, true_and, and_true, or_false, false_or, or_true, true_or, forall_const, Classical.not_not, not_false_eq_true, not_true_eq_false, false_implies, true_implies, implies_true, imp_self, e1, ep, hf]
  refine ⟨h4, fun z => hQ _ ⟨hk, ?_⟩, fun z => ?_⟩
  · have ea : a = 2 ^ (vX M 0 4).toNat := by omega
    subst ea
    exact ⟨q1.trans (wgt_all hY hn7), q2, q3⟩
  · exact hI_40 ((128 - a) * 10 + (8 - 0)) _ _ _ _ (by omega) ⟨rfl, hk, hC, a, 0, hf, by omega, q1, q2, q3, rfl, h4.1, rfl, rfl⟩
set_option maxHeartbeats 4000000 in
set_option maxRecDepth 100000 in
theorem at0_laysChances_40 {rs : List (Nat × Nat)} {b : Int} {M : Mm} {Q : Option AV → Mm → Prop} (hM : okM (sh8 rs) M) (h_b : i32 b) (hP : P0_laysChances rs b M) (hQ : ∀ (M1 : Mm), R0_laysChances rs b M M1 → Q none M1) {m : Nat} {b_ w c : Int} {M1 : Mm} (hM1 : okM (sh8 rs) M1) (h_b_ : i32 b_) (h_w : i64 w) (h_c : i32 c) (hJ : J0_laysChances_40 rs b M m b_ w c M1) (I_24 : List AV → Mm → Prop) (hI_24 : ∀ (m_ : Nat) (y_b_ : Int) (M2 : Mm), m_ < m → J0_laysChances_24 rs b M m_ y_b_ M2 → I_24 [ar 0, ai y_b_] M2) (I_40 : List AV → Mm → Prop) (hI_40 : ∀ (m_ : Nat) (y_b_ : Int) (y_w : Int) (y_c : Int) (M2 : Mm), m_ < m → J0_laysChances_40 rs b M m_ y_b_ y_w y_c M2 → I_40 [ar 0, ai y_b_, al y_w, ai y_c] M2) : wp (tb0 (csL (cs0_laysChances rs))) (sh8 rs) 5 0 cX0_laysChances [(24, [0, 1], I_24), (40, [0, 1, 2, 4], I_40)] Q 400 40 [(0, ar 0), (1, ai b_), (2, al w), (4, ai c)] [] M1 := by
  obtain ⟨rfl, hk, hC, a, i, hf, ha, q1, q2, q3, rfl, hi, rfl, rfl⟩ := hJ
  obtain ⟨⟨hY, hB⟩, hb⟩ := id hP
  have h4 : 0 ≤ M 1 5 ∧ M 1 5 ≤ 7 := (okY_n hY).2.1
  have h3 : 0 ≤ M 1 4 ∧ M 1 4 ≤ 3 := (okY_n hY).1
  have h2 : 0 ≤ M 1 2 ∧ M 1 2 ≤ 10 := hY.2.2.1
  have hb3 : b < M 1 4 := hb.2
  have hb0 := hb.1
  have hn7 : (vX M 0 4).toNat ≤ 7 := by show (M 1 5).toNat ≤ 7; omega
  have hp := pow7 hn7
  have e1 := keepX_1 hk
  have hw := wgt_b hY a i
  have ht := tenP_b (n := i) (by omega)
  have hS := wS_b (b := b.toNat) (q := 0) hY (n := a) (by omega)
  have hS1 := wS_b (b := b.toNat) (q := 1) hY (n := a) (by omega)
  have hF := wF_b (b := b.toNat) (q := 0) hY a
  have hF1 := wF_b (b := b.toNat) (q := 1) hY a
  have hA := wgt_sb hY hn7 (a := a) (by omega)
  have e02 : vX M 0 2 = M 1 2 := rfl
  simp only [e_wp dX0_laysChances_0 rfl, e_wp dX0_laysChances_1 rfl, e_wp dX0_laysChances_2 rfl, e_wp dX0_laysChances_5 rfl, e_wp dX0_laysChances_6 rfl, e_wp dX0_laysChances_7 rfl, e_wp dX0_laysChances_10 rfl, e_wp dX0_laysChances_11 rfl, e_wp dX0_laysChances_12 rfl, e_wp dX0_laysChances_15 rfl, e_wp dX0_laysChances_16 rfl, e_wp dX0_laysChances_19 rfl, e_wp dX0_laysChances_20 rfl, e_wp dX0_laysChances_21 rfl, e_wp dX0_laysChances_24 rfl, e_wp dX0_laysChances_25 rfl, e_wp dX0_laysChances_28 rfl, e_wp dX0_laysChances_29 rfl, e_wp dX0_laysChances_32 rfl, e_wp dX0_laysChances_35 rfl, e_wp dX0_laysChances_36 rfl, e_wp dX0_laysChances_37 rfl, e_wp dX0_laysChances_38 rfl, e_wp dX0_laysChances_40 rfl, e_wp dX0_laysChances_42 rfl, e_wp dX0_laysChances_43 rfl, e_wp dX0_laysChances_46 rfl, e_wp dX0_laysChances_49 rfl, e_wp dX0_laysChances_52 rfl, e_wp dX0_laysChances_53 rfl, e_wp dX0_laysChances_54 rfl, e_wp dX0_laysChances_57 rfl, e_wp dX0_laysChances_59 rfl, e_wp dX0_laysChances_62 rfl, e_wp dX0_laysChances_65 rfl, e_wp dX0_laysChances_66 rfl, e_wp dX0_laysChances_69 rfl, e_wp dX0_laysChances_72 rfl, e_wp dX0_laysChances_73 rfl, e_wp dX0_laysChances_76 rfl, e_wp dX0_laysChances_78 rfl, e_wp dX0_laysChances_79 rfl, e_wp dX0_laysChances_82 rfl, e_wp dX0_laysChances_85 rfl, e_wp dX0_laysChances_86 rfl, e_wp dX0_laysChances_87 rfl, e_wp dX0_laysChances_88 rfl, e_wp dX0_laysChances_89 rfl, e_wp dX0_laysChances_92 rfl, e_wp dX0_laysChances_95 rfl, e_wp dX0_laysChances_96 rfl, e_wp dX0_laysChances_99 rfl, e_wp dX0_laysChances_100 rfl, e_wp dX0_laysChances_101 rfl, e_wp dX0_laysChances_104 rfl, e_wp dX0_laysChances_105 rfl, e_wp dX0_laysChances_106 rfl, e_wp dX0_laysChances_109 rfl, e_wp dX0_laysChances_110 rfl, e_wp dX0_laysChances_111 rfl, e_wp dX0_laysChances_114 rfl, e_wp dX0_laysChances_115 rfl, e_wp dX0_laysChances_118 rfl, e_wp dX0_laysChances_119 rfl, e_wp dX0_laysChances_120 rfl, e_wp dX0_laysChances_121 rfl, e_wp dX0_laysChances_124 rfl, e_wp dX0_laysChances_125 rfl, e_wp dX0_laysChances_128 rfl, e_wp dX0_laysChances_129 rfl, e_wp dX0_laysChances_130 rfl, e_wp dX0_laysChances_133 rfl, e_wp dX0_laysChances_134 rfl, e_wp dX0_laysChances_135 rfl, e_wp dX0_laysChances_138 rfl, e_wp dX0_laysChances_139 rfl, e_wp dX0_laysChances_140 rfl, e_wp dX0_laysChances_141 rfl, e_wp dX0_laysChances_144 rfl, e_wp dX0_laysChances_145 rfl, e_wp dX0_laysChances_146 rfl, e_wp dX0_laysChances_147 rfl, e_wp dX0_laysChances_150 rfl, e_wp dX0_laysChances_151 rfl, e_wp dX0_laysChances_152 rfl, e_wp dX0_laysChances_155 rfl, e_wp dX0_laysChances_156 rfl, e_wp dX0_laysChances_157 rfl, e_wp dX0_laysChances_160 rfl, e_wp dX0_laysChances_163 rfl, p0_420, p0_424, p0_427, c0_asItIs, cs0_laysChances, p0_203, g0_203, c0_all_2, P0_all_2, V0_all_2, g0_10, g0_156, c0_isOf, P0_isOf, V0_isOf, g0_430, c0_lays, g0_420, g0_424, g0_83, g0_427, c0_sagOf, P0_sagOf, V0_sagOf, a8_13, w8_13, a8_14, w8_14, a8_15, w8_15, a8_16, w8_16, a8_17, w8_17, a8_18, w8_18, a8_19, w8_19, a8_20, w8_20, a8_21, w8_21, a8_22, w8_22, a8_23, w8_23, a8_24, w8_24, a8_25, w8_25, a8_26, w8_26, a8_27, w8_27, a8_28, w8_28, a8_29, w8_29, a8_30, w8_30, a8_31, w8_31, a8_32, w8_32, a8_33, w8_33, a8_34, w8_34, a8_35, w8_35, a8_36, w8_36, a8_37, w8_37, a8_38, w8_38, a8_39, w8_39, a8_40, w8_40, a8_12, w8_12, a8_6, a8_7, e_iconst, e_bipush, e_sipush, e_lconst_0, e_lconst_1, e_iload, e_iload_0, e_iload_1, e_iload_2, e_iload_3, e_lload, e_lload_0, e_lload_1, e_lload_2, e_lload_3, e_aload, e_aload_0, e_aload_1, e_aload_2, e_aload_3, e_istore, e_istore_0, e_istore_1, e_istore_2, e_istore_3, e_astore, e_astore_0, e_astore_1, e_astore_2, e_astore_3, e_lstore, e_lstore_0, e_lstore_1, e_lstore_2, e_lstore_3, e_iinc, e_iadd, e_isub, e_imul, e_ladd, e_lsub, e_lmul, e_idiv, e_irem, e_ldiv, e_lrem, e_ineg, e_lneg, e_iand, e_ior, e_ixor, e_ishl, e_ishr, e_iushr, e_lcmp, e_i2l, e_l2i, e_i2b, e_i2s, e_dup_i, e_dup_r, e_pop_i, e_pop_r, e_dup2_l, e_dup2_ir, e_dup2_ii, e_ifeq, e_ifne, e_iflt, e_ifge, e_ifgt, e_ifle, e_iceq, e_icne, e_iclt, e_icge, e_icgt, e_icle, e_goto, e_switch, e_invokevirtual, e_invokestatic, e_invokespecial, e_ret0, e_ret1, e_ret2, e_ret3, ldI_s, ldL_s, ldR_s, clO_s, ctP_s, ctS_s, mgo_0, mgo_s, pjc_s, pj_0, pj_s, lk_s, rm1_0, rm1_i, rm1_r, rm1_l, rm2_0, rm2_i, rm2_r, rm2_l, csL_s, lc_lt, lc_ge, lc_gt, lc_le, lc_eq, b01_0, b01_1, b01_01, b01_n, up2_o, up2_s, up2_u, ne_eq, reduceCtorEq, Nat.reduceAdd, Nat.reduceEqDiff, Nat.reduceLT, Nat.reduceLeDiff, Int.reduceLE, Int.reduceLT, Int.reduceAdd, Int.reduceNeg, Int.reduceMul, Int.reduceSub, Int.reduceEq, Int.reduceToNat, Int.reduceNatCast, Int.cast_ofNat_Int, ↓reduceIte, and_self, List.drop_succ_cons, List.drop_zero, List.take_succ_cons, List.take_zero, List.length_cons, List.length_nil, List.reverse_cons, List.reverse_nil, List.nil_append, List.cons_append, Option.toList, true_and, and_true, or_false, false_or, or_true, true_or, forall_const, Classical.not_not, not_false_eq_true, not_true_eq_false, false_implies, true_implies, implies_true, imp_self, e1, hf, up2_n, mb_uX, okB_uX]
  refine ⟨fun z => ?_, fun z => ?_⟩
  · have ei : i = (vX M 0 4).toNat := by show i = (M 1 5).toNat; omega
    subst ei
    have k4 := exF_at hC hf
    refine ⟨lay_pre ⟨hY, hB⟩ hk k4 (okCf_frs (okCf_tell hY)), fun M2 hR => ?_⟩
    have hr0 := hR.2.1.2
    obtain ⟨s1, s2, s3, s4⟩ := lay_useX hk k4 hR
    obtain ⟨v1, v2, v3⟩ := vak_x s3 (b := b.toNat) (by show ((b.toNat : Nat) : Int) < M 1 4; omega)
    rw [Int.toNat_of_nonneg hb0] at v2 v3
    have w40 : M2 0 40 = sumN (fun x => wgtP (vX M) x (vX M 0 4).toNat) a := (hr0 40 (by decide)).trans q1
    have w41 : M2 0 41 = sumN (wF (vX M) b.toNat 0) a := (hr0 41 (by decide)).trans q2
    have w42 : M2 0 42 = sumN (wF (vX M) b.toNat 1) a := (hr0 42 (by decide)).trans q3
    have w24 : M2 0 24 = a := (hr0 24 (by decide)).trans hf
    have ew0 : wgtP (vX M) a (vX M 0 4).toNat * vakP (vX M) (frsC (vX M) a) b.toNat 0 = wF (vX M) b.toNat 0 a := rfl
    have ew1 : wgtP (vX M) a (vX M 0 4).toNat * vakP (vX M) (frsC (vX M) a) b.toNat 1 = wF (vX M) b.toNat 1 a := rfl
    have hv1 := vak_b (b := b.toNat) (q := 1) hY (okCf_frs (x := (a : Int)) (okCf_tell hY))
    have fin : ∀ y, y = sumN (wF (vX M) b.toNat 0) (a + 1) → ∀ M3, M3 = up2 (up2 (up2 (up2 M2 0 40 (sumN (fun x => wgtP (vX M) x (vX M 0 4).toNat) a + wgtP (vX M) a (vX M 0 4).toNat)) 0 41 y) 0 42 (sumN (wF (vX M) b.toNat 1) a + wF (vX M) b.toNat 1 a)) 0 24 (a + 1) → I_24 [ar 0, ai b] M3 := by
      rintro y hy M3 rfl
      refine hI_24 ((128 - (a + 1)) * 10 + 9) _ _ (by omega) ⟨rfl, keepX_u (keepX_u (keepX_u (keepX_u s1 (by decide) (by decide)) (by decide) (by decide)) (by decide) (by decide)) (by decide) (by decide), ?_, a + 1, ?_, by omega, ?_, ?_, ?_, rfl⟩
      · refine exF_s (exF_u ?_ ((a : Int) + 1))
        rw [show cX (up2 (up2 (up2 M2 0 40 (sumN (fun x => wgtP (vX M) x (vX M 0 4).toNat) a + wgtP (vX M) a (vX M 0 4).toNat)) 0 41 y) 0 42 (sumN (wF (vX M) b.toNat 1) a + wF (vX M) b.toNat 1 a)) = cX M2 from cX_q (fun j hj => by rw [up2_n (by revert hj; simp only [List.mem_cons, List.not_mem_nil, or_false]; omega), up2_n (by revert hj; simp only [List.mem_cons, List.not_mem_nil, or_false]; omega), up2_n (by revert hj; simp only [List.mem_cons, List.not_mem_nil, or_false]; omega)]) rfl rfl rfl]
        exact exF_s s2
      · rw [up2_s]; omega
      · rw [up2_n (by decide), up2_n (by decide), up2_n (by decide), up2_s]; rfl
      · rw [up2_n (by decide), up2_n (by decide), up2_s, hy]
      · rw [up2_n (by decide), up2_s]; rfl
    simp only [w40, w41, w42, w24, v2, ew1]
    have hwn := wgt_b hY a (vX M 0 4).toNat
    have htn := tenP_b hn7
    have es0 : sumN (wF (vX M) b.toNat 0) (a + 1) = sumN (wF (vX M) b.toNat 0) a + wF (vX M) b.toNat 0 a := rfl
    refine ⟨by omega, by omega, fun y => ?_, fun y => ?_⟩
    · have ey : sumN (wF (vX M) b.toNat 0) a + wgtP (vX M) a (vX M 0 4).toNat = sumN (wF (vX M) b.toNat 0) (a + 1) := by
        rw [es0, ← ew0, ← v1, if_neg y, Int.mul_one]
      exact ⟨by omega, v3, by omega, by omega, by omega, fin _ ey _ rfl⟩
    · have ey : sumN (wF (vX M) b.toNat 0) a + 0 = sumN (wF (vX M) b.toNat 0) (a + 1) := by
        rw [es0, ← ew0, ← v1, if_pos y, Int.mul_zero]
      exact ⟨by omega, v3, by omega, by omega, by omega, fin _ ey _ rfl⟩
  · have go : ∀ x, x = wgtP (vX M) a (i + 1) → i32 ((i : Int) + 1) ∧ I_40 [ar 0, ai b, al x, ai (i + 1)] M1 := by
      rintro x rfl
      exact ⟨by omega, hI_40 ((128 - a) * 10 + (8 - (i + 1))) _ _ _ _ (by omega) ⟨rfl, hk, hC, a, i + 1, hf, ha, q1, q2, q3, by omega, by omega, rfl, rfl⟩⟩
    have hw1 := wgt_b hY a (i + 1)
    have ht1 := tenP_b (n := i + 1) (by omega)
    refine ⟨fun w => ?_, fun w => ?_⟩
    · have e := wgt_0 (V := vX M) w
      rw [e02] at e
      rw [e] at hw1
      exact ⟨by omega, by omega, go _ e.symm⟩
    · have e := wgt_1 (V := vX M) w
      rw [e02] at e
      rw [e] at hw1
      exact ⟨by omega, go _ e.symm⟩
set_option maxHeartbeats 4000000 in
set_option maxRecDepth 100000 in
theorem m0_laysChances {rs : List (Nat × Nat)} : MOK cl8 (sh8 rs) tyl8 Nws8 6 yX0_laysChances cX0_laysChances 5 none (sp0_laysChances rs) := by
  refine mok_of (own := RX0) (tb := tb0 (csL (cs0_laysChances rs))) (rt := 0) (fuel := 400) (fun avs M Q => [(24, [0, 1], fun m_ vs M1 => ∃ y_b_ : Int, vs = [ar 0, ai y_b_] ∧ J0_laysChances_24 rs (pa true [0] avs 0) M m_ y_b_ M1), (40, [0, 1, 2, 4], fun m_ vs M1 => ∃ y_b_ : Int, ∃ y_w : Int, ∃ y_c : Int, vs = [ar 0, ai y_b_, al y_w, ai y_c] ∧ J0_laysChances_40 rs (pa true [0] avs 0) M m_ y_b_ y_w y_c M1)]) (by decide) rfl nws8_ok (tbOK0 _) rfl (csL_all ?_) ?_ ?_ ?_
  · intro q hq
    simp only [cs0_laysChances, List.mem_cons, List.not_mem_nil, or_false] at hq
    rcases hq with rfl | rfl | rfl | rfl | rfl
    · exact cg0_asItIs (by decide)
    · exact cg0_all_2 (by decide)
    · exact cg0_isOf (by decide)
    · exact cg0_lays (by decide)
    · exact cg0_sagOf (by decide)
  · intro avs M Q hsp
    obtain ⟨xs, hx⟩ := spV_un _ _ _ hsp
    obtain ⟨e, hl⟩ := unA_mkT hx
    obtain ⟨b, rfl⟩ := len1 hl
    have e : avs = [ar 0, ai b] := e
    subst e
    simp [szL, isL]
  · intro avs M Q hM hav hsp
    obtain ⟨xs, hx⟩ := spV_un _ _ _ hsp
    obtain ⟨e, hl⟩ := unA_mkT hx
    obtain ⟨b, rfl⟩ := len1 hl
    have e : avs = [ar 0, ai b] := e
    subst e
    exact in0_laysChances hM (hav (ai b) (by simp)) hsp.1 hsp.2 _ (fun m_ y_b_ M2 hJ => ⟨m_, y_b_, rfl, hJ⟩) _ (fun m_ y_b_ y_w y_c M2 hJ => ⟨m_, y_b_, y_w, y_c, rfl, hJ⟩)
  · intro avs M Q hM hav hsp q hq m_ vs M1 hM1 hv hJ
    obtain ⟨xs, hx⟩ := spV_un _ _ _ hsp
    obtain ⟨e, hl⟩ := unA_mkT hx
    obtain ⟨b, rfl⟩ := len1 hl
    have e : avs = [ar 0, ai b] := e
    subst e
    simp only [List.mem_cons, List.not_mem_nil, or_false] at hq
    rcases hq with rfl | rfl
    · obtain ⟨y_b_, rfl, hJ⟩ := hJ
      exact at0_laysChances_24 hM (hav (ai b) (by simp)) hsp.1 hsp.2 hM1 (hv (1, ai y_b_) (List.mem_of_getElem? (i := 1) rfl)) hJ _ (fun m2 z_b_ M2 hm hJ2 => ⟨m2, hm, z_b_, rfl, hJ2⟩) _ (fun m2 z_b_ z_w z_c M2 hm hJ2 => ⟨m2, hm, z_b_, z_w, z_c, rfl, hJ2⟩)
    · obtain ⟨y_b_, y_w, y_c, rfl, hJ⟩ := hJ
      exact at0_laysChances_40 hM (hav (ai b) (by simp)) hsp.1 hsp.2 hM1 (hv (1, ai y_b_) (List.mem_of_getElem? (i := 1) rfl)) (hv (2, al y_w) (List.mem_of_getElem? (i := 2) rfl)) (hv (4, ai y_c) (List.mem_of_getElem? (i := 3) rfl)) hJ _ (fun m2 z_b_ M2 hm hJ2 => ⟨m2, hm, z_b_, rfl, hJ2⟩) _ (fun m2 z_b_ z_w z_c M2 hm hJ2 => ⟨m2, hm, z_b_, z_w, z_c, rfl, hJ2⟩)
theorem cg0_laysChances {rs : List (Nat × Nat)} {lvl : Nat} (h : 6 < lvl) : CG RX0 cl8 (sh8 rs) tyl8 Nws8 lvl 1 433 2 (sp0_laysChances rs) := cg_V (sg := [0]) nws8_ok spV_mono spV_un m0_laysChances h rfl (by decide) rfl rfl ⟨rfl, by decide, by decide, rfl⟩ q1234 q1236 qs54 q128 q1237
def P0_chance (rs : List (Nat × Nat)) (b : Int) (w : Int) (M : Mm) : Prop := okX M
def R0_chance (rs : List (Nat × Nat)) (b : Int) (w : Int) (M : Mm) (v : Int) (M1 : Mm) : Prop := keepX M M1 ∧ v = A_chance (vX M) b w
def sp0_chance (rs : List (Nat × Nat)) : Spec := spR true [0, 0] 1 (fun x M => P0_chance rs (x 0) (x 1) M) (fun x M v M1 => R0_chance rs (x 0) (x 1) M v M1)
theorem c0_chance {rs : List (Nat × Nat)} {b w : Int} {M : Mm} {Q : Option AV → Mm → Prop} : sp0_chance rs [ar 0, ai b, ai w] M Q = (P0_chance rs b w M ∧ ∀ (v : Int) (M1 : Mm), R0_chance rs b w M v M1 → Q (some (ai v)) M1) := rfl
def cs0_chance (rs : List (Nat × Nat)) : List (Nat × Nat × Nat × Spec) := [(167, 1, 2, (sp0_isBridge rs)), (170, 0, 2, (sp0_isOneOf rs)), (433, 1, 2, (sp0_laysChances rs)), (398, 0, 3, (sp0_part rs))]
set_option maxHeartbeats 4000000 in
set_option maxRecDepth 100000 in
theorem in0_chance {rs : List (Nat × Nat)} {b w : Int} {M : Mm} {Q : Option AV → Mm → Prop} (hM : okM (sh8 rs) M) (h_b : i32 b) (h_w : i32 w) (hP : P0_chance rs b w M) (hQ : ∀ (v : Int) (M1 : Mm), R0_chance rs b w M v M1 → Q (some (ai v)) M1) : wp (tb0 (csL (cs0_chance rs))) (sh8 rs) 3 1 cX0_chance [] Q 400 0 [(0, ar 0), (1, ai b), (2, ai w)] [] M := by
  obtain ⟨hY, hB⟩ := id hP
  have h3 : 0 ≤ M 1 4 ∧ M 1 4 ≤ 3 := (okY_n hY).1
  have h4 : 0 ≤ M 1 5 ∧ M 1 5 ≤ 7 := (okY_n hY).2.1
  have hn7 : (vX M 0 4).toNat ≤ 7 := by show (M 1 5).toNat ≤ 7; omega
  have ht := tenP_b hn7
  have hS := wS_b (b := b.toNat) (q := 0) hY (n := 2 ^ (vX M 0 4).toNat) (pow7 hn7)
  have e1 : ¬ ((0 ≤ b ∧ b < M 1 4) ∧ 0 ≤ w ∧ w ≤ 1) → A_chance (vX M) b w = -2 := fun q => if_neg q
  simp only [e_wp dX0_chance_0 rfl, e_wp dX0_chance_1 rfl, e_wp dX0_chance_2 rfl, e_wp dX0_chance_3 rfl, e_wp dX0_chance_6 rfl, e_wp dX0_chance_9 rfl, e_wp dX0_chance_10 rfl, e_wp dX0_chance_11 rfl, e_wp dX0_chance_14 rfl, e_wp dX0_chance_17 rfl, e_wp dX0_chance_19 rfl, e_wp dX0_chance_20 rfl, e_wp dX0_chance_21 rfl, e_wp dX0_chance_22 rfl, e_wp dX0_chance_25 rfl, e_wp dX0_chance_26 rfl, e_wp dX0_chance_29 rfl, e_wp dX0_chance_30 rfl, e_wp dX0_chance_33 rfl, e_wp dX0_chance_34 rfl, e_wp dX0_chance_37 rfl, e_wp dX0_chance_38 rfl, c0_isBridge, P0_isBridge, V0_isBridge, cs0_chance, c0_isOneOf, P0_isOneOf, V0_isOneOf, c0_laysChances, g0_424, g0_420, c0_part, P0_part, V0_part, e_iconst, e_bipush, e_sipush, e_lconst_0, e_lconst_1, e_iload, e_iload_0, e_iload_1, e_iload_2, e_iload_3, e_lload, e_lload_0, e_lload_1, e_lload_2, e_lload_3, e_aload, e_aload_0, e_aload_1, e_aload_2, e_aload_3, e_istore, e_istore_0, e_istore_1, e_istore_2, e_istore_3, e_astore, e_astore_0, e_astore_1, e_astore_2, e_astore_3, e_lstore, e_lstore_0, e_lstore_1, e_lstore_2, e_lstore_3, e_iinc, e_iadd, e_isub, e_imul, e_ladd, e_lsub, e_lmul, e_idiv, e_irem, e_ldiv, e_lrem, e_ineg, e_lneg, e_iand, e_ior, e_ixor, e_ishl, e_ishr, e_iushr, e_lcmp, e_i2l, e_l2i, e_i2b, e_i2s, e_dup_i, e_dup_r, e_pop_i, e_pop_r, e_dup2_l, e_dup2_ir, e_dup2_ii, e_ifeq, e_ifne, e_iflt, e_ifge, e_ifgt, e_ifle, e_iceq, e_icne, e_iclt, e_icge, e_icgt, e_icle, e_goto, e_switch, e_invokevirtual, e_invokestatic, e_invokespecial, e_ret0, e_ret1, e_ret2, e_ret3, ldI_s, ldL_s, ldR_s, clO_s, ctP_s, ctS_s, mgo_0, mgo_s, pjc_s, pj_0, pj_s, lk_s, rm1_0, rm1_i, rm1_r, rm1_l, rm2_0, rm2_i, rm2_r, rm2_l, csL_s, lc_lt, lc_ge, lc_gt, lc_le, lc_eq, b01_0, b01_1, b01_01, b01_n, up2_o, up2_s, up2_u, ne_eq, reduceCtorEq, Nat.reduceAdd, Nat.reduceEqDiff, Nat.reduceLT, Nat.reduceLeDiff, Int.reduceLE, Int.reduceLT, Int.reduceAdd, Int.reduceNeg, Int.reduceMul, Int.reduceSub, Int.reduceEq, Int.reduceToNat, Int.reduceNatCast, Int.cast_ofNat_Int, ↓reduceIte, and_self, List.drop_succ_cons, List.drop_zero, List.take_succ_cons, List.take_zero, List.length_cons, List.length_nil, List.reverse_cons, List.reverse_nil, List.nil_append, List.cons_append, Option.toList, true_and, and_true, or_false, false_or, or_true, true_or, forall_const, Classical.not_not, not_false_eq_true, not_true_eq_false, false_implies, true_implies, implies_true, imp_self]
  refine ⟨h3, fun q => hQ _ _ ⟨keepX_rf, (e1 (fun z => q z.1)).symm⟩, fun q => ⟨fun z => ⟨⟨⟨hY, hB⟩, q⟩, fun M1 hR => ?_⟩, fun z => hQ _ _ ⟨keepX_rf, (e1 (by omega)).symm⟩⟩⟩
  obtain ⟨r1, r2, r3, r4⟩ := hR
  rw [r2, r3]
  refine ⟨by omega, hQ _ _ ⟨r1, ?_⟩⟩
  exact (if_pos ⟨q, by omega⟩).symm
set_option maxHeartbeats 4000000 in
set_option maxRecDepth 100000 in
theorem m0_chance {rs : List (Nat × Nat)} : MOK cl8 (sh8 rs) tyl8 Nws8 7 yX0_chance cX0_chance 3 (some .int) (sp0_chance rs) := by
  refine mok_of (own := RX0) (tb := tb0 (csL (cs0_chance rs))) (rt := 1) (fuel := 400) (fun avs M Q => []) (by decide) rfl nws8_ok (tbOK0 _) rfl (csL_all ?_) ?_ ?_ ?_
  · intro q hq
    simp only [cs0_chance, List.mem_cons, List.not_mem_nil, or_false] at hq
    rcases hq with rfl | rfl | rfl | rfl
    · exact cg0_isBridge (by decide)
    · exact cg0_isOneOf (by decide)
    · exact cg0_laysChances (by decide)
    · exact cg0_part (by decide)
  · intro avs M Q hsp
    obtain ⟨xs, hx⟩ := spR_un _ _ _ hsp
    obtain ⟨e, hl⟩ := unA_mkT hx
    obtain ⟨b, w, rfl⟩ := len2 hl
    have e : avs = [ar 0, ai b, ai w] := e
    subst e
    simp [szL, isL]
  · intro avs M Q hM hav hsp
    obtain ⟨xs, hx⟩ := spR_un _ _ _ hsp
    obtain ⟨e, hl⟩ := unA_mkT hx
    obtain ⟨b, w, rfl⟩ := len2 hl
    have e : avs = [ar 0, ai b, ai w] := e
    subst e
    exact in0_chance hM (hav (ai b) (by simp)) (hav (ai w) (by simp)) hsp.1 hsp.2
  · intro avs M Q hM hav hsp q hq m_ vs M1 hM1 hv hJ
    obtain ⟨xs, hx⟩ := spR_un _ _ _ hsp
    obtain ⟨e, hl⟩ := unA_mkT hx
    obtain ⟨b, w, rfl⟩ := len2 hl
    have e : avs = [ar 0, ai b, ai w] := e
    subst e
    cases hq
def P0_mean (rs : List (Nat × Nat)) (b : Int) (w : Int) (M : Mm) : Prop := okX M
def R0_mean (rs : List (Nat × Nat)) (b : Int) (w : Int) (M : Mm) (v : Int) (M1 : Mm) : Prop := keepX M M1 ∧ v = A_mean (vX M) b w
def sp0_mean (rs : List (Nat × Nat)) : Spec := spR true [0, 0] 2 (fun x M => P0_mean rs (x 0) (x 1) M) (fun x M v M1 => R0_mean rs (x 0) (x 1) M v M1)
theorem c0_mean {rs : List (Nat × Nat)} {b w : Int} {M : Mm} {Q : Option AV → Mm → Prop} : sp0_mean rs [ar 0, ai b, ai w] M Q = (P0_mean rs b w M ∧ ∀ (v : Int) (M1 : Mm), R0_mean rs b w M v M1 → Q (some (al v)) M1) := rfl
def cs0_mean (rs : List (Nat × Nat)) : List (Nat × Nat × Nat × Spec) := [(167, 1, 2, (sp0_isBridge rs)), (170, 0, 2, (sp0_isOneOf rs)), (433, 1, 2, (sp0_laysChances rs)), (398, 0, 3, (sp0_part rs))]
set_option maxHeartbeats 4000000 in
set_option maxRecDepth 100000 in
theorem in0_mean {rs : List (Nat × Nat)} {b w : Int} {M : Mm} {Q : Option AV → Mm → Prop} (hM : okM (sh8 rs) M) (h_b : i32 b) (h_w : i32 w) (hP : P0_mean rs b w M) (hQ : ∀ (v : Int) (M1 : Mm), R0_mean rs b w M v M1 → Q (some (al v)) M1) : wp (tb0 (csL (cs0_mean rs))) (sh8 rs) 3 3 cX0_mean [] Q 400 0 [(0, ar 0), (1, ai b), (2, ai w)] [] M := by
  obtain ⟨hY, hB⟩ := id hP
  have h3 : 0 ≤ M 1 4 ∧ M 1 4 ≤ 3 := (okY_n hY).1
  have h4 : 0 ≤ M 1 5 ∧ M 1 5 ≤ 7 := (okY_n hY).2.1
  have hn7 : (vX M 0 4).toNat ≤ 7 := by show (M 1 5).toNat ≤ 7; omega
  have ht := tenP_b hn7
  have hS := wS_b (b := b.toNat) (q := 1) hY (n := 2 ^ (vX M 0 4).toNat) (pow7 hn7)
  have e1 : ¬ ((0 ≤ b ∧ b < M 1 4) ∧ 0 ≤ w ∧ w ≤ 1) → A_mean (vX M) b w = -2 := fun q => if_neg q
  simp only [e_wp dX0_mean_0 rfl, e_wp dX0_mean_1 rfl, e_wp dX0_mean_2 rfl, e_wp dX0_mean_3 rfl, e_wp dX0_mean_6 rfl, e_wp dX0_mean_9 rfl, e_wp dX0_mean_10 rfl, e_wp dX0_mean_11 rfl, e_wp dX0_mean_14 rfl, e_wp dX0_mean_17 rfl, e_wp dX0_mean_20 rfl, e_wp dX0_mean_21 rfl, e_wp dX0_mean_22 rfl, e_wp dX0_mean_23 rfl, e_wp dX0_mean_26 rfl, e_wp dX0_mean_27 rfl, e_wp dX0_mean_30 rfl, e_wp dX0_mean_31 rfl, e_wp dX0_mean_34 rfl, e_wp dX0_mean_35 rfl, e_wp dX0_mean_38 rfl, c0_isBridge, P0_isBridge, V0_isBridge, cs0_mean, c0_isOneOf, P0_isOneOf, V0_isOneOf, k0_436, c0_laysChances, g0_427, g0_420, c0_part, P0_part, V0_part, e_iconst, e_bipush, e_sipush, e_lconst_0, e_lconst_1, e_iload, e_iload_0, e_iload_1, e_iload_2, e_iload_3, e_lload, e_lload_0, e_lload_1, e_lload_2, e_lload_3, e_aload, e_aload_0, e_aload_1, e_aload_2, e_aload_3, e_istore, e_istore_0, e_istore_1, e_istore_2, e_istore_3, e_astore, e_astore_0, e_astore_1, e_astore_2, e_astore_3, e_lstore, e_lstore_0, e_lstore_1, e_lstore_2, e_lstore_3, e_iinc, e_iadd, e_isub, e_imul, e_ladd, e_lsub, e_lmul, e_idiv, e_irem, e_ldiv, e_lrem, e_ineg, e_lneg, e_iand, e_ior, e_ixor, e_ishl, e_ishr, e_iushr, e_lcmp, e_i2l, e_l2i, e_i2b, e_i2s, e_dup_i, e_dup_r, e_pop_i, e_pop_r, e_dup2_l, e_dup2_ir, e_dup2_ii, e_ifeq, e_ifne, e_iflt, e_ifge, e_ifgt, e_ifle, e_iceq, e_icne, e_iclt, e_icge, e_icgt, e_icle, e_goto, e_switch, e_invokevirtual, e_invokestatic, e_invokespecial, e_ret0, e_ret1, e_ret2, e_ret3, ldI_s, ldL_s, ldR_s, clO_s, ctP_s, ctS_s, mgo_0, mgo_s, pjc_s, pj_0, pj_s, lk_s, rm1_0, rm1_i, rm1_r, rm1_l, rm2_0, rm2_i, rm2_r, rm2_l, csL_s, lc_lt, lc_ge, lc_gt, lc_le, lc_eq, b01_0, b01_1, b01_01, b01_n, up2_o, up2_s, up2_u, ne_eq, reduceCtorEq, Nat.reduceAdd, Nat.reduceEqDiff, Nat.reduceLT, Nat.reduceLeDiff, Int.reduceLE, Int.reduceLT, Int.reduceAdd, Int.reduceNeg, Int.reduceMul, Int.reduceSub, Int.reduceEq, Int.reduceToNat, Int.reduceNatCast, Int.cast_ofNat_Int, ↓reduceIte, and_self, List.drop_succ_cons, List.drop_zero, List.take_succ_cons, List.take_zero, List.length_cons, List.length_nil, List.reverse_cons, List.reverse_nil, List.nil_append, List.cons_append, Option.toList, true_and, and_true, or_false, false_or, or_true, true_or, forall_const, Classical.not_not, not_false_eq_true, not_true_eq_false, false_implies, true_implies, implies_true, imp_self]
  refine ⟨h3, fun q => hQ _ _ ⟨keepX_rf, (e1 (fun z => q z.1)).symm⟩, fun q => ⟨fun z => ⟨⟨⟨hY, hB⟩, q⟩, fun M1 hR => ?_⟩, fun z => hQ _ _ ⟨keepX_rf, (e1 (by omega)).symm⟩⟩⟩
  obtain ⟨r1, r2, r3, r4⟩ := hR
  rw [r2, r4]
  refine ⟨by omega, hQ _ _ ⟨r1, ?_⟩⟩
  exact (if_pos ⟨q, by omega⟩).symm
set_option maxHeartbeats 4000000 in
set_option maxRecDepth 100000 in
theorem m0_mean {rs : List (Nat × Nat)} : MOK cl8 (sh8 rs) tyl8 Nws8 7 yX0_mean cX0_mean 3 (some .long) (sp0_mean rs) := by
  refine mok_of (own := RX0) (tb := tb0 (csL (cs0_mean rs))) (rt := 3) (fuel := 400) (fun avs M Q => []) (by decide) rfl nws8_ok (tbOK0 _) rfl (csL_all ?_) ?_ ?_ ?_
  · intro q hq
    simp only [cs0_mean, List.mem_cons, List.not_mem_nil, or_false] at hq
    rcases hq with rfl | rfl | rfl | rfl
    · exact cg0_isBridge (by decide)
    · exact cg0_isOneOf (by decide)
    · exact cg0_laysChances (by decide)
    · exact cg0_part (by decide)
  · intro avs M Q hsp
    obtain ⟨xs, hx⟩ := spR_un _ _ _ hsp
    obtain ⟨e, hl⟩ := unA_mkT hx
    obtain ⟨b, w, rfl⟩ := len2 hl
    have e : avs = [ar 0, ai b, ai w] := e
    subst e
    simp [szL, isL]
  · intro avs M Q hM hav hsp
    obtain ⟨xs, hx⟩ := spR_un _ _ _ hsp
    obtain ⟨e, hl⟩ := unA_mkT hx
    obtain ⟨b, w, rfl⟩ := len2 hl
    have e : avs = [ar 0, ai b, ai w] := e
    subst e
    exact in0_mean hM (hav (ai b) (by simp)) (hav (ai w) (by simp)) hsp.1 hsp.2
  · intro avs M Q hM hav hsp q hq m_ vs M1 hM1 hv hJ
    obtain ⟨xs, hx⟩ := spR_un _ _ _ hsp
    obtain ⟨e, hl⟩ := unA_mkT hx
    obtain ⟨b, w, rfl⟩ := len2 hl
    have e : avs = [ar 0, ai b, ai w] := e
    subst e
    cases hq
def P0_draws (rs : List (Nat × Nat)) (x : Int) (M : Mm) : Prop := okX M ∧ 0 ≤ x ∧ x ≤ 3000000000
def R0_draws (rs : List (Nat × Nat)) (x : Int) (M : Mm) (M1 : Mm) : Prop := keepX M M1 ∧ ranX (vX M) (drwC (vX M) x) M1 ∧ M1 0 24 = (drwP (vX M) x (vX M 0 4).toNat).2
def sp0_draws (rs : List (Nat × Nat)) : Spec := spV true [1] (fun x M => P0_draws rs (x 0) M) (fun x M M1 => R0_draws rs (x 0) M M1)
theorem c0_draws {rs : List (Nat × Nat)} {x : Int} {M : Mm} {Q : Option AV → Mm → Prop} : sp0_draws rs [ar 0, al x] M Q = (P0_draws rs x M ∧ ∀ (M1 : Mm), R0_draws rs x M M1 → Q none M1) := rfl
def cs0_draws (rs : List (Nat × Nat)) : List (Nat × Nat × Nat × Spec) := [(250, 1, 1, (sp0_asItIs rs)), (253, 1, 1, (sp0_lays rs))]
def J0_draws_14 (rs : List (Nat × Nat)) (x : Int) (M : Mm) (m : Nat) (y : Int) (c : Int) (M1 : Mm) : Prop := keepX M M1 ∧ exF (vX M) (cX M1) ∧ ∃ a : Nat, c = a ∧ (a : Int) ≤ M 1 5 ∧ y = (drwP (vX M) x a).1 ∧ M1 0 24 = (drwP (vX M) x a).2 ∧ m = 7 - a
set_option maxHeartbeats 4000000 in
set_option maxRecDepth 100000 in
theorem in0_draws {rs : List (Nat × Nat)} {x : Int} {M : Mm} {Q : Option AV → Mm → Prop} (hM : okM (sh8 rs) M) (h_x : i64 x) (hP : P0_draws rs x M) (hQ : ∀ (M1 : Mm), R0_draws rs x M M1 → Q none M1) (I_14 : List AV → Mm → Prop) (hI_14 : ∀ (m_ : Nat) (y_y : Int) (y_c : Int) (M2 : Mm), J0_draws_14 rs x M m_ y_y y_c M2 → I_14 [ar 0, al y_y, ai y_c] M2) : wp (tb0 (csL (cs0_draws rs))) (sh8 rs) 6 0 cX0_draws [(14, [0, 3, 5], I_14)] Q 400 0 [(0, ar 0), (1, al x)] [] M := by
  obtain ⟨⟨hY, hB⟩, hx⟩ := id hP
  have h4 : 0 ≤ M 1 5 ∧ M 1 5 ≤ 7 := (okY_n hY).2.1
  simp only [e_wp dX0_draws_0 rfl, e_wp dX0_draws_1 rfl, e_wp dX0_draws_4 rfl, e_wp dX0_draws_5 rfl, e_wp dX0_draws_6 rfl, e_wp dX0_draws_9 rfl, e_wp dX0_draws_10 rfl, e_wp dX0_draws_11 rfl, e_wp dX0_draws_12 rfl, e_wp dX0_draws_14 rfl, e_wp dX0_draws_16 rfl, e_wp dX0_draws_17 rfl, e_wp dX0_draws_20 rfl, e_wp dX0_draws_23 rfl, e_wp dX0_draws_26 rfl, e_wp dX0_draws_29 rfl, e_wp dX0_draws_30 rfl, e_wp dX0_draws_31 rfl, e_wp dX0_draws_34 rfl, e_wp dX0_draws_35 rfl, e_wp dX0_draws_38 rfl, e_wp dX0_draws_39 rfl, e_wp dX0_draws_40 rfl, e_wp dX0_draws_41 rfl, e_wp dX0_draws_42 rfl, e_wp dX0_draws_45 rfl, e_wp dX0_draws_46 rfl, e_wp dX0_draws_49 rfl, e_wp dX0_draws_50 rfl, e_wp dX0_draws_53 rfl, e_wp dX0_draws_54 rfl, e_wp dX0_draws_55 rfl, e_wp dX0_draws_58 rfl, e_wp dX0_draws_61 rfl, e_wp dX0_draws_62 rfl, e_wp dX0_draws_63 rfl, e_wp dX0_draws_66 rfl, e_wp dX0_draws_67 rfl, e_wp dX0_draws_69 rfl, e_wp dX0_draws_70 rfl, e_wp dX0_draws_73 rfl, e_wp dX0_draws_74 rfl, e_wp dX0_draws_75 rfl, e_wp dX0_draws_78 rfl, e_wp dX0_draws_81 rfl, e_wp dX0_draws_84 rfl, e_wp dX0_draws_85 rfl, e_wp dX0_draws_88 rfl, c0_asItIs, cs0_draws, p0_203, g0_10, g0_156, k0_438, k0_440, k0_442, g0_203, k0_444, k0_446, g0_430, c0_lays, e_iconst, e_bipush, e_sipush, e_lconst_0, e_lconst_1, e_iload, e_iload_0, e_iload_1, e_iload_2, e_iload_3, e_lload, e_lload_0, e_lload_1, e_lload_2, e_lload_3, e_aload, e_aload_0, e_aload_1, e_aload_2, e_aload_3, e_istore, e_istore_0, e_istore_1, e_istore_2, e_istore_3, e_astore, e_astore_0, e_astore_1, e_astore_2, e_astore_3, e_lstore, e_lstore_0, e_lstore_1, e_lstore_2, e_lstore_3, e_iinc, e_iadd, e_isub, e_imul, e_ladd, e_lsub, e_lmul, e_idiv, e_irem, e_ldiv, e_lrem, e_ineg, e_lneg, e_iand, e_ior, e_ixor, e_ishl, e_ishr, e_iushr, e_lcmp, e_i2l, e_l2i, e_i2b, e_i2s, e_dup_i, e_dup_r, e_pop_i, e_pop_r, e_dup2_l, e_dup2_ir, e_dup2_ii, e_ifeq, e_ifne, e_iflt, e_ifge, e_ifgt, e_ifle, e_iceq, e_icne, e_iclt, e_icge, e_icgt, e_icle, e_goto, e_switch, e_invokevirtual, e_invokestatic, e_invokespecial, e_ret0, e_ret1, e_ret2, e_ret3, ldI_s, ldL_s, ldR_s, clO_s, ctP_s, ctS_s, mgo_0, mgo_s, pjc_s, pj_0, pj_s, lk_s, rm1_0, rm1_i, rm1_r, rm1_l, rm2_0, rm2_i, rm2_r, rm2_l, csL_s, lc_lt, lc_ge, lc_gt, lc_le, lc_eq, b01_0, b01_1, b01_01, b01_n, up2_o, up2_s, up2_u, ne_eq, reduceCtorEq, Nat.reduceAdd, Nat.reduceEqDiff, Nat.reduceLT, Nat.reduceLeDiff, Int.reduceLE, Int.reduceLT, Int.reduceAdd, Int.reduceNeg, Int.reduceMul, Int.reduceSub, Int.reduceEq, Int.reduceToNat, Int.reduceNatCast, Int.cast_ofNat_Int, ↓reduceIte, and_self, List.drop_succ_cons, List.drop_zero, List.take_succ_cons, List.take_zero, List.length_cons, List.length_nil, List.reverse_cons, List.reverse_nil, List.nil_append, List.cons_append, Option.toList, true_and, and_true, or_false, false_or, or_true, true_or, forall_const, Classical.not_not, not_false_eq_true, not_true_eq_false, false_implies, true_implies, implies_true, imp_self]
  refine ⟨⟨hY, hB⟩, fun M1 hR => ?_⟩
  obtain ⟨r1, r2, r3⟩ := hR
  exact hI_14 (7 - 0) _ _ _ ⟨keepX_u (keepX_tell r1 r2) (by decide) (by decide), exF_s (exF_u (exF_0 r3) 0), 0, rfl, h4.1, rfl, up2_s, rfl⟩
set_option maxHeartbeats 4000000 in
set_option maxRecDepth 100000 in
theorem at0_draws_14 {rs : List (Nat × Nat)} {x : Int} {M : Mm} {Q : Option AV → Mm → Prop} (hM : okM (sh8 rs) M) (h_x : i64 x) (hP : P0_draws rs x M) (hQ : ∀ (M1 : Mm), R0_draws rs x M M1 → Q none M1) {m : Nat} {y c : Int} {M1 : Mm} (hM1 : okM (sh8 rs) M1) (h_y : i64 y) (h_c : i32 c) (hJ : J0_draws_14 rs x M m y c M1) (I_14 : List AV → Mm → Prop) (hI_14 : ∀ (m_ : Nat) (y_y : Int) (y_c : Int) (M2 : Mm), m_ < m → J0_draws_14 rs x M m_ y_y y_c M2 → I_14 [ar 0, al y_y, ai y_c] M2) : wp (tb0 (csL (cs0_draws rs))) (sh8 rs) 6 0 cX0_draws [(14, [0, 3, 5], I_14)] Q 400 14 [(0, ar 0), (3, al y), (5, ai c)] [] M1 := by
  obtain ⟨hk, hC, a, rfl, ha, rfl, hf, rfl⟩ := hJ
  obtain ⟨⟨hY, hB⟩, hx⟩ := id hP
  have h4 : 0 ≤ M 1 5 ∧ M 1 5 ≤ 7 := (okY_n hY).2.1
  have e0 := keepX_1 hk
  have hb := drw_b (V := vX M) hx a
  have hb1 := drw_b (V := vX M) hx (a + 1)
  have e1 : (drwP (vX M) x (a + 1)).1 = (1103515245 * (drwP (vX M) x a).1 + 12345).tmod 2147483648 := rfl
  have e2 : (drwP (vX M) x (a + 1)).2 = bor (drwP (vX M) x a).2 (if ((drwP (vX M) x (a + 1)).1.tdiv 65536).tmod 10 < vX M 0 2 then bshl 1 a else 0) := rfl
  have t1 := tdiv_i64 (a := 1103515245 * (drwP (vX M) x a).1 + 12345) (b := 2147483648) (by omega)
  have t2 := tdiv_i64 (a := (drwP (vX M) x (a + 1)).1) (b := 65536) (by omega)
  have t3 := tdiv_i64 (a := (drwP (vX M) x (a + 1)).1.tdiv 65536) (b := 10) (by omega)
  simp only [e_wp dX0_draws_0 rfl, e_wp dX0_draws_1 rfl, e_wp dX0_draws_4 rfl, e_wp dX0_draws_5 rfl, e_wp dX0_draws_6 rfl, e_wp dX0_draws_9 rfl, e_wp dX0_draws_10 rfl, e_wp dX0_draws_11 rfl, e_wp dX0_draws_12 rfl, e_wp dX0_draws_14 rfl, e_wp dX0_draws_16 rfl, e_wp dX0_draws_17 rfl, e_wp dX0_draws_20 rfl, e_wp dX0_draws_23 rfl, e_wp dX0_draws_26 rfl, e_wp dX0_draws_29 rfl, e_wp dX0_draws_30 rfl, e_wp dX0_draws_31 rfl, e_wp dX0_draws_34 rfl, e_wp dX0_draws_35 rfl, e_wp dX0_draws_38 rfl, e_wp dX0_draws_39 rfl, e_wp dX0_draws_40 rfl, e_wp dX0_draws_41 rfl, e_wp dX0_draws_42 rfl, e_wp dX0_draws_45 rfl, e_wp dX0_draws_46 rfl, e_wp dX0_draws_49 rfl, e_wp dX0_draws_50 rfl, e_wp dX0_draws_53 rfl, e_wp dX0_draws_54 rfl, e_wp dX0_draws_55 rfl, e_wp dX0_draws_58 rfl, e_wp dX0_draws_61 rfl, e_wp dX0_draws_62 rfl, e_wp dX0_draws_63 rfl, e_wp dX0_draws_66 rfl, e_wp dX0_draws_67 rfl, e_wp dX0_draws_69 rfl, e_wp dX0_draws_70 rfl, e_wp dX0_draws_73 rfl, e_wp dX0_draws_74 rfl, e_wp dX0_draws_75 rfl, e_wp dX0_draws_78 rfl, e_wp dX0_draws_81 rfl, e_wp dX0_draws_84 rfl, e_wp dX0_draws_85 rfl, e_wp dX0_draws_88 rfl, c0_asItIs, cs0_draws, p0_203, g0_10, g0_156, k0_438, k0_440, k0_442, g0_203, k0_444, k0_446, g0_430, c0_lays, e_iconst, e_bipush, e_sipush, e_lconst_0, e_lconst_1, e_iload, e_iload_0, e_iload_1, e_iload_2, e_iload_3, e_lload, e_lload_0, e_lload_1, e_lload_2, e_lload_3, e_aload, e_aload_0, e_aload_1, e_aload_2, e_aload_3, e_istore, e_istore_0, e_istore_1, e_istore_2, e_istore_3, e_astore, e_astore_0, e_astore_1, e_astore_2, e_astore_3, e_lstore, e_lstore_0, e_lstore_1, e_lstore_2, e_lstore_3, e_iinc, e_iadd, e_isub, e_imul, e_ladd, e_lsub, e_lmul, e_idiv, e_irem, e_ldiv, e_lrem, e_ineg, e_lneg, e_iand, e_ior, e_ixor, e_ishl, e_ishr, e_iushr, e_lcmp, e_i2l, e_l2i, e_i2b, e_i2s, e_dup_i, e_dup_r, e_pop_i, e_pop_r, e_dup2_l, e_dup2_ir, e_dup2_ii, e_ifeq, e_ifne, e_iflt, e_ifge, e_ifgt, e_ifle, e_iceq, e_icne, e_iclt, e_icge, e_icgt, e_icle, e_goto, e_switch, e_invokevirtual, e_invokestatic, e_invokespecial, e_ret0, e_ret1, e_ret2, e_ret3, ldI_s, ldL_s, ldR_s, clO_s, ctP_s, ctS_s, mgo_0, mgo_s, pjc_s, pj_0, pj_s, lk_s, rm1_0, rm1_i, rm1_r, rm1_l, rm2_0, rm2_i, rm2_r, rm2_l, csL_s, lc_lt, lc_ge, lc_gt, lc_le, lc_eq, b01_0, b01_1, b01_01, b01_n, up2_o, up2_s, up2_u, ne_eq, reduceCtorEq, Nat.reduceAdd, Nat.reduceEqDiff, Nat.reduceLT, Nat.reduceLeDiff, Int.reduceLE, Int.reduceLT, Int.reduceAdd, Int.reduceNeg, Int.reduceMul, Int.reduceSub, Int.reduceEq, Int.reduceToNat, Int.reduceNatCast, Int.cast_ofNat_Int, ↓reduceIte, and_self, List.drop_succ_cons, List.drop_zero, List.take_succ_cons, List.take_zero, List.length_cons, List.length_nil, List.reverse_cons, List.reverse_nil, List.nil_append, List.cons_append, Option.toList, true_and, and_true, or_false, false_or, or_true, true_or, forall_const, Classical.not_not, not_false_eq_true, not_true_eq_false, false_implies, true_implies, implies_true, imp_self, e0, hf]
  rw [← e1]
  refine ⟨fun q => ?_, fun q => ?_⟩
  · have ea : (vX M 0 4).toNat = a := by show (M 1 5).toNat = a; omega
    have k4 : nC (vX M) (cX M1) = drwC (vX M) x := by
      rw [exF_at hC hf]
      show frsC (vX M) _ = frsC (vX M) _
      rw [ea]
    refine ⟨lay_pre ⟨hY, hB⟩ hk k4 (okCf_frs (okCf_tell hY)), fun M2 hR => ?_⟩
    have hr0 := hR.2.1.2
    obtain ⟨s1, s2, s3, s4⟩ := lay_useX hk k4 hR
    exact hQ _ ⟨s1, s3, by rw [hr0 24 (by decide), hf, ea]⟩
  · have go : ∀ z, z = (if ((drwP (vX M) x (a + 1)).1.tdiv 65536).tmod 10 < vX M 0 2 then bshl 1 a else 0) → i32 ((a : Int) + 1) ∧ I_14 [ar 0, al (drwP (vX M) x (a + 1)).1, ai (a + 1)] (up2 M1 0 24 (bor (drwP (vX M) x a).2 z)) := by
      intro z hz
      refine ⟨by omega, hI_14 (7 - (a + 1)) _ _ _ (by omega) ⟨keepX_u hk (by decide) (by decide), exF_s (exF_u hC _), a + 1, by omega, by omega, rfl, ?_, rfl⟩⟩
      rw [up2_s, e2, hz]
    repeat (refine And.intro (by omega) ?_)
    refine ⟨fun z => go 0 (if_neg (by show ¬ _ < M 1 2; omega)).symm, fun z => go _ (if_pos z).symm⟩
set_option maxHeartbeats 4000000 in
set_option maxRecDepth 100000 in
theorem m0_draws {rs : List (Nat × Nat)} : MOK cl8 (sh8 rs) tyl8 Nws8 6 yX0_draws cX0_draws 6 none (sp0_draws rs) := by
  refine mok_of (own := RX0) (tb := tb0 (csL (cs0_draws rs))) (rt := 0) (fuel := 400) (fun avs M Q => [(14, [0, 3, 5], fun m_ vs M1 => ∃ y_y : Int, ∃ y_c : Int, vs = [ar 0, al y_y, ai y_c] ∧ J0_draws_14 rs (pa true [1] avs 0) M m_ y_y y_c M1)]) (by decide) rfl nws8_ok (tbOK0 _) rfl (csL_all ?_) ?_ ?_ ?_
  · intro q hq
    simp only [cs0_draws, List.mem_cons, List.not_mem_nil, or_false] at hq
    rcases hq with rfl | rfl
    · exact cg0_asItIs (by decide)
    · exact cg0_lays (by decide)
  · intro avs M Q hsp
    obtain ⟨xs, hx⟩ := spV_un _ _ _ hsp
    obtain ⟨e, hl⟩ := unA_mkT hx
    obtain ⟨x, rfl⟩ := len1 hl
    have e : avs = [ar 0, al x] := e
    subst e
    simp [szL, isL]
  · intro avs M Q hM hav hsp
    obtain ⟨xs, hx⟩ := spV_un _ _ _ hsp
    obtain ⟨e, hl⟩ := unA_mkT hx
    obtain ⟨x, rfl⟩ := len1 hl
    have e : avs = [ar 0, al x] := e
    subst e
    exact in0_draws hM (hav (al x) (by simp)) hsp.1 hsp.2 _ (fun m_ y_y y_c M2 hJ => ⟨m_, y_y, y_c, rfl, hJ⟩)
  · intro avs M Q hM hav hsp q hq m_ vs M1 hM1 hv hJ
    obtain ⟨xs, hx⟩ := spV_un _ _ _ hsp
    obtain ⟨e, hl⟩ := unA_mkT hx
    obtain ⟨x, rfl⟩ := len1 hl
    have e : avs = [ar 0, al x] := e
    subst e
    simp only [List.mem_cons, List.not_mem_nil, or_false] at hq
    rcases hq with rfl
    · obtain ⟨y_y, y_c, rfl, hJ⟩ := hJ
      exact at0_draws_14 hM (hav (al x) (by simp)) hsp.1 hsp.2 hM1 (hv (3, al y_y) (List.mem_of_getElem? (i := 1) rfl)) (hv (5, ai y_c) (List.mem_of_getElem? (i := 2) rfl)) hJ _ (fun m2 z_y z_c M2 hm hJ2 => ⟨m2, hm, z_y, z_c, rfl, hJ2⟩)
theorem cg0_draws {rs : List (Nat × Nat)} {lvl : Nat} (h : 6 < lvl) : CG RX0 cl8 (sh8 rs) tyl8 Nws8 lvl 1 451 2 (sp0_draws rs) := cg_V (sg := [1]) nws8_ok spV_mono spV_un m0_draws h rfl (by decide) rfl rfl ⟨rfl, by decide, by decide, rfl⟩ q1251 q1253 qs55 q128 q1254
def P0_drawn (rs : List (Nat × Nat)) (x : Int) (w : Int) (M : Mm) : Prop := okX M
def R0_drawn (rs : List (Nat × Nat)) (x : Int) (w : Int) (M : Mm) (v : Int) (M1 : Mm) : Prop := keepX M M1 ∧ v = A_drawn (vX M) x w
def sp0_drawn (rs : List (Nat × Nat)) : Spec := spR true [0, 0] 1 (fun x M => P0_drawn rs (x 0) (x 1) M) (fun x M v M1 => R0_drawn rs (x 0) (x 1) M v M1)
theorem c0_drawn {rs : List (Nat × Nat)} {x w : Int} {M : Mm} {Q : Option AV → Mm → Prop} : sp0_drawn rs [ar 0, ai x, ai w] M Q = (P0_drawn rs x w M ∧ ∀ (v : Int) (M1 : Mm), R0_drawn rs x w M v M1 → Q (some (ai v)) M1) := rfl
def cs0_drawn (rs : List (Nat × Nat)) : List (Nat × Nat × Nat × Spec) := [(256, 1, 1, (sp0_isValley rs)), (448, 0, 1, (sp0_isSeed rs)), (170, 0, 2, (sp0_isOneOf rs)), (451, 1, 2, (sp0_draws rs)), (267, 1, 1, (sp0_allSag rs))]
set_option maxHeartbeats 4000000 in
set_option maxRecDepth 100000 in
theorem in0_drawn {rs : List (Nat × Nat)} {x w : Int} {M : Mm} {Q : Option AV → Mm → Prop} (hM : okM (sh8 rs) M) (h_x : i32 x) (h_w : i32 w) (hP : P0_drawn rs x w M) (hQ : ∀ (v : Int) (M1 : Mm), R0_drawn rs x w M v M1 → Q (some (ai v)) M1) : wp (tb0 (csL (cs0_drawn rs))) (sh8 rs) 3 1 cX0_drawn [] Q 400 0 [(0, ar 0), (1, ai x), (2, ai w)] [] M := by
  obtain ⟨hY, hB⟩ := id hP
  have e1 : ¬ (0 < M 1 3 ∧ (0 ≤ x ∧ x ≤ 2000000000) ∧ 0 ≤ w ∧ w ≤ 1) → A_drawn (vX M) x w = -2 := fun q => if_neg q
  simp only [e_wp dX0_drawn_0 rfl, e_wp dX0_drawn_1 rfl, e_wp dX0_drawn_4 rfl, e_wp dX0_drawn_7 rfl, e_wp dX0_drawn_8 rfl, e_wp dX0_drawn_11 rfl, e_wp dX0_drawn_14 rfl, e_wp dX0_drawn_15 rfl, e_wp dX0_drawn_16 rfl, e_wp dX0_drawn_19 rfl, e_wp dX0_drawn_22 rfl, e_wp dX0_drawn_24 rfl, e_wp dX0_drawn_25 rfl, e_wp dX0_drawn_26 rfl, e_wp dX0_drawn_27 rfl, e_wp dX0_drawn_28 rfl, e_wp dX0_drawn_31 rfl, e_wp dX0_drawn_32 rfl, e_wp dX0_drawn_35 rfl, e_wp dX0_drawn_36 rfl, e_wp dX0_drawn_39 rfl, e_wp dX0_drawn_42 rfl, e_wp dX0_drawn_43 rfl, e_wp dX0_drawn_46 rfl, c0_isValley, P0_isValley, V0_isValley, cs0_drawn, c0_isSeed, P0_isSeed, V0_isSeed, c0_isOneOf, P0_isOneOf, V0_isOneOf, c0_draws, g0_203, c0_allSag, P0_allSag, V0_allSag, e_iconst, e_bipush, e_sipush, e_lconst_0, e_lconst_1, e_iload, e_iload_0, e_iload_1, e_iload_2, e_iload_3, e_lload, e_lload_0, e_lload_1, e_lload_2, e_lload_3, e_aload, e_aload_0, e_aload_1, e_aload_2, e_aload_3, e_istore, e_istore_0, e_istore_1, e_istore_2, e_istore_3, e_astore, e_astore_0, e_astore_1, e_astore_2, e_astore_3, e_lstore, e_lstore_0, e_lstore_1, e_lstore_2, e_lstore_3, e_iinc, e_iadd, e_isub, e_imul, e_ladd, e_lsub, e_lmul, e_idiv, e_irem, e_ldiv, e_lrem, e_ineg, e_lneg, e_iand, e_ior, e_ixor, e_ishl, e_ishr, e_iushr, e_lcmp, e_i2l, e_l2i, e_i2b, e_i2s, e_dup_i, e_dup_r, e_pop_i, e_pop_r, e_dup2_l, e_dup2_ir, e_dup2_ii, e_ifeq, e_ifne, e_iflt, e_ifge, e_ifgt, e_ifle, e_iceq, e_icne, e_iclt, e_icge, e_icgt, e_icle, e_goto, e_switch, e_invokevirtual, e_invokestatic, e_invokespecial, e_ret0, e_ret1, e_ret2, e_ret3, ldI_s, ldL_s, ldR_s, clO_s, ctP_s, ctS_s, mgo_0, mgo_s, pjc_s, pj_0, pj_s, lk_s, rm1_0, rm1_i, rm1_r, rm1_l, rm2_0, rm2_i, rm2_r, rm2_l, csL_s, lc_lt, lc_ge, lc_gt, lc_le, lc_eq, b01_0, b01_1, b01_01, b01_n, up2_o, up2_s, up2_u, ne_eq, reduceCtorEq, Nat.reduceAdd, Nat.reduceEqDiff, Nat.reduceLT, Nat.reduceLeDiff, Int.reduceLE, Int.reduceLT, Int.reduceAdd, Int.reduceNeg, Int.reduceMul, Int.reduceSub, Int.reduceEq, Int.reduceToNat, Int.reduceNatCast, Int.cast_ofNat_Int, ↓reduceIte, and_self, List.drop_succ_cons, List.drop_zero, List.take_succ_cons, List.take_zero, List.length_cons, List.length_nil, List.reverse_cons, List.reverse_nil, List.nil_append, List.cons_append, Option.toList, true_and, and_true, or_false, false_or, or_true, true_or, forall_const, Classical.not_not, not_false_eq_true, not_true_eq_false, false_implies, true_implies, implies_true, imp_self]
  refine ⟨fun q => hQ _ _ ⟨keepX_rf, (e1 (by omega)).symm⟩, fun q => ⟨fun z => hQ _ _ ⟨keepX_rf, (e1 (fun y => z y.2.1)).symm⟩, fun z => ⟨fun y => ⟨⟨⟨hY, hB⟩, by omega⟩, fun M1 hR => ?_⟩, fun y => hQ _ _ ⟨keepX_rf, (e1 (by omega)).symm⟩⟩⟩⟩
  obtain ⟨k1, r2, r3⟩ := hR
  have eA : A_drawn (vX M) x w = if w = 0 then (drwP (vX M) x (vX M 0 4).toNat).2 else sagF (vX M) (drwC (vX M) x) := if_pos ⟨q, z, by omega⟩
  have e7 := keepX_1 k1
  refine ⟨fun u => ⟨allS_pre hP e7 r2, hQ _ _ ⟨k1, ?_⟩⟩, fun u => hQ _ _ ⟨k1, ?_⟩⟩
  · rw [eA, if_neg u]; exact allS_val e7 r2
  · rw [eA, if_pos u, r3]
set_option maxHeartbeats 4000000 in
set_option maxRecDepth 100000 in
theorem m0_drawn {rs : List (Nat × Nat)} : MOK cl8 (sh8 rs) tyl8 Nws8 7 yX0_drawn cX0_drawn 3 (some .int) (sp0_drawn rs) := by
  refine mok_of (own := RX0) (tb := tb0 (csL (cs0_drawn rs))) (rt := 1) (fuel := 400) (fun avs M Q => []) (by decide) rfl nws8_ok (tbOK0 _) rfl (csL_all ?_) ?_ ?_ ?_
  · intro q hq
    simp only [cs0_drawn, List.mem_cons, List.not_mem_nil, or_false] at hq
    rcases hq with rfl | rfl | rfl | rfl | rfl
    · exact cg0_isValley (by decide)
    · exact cg0_isSeed (by decide)
    · exact cg0_isOneOf (by decide)
    · exact cg0_draws (by decide)
    · exact cg0_allSag (by decide)
  · intro avs M Q hsp
    obtain ⟨xs, hx⟩ := spR_un _ _ _ hsp
    obtain ⟨e, hl⟩ := unA_mkT hx
    obtain ⟨x, w, rfl⟩ := len2 hl
    have e : avs = [ar 0, ai x, ai w] := e
    subst e
    simp [szL, isL]
  · intro avs M Q hM hav hsp
    obtain ⟨xs, hx⟩ := spR_un _ _ _ hsp
    obtain ⟨e, hl⟩ := unA_mkT hx
    obtain ⟨x, w, rfl⟩ := len2 hl
    have e : avs = [ar 0, ai x, ai w] := e
    subst e
    exact in0_drawn hM (hav (ai x) (by simp)) (hav (ai w) (by simp)) hsp.1 hsp.2
  · intro avs M Q hM hav hsp q hq m_ vs M1 hM1 hv hJ
    obtain ⟨xs, hx⟩ := spR_un _ _ _ hsp
    obtain ⟨e, hl⟩ := unA_mkT hx
    obtain ⟨x, w, rfl⟩ := len2 hl
    have e : avs = [ar 0, ai x, ai w] := e
    subst e
    cases hq
def P0_luck (rs : List (Nat × Nat)) (x : Int) (n : Int) (b : Int) (M : Mm) : Prop := okX M
def R0_luck (rs : List (Nat × Nat)) (x : Int) (n : Int) (b : Int) (M : Mm) (v : Int) (M1 : Mm) : Prop := keepX M M1 ∧ v = A_luck (vX M) x n b
def sp0_luck (rs : List (Nat × Nat)) : Spec := spR true [0, 0, 0] 1 (fun x M => P0_luck rs (x 0) (x 1) (x 2) M) (fun x M v M1 => R0_luck rs (x 0) (x 1) (x 2) M v M1)
theorem c0_luck {rs : List (Nat × Nat)} {x n b : Int} {M : Mm} {Q : Option AV → Mm → Prop} : sp0_luck rs [ar 0, ai x, ai n, ai b] M Q = (P0_luck rs x n b M ∧ ∀ (v : Int) (M1 : Mm), R0_luck rs x n b M v M1 → Q (some (ai v)) M1) := rfl
def cs0_luck (rs : List (Nat × Nat)) : List (Nat × Nat × Nat × Spec) := [(448, 0, 1, (sp0_isSeed rs)), (128, 0, 3, (sp0_isIn rs)), (167, 1, 2, (sp0_isBridge rs)), (451, 1, 2, (sp0_draws rs))]
def J0_luck_37 (rs : List (Nat × Nat)) (x : Int) (n : Int) (b : Int) (M : Mm) (m : Nat) (x_ : Int) (n_ : Int) (b_ : Int) (s : Int) (k : Int) (M1 : Mm) : Prop := x = x_ ∧ n = n_ ∧ b = b_ ∧ ((0 ≤ x ∧ x ≤ 2000000000) ∧ (1 ≤ n ∧ n ≤ 20) ∧ isB (vX M) b) ∧ keepX M M1 ∧ ∃ a : Nat, k = a ∧ (a : Int) ≤ n ∧ s = sumN (lukF (vX M) x b.toNat) a ∧ m = 20 - a
set_option maxHeartbeats 4000000 in
set_option maxRecDepth 100000 in
theorem in0_luck {rs : List (Nat × Nat)} {x n b : Int} {M : Mm} {Q : Option AV → Mm → Prop} (hM : okM (sh8 rs) M) (h_x : i32 x) (h_n : i32 n) (h_b : i32 b) (hP : P0_luck rs x n b M) (hQ : ∀ (v : Int) (M1 : Mm), R0_luck rs x n b M v M1 → Q (some (ai v)) M1) (I_37 : List AV → Mm → Prop) (hI_37 : ∀ (m_ : Nat) (y_x_ : Int) (y_n_ : Int) (y_b_ : Int) (y_s : Int) (y_k : Int) (M2 : Mm), J0_luck_37 rs x n b M m_ y_x_ y_n_ y_b_ y_s y_k M2 → I_37 [ar 0, ai y_x_, ai y_n_, ai y_b_, ai y_s, ai y_k] M2) : wp (tb0 (csL (cs0_luck rs))) (sh8 rs) 6 1 cX0_luck [(37, [0, 1, 2, 3, 4, 5], I_37)] Q 400 0 [(0, ar 0), (1, ai x), (2, ai n), (3, ai b)] [] M := by
  obtain ⟨hY, hB⟩ := id hP
  have h3 : 0 ≤ M 1 4 ∧ M 1 4 ≤ 3 := (okY_n hY).1
  have e1 : ¬ ((0 ≤ x ∧ x ≤ 2000000000) ∧ (1 ≤ n ∧ n ≤ 20) ∧ 0 ≤ b ∧ b < M 1 4) → A_luck (vX M) x n b = -2 := fun q => if_neg q
  simp only [e_wp dX0_luck_0 rfl, e_wp dX0_luck_1 rfl, e_wp dX0_luck_4 rfl, e_wp dX0_luck_7 rfl, e_wp dX0_luck_8 rfl, e_wp dX0_luck_9 rfl, e_wp dX0_luck_10 rfl, e_wp dX0_luck_13 rfl, e_wp dX0_luck_16 rfl, e_wp dX0_luck_19 rfl, e_wp dX0_luck_20 rfl, e_wp dX0_luck_21 rfl, e_wp dX0_luck_22 rfl, e_wp dX0_luck_25 rfl, e_wp dX0_luck_28 rfl, e_wp dX0_luck_30 rfl, e_wp dX0_luck_31 rfl, e_wp dX0_luck_32 rfl, e_wp dX0_luck_34 rfl, e_wp dX0_luck_35 rfl, e_wp dX0_luck_37 rfl, e_wp dX0_luck_39 rfl, e_wp dX0_luck_40 rfl, e_wp dX0_luck_43 rfl, e_wp dX0_luck_44 rfl, e_wp dX0_luck_45 rfl, e_wp dX0_luck_46 rfl, e_wp dX0_luck_48 rfl, e_wp dX0_luck_49 rfl, e_wp dX0_luck_50 rfl, e_wp dX0_luck_53 rfl, e_wp dX0_luck_55 rfl, e_wp dX0_luck_56 rfl, e_wp dX0_luck_59 rfl, e_wp dX0_luck_60 rfl, e_wp dX0_luck_61 rfl, e_wp dX0_luck_62 rfl, e_wp dX0_luck_65 rfl, e_wp dX0_luck_66 rfl, e_wp dX0_luck_69 rfl, e_wp dX0_luck_70 rfl, e_wp dX0_luck_71 rfl, e_wp dX0_luck_73 rfl, e_wp dX0_luck_76 rfl, e_wp dX0_luck_79 rfl, e_wp dX0_luck_81 rfl, c0_isSeed, P0_isSeed, V0_isSeed, cs0_luck, k0_455, c0_isIn, P0_isIn, V0_isIn, c0_isBridge, P0_isBridge, V0_isBridge, c0_draws, g0_83, a8_13, w8_13, a8_14, w8_14, a8_15, w8_15, a8_16, w8_16, a8_17, w8_17, a8_18, w8_18, a8_19, w8_19, a8_20, w8_20, a8_21, w8_21, a8_22, w8_22, a8_23, w8_23, a8_24, w8_24, a8_25, w8_25, a8_26, w8_26, a8_27, w8_27, a8_28, w8_28, a8_29, w8_29, a8_30, w8_30, a8_31, w8_31, a8_32, w8_32, a8_33, w8_33, a8_34, w8_34, a8_35, w8_35, a8_36, w8_36, a8_37, w8_37, a8_38, w8_38, a8_39, w8_39, a8_40, w8_40, a8_12, w8_12, a8_6, a8_7, e_iconst, e_bipush, e_sipush, e_lconst_0, e_lconst_1, e_iload, e_iload_0, e_iload_1, e_iload_2, e_iload_3, e_lload, e_lload_0, e_lload_1, e_lload_2, e_lload_3, e_aload, e_aload_0, e_aload_1, e_aload_2, e_aload_3, e_istore, e_istore_0, e_istore_1, e_istore_2, e_istore_3, e_astore, e_astore_0, e_astore_1, e_astore_2, e_astore_3, e_lstore, e_lstore_0, e_lstore_1, e_lstore_2, e_lstore_3, e_iinc, e_iadd, e_isub, e_imul, e_ladd, e_lsub, e_lmul, e_idiv, e_irem, e_ldiv, e_lrem, e_ineg, e_lneg, e_iand, e_ior, e_ixor, e_ishl, e_ishr, e_iushr, e_lcmp, e_i2l, e_l2i, e_i2b, e_i2s, e_dup_i, e_dup_r, e_pop_i, e_pop_r, e_dup2_l, e_dup2_ir, e_dup2_ii, e_ifeq, e_ifne, e_iflt, e_ifge, e_ifgt, e_ifle, e_iceq, e_icne, e_iclt, e_icge, e_icgt, e_icle, e_goto, e_switch, e_invokevirtual, e_invokestatic, e_invokespecial, e_ret0, e_ret1, e_ret2, e_ret3, ldI_s, ldL_s, ldR_s, clO_s, ctP_s, ctS_s, mgo_0, mgo_s, pjc_s, pj_0, pj_s, lk_s, rm1_0, rm1_i, rm1_r, rm1_l, rm2_0, rm2_i, rm2_r, rm2_l, csL_s, lc_lt, lc_ge, lc_gt, lc_le, lc_eq, b01_0, b01_1, b01_01, b01_n, up2_o, up2_s, up2_u, ne_eq, reduceCtorEq, Nat.reduceAdd, Nat.reduceEqDiff, Nat.reduceLT, Nat.reduceLeDiff, Int.reduceLE, Int.reduceLT, Int.reduceAdd, Int.reduceNeg, Int.reduceMul, Int.reduceSub, Int.reduceEq, Int.reduceToNat, Int.reduceNatCast, Int.cast_ofNat_Int, ↓reduceIte, and_self, List.drop_succ_cons, List.drop_zero, List.take_succ_cons, List.take_zero, List.length_cons, List.length_nil, List.reverse_cons, List.reverse_nil, List.nil_append, List.cons_append, Option.toList, true_and, and_true, or_false, false_or, or_true, true_or, forall_const, Classical.not_not, not_false_eq_true, not_true_eq_false, false_implies, true_implies, implies_true, imp_self]
  refine ⟨fun q => hQ _ _ ⟨keepX_rf, (e1 (fun z => q z.1)).symm⟩, fun q => ⟨fun z => hQ _ _ ⟨keepX_rf, (e1 (fun y => z y.2.1)).symm⟩, fun z => ⟨h3, fun y => ?_, fun y => hQ _ _ ⟨keepX_rf, (e1 (fun u => y u.2.2)).symm⟩⟩⟩⟩
  exact hI_37 (20 - 0) _ _ _ _ _ _ ⟨rfl, rfl, rfl, ⟨q, z, y⟩, keepX_rf, 0, rfl, by omega, rfl, rfl⟩
set_option maxHeartbeats 4000000 in
set_option maxRecDepth 100000 in
theorem at0_luck_37 {rs : List (Nat × Nat)} {x n b : Int} {M : Mm} {Q : Option AV → Mm → Prop} (hM : okM (sh8 rs) M) (h_x : i32 x) (h_n : i32 n) (h_b : i32 b) (hP : P0_luck rs x n b M) (hQ : ∀ (v : Int) (M1 : Mm), R0_luck rs x n b M v M1 → Q (some (ai v)) M1) {m : Nat} {x_ n_ b_ s k : Int} {M1 : Mm} (hM1 : okM (sh8 rs) M1) (h_x_ : i32 x_) (h_n_ : i32 n_) (h_b_ : i32 b_) (h_s : i32 s) (h_k : i32 k) (hJ : J0_luck_37 rs x n b M m x_ n_ b_ s k M1) (I_37 : List AV → Mm → Prop) (hI_37 : ∀ (m_ : Nat) (y_x_ : Int) (y_n_ : Int) (y_b_ : Int) (y_s : Int) (y_k : Int) (M2 : Mm), m_ < m → J0_luck_37 rs x n b M m_ y_x_ y_n_ y_b_ y_s y_k M2 → I_37 [ar 0, ai y_x_, ai y_n_, ai y_b_, ai y_s, ai y_k] M2) : wp (tb0 (csL (cs0_luck rs))) (sh8 rs) 6 1 cX0_luck [(37, [0, 1, 2, 3, 4, 5], I_37)] Q 400 37 [(0, ar 0), (1, ai x_), (2, ai n_), (3, ai b_), (4, ai s), (5, ai k)] [] M1 := by
  obtain ⟨rfl, rfl, rfl, ⟨hx, hn, hb⟩, hk, a, rfl, ha, rfl, rfl⟩ := hJ
  obtain ⟨hY, hB⟩ := id hP
  have h3 : 0 ≤ M 1 4 ∧ M 1 4 ≤ 3 := (okY_n hY).1
  have hb3 : b < M 1 4 := hb.2
  have hb0 := hb.1
  have eV := keepX_v hk
  have hs := sumN_b (f := lukF (vX M) x b.toNat) (B := 1) (n := a) (fun k _ => by unfold lukF; split <;> omega)
  simp only [e_wp dX0_luck_0 rfl, e_wp dX0_luck_1 rfl, e_wp dX0_luck_4 rfl, e_wp dX0_luck_7 rfl, e_wp dX0_luck_8 rfl, e_wp dX0_luck_9 rfl, e_wp dX0_luck_10 rfl, e_wp dX0_luck_13 rfl, e_wp dX0_luck_16 rfl, e_wp dX0_luck_19 rfl, e_wp dX0_luck_20 rfl, e_wp dX0_luck_21 rfl, e_wp dX0_luck_22 rfl, e_wp dX0_luck_25 rfl, e_wp dX0_luck_28 rfl, e_wp dX0_luck_30 rfl, e_wp dX0_luck_31 rfl, e_wp dX0_luck_32 rfl, e_wp dX0_luck_34 rfl, e_wp dX0_luck_35 rfl, e_wp dX0_luck_37 rfl, e_wp dX0_luck_39 rfl, e_wp dX0_luck_40 rfl, e_wp dX0_luck_43 rfl, e_wp dX0_luck_44 rfl, e_wp dX0_luck_45 rfl, e_wp dX0_luck_46 rfl, e_wp dX0_luck_48 rfl, e_wp dX0_luck_49 rfl, e_wp dX0_luck_50 rfl, e_wp dX0_luck_53 rfl, e_wp dX0_luck_55 rfl, e_wp dX0_luck_56 rfl, e_wp dX0_luck_59 rfl, e_wp dX0_luck_60 rfl, e_wp dX0_luck_61 rfl, e_wp dX0_luck_62 rfl, e_wp dX0_luck_65 rfl, e_wp dX0_luck_66 rfl, e_wp dX0_luck_69 rfl, e_wp dX0_luck_70 rfl, e_wp dX0_luck_71 rfl, e_wp dX0_luck_73 rfl, e_wp dX0_luck_76 rfl, e_wp dX0_luck_79 rfl, e_wp dX0_luck_81 rfl, c0_isSeed, P0_isSeed, V0_isSeed, cs0_luck, k0_455, c0_isIn, P0_isIn, V0_isIn, c0_isBridge, P0_isBridge, V0_isBridge, c0_draws, g0_83, a8_13, w8_13, a8_14, w8_14, a8_15, w8_15, a8_16, w8_16, a8_17, w8_17, a8_18, w8_18, a8_19, w8_19, a8_20, w8_20, a8_21, w8_21, a8_22, w8_22, a8_23, w8_23, a8_24, w8_24, a8_25, w8_25, a8_26, w8_26, a8_27, w8_27, a8_28, w8_28, a8_29, w8_29, a8_30, w8_30, a8_31, w8_31, a8_32, w8_32, a8_33, w8_33, a8_34, w8_34, a8_35, w8_35, a8_36, w8_36, a8_37, w8_37, a8_38, w8_38, a8_39, w8_39, a8_40, w8_40, a8_12, w8_12, a8_6, a8_7, e_iconst, e_bipush, e_sipush, e_lconst_0, e_lconst_1, e_iload, e_iload_0, e_iload_1, e_iload_2, e_iload_3, e_lload, e_lload_0, e_lload_1, e_lload_2, e_lload_3, e_aload, e_aload_0, e_aload_1, e_aload_2, e_aload_3, e_istore, e_istore_0, e_istore_1, e_istore_2, e_istore_3, e_astore, e_astore_0, e_astore_1, e_astore_2, e_astore_3, e_lstore, e_lstore_0, e_lstore_1, e_lstore_2, e_lstore_3, e_iinc, e_iadd, e_isub, e_imul, e_ladd, e_lsub, e_lmul, e_idiv, e_irem, e_ldiv, e_lrem, e_ineg, e_lneg, e_iand, e_ior, e_ixor, e_ishl, e_ishr, e_iushr, e_lcmp, e_i2l, e_l2i, e_i2b, e_i2s, e_dup_i, e_dup_r, e_pop_i, e_pop_r, e_dup2_l, e_dup2_ir, e_dup2_ii, e_ifeq, e_ifne, e_iflt, e_ifge, e_ifgt, e_ifle, e_iceq, e_icne, e_iclt, e_icge, e_icgt, e_icle, e_goto, e_switch, e_invokevirtual, e_invokestatic, e_invokespecial, e_ret0, e_ret1, e_ret2, e_ret3, ldI_s, ldL_s, ldR_s, clO_s, ctP_s, ctS_s, mgo_0, mgo_s, pjc_s, pj_0, pj_s, lk_s, rm1_0, rm1_i, rm1_r, rm1_l, rm2_0, rm2_i, rm2_r, rm2_l, csL_s, lc_lt, lc_ge, lc_gt, lc_le, lc_eq, b01_0, b01_1, b01_01, b01_n, up2_o, up2_s, up2_u, ne_eq, reduceCtorEq, Nat.reduceAdd, Nat.reduceEqDiff, Nat.reduceLT, Nat.reduceLeDiff, Int.reduceLE, Int.reduceLT, Int.reduceAdd, Int.reduceNeg, Int.reduceMul, Int.reduceSub, Int.reduceEq, Int.reduceToNat, Int.reduceNatCast, Int.cast_ofNat_Int, ↓reduceIte, and_self, List.drop_succ_cons, List.drop_zero, List.take_succ_cons, List.take_zero, List.length_cons, List.length_nil, List.reverse_cons, List.reverse_nil, List.nil_append, List.cons_append, Option.toList, true_and, and_true, or_false, false_or, or_true, true_or, forall_const, Classical.not_not, not_false_eq_true, not_true_eq_false, false_implies, true_implies, implies_true, imp_self]
  refine ⟨fun q => hQ _ _ ⟨hk, ?_⟩, fun q => ?_⟩
  · rw [show A_luck (vX M) x n b = _ from if_pos ⟨hx, hn, hb⟩, show n.toNat = a by omega]
  · refine ⟨by omega, ⟨⟨by rw [eV]; exact hY, keepX_b hk hB⟩, by omega⟩, fun M2 hR => ?_⟩
    obtain ⟨r1, r2, r3⟩ := hR
    rw [eV] at r2
    have hst := vak_x r2 (b := b.toNat) (by show ((b.toNat : Nat) : Int) < M 1 4; omega)
    have el : lukF (vX M) x b.toNat a = (if M2 25 b.toNat = -1 then 0 else 1) := hst.1.symm
    have go : ∀ z, z = lukF (vX M) x b.toNat a → i32 (sumN (lukF (vX M) x b.toNat) a + z) ∧ i32 ((a : Int) + 1) ∧ I_37 [ar 0, ai x, ai n, ai b, ai (sumN (lukF (vX M) x b.toNat) a + z), ai (a + 1)] M2 := by
      rintro z rfl
      have hz : 0 ≤ lukF (vX M) x b.toNat a ∧ lukF (vX M) x b.toNat a ≤ 1 := by unfold lukF; split <;> omega
      exact ⟨by omega, by omega, hI_37 (20 - (a + 1)) _ _ _ _ _ _ (by omega) ⟨rfl, rfl, rfl, ⟨hx, hn, hb⟩, keepX_tr hk r1, a + 1, by omega, by omega, rfl, rfl⟩⟩
    repeat (refine And.intro (by omega) ?_)
    refine ⟨fun z => go 1 ?_, fun z => go 0 ?_⟩
    · rw [el, if_neg z]
    · rw [el, if_pos z]
set_option maxHeartbeats 4000000 in
set_option maxRecDepth 100000 in
theorem m0_luck {rs : List (Nat × Nat)} : MOK cl8 (sh8 rs) tyl8 Nws8 7 yX0_luck cX0_luck 6 (some .int) (sp0_luck rs) := by
  refine mok_of (own := RX0) (tb := tb0 (csL (cs0_luck rs))) (rt := 1) (fuel := 400) (fun avs M Q => [(37, [0, 1, 2, 3, 4, 5], fun m_ vs M1 => ∃ y_x_ : Int, ∃ y_n_ : Int, ∃ y_b_ : Int, ∃ y_s : Int, ∃ y_k : Int, vs = [ar 0, ai y_x_, ai y_n_, ai y_b_, ai y_s, ai y_k] ∧ J0_luck_37 rs (pa true [0, 0, 0] avs 0) (pa true [0, 0, 0] avs 1) (pa true [0, 0, 0] avs 2) M m_ y_x_ y_n_ y_b_ y_s y_k M1)]) (by decide) rfl nws8_ok (tbOK0 _) rfl (csL_all ?_) ?_ ?_ ?_
  · intro q hq
    simp only [cs0_luck, List.mem_cons, List.not_mem_nil, or_false] at hq
    rcases hq with rfl | rfl | rfl | rfl
    · exact cg0_isSeed (by decide)
    · exact cg0_isIn (by decide)
    · exact cg0_isBridge (by decide)
    · exact cg0_draws (by decide)
  · intro avs M Q hsp
    obtain ⟨xs, hx⟩ := spR_un _ _ _ hsp
    obtain ⟨e, hl⟩ := unA_mkT hx
    obtain ⟨x, n, b, rfl⟩ := len3 hl
    have e : avs = [ar 0, ai x, ai n, ai b] := e
    subst e
    simp [szL, isL]
  · intro avs M Q hM hav hsp
    obtain ⟨xs, hx⟩ := spR_un _ _ _ hsp
    obtain ⟨e, hl⟩ := unA_mkT hx
    obtain ⟨x, n, b, rfl⟩ := len3 hl
    have e : avs = [ar 0, ai x, ai n, ai b] := e
    subst e
    exact in0_luck hM (hav (ai x) (by simp)) (hav (ai n) (by simp)) (hav (ai b) (by simp)) hsp.1 hsp.2 _ (fun m_ y_x_ y_n_ y_b_ y_s y_k M2 hJ => ⟨m_, y_x_, y_n_, y_b_, y_s, y_k, rfl, hJ⟩)
  · intro avs M Q hM hav hsp q hq m_ vs M1 hM1 hv hJ
    obtain ⟨xs, hx⟩ := spR_un _ _ _ hsp
    obtain ⟨e, hl⟩ := unA_mkT hx
    obtain ⟨x, n, b, rfl⟩ := len3 hl
    have e : avs = [ar 0, ai x, ai n, ai b] := e
    subst e
    simp only [List.mem_cons, List.not_mem_nil, or_false] at hq
    rcases hq with rfl
    · obtain ⟨y_x_, y_n_, y_b_, y_s, y_k, rfl, hJ⟩ := hJ
      exact at0_luck_37 hM (hav (ai x) (by simp)) (hav (ai n) (by simp)) (hav (ai b) (by simp)) hsp.1 hsp.2 hM1 (hv (1, ai y_x_) (List.mem_of_getElem? (i := 1) rfl)) (hv (2, ai y_n_) (List.mem_of_getElem? (i := 2) rfl)) (hv (3, ai y_b_) (List.mem_of_getElem? (i := 3) rfl)) (hv (4, ai y_s) (List.mem_of_getElem? (i := 4) rfl)) (hv (5, ai y_k) (List.mem_of_getElem? (i := 5) rfl)) hJ _ (fun m2 z_x_ z_n_ z_b_ z_s z_k M2 hm hJ2 => ⟨m2, hm, z_x_, z_n_, z_b_, z_s, z_k, rfl, hJ2⟩)
