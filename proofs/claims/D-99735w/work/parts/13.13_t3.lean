/-! SagMemoryModel: the valley of a slot, what is told otherwise, turns -/
def frB (f : Nat → Int) : Nat → Int
  | 0 => 0
  | k + 1 => bor (frB f k) (bshl 1 (f k))
def vS (s : Nat) (M : Mm) : Vy := fun i j => match i with
  | 0 => if j < 8 then M 7 (8 * s + j) else if j = 8 then M 6 s else 0
  | 1 => if (j : Int) < M 7 (8 * s + 3) then M 8 (2 * (3 * s + j)) else 0
  | 2 => if (j : Int) < M 7 (8 * s + 3) then M 8 (2 * (3 * s + j) + 1) else 0
  | 3 => if (j : Int) < M 7 (8 * s + 4) then M 9 (2 * (7 * s + j)) else 0
  | 4 => if (j : Int) < M 7 (8 * s + 4) then M 9 (2 * (7 * s + j) + 1) else 0
  | 5 => if (j : Int) < M 7 (8 * s + 5) then M 10 (3 * (5 * s + j)) else 0
  | 6 => if (j : Int) < M 7 (8 * s + 5) then M 10 (3 * (5 * s + j) + 1) else 0
  | 7 => if (j : Int) < M 7 (8 * s + 5) then M 10 (3 * (5 * s + j) + 2) else 0
  | 8 => if j = 0 then frB (fun k => M 11 (4 * s + k)) (M 7 (8 * s + 6)).toNat else 0
  | 9 => if (j : Int) < M 7 (8 * s + 7) then M 12 (3 * (30 * s + j)) else 0
  | 10 => if (j : Int) < M 7 (8 * s + 7) then M 12 (3 * (30 * s + j) + 1) else 0
  | 11 => if (j : Int) < M 7 (8 * s + 7) then M 12 (3 * (30 * s + j) + 2) else 0
  | _ => 0
abbrev vM (M : Mm) : Vy := vS 0 M
def cM (M : Mm) : Cf := fun i j => match i with
  | 0 => if j = 0 then M 0 24 else if j = 1 then M 0 25 else M 0 26
  | 1 => M 14 j
  | 2 => M 15 j
  | 3 => M 16 j
  | _ => 0
/-- the cells that hold valleys -/
abbrev vRows : List Nat := [6, 7, 8, 9, 10, 11, 12]
theorem vS_eq {M M1 : Mm} {s : Nat} (h : ∀ k ∈ vRows, M1 k = M k) : vS s M1 = vS s M := by
  have h6 := h 6 (by decide)
  have h7 := h 7 (by decide)
  have h8 := h 8 (by decide)
  have h9 := h 9 (by decide)
  have h10 := h 10 (by decide)
  have h11 := h 11 (by decide)
  have h12 := h 12 (by decide)
  funext i j
  unfold vS
  simp only [h6, h7, h8, h9, h10, h11, h12]
theorem vS_frm {rows : List Nat} {M M1 : Mm} {s : Nat} (h : frm rows M M1) (hd : ∀ k ∈ vRows, k ∉ rows) : vS s M1 = vS s M := vS_eq fun k hk => h k (hd k hk)
theorem vS_u {M : Mm} {s k j : Nat} {x : Int} (h1 : k ≠ 6) (h2 : k ≠ 7) (h3 : k ≠ 8) (h4 : k ≠ 9) (h5 : k ≠ 10) (h6 : k ≠ 11) (h7 : k ≠ 12) : vS s (up2 M k j x) = vS s M := vS_eq fun k' hk => up2_ne (fun e => by
  subst e
  simp only [vRows, List.mem_cons, List.not_mem_nil, or_false] at hk
  omega)
theorem cM_eq {M M1 : Mm} (h0 : M1 0 = M 0) (h1 : M1 14 = M 14) (h2 : M1 15 = M 15) (h3 : M1 16 = M 16) : cM M1 = cM M := by
  funext i j
  unfold cM
  rw [h0, h1, h2, h3]
theorem cM_frm {rows : List Nat} {M M1 : Mm} (h : frm rows M M1) (hd : ∀ k ∈ [0, 14, 15, 16], k ∉ rows) : cM M1 = cM M := cM_eq (h _ (hd _ (by decide))) (h _ (hd _ (by decide))) (h _ (hd _ (by decide))) (h _ (hd _ (by decide)))
def okY (V : Vy) : Prop := (0 ≤ V 0 0 ∧ V 0 0 ≤ 3) ∧ (0 ≤ V 0 1 ∧ V 0 1 ≤ 50) ∧ (0 ≤ V 0 2 ∧ V 0 2 ≤ 10) ∧ (0 ≤ V 0 3 ∧ V 0 3 ≤ 3) ∧ (0 ≤ V 0 4 ∧ V 0 4 ≤ 7) ∧ (0 ≤ V 0 5 ∧ V 0 5 ≤ 5) ∧ (0 ≤ V 0 6 ∧ V 0 6 ≤ 4) ∧ (0 ≤ V 0 7 ∧ V 0 7 ≤ 30) ∧ (0 ≤ V 0 8 ∧ V 0 8 ≤ 1000) ∧
  (∀ b : Nat, (b : Int) < V 0 3 → (1 ≤ V 1 b ∧ V 1 b ≤ 300) ∧ 0 ≤ V 2 b ∧ V 2 b ≤ 9) ∧ (∀ c : Nat, (c : Int) < V 0 4 → (1 ≤ V 3 c ∧ V 3 c ≤ 99) ∧ 0 ≤ V 4 c ∧ V 4 c < V 0 3) ∧
  (∀ w : Nat, (w : Int) < V 0 5 → (0 ≤ V 5 w ∧ V 5 w < V 0 3) ∧ (0 ≤ V 6 w ∧ V 6 w ≤ 99) ∧ -1 ≤ V 7 w ∧ V 7 w < V 0 3) ∧
  ∀ k : Nat, (k : Int) < V 0 7 → (0 ≤ V 9 k ∧ V 9 k ≤ 2) ∧ (0 ≤ V 10 k ∧ V 10 k < V 0 4) ∧ (V 9 k = 0 → -1 ≤ V 11 k ∧ V 11 k < V 0 3)
def okCf (V : Vy) (C : Cf) : Prop := (0 ≤ C 0 0 ∧ C 0 0 ≤ 3) ∧ ∀ c : Nat, (c : Int) < V 0 4 → (1 ≤ C 1 c ∧ C 1 c ≤ 99) ∧ (-1 ≤ C 2 c ∧ C 2 c < V 0 3) ∧ 0 ≤ C 3 c ∧ C 3 c < V 0 4
theorem okY_n {V : Vy} (h : okY V) : (0 ≤ V 0 3 ∧ V 0 3 ≤ 3) ∧ (0 ≤ V 0 4 ∧ V 0 4 ≤ 7) ∧ (0 ≤ V 0 5 ∧ V 0 5 ≤ 5) ∧ 0 ≤ V 0 1 ∧ V 0 1 ≤ 50 := ⟨h.2.2.2.1, h.2.2.2.2.1, h.2.2.2.2.2.1, h.2.1.1, h.2.1.2⟩
theorem okY_b {V : Vy} (h : okY V) (b : Nat) (hb : (b : Int) < V 0 3) : (1 ≤ V 1 b ∧ V 1 b ≤ 300) ∧ 0 ≤ V 2 b ∧ V 2 b ≤ 9 := h.2.2.2.2.2.2.2.2.2.1 b hb
theorem okY_c {V : Vy} (h : okY V) (c : Nat) (hc : (c : Int) < V 0 4) : (1 ≤ V 3 c ∧ V 3 c ≤ 99) ∧ 0 ≤ V 4 c ∧ V 4 c < V 0 3 := h.2.2.2.2.2.2.2.2.2.2.1 c hc
theorem okY_w {V : Vy} (h : okY V) (w : Nat) (hw : (w : Int) < V 0 5) : (0 ≤ V 5 w ∧ V 5 w < V 0 3) ∧ (0 ≤ V 6 w ∧ V 6 w ≤ 99) ∧ -1 ≤ V 7 w ∧ V 7 w < V 0 3 := h.2.2.2.2.2.2.2.2.2.2.2.1 w hw
theorem wayR_rg {V : Vy} (h : okY V) {b ld : Int} (hb : -1 ≤ b ∧ b < V 0 3) : ∀ (n w : Nat), (n : Int) + w ≤ V 0 5 → -1 ≤ wayR V b ld n w ∧ wayR V b ld n w < V 0 3 := by
  intro n
  induction n with
  | zero => intro w _; exact hb
  | succ n ih =>
    intro w hw
    show -1 ≤ (if V 5 w = b ∧ V 6 w < ld then V 7 w else wayR V b ld n (w + 1)) ∧ (if V 5 w = b ∧ V 6 w < ld then V 7 w else wayR V b ld n (w + 1)) < V 0 3
    split
    · exact (okY_w h w (by omega)).2.2
    · exact ih (w + 1) (by omega)
theorem toP_rg {V : Vy} {C : Cf} (h : okY V) (hC : okCf V C) {c : Nat} (hc : (c : Int) < V 0 4) : -1 ≤ toP V C c ∧ toP V C c < V 0 3 := by
  have h1 := hC.2 c hc
  have h2 := okY_n h
  unfold toP wayP
  split
  · omega
  · exact wayR_rg h h1.2.1 _ _ (by omega)
theorem vM_n (M : Mm) : vM M 0 3 = M 7 3 ∧ vM M 0 4 = M 7 4 ∧ vM M 0 5 = M 7 5 ∧ vM M 0 1 = M 7 1 := ⟨rfl, rfl, rfl, rfl⟩
theorem vM_w (M : Mm) {w : Nat} (h : (w : Int) < M 7 5) : vM M 5 w = M 10 (3 * w) ∧ vM M 6 w = M 10 (3 * w + 1) ∧ vM M 7 w = M 10 (3 * w + 2) := by
  have e : 5 * 0 + w = w := by omega
  refine ⟨?_, ?_, ?_⟩
  · show (if (w : Int) < M 7 5 then M 10 (3 * (5 * 0 + w)) else 0) = _
    rw [if_pos h, e]
  · show (if (w : Int) < M 7 5 then M 10 (3 * (5 * 0 + w) + 1) else 0) = _
    rw [if_pos h, e]
  · show (if (w : Int) < M 7 5 then M 10 (3 * (5 * 0 + w) + 2) else 0) = _
    rw [if_pos h, e]
theorem vM_b (M : Mm) {b : Nat} (h : (b : Int) < M 7 3) : vM M 1 b = M 8 (2 * b) ∧ vM M 2 b = M 8 (2 * b + 1) := by
  have e : 3 * 0 + b = b := by omega
  refine ⟨?_, ?_⟩
  · show (if (b : Int) < M 7 3 then M 8 (2 * (3 * 0 + b)) else 0) = _
    rw [if_pos h, e]
  · show (if (b : Int) < M 7 3 then M 8 (2 * (3 * 0 + b) + 1) else 0) = _
    rw [if_pos h, e]
def P7_wayOf (c : Int) (M : Mm) : Prop := okY (vM M) ∧ okCf (vM M) (cM M) ∧ 0 ≤ c ∧ c < M 7 4
def V7_wayOf (c : Int) (M : Mm) : Int := toP (vM M) (cM M) c.toNat
def sp7_wayOf : Spec := spF true [0] 1 (fun x M => P7_wayOf (x 0) M) (fun x M => V7_wayOf (x 0) M)
theorem c7_wayOf {c : Int} {M : Mm} {Q : Option AV → Mm → Prop} : sp7_wayOf [ar 0, ai c] M Q = (P7_wayOf c M ∧ Q (some (ai (V7_wayOf c M))) M) := rfl
def cs7_wayOf : List (Nat × Nat × Nat × Spec) := []
def J7_wayOf_9 (c : Int) (M : Mm) (m : Nat) (c_ : Int) (b : Int) (w : Int) (M1 : Mm) : Prop := c = c_ ∧ M = M1 ∧ b = M 15 c.toNat ∧ ∃ ww : Nat, w = ww ∧ (ww : Int) ≤ M 7 5 ∧ (¬ b = -1 → wayR (vM M) b (M 14 c.toNat) (M 7 5).toNat 0 = wayR (vM M) b (M 14 c.toNat) ((M 7 5).toNat - ww) ww) ∧ m = (M 7 5).toNat - ww
set_option maxHeartbeats 4000000 in
set_option maxRecDepth 100000 in
theorem in7_wayOf {c : Int} {M : Mm} {Q : Option AV → Mm → Prop} (hM : okM sh7 M) (h_c : i32 c) (hP : P7_wayOf c M) (hQ : Q (some (ai (V7_wayOf c M))) M) (I_9 : List AV → Mm → Prop) (hI_9 : ∀ (m_ : Nat) (y_c_ : Int) (y_b : Int) (y_w : Int) (M2 : Mm), J7_wayOf_9 c M m_ y_c_ y_b y_w M2 → I_9 [ar 0, ai y_c_, ai y_b, ai y_w] M2) : wp (tb7 (csL cs7_wayOf)) sh7 4 1 cX7_wayOf [(9, [0, 1, 2, 3], I_9)] Q 400 0 [(0, ar 0), (1, ai c)] [] M := by
  obtain ⟨h1, h2, h3, h4⟩ := id hP
  have h5 := okY_n h1
  obtain ⟨v3, v4, v5, v1⟩ := vM_n M
  rw [v3, v4, v5, v1] at h5
  simp only [e_wp dX7_wayOf_0 rfl, e_wp dX7_wayOf_1 rfl, e_wp dX7_wayOf_4 rfl, e_wp dX7_wayOf_5 rfl, e_wp dX7_wayOf_6 rfl, e_wp dX7_wayOf_7 rfl, e_wp dX7_wayOf_8 rfl, e_wp dX7_wayOf_9 rfl, e_wp dX7_wayOf_10 rfl, e_wp dX7_wayOf_11 rfl, e_wp dX7_wayOf_14 rfl, e_wp dX7_wayOf_15 rfl, e_wp dX7_wayOf_16 rfl, e_wp dX7_wayOf_19 rfl, e_wp dX7_wayOf_20 rfl, e_wp dX7_wayOf_21 rfl, e_wp dX7_wayOf_24 rfl, e_wp dX7_wayOf_25 rfl, e_wp dX7_wayOf_28 rfl, e_wp dX7_wayOf_29 rfl, e_wp dX7_wayOf_30 rfl, e_wp dX7_wayOf_31 rfl, e_wp dX7_wayOf_32 rfl, e_wp dX7_wayOf_33 rfl, e_wp dX7_wayOf_36 rfl, e_wp dX7_wayOf_37 rfl, e_wp dX7_wayOf_40 rfl, e_wp dX7_wayOf_41 rfl, e_wp dX7_wayOf_42 rfl, e_wp dX7_wayOf_43 rfl, e_wp dX7_wayOf_44 rfl, e_wp dX7_wayOf_45 rfl, e_wp dX7_wayOf_46 rfl, e_wp dX7_wayOf_47 rfl, e_wp dX7_wayOf_50 rfl, e_wp dX7_wayOf_51 rfl, e_wp dX7_wayOf_52 rfl, e_wp dX7_wayOf_55 rfl, e_wp dX7_wayOf_56 rfl, e_wp dX7_wayOf_59 rfl, e_wp dX7_wayOf_60 rfl, e_wp dX7_wayOf_61 rfl, e_wp dX7_wayOf_62 rfl, e_wp dX7_wayOf_63 rfl, e_wp dX7_wayOf_64 rfl, e_wp dX7_wayOf_65 rfl, e_wp dX7_wayOf_66 rfl, e_wp dX7_wayOf_69 rfl, e_wp dX7_wayOf_72 rfl, e_wp dX7_wayOf_73 rfl, g7_59, g7_34, g7_43, g7_56, a7_1, w7_1, a7_2, w7_2, a7_3, w7_3, a7_4, w7_4, a7_5, w7_5, a7_6, w7_6, a7_7, w7_7, a7_8, w7_8, a7_9, w7_9, a7_10, w7_10, a7_11, w7_11, a7_12, w7_12, a7_13, w7_13, a7_14, w7_14, a7_15, w7_15, a7_16, w7_16, a7_17, w7_17, a7_18, w7_18, a7_19, w7_19, a7_20, w7_20, a7_21, w7_21, a7_22, w7_22, a7_23, w7_23, a7_24, w7_24, a7_25, w7_25, a7_26, w7_26, a7_27, w7_27, a7_28, w7_28, a7_29, w7_29, a7_30, w7_30, a7_31, w7_31, a7_32, w7_32, a7_33, w7_33, e_iconst, e_bipush, e_sipush, e_lconst_0, e_lconst_1, e_iload, e_iload_0, e_iload_1, e_iload_2, e_iload_3, e_lload, e_lload_0, e_lload_1, e_lload_2, e_lload_3, e_aload, e_aload_0, e_aload_1, e_aload_2, e_aload_3, e_istore, e_istore_0, e_istore_1, e_istore_2, e_istore_3, e_astore, e_astore_0, e_astore_1, e_astore_2, e_astore_3, e_lstore, e_lstore_0, e_lstore_1, e_lstore_2, e_lstore_3, e_iinc, e_iadd, e_isub, e_imul, e_ladd, e_lsub, e_lmul, e_idiv, e_irem, e_ldiv, e_lrem, e_ineg, e_lneg, e_iand, e_ior, e_ixor, e_ishl, e_ishr, e_iushr, e_lcmp, e_i2l, e_l2i, e_i2b, e_i2s, e_dup_i, e_dup_r, e_pop_i, e_pop_r, e_dup2_l, e_dup2_ir, e_dup2_ii, e_ifeq, e_ifne, e_iflt, e_ifge, e_ifgt, e_ifle, e_iceq, e_icne, e_iclt, e_icge, e_icgt, e_icle, e_goto, e_switch, e_invokevirtual, e_invokestatic, e_invokespecial, e_ret0, e_ret1, e_ret2, e_ret3, ldI_s, ldL_s, ldR_s, clO_s, ctP_s, ctS_s, mgo_0, mgo_s, pjc_s, pj_0, pj_s, lk_s, rm1_0, rm1_i, rm1_r, rm1_l, rm2_0, rm2_i, rm2_r, rm2_l, csL_s, lc_lt, lc_ge, lc_gt, lc_le, lc_eq, b01_0, b01_1, b01_01, b01_n, up2_o, up2_s, up2_u, ne_eq, reduceCtorEq, Nat.reduceAdd, Nat.reduceEqDiff, Nat.reduceLT, Nat.reduceLeDiff, Int.reduceLE, Int.reduceLT, Int.reduceAdd, Int.reduceNeg, Int.reduceMul, Int.reduceSub, Int.reduceEq, Int.reduceToNat, Int.reduceNatCast, Int.cast_ofNat_Int, ↓reduceIte, and_self, List.drop_succ_cons, List.drop_zero, List.take_succ_cons, List.take_zero, List.length_cons, List.length_nil, List.reverse_cons, List.reverse_nil, List.nil_append, List.cons_append, Option.toList, true_and, and_true, or_false, false_or, or_true, true_or, forall_const, Classical.not_not, not_false_eq_true, not_true_eq_false, false_implies, true_implies, implies_true, imp_self]
  refine ⟨by omega, ?_⟩
  exact hI_9 _ _ _ _ _ ⟨rfl, rfl, rfl, 0, rfl, h5.2.2.1.1, fun _ => rfl, rfl⟩
set_option maxHeartbeats 4000000 in
set_option maxRecDepth 100000 in
theorem at7_wayOf_9 {c : Int} {M : Mm} {Q : Option AV → Mm → Prop} (hM : okM sh7 M) (h_c : i32 c) (hP : P7_wayOf c M) (hQ : Q (some (ai (V7_wayOf c M))) M) {m : Nat} {c_ b w : Int} {M1 : Mm} (hM1 : okM sh7 M1) (h_c_ : i32 c_) (h_b : i32 b) (h_w : i32 w) (hJ : J7_wayOf_9 c M m c_ b w M1) (I_9 : List AV → Mm → Prop) (hI_9 : ∀ (m_ : Nat) (y_c_ : Int) (y_b : Int) (y_w : Int) (M2 : Mm), m_ < m → J7_wayOf_9 c M m_ y_c_ y_b y_w M2 → I_9 [ar 0, ai y_c_, ai y_b, ai y_w] M2) : wp (tb7 (csL cs7_wayOf)) sh7 4 1 cX7_wayOf [(9, [0, 1, 2, 3], I_9)] Q 400 9 [(0, ar 0), (1, ai c_), (2, ai b), (3, ai w)] [] M1 := by
  obtain ⟨rfl, rfl, rfl, ww, rfl, hw, hr, rfl⟩ := hJ
  obtain ⟨h1, h2, h3, h4⟩ := id hP
  have h5 := okY_n h1
  obtain ⟨v3, v4, v5, v1⟩ := vM_n M
  rw [v3, v4, v5, v1] at h5
  have eV : V7_wayOf c M = if M 15 c.toNat = -1 then -1 else wayR (vM M) (M 15 c.toNat) (M 14 c.toNat) (M 7 5).toNat 0 := rfl
  simp only [e_wp dX7_wayOf_0 rfl, e_wp dX7_wayOf_1 rfl, e_wp dX7_wayOf_4 rfl, e_wp dX7_wayOf_5 rfl, e_wp dX7_wayOf_6 rfl, e_wp dX7_wayOf_7 rfl, e_wp dX7_wayOf_8 rfl, e_wp dX7_wayOf_9 rfl, e_wp dX7_wayOf_10 rfl, e_wp dX7_wayOf_11 rfl, e_wp dX7_wayOf_14 rfl, e_wp dX7_wayOf_15 rfl, e_wp dX7_wayOf_16 rfl, e_wp dX7_wayOf_19 rfl, e_wp dX7_wayOf_20 rfl, e_wp dX7_wayOf_21 rfl, e_wp dX7_wayOf_24 rfl, e_wp dX7_wayOf_25 rfl, e_wp dX7_wayOf_28 rfl, e_wp dX7_wayOf_29 rfl, e_wp dX7_wayOf_30 rfl, e_wp dX7_wayOf_31 rfl, e_wp dX7_wayOf_32 rfl, e_wp dX7_wayOf_33 rfl, e_wp dX7_wayOf_36 rfl, e_wp dX7_wayOf_37 rfl, e_wp dX7_wayOf_40 rfl, e_wp dX7_wayOf_41 rfl, e_wp dX7_wayOf_42 rfl, e_wp dX7_wayOf_43 rfl, e_wp dX7_wayOf_44 rfl, e_wp dX7_wayOf_45 rfl, e_wp dX7_wayOf_46 rfl, e_wp dX7_wayOf_47 rfl, e_wp dX7_wayOf_50 rfl, e_wp dX7_wayOf_51 rfl, e_wp dX7_wayOf_52 rfl, e_wp dX7_wayOf_55 rfl, e_wp dX7_wayOf_56 rfl, e_wp dX7_wayOf_59 rfl, e_wp dX7_wayOf_60 rfl, e_wp dX7_wayOf_61 rfl, e_wp dX7_wayOf_62 rfl, e_wp dX7_wayOf_63 rfl, e_wp dX7_wayOf_64 rfl, e_wp dX7_wayOf_65 rfl, e_wp dX7_wayOf_66 rfl, e_wp dX7_wayOf_69 rfl, e_wp dX7_wayOf_72 rfl, e_wp dX7_wayOf_73 rfl, g7_59, g7_34, g7_43, g7_56, a7_1, w7_1, a7_2, w7_2, a7_3, w7_3, a7_4, w7_4, a7_5, w7_5, a7_6, w7_6, a7_7, w7_7, a7_8, w7_8, a7_9, w7_9, a7_10, w7_10, a7_11, w7_11, a7_12, w7_12, a7_13, w7_13, a7_14, w7_14, a7_15, w7_15, a7_16, w7_16, a7_17, w7_17, a7_18, w7_18, a7_19, w7_19, a7_20, w7_20, a7_21, w7_21, a7_22, w7_22, a7_23, w7_23, a7_24, w7_24, a7_25, w7_25, a7_26, w7_26, a7_27, w7_27, a7_28, w7_28, a7_29, w7_29, a7_30, w7_30, a7_31, w7_31, a7_32, w7_32, a7_33, w7_33, e_iconst, e_bipush, e_sipush, e_lconst_0, e_lconst_1, e_iload, e_iload_0, e_iload_1, e_iload_2, e_iload_3, e_lload, e_lload_0, e_lload_1, e_lload_2, e_lload_3, e_aload, e_aload_0, e_aload_1, e_aload_2, e_aload_3, e_istore, e_istore_0, e_istore_1, e_istore_2, e_istore_3, e_astore, e_astore_0, e_astore_1, e_astore_2, e_astore_3, e_lstore, e_lstore_0, e_lstore_1, e_lstore_2, e_lstore_3, e_iinc, e_iadd, e_isub, e_imul, e_ladd, e_lsub, e_lmul, e_idiv, e_irem, e_ldiv, e_lrem, e_ineg, e_lneg, e_iand, e_ior, e_ixor, e_ishl, e_ishr, e_iushr, e_lcmp, e_i2l, e_l2i, e_i2b, e_i2s, e_dup_i, e_dup_r, e_pop_i, e_pop_r, e_dup2_l, e_dup2_ir, e_dup2_ii, e_ifeq, e_ifne, e_iflt, e_ifge, e_ifgt, e_ifle, e_iceq, e_icne, e_iclt, e_icge, e_icgt, e_icle, e_goto, e_switch, e_invokevirtual, e_invokestatic, e_invokespecial, e_ret0, e_ret1, e_ret2, e_ret3, ldI_s, ldL_s, ldR_s, clO_s, ctP_s, ctS_s, mgo_0, mgo_s, pjc_s, pj_0, pj_s, lk_s, rm1_0, rm1_i, rm1_r, rm1_l, rm2_0, rm2_i, rm2_r, rm2_l, csL_s, lc_lt, lc_ge, lc_gt, lc_le, lc_eq, b01_0, b01_1, b01_01, b01_n, up2_o, up2_s, up2_u, ne_eq, reduceCtorEq, Nat.reduceAdd, Nat.reduceEqDiff, Nat.reduceLT, Nat.reduceLeDiff, Int.reduceLE, Int.reduceLT, Int.reduceAdd, Int.reduceNeg, Int.reduceMul, Int.reduceSub, Int.reduceEq, Int.reduceToNat, Int.reduceNatCast, Int.cast_ofNat_Int, ↓reduceIte, and_self, List.drop_succ_cons, List.drop_zero, List.take_succ_cons, List.take_zero, List.length_cons, List.length_nil, List.reverse_cons, List.reverse_nil, List.nil_append, List.cons_append, Option.toList, true_and, and_true, or_false, false_or, or_true, true_or, forall_const, Classical.not_not, not_false_eq_true, not_true_eq_false, false_implies, true_implies, implies_true, imp_self]
  refine ⟨fun q => ?_, fun q => ⟨fun q2 => ?_, fun q2 => ?_⟩⟩
  · refine qeq hQ ?_
    rw [eV]
    split
    · omega
    · rename_i z
      rw [hr z, show (M 7 5).toNat - ww = 0 by omega]
      rfl
  · refine qeq hQ ?_
    rw [eV, if_pos q2, q2]
  · obtain ⟨w1, w2, w3⟩ := vM_w M q
    have hs : wayR (vM M) (M 15 c.toNat) (M 14 c.toNat) ((M 7 5).toNat - ww) ww = if M 10 (3 * ww) = M 15 c.toNat ∧ M 10 (3 * ww + 1) < M 14 c.toNat then M 10 (3 * ww + 2) else wayR (vM M) (M 15 c.toNat) (M 14 c.toNat) ((M 7 5).toNat - (ww + 1)) (ww + 1) := by
      rw [show (M 7 5).toNat - ww = ((M 7 5).toNat - (ww + 1)) + 1 by omega, ← w1, ← w2, ← w3]
      rfl
    have n0 : ((3 : Int) * ww).toNat = 3 * ww := by omega
    have n1 : ((3 : Int) * ww + 1).toNat = 3 * ww + 1 := by omega
    have n2 : ((3 : Int) * ww + 2).toNat = 3 * ww + 2 := by omega
    rw [n0, n1, n2]
    have go : ¬ (M 10 (3 * ww) = M 15 c.toNat ∧ M 10 (3 * ww + 1) < M 14 c.toNat) → I_9 [ar 0, ai c, ai (M 15 c.toNat), ai (ww + 1)] M := by
      intro z
      refine hI_9 _ _ _ _ _ ?_ ⟨rfl, rfl, rfl, ww + 1, by omega, by omega, fun z2 => ?_, rfl⟩
      · omega
      · rw [hr z2, hs, if_neg z]
    (repeat' (first | (intro _) | (refine And.intro ?_ ?_))); all_goals (first | omega | exact go (by omega) | skip)
    refine qeq hQ ?_
    rw [eV, if_neg q2, hr q2, hs, if_pos (by omega)]
set_option maxHeartbeats 4000000 in
set_option maxRecDepth 100000 in
theorem m7_wayOf : MOK cl7 sh7 tyl7 [] 0 yX7_wayOf cX7_wayOf 4 (some .int) sp7_wayOf := by
  refine mok_of (own := RX7) (tb := tb7 (csL cs7_wayOf)) (rt := 1) (fuel := 400) (fun avs M Q => [(9, [0, 1, 2, 3], fun m_ vs M1 => ∃ y_c_ : Int, ∃ y_b : Int, ∃ y_w : Int, vs = [ar 0, ai y_c_, ai y_b, ai y_w] ∧ J7_wayOf_9 (pa true [0] avs 0) M m_ y_c_ y_b y_w M1)]) (by decide) rfl nil_nw (tbOK7 _) rfl (csL_all ?_) ?_ ?_ ?_
  · intro q hq; cases hq
  · intro avs M Q hsp
    obtain ⟨xs, hx⟩ := spF_un _ _ _ hsp
    obtain ⟨e, hl⟩ := unA_mkT hx
    obtain ⟨c, rfl⟩ := len1 hl
    have e : avs = [ar 0, ai c] := e
    subst e
    simp [szL, isL]
  · intro avs M Q hM hav hsp
    obtain ⟨xs, hx⟩ := spF_un _ _ _ hsp
    obtain ⟨e, hl⟩ := unA_mkT hx
    obtain ⟨c, rfl⟩ := len1 hl
    have e : avs = [ar 0, ai c] := e
    subst e
    exact in7_wayOf hM (hav (ai c) (by simp)) hsp.1 hsp.2 _ (fun m_ y_c_ y_b y_w M2 hJ => ⟨m_, y_c_, y_b, y_w, rfl, hJ⟩)
  · intro avs M Q hM hav hsp q hq m_ vs M1 hM1 hv hJ
    obtain ⟨xs, hx⟩ := spF_un _ _ _ hsp
    obtain ⟨e, hl⟩ := unA_mkT hx
    obtain ⟨c, rfl⟩ := len1 hl
    have e : avs = [ar 0, ai c] := e
    subst e
    simp only [List.mem_cons, List.not_mem_nil, or_false] at hq
    rcases hq with rfl
    · obtain ⟨y_c_, y_b, y_w, rfl, hJ⟩ := hJ
      exact at7_wayOf_9 hM (hav (ai c) (by simp)) hsp.1 hsp.2 hM1 (hv (1, ai y_c_) (List.mem_of_getElem? (i := 1) rfl)) (hv (2, ai y_b) (List.mem_of_getElem? (i := 2) rfl)) (hv (3, ai y_w) (List.mem_of_getElem? (i := 3) rfl)) hJ _ (fun m2 z_c_ z_b z_w M2 hm hJ2 => ⟨m2, hm, z_c_, z_b, z_w, rfl, hJ2⟩)
theorem cg7_wayOf {lvl : Nat} (h : 0 < lvl) : CG RX7 cl7 sh7 tyl7 [] lvl 1 314 2 sp7_wayOf := cg_V (sg := [0]) nil_nw spF_mono spF_un m7_wayOf h rfl (by decide) rfl rfl ⟨rfl, by decide, by decide, rfl⟩ q1882 q1884 qs94 q138 q1885
def P7_begin (M : Mm) : Prop := True
def R7_begin (M : Mm) (M1 : Mm) : Prop := frm [19, 20, 21] M M1 ∧ ∀ b : Nat, b < 3 → M1 19 b = 0 ∧ M1 20 b = -1 ∧ M1 21 b = 100000
def sp7_begin : Spec := spV true [] (fun x M => P7_begin M) (fun x M M1 => R7_begin M M1)
theorem c7_begin {M : Mm} {Q : Option AV → Mm → Prop} : sp7_begin [ar 0] M Q = (P7_begin M ∧ ∀ (M1 : Mm), R7_begin M M1 → Q none M1) := rfl
def cs7_begin : List (Nat × Nat × Nat × Spec) := []
def J7_begin_2 (M : Mm) (m : Nat) (b_ : Int) (M1 : Mm) : Prop := ∃ bb : Nat, b_ = bb ∧ bb ≤ 3 ∧ frm [19, 20, 21] M M1 ∧ (∀ b : Nat, b < bb → M1 19 b = 0 ∧ M1 20 b = -1 ∧ M1 21 b = 100000) ∧ m = 3 - bb
set_option maxHeartbeats 4000000 in
set_option maxRecDepth 100000 in
theorem in7_begin {M : Mm} {Q : Option AV → Mm → Prop} (hM : okM sh7 M) (hP : P7_begin M) (hQ : ∀ (M1 : Mm), R7_begin M M1 → Q none M1) (I_2 : List AV → Mm → Prop) (hI_2 : ∀ (m_ : Nat) (y_b_ : Int) (M2 : Mm), J7_begin_2 M m_ y_b_ M2 → I_2 [ar 0, ai y_b_] M2) : wp (tb7 (csL cs7_begin)) sh7 2 0 cX7_begin [(2, [0, 1], I_2)] Q 400 0 [(0, ar 0)] [] M := by
  simp only [e_wp dX7_begin_0 rfl, e_wp dX7_begin_1 rfl, e_wp dX7_begin_2 rfl, e_wp dX7_begin_3 rfl, e_wp dX7_begin_4 rfl, e_wp dX7_begin_7 rfl, e_wp dX7_begin_8 rfl, e_wp dX7_begin_11 rfl, e_wp dX7_begin_12 rfl, e_wp dX7_begin_13 rfl, e_wp dX7_begin_14 rfl, e_wp dX7_begin_15 rfl, e_wp dX7_begin_18 rfl, e_wp dX7_begin_19 rfl, e_wp dX7_begin_20 rfl, e_wp dX7_begin_21 rfl, e_wp dX7_begin_22 rfl, e_wp dX7_begin_25 rfl, e_wp dX7_begin_26 rfl, e_wp dX7_begin_28 rfl, e_wp dX7_begin_29 rfl, e_wp dX7_begin_32 rfl, e_wp dX7_begin_35 rfl, g7_71, g7_74, g7_77, k7_166, a7_1, w7_1, a7_2, w7_2, a7_3, w7_3, a7_4, w7_4, a7_5, w7_5, a7_6, w7_6, a7_7, w7_7, a7_8, w7_8, a7_9, w7_9, a7_10, w7_10, a7_11, w7_11, a7_12, w7_12, a7_13, w7_13, a7_14, w7_14, a7_15, w7_15, a7_16, w7_16, a7_17, w7_17, a7_18, w7_18, a7_19, w7_19, a7_20, w7_20, a7_21, w7_21, a7_22, w7_22, a7_23, w7_23, a7_24, w7_24, a7_25, w7_25, a7_26, w7_26, a7_27, w7_27, a7_28, w7_28, a7_29, w7_29, a7_30, w7_30, a7_31, w7_31, a7_32, w7_32, a7_33, w7_33, e_iconst, e_bipush, e_sipush, e_lconst_0, e_lconst_1, e_iload, e_iload_0, e_iload_1, e_iload_2, e_iload_3, e_lload, e_lload_0, e_lload_1, e_lload_2, e_lload_3, e_aload, e_aload_0, e_aload_1, e_aload_2, e_aload_3, e_istore, e_istore_0, e_istore_1, e_istore_2, e_istore_3, e_astore, e_astore_0, e_astore_1, e_astore_2, e_astore_3, e_lstore, e_lstore_0, e_lstore_1, e_lstore_2, e_lstore_3, e_iinc, e_iadd, e_isub, e_imul, e_ladd, e_lsub, e_lmul, e_idiv, e_irem, e_ldiv, e_lrem, e_ineg, e_lneg, e_iand, e_ior, e_ixor, e_ishl, e_ishr, e_iushr, e_lcmp, e_i2l, e_l2i, e_i2b, e_i2s, e_dup_i, e_dup_r, e_pop_i, e_pop_r, e_dup2_l, e_dup2_ir, e_dup2_ii, e_ifeq, e_ifne, e_iflt, e_ifge, e_ifgt, e_ifle, e_iceq, e_icne, e_iclt, e_icge, e_icgt, e_icle, e_goto, e_switch, e_invokevirtual, e_invokestatic, e_invokespecial, e_ret0, e_ret1, e_ret2, e_ret3, ldI_s, ldL_s, ldR_s, clO_s, ctP_s, ctS_s, mgo_0, mgo_s, pjc_s, pj_0, pj_s, lk_s, rm1_0, rm1_i, rm1_r, rm1_l, rm2_0, rm2_i, rm2_r, rm2_l, csL_s, lc_lt, lc_ge, lc_gt, lc_le, lc_eq, b01_0, b01_1, b01_01, b01_n, up2_o, up2_s, up2_u, ne_eq, reduceCtorEq, Nat.reduceAdd, Nat.reduceEqDiff, Nat.reduceLT, Nat.reduceLeDiff, Int.reduceLE, Int.reduceLT, Int.reduceAdd, Int.reduceNeg, Int.reduceMul, Int.reduceSub, Int.reduceEq, Int.reduceToNat, Int.reduceNatCast, Int.cast_ofNat_Int, ↓reduceIte, and_self, List.drop_succ_cons, List.drop_zero, List.take_succ_cons, List.take_zero, List.length_cons, List.length_nil, List.reverse_cons, List.reverse_nil, List.nil_append, List.cons_append, Option.toList, true_and, and_true, or_false, false_or, or_true, true_or, forall_const, Classical.not_not, not_false_eq_true, not_true_eq_false, false_implies, true_implies, implies_true, imp_self]
  exact hI_2 _ _ _ ⟨0, rfl, by omega, frm_rf, fun b h => by omega, rfl⟩
set_option maxHeartbeats 4000000 in
set_option maxRecDepth 100000 in
theorem at7_begin_2 {M : Mm} {Q : Option AV → Mm → Prop} (hM : okM sh7 M) (hP : P7_begin M) (hQ : ∀ (M1 : Mm), R7_begin M M1 → Q none M1) {m : Nat} {b_ : Int} {M1 : Mm} (hM1 : okM sh7 M1) (h_b_ : i32 b_) (hJ : J7_begin_2 M m b_ M1) (I_2 : List AV → Mm → Prop) (hI_2 : ∀ (m_ : Nat) (y_b_ : Int) (M2 : Mm), m_ < m → J7_begin_2 M m_ y_b_ M2 → I_2 [ar 0, ai y_b_] M2) : wp (tb7 (csL cs7_begin)) sh7 2 0 cX7_begin [(2, [0, 1], I_2)] Q 400 2 [(0, ar 0), (1, ai b_)] [] M1 := by
  obtain ⟨bb, rfl, hb, hf, ha, rfl⟩ := hJ
  simp only [e_wp dX7_begin_0 rfl, e_wp dX7_begin_1 rfl, e_wp dX7_begin_2 rfl, e_wp dX7_begin_3 rfl, e_wp dX7_begin_4 rfl, e_wp dX7_begin_7 rfl, e_wp dX7_begin_8 rfl, e_wp dX7_begin_11 rfl, e_wp dX7_begin_12 rfl, e_wp dX7_begin_13 rfl, e_wp dX7_begin_14 rfl, e_wp dX7_begin_15 rfl, e_wp dX7_begin_18 rfl, e_wp dX7_begin_19 rfl, e_wp dX7_begin_20 rfl, e_wp dX7_begin_21 rfl, e_wp dX7_begin_22 rfl, e_wp dX7_begin_25 rfl, e_wp dX7_begin_26 rfl, e_wp dX7_begin_28 rfl, e_wp dX7_begin_29 rfl, e_wp dX7_begin_32 rfl, e_wp dX7_begin_35 rfl, g7_71, g7_74, g7_77, k7_166, a7_1, w7_1, a7_2, w7_2, a7_3, w7_3, a7_4, w7_4, a7_5, w7_5, a7_6, w7_6, a7_7, w7_7, a7_8, w7_8, a7_9, w7_9, a7_10, w7_10, a7_11, w7_11, a7_12, w7_12, a7_13, w7_13, a7_14, w7_14, a7_15, w7_15, a7_16, w7_16, a7_17, w7_17, a7_18, w7_18, a7_19, w7_19, a7_20, w7_20, a7_21, w7_21, a7_22, w7_22, a7_23, w7_23, a7_24, w7_24, a7_25, w7_25, a7_26, w7_26, a7_27, w7_27, a7_28, w7_28, a7_29, w7_29, a7_30, w7_30, a7_31, w7_31, a7_32, w7_32, a7_33, w7_33, e_iconst, e_bipush, e_sipush, e_lconst_0, e_lconst_1, e_iload, e_iload_0, e_iload_1, e_iload_2, e_iload_3, e_lload, e_lload_0, e_lload_1, e_lload_2, e_lload_3, e_aload, e_aload_0, e_aload_1, e_aload_2, e_aload_3, e_istore, e_istore_0, e_istore_1, e_istore_2, e_istore_3, e_astore, e_astore_0, e_astore_1, e_astore_2, e_astore_3, e_lstore, e_lstore_0, e_lstore_1, e_lstore_2, e_lstore_3, e_iinc, e_iadd, e_isub, e_imul, e_ladd, e_lsub, e_lmul, e_idiv, e_irem, e_ldiv, e_lrem, e_ineg, e_lneg, e_iand, e_ior, e_ixor, e_ishl, e_ishr, e_iushr, e_lcmp, e_i2l, e_l2i, e_i2b, e_i2s, e_dup_i, e_dup_r, e_pop_i, e_pop_r, e_dup2_l, e_dup2_ir, e_dup2_ii, e_ifeq, e_ifne, e_iflt, e_ifge, e_ifgt, e_ifle, e_iceq, e_icne, e_iclt, e_icge, e_icgt, e_icle, e_goto, e_switch, e_invokevirtual, e_invokestatic, e_invokespecial, e_ret0, e_ret1, e_ret2, e_ret3, ldI_s, ldL_s, ldR_s, clO_s, ctP_s, ctS_s, mgo_0, mgo_s, pjc_s, pj_0, pj_s, lk_s, rm1_0, rm1_i, rm1_r, rm1_l, rm2_0, rm2_i, rm2_r, rm2_l, csL_s, lc_lt, lc_ge, lc_gt, lc_le, lc_eq, b01_0, b01_1, b01_01, b01_n, up2_o, up2_s, up2_u, ne_eq, reduceCtorEq, Nat.reduceAdd, Nat.reduceEqDiff, Nat.reduceLT, Nat.reduceLeDiff, Int.reduceLE, Int.reduceLT, Int.reduceAdd, Int.reduceNeg, Int.reduceMul, Int.reduceSub, Int.reduceEq, Int.reduceToNat, Int.reduceNatCast, Int.cast_ofNat_Int, ↓reduceIte, and_self, List.drop_succ_cons, List.drop_zero, List.take_succ_cons, List.take_zero, List.length_cons, List.length_nil, List.reverse_cons, List.reverse_nil, List.nil_append, List.cons_append, Option.toList, true_and, and_true, or_false, false_or, or_true, true_or, forall_const, Classical.not_not, not_false_eq_true, not_true_eq_false, false_implies, true_implies, implies_true, imp_self]
  refine ⟨fun q => ?_, fun q => ?_⟩
  · exact hQ _ ⟨hf, fun b h => ha b (by omega)⟩
  · repeat (refine And.intro (by omega) ?_)
    refine hI_2 _ _ _ (by omega) ⟨bb + 1, by omega, by omega, frm_up (frm_up (frm_up hf (by decide)) (by decide)) (by decide), fun b h => ?_, rfl⟩
    rw [show ((bb : Int)).toNat = bb by omega]
    by_cases e : b = bb
    · simp [up2_r, e]
    · simp only [up2_r, e, and_false, if_false]
      exact ha b (by omega)
set_option maxHeartbeats 4000000 in
set_option maxRecDepth 100000 in
theorem m7_begin : MOK cl7 sh7 tyl7 [] 0 yX7_begin cX7_begin 2 none sp7_begin := by
  refine mok_of (own := RX7) (tb := tb7 (csL cs7_begin)) (rt := 0) (fuel := 400) (fun avs M Q => [(2, [0, 1], fun m_ vs M1 => ∃ y_b_ : Int, vs = [ar 0, ai y_b_] ∧ J7_begin_2 M m_ y_b_ M1)]) (by decide) rfl nil_nw (tbOK7 _) rfl (csL_all ?_) ?_ ?_ ?_
  · intro q hq; cases hq
  · intro avs M Q hsp
    obtain ⟨xs, hx⟩ := spV_un _ _ _ hsp
    obtain ⟨e, hl⟩ := unA_mkT hx
    obtain rfl := len0 hl
    have e : avs = [ar 0] := e
    subst e
    simp [szL, isL]
  · intro avs M Q hM hav hsp
    obtain ⟨xs, hx⟩ := spV_un _ _ _ hsp
    obtain ⟨e, hl⟩ := unA_mkT hx
    obtain rfl := len0 hl
    have e : avs = [ar 0] := e
    subst e
    exact in7_begin hM hsp.1 hsp.2 _ (fun m_ y_b_ M2 hJ => ⟨m_, y_b_, rfl, hJ⟩)
  · intro avs M Q hM hav hsp q hq m_ vs M1 hM1 hv hJ
    obtain ⟨xs, hx⟩ := spV_un _ _ _ hsp
    obtain ⟨e, hl⟩ := unA_mkT hx
    obtain rfl := len0 hl
    have e : avs = [ar 0] := e
    subst e
    simp only [List.mem_cons, List.not_mem_nil, or_false] at hq
    rcases hq with rfl
    · obtain ⟨y_b_, rfl, hJ⟩ := hJ
      exact at7_begin_2 hM hsp.1 hsp.2 hM1 (hv (1, ai y_b_) (List.mem_of_getElem? (i := 1) rfl)) hJ _ (fun m2 z_b_ M2 hm hJ2 => ⟨m2, hm, z_b_, rfl, hJ2⟩)
theorem cg7_begin {lvl : Nat} (h : 0 < lvl) : CG RX7 cl7 sh7 tyl7 [] lvl 1 324 1 sp7_begin := cg_V (sg := []) nil_nw spV_mono spV_un m7_begin h rfl (by decide) rfl rfl ⟨rfl, by decide, by decide, rfl⟩ q1870 q1872 qs91 q138 q1873
/-- the cells of a run -/
theorem mb_eq {M M1 : Mm} (h1 : M1 17 = M 17) (h2 : M1 18 = M 18) (h3 : M1 19 = M 19) (b : Int) : mb M1 b = mb M b ∧ (okB M1 b ↔ okB M b) := by
  have e : mb M1 b = mb M b := by
    unfold mb mf
    rw [h1, h2, h3]
  refine ⟨e, ?_⟩
  unfold okB
  rw [e, h3]
theorem mb_u {M : Mm} {k j : Nat} {x : Int} {b : Int} (h1 : k ≠ 17) (h2 : k ≠ 18) (h3 : k ≠ 19) : mb (up2 M k j x) b = mb M b := (mb_eq (up2_ne h1.symm) (up2_ne h2.symm) (up2_ne h3.symm) b).1
theorem okB_u {M : Mm} {k j : Nat} {x : Int} {b : Int} (h1 : k ≠ 17) (h2 : k ≠ 18) (h3 : k ≠ 19) : okB (up2 M k j x) b = okB M b := propext (mb_eq (up2_ne h1.symm) (up2_ne h2.symm) (up2_ne h3.symm) b).2
theorem cM_u {M : Mm} {k j : Nat} {x : Int} (h0 : k ≠ 0) (h1 : k ≠ 14) (h2 : k ≠ 15) (h3 : k ≠ 16) : cM (up2 M k j x) = cM M := cM_eq (up2_ne h0.symm) (up2_ne h1.symm) (up2_ne h2.symm) (up2_ne h3.symm)
theorem mb_len {M : Mm} {b : Int} (h : okB M b) : ((mb M b).length : Int) = M 19 b.toNat := by
  have h1 := h.2.1
  have e : (mb M b).length = (M 19 b.toNat).toNat := stk_len _ _
  omega
def stR (V : Vy) (M : Mm) (S : Sm) : Prop := ∀ b : Nat, (b : Int) < V 0 3 → mb M b = S.1 b ∧ M 20 b = S.2.1 b ∧ M 21 b = S.2.2 b
theorem stR_eq {V : Vy} {M M1 : Mm} {S : Sm} (h : stR V M S) (h1 : ∀ b : Nat, mb M1 b = mb M b) (h2 : M1 20 = M 20) (h3 : M1 21 = M 21) : stR V M1 S := by
  intro b hb
  rw [h1, h2, h3]
  exact h b hb
abbrev runRows : List Nat := [17, 18, 19, 20, 21, 22, 23, 24, 25, 26]
/-- whose mark an entry bears: the cart's -/
def whoM (C : Cf) : Nat → Int := fun t => C 3 t
def outR (V : Vy) (C : Cf) (S1 : Sm) (t : Nat) (M1 : Mm) : Prop := M1 22 (C 3 t).toNat = wentS V C S1 t ∧ M1 23 (C 3 t).toNat = (if bitP (C 0 2) (C 3 t).toNat then -1 else toP V C (C 3 t).toNat) ∧ M1 24 (C 3 t).toNat = giveS (whoM C) V C S1 t ∧ M1 25 (C 3 t).toNat = creakS V C S1 t ∧ M1 26 (C 3 t).toNat = wipeS (whoM C) V C S1 t
/-- frost ahead of turn t -/
def frT (M Mf : Mm) (t : Nat) : Prop := frm [17, 18, 19] M Mf ∧ (∀ b : Nat, (b : Int) < M 7 3 → okB Mf b ∧ Mf 19 b ≤ M 19 b) ∧ ∀ S, stR (vM M) M S → stR (vM M) Mf (frzA (vM M) (cM M) S t)
/-- a cart's answers laid clean -/
def clM (M : Mm) (c : Nat) : Mm := up2 (up2 (up2 (up2 (up2 M 22 c (-1)) 23 c (-1)) 24 c 0) 25 c 0) 26 c 0
theorem lastP_b {l : List Pr} (h : okL l) : 0 ≤ lastP l ∧ lastP l ≤ 99 := by
  cases l with
  | nil => exact ⟨Int.le_refl _, by show (0 : Int) ≤ 99; omega⟩
  | cons x l =>
    have := (okL_c.mp h).1
    show 0 ≤ x.1 ∧ x.1 ≤ 99
    omega
theorem frz_brk (V : Vy) (C : Cf) (S : Sm) (t : Nat) : (frzA V C S t).2 = S.2 := by
  unfold frzA
  split <;> rfl
def turnPre (t : Int) (M : Mm) : Prop := okY (vM M) ∧ okCf (vM M) (cM M) ∧ (0 ≤ t ∧ t < M 7 4) ∧ (∀ b : Nat, (b : Int) < M 7 3 → okB M b ∧ M 19 b ≤ t) ∧ ∀ b : Nat, (b : Int) < M 7 3 → -1 ≤ M 20 b ∧ M 20 b ≤ 6
def turnR (t : Int) (M M1 : Mm) : Prop := frm runRows M M1 ∧ (∀ b : Nat, (b : Int) < M 7 3 → (okB M1 b ∧ M1 19 b ≤ M 19 b + 1) ∧ -1 ≤ M1 20 b ∧ M1 20 b ≤ 6) ∧ (∀ S, stR (vM M) M S → stR (vM M) M1 (stepP (whoM (cM M)) (vM M) (cM M) S t.toNat) ∧ outR (vM M) (cM M) (frzA (vM M) (cM M) S t.toNat) t.toNat M1) ∧ ∀ c : Nat, ¬ c = (M 16 t.toNat).toNat → ∀ k, k ∈ [22, 23, 24, 25, 26] → M1 k c = M k c
/-- a turn in which no cart goes over -/
theorem turn_no {M Mf M1 : Mm} {t : Nat} (hp : turnPre t M) (hf : frT M Mf t) (h1 : frm [22, 23, 24, 25, 26] Mf M1) (hc : ∀ c : Nat, ¬ c = (M 16 t).toNat → ∀ k, k ∈ [22, 23, 24, 25, 26] → M1 k c = Mf k c)
    (hno : ¬ (¬ bitP (M 0 26) (M 16 t) ∧ ¬ toP (vM M) (cM M) (M 16 t).toNat = -1 ∧ M 20 (toP (vM M) (cM M) (M 16 t).toNat).toNat = -1))
    (ho : M1 22 (M 16 t).toNat = -1 ∧ M1 23 (M 16 t).toNat = (if bitP (M 0 26) (M 16 t) then -1 else toP (vM M) (cM M) (M 16 t).toNat) ∧ M1 24 (M 16 t).toNat = 0 ∧ M1 25 (M 16 t).toNat = 0 ∧ M1 26 (M 16 t).toNat = 0) : turnR t M M1 := by
  obtain ⟨hY, hC, ht, hb, hk⟩ := hp
  obtain ⟨f1, f2, f3⟩ := hf
  have hrow : 0 ≤ M 16 t ∧ M 16 t < M 7 4 := (hC.2 t ht.2).2.2
  have hto := toP_rg hY hC (c := (M 16 t).toNat) (by show ((M 16 t).toNat : Int) < M 7 4; omega)
  have hto3 : toP (vM M) (cM M) (M 16 t).toNat < M 7 3 := hto.2
  have em : ∀ b : Int, mb M1 b = mb Mf b ∧ (okB M1 b ↔ okB Mf b) := mb_eq (h1 _ (by decide)) (h1 _ (by decide)) (h1 _ (by decide))
  have e19 : M1 19 = Mf 19 := h1 _ (by decide)
  have e20 : M1 20 = M 20 := (h1 _ (by decide)).trans (f1 _ (by decide))
  have e20f : M1 20 = Mf 20 := h1 _ (by decide)
  have e21f : M1 21 = Mf 21 := h1 _ (by decide)
  refine ⟨fun k hk2 => ?_, fun b hb2 => ?_, fun S hS => ?_, fun c hc2 k hk2 => ?_⟩
  · rw [h1 k (fun z => hk2 (by revert z; simp only [List.mem_cons, List.not_mem_nil, or_false]; omega)), f1 k (fun z => hk2 (by revert z; simp only [List.mem_cons, List.not_mem_nil, or_false]; omega))]
  · obtain ⟨x1, x2⟩ := f2 b hb2
    rw [e19, e20]
    exact ⟨⟨(em b).2.mpr x1, by omega⟩, hk b hb2⟩
  · have hn : ¬ isGo (vM M) (cM M) (frzA (vM M) (cM M) S t) (cM M 3 t).toNat := by
      intro z
      refine hno ⟨?_, z.2.1, ?_⟩
      · have z1 := z.1
        show ¬ bitP (M 0 26) (M 16 t)
        rw [show ((cM M 3 t).toNat : Int) = M 16 t from Int.toNat_of_nonneg hrow.1] at z1
        exact z1
      · have z2 := z.2.2
        rw [frz_brk] at z2
        have z1 := z.2.1
        have hto0 : 0 ≤ toP (vM M) (cM M) (M 16 t).toNat := by
          have : ¬ toP (vM M) (cM M) (M 16 t).toNat = -1 := z1
          omega
        rw [(hS (toP (vM M) (cM M) (M 16 t).toNat).toNat (by show ((toP (vM M) (cM M) (M 16 t).toNat).toNat : Int) < M 7 3; omega)).2.1]
        exact z2
    have e1 : stepP (whoM (cM M)) (vM M) (cM M) S ((t : Int)).toNat = frzA (vM M) (cM M) S t := by
      rw [Int.toNat_natCast]
      unfold stepP
      rw [if_neg hn]
    rw [e1, Int.toNat_natCast]
    refine ⟨stR_eq (f3 S hS) (fun b => (em b).1) e20f e21f, ?_, ?_, ?_, ?_, ?_⟩
    · unfold wentS; rw [if_neg hn]; exact ho.1
    · rw [show ((cM M 3 t).toNat : Int) = M 16 t from Int.toNat_of_nonneg hrow.1]; exact ho.2.1
    · unfold giveS; rw [if_neg hn]; exact ho.2.2.1
    · unfold creakS; rw [if_neg hn]; exact ho.2.2.2.1
    · unfold wipeS; rw [if_neg hn]; exact ho.2.2.2.2
  · rw [Int.toNat_natCast] at hc2
    rw [hc c hc2 k hk2, f1 k (by revert hk2; simp only [List.mem_cons, List.not_mem_nil, or_false]; omega)]
/-- a turn in which a cart goes over the bridge b -/
theorem turn_go {M Mf M1 : Mm} {t : Nat} {b : Int} {r : List Pr × Int} (hp : turnPre t M) (hf : frT M Mf t) (eb : b = toP (vM M) (cM M) (M 16 t).toNat) (er : r = crossP (M 0 24) (M 14 (M 16 t).toNat) (M 16 t) (mb Mf b))
    (hgo : ¬ bitP (M 0 26) (M 16 t) ∧ ¬ b = -1 ∧ M 20 b.toNat = -1) (h1 : frm runRows Mf M1) (hmb : mb M1 b = r.1 ∧ okB M1 b) (hot : ∀ b', okB Mf b' → ¬ b' = b → mb M1 b' = mb Mf b' ∧ okB M1 b')
    (hk1 : ∀ a : Nat, M1 20 a = if M 8 (2 * b.toNat) < sagP r.1 ∧ a = b.toNat then M 16 t else Mf 20 a) (hk2 : ∀ a : Nat, M1 21 a = if M 8 (2 * b.toNat) < sagP r.1 ∧ a = b.toNat then (t : Int) else Mf 21 a)
    (hc : ∀ c : Nat, ¬ c = (M 16 t).toNat → ∀ k, k ∈ [22, 23, 24, 25, 26] → M1 k c = Mf k c)
    (ho : M1 22 (M 16 t).toNat = b ∧ M1 23 (M 16 t).toNat = b ∧ M1 24 (M 16 t).toNat = sagP r.1 - sagP (mb Mf b) ∧ M1 25 (M 16 t).toNat = (if lastP (mb Mf b) < M 14 (M 16 t).toNat then M 14 (M 16 t).toNat - lastP (mb Mf b) else 0) ∧ M1 26 (M 16 t).toNat = r.2) : turnR t M M1 := by
  obtain ⟨hY, hC, ht, hb, hk⟩ := hp
  obtain ⟨f1, f2, f3⟩ := hf
  have hN := okY_n hY
  obtain ⟨v3, v4, v5, v1⟩ := vM_n M
  rw [v3, v4, v5, v1] at hN
  have hrow : 0 ≤ M 16 t ∧ M 16 t < M 7 4 := (hC.2 t ht.2).2.2
  have hto := toP_rg hY hC (c := (M 16 t).toNat) (by show ((M 16 t).toNat : Int) < M 7 4; omega)
  rw [← eb] at hto
  have hto3 : b < M 7 3 := hto.2
  have hb0 : 0 ≤ b := by omega
  have hbn : ((b.toNat : Nat) : Int) = b := Int.toNat_of_nonneg hb0
  have hV1 : vM M 1 b.toNat = M 8 (2 * b.toNat) := (vM_b M (by omega)).1
  have fb := f2 b.toNat (by omega)
  rw [hbn] at fb
  have f20 : Mf 20 = M 20 := f1 _ (by decide)
  have hload := (hC.2 (M 16 t).toNat (by show ((M 16 t).toNat : Int) < M 7 4; omega)).1
  refine ⟨fun k hk2 => ?_, fun a ha => ?_, fun S hS => ?_, fun c hc2 k hk2 => ?_⟩
  · rw [h1 k hk2, f1 k (fun z => hk2 (by revert z; simp only [List.mem_cons, List.not_mem_nil, or_false]; omega))]
  · refine ⟨?_, ?_⟩
    · by_cases e : (a : Int) = b
      · have x1 := mb_len hmb.2
        have x2 := mb_len fb.1
        rw [hmb.1] at x1
        have x3 := @cross_len (M 0 24) (M 14 (M 16 t).toNat) (M 16 t) (mb Mf b)
        rw [← er] at x3
        rw [e]
        have e' : a = b.toNat := by omega
        rw [e']
        exact ⟨hmb.2, by omega⟩
      · obtain ⟨x1, x2⟩ := f2 a ha
        obtain ⟨y1, y2⟩ := hot a x1 e
        have z1 := mb_len y2
        have z2 := mb_len x1
        rw [y1] at z1
        refine ⟨y2, ?_⟩
        rw [Int.toNat_natCast] at z1 z2
        omega
    · rw [hk1 a]
      split
      · omega
      · rw [f20]; exact hk a ha
  · have hS1 : stR (vM M) Mf (frzA (vM M) (cM M) S t) := f3 S hS
    have hSb := hS1 b.toNat (by show ((b.toNat : Nat) : Int) < M 7 3; omega)
    rw [hbn] at hSb
    have ec : ((cM M 3 t).toNat : Int) = M 16 t := Int.toNat_of_nonneg hrow.1
    have hn : isGo (vM M) (cM M) (frzA (vM M) (cM M) S t) (cM M 3 t).toNat := by
      refine ⟨?_, ?_, ?_⟩
      · rw [ec]; exact hgo.1
      · show ¬ toP (vM M) (cM M) (M 16 t).toNat = -1
        rw [← eb]; exact hgo.2.1
      · show (frzA (vM M) (cM M) S t).2.1 (toP (vM M) (cM M) (M 16 t).toNat).toNat = -1
        rw [← eb, ← hSb.2.1, f20]; exact hgo.2.2
    have hcr : crP (whoM (cM M)) (vM M) (cM M) (frzA (vM M) (cM M) S t) t = r := by
      show crossP (M 0 24) (M 14 (M 16 t).toNat) (M 16 t) ((frzA (vM M) (cM M) S t).1 (toP (vM M) (cM M) (M 16 t).toNat).toNat) = r
      rw [← eb, ← hSb.1, er]
    have e1 : stepP (whoM (cM M)) (vM M) (cM M) S ((t : Int)).toNat = goS (whoM (cM M)) (vM M) (cM M) (frzA (vM M) (cM M) S t) t := by
      rw [Int.toNat_natCast]
      unfold stepP
      rw [if_pos hn]
    rw [e1, Int.toNat_natCast]
    have ebt : (toP (vM M) (cM M) (cM M 3 t).toNat).toNat = b.toNat := by rw [eb]; rfl
    refine ⟨fun a ha => ?_, ?_, ?_, ?_, ?_, ?_⟩
    · have ha3 : (a : Int) < M 7 3 := ha
      have hSa := hS1 a ha
      unfold goS
      rw [hcr, ebt, hV1]
      by_cases e : a = b.toNat
      · subst e
        rw [hk1, hk2]
        refine ⟨?_, ?_, ?_⟩
        · rw [hbn]
          show _ = (if b.toNat = b.toNat then r.1 else _)
          rw [if_pos rfl]
          exact hmb.1
        · by_cases q : M 8 (2 * b.toNat) < sagP r.1
          · rw [if_pos ⟨q, rfl⟩, if_pos q]
            show _ = (if b.toNat = b.toNat then cM M 3 t else _)
            rw [if_pos rfl]
            rfl
          · rw [if_neg (fun z => q z.1), if_neg q]
            exact hSa.2.1
        · by_cases q : M 8 (2 * b.toNat) < sagP r.1
          · rw [if_pos ⟨q, rfl⟩, if_pos q]
            show _ = (if b.toNat = b.toNat then (t : Int) else _)
            rw [if_pos rfl]
          · rw [if_neg (fun z => q z.1), if_neg q]
            exact hSa.2.2
      · have q1 : M1 20 a = Mf 20 a := by rw [hk1 a, if_neg (fun z => e z.2)]
        have q2 : M1 21 a = Mf 21 a := by rw [hk2 a, if_neg (fun z => e z.2)]
        rw [q1, q2]
        refine ⟨?_, ?_, ?_⟩
        · show _ = (if a = b.toNat then r.1 else _)
          rw [if_neg e, (hot a (f2 a ha3).1 (by omega)).1]
          exact hSa.1
        · by_cases q : M 8 (2 * b.toNat) < sagP r.1
          · rw [if_pos q]
            show _ = (if a = b.toNat then cM M 3 t else _)
            rw [if_neg e]
            exact hSa.2.1
          · rw [if_neg q]
            exact hSa.2.1
        · by_cases q : M 8 (2 * b.toNat) < sagP r.1
          · rw [if_pos q]
            show _ = (if a = b.toNat then (t : Int) else _)
            rw [if_neg e]
            exact hSa.2.2
          · rw [if_neg q]
            exact hSa.2.2
    · unfold wentS
      rw [if_pos hn]
      show M1 22 (M 16 t).toNat = toP (vM M) (cM M) (M 16 t).toNat
      rw [← eb]; exact ho.1
    · rw [ec]
      show M1 23 (M 16 t).toNat = (if bitP (M 0 26) (M 16 t) then -1 else toP (vM M) (cM M) (M 16 t).toNat)
      rw [if_neg hgo.1, ← eb]; exact ho.2.1
    · unfold giveS
      rw [if_pos hn, hcr, ebt, ← hSb.1]
      exact ho.2.2.1
    · unfold creakS
      rw [if_pos hn, ebt, ← hSb.1]
      exact ho.2.2.2.1
    · unfold wipeS
      rw [if_pos hn, hcr]
      exact ho.2.2.2.2
  · rw [Int.toNat_natCast] at hc2
    rw [hc c hc2 k hk2, f1 k (by revert hk2; simp only [List.mem_cons, List.not_mem_nil, or_false]; omega)]
def P7_turn (t : Int) (M : Mm) : Prop := turnPre t M
def R7_turn (t : Int) (M : Mm) (M1 : Mm) : Prop := turnR t M M1
def sp7_turn : Spec := spV true [0] (fun x M => P7_turn (x 0) M) (fun x M M1 => R7_turn (x 0) M M1)
theorem c7_turn {t : Int} {M : Mm} {Q : Option AV → Mm → Prop} : sp7_turn [ar 0, ai t] M Q = (P7_turn t M ∧ ∀ (M1 : Mm), R7_turn t M M1 → Q none M1) := rfl
def cs7_turn : List (Nat × Nat × Nat × Spec) := [(307, 0, 2, sp7_isBit), (311, 1, 1, sp7_freezes), (314, 1, 2, sp7_wayOf), (317, 1, 2, sp7_sagOf), (304, 1, 2, sp7_lastOf), (320, 1, 4, sp7_crosses)]
def J7_turn_15 (t : Int) (M : Mm) (m : Nat) (t_ : Int) (M1 : Mm) : Prop := t = t_ ∧ frT M M1 t.toNat ∧ m = 3
def J7_turn_98 (t : Int) (M : Mm) (m : Nat) (t_ : Int) (c_ : Int) (b_ : Int) (M1 : Mm) : Prop := t = t_ ∧ c_ = M 16 t.toNat ∧ b_ = toP (vM M) (cM M) (M 16 t.toNat).toNat ∧ (¬ bitP (M 0 26) c_ ∧ ¬ b_ = -1 ∧ M 20 b_.toNat = -1) ∧ (∃ Mf, frT M Mf t.toNat ∧ okM sh7 Mf ∧ M1 = up2 (clM Mf (M 16 t.toNat).toNat) 23 (M 16 t.toNat).toNat b_) ∧ m = 2
def J7_turn_148 (t : Int) (M : Mm) (m : Nat) (t_ : Int) (c_ : Int) (b_ : Int) (was : Int) (M1 : Mm) : Prop := t = t_ ∧ c_ = M 16 t.toNat ∧ b_ = toP (vM M) (cM M) (M 16 t.toNat).toNat ∧ (¬ bitP (M 0 26) c_ ∧ ¬ b_ = -1 ∧ M 20 b_.toNat = -1) ∧ (∃ Mf, frT M Mf t.toNat ∧ was = sagP (mb Mf b_) ∧ M1 = up2 (up2 (up2 (clM Mf (M 16 t.toNat).toNat) 23 (M 16 t.toNat).toNat b_) 22 (M 16 t.toNat).toNat b_) 25 (M 16 t.toNat).toNat (if lastP (mb Mf b_) < M 14 (M 16 t.toNat).toNat then M 14 (M 16 t.toNat).toNat - lastP (mb Mf b_) else 0)) ∧ m = 1
set_option maxHeartbeats 4000000 in
set_option maxRecDepth 100000 in
theorem in7_turn {t : Int} {M : Mm} {Q : Option AV → Mm → Prop} (hM : okM sh7 M) (h_t : i32 t) (hP : P7_turn t M) (hQ : ∀ (M1 : Mm), R7_turn t M M1 → Q none M1) (I_15 : List AV → Mm → Prop) (hI_15 : ∀ (m_ : Nat) (y_t_ : Int) (M2 : Mm), J7_turn_15 t M m_ y_t_ M2 → I_15 [ar 0, ai y_t_] M2) (I_98 : List AV → Mm → Prop) (hI_98 : ∀ (m_ : Nat) (y_t_ : Int) (y_c_ : Int) (y_b_ : Int) (M2 : Mm), J7_turn_98 t M m_ y_t_ y_c_ y_b_ M2 → I_98 [ar 0, ai y_t_, ai y_c_, ai y_b_] M2) (I_148 : List AV → Mm → Prop) (hI_148 : ∀ (m_ : Nat) (y_t_ : Int) (y_c_ : Int) (y_b_ : Int) (y_was : Int) (M2 : Mm), J7_turn_148 t M m_ y_t_ y_c_ y_b_ y_was M2 → I_148 [ar 0, ai y_t_, ai y_c_, ai y_b_, ai y_was] M2) : wp (tb7 (csL cs7_turn)) sh7 5 0 cX7_turn [(15, [0, 1], I_15), (98, [0, 1, 2, 3], I_98), (148, [0, 1, 2, 3, 4], I_148)] Q 400 0 [(0, ar 0), (1, ai t)] [] M := by
  obtain ⟨h1, h2, h3, h4, h5⟩ := id hP
  obtain ⟨n, rfl⟩ := Int.eq_ofNat_of_zero_le h3.1
  have h6 := okY_n h1
  obtain ⟨v3, v4, v5, v1⟩ := vM_n M
  rw [v3, v4, v5, v1] at h6
  simp only [e_wp dX7_turn_0 rfl, e_wp dX7_turn_1 rfl, e_wp dX7_turn_4 rfl, e_wp dX7_turn_5 rfl, e_wp dX7_turn_8 rfl, e_wp dX7_turn_11 rfl, e_wp dX7_turn_12 rfl, e_wp dX7_turn_15 rfl, e_wp dX7_turn_16 rfl, e_wp dX7_turn_19 rfl, e_wp dX7_turn_20 rfl, e_wp dX7_turn_21 rfl, e_wp dX7_turn_22 rfl, e_wp dX7_turn_23 rfl, e_wp dX7_turn_26 rfl, e_wp dX7_turn_27 rfl, e_wp dX7_turn_28 rfl, e_wp dX7_turn_29 rfl, e_wp dX7_turn_30 rfl, e_wp dX7_turn_33 rfl, e_wp dX7_turn_34 rfl, e_wp dX7_turn_35 rfl, e_wp dX7_turn_36 rfl, e_wp dX7_turn_37 rfl, e_wp dX7_turn_40 rfl, e_wp dX7_turn_41 rfl, e_wp dX7_turn_42 rfl, e_wp dX7_turn_43 rfl, e_wp dX7_turn_44 rfl, e_wp dX7_turn_47 rfl, e_wp dX7_turn_48 rfl, e_wp dX7_turn_49 rfl, e_wp dX7_turn_50 rfl, e_wp dX7_turn_51 rfl, e_wp dX7_turn_54 rfl, e_wp dX7_turn_55 rfl, e_wp dX7_turn_56 rfl, e_wp dX7_turn_57 rfl, e_wp dX7_turn_58 rfl, e_wp dX7_turn_61 rfl, e_wp dX7_turn_62 rfl, e_wp dX7_turn_65 rfl, e_wp dX7_turn_68 rfl, e_wp dX7_turn_69 rfl, e_wp dX7_turn_70 rfl, e_wp dX7_turn_71 rfl, e_wp dX7_turn_74 rfl, e_wp dX7_turn_75 rfl, e_wp dX7_turn_76 rfl, e_wp dX7_turn_79 rfl, e_wp dX7_turn_80 rfl, e_wp dX7_turn_81 rfl, e_wp dX7_turn_82 rfl, e_wp dX7_turn_83 rfl, e_wp dX7_turn_84 rfl, e_wp dX7_turn_87 rfl, e_wp dX7_turn_88 rfl, e_wp dX7_turn_91 rfl, e_wp dX7_turn_92 rfl, e_wp dX7_turn_93 rfl, e_wp dX7_turn_94 rfl, e_wp dX7_turn_97 rfl, e_wp dX7_turn_98 rfl, e_wp dX7_turn_99 rfl, e_wp dX7_turn_102 rfl, e_wp dX7_turn_103 rfl, e_wp dX7_turn_104 rfl, e_wp dX7_turn_105 rfl, e_wp dX7_turn_106 rfl, e_wp dX7_turn_107 rfl, e_wp dX7_turn_110 rfl, e_wp dX7_turn_112 rfl, e_wp dX7_turn_113 rfl, e_wp dX7_turn_116 rfl, e_wp dX7_turn_117 rfl, e_wp dX7_turn_118 rfl, e_wp dX7_turn_121 rfl, e_wp dX7_turn_122 rfl, e_wp dX7_turn_123 rfl, e_wp dX7_turn_124 rfl, e_wp dX7_turn_125 rfl, e_wp dX7_turn_128 rfl, e_wp dX7_turn_131 rfl, e_wp dX7_turn_132 rfl, e_wp dX7_turn_135 rfl, e_wp dX7_turn_136 rfl, e_wp dX7_turn_137 rfl, e_wp dX7_turn_138 rfl, e_wp dX7_turn_139 rfl, e_wp dX7_turn_142 rfl, e_wp dX7_turn_143 rfl, e_wp dX7_turn_146 rfl, e_wp dX7_turn_147 rfl, e_wp dX7_turn_148 rfl, e_wp dX7_turn_149 rfl, e_wp dX7_turn_152 rfl, e_wp dX7_turn_153 rfl, e_wp dX7_turn_154 rfl, e_wp dX7_turn_155 rfl, e_wp dX7_turn_156 rfl, e_wp dX7_turn_159 rfl, e_wp dX7_turn_160 rfl, e_wp dX7_turn_161 rfl, e_wp dX7_turn_162 rfl, e_wp dX7_turn_165 rfl, e_wp dX7_turn_166 rfl, e_wp dX7_turn_167 rfl, e_wp dX7_turn_170 rfl, e_wp dX7_turn_171 rfl, e_wp dX7_turn_172 rfl, e_wp dX7_turn_173 rfl, e_wp dX7_turn_176 rfl, e_wp dX7_turn_178 rfl, e_wp dX7_turn_179 rfl, e_wp dX7_turn_180 rfl, e_wp dX7_turn_181 rfl, e_wp dX7_turn_182 rfl, e_wp dX7_turn_185 rfl, e_wp dX7_turn_186 rfl, e_wp dX7_turn_189 rfl, e_wp dX7_turn_190 rfl, e_wp dX7_turn_191 rfl, e_wp dX7_turn_192 rfl, e_wp dX7_turn_193 rfl, e_wp dX7_turn_196 rfl, e_wp dX7_turn_197 rfl, e_wp dX7_turn_198 rfl, e_wp dX7_turn_201 rfl, e_wp dX7_turn_202 rfl, e_wp dX7_turn_203 rfl, e_wp dX7_turn_204 rfl, e_wp dX7_turn_205 rfl, e_wp dX7_turn_208 rfl, e_wp dX7_turn_209 rfl, e_wp dX7_turn_210 rfl, e_wp dX7_turn_211 rfl, g7_298, c7_isBit, P7_isBit, V7_isBit, cs7_turn, c7_freezes, g7_62, g7_80, g7_83, g7_86, g7_89, g7_92, g7_301, c7_wayOf, P7_wayOf, V7_wayOf, g7_74, c7_sagOf, P7_sagOf, V7_sagOf, g7_56, c7_lastOf, P7_lastOf, V7_lastOf, c7_crosses, g7_37, g7_77, a7_1, w7_1, a7_2, w7_2, a7_3, w7_3, a7_4, w7_4, a7_5, w7_5, a7_6, w7_6, a7_7, w7_7, a7_8, w7_8, a7_9, w7_9, a7_10, w7_10, a7_11, w7_11, a7_12, w7_12, a7_13, w7_13, a7_14, w7_14, a7_15, w7_15, a7_16, w7_16, a7_17, w7_17, a7_18, w7_18, a7_19, w7_19, a7_20, w7_20, a7_21, w7_21, a7_22, w7_22, a7_23, w7_23, a7_24, w7_24, a7_25, w7_25, a7_26, w7_26, a7_27, w7_27, a7_28, w7_28, a7_29, w7_29, a7_30, w7_30, a7_31, w7_31, a7_32, w7_32, a7_33, w7_33, e_iconst, e_bipush, e_sipush, e_lconst_0, e_lconst_1, e_iload, e_iload_0, e_iload_1, e_iload_2, e_iload_3, e_lload, e_lload_0, e_lload_1, e_lload_2, e_lload_3, e_aload, e_aload_0, e_aload_1, e_aload_2, e_aload_3, e_istore, e_istore_0, e_istore_1, e_istore_2, e_istore_3, e_astore, e_astore_0, e_astore_1, e_astore_2, e_astore_3, e_lstore, e_lstore_0, e_lstore_1, e_lstore_2, e_lstore_3, e_iinc, e_iadd, e_isub, e_imul, e_ladd, e_lsub, e_lmul, e_idiv, e_irem, e_ldiv, e_lrem, e_ineg, e_lneg, e_iand, e_ior, e_ixor, e_ishl, e_ishr, e_iushr, e_lcmp, e_i2l, e_l2i, e_i2b, e_i2s, e_dup_i, e_dup_r, e_pop_i, e_pop_r, e_dup2_l, e_dup2_ir, e_dup2_ii, e_ifeq, e_ifne, e_iflt, e_ifge, e_ifgt, e_ifle, e_iceq, e_icne, e_iclt, e_icge, e_icgt, e_icle, e_goto, e_switch, e_invokevirtual, e_invokestatic, e_invokespecial, e_ret0, e_ret1, e_ret2, e_ret3, ldI_s, ldL_s, ldR_s, clO_s, ctP_s, ctS_s, mgo_0, mgo_s, pjc_s, pj_0, pj_s, lk_s, rm1_0, rm1_i, rm1_r, rm1_l, rm2_0, rm2_i, rm2_r, rm2_l, csL_s, lc_lt, lc_ge, lc_gt, lc_le, lc_eq, b01_0, b01_1, b01_01, b01_n, up2_o, up2_s, up2_u, ne_eq, reduceCtorEq, Nat.reduceAdd, Nat.reduceEqDiff, Nat.reduceLT, Nat.reduceLeDiff, Int.reduceLE, Int.reduceLT, Int.reduceAdd, Int.reduceNeg, Int.reduceMul, Int.reduceSub, Int.reduceEq, Int.reduceToNat, Int.reduceNatCast, Int.cast_ofNat_Int, ↓reduceIte, and_self, List.drop_succ_cons, List.drop_zero, List.take_succ_cons, List.take_zero, List.length_cons, List.length_nil, List.reverse_cons, List.reverse_nil, List.nil_append, List.cons_append, Option.toList, true_and, and_true, or_false, false_or, or_true, true_or, forall_const, Classical.not_not, not_false_eq_true, not_true_eq_false, false_implies, true_implies, implies_true, imp_self]
  refine ⟨fun q => ?_, fun q => ⟨⟨h6.1, h6.2.2.2, fun b q1 q2 => ?_⟩, fun M1 hR => ?_⟩⟩
  · refine hI_15 _ _ _ ⟨rfl, ⟨frm_rf, fun b hb => ⟨(h4 b hb).1, Int.le_refl _⟩, fun S hS => ?_⟩, rfl⟩
    unfold frzA
    rw [if_neg (by rw [Int.toNat_natCast]; exact q)]
    exact hS
  · have := (h4 b.toNat (by omega)).1
    rwa [Int.toNat_of_nonneg q1] at this
  · obtain ⟨r1, r2⟩ := hR
    refine hI_15 _ _ _ ⟨rfl, ⟨r1, fun b hb => ?_, fun S hS b hb => ?_⟩, rfl⟩
    · obtain ⟨x1, x2⟩ := r2 b (by omega) hb
      refine ⟨x2, ?_⟩
      have y1 := mb_len x2
      have y2 := mb_len (h4 b hb).1
      rw [x1] at y1
      have y3 := frz_len (M 7 1) (mb M b)
      rw [Int.toNat_natCast] at y1 y2
      omega
    · obtain ⟨x1, x2⟩ := r2 b (by omega) hb
      obtain ⟨s1, s2, s3⟩ := hS b hb
      unfold frzA
      rw [if_pos (by rw [Int.toNat_natCast]; exact q), r1 _ (by decide), r1 _ (by decide)]
      refine ⟨?_, s2, s3⟩
      rw [x1, s1]
      rfl
set_option maxHeartbeats 4000000 in
set_option maxRecDepth 100000 in
theorem at7_turn_15 {t : Int} {M : Mm} {Q : Option AV → Mm → Prop} (hM : okM sh7 M) (h_t : i32 t) (hP : P7_turn t M) (hQ : ∀ (M1 : Mm), R7_turn t M M1 → Q none M1) {m : Nat} {t_ : Int} {M1 : Mm} (hM1 : okM sh7 M1) (h_t_ : i32 t_) (hJ : J7_turn_15 t M m t_ M1) (I_15 : List AV → Mm → Prop) (hI_15 : ∀ (m_ : Nat) (y_t_ : Int) (M2 : Mm), m_ < m → J7_turn_15 t M m_ y_t_ M2 → I_15 [ar 0, ai y_t_] M2) (I_98 : List AV → Mm → Prop) (hI_98 : ∀ (m_ : Nat) (y_t_ : Int) (y_c_ : Int) (y_b_ : Int) (M2 : Mm), m_ < m → J7_turn_98 t M m_ y_t_ y_c_ y_b_ M2 → I_98 [ar 0, ai y_t_, ai y_c_, ai y_b_] M2) (I_148 : List AV → Mm → Prop) (hI_148 : ∀ (m_ : Nat) (y_t_ : Int) (y_c_ : Int) (y_b_ : Int) (y_was : Int) (M2 : Mm), m_ < m → J7_turn_148 t M m_ y_t_ y_c_ y_b_ y_was M2 → I_148 [ar 0, ai y_t_, ai y_c_, ai y_b_, ai y_was] M2) : wp (tb7 (csL cs7_turn)) sh7 5 0 cX7_turn [(15, [0, 1], I_15), (98, [0, 1, 2, 3], I_98), (148, [0, 1, 2, 3, 4], I_148)] Q 400 15 [(0, ar 0), (1, ai t_)] [] M1 := by
  obtain ⟨rfl, hf, rfl⟩ := hJ
  obtain ⟨h1, h2, h3, h4, h5⟩ := id hP
  obtain ⟨n, rfl⟩ := Int.eq_ofNat_of_zero_le h3.1
  have h6 := okY_n h1
  obtain ⟨v3, v4, v5, v1⟩ := vM_n M
  rw [v3, v4, v5, v1] at h6
  have e0 : M1 0 = M 0 := hf.1 _ (by decide)
  have e7 : M1 7 = M 7 := hf.1 _ (by decide)
  have e16 : M1 16 = M 16 := hf.1 _ (by decide)
  have e20 : M1 20 = M 20 := hf.1 _ (by decide)
  have eV : vM M1 = vM M := vS_frm hf.1 (by decide)
  have eC : cM M1 = cM M := cM_frm hf.1 (by decide)
  have hrow : 0 ≤ M 16 n ∧ M 16 n < M 7 4 := (h2.2 n h3.2).2.2
  have hto := toP_rg h1 h2 (c := (M 16 n).toNat) (by show ((M 16 n).toNat : Int) < M 7 4; omega)
  have hto3 : toP (vM M) (cM M) (M 16 n).toNat < M 7 3 := hto.2
  rw [Int.toNat_natCast] at hf
  simp only [e_wp dX7_turn_0 rfl, e_wp dX7_turn_1 rfl, e_wp dX7_turn_4 rfl, e_wp dX7_turn_5 rfl, e_wp dX7_turn_8 rfl, e_wp dX7_turn_11 rfl, e_wp dX7_turn_12 rfl, e_wp dX7_turn_15 rfl, e_wp dX7_turn_16 rfl, e_wp dX7_turn_19 rfl, e_wp dX7_turn_20 rfl, e_wp dX7_turn_21 rfl, e_wp dX7_turn_22 rfl, e_wp dX7_turn_23 rfl, e_wp dX7_turn_26 rfl, e_wp dX7_turn_27 rfl, e_wp dX7_turn_28 rfl, e_wp dX7_turn_29 rfl, e_wp dX7_turn_30 rfl, e_wp dX7_turn_33 rfl, e_wp dX7_turn_34 rfl, e_wp dX7_turn_35 rfl, e_wp dX7_turn_36 rfl, e_wp dX7_turn_37 rfl, e_wp dX7_turn_40 rfl, e_wp dX7_turn_41 rfl, e_wp dX7_turn_42 rfl, e_wp dX7_turn_43 rfl, e_wp dX7_turn_44 rfl, e_wp dX7_turn_47 rfl, e_wp dX7_turn_48 rfl, e_wp dX7_turn_49 rfl, e_wp dX7_turn_50 rfl, e_wp dX7_turn_51 rfl, e_wp dX7_turn_54 rfl, e_wp dX7_turn_55 rfl, e_wp dX7_turn_56 rfl, e_wp dX7_turn_57 rfl, e_wp dX7_turn_58 rfl, e_wp dX7_turn_61 rfl, e_wp dX7_turn_62 rfl, e_wp dX7_turn_65 rfl, e_wp dX7_turn_68 rfl, e_wp dX7_turn_69 rfl, e_wp dX7_turn_70 rfl, e_wp dX7_turn_71 rfl, e_wp dX7_turn_74 rfl, e_wp dX7_turn_75 rfl, e_wp dX7_turn_76 rfl, e_wp dX7_turn_79 rfl, e_wp dX7_turn_80 rfl, e_wp dX7_turn_81 rfl, e_wp dX7_turn_82 rfl, e_wp dX7_turn_83 rfl, e_wp dX7_turn_84 rfl, e_wp dX7_turn_87 rfl, e_wp dX7_turn_88 rfl, e_wp dX7_turn_91 rfl, e_wp dX7_turn_92 rfl, e_wp dX7_turn_93 rfl, e_wp dX7_turn_94 rfl, e_wp dX7_turn_97 rfl, e_wp dX7_turn_98 rfl, e_wp dX7_turn_99 rfl, e_wp dX7_turn_102 rfl, e_wp dX7_turn_103 rfl, e_wp dX7_turn_104 rfl, e_wp dX7_turn_105 rfl, e_wp dX7_turn_106 rfl, e_wp dX7_turn_107 rfl, e_wp dX7_turn_110 rfl, e_wp dX7_turn_112 rfl, e_wp dX7_turn_113 rfl, e_wp dX7_turn_116 rfl, e_wp dX7_turn_117 rfl, e_wp dX7_turn_118 rfl, e_wp dX7_turn_121 rfl, e_wp dX7_turn_122 rfl, e_wp dX7_turn_123 rfl, e_wp dX7_turn_124 rfl, e_wp dX7_turn_125 rfl, e_wp dX7_turn_128 rfl, e_wp dX7_turn_131 rfl, e_wp dX7_turn_132 rfl, e_wp dX7_turn_135 rfl, e_wp dX7_turn_136 rfl, e_wp dX7_turn_137 rfl, e_wp dX7_turn_138 rfl, e_wp dX7_turn_139 rfl, e_wp dX7_turn_142 rfl, e_wp dX7_turn_143 rfl, e_wp dX7_turn_146 rfl, e_wp dX7_turn_147 rfl, e_wp dX7_turn_148 rfl, e_wp dX7_turn_149 rfl, e_wp dX7_turn_152 rfl, e_wp dX7_turn_153 rfl, e_wp dX7_turn_154 rfl, e_wp dX7_turn_155 rfl, e_wp dX7_turn_156 rfl, e_wp dX7_turn_159 rfl, e_wp dX7_turn_160 rfl, e_wp dX7_turn_161 rfl, e_wp dX7_turn_162 rfl, e_wp dX7_turn_165 rfl, e_wp dX7_turn_166 rfl, e_wp dX7_turn_167 rfl, e_wp dX7_turn_170 rfl, e_wp dX7_turn_171 rfl, e_wp dX7_turn_172 rfl, e_wp dX7_turn_173 rfl, e_wp dX7_turn_176 rfl, e_wp dX7_turn_178 rfl, e_wp dX7_turn_179 rfl, e_wp dX7_turn_180 rfl, e_wp dX7_turn_181 rfl, e_wp dX7_turn_182 rfl, e_wp dX7_turn_185 rfl, e_wp dX7_turn_186 rfl, e_wp dX7_turn_189 rfl, e_wp dX7_turn_190 rfl, e_wp dX7_turn_191 rfl, e_wp dX7_turn_192 rfl, e_wp dX7_turn_193 rfl, e_wp dX7_turn_196 rfl, e_wp dX7_turn_197 rfl, e_wp dX7_turn_198 rfl, e_wp dX7_turn_201 rfl, e_wp dX7_turn_202 rfl, e_wp dX7_turn_203 rfl, e_wp dX7_turn_204 rfl, e_wp dX7_turn_205 rfl, e_wp dX7_turn_208 rfl, e_wp dX7_turn_209 rfl, e_wp dX7_turn_210 rfl, e_wp dX7_turn_211 rfl, g7_298, c7_isBit, P7_isBit, V7_isBit, cs7_turn, c7_freezes, g7_62, g7_80, g7_83, g7_86, g7_89, g7_92, g7_301, c7_wayOf, P7_wayOf, V7_wayOf, g7_74, c7_sagOf, P7_sagOf, V7_sagOf, g7_56, c7_lastOf, P7_lastOf, V7_lastOf, c7_crosses, g7_37, g7_77, a7_1, w7_1, a7_2, w7_2, a7_3, w7_3, a7_4, w7_4, a7_5, w7_5, a7_6, w7_6, a7_7, w7_7, a7_8, w7_8, a7_9, w7_9, a7_10, w7_10, a7_11, w7_11, a7_12, w7_12, a7_13, w7_13, a7_14, w7_14, a7_15, w7_15, a7_16, w7_16, a7_17, w7_17, a7_18, w7_18, a7_19, w7_19, a7_20, w7_20, a7_21, w7_21, a7_22, w7_22, a7_23, w7_23, a7_24, w7_24, a7_25, w7_25, a7_26, w7_26, a7_27, w7_27, a7_28, w7_28, a7_29, w7_29, a7_30, w7_30, a7_31, w7_31, a7_32, w7_32, a7_33, w7_33, e_iconst, e_bipush, e_sipush, e_lconst_0, e_lconst_1, e_iload, e_iload_0, e_iload_1, e_iload_2, e_iload_3, e_lload, e_lload_0, e_lload_1, e_lload_2, e_lload_3, e_aload, e_aload_0, e_aload_1, e_aload_2, e_aload_3, e_istore, e_istore_0, e_istore_1, e_istore_2, e_istore_3, e_astore, e_astore_0, e_astore_1, e_astore_2, e_astore_3, e_lstore, e_lstore_0, e_lstore_1, e_lstore_2, e_lstore_3, e_iinc, e_iadd, e_isub, e_imul, e_ladd, e_lsub, e_lmul, e_idiv, e_irem, e_ldiv, e_lrem, e_ineg, e_lneg, e_iand, e_ior, e_ixor, e_ishl, e_ishr, e_iushr, e_lcmp, e_i2l, e_l2i, e_i2b, e_i2s, e_dup_i, e_dup_r, e_pop_i, e_pop_r, e_dup2_l, e_dup2_ir, e_dup2_ii, e_ifeq, e_ifne, e_iflt, e_ifge, e_ifgt, e_ifle, e_iceq, e_icne, e_iclt, e_icge, e_icgt, e_icle, e_goto, e_switch, e_invokevirtual, e_invokestatic, e_invokespecial, e_ret0, e_ret1, e_ret2, e_ret3, ldI_s, ldL_s, ldR_s, clO_s, ctP_s, ctS_s, mgo_0, mgo_s, pjc_s, pj_0, pj_s, lk_s, rm1_0, rm1_i, rm1_r, rm1_l, rm2_0, rm2_i, rm2_r, rm2_l, csL_s, lc_lt, lc_ge, lc_gt, lc_le, lc_eq, b01_0, b01_1, b01_01, b01_n, up2_o, up2_s, up2_u, ne_eq, reduceCtorEq, Nat.reduceAdd, Nat.reduceEqDiff, Nat.reduceLT, Nat.reduceLeDiff, Int.reduceLE, Int.reduceLT, Int.reduceAdd, Int.reduceNeg, Int.reduceMul, Int.reduceSub, Int.reduceEq, Int.reduceToNat, Int.reduceNatCast, Int.cast_ofNat_Int, ↓reduceIte, and_self, List.drop_succ_cons, List.drop_zero, List.take_succ_cons, List.take_zero, List.length_cons, List.length_nil, List.reverse_cons, List.reverse_nil, List.nil_append, List.cons_append, Option.toList, true_and, and_true, or_false, false_or, or_true, true_or, forall_const, Classical.not_not, not_false_eq_true, not_true_eq_false, false_implies, true_implies, implies_true, imp_self, vS_u, cM_u, e0, e7, e16, e20, eV, eC, Int.toNat_natCast]
  repeat (refine And.intro (by omega) ?_)
  refine ⟨fun q => ⟨⟨h1, h2, hrow⟩, by omega, fun z => ?_, fun z => ?_⟩, fun q => ?_⟩
  · refine hQ _ ?_
    refine turn_no hP hf (frm_up (frm_up (frm_up (frm_up (frm_up (frm_up frm_rf (by decide)) (by decide)) (by decide)) (by decide)) (by decide)) (by decide)) (fun c hc k hk => ?_) (fun w => w.2.1 z) ?_
    · simp only [List.mem_cons, List.not_mem_nil, or_false] at hk
      rcases hk with rfl | rfl | rfl | rfl | rfl <;> simp [up2_r, hc]
    · rw [if_neg q]
      simp [up2_r]
  · refine ⟨by omega, fun w => ?_, fun w => ?_⟩
    · exact hI_98 _ _ _ _ _ (by omega) ⟨rfl, by rw [Int.toNat_natCast], by rw [Int.toNat_natCast], ⟨q, z, w⟩, ⟨M1, by rw [Int.toNat_natCast]; exact hf, hM1, by rw [Int.toNat_natCast]; rfl⟩, rfl⟩
    · refine hQ _ ?_
      refine turn_no hP hf (frm_up (frm_up (frm_up (frm_up (frm_up (frm_up frm_rf (by decide)) (by decide)) (by decide)) (by decide)) (by decide)) (by decide)) (fun c hc k hk => ?_) (fun w2 => w w2.2.2) ?_
      · simp only [List.mem_cons, List.not_mem_nil, or_false] at hk
        rcases hk with rfl | rfl | rfl | rfl | rfl <;> simp [up2_r, hc]
      · rw [if_neg q]
        simp [up2_r]
  · refine hQ _ ?_
    refine turn_no hP hf (frm_up (frm_up (frm_up (frm_up (frm_up frm_rf (by decide)) (by decide)) (by decide)) (by decide)) (by decide)) (fun c hc k hk => ?_) (fun w => w.1 q) ?_
    · simp only [List.mem_cons, List.not_mem_nil, or_false] at hk
      rcases hk with rfl | rfl | rfl | rfl | rfl <;> simp [up2_r, hc]
    · rw [if_pos q]
      simp [up2_r]
set_option maxHeartbeats 4000000 in
set_option maxRecDepth 100000 in
theorem at7_turn_98 {t : Int} {M : Mm} {Q : Option AV → Mm → Prop} (hM : okM sh7 M) (h_t : i32 t) (hP : P7_turn t M) (hQ : ∀ (M1 : Mm), R7_turn t M M1 → Q none M1) {m : Nat} {t_ c_ b_ : Int} {M1 : Mm} (hM1 : okM sh7 M1) (h_t_ : i32 t_) (h_c_ : i32 c_) (h_b_ : i32 b_) (hJ : J7_turn_98 t M m t_ c_ b_ M1) (I_15 : List AV → Mm → Prop) (hI_15 : ∀ (m_ : Nat) (y_t_ : Int) (M2 : Mm), m_ < m → J7_turn_15 t M m_ y_t_ M2 → I_15 [ar 0, ai y_t_] M2) (I_98 : List AV → Mm → Prop) (hI_98 : ∀ (m_ : Nat) (y_t_ : Int) (y_c_ : Int) (y_b_ : Int) (M2 : Mm), m_ < m → J7_turn_98 t M m_ y_t_ y_c_ y_b_ M2 → I_98 [ar 0, ai y_t_, ai y_c_, ai y_b_] M2) (I_148 : List AV → Mm → Prop) (hI_148 : ∀ (m_ : Nat) (y_t_ : Int) (y_c_ : Int) (y_b_ : Int) (y_was : Int) (M2 : Mm), m_ < m → J7_turn_148 t M m_ y_t_ y_c_ y_b_ y_was M2 → I_148 [ar 0, ai y_t_, ai y_c_, ai y_b_, ai y_was] M2) : wp (tb7 (csL cs7_turn)) sh7 5 0 cX7_turn [(15, [0, 1], I_15), (98, [0, 1, 2, 3], I_98), (148, [0, 1, 2, 3, 4], I_148)] Q 400 98 [(0, ar 0), (1, ai t_), (2, ai c_), (3, ai b_)] [] M1 := by
  obtain ⟨rfl, rfl, rfl, ⟨ha, hb, hk⟩, ⟨Mf, hf, hMf, rfl⟩, rfl⟩ := hJ
  obtain ⟨h1, h2, h3, h4, h5⟩ := id hP
  obtain ⟨n, rfl⟩ := Int.eq_ofNat_of_zero_le h3.1
  have h6 := okY_n h1
  obtain ⟨v3, v4, v5, v1⟩ := vM_n M
  rw [v3, v4, v5, v1] at h6
  rw [Int.toNat_natCast] at hf hb hk ha
  have e14 : Mf 14 = M 14 := hf.1 _ (by decide)
  have hrow : 0 ≤ M 16 n ∧ M 16 n < M 7 4 := (h2.2 n h3.2).2.2
  have hto := toP_rg h1 h2 (c := (M 16 n).toNat) (by show ((M 16 n).toNat : Int) < M 7 4; omega)
  have hto3 : toP (vM M) (cM M) (M 16 n).toNat < M 7 3 := hto.2
  have hld := (h2.2 (M 16 n).toNat (by show ((M 16 n).toNat : Int) < M 7 4; omega)).1
  have hld1 : 1 ≤ M 14 (M 16 n).toNat ∧ M 14 (M 16 n).toNat ≤ 99 := hld
  have hok := (hf.2.1 (toP (vM M) (cM M) (M 16 n).toNat).toNat (by omega)).1
  rw [Int.toNat_of_nonneg (by omega)] at hok
  have hla : 0 ≤ lastP (mb Mf (toP (vM M) (cM M) (M 16 n).toNat)) ∧ lastP (mb Mf (toP (vM M) (cM M) (M 16 n).toNat)) ≤ 99 := lastP_b hok.2.2
  simp only [e_wp dX7_turn_0 rfl, e_wp dX7_turn_1 rfl, e_wp dX7_turn_4 rfl, e_wp dX7_turn_5 rfl, e_wp dX7_turn_8 rfl, e_wp dX7_turn_11 rfl, e_wp dX7_turn_12 rfl, e_wp dX7_turn_15 rfl, e_wp dX7_turn_16 rfl, e_wp dX7_turn_19 rfl, e_wp dX7_turn_20 rfl, e_wp dX7_turn_21 rfl, e_wp dX7_turn_22 rfl, e_wp dX7_turn_23 rfl, e_wp dX7_turn_26 rfl, e_wp dX7_turn_27 rfl, e_wp dX7_turn_28 rfl, e_wp dX7_turn_29 rfl, e_wp dX7_turn_30 rfl, e_wp dX7_turn_33 rfl, e_wp dX7_turn_34 rfl, e_wp dX7_turn_35 rfl, e_wp dX7_turn_36 rfl, e_wp dX7_turn_37 rfl, e_wp dX7_turn_40 rfl, e_wp dX7_turn_41 rfl, e_wp dX7_turn_42 rfl, e_wp dX7_turn_43 rfl, e_wp dX7_turn_44 rfl, e_wp dX7_turn_47 rfl, e_wp dX7_turn_48 rfl, e_wp dX7_turn_49 rfl, e_wp dX7_turn_50 rfl, e_wp dX7_turn_51 rfl, e_wp dX7_turn_54 rfl, e_wp dX7_turn_55 rfl, e_wp dX7_turn_56 rfl, e_wp dX7_turn_57 rfl, e_wp dX7_turn_58 rfl, e_wp dX7_turn_61 rfl, e_wp dX7_turn_62 rfl, e_wp dX7_turn_65 rfl, e_wp dX7_turn_68 rfl, e_wp dX7_turn_69 rfl, e_wp dX7_turn_70 rfl, e_wp dX7_turn_71 rfl, e_wp dX7_turn_74 rfl, e_wp dX7_turn_75 rfl, e_wp dX7_turn_76 rfl, e_wp dX7_turn_79 rfl, e_wp dX7_turn_80 rfl, e_wp dX7_turn_81 rfl, e_wp dX7_turn_82 rfl, e_wp dX7_turn_83 rfl, e_wp dX7_turn_84 rfl, e_wp dX7_turn_87 rfl, e_wp dX7_turn_88 rfl, e_wp dX7_turn_91 rfl, e_wp dX7_turn_92 rfl, e_wp dX7_turn_93 rfl, e_wp dX7_turn_94 rfl, e_wp dX7_turn_97 rfl, e_wp dX7_turn_98 rfl, e_wp dX7_turn_99 rfl, e_wp dX7_turn_102 rfl, e_wp dX7_turn_103 rfl, e_wp dX7_turn_104 rfl, e_wp dX7_turn_105 rfl, e_wp dX7_turn_106 rfl, e_wp dX7_turn_107 rfl, e_wp dX7_turn_110 rfl, e_wp dX7_turn_112 rfl, e_wp dX7_turn_113 rfl, e_wp dX7_turn_116 rfl, e_wp dX7_turn_117 rfl, e_wp dX7_turn_118 rfl, e_wp dX7_turn_121 rfl, e_wp dX7_turn_122 rfl, e_wp dX7_turn_123 rfl, e_wp dX7_turn_124 rfl, e_wp dX7_turn_125 rfl, e_wp dX7_turn_128 rfl, e_wp dX7_turn_131 rfl, e_wp dX7_turn_132 rfl, e_wp dX7_turn_135 rfl, e_wp dX7_turn_136 rfl, e_wp dX7_turn_137 rfl, e_wp dX7_turn_138 rfl, e_wp dX7_turn_139 rfl, e_wp dX7_turn_142 rfl, e_wp dX7_turn_143 rfl, e_wp dX7_turn_146 rfl, e_wp dX7_turn_147 rfl, e_wp dX7_turn_148 rfl, e_wp dX7_turn_149 rfl, e_wp dX7_turn_152 rfl, e_wp dX7_turn_153 rfl, e_wp dX7_turn_154 rfl, e_wp dX7_turn_155 rfl, e_wp dX7_turn_156 rfl, e_wp dX7_turn_159 rfl, e_wp dX7_turn_160 rfl, e_wp dX7_turn_161 rfl, e_wp dX7_turn_162 rfl, e_wp dX7_turn_165 rfl, e_wp dX7_turn_166 rfl, e_wp dX7_turn_167 rfl, e_wp dX7_turn_170 rfl, e_wp dX7_turn_171 rfl, e_wp dX7_turn_172 rfl, e_wp dX7_turn_173 rfl, e_wp dX7_turn_176 rfl, e_wp dX7_turn_178 rfl, e_wp dX7_turn_179 rfl, e_wp dX7_turn_180 rfl, e_wp dX7_turn_181 rfl, e_wp dX7_turn_182 rfl, e_wp dX7_turn_185 rfl, e_wp dX7_turn_186 rfl, e_wp dX7_turn_189 rfl, e_wp dX7_turn_190 rfl, e_wp dX7_turn_191 rfl, e_wp dX7_turn_192 rfl, e_wp dX7_turn_193 rfl, e_wp dX7_turn_196 rfl, e_wp dX7_turn_197 rfl, e_wp dX7_turn_198 rfl, e_wp dX7_turn_201 rfl, e_wp dX7_turn_202 rfl, e_wp dX7_turn_203 rfl, e_wp dX7_turn_204 rfl, e_wp dX7_turn_205 rfl, e_wp dX7_turn_208 rfl, e_wp dX7_turn_209 rfl, e_wp dX7_turn_210 rfl, e_wp dX7_turn_211 rfl, g7_298, c7_isBit, P7_isBit, V7_isBit, cs7_turn, c7_freezes, g7_62, g7_80, g7_83, g7_86, g7_89, g7_92, g7_301, c7_wayOf, P7_wayOf, V7_wayOf, g7_74, c7_sagOf, P7_sagOf, V7_sagOf, g7_56, c7_lastOf, P7_lastOf, V7_lastOf, c7_crosses, g7_37, g7_77, a7_1, w7_1, a7_2, w7_2, a7_3, w7_3, a7_4, w7_4, a7_5, w7_5, a7_6, w7_6, a7_7, w7_7, a7_8, w7_8, a7_9, w7_9, a7_10, w7_10, a7_11, w7_11, a7_12, w7_12, a7_13, w7_13, a7_14, w7_14, a7_15, w7_15, a7_16, w7_16, a7_17, w7_17, a7_18, w7_18, a7_19, w7_19, a7_20, w7_20, a7_21, w7_21, a7_22, w7_22, a7_23, w7_23, a7_24, w7_24, a7_25, w7_25, a7_26, w7_26, a7_27, w7_27, a7_28, w7_28, a7_29, w7_29, a7_30, w7_30, a7_31, w7_31, a7_32, w7_32, a7_33, w7_33, e_iconst, e_bipush, e_sipush, e_lconst_0, e_lconst_1, e_iload, e_iload_0, e_iload_1, e_iload_2, e_iload_3, e_lload, e_lload_0, e_lload_1, e_lload_2, e_lload_3, e_aload, e_aload_0, e_aload_1, e_aload_2, e_aload_3, e_istore, e_istore_0, e_istore_1, e_istore_2, e_istore_3, e_astore, e_astore_0, e_astore_1, e_astore_2, e_astore_3, e_lstore, e_lstore_0, e_lstore_1, e_lstore_2, e_lstore_3, e_iinc, e_iadd, e_isub, e_imul, e_ladd, e_lsub, e_lmul, e_idiv, e_irem, e_ldiv, e_lrem, e_ineg, e_lneg, e_iand, e_ior, e_ixor, e_ishl, e_ishr, e_iushr, e_lcmp, e_i2l, e_l2i, e_i2b, e_i2s, e_dup_i, e_dup_r, e_pop_i, e_pop_r, e_dup2_l, e_dup2_ir, e_dup2_ii, e_ifeq, e_ifne, e_iflt, e_ifge, e_ifgt, e_ifle, e_iceq, e_icne, e_iclt, e_icge, e_icgt, e_icle, e_goto, e_switch, e_invokevirtual, e_invokestatic, e_invokespecial, e_ret0, e_ret1, e_ret2, e_ret3, ldI_s, ldL_s, ldR_s, clO_s, ctP_s, ctS_s, mgo_0, mgo_s, pjc_s, pj_0, pj_s, lk_s, rm1_0, rm1_i, rm1_r, rm1_l, rm2_0, rm2_i, rm2_r, rm2_l, csL_s, lc_lt, lc_ge, lc_gt, lc_le, lc_eq, b01_0, b01_1, b01_01, b01_n, up2_o, up2_s, up2_u, ne_eq, reduceCtorEq, Nat.reduceAdd, Nat.reduceEqDiff, Nat.reduceLT, Nat.reduceLeDiff, Int.reduceLE, Int.reduceLT, Int.reduceAdd, Int.reduceNeg, Int.reduceMul, Int.reduceSub, Int.reduceEq, Int.reduceToNat, Int.reduceNatCast, Int.cast_ofNat_Int, ↓reduceIte, and_self, List.drop_succ_cons, List.drop_zero, List.take_succ_cons, List.take_zero, List.length_cons, List.length_nil, List.reverse_cons, List.reverse_nil, List.nil_append, List.cons_append, Option.toList, true_and, and_true, or_false, false_or, or_true, true_or, forall_const, Classical.not_not, not_false_eq_true, not_true_eq_false, false_implies, true_implies, implies_true, imp_self, mb_u, okB_u, clM, e14, Int.toNat_natCast]
  have go : ∀ x, x = (if lastP (mb Mf (toP (vM M) (cM M) (M 16 n).toNat)) < M 14 (M 16 n).toNat then M 14 (M 16 n).toNat - lastP (mb Mf (toP (vM M) (cM M) (M 16 n).toNat)) else 0) → I_148 [ar 0, ai n, ai (M 16 n), ai (toP (vM M) (cM M) (M 16 n).toNat), ai (sagP (mb Mf (toP (vM M) (cM M) (M 16 n).toNat)))] (up2 (up2 (up2 (clM Mf (M 16 n).toNat) 23 (M 16 n).toNat (toP (vM M) (cM M) (M 16 n).toNat)) 22 (M 16 n).toNat (toP (vM M) (cM M) (M 16 n).toNat)) 25 (M 16 n).toNat x) := by
    rintro x rfl
    refine hI_148 _ _ _ _ _ _ (by omega) ⟨rfl, ?_, ?_, ⟨ha, hb, hk⟩, ⟨Mf, ?_, rfl, ?_⟩, rfl⟩ <;> rw [Int.toNat_natCast]
    exact hf
  refine ⟨by omega, hok, by omega, hok, fun z => ⟨by omega, go _ (by rw [if_neg (by omega)])⟩, fun z => ⟨by omega, hok, by omega, by omega, go _ (by rw [if_pos z])⟩⟩
set_option maxHeartbeats 4000000 in
set_option maxRecDepth 100000 in
theorem at7_turn_148 {t : Int} {M : Mm} {Q : Option AV → Mm → Prop} (hM : okM sh7 M) (h_t : i32 t) (hP : P7_turn t M) (hQ : ∀ (M1 : Mm), R7_turn t M M1 → Q none M1) {m : Nat} {t_ c_ b_ was : Int} {M1 : Mm} (hM1 : okM sh7 M1) (h_t_ : i32 t_) (h_c_ : i32 c_) (h_b_ : i32 b_) (h_was : i32 was) (hJ : J7_turn_148 t M m t_ c_ b_ was M1) (I_15 : List AV → Mm → Prop) (hI_15 : ∀ (m_ : Nat) (y_t_ : Int) (M2 : Mm), m_ < m → J7_turn_15 t M m_ y_t_ M2 → I_15 [ar 0, ai y_t_] M2) (I_98 : List AV → Mm → Prop) (hI_98 : ∀ (m_ : Nat) (y_t_ : Int) (y_c_ : Int) (y_b_ : Int) (M2 : Mm), m_ < m → J7_turn_98 t M m_ y_t_ y_c_ y_b_ M2 → I_98 [ar 0, ai y_t_, ai y_c_, ai y_b_] M2) (I_148 : List AV → Mm → Prop) (hI_148 : ∀ (m_ : Nat) (y_t_ : Int) (y_c_ : Int) (y_b_ : Int) (y_was : Int) (M2 : Mm), m_ < m → J7_turn_148 t M m_ y_t_ y_c_ y_b_ y_was M2 → I_148 [ar 0, ai y_t_, ai y_c_, ai y_b_, ai y_was] M2) : wp (tb7 (csL cs7_turn)) sh7 5 0 cX7_turn [(15, [0, 1], I_15), (98, [0, 1, 2, 3], I_98), (148, [0, 1, 2, 3, 4], I_148)] Q 400 148 [(0, ar 0), (1, ai t_), (2, ai c_), (3, ai b_), (4, ai was)] [] M1 := by
  obtain ⟨rfl, rfl, rfl, ⟨ha, hb, hk⟩, ⟨Mf, hf, rfl, rfl⟩, rfl⟩ := hJ
  obtain ⟨h1, h2, h3, h4, h5⟩ := id hP
  obtain ⟨n, rfl⟩ := Int.eq_ofNat_of_zero_le h3.1
  have h6 := okY_n h1
  obtain ⟨v3, v4, v5, v1⟩ := vM_n M
  rw [v3, v4, v5, v1] at h6
  rw [Int.toNat_natCast] at hf hb hk ha
  have e0 : Mf 0 = M 0 := hf.1 _ (by decide)
  have e8 : Mf 8 = M 8 := hf.1 _ (by decide)
  have e14 : Mf 14 = M 14 := hf.1 _ (by decide)
  have hrow : 0 ≤ M 16 n ∧ M 16 n < M 7 4 := (h2.2 n h3.2).2.2
  have hto := toP_rg h1 h2 (c := (M 16 n).toNat) (by show ((M 16 n).toNat : Int) < M 7 4; omega)
  have hto3 : toP (vM M) (cM M) (M 16 n).toNat < M 7 3 := hto.2
  have hld := (h2.2 (M 16 n).toNat (by show ((M 16 n).toNat : Int) < M 7 4; omega)).1
  have hld1 : 1 ≤ M 14 (M 16 n).toNat ∧ M 14 (M 16 n).toNat ≤ 99 := hld
  have hlaw : 0 ≤ M 0 24 ∧ M 0 24 ≤ 3 := h2.1
  have hfb := hf.2.1 (toP (vM M) (cM M) (M 16 n).toNat).toNat (by omega)
  have hd := (h4 (toP (vM M) (cM M) (M 16 n).toNat).toNat (by omega)).2
  rw [Int.toNat_of_nonneg (by omega)] at hfb
  obtain ⟨hok, hd2⟩ := hfb
  rw [Int.toNat_natCast]
  have hbe := Eq.refl (toP (vM M) (cM M) (M 16 n).toNat)
  generalize hbb : toP (vM M) (cM M) (M 16 n).toNat = b at *
  generalize ec : (M 16 n).toNat = c at *
  simp only [e_wp dX7_turn_0 rfl, e_wp dX7_turn_1 rfl, e_wp dX7_turn_4 rfl, e_wp dX7_turn_5 rfl, e_wp dX7_turn_8 rfl, e_wp dX7_turn_11 rfl, e_wp dX7_turn_12 rfl, e_wp dX7_turn_15 rfl, e_wp dX7_turn_16 rfl, e_wp dX7_turn_19 rfl, e_wp dX7_turn_20 rfl, e_wp dX7_turn_21 rfl, e_wp dX7_turn_22 rfl, e_wp dX7_turn_23 rfl, e_wp dX7_turn_26 rfl, e_wp dX7_turn_27 rfl, e_wp dX7_turn_28 rfl, e_wp dX7_turn_29 rfl, e_wp dX7_turn_30 rfl, e_wp dX7_turn_33 rfl, e_wp dX7_turn_34 rfl, e_wp dX7_turn_35 rfl, e_wp dX7_turn_36 rfl, e_wp dX7_turn_37 rfl, e_wp dX7_turn_40 rfl, e_wp dX7_turn_41 rfl, e_wp dX7_turn_42 rfl, e_wp dX7_turn_43 rfl, e_wp dX7_turn_44 rfl, e_wp dX7_turn_47 rfl, e_wp dX7_turn_48 rfl, e_wp dX7_turn_49 rfl, e_wp dX7_turn_50 rfl, e_wp dX7_turn_51 rfl, e_wp dX7_turn_54 rfl, e_wp dX7_turn_55 rfl, e_wp dX7_turn_56 rfl, e_wp dX7_turn_57 rfl, e_wp dX7_turn_58 rfl, e_wp dX7_turn_61 rfl, e_wp dX7_turn_62 rfl, e_wp dX7_turn_65 rfl, e_wp dX7_turn_68 rfl, e_wp dX7_turn_69 rfl, e_wp dX7_turn_70 rfl, e_wp dX7_turn_71 rfl, e_wp dX7_turn_74 rfl, e_wp dX7_turn_75 rfl, e_wp dX7_turn_76 rfl, e_wp dX7_turn_79 rfl, e_wp dX7_turn_80 rfl, e_wp dX7_turn_81 rfl, e_wp dX7_turn_82 rfl, e_wp dX7_turn_83 rfl, e_wp dX7_turn_84 rfl, e_wp dX7_turn_87 rfl, e_wp dX7_turn_88 rfl, e_wp dX7_turn_91 rfl, e_wp dX7_turn_92 rfl, e_wp dX7_turn_93 rfl, e_wp dX7_turn_94 rfl, e_wp dX7_turn_97 rfl, e_wp dX7_turn_98 rfl, e_wp dX7_turn_99 rfl, e_wp dX7_turn_102 rfl, e_wp dX7_turn_103 rfl, e_wp dX7_turn_104 rfl, e_wp dX7_turn_105 rfl, e_wp dX7_turn_106 rfl, e_wp dX7_turn_107 rfl, e_wp dX7_turn_110 rfl, e_wp dX7_turn_112 rfl, e_wp dX7_turn_113 rfl, e_wp dX7_turn_116 rfl, e_wp dX7_turn_117 rfl, e_wp dX7_turn_118 rfl, e_wp dX7_turn_121 rfl, e_wp dX7_turn_122 rfl, e_wp dX7_turn_123 rfl, e_wp dX7_turn_124 rfl, e_wp dX7_turn_125 rfl, e_wp dX7_turn_128 rfl, e_wp dX7_turn_131 rfl, e_wp dX7_turn_132 rfl, e_wp dX7_turn_135 rfl, e_wp dX7_turn_136 rfl, e_wp dX7_turn_137 rfl, e_wp dX7_turn_138 rfl, e_wp dX7_turn_139 rfl, e_wp dX7_turn_142 rfl, e_wp dX7_turn_143 rfl, e_wp dX7_turn_146 rfl, e_wp dX7_turn_147 rfl, e_wp dX7_turn_148 rfl, e_wp dX7_turn_149 rfl, e_wp dX7_turn_152 rfl, e_wp dX7_turn_153 rfl, e_wp dX7_turn_154 rfl, e_wp dX7_turn_155 rfl, e_wp dX7_turn_156 rfl, e_wp dX7_turn_159 rfl, e_wp dX7_turn_160 rfl, e_wp dX7_turn_161 rfl, e_wp dX7_turn_162 rfl, e_wp dX7_turn_165 rfl, e_wp dX7_turn_166 rfl, e_wp dX7_turn_167 rfl, e_wp dX7_turn_170 rfl, e_wp dX7_turn_171 rfl, e_wp dX7_turn_172 rfl, e_wp dX7_turn_173 rfl, e_wp dX7_turn_176 rfl, e_wp dX7_turn_178 rfl, e_wp dX7_turn_179 rfl, e_wp dX7_turn_180 rfl, e_wp dX7_turn_181 rfl, e_wp dX7_turn_182 rfl, e_wp dX7_turn_185 rfl, e_wp dX7_turn_186 rfl, e_wp dX7_turn_189 rfl, e_wp dX7_turn_190 rfl, e_wp dX7_turn_191 rfl, e_wp dX7_turn_192 rfl, e_wp dX7_turn_193 rfl, e_wp dX7_turn_196 rfl, e_wp dX7_turn_197 rfl, e_wp dX7_turn_198 rfl, e_wp dX7_turn_201 rfl, e_wp dX7_turn_202 rfl, e_wp dX7_turn_203 rfl, e_wp dX7_turn_204 rfl, e_wp dX7_turn_205 rfl, e_wp dX7_turn_208 rfl, e_wp dX7_turn_209 rfl, e_wp dX7_turn_210 rfl, e_wp dX7_turn_211 rfl, g7_298, c7_isBit, P7_isBit, V7_isBit, cs7_turn, c7_freezes, g7_62, g7_80, g7_83, g7_86, g7_89, g7_92, g7_301, c7_wayOf, P7_wayOf, V7_wayOf, g7_74, c7_sagOf, P7_sagOf, V7_sagOf, g7_56, c7_lastOf, P7_lastOf, V7_lastOf, c7_crosses, g7_37, g7_77, a7_1, w7_1, a7_2, w7_2, a7_3, w7_3, a7_4, w7_4, a7_5, w7_5, a7_6, w7_6, a7_7, w7_7, a7_8, w7_8, a7_9, w7_9, a7_10, w7_10, a7_11, w7_11, a7_12, w7_12, a7_13, w7_13, a7_14, w7_14, a7_15, w7_15, a7_16, w7_16, a7_17, w7_17, a7_18, w7_18, a7_19, w7_19, a7_20, w7_20, a7_21, w7_21, a7_22, w7_22, a7_23, w7_23, a7_24, w7_24, a7_25, w7_25, a7_26, w7_26, a7_27, w7_27, a7_28, w7_28, a7_29, w7_29, a7_30, w7_30, a7_31, w7_31, a7_32, w7_32, a7_33, w7_33, e_iconst, e_bipush, e_sipush, e_lconst_0, e_lconst_1, e_iload, e_iload_0, e_iload_1, e_iload_2, e_iload_3, e_lload, e_lload_0, e_lload_1, e_lload_2, e_lload_3, e_aload, e_aload_0, e_aload_1, e_aload_2, e_aload_3, e_istore, e_istore_0, e_istore_1, e_istore_2, e_istore_3, e_astore, e_astore_0, e_astore_1, e_astore_2, e_astore_3, e_lstore, e_lstore_0, e_lstore_1, e_lstore_2, e_lstore_3, e_iinc, e_iadd, e_isub, e_imul, e_ladd, e_lsub, e_lmul, e_idiv, e_irem, e_ldiv, e_lrem, e_ineg, e_lneg, e_iand, e_ior, e_ixor, e_ishl, e_ishr, e_iushr, e_lcmp, e_i2l, e_l2i, e_i2b, e_i2s, e_dup_i, e_dup_r, e_pop_i, e_pop_r, e_dup2_l, e_dup2_ir, e_dup2_ii, e_ifeq, e_ifne, e_iflt, e_ifge, e_ifgt, e_ifle, e_iceq, e_icne, e_iclt, e_icge, e_icgt, e_icle, e_goto, e_switch, e_invokevirtual, e_invokestatic, e_invokespecial, e_ret0, e_ret1, e_ret2, e_ret3, ldI_s, ldL_s, ldR_s, clO_s, ctP_s, ctS_s, mgo_0, mgo_s, pjc_s, pj_0, pj_s, lk_s, rm1_0, rm1_i, rm1_r, rm1_l, rm2_0, rm2_i, rm2_r, rm2_l, csL_s, lc_lt, lc_ge, lc_gt, lc_le, lc_eq, b01_0, b01_1, b01_01, b01_n, up2_o, up2_s, up2_u, ne_eq, reduceCtorEq, Nat.reduceAdd, Nat.reduceEqDiff, Nat.reduceLT, Nat.reduceLeDiff, Int.reduceLE, Int.reduceLT, Int.reduceAdd, Int.reduceNeg, Int.reduceMul, Int.reduceSub, Int.reduceEq, Int.reduceToNat, Int.reduceNatCast, Int.cast_ofNat_Int, ↓reduceIte, and_self, List.drop_succ_cons, List.drop_zero, List.take_succ_cons, List.take_zero, List.length_cons, List.length_nil, List.reverse_cons, List.reverse_nil, List.nil_append, List.cons_append, Option.toList, true_and, and_true, or_false, false_or, or_true, true_or, forall_const, Classical.not_not, not_false_eq_true, not_true_eq_false, false_implies, true_implies, implies_true, imp_self, e14, clM, mb_u, okB_u, Int.toNat_natCast]
  obtain ⟨cr, hcr⟩ : ∃ cr, cr = (if lastP (mb Mf b) < M 14 c then M 14 c - lastP (mb Mf b) else 0) := ⟨_, rfl⟩
  rw [← hcr, ec]
  generalize hMx : up2 (up2 (up2 (up2 (up2 (up2 (up2 (up2 Mf 22 c (-1)) 23 c (-1)) 24 c 0) 25 c 0) 26 c 0) 23 c b) 22 c b) 25 c cr = Mx
  have hfx : frm [22, 23, 24, 25, 26] Mf Mx := by
    rw [← hMx]
    exact frm_up (frm_up (frm_up (frm_up (frm_up (frm_up (frm_up (frm_up frm_rf (by decide)) (by decide)) (by decide)) (by decide)) (by decide)) (by decide)) (by decide)) (by decide)
  have emx : ∀ b : Int, mb Mx b = mb Mf b ∧ (okB Mx b ↔ okB Mf b) := mb_eq (hfx _ (by decide)) (hfx _ (by decide)) (hfx _ (by decide))
  have x0 : Mx 0 = M 0 := (hfx _ (by decide)).trans e0
  have x8 : Mx 8 = M 8 := (hfx _ (by decide)).trans e8
  have x19 : Mx 19 = Mf 19 := hfx _ (by decide)
  have x20 : Mx 20 = Mf 20 := hfx _ (by decide)
  have x21 : Mx 21 = Mf 21 := hfx _ (by decide)
  have xo : Mx 22 c = b ∧ Mx 23 c = b ∧ Mx 25 c = cr := by
    rw [← hMx]
    simp [up2_r]
  have xc : ∀ a : Nat, ¬ a = c → ∀ k, k ∈ [22, 23, 24, 25, 26] → Mx k a = Mf k a := by
    intro a ha2 k hk2
    rw [← hMx]
    simp [up2_r, ha2]
  have hbn : ((b.toNat : Nat) : Int) = b := Int.toNat_of_nonneg (by omega)
  have h2b : (2 * b).toNat = 2 * b.toNat := by omega
  rw [h2b]
  refine ⟨by omega, ⟨(emx b).2.mpr hok, by rw [x19]; omega, hld1, by rw [x0]; exact hlaw⟩, fun v M1 hR => ?_⟩
  obtain ⟨r1, r2, r3, r4, r5⟩ := hR
  rw [x0, (emx b).1] at r1 r2
  have m20 : M1 20 = Mf 20 := (r4 _ (by decide)).trans x20
  have m21 : M1 21 = Mf 21 := (r4 _ (by decide)).trans x21
  have m8 : M1 8 = M 8 := (r4 _ (by decide)).trans x8
  have mrow : ∀ k, k ∈ [22, 23, 24, 25, 26] → M1 k = Mx k := fun k hk2 => r4 k (by
    revert hk2
    simp only [List.mem_cons, List.not_mem_nil, or_false]
    omega)
  have hs1 := sagP_b r3.2.2
  have hs2 := sagP_b hok.2.2
  have hl1 := mb_len r3
  have hl2 := mb_len hok
  have hl3 := r3.2.1
  have hl4 := hok.2.1
  rw [m8]
  have fin : ∀ M3 : Mm, frm [24, 26, 20, 21] M1 M3 → (∀ a : Nat, M3 20 a = if M 8 (2 * b.toNat) < sagP (mb M1 b) ∧ a = b.toNat then M 16 n else Mf 20 a) → (∀ a : Nat, M3 21 a = if M 8 (2 * b.toNat) < sagP (mb M1 b) ∧ a = b.toNat then (n : Int) else Mf 21 a) →
      (∀ a : Nat, M3 24 a = if a = c then sagP (mb M1 b) - sagP (mb Mf b) else M1 24 a) → (∀ a : Nat, M3 26 a = if a = c then v else M1 26 a) → Q none M3 := by
    intro M3 f1 f2 f3 f4 f5
    have em3 : ∀ b : Int, mb M3 b = mb M1 b ∧ (okB M3 b ↔ okB M1 b) := mb_eq (f1 _ (by decide)) (f1 _ (by decide)) (f1 _ (by decide))
    refine hQ _ (turn_go (Mf := Mf) (b := b) (r := crossP (M 0 24) (M 14 c) (M 16 n) (mb Mf b)) hP hf (by rw [ec]; exact hbb.symm) (by rw [ec]) ⟨ha, hb, hk⟩ ?_ ⟨by rw [(em3 b).1, r2], (em3 b).2.mpr r3⟩ ?_ ?_ ?_ ?_ ?_)
    · exact frm_tr (frm_tr (frm_w hfx (by decide)) r4 (by decide)) f1 (by decide)
    · intro b' hb1 hb2
      obtain ⟨y1, y2⟩ := r5 b' ((emx b').2.mpr hb1) hb2
      exact ⟨by rw [(em3 b').1, y1, (emx b').1], (em3 b').2.mpr y2⟩
    · rw [← r2]; exact f2
    · rw [← r2]; exact f3
    · rw [ec]
      intro a ha2 k hk2
      rw [← xc a ha2 k hk2, ← mrow k hk2]
      simp only [List.mem_cons, List.not_mem_nil, or_false] at hk2
      rcases hk2 with rfl | rfl | rfl | rfl | rfl
      · rw [f1 _ (by decide)]
      · rw [f1 _ (by decide)]
      · rw [f4, if_neg ha2]
      · rw [f1 _ (by decide)]
      · rw [f5, if_neg ha2]
    · rw [ec, f1 22 (by decide), f1 23 (by decide), f1 25 (by decide), f4, f5, if_pos rfl, if_pos rfl, mrow 22 (by decide), mrow 23 (by decide), mrow 25 (by decide), ← r2, ← hcr]
      exact ⟨xo.1, xo.2.1, rfl, xo.2.2, r1⟩
  refine ⟨by omega, r3, by omega, by omega, r3, by omega, by omega, fun z => ⟨by omega, by omega, fin _ ?_ ?_ ?_ ?_ ?_⟩, fun z => fin _ ?_ ?_ ?_ ?_ ?_⟩
  · exact frm_up (frm_up (frm_up (frm_up frm_rf (by decide)) (by decide)) (by decide)) (by decide)
  · intro a
    simp [up2_r, z, m20]
  · intro a
    simp [up2_r, z, m21]
  · intro a
    simp [up2_r]
  · intro a
    simp [up2_r]
  · exact frm_up (frm_up frm_rf (by decide)) (by decide)
  · intro a
    rw [if_neg (by omega)]
    simp [up2_r, m20]
  · intro a
    rw [if_neg (by omega)]
    simp [up2_r, m21]
  · intro a
    simp [up2_r]
  · intro a
    simp [up2_r]
set_option maxHeartbeats 4000000 in
set_option maxRecDepth 100000 in
theorem m7_turn : MOK cl7 sh7 tyl7 [] 2 yX7_turn cX7_turn 5 none sp7_turn := by
  refine mok_of (own := RX7) (tb := tb7 (csL cs7_turn)) (rt := 0) (fuel := 400) (fun avs M Q => [(15, [0, 1], fun m_ vs M1 => ∃ y_t_ : Int, vs = [ar 0, ai y_t_] ∧ J7_turn_15 (pa true [0] avs 0) M m_ y_t_ M1), (98, [0, 1, 2, 3], fun m_ vs M1 => ∃ y_t_ : Int, ∃ y_c_ : Int, ∃ y_b_ : Int, vs = [ar 0, ai y_t_, ai y_c_, ai y_b_] ∧ J7_turn_98 (pa true [0] avs 0) M m_ y_t_ y_c_ y_b_ M1), (148, [0, 1, 2, 3, 4], fun m_ vs M1 => ∃ y_t_ : Int, ∃ y_c_ : Int, ∃ y_b_ : Int, ∃ y_was : Int, vs = [ar 0, ai y_t_, ai y_c_, ai y_b_, ai y_was] ∧ J7_turn_148 (pa true [0] avs 0) M m_ y_t_ y_c_ y_b_ y_was M1)]) (by decide) rfl nil_nw (tbOK7 _) rfl (csL_all ?_) ?_ ?_ ?_
  · intro q hq
    simp only [cs7_turn, List.mem_cons, List.not_mem_nil, or_false] at hq
    rcases hq with rfl | rfl | rfl | rfl | rfl | rfl
    · exact cg7_isBit (by decide)
    · exact cg7_freezes (by decide)
    · exact cg7_wayOf (by decide)
    · exact cg7_sagOf (by decide)
    · exact cg7_lastOf (by decide)
    · exact cg7_crosses (by decide)
  · intro avs M Q hsp
    obtain ⟨xs, hx⟩ := spV_un _ _ _ hsp
    obtain ⟨e, hl⟩ := unA_mkT hx
    obtain ⟨t, rfl⟩ := len1 hl
    have e : avs = [ar 0, ai t] := e
    subst e
    simp [szL, isL]
  · intro avs M Q hM hav hsp
    obtain ⟨xs, hx⟩ := spV_un _ _ _ hsp
    obtain ⟨e, hl⟩ := unA_mkT hx
    obtain ⟨t, rfl⟩ := len1 hl
    have e : avs = [ar 0, ai t] := e
    subst e
    exact in7_turn hM (hav (ai t) (by simp)) hsp.1 hsp.2 _ (fun m_ y_t_ M2 hJ => ⟨m_, y_t_, rfl, hJ⟩) _ (fun m_ y_t_ y_c_ y_b_ M2 hJ => ⟨m_, y_t_, y_c_, y_b_, rfl, hJ⟩) _ (fun m_ y_t_ y_c_ y_b_ y_was M2 hJ => ⟨m_, y_t_, y_c_, y_b_, y_was, rfl, hJ⟩)
  · intro avs M Q hM hav hsp q hq m_ vs M1 hM1 hv hJ
    obtain ⟨xs, hx⟩ := spV_un _ _ _ hsp
    obtain ⟨e, hl⟩ := unA_mkT hx
    obtain ⟨t, rfl⟩ := len1 hl
    have e : avs = [ar 0, ai t] := e
    subst e
    simp only [List.mem_cons, List.not_mem_nil, or_false] at hq
    rcases hq with rfl | rfl | rfl
    · obtain ⟨y_t_, rfl, hJ⟩ := hJ
      exact at7_turn_15 hM (hav (ai t) (by simp)) hsp.1 hsp.2 hM1 (hv (1, ai y_t_) (List.mem_of_getElem? (i := 1) rfl)) hJ _ (fun m2 z_t_ M2 hm hJ2 => ⟨m2, hm, z_t_, rfl, hJ2⟩) _ (fun m2 z_t_ z_c_ z_b_ M2 hm hJ2 => ⟨m2, hm, z_t_, z_c_, z_b_, rfl, hJ2⟩) _ (fun m2 z_t_ z_c_ z_b_ z_was M2 hm hJ2 => ⟨m2, hm, z_t_, z_c_, z_b_, z_was, rfl, hJ2⟩)
    · obtain ⟨y_t_, y_c_, y_b_, rfl, hJ⟩ := hJ
      exact at7_turn_98 hM (hav (ai t) (by simp)) hsp.1 hsp.2 hM1 (hv (1, ai y_t_) (List.mem_of_getElem? (i := 1) rfl)) (hv (2, ai y_c_) (List.mem_of_getElem? (i := 2) rfl)) (hv (3, ai y_b_) (List.mem_of_getElem? (i := 3) rfl)) hJ _ (fun m2 z_t_ M2 hm hJ2 => ⟨m2, hm, z_t_, rfl, hJ2⟩) _ (fun m2 z_t_ z_c_ z_b_ M2 hm hJ2 => ⟨m2, hm, z_t_, z_c_, z_b_, rfl, hJ2⟩) _ (fun m2 z_t_ z_c_ z_b_ z_was M2 hm hJ2 => ⟨m2, hm, z_t_, z_c_, z_b_, z_was, rfl, hJ2⟩)
    · obtain ⟨y_t_, y_c_, y_b_, y_was, rfl, hJ⟩ := hJ
      exact at7_turn_148 hM (hav (ai t) (by simp)) hsp.1 hsp.2 hM1 (hv (1, ai y_t_) (List.mem_of_getElem? (i := 1) rfl)) (hv (2, ai y_c_) (List.mem_of_getElem? (i := 2) rfl)) (hv (3, ai y_b_) (List.mem_of_getElem? (i := 3) rfl)) (hv (4, ai y_was) (List.mem_of_getElem? (i := 4) rfl)) hJ _ (fun m2 z_t_ M2 hm hJ2 => ⟨m2, hm, z_t_, rfl, hJ2⟩) _ (fun m2 z_t_ z_c_ z_b_ M2 hm hJ2 => ⟨m2, hm, z_t_, z_c_, z_b_, rfl, hJ2⟩) _ (fun m2 z_t_ z_c_ z_b_ z_was M2 hm hJ2 => ⟨m2, hm, z_t_, z_c_, z_b_, z_was, rfl, hJ2⟩)
theorem cg7_turn {lvl : Nat} (h : 2 < lvl) : CG RX7 cl7 sh7 tyl7 [] lvl 1 327 2 sp7_turn := cg_V (sg := [0]) nil_nw spV_mono spV_un m7_turn h rfl (by decide) rfl rfl ⟨rfl, by decide, by decide, rfl⟩ q1874 q1876 qs92 q138 q1877
