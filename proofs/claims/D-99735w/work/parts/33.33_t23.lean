/-! SagMemoryModel: images -/
section
variable {tb : TB} {sh : List SC} {nL rt : Nat} {nxt : K0} {jmp : Int → K0} {ret : Option AV → Mm → Prop} {lv : LV} {st : List AV} {M : Mm}
theorem e_iald {k : Nat} {i : Int} : sem tb sh nL rt .iaload nxt jmp ret lv (ai i :: ar k :: st) M = aread sh k 0 i (nxt lv (ai (M k i.toNat) :: st) M) := rfl
theorem e_iast {k : Nat} {i x : Int} : sem tb sh nL rt .iastore nxt jmp ret lv (ai x :: ai i :: ar k :: st) M = aread sh k 0 i (nxt lv st (up2 M k i.toNat x)) := rfl
end
theorem aread_s {sh : List SC} {k n : Nat} (h : sh[k]? = some (.inr (0, n))) (i : Int) (kk : Prop) : aread sh k 0 i kk = ((0 ≤ i ∧ i < n) ∧ kk) := by
  unfold aread
  rw [h]
  simp only [if_true]
def P7_copyRow (r : Int) (n : Int) (a : Int) (b : Int) (M : Mm) : Prop := (∃ L : Nat, sh7[r.toNat]? = some (.inr (0, L)) ∧ n * a + n ≤ L ∧ n * b + n ≤ L ∧ L ≤ 450) ∧ (0 ≤ n ∧ n ≤ 90) ∧ (0 ≤ a ∧ a ≤ 4) ∧ (0 ≤ b ∧ b ≤ 4) ∧ ¬ a = b
def R7_copyRow (r : Int) (n : Int) (a : Int) (b : Int) (M : Mm) (M1 : Mm) : Prop := frm [r.toNat] M M1 ∧ ∀ j : Nat, M1 r.toNat j = if n * b ≤ (j : Int) ∧ (j : Int) < n * b + n then M r.toNat ((n * a).toNat + (j - (n * b).toNat)) else M r.toNat j
def sp7_copyRow : Spec := spV false [2, 0, 0, 0] (fun x M => P7_copyRow (x 0) (x 1) (x 2) (x 3) M) (fun x M M1 => R7_copyRow (x 0) (x 1) (x 2) (x 3) M M1)
theorem c7_copyRow {r : Nat} {n : Int} {a : Int} {b : Int} {M : Mm} {Q : Option AV → Mm → Prop} : sp7_copyRow [ar r, ai n, ai a, ai b] M Q = (P7_copyRow (r : Int) n a b M ∧ ∀ (M1 : Mm), R7_copyRow (r : Int) n a b M M1 → Q none M1) := rfl
def cs7_copyRow : List (Nat × Nat × Nat × Spec) := []
def J7_copyRow_3 (r : Int) (n : Int) (a : Int) (b : Int) (M : Mm) (m : Nat) (n_ : Int) (a_ : Int) (b_ : Int) (k : Int) (M1 : Mm) : Prop := n = n_ ∧ a = a_ ∧ b = b_ ∧ frm [r.toNat] M M1 ∧ ∃ i : Nat, k = i ∧ (i : Int) ≤ n ∧ (∀ j : Nat, M1 r.toNat j = if n * b ≤ (j : Int) ∧ (j : Int) < n * b + i then M r.toNat ((n * a).toNat + (j - (n * b).toNat)) else M r.toNat j) ∧ m = 90 - i
set_option maxHeartbeats 4000000 in
set_option maxRecDepth 100000 in
theorem in7_copyRow {r n a b : Int} {M : Mm} {Q : Option AV → Mm → Prop} (hM : okM sh7 M) (h_n : i32 n) (h_a : i32 a) (h_b : i32 b) (hP : P7_copyRow r n a b M) (hQ : ∀ (M1 : Mm), R7_copyRow r n a b M M1 → Q none M1) (I_3 : List AV → Mm → Prop) (hI_3 : ∀ (m_ : Nat) (y_n_ : Int) (y_a_ : Int) (y_b_ : Int) (y_k : Int) (M2 : Mm), J7_copyRow_3 r n a b M m_ y_n_ y_a_ y_b_ y_k M2 → I_3 [ar r.toNat, ai y_n_, ai y_a_, ai y_b_, ai y_k] M2) : wp (tb7 (csL cs7_copyRow)) sh7 5 0 cX7_copyRow [(3, [0, 1, 2, 3, 4], I_3)] Q 400 0 [(0, ar r.toNat), (1, ai n), (2, ai a), (3, ai b)] [] M := by
  obtain ⟨-, h1, -⟩ := id hP
  simp only [e_wp dX7_copyRow_0 rfl, e_wp dX7_copyRow_1 rfl, e_wp dX7_copyRow_3 rfl, e_wp dX7_copyRow_5 rfl, e_wp dX7_copyRow_6 rfl, e_wp dX7_copyRow_9 rfl, e_wp dX7_copyRow_10 rfl, e_wp dX7_copyRow_11 rfl, e_wp dX7_copyRow_12 rfl, e_wp dX7_copyRow_13 rfl, e_wp dX7_copyRow_15 rfl, e_wp dX7_copyRow_16 rfl, e_wp dX7_copyRow_17 rfl, e_wp dX7_copyRow_18 rfl, e_wp dX7_copyRow_19 rfl, e_wp dX7_copyRow_20 rfl, e_wp dX7_copyRow_22 rfl, e_wp dX7_copyRow_23 rfl, e_wp dX7_copyRow_24 rfl, e_wp dX7_copyRow_25 rfl, e_wp dX7_copyRow_28 rfl, e_wp dX7_copyRow_31 rfl, a7_1, w7_1, a7_2, w7_2, a7_3, w7_3, a7_4, w7_4, a7_5, w7_5, a7_6, w7_6, a7_7, w7_7, a7_8, w7_8, a7_9, w7_9, a7_10, w7_10, a7_11, w7_11, a7_12, w7_12, a7_13, w7_13, a7_14, w7_14, a7_15, w7_15, a7_16, w7_16, a7_17, w7_17, a7_18, w7_18, a7_19, w7_19, a7_20, w7_20, a7_21, w7_21, a7_22, w7_22, a7_23, w7_23, a7_24, w7_24, a7_25, w7_25, a7_26, w7_26, a7_27, w7_27, a7_28, w7_28, a7_29, w7_29, a7_30, w7_30, a7_31, w7_31, a7_32, w7_32, a7_33, w7_33, e_iconst, e_bipush, e_sipush, e_lconst_0, e_lconst_1, e_iload, e_iload_0, e_iload_1, e_iload_2, e_iload_3, e_lload, e_lload_0, e_lload_1, e_lload_2, e_lload_3, e_aload, e_aload_0, e_aload_1, e_aload_2, e_aload_3, e_istore, e_istore_0, e_istore_1, e_istore_2, e_istore_3, e_astore, e_astore_0, e_astore_1, e_astore_2, e_astore_3, e_lstore, e_lstore_0, e_lstore_1, e_lstore_2, e_lstore_3, e_iinc, e_iadd, e_isub, e_imul, e_ladd, e_lsub, e_lmul, e_idiv, e_irem, e_ldiv, e_lrem, e_ineg, e_lneg, e_iand, e_ior, e_ixor, e_ishl, e_ishr, e_iushr, e_lcmp, e_i2l, e_l2i, e_i2b, e_i2s, e_dup_i, e_dup_r, e_pop_i, e_pop_r, e_dup2_l, e_dup2_ir, e_dup2_ii, e_ifeq, e_ifne, e_iflt, e_ifge, e_ifgt, e_ifle, e_iceq, e_icne, e_iclt, e_icge, e_icgt, e_icle, e_goto, e_switch, e_invokevirtual, e_invokestatic, e_invokespecial, e_ret0, e_ret1, e_ret2, e_ret3, ldI_s, ldL_s, ldR_s, clO_s, ctP_s, ctS_s, mgo_0, mgo_s, pjc_s, pj_0, pj_s, lk_s, rm1_0, rm1_i, rm1_r, rm1_l, rm2_0, rm2_i, rm2_r, rm2_l, csL_s, lc_lt, lc_ge, lc_gt, lc_le, lc_eq, b01_0, b01_1, b01_01, b01_n, up2_o, up2_s, up2_u, ne_eq, reduceCtorEq, Nat.reduceAdd, Nat.reduceEqDiff, Nat.reduceLT, Nat.reduceLeDiff, Int.reduceLE, Int.reduceLT, Int.reduceAdd, Int.reduceNeg, Int.reduceMul, Int.reduceSub, Int.reduceEq, Int.reduceToNat, Int.reduceNatCast, Int.cast_ofNat_Int, ↓reduceIte, and_self, List.drop_succ_cons, List.drop_zero, List.take_succ_cons, List.take_zero, List.length_cons, List.length_nil, List.reverse_cons, List.reverse_nil, List.nil_append, List.cons_append, Option.toList, true_and, and_true, or_false, false_or, or_true, true_or, forall_const, Classical.not_not, not_false_eq_true, not_true_eq_false, false_implies, true_implies, implies_true, imp_self]
  exact hI_3 (90 - 0) _ _ _ _ _ ⟨rfl, rfl, rfl, frm_rf, 0, rfl, by omega, fun j => by rw [if_neg (by omega)], rfl⟩
set_option maxHeartbeats 4000000 in
set_option maxRecDepth 100000 in
theorem at7_copyRow_3 {r n a b : Int} {M : Mm} {Q : Option AV → Mm → Prop} (hM : okM sh7 M) (h_n : i32 n) (h_a : i32 a) (h_b : i32 b) (hP : P7_copyRow r n a b M) (hQ : ∀ (M1 : Mm), R7_copyRow r n a b M M1 → Q none M1) {m : Nat} {n_ a_ b_ k : Int} {M1 : Mm} (hM1 : okM sh7 M1) (h_n_ : i32 n_) (h_a_ : i32 a_) (h_b_ : i32 b_) (h_k : i32 k) (hJ : J7_copyRow_3 r n a b M m n_ a_ b_ k M1) (I_3 : List AV → Mm → Prop) (hI_3 : ∀ (m_ : Nat) (y_n_ : Int) (y_a_ : Int) (y_b_ : Int) (y_k : Int) (M2 : Mm), m_ < m → J7_copyRow_3 r n a b M m_ y_n_ y_a_ y_b_ y_k M2 → I_3 [ar r.toNat, ai y_n_, ai y_a_, ai y_b_, ai y_k] M2) : wp (tb7 (csL cs7_copyRow)) sh7 5 0 cX7_copyRow [(3, [0, 1, 2, 3, 4], I_3)] Q 400 3 [(0, ar r.toNat), (1, ai n_), (2, ai a_), (3, ai b_), (4, ai k)] [] M1 := by
  obtain ⟨rfl, rfl, rfl, hf, i, rfl, hi, hj, rfl⟩ := hJ
  obtain ⟨⟨L, h1, h2, h3, h4⟩, h5, h6, h7, h8⟩ := id hP
  have m1 := Int.mul_nonneg h5.1 h6.1
  have m2 := Int.mul_nonneg h5.1 h7.1
  have ap : n * a + n ≤ n * b ∨ n * b + n ≤ n * a := by
    rcases Int.lt_or_gt_of_ne h8 with q | q
    · left
      have := Int.mul_le_mul_of_nonneg_left (show a + 1 ≤ b by omega) h5.1
      rw [Int.mul_add, Int.mul_one] at this
      exact this
    · right
      have := Int.mul_le_mul_of_nonneg_left (show b + 1 ≤ a by omega) h5.1
      rw [Int.mul_add, Int.mul_one] at this
      exact this
  simp only [e_wp dX7_copyRow_0 rfl, e_wp dX7_copyRow_1 rfl, e_wp dX7_copyRow_3 rfl, e_wp dX7_copyRow_5 rfl, e_wp dX7_copyRow_6 rfl, e_wp dX7_copyRow_9 rfl, e_wp dX7_copyRow_10 rfl, e_wp dX7_copyRow_11 rfl, e_wp dX7_copyRow_12 rfl, e_wp dX7_copyRow_13 rfl, e_wp dX7_copyRow_15 rfl, e_wp dX7_copyRow_16 rfl, e_wp dX7_copyRow_17 rfl, e_wp dX7_copyRow_18 rfl, e_wp dX7_copyRow_19 rfl, e_wp dX7_copyRow_20 rfl, e_wp dX7_copyRow_22 rfl, e_wp dX7_copyRow_23 rfl, e_wp dX7_copyRow_24 rfl, e_wp dX7_copyRow_25 rfl, e_wp dX7_copyRow_28 rfl, e_wp dX7_copyRow_31 rfl, a7_1, w7_1, a7_2, w7_2, a7_3, w7_3, a7_4, w7_4, a7_5, w7_5, a7_6, w7_6, a7_7, w7_7, a7_8, w7_8, a7_9, w7_9, a7_10, w7_10, a7_11, w7_11, a7_12, w7_12, a7_13, w7_13, a7_14, w7_14, a7_15, w7_15, a7_16, w7_16, a7_17, w7_17, a7_18, w7_18, a7_19, w7_19, a7_20, w7_20, a7_21, w7_21, a7_22, w7_22, a7_23, w7_23, a7_24, w7_24, a7_25, w7_25, a7_26, w7_26, a7_27, w7_27, a7_28, w7_28, a7_29, w7_29, a7_30, w7_30, a7_31, w7_31, a7_32, w7_32, a7_33, w7_33, e_iconst, e_bipush, e_sipush, e_lconst_0, e_lconst_1, e_iload, e_iload_0, e_iload_1, e_iload_2, e_iload_3, e_lload, e_lload_0, e_lload_1, e_lload_2, e_lload_3, e_aload, e_aload_0, e_aload_1, e_aload_2, e_aload_3, e_istore, e_istore_0, e_istore_1, e_istore_2, e_istore_3, e_astore, e_astore_0, e_astore_1, e_astore_2, e_astore_3, e_lstore, e_lstore_0, e_lstore_1, e_lstore_2, e_lstore_3, e_iinc, e_iadd, e_isub, e_imul, e_ladd, e_lsub, e_lmul, e_idiv, e_irem, e_ldiv, e_lrem, e_ineg, e_lneg, e_iand, e_ior, e_ixor, e_ishl, e_ishr, e_iushr, e_lcmp, e_i2l, e_l2i, e_i2b, e_i2s, e_dup_i, e_dup_r, e_pop_i, e_pop_r, e_dup2_l, e_dup2_ir, e_dup2_ii, e_ifeq, e_ifne, e_iflt, e_ifge, e_ifgt, e_ifle, e_iceq, e_icne, e_iclt, e_icge, e_icgt, e_icle, e_goto, e_switch, e_invokevirtual, e_invokestatic, e_invokespecial, e_ret0, e_ret1, e_ret2, e_ret3, ldI_s, ldL_s, ldR_s, clO_s, ctP_s, ctS_s, mgo_0, mgo_s, pjc_s, pj_0, pj_s, lk_s, rm1_0, rm1_i, rm1_r, rm1_l, rm2_0, rm2_i, rm2_r, rm2_l, csL_s, lc_lt, lc_ge, lc_gt, lc_le, lc_eq, b01_0, b01_1, b01_01, b01_n, up2_o, up2_s, up2_u, ne_eq, reduceCtorEq, Nat.reduceAdd, Nat.reduceEqDiff, Nat.reduceLT, Nat.reduceLeDiff, Int.reduceLE, Int.reduceLT, Int.reduceAdd, Int.reduceNeg, Int.reduceMul, Int.reduceSub, Int.reduceEq, Int.reduceToNat, Int.reduceNatCast, Int.cast_ofNat_Int, ↓reduceIte, and_self, List.drop_succ_cons, List.drop_zero, List.take_succ_cons, List.take_zero, List.length_cons, List.length_nil, List.reverse_cons, List.reverse_nil, List.nil_append, List.cons_append, Option.toList, true_and, and_true, or_false, false_or, or_true, true_or, forall_const, Classical.not_not, not_false_eq_true, not_true_eq_false, false_implies, true_implies, implies_true, imp_self, e_iald, e_iast, aread_s h1]
  generalize hA : n * a = A at *
  generalize hB : n * b = B at *
  refine ⟨fun q => hQ _ ⟨hf, fun j => ?_⟩, fun q => ?_⟩
  · rw [hA, hB, hj j, show (i : Int) = n by omega]
  · repeat (refine And.intro (by omega) ?_)
    refine hI_3 (90 - (i + 1)) _ _ _ _ _ (by omega) ⟨rfl, rfl, rfl, frm_up hf (by simp), i + 1, by omega, by omega, fun j => ?_, rfl⟩
    rw [hA, hB]
    have e1 : (B + (i : Int)).toNat = B.toNat + i := by omega
    have e2 : (A + (i : Int)).toNat = A.toNat + i := by omega
    rw [e1, e2]
    by_cases e : j = B.toNat + i
    · rw [e, up2_s, if_pos (by omega), hj, if_neg (by omega), show B.toNat + i - B.toNat = i by omega]
    · rw [up2_n e, hj j]
      by_cases z : B ≤ (j : Int) ∧ (j : Int) < B + i
      · rw [if_pos z, if_pos (by omega)]
      · rw [if_neg z, if_neg (by omega)]
set_option maxHeartbeats 4000000 in
set_option maxRecDepth 100000 in
theorem m7_copyRow : MOK cl7 sh7 tyl7 [] 0 yX7_copyRow cX7_copyRow 5 none sp7_copyRow := by
  refine mok_of (own := RX7) (tb := tb7 (csL cs7_copyRow)) (rt := 0) (fuel := 400) (fun avs M Q => [(3, [0, 1, 2, 3, 4], fun m_ vs M1 => ∃ y_n_ : Int, ∃ y_a_ : Int, ∃ y_b_ : Int, ∃ y_k : Int, vs = [ar (pa false [2, 0, 0, 0] avs 0).toNat, ai y_n_, ai y_a_, ai y_b_, ai y_k] ∧ J7_copyRow_3 (pa false [2, 0, 0, 0] avs 0) (pa false [2, 0, 0, 0] avs 1) (pa false [2, 0, 0, 0] avs 2) (pa false [2, 0, 0, 0] avs 3) M m_ y_n_ y_a_ y_b_ y_k M1)]) (by decide) rfl nil_nw (tbOK7 _) rfl (csL_all ?_) ?_ ?_ ?_
  · intro q hq; cases hq
  · intro avs M Q hsp
    obtain ⟨xs, hx⟩ := spV_un _ _ _ hsp
    obtain ⟨e, hl⟩ := unA_mk hx
    obtain ⟨r, n, a, b, rfl⟩ := len4 hl
    have e : avs = [ar r.toNat, ai n, ai a, ai b] := e
    subst e
    simp [szL, isL]
  · intro avs M Q hM hav hsp
    obtain ⟨xs, hx⟩ := spV_un _ _ _ hsp
    obtain ⟨e, hl⟩ := unA_mk hx
    obtain ⟨r, n, a, b, rfl⟩ := len4 hl
    have e : avs = [ar r.toNat, ai n, ai a, ai b] := e
    subst e
    exact in7_copyRow (r := ((r.toNat : Nat) : Int)) hM (hav (ai n) (by simp)) (hav (ai a) (by simp)) (hav (ai b) (by simp)) hsp.1 hsp.2 _ (fun m_ y_n_ y_a_ y_b_ y_k M2 hJ => ⟨m_, y_n_, y_a_, y_b_, y_k, rfl, hJ⟩)
  · intro avs M Q hM hav hsp q hq m_ vs M1 hM1 hv hJ
    obtain ⟨xs, hx⟩ := spV_un _ _ _ hsp
    obtain ⟨e, hl⟩ := unA_mk hx
    obtain ⟨r, n, a, b, rfl⟩ := len4 hl
    have e : avs = [ar r.toNat, ai n, ai a, ai b] := e
    subst e
    simp only [List.mem_cons, List.not_mem_nil, or_false] at hq
    rcases hq with rfl
    · obtain ⟨y_n_, y_a_, y_b_, y_k, rfl, hJ⟩ := hJ
      exact at7_copyRow_3 (r := ((r.toNat : Nat) : Int)) hM (hav (ai n) (by simp)) (hav (ai a) (by simp)) (hav (ai b) (by simp)) hsp.1 hsp.2 hM1 (hv (1, ai y_n_) (List.mem_of_getElem? (i := 1) rfl)) (hv (2, ai y_a_) (List.mem_of_getElem? (i := 2) rfl)) (hv (3, ai y_b_) (List.mem_of_getElem? (i := 3) rfl)) (hv (4, ai y_k) (List.mem_of_getElem? (i := 4) rfl)) hJ _ (fun m2 z_n_ z_a_ z_b_ z_k M2 hm hJ2 => ⟨m2, hm, z_n_, z_a_, z_b_, z_k, rfl, hJ2⟩)
theorem cg7_copyRow {lvl : Nat} (h : 0 < lvl) : CG RX7 cl7 sh7 tyl7 [] lvl 0 279 4 sp7_copyRow := cg_S (sg := [2, 0, 0, 0]) nil_nw spV_mono spV_un m7_copyRow h rfl (by decide) ⟨by decide, by decide, rfl⟩ q1812 q1813 q138 q1814
theorem frB_congr {f g : Nat → Int} : ∀ {n : Nat}, (∀ k, k < n → f k = g k) → frB f n = frB g n := by
  intro n
  induction n with
  | zero => intro _; rfl
  | succ n ih =>
    intro h
    show bor (frB f n) (bshl 1 (f n)) = bor (frB g n) (bshl 1 (g n))
    rw [ih fun k hk => h k (by omega), h n (by omega)]
abbrev vSz : List (Nat × Nat) := [(6, 1), (7, 8), (8, 6), (9, 14), (10, 15), (11, 4), (12, 90)]
/-- a valley in another slot, of another memory -/
theorem vS_gen {M M1 : Mm} {s t : Nat} (hY : okY (vS s M)) (h : ∀ q ∈ vSz, ∀ j, j < q.2 → M1 q.1 (q.2 * t + j) = M q.1 (q.2 * s + j)) : vS t M1 = vS s M := by
  have h6 : M1 6 t = M 6 s := by
    have := h (6, 1) (by decide) 0 (by decide)
    rwa [show ((6, 1) : Nat × Nat).2 * t + 0 = t by show 1 * t + 0 = t; omega, show ((6, 1) : Nat × Nat).2 * s + 0 = s by show 1 * s + 0 = s; omega] at this
  have h7 : ∀ j, j < 8 → M1 7 (8 * t + j) = M 7 (8 * s + j) := h (7, 8) (by decide)
  have h8 : ∀ j, j < 6 → M1 8 (6 * t + j) = M 8 (6 * s + j) := h (8, 6) (by decide)
  have h9 : ∀ j, j < 14 → M1 9 (14 * t + j) = M 9 (14 * s + j) := h (9, 14) (by decide)
  have h10 : ∀ j, j < 15 → M1 10 (15 * t + j) = M 10 (15 * s + j) := h (10, 15) (by decide)
  have h11 : ∀ j, j < 4 → M1 11 (4 * t + j) = M 11 (4 * s + j) := h (11, 4) (by decide)
  have h12 : ∀ j, j < 90 → M1 12 (90 * t + j) = M 12 (90 * s + j) := h (12, 90) (by decide)
  have c3 : M 7 (8 * s + 3) ≤ 3 := hY.2.2.2.1.2
  have c4 : M 7 (8 * s + 4) ≤ 7 := hY.2.2.2.2.1.2
  have c5 : M 7 (8 * s + 5) ≤ 5 := hY.2.2.2.2.2.1.2
  have c6 : M 7 (8 * s + 6) ≤ 4 := hY.2.2.2.2.2.2.1.2
  have c7 : M 7 (8 * s + 7) ≤ 30 := hY.2.2.2.2.2.2.2.1.2
  funext i j
  have r0 : ∀ (N : Mm) (u : Nat), vS u N 0 j = (if j < 8 then N 7 (8 * u + j) else if j = 8 then N 6 u else 0) := fun _ _ => rfl
  by_cases c0 : i = 0
  · subst c0
    rw [r0, r0, h6]
    by_cases e : j < 8
    · rw [if_pos e, if_pos e, h7 j e]
    · rw [if_neg e, if_neg e]
  by_cases c_1 : i = 1
  · subst c_1
    rw [show vS t M1 1 j = (if (j : Int) < M1 7 (8 * t + 3) then M1 8 (2 * (3 * t + j)) else 0) from rfl, show vS s M 1 j = (if (j : Int) < M 7 (8 * s + 3) then M 8 (2 * (3 * s + j)) else 0) from rfl, h7 3 (by decide)]
    by_cases e : (j : Int) < M 7 (8 * s + 3)
    · have := h8 (2 * j) (by omega)
      rw [show 6 * t + (2 * j) = 2 * (3 * t + j) by omega, show 6 * s + (2 * j) = 2 * (3 * s + j) by omega] at this
      rw [if_pos e, if_pos e, this]
    · rw [if_neg e, if_neg e]
  by_cases c_2 : i = 2
  · subst c_2
    rw [show vS t M1 2 j = (if (j : Int) < M1 7 (8 * t + 3) then M1 8 (2 * (3 * t + j) + 1) else 0) from rfl, show vS s M 2 j = (if (j : Int) < M 7 (8 * s + 3) then M 8 (2 * (3 * s + j) + 1) else 0) from rfl, h7 3 (by decide)]
    by_cases e : (j : Int) < M 7 (8 * s + 3)
    · have := h8 (2 * j + 1) (by omega)
      rw [show 6 * t + (2 * j + 1) = 2 * (3 * t + j) + 1 by omega, show 6 * s + (2 * j + 1) = 2 * (3 * s + j) + 1 by omega] at this
      rw [if_pos e, if_pos e, this]
    · rw [if_neg e, if_neg e]
  by_cases c_3 : i = 3
  · subst c_3
    rw [show vS t M1 3 j = (if (j : Int) < M1 7 (8 * t + 4) then M1 9 (2 * (7 * t + j)) else 0) from rfl, show vS s M 3 j = (if (j : Int) < M 7 (8 * s + 4) then M 9 (2 * (7 * s + j)) else 0) from rfl, h7 4 (by decide)]
    by_cases e : (j : Int) < M 7 (8 * s + 4)
    · have := h9 (2 * j) (by omega)
      rw [show 14 * t + (2 * j) = 2 * (7 * t + j) by omega, show 14 * s + (2 * j) = 2 * (7 * s + j) by omega] at this
      rw [if_pos e, if_pos e, this]
    · rw [if_neg e, if_neg e]
  by_cases c_4 : i = 4
  · subst c_4
    rw [show vS t M1 4 j = (if (j : Int) < M1 7 (8 * t + 4) then M1 9 (2 * (7 * t + j) + 1) else 0) from rfl, show vS s M 4 j = (if (j : Int) < M 7 (8 * s + 4) then M 9 (2 * (7 * s + j) + 1) else 0) from rfl, h7 4 (by decide)]
    by_cases e : (j : Int) < M 7 (8 * s + 4)
    · have := h9 (2 * j + 1) (by omega)
      rw [show 14 * t + (2 * j + 1) = 2 * (7 * t + j) + 1 by omega, show 14 * s + (2 * j + 1) = 2 * (7 * s + j) + 1 by omega] at this
      rw [if_pos e, if_pos e, this]
    · rw [if_neg e, if_neg e]
  by_cases c_5 : i = 5
  · subst c_5
    rw [show vS t M1 5 j = (if (j : Int) < M1 7 (8 * t + 5) then M1 10 (3 * (5 * t + j)) else 0) from rfl, show vS s M 5 j = (if (j : Int) < M 7 (8 * s + 5) then M 10 (3 * (5 * s + j)) else 0) from rfl, h7 5 (by decide)]
    by_cases e : (j : Int) < M 7 (8 * s + 5)
    · have := h10 (3 * j) (by omega)
      rw [show 15 * t + (3 * j) = 3 * (5 * t + j) by omega, show 15 * s + (3 * j) = 3 * (5 * s + j) by omega] at this
      rw [if_pos e, if_pos e, this]
    · rw [if_neg e, if_neg e]
  by_cases c_6 : i = 6
  · subst c_6
    rw [show vS t M1 6 j = (if (j : Int) < M1 7 (8 * t + 5) then M1 10 (3 * (5 * t + j) + 1) else 0) from rfl, show vS s M 6 j = (if (j : Int) < M 7 (8 * s + 5) then M 10 (3 * (5 * s + j) + 1) else 0) from rfl, h7 5 (by decide)]
    by_cases e : (j : Int) < M 7 (8 * s + 5)
    · have := h10 (3 * j + 1) (by omega)
      rw [show 15 * t + (3 * j + 1) = 3 * (5 * t + j) + 1 by omega, show 15 * s + (3 * j + 1) = 3 * (5 * s + j) + 1 by omega] at this
      rw [if_pos e, if_pos e, this]
    · rw [if_neg e, if_neg e]
  by_cases c_7 : i = 7
  · subst c_7
    rw [show vS t M1 7 j = (if (j : Int) < M1 7 (8 * t + 5) then M1 10 (3 * (5 * t + j) + 2) else 0) from rfl, show vS s M 7 j = (if (j : Int) < M 7 (8 * s + 5) then M 10 (3 * (5 * s + j) + 2) else 0) from rfl, h7 5 (by decide)]
    by_cases e : (j : Int) < M 7 (8 * s + 5)
    · have := h10 (3 * j + 2) (by omega)
      rw [show 15 * t + (3 * j + 2) = 3 * (5 * t + j) + 2 by omega, show 15 * s + (3 * j + 2) = 3 * (5 * s + j) + 2 by omega] at this
      rw [if_pos e, if_pos e, this]
    · rw [if_neg e, if_neg e]
  by_cases c_9 : i = 9
  · subst c_9
    rw [show vS t M1 9 j = (if (j : Int) < M1 7 (8 * t + 7) then M1 12 (3 * (30 * t + j)) else 0) from rfl, show vS s M 9 j = (if (j : Int) < M 7 (8 * s + 7) then M 12 (3 * (30 * s + j)) else 0) from rfl, h7 7 (by decide)]
    by_cases e : (j : Int) < M 7 (8 * s + 7)
    · have := h12 (3 * j) (by omega)
      rw [show 90 * t + (3 * j) = 3 * (30 * t + j) by omega, show 90 * s + (3 * j) = 3 * (30 * s + j) by omega] at this
      rw [if_pos e, if_pos e, this]
    · rw [if_neg e, if_neg e]
  by_cases c_10 : i = 10
  · subst c_10
    rw [show vS t M1 10 j = (if (j : Int) < M1 7 (8 * t + 7) then M1 12 (3 * (30 * t + j) + 1) else 0) from rfl, show vS s M 10 j = (if (j : Int) < M 7 (8 * s + 7) then M 12 (3 * (30 * s + j) + 1) else 0) from rfl, h7 7 (by decide)]
    by_cases e : (j : Int) < M 7 (8 * s + 7)
    · have := h12 (3 * j + 1) (by omega)
      rw [show 90 * t + (3 * j + 1) = 3 * (30 * t + j) + 1 by omega, show 90 * s + (3 * j + 1) = 3 * (30 * s + j) + 1 by omega] at this
      rw [if_pos e, if_pos e, this]
    · rw [if_neg e, if_neg e]
  by_cases c_11 : i = 11
  · subst c_11
    rw [show vS t M1 11 j = (if (j : Int) < M1 7 (8 * t + 7) then M1 12 (3 * (30 * t + j) + 2) else 0) from rfl, show vS s M 11 j = (if (j : Int) < M 7 (8 * s + 7) then M 12 (3 * (30 * s + j) + 2) else 0) from rfl, h7 7 (by decide)]
    by_cases e : (j : Int) < M 7 (8 * s + 7)
    · have := h12 (3 * j + 2) (by omega)
      rw [show 90 * t + (3 * j + 2) = 3 * (30 * t + j) + 2 by omega, show 90 * s + (3 * j + 2) = 3 * (30 * s + j) + 2 by omega] at this
      rw [if_pos e, if_pos e, this]
    · rw [if_neg e, if_neg e]
  by_cases c8 : i = 8
  · subst c8
    rw [show vS t M1 8 j = (if j = 0 then frB (fun k => M1 11 (4 * t + k)) (M1 7 (8 * t + 6)).toNat else 0) from rfl, show vS s M 8 j = (if j = 0 then frB (fun k => M 11 (4 * s + k)) (M 7 (8 * s + 6)).toNat else 0) from rfl, h7 6 (by decide), frB_congr (fun k hk => h11 k (by omega))]
  obtain ⟨k, rfl⟩ : ∃ k, i = k + 12 := ⟨i - 12, by omega⟩
  exact (vS_hi M1 t k j).trans (vS_hi M s k j).symm
/-- rows that are copied, one behind another -/
def cpR (q : Nat × Nat) (a b : Nat) (M M1 : Mm) : Prop := frm [q.1] M M1 ∧ ∀ j : Nat, M1 q.1 j = if q.2 * b ≤ j ∧ j < q.2 * b + q.2 then M q.1 (q.2 * a + (j - q.2 * b)) else M q.1 j
theorem cpR_of {r n : Nat} {a b : Int} {M M1 : Mm} (ha : 0 ≤ a) (hb : 0 ≤ b) (h : R7_copyRow (r : Int) (n : Int) a b M M1) : cpR (r, n) a.toNat b.toNat M M1 := by
  obtain ⟨h1, h2⟩ := h
  rw [Int.toNat_natCast] at h1 h2
  obtain ⟨x, rfl⟩ := Int.eq_ofNat_of_zero_le ha
  obtain ⟨y, rfl⟩ := Int.eq_ofNat_of_zero_le hb
  refine ⟨h1, fun j => ?_⟩
  rw [h2 j]
  show _ = if n * y ≤ j ∧ j < n * y + n then M r (n * x + (j - n * y)) else M r j
  have e1 : ((n : Int) * (y : Int)) = ((n * y : Nat) : Int) := by simp
  have e2 : ((n : Int) * (x : Int)) = ((n * x : Nat) : Int) := by simp
  rw [e1, e2, Int.toNat_natCast, Int.toNat_natCast]
  by_cases z : n * y ≤ j ∧ j < n * y + n
  · rw [if_pos z, if_pos (by omega)]
  · rw [if_neg z, if_neg (by omega)]
def P7_copyValley (a : Int) (b : Int) (M : Mm) : Prop := (0 ≤ a ∧ a ≤ 4) ∧ (0 ≤ b ∧ b ≤ 4) ∧ ¬ a = b
def R7_copyValley (a : Int) (b : Int) (M : Mm) (M1 : Mm) : Prop := frm vRows M M1 ∧ (∀ s, ¬ s = b.toNat → okY (vS s M) → vS s M1 = vS s M) ∧ (okY (vS a.toNat M) → vS b.toNat M1 = vS a.toNat M)
def sp7_copyValley : Spec := spV true [0, 0] (fun x M => P7_copyValley (x 0) (x 1) M) (fun x M M1 => R7_copyValley (x 0) (x 1) M M1)
theorem c7_copyValley {a b : Int} {M : Mm} {Q : Option AV → Mm → Prop} : sp7_copyValley [ar 0, ai a, ai b] M Q = (P7_copyValley a b M ∧ ∀ (M1 : Mm), R7_copyValley a b M M1 → Q none M1) := rfl
def cs7_copyValley : List (Nat × Nat × Nat × Spec) := [(279, 0, 4, sp7_copyRow)]
set_option maxHeartbeats 4000000 in
set_option maxRecDepth 100000 in
theorem in7_copyValley {a b : Int} {M : Mm} {Q : Option AV → Mm → Prop} (hM : okM sh7 M) (h_a : i32 a) (h_b : i32 b) (hP : P7_copyValley a b M) (hQ : ∀ (M1 : Mm), R7_copyValley a b M M1 → Q none M1) : wp (tb7 (csL cs7_copyValley)) sh7 3 0 cX7_copyValley [] Q 400 0 [(0, ar 0), (1, ai a), (2, ai b)] [] M := by
  obtain ⟨h1, h2, h3⟩ := id hP
  have pre : ∀ (r n L : Nat) (M2 : Mm), sh7[r]? = some (.inr (0, L)) → n * 5 ≤ L → L ≤ 450 → P7_copyRow (r : Int) (n : Int) a b M2 := by
    intro r n L M2 q1 q2 q3
    have ha : (n : Int) * a ≤ n * 4 := Int.mul_le_mul_of_nonneg_left h1.2 (by omega)
    have hb : (n : Int) * b ≤ n * 4 := Int.mul_le_mul_of_nonneg_left h2.2 (by omega)
    refine ⟨⟨L, by rw [Int.toNat_natCast]; exact q1, by omega, by omega, q3⟩, by omega, h1, h2, h3⟩
  simp only [e_wp dX7_copyValley_0 rfl, e_wp dX7_copyValley_1 rfl, e_wp dX7_copyValley_4 rfl, e_wp dX7_copyValley_5 rfl, e_wp dX7_copyValley_6 rfl, e_wp dX7_copyValley_7 rfl, e_wp dX7_copyValley_10 rfl, e_wp dX7_copyValley_11 rfl, e_wp dX7_copyValley_14 rfl, e_wp dX7_copyValley_16 rfl, e_wp dX7_copyValley_17 rfl, e_wp dX7_copyValley_18 rfl, e_wp dX7_copyValley_21 rfl, e_wp dX7_copyValley_22 rfl, e_wp dX7_copyValley_25 rfl, e_wp dX7_copyValley_27 rfl, e_wp dX7_copyValley_28 rfl, e_wp dX7_copyValley_29 rfl, e_wp dX7_copyValley_32 rfl, e_wp dX7_copyValley_33 rfl, e_wp dX7_copyValley_36 rfl, e_wp dX7_copyValley_38 rfl, e_wp dX7_copyValley_39 rfl, e_wp dX7_copyValley_40 rfl, e_wp dX7_copyValley_43 rfl, e_wp dX7_copyValley_44 rfl, e_wp dX7_copyValley_47 rfl, e_wp dX7_copyValley_49 rfl, e_wp dX7_copyValley_50 rfl, e_wp dX7_copyValley_51 rfl, e_wp dX7_copyValley_54 rfl, e_wp dX7_copyValley_55 rfl, e_wp dX7_copyValley_58 rfl, e_wp dX7_copyValley_59 rfl, e_wp dX7_copyValley_60 rfl, e_wp dX7_copyValley_61 rfl, e_wp dX7_copyValley_64 rfl, e_wp dX7_copyValley_65 rfl, e_wp dX7_copyValley_68 rfl, e_wp dX7_copyValley_70 rfl, e_wp dX7_copyValley_71 rfl, e_wp dX7_copyValley_72 rfl, e_wp dX7_copyValley_75 rfl, g7_31, c7_copyRow, cs7_copyValley, g7_34, g7_37, g7_40, g7_43, g7_46, g7_49, e_iconst, e_bipush, e_sipush, e_lconst_0, e_lconst_1, e_iload, e_iload_0, e_iload_1, e_iload_2, e_iload_3, e_lload, e_lload_0, e_lload_1, e_lload_2, e_lload_3, e_aload, e_aload_0, e_aload_1, e_aload_2, e_aload_3, e_istore, e_istore_0, e_istore_1, e_istore_2, e_istore_3, e_astore, e_astore_0, e_astore_1, e_astore_2, e_astore_3, e_lstore, e_lstore_0, e_lstore_1, e_lstore_2, e_lstore_3, e_iinc, e_iadd, e_isub, e_imul, e_ladd, e_lsub, e_lmul, e_idiv, e_irem, e_ldiv, e_lrem, e_ineg, e_lneg, e_iand, e_ior, e_ixor, e_ishl, e_ishr, e_iushr, e_lcmp, e_i2l, e_l2i, e_i2b, e_i2s, e_dup_i, e_dup_r, e_pop_i, e_pop_r, e_dup2_l, e_dup2_ir, e_dup2_ii, e_ifeq, e_ifne, e_iflt, e_ifge, e_ifgt, e_ifle, e_iceq, e_icne, e_iclt, e_icge, e_icgt, e_icle, e_goto, e_switch, e_invokevirtual, e_invokestatic, e_invokespecial, e_ret0, e_ret1, e_ret2, e_ret3, ldI_s, ldL_s, ldR_s, clO_s, ctP_s, ctS_s, mgo_0, mgo_s, pjc_s, pj_0, pj_s, lk_s, rm1_0, rm1_i, rm1_r, rm1_l, rm2_0, rm2_i, rm2_r, rm2_l, csL_s, lc_lt, lc_ge, lc_gt, lc_le, lc_eq, b01_0, b01_1, b01_01, b01_n, up2_o, up2_s, up2_u, ne_eq, reduceCtorEq, Nat.reduceAdd, Nat.reduceEqDiff, Nat.reduceLT, Nat.reduceLeDiff, Int.reduceLE, Int.reduceLT, Int.reduceAdd, Int.reduceNeg, Int.reduceMul, Int.reduceSub, Int.reduceEq, Int.reduceToNat, Int.reduceNatCast, Int.cast_ofNat_Int, ↓reduceIte, and_self, List.drop_succ_cons, List.drop_zero, List.take_succ_cons, List.take_zero, List.length_cons, List.length_nil, List.reverse_cons, List.reverse_nil, List.nil_append, List.cons_append, Option.toList, true_and, and_true, or_false, false_or, or_true, true_or, forall_const, Classical.not_not, not_false_eq_true, not_true_eq_false, false_implies, true_implies, implies_true, imp_self]
  refine ⟨pre 6 1 5 _ rfl (by decide) (by decide), fun M1 R1 => ?_⟩
  have R1 := cpR_of (r := 6) (n := 1) h1.1 h2.1 R1
  refine ⟨pre 7 8 40 _ rfl (by decide) (by decide), fun M2 R2 => ?_⟩
  have R2 := cpR_of (r := 7) (n := 8) h1.1 h2.1 R2
  refine ⟨pre 8 6 30 _ rfl (by decide) (by decide), fun M3 R3 => ?_⟩
  have R3 := cpR_of (r := 8) (n := 6) h1.1 h2.1 R3
  refine ⟨pre 9 14 70 _ rfl (by decide) (by decide), fun M4 R4 => ?_⟩
  have R4 := cpR_of (r := 9) (n := 14) h1.1 h2.1 R4
  refine ⟨pre 10 15 75 _ rfl (by decide) (by decide), fun M5 R5 => ?_⟩
  have R5 := cpR_of (r := 10) (n := 15) h1.1 h2.1 R5
  refine ⟨pre 11 4 20 _ rfl (by decide) (by decide), fun M6 R6 => ?_⟩
  have R6 := cpR_of (r := 11) (n := 4) h1.1 h2.1 R6
  refine ⟨pre 12 90 450 _ rfl (by decide) (by decide), fun M7 R7 => ?_⟩
  have R7 := cpR_of (r := 12) (n := 90) h1.1 h2.1 R7
  have hne : ¬ a.toNat = b.toNat := by omega
  have e1 : M7 6 = M1 6 := by rw [R7.1 6 (by decide), R6.1 6 (by decide), R5.1 6 (by decide), R4.1 6 (by decide), R3.1 6 (by decide), R2.1 6 (by decide)]
  have d1 : M 6 = M 6 := by rfl
  have e2 : M7 7 = M2 7 := by rw [R7.1 7 (by decide), R6.1 7 (by decide), R5.1 7 (by decide), R4.1 7 (by decide), R3.1 7 (by decide)]
  have d2 : M1 7 = M 7 := by rw [R1.1 7 (by decide)]
  have e3 : M7 8 = M3 8 := by rw [R7.1 8 (by decide), R6.1 8 (by decide), R5.1 8 (by decide), R4.1 8 (by decide)]
  have d3 : M2 8 = M 8 := by rw [R2.1 8 (by decide), R1.1 8 (by decide)]
  have e4 : M7 9 = M4 9 := by rw [R7.1 9 (by decide), R6.1 9 (by decide), R5.1 9 (by decide)]
  have d4 : M3 9 = M 9 := by rw [R3.1 9 (by decide), R2.1 9 (by decide), R1.1 9 (by decide)]
  have e5 : M7 10 = M5 10 := by rw [R7.1 10 (by decide), R6.1 10 (by decide)]
  have d5 : M4 10 = M 10 := by rw [R4.1 10 (by decide), R3.1 10 (by decide), R2.1 10 (by decide), R1.1 10 (by decide)]
  have e6 : M7 11 = M6 11 := by rw [R7.1 11 (by decide)]
  have d6 : M5 11 = M 11 := by rw [R5.1 11 (by decide), R4.1 11 (by decide), R3.1 11 (by decide), R2.1 11 (by decide), R1.1 11 (by decide)]
  have e7 : M7 12 = M7 12 := rfl
  have d7 : M6 12 = M 12 := by rw [R6.1 12 (by decide), R5.1 12 (by decide), R4.1 12 (by decide), R3.1 12 (by decide), R2.1 12 (by decide), R1.1 12 (by decide)]
  have key : ∀ q ∈ vSz, ∀ j : Nat, M7 q.1 j = if q.2 * b.toNat ≤ j ∧ j < q.2 * b.toNat + q.2 then M q.1 (q.2 * a.toNat + (j - q.2 * b.toNat)) else M q.1 j := by
    intro q hq j
    simp only [List.mem_cons, List.not_mem_nil, or_false] at hq
    rcases hq with rfl | rfl | rfl | rfl | rfl | rfl | rfl
    · rw [← d1, e1]; exact R1.2 j
    · rw [← d2, e2]; exact R2.2 j
    · rw [← d3, e3]; exact R3.2 j
    · rw [← d4, e4]; exact R4.2 j
    · rw [← d5, e5]; exact R5.2 j
    · rw [← d6, e6]; exact R6.2 j
    · rw [← d7, e7]; exact R7.2 j
  refine hQ _ ⟨?_, fun s hs hY => vS_gen hY fun q hq j hj => ?_, fun hY => vS_gen hY fun q hq j hj => ?_⟩
  · refine frm_tr (frm_w R1.1 (by decide)) (frm_tr (rows := vRows) (frm_w R2.1 (by decide)) (frm_tr (rows := vRows) (frm_w R3.1 (by decide)) (frm_tr (rows := vRows) (frm_w R4.1 (by decide)) (frm_tr (rows := vRows) (frm_w R5.1 (by decide)) (frm_tr (rows := vRows) (frm_w R6.1 (by decide)) (frm_w (rows := vRows) R7.1 (by decide)) (by decide)) (by decide)) (by decide)) (by decide)) (by decide)) (by decide)
  · rw [key q hq]
    have : ¬ (q.2 * b.toNat ≤ q.2 * s + j ∧ q.2 * s + j < q.2 * b.toNat + q.2) := by
      simp only [List.mem_cons, List.not_mem_nil, or_false] at hq
      rcases hq with rfl | rfl | rfl | rfl | rfl | rfl | rfl <;> (dsimp only at hj ⊢; omega)
    rw [if_neg this]
  · rw [key q hq, if_pos ⟨by omega, by omega⟩]
    congr 1
    omega
set_option maxHeartbeats 4000000 in
set_option maxRecDepth 100000 in
theorem m7_copyValley : MOK cl7 sh7 tyl7 [] 1 yX7_copyValley cX7_copyValley 3 none sp7_copyValley := by
  refine mok_of (own := RX7) (tb := tb7 (csL cs7_copyValley)) (rt := 0) (fuel := 400) (fun avs M Q => []) (by decide) rfl nil_nw (tbOK7 _) rfl (csL_all ?_) ?_ ?_ ?_
  · intro q hq
    simp only [cs7_copyValley, List.mem_cons, List.not_mem_nil, or_false] at hq
    rcases hq with rfl
    · exact cg7_copyRow (by decide)
  · intro avs M Q hsp
    obtain ⟨xs, hx⟩ := spV_un _ _ _ hsp
    obtain ⟨e, hl⟩ := unA_mkT hx
    obtain ⟨a, b, rfl⟩ := len2 hl
    have e : avs = [ar 0, ai a, ai b] := e
    subst e
    simp [szL, isL]
  · intro avs M Q hM hav hsp
    obtain ⟨xs, hx⟩ := spV_un _ _ _ hsp
    obtain ⟨e, hl⟩ := unA_mkT hx
    obtain ⟨a, b, rfl⟩ := len2 hl
    have e : avs = [ar 0, ai a, ai b] := e
    subst e
    exact in7_copyValley hM (hav (ai a) (by simp)) (hav (ai b) (by simp)) hsp.1 hsp.2
  · intro avs M Q hM hav hsp q hq m_ vs M1 hM1 hv hJ
    obtain ⟨xs, hx⟩ := spV_un _ _ _ hsp
    obtain ⟨e, hl⟩ := unA_mkT hx
    obtain ⟨a, b, rfl⟩ := len2 hl
    have e : avs = [ar 0, ai a, ai b] := e
    subst e
    cases hq
theorem cg7_copyValley {lvl : Nat} (h : 1 < lvl) : CG RX7 cl7 sh7 tyl7 [] lvl 1 276 3 sp7_copyValley := cg_V (sg := [0, 0]) nil_nw spV_mono spV_un m7_copyValley h rfl (by decide) rfl rfl ⟨rfl, by decide, by decide, rfl⟩ q1808 q1810 qs83 q138 q1811
/-- what stays when a valley is laid into a slot -/
def keepC (b : Nat) (M M1 : Mm) : Prop := (∀ k, k ∈ [1, 2, 3, 5] → M1 k = M k) ∧ (∀ j, j ∈ [6, 14, 15] → M1 0 j = M 0 j) ∧ ∀ s, s ≤ 3 → ¬ s = b → okY (vS s M) → vS s M1 = vS s M
def A_image (k : Int) : Int := if 0 ≤ k ∧ k ≤ 2 then 0 else -2
def P7_image (k : Int) (M : Mm) : Prop := okY (vM M)
def R7_image (k : Int) (M : Mm) (v : Int) (M1 : Mm) : Prop := v = A_image k ∧ ((0 ≤ k ∧ k ≤ 2) → keepC (k.toNat + 1) M M1 ∧ vS (k.toNat + 1) M1 = vM M ∧ ∀ j : Nat, M1 13 j = if j = k.toNat then 1 else M 13 j) ∧ (¬ (0 ≤ k ∧ k ≤ 2) → keepM M M1)
def sp7_image : Spec := spR true [0] 1 (fun x M => P7_image (x 0) M) (fun x M v M1 => R7_image (x 0) M v M1)
theorem c7_image {k : Int} {M : Mm} {Q : Option AV → Mm → Prop} : sp7_image [ar 0, ai k] M Q = (P7_image k M ∧ ∀ (v : Int) (M1 : Mm), R7_image k M v M1 → Q (some (ai v)) M1) := rfl
def cs7_image : List (Nat × Nat × Nat × Spec) := [(121, 0, 3, sp7_in), (276, 1, 3, sp7_copyValley)]
set_option maxHeartbeats 4000000 in
set_option maxRecDepth 100000 in
theorem in7_image {k : Int} {M : Mm} {Q : Option AV → Mm → Prop} (hM : okM sh7 M) (h_k : i32 k) (hP : P7_image k M) (hQ : ∀ (v : Int) (M1 : Mm), R7_image k M v M1 → Q (some (ai v)) M1) : wp (tb7 (csL cs7_image)) sh7 2 1 cX7_image [] Q 400 0 [(0, ar 0), (1, ai k)] [] M := by
  have hk0 : keepM M (up2 M 0 0 0) := keep_u0 keep_rf (by decide)
  simp only [e_wp dX7_image_0 rfl, e_wp dX7_image_1 rfl, e_wp dX7_image_2 rfl, e_wp dX7_image_5 rfl, e_wp dX7_image_6 rfl, e_wp dX7_image_7 rfl, e_wp dX7_image_8 rfl, e_wp dX7_image_11 rfl, e_wp dX7_image_14 rfl, e_wp dX7_image_17 rfl, e_wp dX7_image_19 rfl, e_wp dX7_image_20 rfl, e_wp dX7_image_21 rfl, e_wp dX7_image_22 rfl, e_wp dX7_image_23 rfl, e_wp dX7_image_24 rfl, e_wp dX7_image_25 rfl, e_wp dX7_image_28 rfl, e_wp dX7_image_29 rfl, e_wp dX7_image_32 rfl, e_wp dX7_image_33 rfl, e_wp dX7_image_34 rfl, e_wp dX7_image_35 rfl, e_wp dX7_image_36 rfl, p7_116, k7_345, c7_in, P7_in, V7_in, cs7_image, c7_copyValley, g7_52, a7_1, w7_1, a7_2, w7_2, a7_3, w7_3, a7_4, w7_4, a7_5, w7_5, a7_6, w7_6, a7_7, w7_7, a7_8, w7_8, a7_9, w7_9, a7_10, w7_10, a7_11, w7_11, a7_12, w7_12, a7_13, w7_13, a7_14, w7_14, a7_15, w7_15, a7_16, w7_16, a7_17, w7_17, a7_18, w7_18, a7_19, w7_19, a7_20, w7_20, a7_21, w7_21, a7_22, w7_22, a7_23, w7_23, a7_24, w7_24, a7_25, w7_25, a7_26, w7_26, a7_27, w7_27, a7_28, w7_28, a7_29, w7_29, a7_30, w7_30, a7_31, w7_31, a7_32, w7_32, a7_33, w7_33, e_iconst, e_bipush, e_sipush, e_lconst_0, e_lconst_1, e_iload, e_iload_0, e_iload_1, e_iload_2, e_iload_3, e_lload, e_lload_0, e_lload_1, e_lload_2, e_lload_3, e_aload, e_aload_0, e_aload_1, e_aload_2, e_aload_3, e_istore, e_istore_0, e_istore_1, e_istore_2, e_istore_3, e_astore, e_astore_0, e_astore_1, e_astore_2, e_astore_3, e_lstore, e_lstore_0, e_lstore_1, e_lstore_2, e_lstore_3, e_iinc, e_iadd, e_isub, e_imul, e_ladd, e_lsub, e_lmul, e_idiv, e_irem, e_ldiv, e_lrem, e_ineg, e_lneg, e_iand, e_ior, e_ixor, e_ishl, e_ishr, e_iushr, e_lcmp, e_i2l, e_l2i, e_i2b, e_i2s, e_dup_i, e_dup_r, e_pop_i, e_pop_r, e_dup2_l, e_dup2_ir, e_dup2_ii, e_ifeq, e_ifne, e_iflt, e_ifge, e_ifgt, e_ifle, e_iceq, e_icne, e_iclt, e_icge, e_icgt, e_icle, e_goto, e_switch, e_invokevirtual, e_invokestatic, e_invokespecial, e_ret0, e_ret1, e_ret2, e_ret3, ldI_s, ldL_s, ldR_s, clO_s, ctP_s, ctS_s, mgo_0, mgo_s, pjc_s, pj_0, pj_s, lk_s, rm1_0, rm1_i, rm1_r, rm1_l, rm2_0, rm2_i, rm2_r, rm2_l, csL_s, lc_lt, lc_ge, lc_gt, lc_le, lc_eq, b01_0, b01_1, b01_01, b01_n, up2_o, up2_s, up2_u, ne_eq, reduceCtorEq, Nat.reduceAdd, Nat.reduceEqDiff, Nat.reduceLT, Nat.reduceLeDiff, Int.reduceLE, Int.reduceLT, Int.reduceAdd, Int.reduceNeg, Int.reduceMul, Int.reduceSub, Int.reduceEq, Int.reduceToNat, Int.reduceNatCast, Int.cast_ofNat_Int, ↓reduceIte, and_self, List.drop_succ_cons, List.drop_zero, List.take_succ_cons, List.take_zero, List.length_cons, List.length_nil, List.reverse_cons, List.reverse_nil, List.nil_append, List.cons_append, Option.toList, true_and, and_true, or_false, false_or, or_true, true_or, forall_const, Classical.not_not, not_false_eq_true, not_true_eq_false, false_implies, true_implies, implies_true, imp_self]
  refine ⟨fun q => ⟨by omega, ⟨by omega, by omega, by omega⟩, fun M1 hR => ⟨by omega, hQ _ _ ⟨(if_pos q).symm, fun _ => ⟨⟨fun j hj => ?_, fun j hj => ?_, fun s hs hb hY => ?_⟩, ?_, fun j => ?_⟩, fun z => absurd q z⟩⟩⟩, fun q => hQ _ _ ⟨(if_neg q).symm, fun z => absurd z q, fun _ => hk0⟩⟩
  · obtain ⟨r1, r2, r3⟩ := hR
    have : ¬ j = 13 := by revert hj; simp only [List.mem_cons, List.not_mem_nil, or_false]; omega
    rw [up2_ne this, r1 j (by revert hj; simp only [List.mem_cons, List.not_mem_nil, or_false]; omega)]
    exact hk0.1 j (by revert hj; simp only [List.mem_cons, List.not_mem_nil, or_false]; omega)
  · obtain ⟨r1, r2, r3⟩ := hR
    rw [up2_o (by decide), r1 0 (by decide)]
    exact hk0.2 j hj
  · obtain ⟨r1, r2, r3⟩ := hR
    rw [vS_u (by decide) (by decide) (by decide) (by decide) (by decide) (by decide) (by decide), r2 s (by omega) (by rw [keep_v hk0]; exact hY), keep_v hk0]
  · obtain ⟨r1, r2, r3⟩ := hR
    rw [vS_u (by decide) (by decide) (by decide) (by decide) (by decide) (by decide) (by decide)]
    have := r3 (by rw [keep_v hk0]; exact hP)
    rw [show (1 + k).toNat = k.toNat + 1 by omega] at this
    rw [this, keep_v hk0]
    rfl
  · obtain ⟨r1, r2, r3⟩ := hR
    by_cases e : j = k.toNat
    · rw [e, up2_s, if_pos rfl]
    · rw [up2_n e, if_neg e, r1 13 (by decide)]
      rfl
set_option maxHeartbeats 4000000 in
set_option maxRecDepth 100000 in
theorem m7_image : MOK cl7 sh7 tyl7 [] 2 yX7_image cX7_image 2 (some .int) sp7_image := by
  refine mok_of (own := RX7) (tb := tb7 (csL cs7_image)) (rt := 1) (fuel := 400) (fun avs M Q => []) (by decide) rfl nil_nw (tbOK7 _) rfl (csL_all ?_) ?_ ?_ ?_
  · intro q hq
    simp only [cs7_image, List.mem_cons, List.not_mem_nil, or_false] at hq
    rcases hq with rfl | rfl
    · exact cg7_in (by decide)
    · exact cg7_copyValley (by decide)
  · intro avs M Q hsp
    obtain ⟨xs, hx⟩ := spR_un _ _ _ hsp
    obtain ⟨e, hl⟩ := unA_mkT hx
    obtain ⟨k, rfl⟩ := len1 hl
    have e : avs = [ar 0, ai k] := e
    subst e
    simp [szL, isL]
  · intro avs M Q hM hav hsp
    obtain ⟨xs, hx⟩ := spR_un _ _ _ hsp
    obtain ⟨e, hl⟩ := unA_mkT hx
    obtain ⟨k, rfl⟩ := len1 hl
    have e : avs = [ar 0, ai k] := e
    subst e
    exact in7_image hM (hav (ai k) (by simp)) hsp.1 hsp.2
  · intro avs M Q hM hav hsp q hq m_ vs M1 hM1 hv hJ
    obtain ⟨xs, hx⟩ := spR_un _ _ _ hsp
    obtain ⟨e, hl⟩ := unA_mkT hx
    obtain ⟨k, rfl⟩ := len1 hl
    have e : avs = [ar 0, ai k] := e
    subst e
    cases hq
def A_back (kp : Nat → Int) (k : Int) : Int := if 0 ≤ k ∧ k ≤ 2 then (if kp k.toNat = 0 then -6 else 0) else -2
def P7_back (k : Int) (M : Mm) : Prop := ∀ s, s ≤ 3 → okY (vS s M)
def R7_back (k : Int) (M : Mm) (v : Int) (M1 : Mm) : Prop := v = A_back (M 13) k ∧ M1 13 = M 13 ∧ (((0 ≤ k ∧ k ≤ 2) ∧ ¬ M 13 k.toNat = 0) → keepC 0 M M1 ∧ vM M1 = vS (k.toNat + 1) M) ∧ (¬ ((0 ≤ k ∧ k ≤ 2) ∧ ¬ M 13 k.toNat = 0) → keepM M M1)
def sp7_back : Spec := spR true [0] 1 (fun x M => P7_back (x 0) M) (fun x M v M1 => R7_back (x 0) M v M1)
theorem c7_back {k : Int} {M : Mm} {Q : Option AV → Mm → Prop} : sp7_back [ar 0, ai k] M Q = (P7_back k M ∧ ∀ (v : Int) (M1 : Mm), R7_back k M v M1 → Q (some (ai v)) M1) := rfl
def cs7_back : List (Nat × Nat × Nat × Spec) := [(121, 0, 3, sp7_in), (276, 1, 3, sp7_copyValley)]
set_option maxHeartbeats 4000000 in
set_option maxRecDepth 100000 in
theorem in7_back {k : Int} {M : Mm} {Q : Option AV → Mm → Prop} (hM : okM sh7 M) (h_k : i32 k) (hP : P7_back k M) (hQ : ∀ (v : Int) (M1 : Mm), R7_back k M v M1 → Q (some (ai v)) M1) : wp (tb7 (csL cs7_back)) sh7 2 1 cX7_back [] Q 400 0 [(0, ar 0), (1, ai k)] [] M := by
  have hk0 : keepM M (up2 M 0 0 0) := keep_u0 keep_rf (by decide)
  simp only [e_wp dX7_back_0 rfl, e_wp dX7_back_1 rfl, e_wp dX7_back_2 rfl, e_wp dX7_back_5 rfl, e_wp dX7_back_6 rfl, e_wp dX7_back_7 rfl, e_wp dX7_back_8 rfl, e_wp dX7_back_11 rfl, e_wp dX7_back_14 rfl, e_wp dX7_back_17 rfl, e_wp dX7_back_19 rfl, e_wp dX7_back_20 rfl, e_wp dX7_back_21 rfl, e_wp dX7_back_24 rfl, e_wp dX7_back_25 rfl, e_wp dX7_back_26 rfl, e_wp dX7_back_29 rfl, e_wp dX7_back_31 rfl, e_wp dX7_back_32 rfl, e_wp dX7_back_33 rfl, e_wp dX7_back_34 rfl, e_wp dX7_back_35 rfl, e_wp dX7_back_36 rfl, e_wp dX7_back_37 rfl, e_wp dX7_back_40 rfl, e_wp dX7_back_41 rfl, p7_116, k7_345, c7_in, P7_in, V7_in, cs7_back, g7_52, c7_copyValley, a7_1, w7_1, a7_2, w7_2, a7_3, w7_3, a7_4, w7_4, a7_5, w7_5, a7_6, w7_6, a7_7, w7_7, a7_8, w7_8, a7_9, w7_9, a7_10, w7_10, a7_11, w7_11, a7_12, w7_12, a7_13, w7_13, a7_14, w7_14, a7_15, w7_15, a7_16, w7_16, a7_17, w7_17, a7_18, w7_18, a7_19, w7_19, a7_20, w7_20, a7_21, w7_21, a7_22, w7_22, a7_23, w7_23, a7_24, w7_24, a7_25, w7_25, a7_26, w7_26, a7_27, w7_27, a7_28, w7_28, a7_29, w7_29, a7_30, w7_30, a7_31, w7_31, a7_32, w7_32, a7_33, w7_33, e_iconst, e_bipush, e_sipush, e_lconst_0, e_lconst_1, e_iload, e_iload_0, e_iload_1, e_iload_2, e_iload_3, e_lload, e_lload_0, e_lload_1, e_lload_2, e_lload_3, e_aload, e_aload_0, e_aload_1, e_aload_2, e_aload_3, e_istore, e_istore_0, e_istore_1, e_istore_2, e_istore_3, e_astore, e_astore_0, e_astore_1, e_astore_2, e_astore_3, e_lstore, e_lstore_0, e_lstore_1, e_lstore_2, e_lstore_3, e_iinc, e_iadd, e_isub, e_imul, e_ladd, e_lsub, e_lmul, e_idiv, e_irem, e_ldiv, e_lrem, e_ineg, e_lneg, e_iand, e_ior, e_ixor, e_ishl, e_ishr, e_iushr, e_lcmp, e_i2l, e_l2i, e_i2b, e_i2s, e_dup_i, e_dup_r, e_pop_i, e_pop_r, e_dup2_l, e_dup2_ir, e_dup2_ii, e_ifeq, e_ifne, e_iflt, e_ifge, e_ifgt, e_ifle, e_iceq, e_icne, e_iclt, e_icge, e_icgt, e_icle, e_goto, e_switch, e_invokevirtual, e_invokestatic, e_invokespecial, e_ret0, e_ret1, e_ret2, e_ret3, ldI_s, ldL_s, ldR_s, clO_s, ctP_s, ctS_s, mgo_0, mgo_s, pjc_s, pj_0, pj_s, lk_s, rm1_0, rm1_i, rm1_r, rm1_l, rm2_0, rm2_i, rm2_r, rm2_l, csL_s, lc_lt, lc_ge, lc_gt, lc_le, lc_eq, b01_0, b01_1, b01_01, b01_n, up2_o, up2_s, up2_u, ne_eq, reduceCtorEq, Nat.reduceAdd, Nat.reduceEqDiff, Nat.reduceLT, Nat.reduceLeDiff, Int.reduceLE, Int.reduceLT, Int.reduceAdd, Int.reduceNeg, Int.reduceMul, Int.reduceSub, Int.reduceEq, Int.reduceToNat, Int.reduceNatCast, Int.cast_ofNat_Int, ↓reduceIte, and_self, List.drop_succ_cons, List.drop_zero, List.take_succ_cons, List.take_zero, List.length_cons, List.length_nil, List.reverse_cons, List.reverse_nil, List.nil_append, List.cons_append, Option.toList, true_and, and_true, or_false, false_or, or_true, true_or, forall_const, Classical.not_not, not_false_eq_true, not_true_eq_false, false_implies, true_implies, implies_true, imp_self]
  refine ⟨fun q => ⟨by omega, fun z => ⟨by omega, ⟨by omega, by omega, by omega⟩, fun M1 hR => hQ _ _ ⟨((if_pos q).trans (if_neg z)).symm, ?_, fun _ => ⟨⟨fun j hj => ?_, fun j hj => ?_, fun s hs hb hY => ?_⟩, ?_⟩, fun y => absurd ⟨q, z⟩ y⟩⟩, fun z => hQ _ _ ⟨((if_pos q).trans (if_pos z)).symm, rfl, fun y => absurd z y.2, fun _ => hk0⟩⟩, fun q => hQ _ _ ⟨(if_neg q).symm, rfl, fun z => absurd z.1 q, fun _ => hk0⟩⟩
  · obtain ⟨r1, r2, r3⟩ := hR
    rw [r1 13 (by decide)]
    rfl
  · obtain ⟨r1, r2, r3⟩ := hR
    rw [r1 j (by revert hj; simp only [List.mem_cons, List.not_mem_nil, or_false]; omega)]
    exact hk0.1 j (by revert hj; simp only [List.mem_cons, List.not_mem_nil, or_false]; omega)
  · obtain ⟨r1, r2, r3⟩ := hR
    rw [r1 0 (by decide)]
    exact hk0.2 j hj
  · obtain ⟨r1, r2, r3⟩ := hR
    rw [r2 s (by omega) (by rw [keep_v hk0]; exact hY), keep_v hk0]
  · obtain ⟨r1, r2, r3⟩ := hR
    have e : (1 + k).toNat = k.toNat + 1 := by omega
    rw [e] at r3
    have := r3 (by rw [keep_v hk0]; exact hP _ (by omega))
    show vS 0 M1 = _
    rw [show (0 : Nat) = (0 : Int).toNat from rfl, this, keep_v hk0]
set_option maxHeartbeats 4000000 in
set_option maxRecDepth 100000 in
theorem m7_back : MOK cl7 sh7 tyl7 [] 2 yX7_back cX7_back 2 (some .int) sp7_back := by
  refine mok_of (own := RX7) (tb := tb7 (csL cs7_back)) (rt := 1) (fuel := 400) (fun avs M Q => []) (by decide) rfl nil_nw (tbOK7 _) rfl (csL_all ?_) ?_ ?_ ?_
  · intro q hq
    simp only [cs7_back, List.mem_cons, List.not_mem_nil, or_false] at hq
    rcases hq with rfl | rfl
    · exact cg7_in (by decide)
    · exact cg7_copyValley (by decide)
  · intro avs M Q hsp
    obtain ⟨xs, hx⟩ := spR_un _ _ _ hsp
    obtain ⟨e, hl⟩ := unA_mkT hx
    obtain ⟨k, rfl⟩ := len1 hl
    have e : avs = [ar 0, ai k] := e
    subst e
    simp [szL, isL]
  · intro avs M Q hM hav hsp
    obtain ⟨xs, hx⟩ := spR_un _ _ _ hsp
    obtain ⟨e, hl⟩ := unA_mkT hx
    obtain ⟨k, rfl⟩ := len1 hl
    have e : avs = [ar 0, ai k] := e
    subst e
    exact in7_back hM (hav (ai k) (by simp)) hsp.1 hsp.2
  · intro avs M Q hM hav hsp q hq m_ vs M1 hM1 hv hJ
    obtain ⟨xs, hx⟩ := spR_un _ _ _ hsp
    obtain ⟨e, hl⟩ := unA_mkT hx
    obtain ⟨k, rfl⟩ := len1 hl
    have e : avs = [ar 0, ai k] := e
    subst e
    cases hq
