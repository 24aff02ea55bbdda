/-! SagMemoryModel: two who choose bridges -/
/-- a run's pay, told otherwise -/
def gpay (V : Vy) (C : Cf) (t : Nat) : Int := if wentS V C (preP (whoM C) V C t) t = -1 ∨ giveS (whoM C) V C (preP (whoM C) V C t) t < 0 then 0 else V 2 (wentS V C (preP (whoM C) V C t) t).toNat * giveS (whoM C) V C (preP (whoM C) V C t) t
def lossP (V : Vy) (C : Cf) (c : Nat) : Int := gpay V C c + (if wentS V C (preP (whoM C) V C c) c = -1 then 9 else 0)
abbrev rowI (V : Vy) (C : Cf) : Prop := ∀ t : Nat, (t : Int) < V 0 4 → C 3 t = t
theorem rowI_inj {V : Vy} {C : Cf} (h : rowI V C) : injR V C := by
  intro t t' h1 h2 h3
  rw [h t h1, h t' h2] at h3
  omega
theorem out_i {V : Vy} {C : Cf} {M1 : Mm} (hi : rowI V C) (h : ranR V C M1) {t : Nat} (ht : (t : Int) < V 0 4) : M1 22 t = wentS V C (preP (whoM C) V C t) t ∧ M1 24 t = giveS (whoM C) V C (preP (whoM C) V C t) t := by
  obtain ⟨r1, r2, r3, -⟩ := h.2.2.2 (rowI_inj hi) t ht
  rw [hi t ht, Int.toNat_natCast] at r1 r3
  exact ⟨r1, r3⟩
theorem gpays_use {M M1 : Mm} {C : Cf} (hP : okY (vM M)) (hC : okCf (vM M) C) (hi : rowI (vM M) C) (k2 : ranR (vM M) C M1) (e8 : M1 8 = M 8) {t : Nat} (ht : (t : Int) < M 7 4) : P7_paysOf t M1 ∧ V7_paysOf t M1 = gpay (vM M) C t ∧ (0 ≤ gpay (vM M) C t ∧ gpay (vM M) C t ≤ 900000) ∧ M1 22 t = wentS (vM M) C (preP (whoM C) (vM M) C t) t := by
  have h4 : 0 ≤ M 7 4 ∧ M 7 4 ≤ 7 := hP.2.2.2.2.1
  have h3 : 0 ≤ M 7 3 ∧ M 7 3 ≤ 3 := hP.2.2.2.1
  have o := out_i hi k2 ht
  have g1 := went_rg (S := preP (whoM C) (vM M) C t) hP hC ht
  have g1' : wentS (vM M) C (preP (whoM C) (vM M) C t) t < M 7 3 := g1.2
  have g2 : -100000 ≤ giveS (whoM C) (vM M) C (preP (whoM C) (vM M) C t) t ∧ giveS (whoM C) (vM M) C (preP (whoM C) (vM M) C t) t ≤ 100000 := give_rg (w := whoM C) hP hC ht
  have g3 : ∀ b : Nat, (b : Int) < M 7 3 → 0 ≤ M 8 (2 * b + 1) ∧ M 8 (2 * b + 1) ≤ 9 := by
    intro b hb
    have := (okY_b hP b hb).2
    rwa [(vM_b M hb).2] at this
  have e : V7_paysOf t M1 = gpay (vM M) C t := by
    unfold V7_paysOf gpay
    rw [Int.toNat_natCast, o.1, o.2, e8]
    split
    · rfl
    · rename_i z
      rw [(vM_b M (b := (wentS (vM M) C (preP (whoM C) (vM M) C t) t).toNat) (by omega)).2]
  refine ⟨⟨by omega, ?_, ?_, ?_⟩, e, ?_, o.1⟩
  · rw [Int.toNat_natCast, o.1]; omega
  · rw [Int.toNat_natCast, o.2]; exact g2
  · intro b hb hb2
    rw [Int.toNat_natCast, o.1] at hb2
    rw [e8]
    exact g3 b (by omega)
  · unfold gpay
    split
    · omega
    · rename_i z
      have y1 := g3 (wentS (vM M) C (preP (whoM C) (vM M) C t) t).toNat (by omega)
      rw [← (vM_b M (b := (wentS (vM M) C (preP (whoM C) (vM M) C t) t).toNat) (by omega)).2] at y1
      have b1 := Int.mul_nonneg y1.1 (show 0 ≤ giveS (whoM C) (vM M) C (preP (whoM C) (vM M) C t) t by omega)
      have b2 := Int.mul_le_mul y1.2 g2.2 (show 0 ≤ giveS (whoM C) (vM M) C (preP (whoM C) (vM M) C t) t by omega) (by omega)
      omega
theorem pays_bd {M : Mm} {c : Int} (h : P7_paysOf c M) : 0 ≤ V7_paysOf c M ∧ V7_paysOf c M ≤ 900000 := by
  obtain ⟨h1, h2, h3, h4⟩ := h
  unfold V7_paysOf
  split
  · omega
  · rename_i z
    have h5 := h4 (M 22 c.toNat).toNat (by omega) (by omega)
    have b1 := Int.mul_nonneg h5.1 (show 0 ≤ M 24 c.toNat by omega)
    have b2 := Int.mul_le_mul h5.2 (show M 24 c.toNat ≤ 100000 by omega) (show 0 ≤ M 24 c.toNat by omega) (by omega)
    omega
def P7_lossOf (c : Int) (M : Mm) : Prop := P7_paysOf c M
def V7_lossOf (c : Int) (M : Mm) : Int := V7_paysOf c M + (if M 22 c.toNat = -1 then 9 else 0)
def sp7_lossOf : Spec := spF true [0] 1 (fun x M => P7_lossOf (x 0) M) (fun x M => V7_lossOf (x 0) M)
theorem c7_lossOf {c : Int} {M : Mm} {Q : Option AV → Mm → Prop} : sp7_lossOf [ar 0, ai c] M Q = (P7_lossOf c M ∧ Q (some (ai (V7_lossOf c M))) M) := rfl
def cs7_lossOf : List (Nat × Nat × Nat × Spec) := [(356, 1, 2, sp7_paysOf)]
set_option maxHeartbeats 4000000 in
set_option maxRecDepth 100000 in
theorem in7_lossOf {c : Int} {M : Mm} {Q : Option AV → Mm → Prop} (hM : okM sh7 M) (h_c : i32 c) (hP : P7_lossOf c M) (hQ : Q (some (ai (V7_lossOf c M))) M) : wp (tb7 (csL cs7_lossOf)) sh7 2 1 cX7_lossOf [] Q 400 0 [(0, ar 0), (1, ai c)] [] M := by
  have hb := pays_bd hP
  have h1 := hP.1
  have hp := hP
  have hV : V7_lossOf c M = V7_paysOf c M + (if M 22 c.toNat = -1 then 9 else 0) := rfl
  unfold V7_paysOf at hV hb
  unfold P7_lossOf P7_paysOf at hp
  simp only [e_wp dX7_lossOf_0 rfl, e_wp dX7_lossOf_1 rfl, e_wp dX7_lossOf_2 rfl, e_wp dX7_lossOf_5 rfl, e_wp dX7_lossOf_6 rfl, e_wp dX7_lossOf_9 rfl, e_wp dX7_lossOf_10 rfl, e_wp dX7_lossOf_11 rfl, e_wp dX7_lossOf_12 rfl, e_wp dX7_lossOf_15 rfl, e_wp dX7_lossOf_17 rfl, e_wp dX7_lossOf_20 rfl, e_wp dX7_lossOf_21 rfl, e_wp dX7_lossOf_22 rfl, c7_paysOf, P7_paysOf, V7_paysOf, cs7_lossOf, g7_80, a7_1, w7_1, a7_2, w7_2, a7_3, w7_3, a7_4, w7_4, a7_5, w7_5, a7_6, w7_6, a7_7, w7_7, a7_8, w7_8, a7_9, w7_9, a7_10, w7_10, a7_11, w7_11, a7_12, w7_12, a7_13, w7_13, a7_14, w7_14, a7_15, w7_15, a7_16, w7_16, a7_17, w7_17, a7_18, w7_18, a7_19, w7_19, a7_20, w7_20, a7_21, w7_21, a7_22, w7_22, a7_23, w7_23, a7_24, w7_24, a7_25, w7_25, a7_26, w7_26, a7_27, w7_27, a7_28, w7_28, a7_29, w7_29, a7_30, w7_30, a7_31, w7_31, a7_32, w7_32, a7_33, w7_33, e_iconst, e_bipush, e_sipush, e_lconst_0, e_lconst_1, e_iload, e_iload_0, e_iload_1, e_iload_2, e_iload_3, e_lload, e_lload_0, e_lload_1, e_lload_2, e_lload_3, e_aload, e_aload_0, e_aload_1, e_aload_2, e_aload_3, e_istore, e_istore_0, e_istore_1, e_istore_2, e_istore_3, e_astore, e_astore_0, e_astore_1, e_astore_2, e_astore_3, e_lstore, e_lstore_0, e_lstore_1, e_lstore_2, e_lstore_3, e_iinc, e_iadd, e_isub, e_imul, e_ladd, e_lsub, e_lmul, e_idiv, e_irem, e_ldiv, e_lrem, e_ineg, e_lneg, e_iand, e_ior, e_ixor, e_ishl, e_ishr, e_iushr, e_lcmp, e_i2l, e_l2i, e_i2b, e_i2s, e_dup_i, e_dup_r, e_pop_i, e_pop_r, e_dup2_l, e_dup2_ir, e_dup2_ii, e_ifeq, e_ifne, e_iflt, e_ifge, e_ifgt, e_ifle, e_iceq, e_icne, e_iclt, e_icge, e_icgt, e_icle, e_goto, e_switch, e_invokevirtual, e_invokestatic, e_invokespecial, e_ret0, e_ret1, e_ret2, e_ret3, ldI_s, ldL_s, ldR_s, clO_s, ctP_s, ctS_s, mgo_0, mgo_s, pjc_s, pj_0, pj_s, lk_s, rm1_0, rm1_i, rm1_r, rm1_l, rm2_0, rm2_i, rm2_r, rm2_l, csL_s, lc_lt, lc_ge, lc_gt, lc_le, lc_eq, b01_0, b01_1, b01_01, b01_n, up2_o, up2_s, up2_u, ne_eq, reduceCtorEq, Nat.reduceAdd, Nat.reduceEqDiff, Nat.reduceLT, Nat.reduceLeDiff, Int.reduceLE, Int.reduceLT, Int.reduceAdd, Int.reduceNeg, Int.reduceMul, Int.reduceSub, Int.reduceEq, Int.reduceToNat, Int.reduceNatCast, Int.cast_ofNat_Int, ↓reduceIte, and_self, List.drop_succ_cons, List.drop_zero, List.take_succ_cons, List.take_zero, List.length_cons, List.length_nil, List.reverse_cons, List.reverse_nil, List.nil_append, List.cons_append, Option.toList, true_and, and_true, or_false, false_or, or_true, true_or, forall_const, Classical.not_not, not_false_eq_true, not_true_eq_false, false_implies, true_implies, implies_true, imp_self]
  refine ⟨hp, h1, fun q => ⟨by omega, qeq hQ ?_⟩, fun q => ⟨by omega, qeq hQ ?_⟩⟩
  · rw [hV]
    first | rw [if_neg q] | rw [if_pos q]
  · rw [hV]
    first | rw [if_neg q] | rw [if_pos q]
set_option maxHeartbeats 4000000 in
set_option maxRecDepth 100000 in
theorem m7_lossOf : MOK cl7 sh7 tyl7 [] 1 yX7_lossOf cX7_lossOf 2 (some .int) sp7_lossOf := by
  refine mok_of (own := RX7) (tb := tb7 (csL cs7_lossOf)) (rt := 1) (fuel := 400) (fun avs M Q => []) (by decide) rfl nil_nw (tbOK7 _) rfl (csL_all ?_) ?_ ?_ ?_
  · intro q hq
    simp only [cs7_lossOf, List.mem_cons, List.not_mem_nil, or_false] at hq
    rcases hq with rfl
    · exact cg7_paysOf (by decide)
  · intro avs M Q hsp
    obtain ⟨xs, hx⟩ := spF_un _ _ _ hsp
    obtain ⟨e, hl⟩ := unA_mkT hx
    obtain ⟨c, rfl⟩ := len1 hl
    have e : avs = [ar 0, ai c] := e
    subst e
    simp [szL, isL]
  · intro avs M Q hM hav hsp
    obtain ⟨xs, hx⟩ := spF_un _ _ _ hsp
    obtain ⟨e, hl⟩ := unA_mkT hx
    obtain ⟨c, rfl⟩ := len1 hl
    have e : avs = [ar 0, ai c] := e
    subst e
    exact in7_lossOf hM (hav (ai c) (by simp)) hsp.1 hsp.2
  · intro avs M Q hM hav hsp q hq m_ vs M1 hM1 hv hJ
    obtain ⟨xs, hx⟩ := spF_un _ _ _ hsp
    obtain ⟨e, hl⟩ := unA_mkT hx
    obtain ⟨c, rfl⟩ := len1 hl
    have e : avs = [ar 0, ai c] := e
    subst e
    cases hq
theorem cg7_lossOf {lvl : Nat} (h : 1 < lvl) : CG RX7 cl7 sh7 tyl7 [] lvl 1 460 2 sp7_lossOf := cg_V (sg := [0]) nil_nw spF_mono spF_un m7_lossOf h rfl (by decide) rfl rfl ⟨rfl, by decide, by decide, rfl⟩ q2191 q2193 qs121 q138 q2194
/-- two carts told by bridges that they choose -/
def gamC (V : Vy) (a b : Nat) (x y : Int) : Cf := up2 (up2 (tellP V) 2 a x) 2 b y
theorem okCf_2 {V : Vy} {C : Cf} {c : Nat} {x : Int} (h : okCf V C) (hx : 0 ≤ x ∧ x < V 0 3) : okCf V (up2 C 2 c x) := by
  refine ⟨by rw [up2_o (by decide)]; exact h.1, fun k hk => ?_⟩
  rw [up2_o (show (1 : Nat) ≠ 2 by decide), up2_o (show (3 : Nat) ≠ 2 by decide)]
  refine ⟨(h.2 k hk).1, ?_, (h.2 k hk).2.2⟩
  by_cases e : k = c
  · rw [e, up2_s]; omega
  · rw [up2_n e]; exact (h.2 k hk).2.1
theorem gam_ok {V : Vy} {a b : Nat} {x y : Int} (h : okY V) (hx : 0 ≤ x ∧ x < V 0 3) (hy : 0 ≤ y ∧ y < V 0 3) : okCf V (gamC V a b x y) := okCf_2 (okCf_2 (okCf_tell h) hx) hy
theorem gam_row {V : Vy} {a b : Nat} {x y : Int} : rowI V (gamC V a b x y) := by
  intro t ht
  unfold gamC
  rw [up2_o (by decide), up2_o (by decide)]
  exact if_pos ht
theorem by_cM {M : Mm} {c : Nat} {x : Int} : cM (up2 M 15 c x) = up2 (cM M) 2 c x := by
  funext i j
  match i with
  | 0 => rfl
  | 1 => rfl
  | 2 =>
    show (if 15 = 15 ∧ j = c then x else M 15 j) = if 2 = 2 ∧ j = c then x else M 15 j
    simp only [true_and]
  | 3 => rfl
  | i + 4 => rfl
theorem up2_uu {C : Cf} {i a b : Nat} {p q x y : Int} : up2 (up2 (up2 (up2 C i a p) i b q) i a x) i b y = up2 (up2 C i a x) i b y := by
  funext k j
  unfold up2
  repeat' split
  all_goals first | rfl | (simp_all)
def P7_laysGame (a : Int) (b : Int) (M : Mm) : Prop := okY (vM M) ∧ isC (vM M) a ∧ isC (vM M) b
def R7_laysGame (a : Int) (b : Int) (M : Mm) (M1 : Mm) : Prop := keepM M M1 ∧ ∀ x y : Nat, (x : Int) < M 7 3 → (y : Int) < M 7 3 → M1 32 (3 * x + y) = lossP (vM M) (gamC (vM M) a.toNat b.toNat x y) a.toNat ∧ M1 33 (3 * x + y) = lossP (vM M) (gamC (vM M) a.toNat b.toNat x y) b.toNat
def sp7_laysGame : Spec := spV true [0, 0] (fun x M => P7_laysGame (x 0) (x 1) M) (fun x M M1 => R7_laysGame (x 0) (x 1) M M1)
theorem c7_laysGame {a b : Int} {M : Mm} {Q : Option AV → Mm → Prop} : sp7_laysGame [ar 0, ai a, ai b] M Q = (P7_laysGame a b M ∧ ∀ (M1 : Mm), R7_laysGame a b M M1 → Q none M1) := rfl
def cs7_laysGame : List (Nat × Nat × Nat × Spec) := [(330, 1, 1, sp7_lays), (283, 1, 1, sp7_bridges), (333, 1, 1, sp7_runs), (460, 1, 2, sp7_lossOf)]
def J7_laysGame_6 (a : Int) (b : Int) (M : Mm) (m : Nat) (a_ : Int) (b_ : Int) (x : Int) (M1 : Mm) : Prop := a = a_ ∧ b = b_ ∧ keepM M M1 ∧ (∀ p q, nC (vM M) (up2 (up2 (cM M1) 2 a.toNat p) 2 b.toNat q) = gamC (vM M) a.toNat b.toNat p q) ∧ ∃ i : Nat, x = i ∧ (i : Int) ≤ M 7 3 ∧ (∀ x y : Nat, x < i → (y : Int) < M 7 3 → M1 32 (3 * x + y) = lossP (vM M) (gamC (vM M) a.toNat b.toNat x y) a.toNat ∧ M1 33 (3 * x + y) = lossP (vM M) (gamC (vM M) a.toNat b.toNat x y) b.toNat) ∧ m = (3 - i) * 10 + 9
def J7_laysGame_17 (a : Int) (b : Int) (M : Mm) (m : Nat) (a_ : Int) (b_ : Int) (x : Int) (y : Int) (M1 : Mm) : Prop := a = a_ ∧ b = b_ ∧ keepM M M1 ∧ (∀ p q, nC (vM M) (up2 (up2 (cM M1) 2 a.toNat p) 2 b.toNat q) = gamC (vM M) a.toNat b.toNat p q) ∧ ∃ i j : Nat, x = i ∧ y = j ∧ (i : Int) < M 7 3 ∧ (j : Int) ≤ M 7 3 ∧ (∀ x y : Nat, (x < i ∨ (x = i ∧ y < j)) → (y : Int) < M 7 3 → M1 32 (3 * x + y) = lossP (vM M) (gamC (vM M) a.toNat b.toNat x y) a.toNat ∧ M1 33 (3 * x + y) = lossP (vM M) (gamC (vM M) a.toNat b.toNat x y) b.toNat) ∧ m = (3 - i) * 10 + (8 - j)
set_option maxHeartbeats 4000000 in
set_option maxRecDepth 100000 in
theorem in7_laysGame {a b : Int} {M : Mm} {Q : Option AV → Mm → Prop} (hM : okM sh7 M) (h_a : i32 a) (h_b : i32 b) (hP : P7_laysGame a b M) (hQ : ∀ (M1 : Mm), R7_laysGame a b M M1 → Q none M1) (I_6 : List AV → Mm → Prop) (hI_6 : ∀ (m_ : Nat) (y_a_ : Int) (y_b_ : Int) (y_x : Int) (M2 : Mm), J7_laysGame_6 a b M m_ y_a_ y_b_ y_x M2 → I_6 [ar 0, ai y_a_, ai y_b_, ai y_x] M2) (I_17 : List AV → Mm → Prop) (hI_17 : ∀ (m_ : Nat) (y_a_ : Int) (y_b_ : Int) (y_x : Int) (y_y : Int) (M2 : Mm), J7_laysGame_17 a b M m_ y_a_ y_b_ y_x y_y M2 → I_17 [ar 0, ai y_a_, ai y_b_, ai y_x, ai y_y] M2) : wp (tb7 (csL cs7_laysGame)) sh7 5 0 cX7_laysGame [(6, [0, 1, 2, 3], I_6), (17, [0, 1, 2, 3, 4], I_17)] Q 400 0 [(0, ar 0), (1, ai a), (2, ai b)] [] M := by
  obtain ⟨hY, ha, hb⟩ := id hP
  have h3 : 0 ≤ M 7 3 ∧ M 7 3 ≤ 3 := hY.2.2.2.1
  simp only [e_wp dX7_laysGame_0 rfl, e_wp dX7_laysGame_1 rfl, e_wp dX7_laysGame_4 rfl, e_wp dX7_laysGame_5 rfl, e_wp dX7_laysGame_6 rfl, e_wp dX7_laysGame_7 rfl, e_wp dX7_laysGame_8 rfl, e_wp dX7_laysGame_11 rfl, e_wp dX7_laysGame_14 rfl, e_wp dX7_laysGame_15 rfl, e_wp dX7_laysGame_17 rfl, e_wp dX7_laysGame_19 rfl, e_wp dX7_laysGame_20 rfl, e_wp dX7_laysGame_23 rfl, e_wp dX7_laysGame_26 rfl, e_wp dX7_laysGame_27 rfl, e_wp dX7_laysGame_30 rfl, e_wp dX7_laysGame_31 rfl, e_wp dX7_laysGame_32 rfl, e_wp dX7_laysGame_33 rfl, e_wp dX7_laysGame_34 rfl, e_wp dX7_laysGame_37 rfl, e_wp dX7_laysGame_38 rfl, e_wp dX7_laysGame_40 rfl, e_wp dX7_laysGame_41 rfl, e_wp dX7_laysGame_42 rfl, e_wp dX7_laysGame_45 rfl, e_wp dX7_laysGame_46 rfl, e_wp dX7_laysGame_49 rfl, e_wp dX7_laysGame_50 rfl, e_wp dX7_laysGame_51 rfl, e_wp dX7_laysGame_52 rfl, e_wp dX7_laysGame_54 rfl, e_wp dX7_laysGame_55 rfl, e_wp dX7_laysGame_56 rfl, e_wp dX7_laysGame_57 rfl, e_wp dX7_laysGame_60 rfl, e_wp dX7_laysGame_61 rfl, e_wp dX7_laysGame_62 rfl, e_wp dX7_laysGame_65 rfl, e_wp dX7_laysGame_66 rfl, e_wp dX7_laysGame_67 rfl, e_wp dX7_laysGame_68 rfl, e_wp dX7_laysGame_70 rfl, e_wp dX7_laysGame_71 rfl, e_wp dX7_laysGame_72 rfl, e_wp dX7_laysGame_73 rfl, e_wp dX7_laysGame_76 rfl, e_wp dX7_laysGame_77 rfl, e_wp dX7_laysGame_80 rfl, e_wp dX7_laysGame_83 rfl, e_wp dX7_laysGame_86 rfl, e_wp dX7_laysGame_89 rfl, c7_lays, cs7_laysGame, c7_bridges, P7_bridges, V7_bridges, g7_59, c7_runs, g7_110, c7_lossOf, P7_lossOf, V7_lossOf, g7_113, a7_1, w7_1, a7_2, w7_2, a7_3, w7_3, a7_4, w7_4, a7_5, w7_5, a7_6, w7_6, a7_7, w7_7, a7_8, w7_8, a7_9, w7_9, a7_10, w7_10, a7_11, w7_11, a7_12, w7_12, a7_13, w7_13, a7_14, w7_14, a7_15, w7_15, a7_16, w7_16, a7_17, w7_17, a7_18, w7_18, a7_19, w7_19, a7_20, w7_20, a7_21, w7_21, a7_22, w7_22, a7_23, w7_23, a7_24, w7_24, a7_25, w7_25, a7_26, w7_26, a7_27, w7_27, a7_28, w7_28, a7_29, w7_29, a7_30, w7_30, a7_31, w7_31, a7_32, w7_32, a7_33, w7_33, e_iconst, e_bipush, e_sipush, e_lconst_0, e_lconst_1, e_iload, e_iload_0, e_iload_1, e_iload_2, e_iload_3, e_lload, e_lload_0, e_lload_1, e_lload_2, e_lload_3, e_aload, e_aload_0, e_aload_1, e_aload_2, e_aload_3, e_istore, e_istore_0, e_istore_1, e_istore_2, e_istore_3, e_astore, e_astore_0, e_astore_1, e_astore_2, e_astore_3, e_lstore, e_lstore_0, e_lstore_1, e_lstore_2, e_lstore_3, e_iinc, e_iadd, e_isub, e_imul, e_ladd, e_lsub, e_lmul, e_idiv, e_irem, e_ldiv, e_lrem, e_ineg, e_lneg, e_iand, e_ior, e_ixor, e_ishl, e_ishr, e_iushr, e_lcmp, e_i2l, e_l2i, e_i2b, e_i2s, e_dup_i, e_dup_r, e_pop_i, e_pop_r, e_dup2_l, e_dup2_ir, e_dup2_ii, e_ifeq, e_ifne, e_iflt, e_ifge, e_ifgt, e_ifle, e_iceq, e_icne, e_iclt, e_icge, e_icgt, e_icle, e_goto, e_switch, e_invokevirtual, e_invokestatic, e_invokespecial, e_ret0, e_ret1, e_ret2, e_ret3, ldI_s, ldL_s, ldR_s, clO_s, ctP_s, ctS_s, mgo_0, mgo_s, pjc_s, pj_0, pj_s, lk_s, rm1_0, rm1_i, rm1_r, rm1_l, rm2_0, rm2_i, rm2_r, rm2_l, csL_s, lc_lt, lc_ge, lc_gt, lc_le, lc_eq, b01_0, b01_1, b01_01, b01_n, up2_o, up2_s, up2_u, ne_eq, reduceCtorEq, Nat.reduceAdd, Nat.reduceEqDiff, Nat.reduceLT, Nat.reduceLeDiff, Int.reduceLE, Int.reduceLT, Int.reduceAdd, Int.reduceNeg, Int.reduceMul, Int.reduceSub, Int.reduceEq, Int.reduceToNat, Int.reduceNatCast, Int.cast_ofNat_Int, ↓reduceIte, and_self, List.drop_succ_cons, List.drop_zero, List.take_succ_cons, List.take_zero, List.length_cons, List.length_nil, List.reverse_cons, List.reverse_nil, List.nil_append, List.cons_append, Option.toList, true_and, and_true, or_false, false_or, or_true, true_or, forall_const, Classical.not_not, not_false_eq_true, not_true_eq_false, false_implies, true_implies, implies_true, imp_self]
  refine ⟨hY, fun M1 hR => ?_⟩
  obtain ⟨k1, k2⟩ := tl_use hR
  refine hI_6 ((3 - 0) * 10 + 9) _ _ _ _ ⟨rfl, rfl, k1, fun p q => ?_, 0, rfl, by omega, fun x y hx => by omega, rfl⟩
  rw [nC_u1 (by decide) (by omega), nC_u1 (by decide) (by omega), k2]
  rfl
set_option maxHeartbeats 4000000 in
set_option maxRecDepth 100000 in
theorem at7_laysGame_6 {a b : Int} {M : Mm} {Q : Option AV → Mm → Prop} (hM : okM sh7 M) (h_a : i32 a) (h_b : i32 b) (hP : P7_laysGame a b M) (hQ : ∀ (M1 : Mm), R7_laysGame a b M M1 → Q none M1) {m : Nat} {a_ b_ x : Int} {M1 : Mm} (hM1 : okM sh7 M1) (h_a_ : i32 a_) (h_b_ : i32 b_) (h_x : i32 x) (hJ : J7_laysGame_6 a b M m a_ b_ x M1) (I_6 : List AV → Mm → Prop) (hI_6 : ∀ (m_ : Nat) (y_a_ : Int) (y_b_ : Int) (y_x : Int) (M2 : Mm), m_ < m → J7_laysGame_6 a b M m_ y_a_ y_b_ y_x M2 → I_6 [ar 0, ai y_a_, ai y_b_, ai y_x] M2) (I_17 : List AV → Mm → Prop) (hI_17 : ∀ (m_ : Nat) (y_a_ : Int) (y_b_ : Int) (y_x : Int) (y_y : Int) (M2 : Mm), m_ < m → J7_laysGame_17 a b M m_ y_a_ y_b_ y_x y_y M2 → I_17 [ar 0, ai y_a_, ai y_b_, ai y_x, ai y_y] M2) : wp (tb7 (csL cs7_laysGame)) sh7 5 0 cX7_laysGame [(6, [0, 1, 2, 3], I_6), (17, [0, 1, 2, 3, 4], I_17)] Q 400 6 [(0, ar 0), (1, ai a_), (2, ai b_), (3, ai x)] [] M1 := by
  obtain ⟨rfl, rfl, hk, hC, i, rfl, hi, hL, rfl⟩ := hJ
  obtain ⟨hY, ha, hb⟩ := id hP
  have h3 : 0 ≤ M 7 3 ∧ M 7 3 ≤ 3 := hY.2.2.2.1
  have e7 : M1 7 = M 7 := keep_has hk
  simp only [e_wp dX7_laysGame_0 rfl, e_wp dX7_laysGame_1 rfl, e_wp dX7_laysGame_4 rfl, e_wp dX7_laysGame_5 rfl, e_wp dX7_laysGame_6 rfl, e_wp dX7_laysGame_7 rfl, e_wp dX7_laysGame_8 rfl, e_wp dX7_laysGame_11 rfl, e_wp dX7_laysGame_14 rfl, e_wp dX7_laysGame_15 rfl, e_wp dX7_laysGame_17 rfl, e_wp dX7_laysGame_19 rfl, e_wp dX7_laysGame_20 rfl, e_wp dX7_laysGame_23 rfl, e_wp dX7_laysGame_26 rfl, e_wp dX7_laysGame_27 rfl, e_wp dX7_laysGame_30 rfl, e_wp dX7_laysGame_31 rfl, e_wp dX7_laysGame_32 rfl, e_wp dX7_laysGame_33 rfl, e_wp dX7_laysGame_34 rfl, e_wp dX7_laysGame_37 rfl, e_wp dX7_laysGame_38 rfl, e_wp dX7_laysGame_40 rfl, e_wp dX7_laysGame_41 rfl, e_wp dX7_laysGame_42 rfl, e_wp dX7_laysGame_45 rfl, e_wp dX7_laysGame_46 rfl, e_wp dX7_laysGame_49 rfl, e_wp dX7_laysGame_50 rfl, e_wp dX7_laysGame_51 rfl, e_wp dX7_laysGame_52 rfl, e_wp dX7_laysGame_54 rfl, e_wp dX7_laysGame_55 rfl, e_wp dX7_laysGame_56 rfl, e_wp dX7_laysGame_57 rfl, e_wp dX7_laysGame_60 rfl, e_wp dX7_laysGame_61 rfl, e_wp dX7_laysGame_62 rfl, e_wp dX7_laysGame_65 rfl, e_wp dX7_laysGame_66 rfl, e_wp dX7_laysGame_67 rfl, e_wp dX7_laysGame_68 rfl, e_wp dX7_laysGame_70 rfl, e_wp dX7_laysGame_71 rfl, e_wp dX7_laysGame_72 rfl, e_wp dX7_laysGame_73 rfl, e_wp dX7_laysGame_76 rfl, e_wp dX7_laysGame_77 rfl, e_wp dX7_laysGame_80 rfl, e_wp dX7_laysGame_83 rfl, e_wp dX7_laysGame_86 rfl, e_wp dX7_laysGame_89 rfl, c7_lays, cs7_laysGame, c7_bridges, P7_bridges, V7_bridges, g7_59, c7_runs, g7_110, c7_lossOf, P7_lossOf, V7_lossOf, g7_113, a7_1, w7_1, a7_2, w7_2, a7_3, w7_3, a7_4, w7_4, a7_5, w7_5, a7_6, w7_6, a7_7, w7_7, a7_8, w7_8, a7_9, w7_9, a7_10, w7_10, a7_11, w7_11, a7_12, w7_12, a7_13, w7_13, a7_14, w7_14, a7_15, w7_15, a7_16, w7_16, a7_17, w7_17, a7_18, w7_18, a7_19, w7_19, a7_20, w7_20, a7_21, w7_21, a7_22, w7_22, a7_23, w7_23, a7_24, w7_24, a7_25, w7_25, a7_26, w7_26, a7_27, w7_27, a7_28, w7_28, a7_29, w7_29, a7_30, w7_30, a7_31, w7_31, a7_32, w7_32, a7_33, w7_33, e_iconst, e_bipush, e_sipush, e_lconst_0, e_lconst_1, e_iload, e_iload_0, e_iload_1, e_iload_2, e_iload_3, e_lload, e_lload_0, e_lload_1, e_lload_2, e_lload_3, e_aload, e_aload_0, e_aload_1, e_aload_2, e_aload_3, e_istore, e_istore_0, e_istore_1, e_istore_2, e_istore_3, e_astore, e_astore_0, e_astore_1, e_astore_2, e_astore_3, e_lstore, e_lstore_0, e_lstore_1, e_lstore_2, e_lstore_3, e_iinc, e_iadd, e_isub, e_imul, e_ladd, e_lsub, e_lmul, e_idiv, e_irem, e_ldiv, e_lrem, e_ineg, e_lneg, e_iand, e_ior, e_ixor, e_ishl, e_ishr, e_iushr, e_lcmp, e_i2l, e_l2i, e_i2b, e_i2s, e_dup_i, e_dup_r, e_pop_i, e_pop_r, e_dup2_l, e_dup2_ir, e_dup2_ii, e_ifeq, e_ifne, e_iflt, e_ifge, e_ifgt, e_ifle, e_iceq, e_icne, e_iclt, e_icge, e_icgt, e_icle, e_goto, e_switch, e_invokevirtual, e_invokestatic, e_invokespecial, e_ret0, e_ret1, e_ret2, e_ret3, ldI_s, ldL_s, ldR_s, clO_s, ctP_s, ctS_s, mgo_0, mgo_s, pjc_s, pj_0, pj_s, lk_s, rm1_0, rm1_i, rm1_r, rm1_l, rm2_0, rm2_i, rm2_r, rm2_l, csL_s, lc_lt, lc_ge, lc_gt, lc_le, lc_eq, b01_0, b01_1, b01_01, b01_n, up2_o, up2_s, up2_u, ne_eq, reduceCtorEq, Nat.reduceAdd, Nat.reduceEqDiff, Nat.reduceLT, Nat.reduceLeDiff, Int.reduceLE, Int.reduceLT, Int.reduceAdd, Int.reduceNeg, Int.reduceMul, Int.reduceSub, Int.reduceEq, Int.reduceToNat, Int.reduceNatCast, Int.cast_ofNat_Int, ↓reduceIte, and_self, List.drop_succ_cons, List.drop_zero, List.take_succ_cons, List.take_zero, List.length_cons, List.length_nil, List.reverse_cons, List.reverse_nil, List.nil_append, List.cons_append, Option.toList, true_and, and_true, or_false, false_or, or_true, true_or, forall_const, Classical.not_not, not_false_eq_true, not_true_eq_false, false_implies, true_implies, implies_true, imp_self, e7]
  refine ⟨fun q => hQ _ ⟨hk, fun x y hx hy => hL x y (by omega) hy⟩, fun q => ?_⟩
  exact hI_17 ((3 - i) * 10 + (8 - 0)) _ _ _ _ _ (by omega) ⟨rfl, rfl, hk, hC, i, 0, rfl, rfl, q, by omega, fun x y hx hy => hL x y (by omega) hy, rfl⟩
set_option maxHeartbeats 4000000 in
set_option maxRecDepth 100000 in
theorem at7_laysGame_17 {a b : Int} {M : Mm} {Q : Option AV → Mm → Prop} (hM : okM sh7 M) (h_a : i32 a) (h_b : i32 b) (hP : P7_laysGame a b M) (hQ : ∀ (M1 : Mm), R7_laysGame a b M M1 → Q none M1) {m : Nat} {a_ b_ x y : Int} {M1 : Mm} (hM1 : okM sh7 M1) (h_a_ : i32 a_) (h_b_ : i32 b_) (h_x : i32 x) (h_y : i32 y) (hJ : J7_laysGame_17 a b M m a_ b_ x y M1) (I_6 : List AV → Mm → Prop) (hI_6 : ∀ (m_ : Nat) (y_a_ : Int) (y_b_ : Int) (y_x : Int) (M2 : Mm), m_ < m → J7_laysGame_6 a b M m_ y_a_ y_b_ y_x M2 → I_6 [ar 0, ai y_a_, ai y_b_, ai y_x] M2) (I_17 : List AV → Mm → Prop) (hI_17 : ∀ (m_ : Nat) (y_a_ : Int) (y_b_ : Int) (y_x : Int) (y_y : Int) (M2 : Mm), m_ < m → J7_laysGame_17 a b M m_ y_a_ y_b_ y_x y_y M2 → I_17 [ar 0, ai y_a_, ai y_b_, ai y_x, ai y_y] M2) : wp (tb7 (csL cs7_laysGame)) sh7 5 0 cX7_laysGame [(6, [0, 1, 2, 3], I_6), (17, [0, 1, 2, 3, 4], I_17)] Q 400 17 [(0, ar 0), (1, ai a_), (2, ai b_), (3, ai x), (4, ai y)] [] M1 := by
  obtain ⟨rfl, rfl, hk, hC, i, j, rfl, rfl, hi, hj, hL, rfl⟩ := hJ
  obtain ⟨hY, ha, hb⟩ := id hP
  have h3 : 0 ≤ M 7 3 ∧ M 7 3 ≤ 3 := hY.2.2.2.1
  have h4 : 0 ≤ M 7 4 ∧ M 7 4 ≤ 7 := hY.2.2.2.2.1
  have ha4 : a < M 7 4 := ha.2
  have hb4 : b < M 7 4 := hb.2
  have e7 : M1 7 = M 7 := keep_has hk
  have i1 : ((3 : Int) * i + j).toNat = 3 * i + j := by omega
  simp only [e_wp dX7_laysGame_0 rfl, e_wp dX7_laysGame_1 rfl, e_wp dX7_laysGame_4 rfl, e_wp dX7_laysGame_5 rfl, e_wp dX7_laysGame_6 rfl, e_wp dX7_laysGame_7 rfl, e_wp dX7_laysGame_8 rfl, e_wp dX7_laysGame_11 rfl, e_wp dX7_laysGame_14 rfl, e_wp dX7_laysGame_15 rfl, e_wp dX7_laysGame_17 rfl, e_wp dX7_laysGame_19 rfl, e_wp dX7_laysGame_20 rfl, e_wp dX7_laysGame_23 rfl, e_wp dX7_laysGame_26 rfl, e_wp dX7_laysGame_27 rfl, e_wp dX7_laysGame_30 rfl, e_wp dX7_laysGame_31 rfl, e_wp dX7_laysGame_32 rfl, e_wp dX7_laysGame_33 rfl, e_wp dX7_laysGame_34 rfl, e_wp dX7_laysGame_37 rfl, e_wp dX7_laysGame_38 rfl, e_wp dX7_laysGame_40 rfl, e_wp dX7_laysGame_41 rfl, e_wp dX7_laysGame_42 rfl, e_wp dX7_laysGame_45 rfl, e_wp dX7_laysGame_46 rfl, e_wp dX7_laysGame_49 rfl, e_wp dX7_laysGame_50 rfl, e_wp dX7_laysGame_51 rfl, e_wp dX7_laysGame_52 rfl, e_wp dX7_laysGame_54 rfl, e_wp dX7_laysGame_55 rfl, e_wp dX7_laysGame_56 rfl, e_wp dX7_laysGame_57 rfl, e_wp dX7_laysGame_60 rfl, e_wp dX7_laysGame_61 rfl, e_wp dX7_laysGame_62 rfl, e_wp dX7_laysGame_65 rfl, e_wp dX7_laysGame_66 rfl, e_wp dX7_laysGame_67 rfl, e_wp dX7_laysGame_68 rfl, e_wp dX7_laysGame_70 rfl, e_wp dX7_laysGame_71 rfl, e_wp dX7_laysGame_72 rfl, e_wp dX7_laysGame_73 rfl, e_wp dX7_laysGame_76 rfl, e_wp dX7_laysGame_77 rfl, e_wp dX7_laysGame_80 rfl, e_wp dX7_laysGame_83 rfl, e_wp dX7_laysGame_86 rfl, e_wp dX7_laysGame_89 rfl, c7_lays, cs7_laysGame, c7_bridges, P7_bridges, V7_bridges, g7_59, c7_runs, g7_110, c7_lossOf, P7_lossOf, V7_lossOf, g7_113, a7_1, w7_1, a7_2, w7_2, a7_3, w7_3, a7_4, w7_4, a7_5, w7_5, a7_6, w7_6, a7_7, w7_7, a7_8, w7_8, a7_9, w7_9, a7_10, w7_10, a7_11, w7_11, a7_12, w7_12, a7_13, w7_13, a7_14, w7_14, a7_15, w7_15, a7_16, w7_16, a7_17, w7_17, a7_18, w7_18, a7_19, w7_19, a7_20, w7_20, a7_21, w7_21, a7_22, w7_22, a7_23, w7_23, a7_24, w7_24, a7_25, w7_25, a7_26, w7_26, a7_27, w7_27, a7_28, w7_28, a7_29, w7_29, a7_30, w7_30, a7_31, w7_31, a7_32, w7_32, a7_33, w7_33, e_iconst, e_bipush, e_sipush, e_lconst_0, e_lconst_1, e_iload, e_iload_0, e_iload_1, e_iload_2, e_iload_3, e_lload, e_lload_0, e_lload_1, e_lload_2, e_lload_3, e_aload, e_aload_0, e_aload_1, e_aload_2, e_aload_3, e_istore, e_istore_0, e_istore_1, e_istore_2, e_istore_3, e_astore, e_astore_0, e_astore_1, e_astore_2, e_astore_3, e_lstore, e_lstore_0, e_lstore_1, e_lstore_2, e_lstore_3, e_iinc, e_iadd, e_isub, e_imul, e_ladd, e_lsub, e_lmul, e_idiv, e_irem, e_ldiv, e_lrem, e_ineg, e_lneg, e_iand, e_ior, e_ixor, e_ishl, e_ishr, e_iushr, e_lcmp, e_i2l, e_l2i, e_i2b, e_i2s, e_dup_i, e_dup_r, e_pop_i, e_pop_r, e_dup2_l, e_dup2_ir, e_dup2_ii, e_ifeq, e_ifne, e_iflt, e_ifge, e_ifgt, e_ifle, e_iceq, e_icne, e_iclt, e_icge, e_icgt, e_icle, e_goto, e_switch, e_invokevirtual, e_invokestatic, e_invokespecial, e_ret0, e_ret1, e_ret2, e_ret3, ldI_s, ldL_s, ldR_s, clO_s, ctP_s, ctS_s, mgo_0, mgo_s, pjc_s, pj_0, pj_s, lk_s, rm1_0, rm1_i, rm1_r, rm1_l, rm2_0, rm2_i, rm2_r, rm2_l, csL_s, lc_lt, lc_ge, lc_gt, lc_le, lc_eq, b01_0, b01_1, b01_01, b01_n, up2_o, up2_s, up2_u, ne_eq, reduceCtorEq, Nat.reduceAdd, Nat.reduceEqDiff, Nat.reduceLT, Nat.reduceLeDiff, Int.reduceLE, Int.reduceLT, Int.reduceAdd, Int.reduceNeg, Int.reduceMul, Int.reduceSub, Int.reduceEq, Int.reduceToNat, Int.reduceNatCast, Int.cast_ofNat_Int, ↓reduceIte, and_self, List.drop_succ_cons, List.drop_zero, List.take_succ_cons, List.take_zero, List.length_cons, List.length_nil, List.reverse_cons, List.reverse_nil, List.nil_append, List.cons_append, Option.toList, true_and, and_true, or_false, false_or, or_true, true_or, forall_const, Classical.not_not, not_false_eq_true, not_true_eq_false, false_implies, true_implies, implies_true, imp_self, e7, i1]
  refine ⟨fun q => ⟨by omega, hI_6 ((3 - (i + 1)) * 10 + 9) _ _ _ _ (by omega) ⟨rfl, rfl, hk, hC, i + 1, by omega, by omega, fun x y hx hy => hL x y (by omega) hy, rfl⟩⟩, fun q => ?_⟩
  have k3 : keepM M (up2 (up2 M1 15 a.toNat i) 15 b.toNat j) := keep_u (keep_u hk (by decide)) (by decide)
  have k4 : nC (vM M) (cM (up2 (up2 M1 15 a.toNat i) 15 b.toNat j)) = gamC (vM M) a.toNat b.toNat i j := by rw [by_cM, by_cM]; exact hC _ _
  have hok : okCf (vM M) (gamC (vM M) a.toNat b.toNat i j) := gam_ok hY ⟨by omega, hi⟩ ⟨by omega, q⟩
  refine ⟨by omega, by omega, run_pre hY k3 k4 hok, fun M2 hR => ?_⟩
  have hf := hR.1
  have e32 : M2 32 = M1 32 := (hf _ (by decide)).trans (by rw [up2_ne (by decide), up2_ne (by decide)])
  have e33 : M2 33 = M1 33 := (hf _ (by decide)).trans (by rw [up2_ne (by decide), up2_ne (by decide)])
  have ec : cM M2 = up2 (up2 (cM M1) 2 a.toNat i) 2 b.toNat j := by rw [cM_frm hf (by decide), by_cM, by_cM]
  obtain ⟨s1, s2, s3, s4⟩ := run_use k3 k4 hR
  have e8 : M2 8 = M 8 := s1.1 _ (by decide)
  obtain ⟨a1, a2, a3, a4⟩ := gpays_use hY hok gam_row s2 e8 (t := a.toNat) (by omega)
  obtain ⟨b1, b2, b3, b4⟩ := gpays_use hY hok gam_row s2 e8 (t := b.toNat) (by omega)
  have ea : ((a.toNat : Nat) : Int) = a := Int.toNat_of_nonneg ha.1
  have eb : ((b.toNat : Nat) : Int) = b := Int.toNat_of_nonneg hb.1
  rw [ea] at a1 a2
  rw [eb] at b1 b2
  have la : V7_paysOf a M2 + (if M2 22 a.toNat = -1 then 9 else 0) = lossP (vM M) (gamC (vM M) a.toNat b.toNat i j) a.toNat := by rw [a2, a4]; rfl
  have lb : V7_paysOf b M2 + (if M2 22 b.toNat = -1 then 9 else 0) = lossP (vM M) (gamC (vM M) a.toNat b.toNat i j) b.toNat := by rw [b2, b4]; rfl
  have ub : ∀ M3, M3 = up2 M2 32 (3 * i + j) (lossP (vM M) (gamC (vM M) a.toNat b.toNat i j) a.toNat) → P7_paysOf b M3 ∧ V7_paysOf b M3 + (if M3 22 b.toNat = -1 then 9 else 0) = lossP (vM M) (gamC (vM M) a.toNat b.toNat i j) b.toNat := by
    rintro M3 rfl
    exact ⟨b1, lb⟩
  have fin : ∀ y, y = lossP (vM M) (gamC (vM M) a.toNat b.toNat i j) b.toNat → I_17 [ar 0, ai a, ai b, ai i, ai (j + 1)] (up2 (up2 M2 32 (3 * i + j) (lossP (vM M) (gamC (vM M) a.toNat b.toNat i j) a.toNat)) 33 (3 * i + j) y) := by
    rintro y rfl
    refine hI_17 ((3 - i) * 10 + (8 - (j + 1))) _ _ _ _ _ (by omega) ⟨rfl, rfl, keep_u (keep_u s1 (by decide)) (by decide), fun p q => ?_, i, j + 1, rfl, by omega, hi, by omega, fun x y hx hy => ?_, rfl⟩
    · rw [cM_u (by decide) (by decide) (by decide) (by decide), cM_u (by decide) (by decide) (by decide) (by decide), ec, up2_uu]
      exact hC p q
    · by_cases e : x = i ∧ y = j
      · obtain ⟨rfl, rfl⟩ := e
        rw [up2_o (by decide), up2_s, up2_s]
        exact ⟨rfl, rfl⟩
      · rw [up2_o (show 32 ≠ 33 by decide), up2_n (show 3 * x + y ≠ 3 * i + j by omega), up2_n (show 3 * x + y ≠ 3 * i + j by omega), up2_o (show 33 ≠ 32 by decide), e32, e33]
        exact hL x y (by omega) hy
  rw [la]
  obtain ⟨u1, u2⟩ := ub _ rfl
  repeat (refine And.intro (by omega) ?_)
  exact fin _ u2
set_option maxHeartbeats 4000000 in
set_option maxRecDepth 100000 in
theorem m7_laysGame : MOK cl7 sh7 tyl7 [] 4 yX7_laysGame cX7_laysGame 5 none sp7_laysGame := by
  refine mok_of (own := RX7) (tb := tb7 (csL cs7_laysGame)) (rt := 0) (fuel := 400) (fun avs M Q => [(6, [0, 1, 2, 3], fun m_ vs M1 => ∃ y_a_ : Int, ∃ y_b_ : Int, ∃ y_x : Int, vs = [ar 0, ai y_a_, ai y_b_, ai y_x] ∧ J7_laysGame_6 (pa true [0, 0] avs 0) (pa true [0, 0] avs 1) M m_ y_a_ y_b_ y_x M1), (17, [0, 1, 2, 3, 4], fun m_ vs M1 => ∃ y_a_ : Int, ∃ y_b_ : Int, ∃ y_x : Int, ∃ y_y : Int, vs = [ar 0, ai y_a_, ai y_b_, ai y_x, ai y_y] ∧ J7_laysGame_17 (pa true [0, 0] avs 0) (pa true [0, 0] avs 1) M m_ y_a_ y_b_ y_x y_y M1)]) (by decide) rfl nil_nw (tbOK7 _) rfl (csL_all ?_) ?_ ?_ ?_
  · intro q hq
    simp only [cs7_laysGame, List.mem_cons, List.not_mem_nil, or_false] at hq
    rcases hq with rfl | rfl | rfl | rfl
    · exact cg7_lays (by decide)
    · exact cg7_bridges (by decide)
    · exact cg7_runs (by decide)
    · exact cg7_lossOf (by decide)
  · intro avs M Q hsp
    obtain ⟨xs, hx⟩ := spV_un _ _ _ hsp
    obtain ⟨e, hl⟩ := unA_mkT hx
    obtain ⟨a, b, rfl⟩ := len2 hl
    have e : avs = [ar 0, ai a, ai b] := e
    subst e
    simp [szL, isL]
  · intro avs M Q hM hav hsp
    obtain ⟨xs, hx⟩ := spV_un _ _ _ hsp
    obtain ⟨e, hl⟩ := unA_mkT hx
    obtain ⟨a, b, rfl⟩ := len2 hl
    have e : avs = [ar 0, ai a, ai b] := e
    subst e
    exact in7_laysGame hM (hav (ai a) (by simp)) (hav (ai b) (by simp)) hsp.1 hsp.2 _ (fun m_ y_a_ y_b_ y_x M2 hJ => ⟨m_, y_a_, y_b_, y_x, rfl, hJ⟩) _ (fun m_ y_a_ y_b_ y_x y_y M2 hJ => ⟨m_, y_a_, y_b_, y_x, y_y, rfl, hJ⟩)
  · intro avs M Q hM hav hsp q hq m_ vs M1 hM1 hv hJ
    obtain ⟨xs, hx⟩ := spV_un _ _ _ hsp
    obtain ⟨e, hl⟩ := unA_mkT hx
    obtain ⟨a, b, rfl⟩ := len2 hl
    have e : avs = [ar 0, ai a, ai b] := e
    subst e
    simp only [List.mem_cons, List.not_mem_nil, or_false] at hq
    rcases hq with rfl | rfl
    · obtain ⟨y_a_, y_b_, y_x, rfl, hJ⟩ := hJ
      exact at7_laysGame_6 hM (hav (ai a) (by simp)) (hav (ai b) (by simp)) hsp.1 hsp.2 hM1 (hv (1, ai y_a_) (List.mem_of_getElem? (i := 1) rfl)) (hv (2, ai y_b_) (List.mem_of_getElem? (i := 2) rfl)) (hv (3, ai y_x) (List.mem_of_getElem? (i := 3) rfl)) hJ _ (fun m2 z_a_ z_b_ z_x M2 hm hJ2 => ⟨m2, hm, z_a_, z_b_, z_x, rfl, hJ2⟩) _ (fun m2 z_a_ z_b_ z_x z_y M2 hm hJ2 => ⟨m2, hm, z_a_, z_b_, z_x, z_y, rfl, hJ2⟩)
    · obtain ⟨y_a_, y_b_, y_x, y_y, rfl, hJ⟩ := hJ
      exact at7_laysGame_17 hM (hav (ai a) (by simp)) (hav (ai b) (by simp)) hsp.1 hsp.2 hM1 (hv (1, ai y_a_) (List.mem_of_getElem? (i := 1) rfl)) (hv (2, ai y_b_) (List.mem_of_getElem? (i := 2) rfl)) (hv (3, ai y_x) (List.mem_of_getElem? (i := 3) rfl)) (hv (4, ai y_y) (List.mem_of_getElem? (i := 4) rfl)) hJ _ (fun m2 z_a_ z_b_ z_x M2 hm hJ2 => ⟨m2, hm, z_a_, z_b_, z_x, rfl, hJ2⟩) _ (fun m2 z_a_ z_b_ z_x z_y M2 hm hJ2 => ⟨m2, hm, z_a_, z_b_, z_x, z_y, rfl, hJ2⟩)
theorem cg7_laysGame {lvl : Nat} (h : 4 < lvl) : CG RX7 cl7 sh7 tyl7 [] lvl 1 466 3 sp7_laysGame := cg_V (sg := [0, 0]) nil_nw spV_mono spV_un m7_laysGame h rfl (by decide) rfl rfl ⟨rfl, by decide, by decide, rfl⟩ q2187 q2189 qs120 q138 q2190
abbrev restP (n : Nat) (f g : Nat → Nat → Int) (x y : Nat) : Prop := ∀ k : Nat, k < n → f x y ≤ f k y ∧ g x y ≤ g x k
def P7_isRest (x : Int) (y : Int) (M : Mm) : Prop := (0 ≤ M 7 3 ∧ M 7 3 ≤ 3) ∧ (0 ≤ x ∧ x < M 7 3) ∧ (0 ≤ y ∧ y < M 7 3)
def V7_isRest (x : Int) (y : Int) (M : Mm) : Int := b01 (restP (M 7 3).toNat (fun i j => M 32 (3 * i + j)) (fun i j => M 33 (3 * i + j)) x.toNat y.toNat)
def sp7_isRest : Spec := spF true [0, 0] 1 (fun x M => P7_isRest (x 0) (x 1) M) (fun x M => V7_isRest (x 0) (x 1) M)
theorem c7_isRest {x y : Int} {M : Mm} {Q : Option AV → Mm → Prop} : sp7_isRest [ar 0, ai x, ai y] M Q = (P7_isRest x y M ∧ Q (some (ai (V7_isRest x y M))) M) := rfl
def cs7_isRest : List (Nat × Nat × Nat × Spec) := [(283, 1, 1, sp7_bridges)]
def J7_isRest_2 (x : Int) (y : Int) (M : Mm) (m : Nat) (x_ : Int) (y_ : Int) (k : Int) (M1 : Mm) : Prop := x = x_ ∧ y = y_ ∧ M = M1 ∧ ∃ a : Nat, k = a ∧ (a : Int) ≤ M 7 3 ∧ (∀ j : Nat, j < a → M 32 (3 * x.toNat + y.toNat) ≤ M 32 (3 * j + y.toNat) ∧ M 33 (3 * x.toNat + y.toNat) ≤ M 33 (3 * x.toNat + j)) ∧ m = 3 - a
set_option maxHeartbeats 4000000 in
set_option maxRecDepth 100000 in
theorem in7_isRest {x y : Int} {M : Mm} {Q : Option AV → Mm → Prop} (hM : okM sh7 M) (h_x : i32 x) (h_y : i32 y) (hP : P7_isRest x y M) (hQ : Q (some (ai (V7_isRest x y M))) M) (I_2 : List AV → Mm → Prop) (hI_2 : ∀ (m_ : Nat) (y_x_ : Int) (y_y_ : Int) (y_k : Int) (M2 : Mm), J7_isRest_2 x y M m_ y_x_ y_y_ y_k M2 → I_2 [ar 0, ai y_x_, ai y_y_, ai y_k] M2) : wp (tb7 (csL cs7_isRest)) sh7 4 2 cX7_isRest [(2, [0, 1, 2, 3], I_2)] Q 400 0 [(0, ar 0), (1, ai x), (2, ai y)] [] M := by
  simp only [e_wp dX7_isRest_0 rfl, e_wp dX7_isRest_1 rfl, e_wp dX7_isRest_2 rfl, e_wp dX7_isRest_3 rfl, e_wp dX7_isRest_4 rfl, e_wp dX7_isRest_7 rfl, e_wp dX7_isRest_10 rfl, e_wp dX7_isRest_11 rfl, e_wp dX7_isRest_14 rfl, e_wp dX7_isRest_15 rfl, e_wp dX7_isRest_16 rfl, e_wp dX7_isRest_17 rfl, e_wp dX7_isRest_18 rfl, e_wp dX7_isRest_19 rfl, e_wp dX7_isRest_20 rfl, e_wp dX7_isRest_21 rfl, e_wp dX7_isRest_24 rfl, e_wp dX7_isRest_25 rfl, e_wp dX7_isRest_26 rfl, e_wp dX7_isRest_27 rfl, e_wp dX7_isRest_28 rfl, e_wp dX7_isRest_29 rfl, e_wp dX7_isRest_30 rfl, e_wp dX7_isRest_33 rfl, e_wp dX7_isRest_34 rfl, e_wp dX7_isRest_37 rfl, e_wp dX7_isRest_38 rfl, e_wp dX7_isRest_39 rfl, e_wp dX7_isRest_40 rfl, e_wp dX7_isRest_41 rfl, e_wp dX7_isRest_42 rfl, e_wp dX7_isRest_43 rfl, e_wp dX7_isRest_44 rfl, e_wp dX7_isRest_47 rfl, e_wp dX7_isRest_48 rfl, e_wp dX7_isRest_49 rfl, e_wp dX7_isRest_50 rfl, e_wp dX7_isRest_51 rfl, e_wp dX7_isRest_52 rfl, e_wp dX7_isRest_53 rfl, e_wp dX7_isRest_56 rfl, e_wp dX7_isRest_57 rfl, e_wp dX7_isRest_58 rfl, e_wp dX7_isRest_61 rfl, e_wp dX7_isRest_64 rfl, e_wp dX7_isRest_65 rfl, c7_bridges, P7_bridges, V7_bridges, cs7_isRest, g7_110, g7_113, a7_1, w7_1, a7_2, w7_2, a7_3, w7_3, a7_4, w7_4, a7_5, w7_5, a7_6, w7_6, a7_7, w7_7, a7_8, w7_8, a7_9, w7_9, a7_10, w7_10, a7_11, w7_11, a7_12, w7_12, a7_13, w7_13, a7_14, w7_14, a7_15, w7_15, a7_16, w7_16, a7_17, w7_17, a7_18, w7_18, a7_19, w7_19, a7_20, w7_20, a7_21, w7_21, a7_22, w7_22, a7_23, w7_23, a7_24, w7_24, a7_25, w7_25, a7_26, w7_26, a7_27, w7_27, a7_28, w7_28, a7_29, w7_29, a7_30, w7_30, a7_31, w7_31, a7_32, w7_32, a7_33, w7_33, e_iconst, e_bipush, e_sipush, e_lconst_0, e_lconst_1, e_iload, e_iload_0, e_iload_1, e_iload_2, e_iload_3, e_lload, e_lload_0, e_lload_1, e_lload_2, e_lload_3, e_aload, e_aload_0, e_aload_1, e_aload_2, e_aload_3, e_istore, e_istore_0, e_istore_1, e_istore_2, e_istore_3, e_astore, e_astore_0, e_astore_1, e_astore_2, e_astore_3, e_lstore, e_lstore_0, e_lstore_1, e_lstore_2, e_lstore_3, e_iinc, e_iadd, e_isub, e_imul, e_ladd, e_lsub, e_lmul, e_idiv, e_irem, e_ldiv, e_lrem, e_ineg, e_lneg, e_iand, e_ior, e_ixor, e_ishl, e_ishr, e_iushr, e_lcmp, e_i2l, e_l2i, e_i2b, e_i2s, e_dup_i, e_dup_r, e_pop_i, e_pop_r, e_dup2_l, e_dup2_ir, e_dup2_ii, e_ifeq, e_ifne, e_iflt, e_ifge, e_ifgt, e_ifle, e_iceq, e_icne, e_iclt, e_icge, e_icgt, e_icle, e_goto, e_switch, e_invokevirtual, e_invokestatic, e_invokespecial, e_ret0, e_ret1, e_ret2, e_ret3, ldI_s, ldL_s, ldR_s, clO_s, ctP_s, ctS_s, mgo_0, mgo_s, pjc_s, pj_0, pj_s, lk_s, rm1_0, rm1_i, rm1_r, rm1_l, rm2_0, rm2_i, rm2_r, rm2_l, csL_s, lc_lt, lc_ge, lc_gt, lc_le, lc_eq, b01_0, b01_1, b01_01, b01_n, up2_o, up2_s, up2_u, ne_eq, reduceCtorEq, Nat.reduceAdd, Nat.reduceEqDiff, Nat.reduceLT, Nat.reduceLeDiff, Int.reduceLE, Int.reduceLT, Int.reduceAdd, Int.reduceNeg, Int.reduceMul, Int.reduceSub, Int.reduceEq, Int.reduceToNat, Int.reduceNatCast, Int.cast_ofNat_Int, ↓reduceIte, and_self, List.drop_succ_cons, List.drop_zero, List.take_succ_cons, List.take_zero, List.length_cons, List.length_nil, List.reverse_cons, List.reverse_nil, List.nil_append, List.cons_append, Option.toList, true_and, and_true, or_false, false_or, or_true, true_or, forall_const, Classical.not_not, not_false_eq_true, not_true_eq_false, false_implies, true_implies, implies_true, imp_self]
  exact hI_2 (3 - 0) _ _ _ _ ⟨rfl, rfl, rfl, 0, rfl, hP.1.1, fun j hj => by omega, rfl⟩
set_option maxHeartbeats 4000000 in
set_option maxRecDepth 100000 in
theorem at7_isRest_2 {x y : Int} {M : Mm} {Q : Option AV → Mm → Prop} (hM : okM sh7 M) (h_x : i32 x) (h_y : i32 y) (hP : P7_isRest x y M) (hQ : Q (some (ai (V7_isRest x y M))) M) {m : Nat} {x_ y_ k : Int} {M1 : Mm} (hM1 : okM sh7 M1) (h_x_ : i32 x_) (h_y_ : i32 y_) (h_k : i32 k) (hJ : J7_isRest_2 x y M m x_ y_ k M1) (I_2 : List AV → Mm → Prop) (hI_2 : ∀ (m_ : Nat) (y_x_ : Int) (y_y_ : Int) (y_k : Int) (M2 : Mm), m_ < m → J7_isRest_2 x y M m_ y_x_ y_y_ y_k M2 → I_2 [ar 0, ai y_x_, ai y_y_, ai y_k] M2) : wp (tb7 (csL cs7_isRest)) sh7 4 2 cX7_isRest [(2, [0, 1, 2, 3], I_2)] Q 400 2 [(0, ar 0), (1, ai x_), (2, ai y_), (3, ai k)] [] M1 := by
  obtain ⟨rfl, rfl, rfl, a, rfl, ha, hL, rfl⟩ := hJ
  obtain ⟨h3, hx, hy⟩ := id hP
  have i1 : ((3 : Int) * a + y).toNat = 3 * a + y.toNat := by omega
  have i2 : ((3 : Int) * x + y).toNat = 3 * x.toNat + y.toNat := by omega
  have i3 : ((3 : Int) * x + a).toNat = 3 * x.toNat + a := by omega
  have bad : ((a : Int) < M 7 3) → ¬ (M 32 (3 * x.toNat + y.toNat) ≤ M 32 (3 * a + y.toNat) ∧ M 33 (3 * x.toNat + y.toNat) ≤ M 33 (3 * x.toNat + a)) → V7_isRest x y M = 0 := fun q z => b01_f fun w => z (w a (by omega))
  simp only [e_wp dX7_isRest_0 rfl, e_wp dX7_isRest_1 rfl, e_wp dX7_isRest_2 rfl, e_wp dX7_isRest_3 rfl, e_wp dX7_isRest_4 rfl, e_wp dX7_isRest_7 rfl, e_wp dX7_isRest_10 rfl, e_wp dX7_isRest_11 rfl, e_wp dX7_isRest_14 rfl, e_wp dX7_isRest_15 rfl, e_wp dX7_isRest_16 rfl, e_wp dX7_isRest_17 rfl, e_wp dX7_isRest_18 rfl, e_wp dX7_isRest_19 rfl, e_wp dX7_isRest_20 rfl, e_wp dX7_isRest_21 rfl, e_wp dX7_isRest_24 rfl, e_wp dX7_isRest_25 rfl, e_wp dX7_isRest_26 rfl, e_wp dX7_isRest_27 rfl, e_wp dX7_isRest_28 rfl, e_wp dX7_isRest_29 rfl, e_wp dX7_isRest_30 rfl, e_wp dX7_isRest_33 rfl, e_wp dX7_isRest_34 rfl, e_wp dX7_isRest_37 rfl, e_wp dX7_isRest_38 rfl, e_wp dX7_isRest_39 rfl, e_wp dX7_isRest_40 rfl, e_wp dX7_isRest_41 rfl, e_wp dX7_isRest_42 rfl, e_wp dX7_isRest_43 rfl, e_wp dX7_isRest_44 rfl, e_wp dX7_isRest_47 rfl, e_wp dX7_isRest_48 rfl, e_wp dX7_isRest_49 rfl, e_wp dX7_isRest_50 rfl, e_wp dX7_isRest_51 rfl, e_wp dX7_isRest_52 rfl, e_wp dX7_isRest_53 rfl, e_wp dX7_isRest_56 rfl, e_wp dX7_isRest_57 rfl, e_wp dX7_isRest_58 rfl, e_wp dX7_isRest_61 rfl, e_wp dX7_isRest_64 rfl, e_wp dX7_isRest_65 rfl, c7_bridges, P7_bridges, V7_bridges, cs7_isRest, g7_110, g7_113, a7_1, w7_1, a7_2, w7_2, a7_3, w7_3, a7_4, w7_4, a7_5, w7_5, a7_6, w7_6, a7_7, w7_7, a7_8, w7_8, a7_9, w7_9, a7_10, w7_10, a7_11, w7_11, a7_12, w7_12, a7_13, w7_13, a7_14, w7_14, a7_15, w7_15, a7_16, w7_16, a7_17, w7_17, a7_18, w7_18, a7_19, w7_19, a7_20, w7_20, a7_21, w7_21, a7_22, w7_22, a7_23, w7_23, a7_24, w7_24, a7_25, w7_25, a7_26, w7_26, a7_27, w7_27, a7_28, w7_28, a7_29, w7_29, a7_30, w7_30, a7_31, w7_31, a7_32, w7_32, a7_33, w7_33, e_iconst, e_bipush, e_sipush, e_lconst_0, e_lconst_1, e_iload, e_iload_0, e_iload_1, e_iload_2, e_iload_3, e_lload, e_lload_0, e_lload_1, e_lload_2, e_lload_3, e_aload, e_aload_0, e_aload_1, e_aload_2, e_aload_3, e_istore, e_istore_0, e_istore_1, e_istore_2, e_istore_3, e_astore, e_astore_0, e_astore_1, e_astore_2, e_astore_3, e_lstore, e_lstore_0, e_lstore_1, e_lstore_2, e_lstore_3, e_iinc, e_iadd, e_isub, e_imul, e_ladd, e_lsub, e_lmul, e_idiv, e_irem, e_ldiv, e_lrem, e_ineg, e_lneg, e_iand, e_ior, e_ixor, e_ishl, e_ishr, e_iushr, e_lcmp, e_i2l, e_l2i, e_i2b, e_i2s, e_dup_i, e_dup_r, e_pop_i, e_pop_r, e_dup2_l, e_dup2_ir, e_dup2_ii, e_ifeq, e_ifne, e_iflt, e_ifge, e_ifgt, e_ifle, e_iceq, e_icne, e_iclt, e_icge, e_icgt, e_icle, e_goto, e_switch, e_invokevirtual, e_invokestatic, e_invokespecial, e_ret0, e_ret1, e_ret2, e_ret3, ldI_s, ldL_s, ldR_s, clO_s, ctP_s, ctS_s, mgo_0, mgo_s, pjc_s, pj_0, pj_s, lk_s, rm1_0, rm1_i, rm1_r, rm1_l, rm2_0, rm2_i, rm2_r, rm2_l, csL_s, lc_lt, lc_ge, lc_gt, lc_le, lc_eq, b01_0, b01_1, b01_01, b01_n, up2_o, up2_s, up2_u, ne_eq, reduceCtorEq, Nat.reduceAdd, Nat.reduceEqDiff, Nat.reduceLT, Nat.reduceLeDiff, Int.reduceLE, Int.reduceLT, Int.reduceAdd, Int.reduceNeg, Int.reduceMul, Int.reduceSub, Int.reduceEq, Int.reduceToNat, Int.reduceNatCast, Int.cast_ofNat_Int, ↓reduceIte, and_self, List.drop_succ_cons, List.drop_zero, List.take_succ_cons, List.take_zero, List.length_cons, List.length_nil, List.reverse_cons, List.reverse_nil, List.nil_append, List.cons_append, Option.toList, true_and, and_true, or_false, false_or, or_true, true_or, forall_const, Classical.not_not, not_false_eq_true, not_true_eq_false, false_implies, true_implies, implies_true, imp_self, i1, i2, i3]
  refine ⟨fun q => qeq hQ (b01_t fun j hj => hL j (by omega)), fun q => ?_⟩
  have b := bad q
  (repeat' (first | (intro _) | (refine And.intro ?_ ?_))) <;> first | omega | exact qeq hQ (b (by omega)) | skip
  refine hI_2 (3 - (a + 1)) _ _ _ _ (by omega) ⟨rfl, rfl, rfl, a + 1, by omega, by omega, fun j hj => ?_, rfl⟩
  by_cases e : j = a
  · rw [e]; omega
  · exact hL j (by omega)
set_option maxHeartbeats 4000000 in
set_option maxRecDepth 100000 in
theorem m7_isRest : MOK cl7 sh7 tyl7 [] 1 yX7_isRest cX7_isRest 4 (some .boolean) sp7_isRest := by
  refine mok_of (own := RX7) (tb := tb7 (csL cs7_isRest)) (rt := 2) (fuel := 400) (fun avs M Q => [(2, [0, 1, 2, 3], fun m_ vs M1 => ∃ y_x_ : Int, ∃ y_y_ : Int, ∃ y_k : Int, vs = [ar 0, ai y_x_, ai y_y_, ai y_k] ∧ J7_isRest_2 (pa true [0, 0] avs 0) (pa true [0, 0] avs 1) M m_ y_x_ y_y_ y_k M1)]) (by decide) rfl nil_nw (tbOK7 _) rfl (csL_all ?_) ?_ ?_ ?_
  · intro q hq
    simp only [cs7_isRest, List.mem_cons, List.not_mem_nil, or_false] at hq
    rcases hq with rfl
    · exact cg7_bridges (by decide)
  · intro avs M Q hsp
    obtain ⟨xs, hx⟩ := spF_un _ _ _ hsp
    obtain ⟨e, hl⟩ := unA_mkT hx
    obtain ⟨x, y, rfl⟩ := len2 hl
    have e : avs = [ar 0, ai x, ai y] := e
    subst e
    simp [szL, isL]
  · intro avs M Q hM hav hsp
    obtain ⟨xs, hx⟩ := spF_un _ _ _ hsp
    obtain ⟨e, hl⟩ := unA_mkT hx
    obtain ⟨x, y, rfl⟩ := len2 hl
    have e : avs = [ar 0, ai x, ai y] := e
    subst e
    exact in7_isRest hM (hav (ai x) (by simp)) (hav (ai y) (by simp)) hsp.1 hsp.2 _ (fun m_ y_x_ y_y_ y_k M2 hJ => ⟨m_, y_x_, y_y_, y_k, rfl, hJ⟩)
  · intro avs M Q hM hav hsp q hq m_ vs M1 hM1 hv hJ
    obtain ⟨xs, hx⟩ := spF_un _ _ _ hsp
    obtain ⟨e, hl⟩ := unA_mkT hx
    obtain ⟨x, y, rfl⟩ := len2 hl
    have e : avs = [ar 0, ai x, ai y] := e
    subst e
    simp only [List.mem_cons, List.not_mem_nil, or_false] at hq
    rcases hq with rfl
    · obtain ⟨y_x_, y_y_, y_k, rfl, hJ⟩ := hJ
      exact at7_isRest_2 hM (hav (ai x) (by simp)) (hav (ai y) (by simp)) hsp.1 hsp.2 hM1 (hv (1, ai y_x_) (List.mem_of_getElem? (i := 1) rfl)) (hv (2, ai y_y_) (List.mem_of_getElem? (i := 2) rfl)) (hv (3, ai y_k) (List.mem_of_getElem? (i := 3) rfl)) hJ _ (fun m2 z_x_ z_y_ z_k M2 hm hJ2 => ⟨m2, hm, z_x_, z_y_, z_k, rfl, hJ2⟩)
theorem cg7_isRest {lvl : Nat} (h : 1 < lvl) : CG RX7 cl7 sh7 tyl7 [] lvl 1 469 3 sp7_isRest := cg_V (sg := [0, 0]) nil_nw spF_mono spF_un m7_isRest h rfl (by decide) rfl rfl ⟨rfl, by decide, by decide, rfl⟩ q2195 q2197 qs122 q138 q2198
theorem rest_eq {n : Nat} {f g f' g' : Nat → Nat → Int} {x y : Nat} (hx : x < n) (hy : y < n) (hf : ∀ i j, i < n → j < n → f i j = f' i j) (hg : ∀ i j, i < n → j < n → g i j = g' i j) : restP n f g x y ↔ restP n f' g' x y := by
  constructor
  · intro h k hk
    rw [← hf x y hx hy, ← hf k y hk hy, ← hg x y hx hy, ← hg x k hx hk]
    exact h k hk
  · intro h k hk
    show f x y ≤ f k y ∧ g x y ≤ g x k
    rw [hf x y hx hy, hf k y hk hy, hg x y hx hy, hg x k hx hk]
    exact h k hk
abbrev gRest (V : Vy) (a b : Nat) (x y : Nat) : Prop := restP (V 0 3).toNat (fun i j => lossP V (gamC V a b i j) a) (fun i j => lossP V (gamC V a b i j) b) x y
/-- choices that rest, of a first x, in order -/
def resY (V : Vy) (a b x : Nat) : Nat → List Int := catN (fun y => if gRest V a b x y then [10 * (x : Int) + y] else [])
def resX (V : Vy) (a b : Nat) : Nat → List Int := catN (fun x => resY V a b x (V 0 3).toNat)
theorem resY_len {V : Vy} {a b x n : Nat} : (resY V a b x n).length ≤ n := by
  have := catN_len (f := fun y => if gRest V a b x y then [10 * (x : Int) + y] else []) (B := 1) (n := n) (fun k _ => by split <;> simp)
  show (catN _ n).length ≤ n
  omega
theorem resX_len {V : Vy} {a b n : Nat} (h : V 0 3 ≤ 3) : (resX V a b n).length ≤ n * 3 := catN_len fun k _ => by
  have := @resY_len V a b k (V 0 3).toNat
  omega
abbrev twoP (V : Vy) (a b : Int) : Prop := isC V a ∧ isC V b ∧ ¬ a = b
def A_rests (V : Vy) (a b : Int) : Int := if twoP V a b then (resX V a.toNat b.toNat (V 0 3).toNat).length else -2
def A_rest (V : Vy) (a b : Int) : Int := if twoP V a b then (resX V a.toNat b.toNat (V 0 3).toNat).headD (-1) else -2
theorem gam_use {M M1 : Mm} {a b : Int} (hR : R7_laysGame a b (up2 M 0 0 0) M1) (hY : okY (vM M)) : keepM M M1 ∧ M1 7 = M 7 ∧ ∀ x y : Nat, (x : Int) < M 7 3 → (y : Int) < M 7 3 → (restP (M 7 3).toNat (fun i j => M1 32 (3 * i + j)) (fun i j => M1 33 (3 * i + j)) x y ↔ gRest (vM M) a.toNat b.toNat x y) := by
  have hk0 : keepM M (up2 M 0 0 0) := keep_u0 keep_rf (by decide)
  have hV : vM (up2 M 0 0 0) = vM M := keep_v hk0 0
  obtain ⟨h1, h2⟩ := hR
  rw [hV] at h2
  have h3 : 0 ≤ M 7 3 ∧ M 7 3 ≤ 3 := hY.2.2.2.1
  refine ⟨keep_tr hk0 h1, keep_has (keep_tr hk0 h1), fun x y hx hy => ?_⟩
  refine rest_eq (by omega) (by omega) (fun i j hi hj => ?_) (fun i j hi hj => ?_)
  · exact (h2 i j (by rw [show (up2 M 0 0 0) 7 = M 7 from up2_ne (by decide)]; omega) (by rw [show (up2 M 0 0 0) 7 = M 7 from up2_ne (by decide)]; omega)).1
  · exact (h2 i j (by rw [show (up2 M 0 0 0) 7 = M 7 from up2_ne (by decide)]; omega) (by rw [show (up2 M 0 0 0) 7 = M 7 from up2_ne (by decide)]; omega)).2
def P7_rests (a : Int) (b : Int) (M : Mm) : Prop := okY (vM M)
def R7_rests (a : Int) (b : Int) (M : Mm) (v : Int) (M1 : Mm) : Prop := keepM M M1 ∧ v = A_rests (vM M) a b
def sp7_rests : Spec := spR true [0, 0] 1 (fun x M => P7_rests (x 0) (x 1) M) (fun x M v M1 => R7_rests (x 0) (x 1) M v M1)
theorem c7_rests {a b : Int} {M : Mm} {Q : Option AV → Mm → Prop} : sp7_rests [ar 0, ai a, ai b] M Q = (P7_rests a b M ∧ ∀ (v : Int) (M1 : Mm), R7_rests a b M v M1 → Q (some (ai v)) M1) := rfl
def cs7_rests : List (Nat × Nat × Nat × Spec) := [(463, 1, 3, sp7_areTwo), (466, 1, 3, sp7_laysGame), (283, 1, 1, sp7_bridges), (469, 1, 3, sp7_isRest)]
def J7_rests_28 (a : Int) (b : Int) (M : Mm) (m : Nat) (n : Int) (x : Int) (M1 : Mm) : Prop := twoP (vM M) a b ∧ keepM M M1 ∧ (∀ x y : Nat, (x : Int) < M 7 3 → (y : Int) < M 7 3 → (restP (M 7 3).toNat (fun i j => M1 32 (3 * i + j)) (fun i j => M1 33 (3 * i + j)) x y ↔ gRest (vM M) a.toNat b.toNat x y)) ∧ ∃ i : Nat, x = i ∧ (i : Int) ≤ M 7 3 ∧ n = (resX (vM M) a.toNat b.toNat i).length ∧ m = (3 - i) * 10 + 9
def J7_rests_40 (a : Int) (b : Int) (M : Mm) (m : Nat) (n : Int) (x : Int) (y : Int) (M1 : Mm) : Prop := twoP (vM M) a b ∧ keepM M M1 ∧ (∀ x y : Nat, (x : Int) < M 7 3 → (y : Int) < M 7 3 → (restP (M 7 3).toNat (fun i j => M1 32 (3 * i + j)) (fun i j => M1 33 (3 * i + j)) x y ↔ gRest (vM M) a.toNat b.toNat x y)) ∧ ∃ i j : Nat, x = i ∧ y = j ∧ (i : Int) < M 7 3 ∧ (j : Int) ≤ M 7 3 ∧ n = ((resX (vM M) a.toNat b.toNat i).length : Int) + (resY (vM M) a.toNat b.toNat i j).length ∧ m = (3 - i) * 10 + (8 - j)
set_option maxHeartbeats 4000000 in
set_option maxRecDepth 100000 in
theorem in7_rests {a b : Int} {M : Mm} {Q : Option AV → Mm → Prop} (hM : okM sh7 M) (h_a : i32 a) (h_b : i32 b) (hP : P7_rests a b M) (hQ : ∀ (v : Int) (M1 : Mm), R7_rests a b M v M1 → Q (some (ai v)) M1) (I_28 : List AV → Mm → Prop) (hI_28 : ∀ (m_ : Nat) (y_n : Int) (y_x : Int) (M2 : Mm), J7_rests_28 a b M m_ y_n y_x M2 → I_28 [ar 0, ai y_n, ai y_x] M2) (I_40 : List AV → Mm → Prop) (hI_40 : ∀ (m_ : Nat) (y_n : Int) (y_x : Int) (y_y : Int) (M2 : Mm), J7_rests_40 a b M m_ y_n y_x y_y M2 → I_40 [ar 0, ai y_n, ai y_x, ai y_y] M2) : wp (tb7 (csL cs7_rests)) sh7 6 1 cX7_rests [(28, [0, 3, 4], I_28), (40, [0, 3, 4, 5], I_40)] Q 400 0 [(0, ar 0), (1, ai a), (2, ai b)] [] M := by
  have h4 : 0 ≤ M 7 4 ∧ M 7 4 ≤ 7 := hP.2.2.2.2.1
  have h3 : 0 ≤ M 7 3 ∧ M 7 3 ≤ 3 := hP.2.2.2.1
  have hk0 : keepM M (up2 M 0 0 0) := keep_u0 keep_rf (by decide)
  have hV : vM (up2 M 0 0 0) = vM M := keep_v hk0 0
  have hP0 : okY (vM (up2 M 0 0 0)) := by rw [hV]; exact hP
  simp only [e_wp dX7_rests_0 rfl, e_wp dX7_rests_1 rfl, e_wp dX7_rests_2 rfl, e_wp dX7_rests_5 rfl, e_wp dX7_rests_6 rfl, e_wp dX7_rests_7 rfl, e_wp dX7_rests_8 rfl, e_wp dX7_rests_11 rfl, e_wp dX7_rests_14 rfl, e_wp dX7_rests_16 rfl, e_wp dX7_rests_17 rfl, e_wp dX7_rests_18 rfl, e_wp dX7_rests_19 rfl, e_wp dX7_rests_20 rfl, e_wp dX7_rests_23 rfl, e_wp dX7_rests_24 rfl, e_wp dX7_rests_25 rfl, e_wp dX7_rests_26 rfl, e_wp dX7_rests_28 rfl, e_wp dX7_rests_30 rfl, e_wp dX7_rests_31 rfl, e_wp dX7_rests_34 rfl, e_wp dX7_rests_37 rfl, e_wp dX7_rests_38 rfl, e_wp dX7_rests_40 rfl, e_wp dX7_rests_42 rfl, e_wp dX7_rests_43 rfl, e_wp dX7_rests_46 rfl, e_wp dX7_rests_49 rfl, e_wp dX7_rests_50 rfl, e_wp dX7_rests_51 rfl, e_wp dX7_rests_53 rfl, e_wp dX7_rests_55 rfl, e_wp dX7_rests_58 rfl, e_wp dX7_rests_61 rfl, e_wp dX7_rests_62 rfl, e_wp dX7_rests_65 rfl, e_wp dX7_rests_66 rfl, e_wp dX7_rests_67 rfl, e_wp dX7_rests_68 rfl, e_wp dX7_rests_71 rfl, e_wp dX7_rests_74 rfl, e_wp dX7_rests_77 rfl, e_wp dX7_rests_80 rfl, e_wp dX7_rests_81 rfl, p7_116, c7_areTwo, P7_areTwo, V7_areTwo, cs7_rests, c7_laysGame, c7_bridges, P7_bridges, V7_bridges, c7_isRest, P7_isRest, V7_isRest, e_iconst, e_bipush, e_sipush, e_lconst_0, e_lconst_1, e_iload, e_iload_0, e_iload_1, e_iload_2, e_iload_3, e_lload, e_lload_0, e_lload_1, e_lload_2, e_lload_3, e_aload, e_aload_0, e_aload_1, e_aload_2, e_aload_3, e_istore, e_istore_0, e_istore_1, e_istore_2, e_istore_3, e_astore, e_astore_0, e_astore_1, e_astore_2, e_astore_3, e_lstore, e_lstore_0, e_lstore_1, e_lstore_2, e_lstore_3, e_iinc, e_iadd, e_isub, e_imul, e_ladd, e_lsub, e_lmul, e_idiv, e_irem, e_ldiv, e_lrem, e_ineg, e_lneg, e_iand, e_ior, e_ixor, e_ishl, e_ishr, e_iushr, e_lcmp, e_i2l, e_l2i, e_i2b, e_i2s, e_dup_i, e_dup_r, e_pop_i, e_pop_r, e_dup2_l, e_dup2_ir, e_dup2_ii, e_ifeq, e_ifne, e_iflt, e_ifge, e_ifgt, e_ifle, e_iceq, e_icne, e_iclt, e_icge, e_icgt, e_icle, e_goto, e_switch, e_invokevirtual, e_invokestatic, e_invokespecial, e_ret0, e_ret1, e_ret2, e_ret3, ldI_s, ldL_s, ldR_s, clO_s, ctP_s, ctS_s, mgo_0, mgo_s, pjc_s, pj_0, pj_s, lk_s, rm1_0, rm1_i, rm1_r, rm1_l, rm2_0, rm2_i, rm2_r, rm2_l, csL_s, lc_lt, lc_ge, lc_gt, lc_le, lc_eq, b01_0, b01_1, b01_01, b01_n, up2_o, up2_s, up2_u, ne_eq, reduceCtorEq, Nat.reduceAdd, Nat.reduceEqDiff, Nat.reduceLT, Nat.reduceLeDiff, Int.reduceLE, Int.reduceLT, Int.reduceAdd, Int.reduceNeg, Int.reduceMul, Int.reduceSub, Int.reduceEq, Int.reduceToNat, Int.reduceNatCast, Int.cast_ofNat_Int, ↓reduceIte, and_self, List.drop_succ_cons, List.drop_zero, List.take_succ_cons, List.take_zero, List.length_cons, List.length_nil, List.reverse_cons, List.reverse_nil, List.nil_append, List.cons_append, Option.toList, true_and, and_true, or_false, false_or, or_true, true_or, forall_const, Classical.not_not, not_false_eq_true, not_true_eq_false, false_implies, true_implies, implies_true, imp_self]
  refine ⟨h4, fun q => ⟨⟨hP0, by rw [hV]; exact q.1, by rw [hV]; exact q.2.1⟩, fun M1 hR => ?_⟩, fun q => hQ _ _ ⟨hk0, (if_neg q).symm⟩⟩
  obtain ⟨k1, k2, k3⟩ := gam_use hR hP
  exact hI_28 ((3 - 0) * 10 + 9) _ _ _ ⟨q, k1, k3, 0, rfl, h3.1, rfl, rfl⟩
set_option maxHeartbeats 4000000 in
set_option maxRecDepth 100000 in
theorem at7_rests_28 {a b : Int} {M : Mm} {Q : Option AV → Mm → Prop} (hM : okM sh7 M) (h_a : i32 a) (h_b : i32 b) (hP : P7_rests a b M) (hQ : ∀ (v : Int) (M1 : Mm), R7_rests a b M v M1 → Q (some (ai v)) M1) {m : Nat} {n x : Int} {M1 : Mm} (hM1 : okM sh7 M1) (h_n : i32 n) (h_x : i32 x) (hJ : J7_rests_28 a b M m n x M1) (I_28 : List AV → Mm → Prop) (hI_28 : ∀ (m_ : Nat) (y_n : Int) (y_x : Int) (M2 : Mm), m_ < m → J7_rests_28 a b M m_ y_n y_x M2 → I_28 [ar 0, ai y_n, ai y_x] M2) (I_40 : List AV → Mm → Prop) (hI_40 : ∀ (m_ : Nat) (y_n : Int) (y_x : Int) (y_y : Int) (M2 : Mm), m_ < m → J7_rests_40 a b M m_ y_n y_x y_y M2 → I_40 [ar 0, ai y_n, ai y_x, ai y_y] M2) : wp (tb7 (csL cs7_rests)) sh7 6 1 cX7_rests [(28, [0, 3, 4], I_28), (40, [0, 3, 4, 5], I_40)] Q 400 28 [(0, ar 0), (3, ai n), (4, ai x)] [] M1 := by
  obtain ⟨hq, hk, hR, i, rfl, hi, rfl, rfl⟩ := hJ
  have h3 : 0 ≤ M 7 3 ∧ M 7 3 ≤ 3 := hP.2.2.2.1
  have e7 : M1 7 = M 7 := keep_has hk
  simp only [e_wp dX7_rests_0 rfl, e_wp dX7_rests_1 rfl, e_wp dX7_rests_2 rfl, e_wp dX7_rests_5 rfl, e_wp dX7_rests_6 rfl, e_wp dX7_rests_7 rfl, e_wp dX7_rests_8 rfl, e_wp dX7_rests_11 rfl, e_wp dX7_rests_14 rfl, e_wp dX7_rests_16 rfl, e_wp dX7_rests_17 rfl, e_wp dX7_rests_18 rfl, e_wp dX7_rests_19 rfl, e_wp dX7_rests_20 rfl, e_wp dX7_rests_23 rfl, e_wp dX7_rests_24 rfl, e_wp dX7_rests_25 rfl, e_wp dX7_rests_26 rfl, e_wp dX7_rests_28 rfl, e_wp dX7_rests_30 rfl, e_wp dX7_rests_31 rfl, e_wp dX7_rests_34 rfl, e_wp dX7_rests_37 rfl, e_wp dX7_rests_38 rfl, e_wp dX7_rests_40 rfl, e_wp dX7_rests_42 rfl, e_wp dX7_rests_43 rfl, e_wp dX7_rests_46 rfl, e_wp dX7_rests_49 rfl, e_wp dX7_rests_50 rfl, e_wp dX7_rests_51 rfl, e_wp dX7_rests_53 rfl, e_wp dX7_rests_55 rfl, e_wp dX7_rests_58 rfl, e_wp dX7_rests_61 rfl, e_wp dX7_rests_62 rfl, e_wp dX7_rests_65 rfl, e_wp dX7_rests_66 rfl, e_wp dX7_rests_67 rfl, e_wp dX7_rests_68 rfl, e_wp dX7_rests_71 rfl, e_wp dX7_rests_74 rfl, e_wp dX7_rests_77 rfl, e_wp dX7_rests_80 rfl, e_wp dX7_rests_81 rfl, p7_116, c7_areTwo, P7_areTwo, V7_areTwo, cs7_rests, c7_laysGame, c7_bridges, P7_bridges, V7_bridges, c7_isRest, P7_isRest, V7_isRest, e_iconst, e_bipush, e_sipush, e_lconst_0, e_lconst_1, e_iload, e_iload_0, e_iload_1, e_iload_2, e_iload_3, e_lload, e_lload_0, e_lload_1, e_lload_2, e_lload_3, e_aload, e_aload_0, e_aload_1, e_aload_2, e_aload_3, e_istore, e_istore_0, e_istore_1, e_istore_2, e_istore_3, e_astore, e_astore_0, e_astore_1, e_astore_2, e_astore_3, e_lstore, e_lstore_0, e_lstore_1, e_lstore_2, e_lstore_3, e_iinc, e_iadd, e_isub, e_imul, e_ladd, e_lsub, e_lmul, e_idiv, e_irem, e_ldiv, e_lrem, e_ineg, e_lneg, e_iand, e_ior, e_ixor, e_ishl, e_ishr, e_iushr, e_lcmp, e_i2l, e_l2i, e_i2b, e_i2s, e_dup_i, e_dup_r, e_pop_i, e_pop_r, e_dup2_l, e_dup2_ir, e_dup2_ii, e_ifeq, e_ifne, e_iflt, e_ifge, e_ifgt, e_ifle, e_iceq, e_icne, e_iclt, e_icge, e_icgt, e_icle, e_goto, e_switch, e_invokevirtual, e_invokestatic, e_invokespecial, e_ret0, e_ret1, e_ret2, e_ret3, ldI_s, ldL_s, ldR_s, clO_s, ctP_s, ctS_s, mgo_0, mgo_s, pjc_s, pj_0, pj_s, lk_s, rm1_0, rm1_i, rm1_r, rm1_l, rm2_0, rm2_i, rm2_r, rm2_l, csL_s, lc_lt, lc_ge, lc_gt, lc_le, lc_eq, b01_0, b01_1, b01_01, b01_n, up2_o, up2_s, up2_u, ne_eq, reduceCtorEq, Nat.reduceAdd, Nat.reduceEqDiff, Nat.reduceLT, Nat.reduceLeDiff, Int.reduceLE, Int.reduceLT, Int.reduceAdd, Int.reduceNeg, Int.reduceMul, Int.reduceSub, Int.reduceEq, Int.reduceToNat, Int.reduceNatCast, Int.cast_ofNat_Int, ↓reduceIte, and_self, List.drop_succ_cons, List.drop_zero, List.take_succ_cons, List.take_zero, List.length_cons, List.length_nil, List.reverse_cons, List.reverse_nil, List.nil_append, List.cons_append, Option.toList, true_and, and_true, or_false, false_or, or_true, true_or, forall_const, Classical.not_not, not_false_eq_true, not_true_eq_false, false_implies, true_implies, implies_true, imp_self, e7]
  refine ⟨fun q => hQ _ _ ⟨hk, ?_⟩, fun q => ?_⟩
  · rw [show A_rests (vM M) a b = _ from if_pos hq, show (vM M 0 3).toNat = i by show (M 7 3).toNat = i; omega]
  · exact hI_40 ((3 - i) * 10 + (8 - 0)) _ _ _ _ (by omega) ⟨hq, hk, hR, i, 0, rfl, rfl, q, h3.1, (Int.add_zero _).symm, rfl⟩
set_option maxHeartbeats 4000000 in
set_option maxRecDepth 100000 in
theorem at7_rests_40 {a b : Int} {M : Mm} {Q : Option AV → Mm → Prop} (hM : okM sh7 M) (h_a : i32 a) (h_b : i32 b) (hP : P7_rests a b M) (hQ : ∀ (v : Int) (M1 : Mm), R7_rests a b M v M1 → Q (some (ai v)) M1) {m : Nat} {n x y : Int} {M1 : Mm} (hM1 : okM sh7 M1) (h_n : i32 n) (h_x : i32 x) (h_y : i32 y) (hJ : J7_rests_40 a b M m n x y M1) (I_28 : List AV → Mm → Prop) (hI_28 : ∀ (m_ : Nat) (y_n : Int) (y_x : Int) (M2 : Mm), m_ < m → J7_rests_28 a b M m_ y_n y_x M2 → I_28 [ar 0, ai y_n, ai y_x] M2) (I_40 : List AV → Mm → Prop) (hI_40 : ∀ (m_ : Nat) (y_n : Int) (y_x : Int) (y_y : Int) (M2 : Mm), m_ < m → J7_rests_40 a b M m_ y_n y_x y_y M2 → I_40 [ar 0, ai y_n, ai y_x, ai y_y] M2) : wp (tb7 (csL cs7_rests)) sh7 6 1 cX7_rests [(28, [0, 3, 4], I_28), (40, [0, 3, 4, 5], I_40)] Q 400 40 [(0, ar 0), (3, ai n), (4, ai x), (5, ai y)] [] M1 := by
  obtain ⟨hq, hk, hR, i, j, rfl, rfl, hi, hj, rfl, rfl⟩ := hJ
  have h3 : 0 ≤ M 7 3 ∧ M 7 3 ≤ 3 := hP.2.2.2.1
  have e7 : M1 7 = M 7 := keep_has hk
  have l1 := @resY_len (vM M) a.toNat b.toNat i j
  have l2 := @resX_len (vM M) a.toNat b.toNat i h3.2
  simp only [e_wp dX7_rests_0 rfl, e_wp dX7_rests_1 rfl, e_wp dX7_rests_2 rfl, e_wp dX7_rests_5 rfl, e_wp dX7_rests_6 rfl, e_wp dX7_rests_7 rfl, e_wp dX7_rests_8 rfl, e_wp dX7_rests_11 rfl, e_wp dX7_rests_14 rfl, e_wp dX7_rests_16 rfl, e_wp dX7_rests_17 rfl, e_wp dX7_rests_18 rfl, e_wp dX7_rests_19 rfl, e_wp dX7_rests_20 rfl, e_wp dX7_rests_23 rfl, e_wp dX7_rests_24 rfl, e_wp dX7_rests_25 rfl, e_wp dX7_rests_26 rfl, e_wp dX7_rests_28 rfl, e_wp dX7_rests_30 rfl, e_wp dX7_rests_31 rfl, e_wp dX7_rests_34 rfl, e_wp dX7_rests_37 rfl, e_wp dX7_rests_38 rfl, e_wp dX7_rests_40 rfl, e_wp dX7_rests_42 rfl, e_wp dX7_rests_43 rfl, e_wp dX7_rests_46 rfl, e_wp dX7_rests_49 rfl, e_wp dX7_rests_50 rfl, e_wp dX7_rests_51 rfl, e_wp dX7_rests_53 rfl, e_wp dX7_rests_55 rfl, e_wp dX7_rests_58 rfl, e_wp dX7_rests_61 rfl, e_wp dX7_rests_62 rfl, e_wp dX7_rests_65 rfl, e_wp dX7_rests_66 rfl, e_wp dX7_rests_67 rfl, e_wp dX7_rests_68 rfl, e_wp dX7_rests_71 rfl, e_wp dX7_rests_74 rfl, e_wp dX7_rests_77 rfl, e_wp dX7_rests_80 rfl, e_wp dX7_rests_81 rfl, p7_116, c7_areTwo, P7_areTwo, V7_areTwo, cs7_rests, c7_laysGame, c7_bridges, P7_bridges, V7_bridges, c7_isRest, P7_isRest, V7_isRest, e_iconst, e_bipush, e_sipush, e_lconst_0, e_lconst_1, e_iload, e_iload_0, e_iload_1, e_iload_2, e_iload_3, e_lload, e_lload_0, e_lload_1, e_lload_2, e_lload_3, e_aload, e_aload_0, e_aload_1, e_aload_2, e_aload_3, e_istore, e_istore_0, e_istore_1, e_istore_2, e_istore_3, e_astore, e_astore_0, e_astore_1, e_astore_2, e_astore_3, e_lstore, e_lstore_0, e_lstore_1, e_lstore_2, e_lstore_3, e_iinc, e_iadd, e_isub, e_imul, e_ladd, e_lsub, e_lmul, e_idiv, e_irem, e_ldiv, e_lrem, e_ineg, e_lneg, e_iand, e_ior, e_ixor, e_ishl, e_ishr, e_iushr, e_lcmp, e_i2l, e_l2i, e_i2b, e_i2s, e_dup_i, e_dup_r, e_pop_i, e_pop_r, e_dup2_l, e_dup2_ir, e_dup2_ii, e_ifeq, e_ifne, e_iflt, e_ifge, e_ifgt, e_ifle, e_iceq, e_icne, e_iclt, e_icge, e_icgt, e_icle, e_goto, e_switch, e_invokevirtual, e_invokestatic, e_invokespecial, e_ret0, e_ret1, e_ret2, e_ret3, ldI_s, ldL_s, ldR_s, clO_s, ctP_s, ctS_s, mgo_0, mgo_s, pjc_s, pj_0, pj_s, lk_s, rm1_0, rm1_i, rm1_r, rm1_l, rm2_0, rm2_i, rm2_r, rm2_l, csL_s, lc_lt, lc_ge, lc_gt, lc_le, lc_eq, b01_0, b01_1, b01_01, b01_n, up2_o, up2_s, up2_u, ne_eq, reduceCtorEq, Nat.reduceAdd, Nat.reduceEqDiff, Nat.reduceLT, Nat.reduceLeDiff, Int.reduceLE, Int.reduceLT, Int.reduceAdd, Int.reduceNeg, Int.reduceMul, Int.reduceSub, Int.reduceEq, Int.reduceToNat, Int.reduceNatCast, Int.cast_ofNat_Int, ↓reduceIte, and_self, List.drop_succ_cons, List.drop_zero, List.take_succ_cons, List.take_zero, List.length_cons, List.length_nil, List.reverse_cons, List.reverse_nil, List.nil_append, List.cons_append, Option.toList, true_and, and_true, or_false, false_or, or_true, true_or, forall_const, Classical.not_not, not_false_eq_true, not_true_eq_false, false_implies, true_implies, implies_true, imp_self, e7, Int.toNat_natCast]
  refine ⟨fun q => ⟨by omega, ?_⟩, fun q => ?_⟩
  · refine hI_28 ((3 - (i + 1)) * 10 + 9) _ _ _ (by omega) ⟨hq, hk, hR, i + 1, by omega, by omega, ?_, rfl⟩
    show _ = (((resX (vM M) a.toNat b.toNat i ++ resY (vM M) a.toNat b.toNat i (vM M 0 3).toNat).length : Nat) : Int)
    rw [List.length_append, show (vM M 0 3).toNat = j by show (M 7 3).toNat = j; omega]
    omega
  · have hr := hR i j hi q
    have es : resY (vM M) a.toNat b.toNat i (j + 1) = resY (vM M) a.toNat b.toNat i j ++ (if gRest (vM M) a.toNat b.toNat i j then [10 * (i : Int) + j] else []) := rfl
    have go : ∀ x : Int, x = (if gRest (vM M) a.toNat b.toNat i j then 1 else 0) → I_40 [ar 0, ai (((resX (vM M) a.toNat b.toNat i).length : Int) + (resY (vM M) a.toNat b.toNat i j).length + x), ai i, ai (j + 1)] M1 := by
      intro x hx
      refine hI_40 ((3 - i) * 10 + (8 - (j + 1))) _ _ _ _ (by omega) ⟨hq, hk, hR, i, j + 1, rfl, by omega, hi, by omega, ?_, rfl⟩
      rw [es, List.length_append, hx]
      split <;> simp <;> omega
    repeat (refine And.intro (by omega) ?_)
    refine ⟨fun z => ⟨by omega, by omega, go _ (if_neg (fun w => z (hr.mpr w))).symm⟩, fun z => ⟨by omega, by omega, go _ (if_pos (hr.mp z)).symm⟩⟩
set_option maxHeartbeats 4000000 in
set_option maxRecDepth 100000 in
theorem m7_rests : MOK cl7 sh7 tyl7 [] 5 yX7_rests cX7_rests 6 (some .int) sp7_rests := by
  refine mok_of (own := RX7) (tb := tb7 (csL cs7_rests)) (rt := 1) (fuel := 400) (fun avs M Q => [(28, [0, 3, 4], fun m_ vs M1 => ∃ y_n : Int, ∃ y_x : Int, vs = [ar 0, ai y_n, ai y_x] ∧ J7_rests_28 (pa true [0, 0] avs 0) (pa true [0, 0] avs 1) M m_ y_n y_x M1), (40, [0, 3, 4, 5], fun m_ vs M1 => ∃ y_n : Int, ∃ y_x : Int, ∃ y_y : Int, vs = [ar 0, ai y_n, ai y_x, ai y_y] ∧ J7_rests_40 (pa true [0, 0] avs 0) (pa true [0, 0] avs 1) M m_ y_n y_x y_y M1)]) (by decide) rfl nil_nw (tbOK7 _) rfl (csL_all ?_) ?_ ?_ ?_
  · intro q hq
    simp only [cs7_rests, List.mem_cons, List.not_mem_nil, or_false] at hq
    rcases hq with rfl | rfl | rfl | rfl
    · exact cg7_areTwo (by decide)
    · exact cg7_laysGame (by decide)
    · exact cg7_bridges (by decide)
    · exact cg7_isRest (by decide)
  · intro avs M Q hsp
    obtain ⟨xs, hx⟩ := spR_un _ _ _ hsp
    obtain ⟨e, hl⟩ := unA_mkT hx
    obtain ⟨a, b, rfl⟩ := len2 hl
    have e : avs = [ar 0, ai a, ai b] := e
    subst e
    simp [szL, isL]
  · intro avs M Q hM hav hsp
    obtain ⟨xs, hx⟩ := spR_un _ _ _ hsp
    obtain ⟨e, hl⟩ := unA_mkT hx
    obtain ⟨a, b, rfl⟩ := len2 hl
    have e : avs = [ar 0, ai a, ai b] := e
    subst e
    exact in7_rests hM (hav (ai a) (by simp)) (hav (ai b) (by simp)) hsp.1 hsp.2 _ (fun m_ y_n y_x M2 hJ => ⟨m_, y_n, y_x, rfl, hJ⟩) _ (fun m_ y_n y_x y_y M2 hJ => ⟨m_, y_n, y_x, y_y, rfl, hJ⟩)
  · intro avs M Q hM hav hsp q hq m_ vs M1 hM1 hv hJ
    obtain ⟨xs, hx⟩ := spR_un _ _ _ hsp
    obtain ⟨e, hl⟩ := unA_mkT hx
    obtain ⟨a, b, rfl⟩ := len2 hl
    have e : avs = [ar 0, ai a, ai b] := e
    subst e
    simp only [List.mem_cons, List.not_mem_nil, or_false] at hq
    rcases hq with rfl | rfl
    · obtain ⟨y_n, y_x, rfl, hJ⟩ := hJ
      exact at7_rests_28 hM (hav (ai a) (by simp)) (hav (ai b) (by simp)) hsp.1 hsp.2 hM1 (hv (3, ai y_n) (List.mem_of_getElem? (i := 1) rfl)) (hv (4, ai y_x) (List.mem_of_getElem? (i := 2) rfl)) hJ _ (fun m2 z_n z_x M2 hm hJ2 => ⟨m2, hm, z_n, z_x, rfl, hJ2⟩) _ (fun m2 z_n z_x z_y M2 hm hJ2 => ⟨m2, hm, z_n, z_x, z_y, rfl, hJ2⟩)
    · obtain ⟨y_n, y_x, y_y, rfl, hJ⟩ := hJ
      exact at7_rests_40 hM (hav (ai a) (by simp)) (hav (ai b) (by simp)) hsp.1 hsp.2 hM1 (hv (3, ai y_n) (List.mem_of_getElem? (i := 1) rfl)) (hv (4, ai y_x) (List.mem_of_getElem? (i := 2) rfl)) (hv (5, ai y_y) (List.mem_of_getElem? (i := 3) rfl)) hJ _ (fun m2 z_n z_x M2 hm hJ2 => ⟨m2, hm, z_n, z_x, rfl, hJ2⟩) _ (fun m2 z_n z_x z_y M2 hm hJ2 => ⟨m2, hm, z_n, z_x, z_y, rfl, hJ2⟩)
def P7_rest (a : Int) (b : Int) (M : Mm) : Prop := okY (vM M)
def R7_rest (a : Int) (b : Int) (M : Mm) (v : Int) (M1 : Mm) : Prop := keepM M M1 ∧ v = A_rest (vM M) a b
def sp7_rest : Spec := spR true [0, 0] 1 (fun x M => P7_rest (x 0) (x 1) M) (fun x M v M1 => R7_rest (x 0) (x 1) M v M1)
theorem c7_rest {a b : Int} {M : Mm} {Q : Option AV → Mm → Prop} : sp7_rest [ar 0, ai a, ai b] M Q = (P7_rest a b M ∧ ∀ (v : Int) (M1 : Mm), R7_rest a b M v M1 → Q (some (ai v)) M1) := rfl
def cs7_rest : List (Nat × Nat × Nat × Spec) := [(463, 1, 3, sp7_areTwo), (466, 1, 3, sp7_laysGame), (283, 1, 1, sp7_bridges), (469, 1, 3, sp7_isRest)]
def J7_rest_25 (a : Int) (b : Int) (M : Mm) (m : Nat) (x : Int) (M1 : Mm) : Prop := twoP (vM M) a b ∧ keepM M M1 ∧ (∀ x y : Nat, (x : Int) < M 7 3 → (y : Int) < M 7 3 → (restP (M 7 3).toNat (fun i j => M1 32 (3 * i + j)) (fun i j => M1 33 (3 * i + j)) x y ↔ gRest (vM M) a.toNat b.toNat x y)) ∧ ∃ i : Nat, x = i ∧ (i : Int) ≤ M 7 3 ∧ resX (vM M) a.toNat b.toNat i = [] ∧ m = (3 - i) * 10 + 9
def J7_rest_36 (a : Int) (b : Int) (M : Mm) (m : Nat) (x : Int) (y : Int) (M1 : Mm) : Prop := twoP (vM M) a b ∧ keepM M M1 ∧ (∀ x y : Nat, (x : Int) < M 7 3 → (y : Int) < M 7 3 → (restP (M 7 3).toNat (fun i j => M1 32 (3 * i + j)) (fun i j => M1 33 (3 * i + j)) x y ↔ gRest (vM M) a.toNat b.toNat x y)) ∧ ∃ i j : Nat, x = i ∧ y = j ∧ (i : Int) < M 7 3 ∧ (j : Int) ≤ M 7 3 ∧ resX (vM M) a.toNat b.toNat i = [] ∧ resY (vM M) a.toNat b.toNat i j = [] ∧ m = (3 - i) * 10 + (8 - j)
set_option maxHeartbeats 4000000 in
set_option maxRecDepth 100000 in
theorem in7_rest {a b : Int} {M : Mm} {Q : Option AV → Mm → Prop} (hM : okM sh7 M) (h_a : i32 a) (h_b : i32 b) (hP : P7_rest a b M) (hQ : ∀ (v : Int) (M1 : Mm), R7_rest a b M v M1 → Q (some (ai v)) M1) (I_25 : List AV → Mm → Prop) (hI_25 : ∀ (m_ : Nat) (y_x : Int) (M2 : Mm), J7_rest_25 a b M m_ y_x M2 → I_25 [ar 0, ai y_x] M2) (I_36 : List AV → Mm → Prop) (hI_36 : ∀ (m_ : Nat) (y_x : Int) (y_y : Int) (M2 : Mm), J7_rest_36 a b M m_ y_x y_y M2 → I_36 [ar 0, ai y_x, ai y_y] M2) : wp (tb7 (csL cs7_rest)) sh7 5 1 cX7_rest [(25, [0, 3], I_25), (36, [0, 3, 4], I_36)] Q 400 0 [(0, ar 0), (1, ai a), (2, ai b)] [] M := by
  have h4 : 0 ≤ M 7 4 ∧ M 7 4 ≤ 7 := hP.2.2.2.2.1
  have h3 : 0 ≤ M 7 3 ∧ M 7 3 ≤ 3 := hP.2.2.2.1
  have hk0 : keepM M (up2 M 0 0 0) := keep_u0 keep_rf (by decide)
  have hV : vM (up2 M 0 0 0) = vM M := keep_v hk0 0
  have hP0 : okY (vM (up2 M 0 0 0)) := by rw [hV]; exact hP
  simp only [e_wp dX7_rest_0 rfl, e_wp dX7_rest_1 rfl, e_wp dX7_rest_2 rfl, e_wp dX7_rest_5 rfl, e_wp dX7_rest_6 rfl, e_wp dX7_rest_7 rfl, e_wp dX7_rest_8 rfl, e_wp dX7_rest_11 rfl, e_wp dX7_rest_14 rfl, e_wp dX7_rest_16 rfl, e_wp dX7_rest_17 rfl, e_wp dX7_rest_18 rfl, e_wp dX7_rest_19 rfl, e_wp dX7_rest_20 rfl, e_wp dX7_rest_23 rfl, e_wp dX7_rest_24 rfl, e_wp dX7_rest_25 rfl, e_wp dX7_rest_26 rfl, e_wp dX7_rest_27 rfl, e_wp dX7_rest_30 rfl, e_wp dX7_rest_33 rfl, e_wp dX7_rest_34 rfl, e_wp dX7_rest_36 rfl, e_wp dX7_rest_38 rfl, e_wp dX7_rest_39 rfl, e_wp dX7_rest_42 rfl, e_wp dX7_rest_45 rfl, e_wp dX7_rest_46 rfl, e_wp dX7_rest_47 rfl, e_wp dX7_rest_49 rfl, e_wp dX7_rest_52 rfl, e_wp dX7_rest_55 rfl, e_wp dX7_rest_57 rfl, e_wp dX7_rest_58 rfl, e_wp dX7_rest_59 rfl, e_wp dX7_rest_61 rfl, e_wp dX7_rest_62 rfl, e_wp dX7_rest_63 rfl, e_wp dX7_rest_66 rfl, e_wp dX7_rest_69 rfl, e_wp dX7_rest_72 rfl, e_wp dX7_rest_75 rfl, e_wp dX7_rest_76 rfl, p7_116, c7_areTwo, P7_areTwo, V7_areTwo, cs7_rest, c7_laysGame, c7_bridges, P7_bridges, V7_bridges, c7_isRest, P7_isRest, V7_isRest, e_iconst, e_bipush, e_sipush, e_lconst_0, e_lconst_1, e_iload, e_iload_0, e_iload_1, e_iload_2, e_iload_3, e_lload, e_lload_0, e_lload_1, e_lload_2, e_lload_3, e_aload, e_aload_0, e_aload_1, e_aload_2, e_aload_3, e_istore, e_istore_0, e_istore_1, e_istore_2, e_istore_3, e_astore, e_astore_0, e_astore_1, e_astore_2, e_astore_3, e_lstore, e_lstore_0, e_lstore_1, e_lstore_2, e_lstore_3, e_iinc, e_iadd, e_isub, e_imul, e_ladd, e_lsub, e_lmul, e_idiv, e_irem, e_ldiv, e_lrem, e_ineg, e_lneg, e_iand, e_ior, e_ixor, e_ishl, e_ishr, e_iushr, e_lcmp, e_i2l, e_l2i, e_i2b, e_i2s, e_dup_i, e_dup_r, e_pop_i, e_pop_r, e_dup2_l, e_dup2_ir, e_dup2_ii, e_ifeq, e_ifne, e_iflt, e_ifge, e_ifgt, e_ifle, e_iceq, e_icne, e_iclt, e_icge, e_icgt, e_icle, e_goto, e_switch, e_invokevirtual, e_invokestatic, e_invokespecial, e_ret0, e_ret1, e_ret2, e_ret3, ldI_s, ldL_s, ldR_s, clO_s, ctP_s, ctS_s, mgo_0, mgo_s, pjc_s, pj_0, pj_s, lk_s, rm1_0, rm1_i, rm1_r, rm1_l, rm2_0, rm2_i, rm2_r, rm2_l, csL_s, lc_lt, lc_ge, lc_gt, lc_le, lc_eq, b01_0, b01_1, b01_01, b01_n, up2_o, up2_s, up2_u, ne_eq, reduceCtorEq, Nat.reduceAdd, Nat.reduceEqDiff, Nat.reduceLT, Nat.reduceLeDiff, Int.reduceLE, Int.reduceLT, Int.reduceAdd, Int.reduceNeg, Int.reduceMul, Int.reduceSub, Int.reduceEq, Int.reduceToNat, Int.reduceNatCast, Int.cast_ofNat_Int, ↓reduceIte, and_self, List.drop_succ_cons, List.drop_zero, List.take_succ_cons, List.take_zero, List.length_cons, List.length_nil, List.reverse_cons, List.reverse_nil, List.nil_append, List.cons_append, Option.toList, true_and, and_true, or_false, false_or, or_true, true_or, forall_const, Classical.not_not, not_false_eq_true, not_true_eq_false, false_implies, true_implies, implies_true, imp_self]
  refine ⟨h4, fun q => ⟨⟨hP0, by rw [hV]; exact q.1, by rw [hV]; exact q.2.1⟩, fun M1 hR => ?_⟩, fun q => hQ _ _ ⟨hk0, (if_neg q).symm⟩⟩
  obtain ⟨k1, k2, k3⟩ := gam_use hR hP
  exact hI_25 ((3 - 0) * 10 + 9) _ _ ⟨q, k1, k3, 0, rfl, h3.1, rfl, rfl⟩
set_option maxHeartbeats 4000000 in
set_option maxRecDepth 100000 in
theorem at7_rest_25 {a b : Int} {M : Mm} {Q : Option AV → Mm → Prop} (hM : okM sh7 M) (h_a : i32 a) (h_b : i32 b) (hP : P7_rest a b M) (hQ : ∀ (v : Int) (M1 : Mm), R7_rest a b M v M1 → Q (some (ai v)) M1) {m : Nat} {x : Int} {M1 : Mm} (hM1 : okM sh7 M1) (h_x : i32 x) (hJ : J7_rest_25 a b M m x M1) (I_25 : List AV → Mm → Prop) (hI_25 : ∀ (m_ : Nat) (y_x : Int) (M2 : Mm), m_ < m → J7_rest_25 a b M m_ y_x M2 → I_25 [ar 0, ai y_x] M2) (I_36 : List AV → Mm → Prop) (hI_36 : ∀ (m_ : Nat) (y_x : Int) (y_y : Int) (M2 : Mm), m_ < m → J7_rest_36 a b M m_ y_x y_y M2 → I_36 [ar 0, ai y_x, ai y_y] M2) : wp (tb7 (csL cs7_rest)) sh7 5 1 cX7_rest [(25, [0, 3], I_25), (36, [0, 3, 4], I_36)] Q 400 25 [(0, ar 0), (3, ai x)] [] M1 := by
  obtain ⟨hq, hk, hR, i, rfl, hi, hn, rfl⟩ := hJ
  have h3 : 0 ≤ M 7 3 ∧ M 7 3 ≤ 3 := hP.2.2.2.1
  have e7 : M1 7 = M 7 := keep_has hk
  simp only [e_wp dX7_rest_0 rfl, e_wp dX7_rest_1 rfl, e_wp dX7_rest_2 rfl, e_wp dX7_rest_5 rfl, e_wp dX7_rest_6 rfl, e_wp dX7_rest_7 rfl, e_wp dX7_rest_8 rfl, e_wp dX7_rest_11 rfl, e_wp dX7_rest_14 rfl, e_wp dX7_rest_16 rfl, e_wp dX7_rest_17 rfl, e_wp dX7_rest_18 rfl, e_wp dX7_rest_19 rfl, e_wp dX7_rest_20 rfl, e_wp dX7_rest_23 rfl, e_wp dX7_rest_24 rfl, e_wp dX7_rest_25 rfl, e_wp dX7_rest_26 rfl, e_wp dX7_rest_27 rfl, e_wp dX7_rest_30 rfl, e_wp dX7_rest_33 rfl, e_wp dX7_rest_34 rfl, e_wp dX7_rest_36 rfl, e_wp dX7_rest_38 rfl, e_wp dX7_rest_39 rfl, e_wp dX7_rest_42 rfl, e_wp dX7_rest_45 rfl, e_wp dX7_rest_46 rfl, e_wp dX7_rest_47 rfl, e_wp dX7_rest_49 rfl, e_wp dX7_rest_52 rfl, e_wp dX7_rest_55 rfl, e_wp dX7_rest_57 rfl, e_wp dX7_rest_58 rfl, e_wp dX7_rest_59 rfl, e_wp dX7_rest_61 rfl, e_wp dX7_rest_62 rfl, e_wp dX7_rest_63 rfl, e_wp dX7_rest_66 rfl, e_wp dX7_rest_69 rfl, e_wp dX7_rest_72 rfl, e_wp dX7_rest_75 rfl, e_wp dX7_rest_76 rfl, p7_116, c7_areTwo, P7_areTwo, V7_areTwo, cs7_rest, c7_laysGame, c7_bridges, P7_bridges, V7_bridges, c7_isRest, P7_isRest, V7_isRest, e_iconst, e_bipush, e_sipush, e_lconst_0, e_lconst_1, e_iload, e_iload_0, e_iload_1, e_iload_2, e_iload_3, e_lload, e_lload_0, e_lload_1, e_lload_2, e_lload_3, e_aload, e_aload_0, e_aload_1, e_aload_2, e_aload_3, e_istore, e_istore_0, e_istore_1, e_istore_2, e_istore_3, e_astore, e_astore_0, e_astore_1, e_astore_2, e_astore_3, e_lstore, e_lstore_0, e_lstore_1, e_lstore_2, e_lstore_3, e_iinc, e_iadd, e_isub, e_imul, e_ladd, e_lsub, e_lmul, e_idiv, e_irem, e_ldiv, e_lrem, e_ineg, e_lneg, e_iand, e_ior, e_ixor, e_ishl, e_ishr, e_iushr, e_lcmp, e_i2l, e_l2i, e_i2b, e_i2s, e_dup_i, e_dup_r, e_pop_i, e_pop_r, e_dup2_l, e_dup2_ir, e_dup2_ii, e_ifeq, e_ifne, e_iflt, e_ifge, e_ifgt, e_ifle, e_iceq, e_icne, e_iclt, e_icge, e_icgt, e_icle, e_goto, e_switch, e_invokevirtual, e_invokestatic, e_invokespecial, e_ret0, e_ret1, e_ret2, e_ret3, ldI_s, ldL_s, ldR_s, clO_s, ctP_s, ctS_s, mgo_0, mgo_s, pjc_s, pj_0, pj_s, lk_s, rm1_0, rm1_i, rm1_r, rm1_l, rm2_0, rm2_i, rm2_r, rm2_l, csL_s, lc_lt, lc_ge, lc_gt, lc_le, lc_eq, b01_0, b01_1, b01_01, b01_n, up2_o, up2_s, up2_u, ne_eq, reduceCtorEq, Nat.reduceAdd, Nat.reduceEqDiff, Nat.reduceLT, Nat.reduceLeDiff, Int.reduceLE, Int.reduceLT, Int.reduceAdd, Int.reduceNeg, Int.reduceMul, Int.reduceSub, Int.reduceEq, Int.reduceToNat, Int.reduceNatCast, Int.cast_ofNat_Int, ↓reduceIte, and_self, List.drop_succ_cons, List.drop_zero, List.take_succ_cons, List.take_zero, List.length_cons, List.length_nil, List.reverse_cons, List.reverse_nil, List.nil_append, List.cons_append, Option.toList, true_and, and_true, or_false, false_or, or_true, true_or, forall_const, Classical.not_not, not_false_eq_true, not_true_eq_false, false_implies, true_implies, implies_true, imp_self, e7]
  refine ⟨fun q => hQ _ _ ⟨hk, ?_⟩, fun q => ?_⟩
  · rw [show A_rest (vM M) a b = _ from if_pos hq, show (vM M 0 3).toNat = i by show (M 7 3).toNat = i; omega, hn]
    rfl
  · exact hI_36 ((3 - i) * 10 + (8 - 0)) _ _ _ (by omega) ⟨hq, hk, hR, i, 0, rfl, rfl, q, h3.1, hn, rfl, rfl⟩
set_option maxHeartbeats 4000000 in
set_option maxRecDepth 100000 in
theorem at7_rest_36 {a b : Int} {M : Mm} {Q : Option AV → Mm → Prop} (hM : okM sh7 M) (h_a : i32 a) (h_b : i32 b) (hP : P7_rest a b M) (hQ : ∀ (v : Int) (M1 : Mm), R7_rest a b M v M1 → Q (some (ai v)) M1) {m : Nat} {x y : Int} {M1 : Mm} (hM1 : okM sh7 M1) (h_x : i32 x) (h_y : i32 y) (hJ : J7_rest_36 a b M m x y M1) (I_25 : List AV → Mm → Prop) (hI_25 : ∀ (m_ : Nat) (y_x : Int) (M2 : Mm), m_ < m → J7_rest_25 a b M m_ y_x M2 → I_25 [ar 0, ai y_x] M2) (I_36 : List AV → Mm → Prop) (hI_36 : ∀ (m_ : Nat) (y_x : Int) (y_y : Int) (M2 : Mm), m_ < m → J7_rest_36 a b M m_ y_x y_y M2 → I_36 [ar 0, ai y_x, ai y_y] M2) : wp (tb7 (csL cs7_rest)) sh7 5 1 cX7_rest [(25, [0, 3], I_25), (36, [0, 3, 4], I_36)] Q 400 36 [(0, ar 0), (3, ai x), (4, ai y)] [] M1 := by
  obtain ⟨hq, hk, hR, i, j, rfl, rfl, hi, hj, hn, hn2, rfl⟩ := hJ
  have h3 : 0 ≤ M 7 3 ∧ M 7 3 ≤ 3 := hP.2.2.2.1
  have e7 : M1 7 = M 7 := keep_has hk
  simp only [e_wp dX7_rest_0 rfl, e_wp dX7_rest_1 rfl, e_wp dX7_rest_2 rfl, e_wp dX7_rest_5 rfl, e_wp dX7_rest_6 rfl, e_wp dX7_rest_7 rfl, e_wp dX7_rest_8 rfl, e_wp dX7_rest_11 rfl, e_wp dX7_rest_14 rfl, e_wp dX7_rest_16 rfl, e_wp dX7_rest_17 rfl, e_wp dX7_rest_18 rfl, e_wp dX7_rest_19 rfl, e_wp dX7_rest_20 rfl, e_wp dX7_rest_23 rfl, e_wp dX7_rest_24 rfl, e_wp dX7_rest_25 rfl, e_wp dX7_rest_26 rfl, e_wp dX7_rest_27 rfl, e_wp dX7_rest_30 rfl, e_wp dX7_rest_33 rfl, e_wp dX7_rest_34 rfl, e_wp dX7_rest_36 rfl, e_wp dX7_rest_38 rfl, e_wp dX7_rest_39 rfl, e_wp dX7_rest_42 rfl, e_wp dX7_rest_45 rfl, e_wp dX7_rest_46 rfl, e_wp dX7_rest_47 rfl, e_wp dX7_rest_49 rfl, e_wp dX7_rest_52 rfl, e_wp dX7_rest_55 rfl, e_wp dX7_rest_57 rfl, e_wp dX7_rest_58 rfl, e_wp dX7_rest_59 rfl, e_wp dX7_rest_61 rfl, e_wp dX7_rest_62 rfl, e_wp dX7_rest_63 rfl, e_wp dX7_rest_66 rfl, e_wp dX7_rest_69 rfl, e_wp dX7_rest_72 rfl, e_wp dX7_rest_75 rfl, e_wp dX7_rest_76 rfl, p7_116, c7_areTwo, P7_areTwo, V7_areTwo, cs7_rest, c7_laysGame, c7_bridges, P7_bridges, V7_bridges, c7_isRest, P7_isRest, V7_isRest, e_iconst, e_bipush, e_sipush, e_lconst_0, e_lconst_1, e_iload, e_iload_0, e_iload_1, e_iload_2, e_iload_3, e_lload, e_lload_0, e_lload_1, e_lload_2, e_lload_3, e_aload, e_aload_0, e_aload_1, e_aload_2, e_aload_3, e_istore, e_istore_0, e_istore_1, e_istore_2, e_istore_3, e_astore, e_astore_0, e_astore_1, e_astore_2, e_astore_3, e_lstore, e_lstore_0, e_lstore_1, e_lstore_2, e_lstore_3, e_iinc, e_iadd, e_isub, e_imul, e_ladd, e_lsub, e_lmul, e_idiv, e_irem, e_ldiv, e_lrem, e_ineg, e_lneg, e_iand, e_ior, e_ixor, e_ishl, e_ishr, e_iushr, e_lcmp, e_i2l, e_l2i, e_i2b, e_i2s, e_dup_i, e_dup_r, e_pop_i, e_pop_r, e_dup2_l, e_dup2_ir, e_dup2_ii, e_ifeq, e_ifne, e_iflt, e_ifge, e_ifgt, e_ifle, e_iceq, e_icne, e_iclt, e_icge, e_icgt, e_icle, e_goto, e_switch, e_invokevirtual, e_invokestatic, e_invokespecial, e_ret0, e_ret1, e_ret2, e_ret3, ldI_s, ldL_s, ldR_s, clO_s, ctP_s, ctS_s, mgo_0, mgo_s, pjc_s, pj_0, pj_s, lk_s, rm1_0, rm1_i, rm1_r, rm1_l, rm2_0, rm2_i, rm2_r, rm2_l, csL_s, lc_lt, lc_ge, lc_gt, lc_le, lc_eq, b01_0, b01_1, b01_01, b01_n, up2_o, up2_s, up2_u, ne_eq, reduceCtorEq, Nat.reduceAdd, Nat.reduceEqDiff, Nat.reduceLT, Nat.reduceLeDiff, Int.reduceLE, Int.reduceLT, Int.reduceAdd, Int.reduceNeg, Int.reduceMul, Int.reduceSub, Int.reduceEq, Int.reduceToNat, Int.reduceNatCast, Int.cast_ofNat_Int, ↓reduceIte, and_self, List.drop_succ_cons, List.drop_zero, List.take_succ_cons, List.take_zero, List.length_cons, List.length_nil, List.reverse_cons, List.reverse_nil, List.nil_append, List.cons_append, Option.toList, true_and, and_true, or_false, false_or, or_true, true_or, forall_const, Classical.not_not, not_false_eq_true, not_true_eq_false, false_implies, true_implies, implies_true, imp_self, e7, Int.toNat_natCast]
  refine ⟨fun q => ⟨by omega, ?_⟩, fun q => ?_⟩
  · refine hI_25 ((3 - (i + 1)) * 10 + 9) _ _ (by omega) ⟨hq, hk, hR, i + 1, by omega, by omega, ?_, rfl⟩
    show resX (vM M) a.toNat b.toNat i ++ resY (vM M) a.toNat b.toNat i (vM M 0 3).toNat = []
    rw [hn, show (vM M 0 3).toNat = j by show (M 7 3).toNat = j; omega, hn2]
    rfl
  · have hr := hR i j hi q
    have es : resY (vM M) a.toNat b.toNat i (j + 1) = resY (vM M) a.toNat b.toNat i j ++ (if gRest (vM M) a.toNat b.toNat i j then [10 * (i : Int) + j] else []) := rfl
    repeat (refine And.intro (by omega) ?_)
    refine ⟨fun z => ⟨by omega, ?_⟩, fun z => ⟨by omega, by omega, hQ _ _ ⟨hk, ?_⟩⟩⟩
    · refine hI_36 ((3 - i) * 10 + (8 - (j + 1))) _ _ _ (by omega) ⟨hq, hk, hR, i, j + 1, rfl, by omega, hi, by omega, hn, ?_, rfl⟩
      rw [es, hn2, if_neg (fun w => z (hr.mpr w))]
      rfl
    · rw [show A_rest (vM M) a b = _ from if_pos hq]
      have key : ∀ n : Nat, j < n → ∃ r, resY (vM M) a.toNat b.toNat i n = (10 * (i : Int) + j) :: r := by
        intro n
        induction n with
        | zero => intro h; omega
        | succ n ih =>
          intro h
          by_cases e : j = n
          · subst e
            exact ⟨[], by rw [es, hn2, if_pos (hr.mp z)]; rfl⟩
          · obtain ⟨r, hr2⟩ := ih (by omega)
            refine ⟨r ++ (if gRest (vM M) a.toNat b.toNat i n then [10 * (i : Int) + n] else []), ?_⟩
            show resY (vM M) a.toNat b.toNat i n ++ _ = _
            rw [hr2]
            rfl
      have key2 : ∀ n : Nat, i < n → ∃ r, resX (vM M) a.toNat b.toNat n = (10 * (i : Int) + j) :: r := by
        intro n
        induction n with
        | zero => intro h; omega
        | succ n ih =>
          intro h
          by_cases e : i = n
          · subst e
            obtain ⟨r, hr2⟩ := key (vM M 0 3).toNat (by show j < (M 7 3).toNat; omega)
            refine ⟨r, ?_⟩
            show resX (vM M) a.toNat b.toNat i ++ resY (vM M) a.toNat b.toNat i (vM M 0 3).toNat = _
            rw [hn, hr2]
            rfl
          · obtain ⟨r, hr2⟩ := ih (by omega)
            refine ⟨r ++ resY (vM M) a.toNat b.toNat n (vM M 0 3).toNat, ?_⟩
            show resX (vM M) a.toNat b.toNat n ++ _ = _
            rw [hr2]
            rfl
      obtain ⟨r, hr3⟩ := key2 (vM M 0 3).toNat (by show i < (M 7 3).toNat; omega)
      rw [hr3]
      rfl
set_option maxHeartbeats 4000000 in
set_option maxRecDepth 100000 in
theorem m7_rest : MOK cl7 sh7 tyl7 [] 5 yX7_rest cX7_rest 5 (some .int) sp7_rest := by
  refine mok_of (own := RX7) (tb := tb7 (csL cs7_rest)) (rt := 1) (fuel := 400) (fun avs M Q => [(25, [0, 3], fun m_ vs M1 => ∃ y_x : Int, vs = [ar 0, ai y_x] ∧ J7_rest_25 (pa true [0, 0] avs 0) (pa true [0, 0] avs 1) M m_ y_x M1), (36, [0, 3, 4], fun m_ vs M1 => ∃ y_x : Int, ∃ y_y : Int, vs = [ar 0, ai y_x, ai y_y] ∧ J7_rest_36 (pa true [0, 0] avs 0) (pa true [0, 0] avs 1) M m_ y_x y_y M1)]) (by decide) rfl nil_nw (tbOK7 _) rfl (csL_all ?_) ?_ ?_ ?_
  · intro q hq
    simp only [cs7_rest, List.mem_cons, List.not_mem_nil, or_false] at hq
    rcases hq with rfl | rfl | rfl | rfl
    · exact cg7_areTwo (by decide)
    · exact cg7_laysGame (by decide)
    · exact cg7_bridges (by decide)
    · exact cg7_isRest (by decide)
  · intro avs M Q hsp
    obtain ⟨xs, hx⟩ := spR_un _ _ _ hsp
    obtain ⟨e, hl⟩ := unA_mkT hx
    obtain ⟨a, b, rfl⟩ := len2 hl
    have e : avs = [ar 0, ai a, ai b] := e
    subst e
    simp [szL, isL]
  · intro avs M Q hM hav hsp
    obtain ⟨xs, hx⟩ := spR_un _ _ _ hsp
    obtain ⟨e, hl⟩ := unA_mkT hx
    obtain ⟨a, b, rfl⟩ := len2 hl
    have e : avs = [ar 0, ai a, ai b] := e
    subst e
    exact in7_rest hM (hav (ai a) (by simp)) (hav (ai b) (by simp)) hsp.1 hsp.2 _ (fun m_ y_x M2 hJ => ⟨m_, y_x, rfl, hJ⟩) _ (fun m_ y_x y_y M2 hJ => ⟨m_, y_x, y_y, rfl, hJ⟩)
  · intro avs M Q hM hav hsp q hq m_ vs M1 hM1 hv hJ
    obtain ⟨xs, hx⟩ := spR_un _ _ _ hsp
    obtain ⟨e, hl⟩ := unA_mkT hx
    obtain ⟨a, b, rfl⟩ := len2 hl
    have e : avs = [ar 0, ai a, ai b] := e
    subst e
    simp only [List.mem_cons, List.not_mem_nil, or_false] at hq
    rcases hq with rfl | rfl
    · obtain ⟨y_x, rfl, hJ⟩ := hJ
      exact at7_rest_25 hM (hav (ai a) (by simp)) (hav (ai b) (by simp)) hsp.1 hsp.2 hM1 (hv (3, ai y_x) (List.mem_of_getElem? (i := 1) rfl)) hJ _ (fun m2 z_x M2 hm hJ2 => ⟨m2, hm, z_x, rfl, hJ2⟩) _ (fun m2 z_x z_y M2 hm hJ2 => ⟨m2, hm, z_x, z_y, rfl, hJ2⟩)
    · obtain ⟨y_x, y_y, rfl, hJ⟩ := hJ
      exact at7_rest_36 hM (hav (ai a) (by simp)) (hav (ai b) (by simp)) hsp.1 hsp.2 hM1 (hv (3, ai y_x) (List.mem_of_getElem? (i := 1) rfl)) (hv (4, ai y_y) (List.mem_of_getElem? (i := 2) rfl)) hJ _ (fun m2 z_x M2 hm hJ2 => ⟨m2, hm, z_x, rfl, hJ2⟩) _ (fun m2 z_x z_y M2 hm hJ2 => ⟨m2, hm, z_x, z_y, rfl, hJ2⟩)
