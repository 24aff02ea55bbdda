/-! SagMemoryModel: frosts by chance -/
def tenP : Nat → Int
  | 0 => 1
  | n + 1 => tenP n * 10
theorem tenP_b7 : ∀ n : Fin 8, 1 ≤ tenP n.val ∧ tenP n.val ≤ 10000000 := by decide
theorem tenP_b {n : Nat} (h : n ≤ 7) : 1 ≤ tenP n ∧ tenP n ≤ 10000000 := tenP_b7 ⟨n, by omega⟩
def P7_tens (M : Mm) : Prop := 0 ≤ M 7 4 ∧ M 7 4 ≤ 7
def V7_tens (M : Mm) : Int := tenP (M 7 4).toNat
def sp7_tens : Spec := spF true [] 2 (fun x M => P7_tens M) (fun x M => V7_tens M)
theorem c7_tens {M : Mm} {Q : Option AV → Mm → Prop} : sp7_tens [ar 0] M Q = (P7_tens M ∧ Q (some (al (V7_tens M))) M) := rfl
def cs7_tens : List (Nat × Nat × Nat × Spec) := [(286, 1, 1, sp7_carts)]
def J7_tens_4 (M : Mm) (m : Nat) (n : Int) (c : Int) (M1 : Mm) : Prop := M = M1 ∧ ∃ a : Nat, c = a ∧ (a : Int) ≤ M 7 4 ∧ n = tenP a ∧ m = 7 - a
set_option maxHeartbeats 4000000 in
set_option maxRecDepth 100000 in
theorem in7_tens {M : Mm} {Q : Option AV → Mm → Prop} (hM : okM sh7 M) (hP : P7_tens M) (hQ : Q (some (al (V7_tens M))) M) (I_4 : List AV → Mm → Prop) (hI_4 : ∀ (m_ : Nat) (y_n : Int) (y_c : Int) (M2 : Mm), J7_tens_4 M m_ y_n y_c M2 → I_4 [ar 0, al y_n, ai y_c] M2) : wp (tb7 (csL cs7_tens)) sh7 4 3 cX7_tens [(4, [0, 1, 3], I_4)] Q 400 0 [(0, ar 0)] [] M := by
  simp only [e_wp dX7_tens_0 rfl, e_wp dX7_tens_1 rfl, e_wp dX7_tens_2 rfl, e_wp dX7_tens_3 rfl, e_wp dX7_tens_4 rfl, e_wp dX7_tens_5 rfl, e_wp dX7_tens_6 rfl, e_wp dX7_tens_9 rfl, e_wp dX7_tens_12 rfl, e_wp dX7_tens_13 rfl, e_wp dX7_tens_16 rfl, e_wp dX7_tens_17 rfl, e_wp dX7_tens_18 rfl, e_wp dX7_tens_21 rfl, e_wp dX7_tens_24 rfl, e_wp dX7_tens_25 rfl, c7_carts, P7_carts, V7_carts, cs7_tens, k7_472, e_iconst, e_bipush, e_sipush, e_lconst_0, e_lconst_1, e_iload, e_iload_0, e_iload_1, e_iload_2, e_iload_3, e_lload, e_lload_0, e_lload_1, e_lload_2, e_lload_3, e_aload, e_aload_0, e_aload_1, e_aload_2, e_aload_3, e_istore, e_istore_0, e_istore_1, e_istore_2, e_istore_3, e_astore, e_astore_0, e_astore_1, e_astore_2, e_astore_3, e_lstore, e_lstore_0, e_lstore_1, e_lstore_2, e_lstore_3, e_iinc, e_iadd, e_isub, e_imul, e_ladd, e_lsub, e_lmul, e_idiv, e_irem, e_ldiv, e_lrem, e_ineg, e_lneg, e_iand, e_ior, e_ixor, e_ishl, e_ishr, e_iushr, e_lcmp, e_i2l, e_l2i, e_i2b, e_i2s, e_dup_i, e_dup_r, e_pop_i, e_pop_r, e_dup2_l, e_dup2_ir, e_dup2_ii, e_ifeq, e_ifne, e_iflt, e_ifge, e_ifgt, e_ifle, e_iceq, e_icne, e_iclt, e_icge, e_icgt, e_icle, e_goto, e_switch, e_invokevirtual, e_invokestatic, e_invokespecial, e_ret0, e_ret1, e_ret2, e_ret3, ldI_s, ldL_s, ldR_s, clO_s, ctP_s, ctS_s, mgo_0, mgo_s, pjc_s, pj_0, pj_s, lk_s, rm1_0, rm1_i, rm1_r, rm1_l, rm2_0, rm2_i, rm2_r, rm2_l, csL_s, lc_lt, lc_ge, lc_gt, lc_le, lc_eq, b01_0, b01_1, b01_01, b01_n, up2_o, up2_s, up2_u, ne_eq, reduceCtorEq, Nat.reduceAdd, Nat.reduceEqDiff, Nat.reduceLT, Nat.reduceLeDiff, Int.reduceLE, Int.reduceLT, Int.reduceAdd, Int.reduceNeg, Int.reduceMul, Int.reduceSub, Int.reduceEq, Int.reduceToNat, Int.reduceNatCast, Int.cast_ofNat_Int, ↓reduceIte, and_self, List.drop_succ_cons, List.drop_zero, List.take_succ_cons, List.take_zero, List.length_cons, List.length_nil, List.reverse_cons, List.reverse_nil, List.nil_append, List.cons_append, Option.toList, true_and, and_true, or_false, false_or, or_true, true_or, forall_const, Classical.not_not, not_false_eq_true, not_true_eq_false, false_implies, true_implies, implies_true, imp_self]
  exact hI_4 (7 - 0) _ _ _ ⟨rfl, 0, rfl, hP.1, rfl, rfl⟩
set_option maxHeartbeats 4000000 in
set_option maxRecDepth 100000 in
theorem at7_tens_4 {M : Mm} {Q : Option AV → Mm → Prop} (hM : okM sh7 M) (hP : P7_tens M) (hQ : Q (some (al (V7_tens M))) M) {m : Nat} {n c : Int} {M1 : Mm} (hM1 : okM sh7 M1) (h_n : i64 n) (h_c : i32 c) (hJ : J7_tens_4 M m n c M1) (I_4 : List AV → Mm → Prop) (hI_4 : ∀ (m_ : Nat) (y_n : Int) (y_c : Int) (M2 : Mm), m_ < m → J7_tens_4 M m_ y_n y_c M2 → I_4 [ar 0, al y_n, ai y_c] M2) : wp (tb7 (csL cs7_tens)) sh7 4 3 cX7_tens [(4, [0, 1, 3], I_4)] Q 400 4 [(0, ar 0), (1, al n), (3, ai c)] [] M1 := by
  obtain ⟨rfl, a, rfl, ha, rfl, rfl⟩ := hJ
  obtain ⟨h1, h2⟩ := id hP
  have hb := tenP_b (n := a) (by omega)
  simp only [e_wp dX7_tens_0 rfl, e_wp dX7_tens_1 rfl, e_wp dX7_tens_2 rfl, e_wp dX7_tens_3 rfl, e_wp dX7_tens_4 rfl, e_wp dX7_tens_5 rfl, e_wp dX7_tens_6 rfl, e_wp dX7_tens_9 rfl, e_wp dX7_tens_12 rfl, e_wp dX7_tens_13 rfl, e_wp dX7_tens_16 rfl, e_wp dX7_tens_17 rfl, e_wp dX7_tens_18 rfl, e_wp dX7_tens_21 rfl, e_wp dX7_tens_24 rfl, e_wp dX7_tens_25 rfl, c7_carts, P7_carts, V7_carts, cs7_tens, k7_472, e_iconst, e_bipush, e_sipush, e_lconst_0, e_lconst_1, e_iload, e_iload_0, e_iload_1, e_iload_2, e_iload_3, e_lload, e_lload_0, e_lload_1, e_lload_2, e_lload_3, e_aload, e_aload_0, e_aload_1, e_aload_2, e_aload_3, e_istore, e_istore_0, e_istore_1, e_istore_2, e_istore_3, e_astore, e_astore_0, e_astore_1, e_astore_2, e_astore_3, e_lstore, e_lstore_0, e_lstore_1, e_lstore_2, e_lstore_3, e_iinc, e_iadd, e_isub, e_imul, e_ladd, e_lsub, e_lmul, e_idiv, e_irem, e_ldiv, e_lrem, e_ineg, e_lneg, e_iand, e_ior, e_ixor, e_ishl, e_ishr, e_iushr, e_lcmp, e_i2l, e_l2i, e_i2b, e_i2s, e_dup_i, e_dup_r, e_pop_i, e_pop_r, e_dup2_l, e_dup2_ir, e_dup2_ii, e_ifeq, e_ifne, e_iflt, e_ifge, e_ifgt, e_ifle, e_iceq, e_icne, e_iclt, e_icge, e_icgt, e_icle, e_goto, e_switch, e_invokevirtual, e_invokestatic, e_invokespecial, e_ret0, e_ret1, e_ret2, e_ret3, ldI_s, ldL_s, ldR_s, clO_s, ctP_s, ctS_s, mgo_0, mgo_s, pjc_s, pj_0, pj_s, lk_s, rm1_0, rm1_i, rm1_r, rm1_l, rm2_0, rm2_i, rm2_r, rm2_l, csL_s, lc_lt, lc_ge, lc_gt, lc_le, lc_eq, b01_0, b01_1, b01_01, b01_n, up2_o, up2_s, up2_u, ne_eq, reduceCtorEq, Nat.reduceAdd, Nat.reduceEqDiff, Nat.reduceLT, Nat.reduceLeDiff, Int.reduceLE, Int.reduceLT, Int.reduceAdd, Int.reduceNeg, Int.reduceMul, Int.reduceSub, Int.reduceEq, Int.reduceToNat, Int.reduceNatCast, Int.cast_ofNat_Int, ↓reduceIte, and_self, List.drop_succ_cons, List.drop_zero, List.take_succ_cons, List.take_zero, List.length_cons, List.length_nil, List.reverse_cons, List.reverse_nil, List.nil_append, List.cons_append, Option.toList, true_and, and_true, or_false, false_or, or_true, true_or, forall_const, Classical.not_not, not_false_eq_true, not_true_eq_false, false_implies, true_implies, implies_true, imp_self]
  refine ⟨fun q => ?_, fun q => ?_⟩
  · refine qel hQ ?_
    unfold V7_tens
    rw [show (M 7 4).toNat = a by omega]
  · refine ⟨by omega, by omega, ?_⟩
    exact hI_4 (7 - (a + 1)) _ _ _ (by omega) ⟨rfl, a + 1, by omega, by omega, rfl, rfl⟩
set_option maxHeartbeats 4000000 in
set_option maxRecDepth 100000 in
theorem m7_tens : MOK cl7 sh7 tyl7 [] 1 yX7_tens cX7_tens 4 (some .long) sp7_tens := by
  refine mok_of (own := RX7) (tb := tb7 (csL cs7_tens)) (rt := 3) (fuel := 400) (fun avs M Q => [(4, [0, 1, 3], fun m_ vs M1 => ∃ y_n : Int, ∃ y_c : Int, vs = [ar 0, al y_n, ai y_c] ∧ J7_tens_4 M m_ y_n y_c M1)]) (by decide) rfl nil_nw (tbOK7 _) rfl (csL_all ?_) ?_ ?_ ?_
  · intro q hq
    simp only [cs7_tens, List.mem_cons, List.not_mem_nil, or_false] at hq
    rcases hq with rfl
    · exact cg7_carts (by decide)
  · intro avs M Q hsp
    obtain ⟨xs, hx⟩ := spF_un _ _ _ hsp
    obtain ⟨e, hl⟩ := unA_mkT hx
    obtain rfl := len0 hl
    have e : avs = [ar 0] := e
    subst e
    simp [szL, isL]
  · intro avs M Q hM hav hsp
    obtain ⟨xs, hx⟩ := spF_un _ _ _ hsp
    obtain ⟨e, hl⟩ := unA_mkT hx
    obtain rfl := len0 hl
    have e : avs = [ar 0] := e
    subst e
    exact in7_tens hM hsp.1 hsp.2 _ (fun m_ y_n y_c M2 hJ => ⟨m_, y_n, y_c, rfl, hJ⟩)
  · intro avs M Q hM hav hsp q hq m_ vs M1 hM1 hv hJ
    obtain ⟨xs, hx⟩ := spF_un _ _ _ hsp
    obtain ⟨e, hl⟩ := unA_mkT hx
    obtain rfl := len0 hl
    have e : avs = [ar 0] := e
    subst e
    simp only [List.mem_cons, List.not_mem_nil, or_false] at hq
    rcases hq with rfl
    · obtain ⟨y_n, y_c, rfl, hJ⟩ := hJ
      exact at7_tens_4 hM hsp.1 hsp.2 hM1 (hv (1, al y_n) (List.mem_of_getElem? (i := 1) rfl)) (hv (3, ai y_c) (List.mem_of_getElem? (i := 2) rfl)) hJ _ (fun m2 z_n z_c M2 hm hJ2 => ⟨m2, hm, z_n, z_c, rfl, hJ2⟩)
theorem cg7_tens {lvl : Nat} (h : 1 < lvl) : CG RX7 cl7 sh7 tyl7 [] lvl 1 478 1 sp7_tens := cg_V (sg := []) nil_nw spF_mono spF_un m7_tens h rfl (by decide) rfl rfl ⟨rfl, by decide, by decide, rfl⟩ q2211 q2213 qs124 q138 q2214
/-- how often a set of frosts comes, of tens -/
def wgtP (V : Vy) (x : Int) : Nat → Int
  | 0 => 1
  | c + 1 => wgtP V x c * (if bitP x c then V 0 2 else 10 - V 0 2)
theorem wgt_1 {V : Vy} {x : Int} {c : Nat} (h : bitP x c) : wgtP V x (c + 1) = wgtP V x c * V 0 2 := by
  show wgtP V x c * _ = _
  rw [if_pos h]
theorem wgt_0 {V : Vy} {x : Int} {c : Nat} (h : ¬ bitP x c) : wgtP V x (c + 1) = wgtP V x c * (10 - V 0 2) := by
  show wgtP V x c * _ = _
  rw [if_neg h]
theorem wgt_b {V : Vy} (h : okY V) (x : Int) : ∀ n : Nat, 0 ≤ wgtP V x n ∧ wgtP V x n ≤ tenP n := by
  have ho := h.2.2.1
  intro n
  induction n with
  | zero => exact ⟨by show (0 : Int) ≤ 1; omega, Int.le_refl _⟩
  | succ n ih =>
    have key : ∀ f : Int, 0 ≤ f → f ≤ 10 → 0 ≤ wgtP V x n * f ∧ wgtP V x n * f ≤ tenP n * 10 := fun f h1 h2 => ⟨Int.mul_nonneg ih.1 h1, Int.mul_le_mul ih.2 h2 h1 (by omega)⟩
    show 0 ≤ wgtP V x n * _ ∧ wgtP V x n * _ ≤ tenP n * 10
    split
    · exact key _ ho.1 ho.2
    · exact key _ (by omega) (by omega)
/-- what a set of frosts does to a bridge: its sag at the end, or whether it breaks -/
def vakP (V : Vy) (C : Cf) (b : Nat) (q : Int) : Int := if q = 0 then (if (runP (whoM C) V C (V 0 4).toNat).2.1 b = -1 then 0 else 1) else sagP ((runP (whoM C) V C (V 0 4).toNat).1 b)
def wF (V : Vy) (b : Nat) (q : Int) (x : Nat) : Int := wgtP V x (V 0 4).toNat * vakP V (frsC V x) b q
theorem vak_b {V : Vy} {C : Cf} {b : Nat} {q : Int} (h : okY V) (hC : okCf V C) : 0 ≤ vakP V C b q ∧ vakP V C b q ≤ 792 := by
  have h4 := (okY_n h).2.1
  have x := run_ok (w := whoM C) h hC (V 0 4).toNat (by omega) b
  have y := sagP_b x.1
  unfold vakP
  split
  · split <;> omega
  · omega
theorem wF_b {V : Vy} {b : Nat} {q : Int} (h : okY V) (x : Nat) : 0 ≤ wF V b q x ∧ wF V b q x ≤ 10000000 * 792 := by
  have h4 := (okY_n h).2.1
  have h1 := wgt_b h x (V 0 4).toNat
  have h2 := tenP_b (n := (V 0 4).toNat) (by omega)
  have h3 := vak_b (b := b) (q := q) h (okCf_frs (x := (x : Int)) (okCf_tell h))
  exact ⟨Int.mul_nonneg h1.1 h3.1, Int.mul_le_mul (by omega) h3.2 h3.1 (by omega)⟩
theorem wS_b {V : Vy} {b : Nat} {q : Int} (h : okY V) {n : Nat} (hn : n ≤ 128) : 0 ≤ sumN (wF V b q) n ∧ sumN (wF V b q) n ≤ 1013760000000 := by
  have := sumN_b (f := wF V b q) (B := 10000000 * 792) (n := n) (fun k _ => wF_b h k)
  have h2 : (n : Int) * (10000000 * 792) ≤ 128 * (10000000 * 792) := Int.mul_le_mul_of_nonneg_right (by omega) (by omega)
  omega
def P7_weightOf (b : Int) (q : Int) (M : Mm) : Prop := okY (vM M) ∧ isB (vM M) b
def R7_weightOf (b : Int) (q : Int) (M : Mm) (v : Int) (M1 : Mm) : Prop := keepM M M1 ∧ v = sumN (wF (vM M) b.toNat q) (2 ^ (vM M 0 4).toNat)
def sp7_weightOf : Spec := spR true [0, 0] 2 (fun x M => P7_weightOf (x 0) (x 1) M) (fun x M v M1 => R7_weightOf (x 0) (x 1) M v M1)
theorem c7_weightOf {b q : Int} {M : Mm} {Q : Option AV → Mm → Prop} : sp7_weightOf [ar 0, ai b, ai q] M Q = (P7_weightOf b q M ∧ ∀ (v : Int) (M1 : Mm), R7_weightOf b q M v M1 → Q (some (al v)) M1) := rfl
def cs7_weightOf : List (Nat × Nat × Nat × Spec) := [(330, 1, 1, sp7_lays), (286, 1, 1, sp7_carts), (307, 0, 2, sp7_isBit), (333, 1, 1, sp7_runs), (317, 1, 2, sp7_sagOf)]
def J7_weightOf_9 (b : Int) (q : Int) (M : Mm) (m : Nat) (b_ : Int) (q_ : Int) (sum : Int) (x : Int) (M1 : Mm) : Prop := b = b_ ∧ q = q_ ∧ keepM M M1 ∧ (∀ y, nC (vM M) (up2 (cM M1) 0 1 y) = frsC (vM M) y) ∧ ∃ a : Nat, x = a ∧ a ≤ 2 ^ (vM M 0 4).toNat ∧ sum = sumN (wF (vM M) b.toNat q) a ∧ m = (128 - a) * 10 + 9
def J7_weightOf_26 (b : Int) (q : Int) (M : Mm) (m : Nat) (b_ : Int) (q_ : Int) (sum : Int) (x : Int) (w : Int) (c : Int) (M1 : Mm) : Prop := b = b_ ∧ q = q_ ∧ keepM M M1 ∧ (∀ y, nC (vM M) (up2 (cM M1) 0 1 y) = frsC (vM M) y) ∧ ∃ a i : Nat, x = a ∧ c = i ∧ a < 2 ^ (vM M 0 4).toNat ∧ (i : Int) ≤ M 7 4 ∧ sum = sumN (wF (vM M) b.toNat q) a ∧ w = wgtP (vM M) a i ∧ m = (128 - a) * 10 + (8 - i)
set_option maxHeartbeats 4000000 in
set_option maxRecDepth 100000 in
theorem in7_weightOf {b q : Int} {M : Mm} {Q : Option AV → Mm → Prop} (hM : okM sh7 M) (h_b : i32 b) (h_q : i32 q) (hP : P7_weightOf b q M) (hQ : ∀ (v : Int) (M1 : Mm), R7_weightOf b q M v M1 → Q (some (al v)) M1) (I_9 : List AV → Mm → Prop) (hI_9 : ∀ (m_ : Nat) (y_b_ : Int) (y_q_ : Int) (y_sum : Int) (y_x : Int) (M2 : Mm), J7_weightOf_9 b q M m_ y_b_ y_q_ y_sum y_x M2 → I_9 [ar 0, ai y_b_, ai y_q_, al y_sum, ai y_x] M2) (I_26 : List AV → Mm → Prop) (hI_26 : ∀ (m_ : Nat) (y_b_ : Int) (y_q_ : Int) (y_sum : Int) (y_x : Int) (y_w : Int) (y_c : Int) (M2 : Mm), J7_weightOf_26 b q M m_ y_b_ y_q_ y_sum y_x y_w y_c M2 → I_26 [ar 0, ai y_b_, ai y_q_, al y_sum, ai y_x, al y_w, ai y_c] M2) : wp (tb7 (csL cs7_weightOf)) sh7 9 3 cX7_weightOf [(9, [0, 1, 2, 3, 5], I_9), (26, [0, 1, 2, 3, 5, 6, 8], I_26)] Q 400 0 [(0, ar 0), (1, ai b), (2, ai q)] [] M := by
  obtain ⟨hY, hb⟩ := id hP
  simp only [e_wp dX7_weightOf_0 rfl, e_wp dX7_weightOf_1 rfl, e_wp dX7_weightOf_4 rfl, e_wp dX7_weightOf_5 rfl, e_wp dX7_weightOf_6 rfl, e_wp dX7_weightOf_7 rfl, e_wp dX7_weightOf_9 rfl, e_wp dX7_weightOf_11 rfl, e_wp dX7_weightOf_12 rfl, e_wp dX7_weightOf_13 rfl, e_wp dX7_weightOf_16 rfl, e_wp dX7_weightOf_17 rfl, e_wp dX7_weightOf_20 rfl, e_wp dX7_weightOf_21 rfl, e_wp dX7_weightOf_23 rfl, e_wp dX7_weightOf_24 rfl, e_wp dX7_weightOf_26 rfl, e_wp dX7_weightOf_28 rfl, e_wp dX7_weightOf_29 rfl, e_wp dX7_weightOf_32 rfl, e_wp dX7_weightOf_35 rfl, e_wp dX7_weightOf_37 rfl, e_wp dX7_weightOf_39 rfl, e_wp dX7_weightOf_41 rfl, e_wp dX7_weightOf_44 rfl, e_wp dX7_weightOf_47 rfl, e_wp dX7_weightOf_48 rfl, e_wp dX7_weightOf_51 rfl, e_wp dX7_weightOf_52 rfl, e_wp dX7_weightOf_53 rfl, e_wp dX7_weightOf_54 rfl, e_wp dX7_weightOf_57 rfl, e_wp dX7_weightOf_59 rfl, e_wp dX7_weightOf_60 rfl, e_wp dX7_weightOf_63 rfl, e_wp dX7_weightOf_64 rfl, e_wp dX7_weightOf_65 rfl, e_wp dX7_weightOf_66 rfl, e_wp dX7_weightOf_67 rfl, e_wp dX7_weightOf_68 rfl, e_wp dX7_weightOf_70 rfl, e_wp dX7_weightOf_73 rfl, e_wp dX7_weightOf_76 rfl, e_wp dX7_weightOf_78 rfl, e_wp dX7_weightOf_79 rfl, e_wp dX7_weightOf_80 rfl, e_wp dX7_weightOf_83 rfl, e_wp dX7_weightOf_86 rfl, e_wp dX7_weightOf_87 rfl, e_wp dX7_weightOf_89 rfl, e_wp dX7_weightOf_92 rfl, e_wp dX7_weightOf_93 rfl, e_wp dX7_weightOf_96 rfl, e_wp dX7_weightOf_97 rfl, e_wp dX7_weightOf_99 rfl, e_wp dX7_weightOf_100 rfl, e_wp dX7_weightOf_103 rfl, e_wp dX7_weightOf_104 rfl, e_wp dX7_weightOf_105 rfl, e_wp dX7_weightOf_108 rfl, e_wp dX7_weightOf_111 rfl, e_wp dX7_weightOf_112 rfl, e_wp dX7_weightOf_115 rfl, e_wp dX7_weightOf_116 rfl, e_wp dX7_weightOf_117 rfl, e_wp dX7_weightOf_118 rfl, e_wp dX7_weightOf_121 rfl, e_wp dX7_weightOf_122 rfl, e_wp dX7_weightOf_125 rfl, e_wp dX7_weightOf_126 rfl, e_wp dX7_weightOf_127 rfl, e_wp dX7_weightOf_128 rfl, e_wp dX7_weightOf_129 rfl, e_wp dX7_weightOf_130 rfl, e_wp dX7_weightOf_133 rfl, e_wp dX7_weightOf_136 rfl, e_wp dX7_weightOf_137 rfl, c7_lays, cs7_weightOf, c7_carts, P7_carts, V7_carts, c7_isBit, P7_isBit, V7_isBit, g7_34, p7_298, c7_runs, c7_sagOf, P7_sagOf, V7_sagOf, g7_74, a7_1, w7_1, a7_2, w7_2, a7_3, w7_3, a7_4, w7_4, a7_5, w7_5, a7_6, w7_6, a7_7, w7_7, a7_8, w7_8, a7_9, w7_9, a7_10, w7_10, a7_11, w7_11, a7_12, w7_12, a7_13, w7_13, a7_14, w7_14, a7_15, w7_15, a7_16, w7_16, a7_17, w7_17, a7_18, w7_18, a7_19, w7_19, a7_20, w7_20, a7_21, w7_21, a7_22, w7_22, a7_23, w7_23, a7_24, w7_24, a7_25, w7_25, a7_26, w7_26, a7_27, w7_27, a7_28, w7_28, a7_29, w7_29, a7_30, w7_30, a7_31, w7_31, a7_32, w7_32, a7_33, w7_33, e_iconst, e_bipush, e_sipush, e_lconst_0, e_lconst_1, e_iload, e_iload_0, e_iload_1, e_iload_2, e_iload_3, e_lload, e_lload_0, e_lload_1, e_lload_2, e_lload_3, e_aload, e_aload_0, e_aload_1, e_aload_2, e_aload_3, e_istore, e_istore_0, e_istore_1, e_istore_2, e_istore_3, e_astore, e_astore_0, e_astore_1, e_astore_2, e_astore_3, e_lstore, e_lstore_0, e_lstore_1, e_lstore_2, e_lstore_3, e_iinc, e_iadd, e_isub, e_imul, e_ladd, e_lsub, e_lmul, e_idiv, e_irem, e_ldiv, e_lrem, e_ineg, e_lneg, e_iand, e_ior, e_ixor, e_ishl, e_ishr, e_iushr, e_lcmp, e_i2l, e_l2i, e_i2b, e_i2s, e_dup_i, e_dup_r, e_pop_i, e_pop_r, e_dup2_l, e_dup2_ir, e_dup2_ii, e_ifeq, e_ifne, e_iflt, e_ifge, e_ifgt, e_ifle, e_iceq, e_icne, e_iclt, e_icge, e_icgt, e_icle, e_goto, e_switch, e_invokevirtual, e_invokestatic, e_invokespecial, e_ret0, e_ret1, e_ret2, e_ret3, ldI_s, ldL_s, ldR_s, clO_s, ctP_s, ctS_s, mgo_0, mgo_s, pjc_s, pj_0, pj_s, lk_s, rm1_0, rm1_i, rm1_r, rm1_l, rm2_0, rm2_i, rm2_r, rm2_l, csL_s, lc_lt, lc_ge, lc_gt, lc_le, lc_eq, b01_0, b01_1, b01_01, b01_n, up2_o, up2_s, up2_u, ne_eq, reduceCtorEq, Nat.reduceAdd, Nat.reduceEqDiff, Nat.reduceLT, Nat.reduceLeDiff, Int.reduceLE, Int.reduceLT, Int.reduceAdd, Int.reduceNeg, Int.reduceMul, Int.reduceSub, Int.reduceEq, Int.reduceToNat, Int.reduceNatCast, Int.cast_ofNat_Int, ↓reduceIte, and_self, List.drop_succ_cons, List.drop_zero, List.take_succ_cons, List.take_zero, List.length_cons, List.length_nil, List.reverse_cons, List.reverse_nil, List.nil_append, List.cons_append, Option.toList, true_and, and_true, or_false, false_or, or_true, true_or, forall_const, Classical.not_not, not_false_eq_true, not_true_eq_false, false_implies, true_implies, implies_true, imp_self]
  refine ⟨hY, fun M1 hR => ?_⟩
  obtain ⟨k1, k2⟩ := tl_use hR
  exact hI_9 ((128 - 0) * 10 + 9) _ _ _ _ _ ⟨rfl, rfl, k1, fun y => by rw [nC_u, k2], 0, rfl, Nat.zero_le _, rfl, rfl⟩
set_option maxHeartbeats 4000000 in
set_option maxRecDepth 100000 in
theorem at7_weightOf_9 {b q : Int} {M : Mm} {Q : Option AV → Mm → Prop} (hM : okM sh7 M) (h_b : i32 b) (h_q : i32 q) (hP : P7_weightOf b q M) (hQ : ∀ (v : Int) (M1 : Mm), R7_weightOf b q M v M1 → Q (some (al v)) M1) {m : Nat} {b_ q_ sum x : Int} {M1 : Mm} (hM1 : okM sh7 M1) (h_b_ : i32 b_) (h_q_ : i32 q_) (h_sum : i64 sum) (h_x : i32 x) (hJ : J7_weightOf_9 b q M m b_ q_ sum x M1) (I_9 : List AV → Mm → Prop) (hI_9 : ∀ (m_ : Nat) (y_b_ : Int) (y_q_ : Int) (y_sum : Int) (y_x : Int) (M2 : Mm), m_ < m → J7_weightOf_9 b q M m_ y_b_ y_q_ y_sum y_x M2 → I_9 [ar 0, ai y_b_, ai y_q_, al y_sum, ai y_x] M2) (I_26 : List AV → Mm → Prop) (hI_26 : ∀ (m_ : Nat) (y_b_ : Int) (y_q_ : Int) (y_sum : Int) (y_x : Int) (y_w : Int) (y_c : Int) (M2 : Mm), m_ < m → J7_weightOf_26 b q M m_ y_b_ y_q_ y_sum y_x y_w y_c M2 → I_26 [ar 0, ai y_b_, ai y_q_, al y_sum, ai y_x, al y_w, ai y_c] M2) : wp (tb7 (csL cs7_weightOf)) sh7 9 3 cX7_weightOf [(9, [0, 1, 2, 3, 5], I_9), (26, [0, 1, 2, 3, 5, 6, 8], I_26)] Q 400 9 [(0, ar 0), (1, ai b_), (2, ai q_), (3, al sum), (5, ai x)] [] M1 := by
  obtain ⟨rfl, rfl, hk, hC, a, rfl, ha, rfl, rfl⟩ := hJ
  obtain ⟨hY, hb⟩ := id hP
  have h4 : 0 ≤ M 7 4 ∧ M 7 4 ≤ 7 := hY.2.2.2.2.1
  have e7 : M1 7 = M 7 := keep_has hk
  have en : (((vM M 0 4).toNat : Nat) : Int) = M 7 4 := Int.toNat_of_nonneg h4.1
  have eb : bshl 1 (M 7 4) = ((2 ^ (vM M 0 4).toNat : Nat) : Int) := by rw [← en]; exact shl_n (by omega)
  have hp := pow7 (n := (vM M 0 4).toNat) (by omega)
  simp only [e_wp dX7_weightOf_0 rfl, e_wp dX7_weightOf_1 rfl, e_wp dX7_weightOf_4 rfl, e_wp dX7_weightOf_5 rfl, e_wp dX7_weightOf_6 rfl, e_wp dX7_weightOf_7 rfl, e_wp dX7_weightOf_9 rfl, e_wp dX7_weightOf_11 rfl, e_wp dX7_weightOf_12 rfl, e_wp dX7_weightOf_13 rfl, e_wp dX7_weightOf_16 rfl, e_wp dX7_weightOf_17 rfl, e_wp dX7_weightOf_20 rfl, e_wp dX7_weightOf_21 rfl, e_wp dX7_weightOf_23 rfl, e_wp dX7_weightOf_24 rfl, e_wp dX7_weightOf_26 rfl, e_wp dX7_weightOf_28 rfl, e_wp dX7_weightOf_29 rfl, e_wp dX7_weightOf_32 rfl, e_wp dX7_weightOf_35 rfl, e_wp dX7_weightOf_37 rfl, e_wp dX7_weightOf_39 rfl, e_wp dX7_weightOf_41 rfl, e_wp dX7_weightOf_44 rfl, e_wp dX7_weightOf_47 rfl, e_wp dX7_weightOf_48 rfl, e_wp dX7_weightOf_51 rfl, e_wp dX7_weightOf_52 rfl, e_wp dX7_weightOf_53 rfl, e_wp dX7_weightOf_54 rfl, e_wp dX7_weightOf_57 rfl, e_wp dX7_weightOf_59 rfl, e_wp dX7_weightOf_60 rfl, e_wp dX7_weightOf_63 rfl, e_wp dX7_weightOf_64 rfl, e_wp dX7_weightOf_65 rfl, e_wp dX7_weightOf_66 rfl, e_wp dX7_weightOf_67 rfl, e_wp dX7_weightOf_68 rfl, e_wp dX7_weightOf_70 rfl, e_wp dX7_weightOf_73 rfl, e_wp dX7_weightOf_76 rfl, e_wp dX7_weightOf_78 rfl, e_wp dX7_weightOf_79 rfl, e_wp dX7_weightOf_80 rfl, e_wp dX7_weightOf_83 rfl, e_wp dX7_weightOf_86 rfl, e_wp dX7_weightOf_87 rfl, e_wp dX7_weightOf_89 rfl, e_wp dX7_weightOf_92 rfl, e_wp dX7_weightOf_93 rfl, e_wp dX7_weightOf_96 rfl, e_wp dX7_weightOf_97 rfl, e_wp dX7_weightOf_99 rfl, e_wp dX7_weightOf_100 rfl, e_wp dX7_weightOf_103 rfl, e_wp dX7_weightOf_104 rfl, e_wp dX7_weightOf_105 rfl, e_wp dX7_weightOf_108 rfl, e_wp dX7_weightOf_111 rfl, e_wp dX7_weightOf_112 rfl, e_wp dX7_weightOf_115 rfl, e_wp dX7_weightOf_116 rfl, e_wp dX7_weightOf_117 rfl, e_wp dX7_weightOf_118 rfl, e_wp dX7_weightOf_121 rfl, e_wp dX7_weightOf_122 rfl, e_wp dX7_weightOf_125 rfl, e_wp dX7_weightOf_126 rfl, e_wp dX7_weightOf_127 rfl, e_wp dX7_weightOf_128 rfl, e_wp dX7_weightOf_129 rfl, e_wp dX7_weightOf_130 rfl, e_wp dX7_weightOf_133 rfl, e_wp dX7_weightOf_136 rfl, e_wp dX7_weightOf_137 rfl, c7_lays, cs7_weightOf, c7_carts, P7_carts, V7_carts, c7_isBit, P7_isBit, V7_isBit, g7_34, p7_298, c7_runs, c7_sagOf, P7_sagOf, V7_sagOf, g7_74, a7_1, w7_1, a7_2, w7_2, a7_3, w7_3, a7_4, w7_4, a7_5, w7_5, a7_6, w7_6, a7_7, w7_7, a7_8, w7_8, a7_9, w7_9, a7_10, w7_10, a7_11, w7_11, a7_12, w7_12, a7_13, w7_13, a7_14, w7_14, a7_15, w7_15, a7_16, w7_16, a7_17, w7_17, a7_18, w7_18, a7_19, w7_19, a7_20, w7_20, a7_21, w7_21, a7_22, w7_22, a7_23, w7_23, a7_24, w7_24, a7_25, w7_25, a7_26, w7_26, a7_27, w7_27, a7_28, w7_28, a7_29, w7_29, a7_30, w7_30, a7_31, w7_31, a7_32, w7_32, a7_33, w7_33, e_iconst, e_bipush, e_sipush, e_lconst_0, e_lconst_1, e_iload, e_iload_0, e_iload_1, e_iload_2, e_iload_3, e_lload, e_lload_0, e_lload_1, e_lload_2, e_lload_3, e_aload, e_aload_0, e_aload_1, e_aload_2, e_aload_3, e_istore, e_istore_0, e_istore_1, e_istore_2, e_istore_3, e_astore, e_astore_0, e_astore_1, e_astore_2, e_astore_3, e_lstore, e_lstore_0, e_lstore_1, e_lstore_2, e_lstore_3, e_iinc, e_iadd, e_isub, e_imul, e_ladd, e_lsub, e_lmul, e_idiv, e_irem, e_ldiv, e_lrem, e_ineg, e_lneg, e_iand, e_ior, e_ixor, e_ishl, e_ishr, e_iushr, e_lcmp, e_i2l, e_l2i, e_i2b, e_i2s, e_dup_i, e_dup_r, e_pop_i, e_pop_r, e_dup2_l, e_dup2_ir, e_dup2_ii, e_ifeq, e_ifne, e_iflt, e_ifge, e_ifgt, e_ifle, e_iceq, e_icne, e_iclt, e_icge, e_icgt, e_icle, e_goto, e_switch, e_invokevirtual, e_invokestatic, e_invokespecial, e_ret0, e_ret1, e_ret2, e_ret3, ldI_s, ldL_s, ldR_s, clO_s, ctP_s, ctS_s, mgo_0, mgo_s, pjc_s, pj_0, pj_s, lk_s, rm1_0, rm1_i, rm1_r, rm1_l, rm2_0, rm2_i, rm2_r, rm2_l, csL_s, lc_lt, lc_ge, lc_gt, lc_le, lc_eq, b01_0, b01_1, b01_01, b01_n, up2_o, up2_s, up2_u, ne_eq, reduceCtorEq, Nat.reduceAdd, Nat.reduceEqDiff, Nat.reduceLT, Nat.reduceLeDiff, Int.reduceLE, Int.reduceLT, Int.reduceAdd, Int.reduceNeg, Int.reduceMul, Int.reduceSub, Int.reduceEq, Int.reduceToNat, Int.reduceNatCast, Int.cast_ofNat_Int, ↓reduceIte, and_self, List.drop_succ_cons, List.drop_zero, List.take_succ_cons, List.take_zero, List.length_cons, List.length_nil, List.reverse_cons, List.reverse_nil, List.nil_append, List.cons_append, Option.toList, true_and, and_true, or_false, false_or, or_true, true_or, forall_const, Classical.not_not, not_false_eq_true, not_true_eq_false, false_implies, true_implies, implies_true, imp_self, e7]
  rw [eb]
  refine ⟨fun z => hQ _ _ ⟨hk, ?_⟩, fun z => ?_⟩
  · rw [show a = 2 ^ (vM M 0 4).toNat by omega]
  · exact hI_26 ((128 - a) * 10 + (8 - 0)) _ _ _ _ _ _ _ (by omega) ⟨rfl, rfl, hk, hC, a, 0, rfl, rfl, by omega, h4.1, rfl, rfl, rfl⟩
set_option maxHeartbeats 4000000 in
set_option maxRecDepth 100000 in
theorem at7_weightOf_26 {b q : Int} {M : Mm} {Q : Option AV → Mm → Prop} (hM : okM sh7 M) (h_b : i32 b) (h_q : i32 q) (hP : P7_weightOf b q M) (hQ : ∀ (v : Int) (M1 : Mm), R7_weightOf b q M v M1 → Q (some (al v)) M1) {m : Nat} {b_ q_ sum x w c : Int} {M1 : Mm} (hM1 : okM sh7 M1) (h_b_ : i32 b_) (h_q_ : i32 q_) (h_sum : i64 sum) (h_x : i32 x) (h_w : i64 w) (h_c : i32 c) (hJ : J7_weightOf_26 b q M m b_ q_ sum x w c M1) (I_9 : List AV → Mm → Prop) (hI_9 : ∀ (m_ : Nat) (y_b_ : Int) (y_q_ : Int) (y_sum : Int) (y_x : Int) (M2 : Mm), m_ < m → J7_weightOf_9 b q M m_ y_b_ y_q_ y_sum y_x M2 → I_9 [ar 0, ai y_b_, ai y_q_, al y_sum, ai y_x] M2) (I_26 : List AV → Mm → Prop) (hI_26 : ∀ (m_ : Nat) (y_b_ : Int) (y_q_ : Int) (y_sum : Int) (y_x : Int) (y_w : Int) (y_c : Int) (M2 : Mm), m_ < m → J7_weightOf_26 b q M m_ y_b_ y_q_ y_sum y_x y_w y_c M2 → I_26 [ar 0, ai y_b_, ai y_q_, al y_sum, ai y_x, al y_w, ai y_c] M2) : wp (tb7 (csL cs7_weightOf)) sh7 9 3 cX7_weightOf [(9, [0, 1, 2, 3, 5], I_9), (26, [0, 1, 2, 3, 5, 6, 8], I_26)] Q 400 26 [(0, ar 0), (1, ai b_), (2, ai q_), (3, al sum), (5, ai x), (6, al w), (8, ai c)] [] M1 := by
  obtain ⟨rfl, rfl, hk, hC, a, i, rfl, rfl, ha, hi, rfl, rfl, rfl⟩ := hJ
  obtain ⟨hY, hb⟩ := id hP
  have h4 : 0 ≤ M 7 4 ∧ M 7 4 ≤ 7 := hY.2.2.2.2.1
  have h3 : 0 ≤ M 7 3 ∧ M 7 3 ≤ 3 := hY.2.2.2.1
  have h2 : 0 ≤ M 7 2 ∧ M 7 2 ≤ 10 := hY.2.2.1
  have hb3 : b < M 7 3 := hb.2
  have e7 : M1 7 = M 7 := keep_has hk
  have en : (((vM M 0 4).toNat : Nat) : Int) = M 7 4 := Int.toNat_of_nonneg h4.1
  have hp := pow7 (n := (vM M 0 4).toNat) (by omega)
  have hw := wgt_b hY a i
  have ht := tenP_b (n := i) (by omega)
  have hS := wS_b (b := b.toNat) (q := q) hY (n := a) (by omega)
  have hF := wF_b (b := b.toNat) (q := q) hY a
  have e02 : vM M 0 2 = M 7 2 := rfl
  have nxt : ∀ M2 s, keepM M M2 → (∀ y, nC (vM M) (up2 (cM M2) 0 1 y) = frsC (vM M) y) → s = sumN (wF (vM M) b.toNat q) (a + 1) → i32 ((a : Int) + 1) ∧ I_9 [ar 0, ai b, ai q, al s, ai (a + 1)] M2 := by
    intro M2 s g1 g2 g3
    exact ⟨by omega, hI_9 ((128 - (a + 1)) * 10 + 9) _ _ _ _ _ (by omega) ⟨rfl, rfl, g1, g2, a + 1, by omega, by omega, g3, rfl⟩⟩
  have es : sumN (wF (vM M) b.toNat q) (a + 1) = sumN (wF (vM M) b.toNat q) a + wF (vM M) b.toNat q a := rfl
  simp only [e_wp dX7_weightOf_0 rfl, e_wp dX7_weightOf_1 rfl, e_wp dX7_weightOf_4 rfl, e_wp dX7_weightOf_5 rfl, e_wp dX7_weightOf_6 rfl, e_wp dX7_weightOf_7 rfl, e_wp dX7_weightOf_9 rfl, e_wp dX7_weightOf_11 rfl, e_wp dX7_weightOf_12 rfl, e_wp dX7_weightOf_13 rfl, e_wp dX7_weightOf_16 rfl, e_wp dX7_weightOf_17 rfl, e_wp dX7_weightOf_20 rfl, e_wp dX7_weightOf_21 rfl, e_wp dX7_weightOf_23 rfl, e_wp dX7_weightOf_24 rfl, e_wp dX7_weightOf_26 rfl, e_wp dX7_weightOf_28 rfl, e_wp dX7_weightOf_29 rfl, e_wp dX7_weightOf_32 rfl, e_wp dX7_weightOf_35 rfl, e_wp dX7_weightOf_37 rfl, e_wp dX7_weightOf_39 rfl, e_wp dX7_weightOf_41 rfl, e_wp dX7_weightOf_44 rfl, e_wp dX7_weightOf_47 rfl, e_wp dX7_weightOf_48 rfl, e_wp dX7_weightOf_51 rfl, e_wp dX7_weightOf_52 rfl, e_wp dX7_weightOf_53 rfl, e_wp dX7_weightOf_54 rfl, e_wp dX7_weightOf_57 rfl, e_wp dX7_weightOf_59 rfl, e_wp dX7_weightOf_60 rfl, e_wp dX7_weightOf_63 rfl, e_wp dX7_weightOf_64 rfl, e_wp dX7_weightOf_65 rfl, e_wp dX7_weightOf_66 rfl, e_wp dX7_weightOf_67 rfl, e_wp dX7_weightOf_68 rfl, e_wp dX7_weightOf_70 rfl, e_wp dX7_weightOf_73 rfl, e_wp dX7_weightOf_76 rfl, e_wp dX7_weightOf_78 rfl, e_wp dX7_weightOf_79 rfl, e_wp dX7_weightOf_80 rfl, e_wp dX7_weightOf_83 rfl, e_wp dX7_weightOf_86 rfl, e_wp dX7_weightOf_87 rfl, e_wp dX7_weightOf_89 rfl, e_wp dX7_weightOf_92 rfl, e_wp dX7_weightOf_93 rfl, e_wp dX7_weightOf_96 rfl, e_wp dX7_weightOf_97 rfl, e_wp dX7_weightOf_99 rfl, e_wp dX7_weightOf_100 rfl, e_wp dX7_weightOf_103 rfl, e_wp dX7_weightOf_104 rfl, e_wp dX7_weightOf_105 rfl, e_wp dX7_weightOf_108 rfl, e_wp dX7_weightOf_111 rfl, e_wp dX7_weightOf_112 rfl, e_wp dX7_weightOf_115 rfl, e_wp dX7_weightOf_116 rfl, e_wp dX7_weightOf_117 rfl, e_wp dX7_weightOf_118 rfl, e_wp dX7_weightOf_121 rfl, e_wp dX7_weightOf_122 rfl, e_wp dX7_weightOf_125 rfl, e_wp dX7_weightOf_126 rfl, e_wp dX7_weightOf_127 rfl, e_wp dX7_weightOf_128 rfl, e_wp dX7_weightOf_129 rfl, e_wp dX7_weightOf_130 rfl, e_wp dX7_weightOf_133 rfl, e_wp dX7_weightOf_136 rfl, e_wp dX7_weightOf_137 rfl, c7_lays, cs7_weightOf, c7_carts, P7_carts, V7_carts, c7_isBit, P7_isBit, V7_isBit, g7_34, p7_298, c7_runs, c7_sagOf, P7_sagOf, V7_sagOf, g7_74, a7_1, w7_1, a7_2, w7_2, a7_3, w7_3, a7_4, w7_4, a7_5, w7_5, a7_6, w7_6, a7_7, w7_7, a7_8, w7_8, a7_9, w7_9, a7_10, w7_10, a7_11, w7_11, a7_12, w7_12, a7_13, w7_13, a7_14, w7_14, a7_15, w7_15, a7_16, w7_16, a7_17, w7_17, a7_18, w7_18, a7_19, w7_19, a7_20, w7_20, a7_21, w7_21, a7_22, w7_22, a7_23, w7_23, a7_24, w7_24, a7_25, w7_25, a7_26, w7_26, a7_27, w7_27, a7_28, w7_28, a7_29, w7_29, a7_30, w7_30, a7_31, w7_31, a7_32, w7_32, a7_33, w7_33, e_iconst, e_bipush, e_sipush, e_lconst_0, e_lconst_1, e_iload, e_iload_0, e_iload_1, e_iload_2, e_iload_3, e_lload, e_lload_0, e_lload_1, e_lload_2, e_lload_3, e_aload, e_aload_0, e_aload_1, e_aload_2, e_aload_3, e_istore, e_istore_0, e_istore_1, e_istore_2, e_istore_3, e_astore, e_astore_0, e_astore_1, e_astore_2, e_astore_3, e_lstore, e_lstore_0, e_lstore_1, e_lstore_2, e_lstore_3, e_iinc, e_iadd, e_isub, e_imul, e_ladd, e_lsub, e_lmul, e_idiv, e_irem, e_ldiv, e_lrem, e_ineg, e_lneg, e_iand, e_ior, e_ixor, e_ishl, e_ishr, e_iushr, e_lcmp, e_i2l, e_l2i, e_i2b, e_i2s, e_dup_i, e_dup_r, e_pop_i, e_pop_r, e_dup2_l, e_dup2_ir, e_dup2_ii, e_ifeq, e_ifne, e_iflt, e_ifge, e_ifgt, e_ifle, e_iceq, e_icne, e_iclt, e_icge, e_icgt, e_icle, e_goto, e_switch, e_invokevirtual, e_invokestatic, e_invokespecial, e_ret0, e_ret1, e_ret2, e_ret3, ldI_s, ldL_s, ldR_s, clO_s, ctP_s, ctS_s, mgo_0, mgo_s, pjc_s, pj_0, pj_s, lk_s, rm1_0, rm1_i, rm1_r, rm1_l, rm2_0, rm2_i, rm2_r, rm2_l, csL_s, lc_lt, lc_ge, lc_gt, lc_le, lc_eq, b01_0, b01_1, b01_01, b01_n, up2_o, up2_s, up2_u, ne_eq, reduceCtorEq, Nat.reduceAdd, Nat.reduceEqDiff, Nat.reduceLT, Nat.reduceLeDiff, Int.reduceLE, Int.reduceLT, Int.reduceAdd, Int.reduceNeg, Int.reduceMul, Int.reduceSub, Int.reduceEq, Int.reduceToNat, Int.reduceNatCast, Int.cast_ofNat_Int, ↓reduceIte, and_self, List.drop_succ_cons, List.drop_zero, List.take_succ_cons, List.take_zero, List.length_cons, List.length_nil, List.reverse_cons, List.reverse_nil, List.nil_append, List.cons_append, Option.toList, true_and, and_true, or_false, false_or, or_true, true_or, forall_const, Classical.not_not, not_false_eq_true, not_true_eq_false, false_implies, true_implies, implies_true, imp_self, e7]
  refine ⟨fun z => ?_, fun z => ?_⟩
  · have ei : i = (vM M 0 4).toNat := by omega
    subst ei
    refine ⟨fun w => ?_, fun w => ?_⟩
    · have k3 : keepM M (up2 M1 0 25 a) := keep_u0 hk (by decide)
      have k4 : nC (vM M) (cM (up2 M1 0 25 a)) = frsC (vM M) a := by rw [frs_cM]; exact hC _
      refine ⟨run_pre hY k3 k4 (okCf_frs (okCf_tell hY)), fun M2 hR => ?_⟩
      have hf := hR.1
      obtain ⟨s1, s2, s3, s4⟩ := run_use k3 k4 hR
      have hC2 : ∀ y, nC (vM M) (up2 (cM M2) 0 1 y) = frsC (vM M) y := by
        intro y
        rw [cM_frm hf (by decide), frs_cM, up2_u]; exact hC y
      have hbr := s2.1 b.toNat (by omega)
      have hst := s2.2.1 b.toNat (by show ((b.toNat : Nat) : Int) < M 7 3; omega)
      rw [Int.toNat_of_nonneg hb.1] at hbr hst
      have hsg := sagP_b hbr.1.2.2
      have hln := mb_len hbr.1
      have hdp := hbr.1.2.1
      have fin : ∀ v, v = vakP (vM M) (frsC (vM M) a) b.toNat q → i64 (wgtP (vM M) a (vM M 0 4).toNat * v) ∧ i64 (sumN (wF (vM M) b.toNat q) a + wgtP (vM M) a (vM M 0 4).toNat * v) ∧ i32 ((a : Int) + 1) ∧ I_9 [ar 0, ai b, ai q, al (sumN (wF (vM M) b.toNat q) a + wgtP (vM M) a (vM M 0 4).toNat * v), ai (a + 1)] M2 := by
        rintro v rfl
        have ew : wgtP (vM M) a (vM M 0 4).toNat * vakP (vM M) (frsC (vM M) a) b.toNat q = wF (vM M) b.toNat q a := rfl
        rw [ew]
        exact ⟨by omega, by omega, nxt _ _ s1 hC2 rfl⟩
      refine ⟨fun y => ⟨by omega, fun u => ?_, fun u => ?_⟩, fun y => ⟨hbr.1, ?_⟩⟩
      · refine fin 1 ?_
        unfold vakP
        rw [if_pos y, if_neg (by rw [← hst.2.1]; exact u)]
      · refine fin 0 ?_
        unfold vakP
        rw [if_pos y, if_pos (by rw [← hst.2.1]; exact u)]
      · refine fin _ ?_
        unfold vakP
        rw [if_neg y, ← hst.1]
    · refine nxt M1 _ hk hC ?_
      rw [es]
      unfold wF
      rw [w]
      omega
  · have go : ∀ x, x = wgtP (vM M) a (i + 1) → i32 ((i : Int) + 1) ∧ I_26 [ar 0, ai b, ai q, al (sumN (wF (vM M) b.toNat q) a), ai a, al x, ai (i + 1)] M1 := by
      rintro x rfl
      exact ⟨by omega, hI_26 ((128 - a) * 10 + (8 - (i + 1))) _ _ _ _ _ _ _ (by omega) ⟨rfl, rfl, hk, hC, a, i + 1, rfl, by omega, ha, by omega, rfl, rfl, rfl⟩⟩
    have hw1 := wgt_b hY a (i + 1)
    have ht1 := tenP_b (n := i + 1) (by omega)
    refine ⟨fun w => ?_, fun w => ?_⟩
    · have e := wgt_0 (V := vM M) w
      rw [e02] at e
      rw [e] at hw1
      exact ⟨by omega, by omega, go _ e.symm⟩
    · have e := wgt_1 (V := vM M) w
      rw [e02] at e
      rw [e] at hw1
      exact ⟨by omega, go _ e.symm⟩
set_option maxHeartbeats 4000000 in
set_option maxRecDepth 100000 in
theorem m7_weightOf : MOK cl7 sh7 tyl7 [] 4 yX7_weightOf cX7_weightOf 9 (some .long) sp7_weightOf := by
  refine mok_of (own := RX7) (tb := tb7 (csL cs7_weightOf)) (rt := 3) (fuel := 400) (fun avs M Q => [(9, [0, 1, 2, 3, 5], fun m_ vs M1 => ∃ y_b_ : Int, ∃ y_q_ : Int, ∃ y_sum : Int, ∃ y_x : Int, vs = [ar 0, ai y_b_, ai y_q_, al y_sum, ai y_x] ∧ J7_weightOf_9 (pa true [0, 0] avs 0) (pa true [0, 0] avs 1) M m_ y_b_ y_q_ y_sum y_x M1), (26, [0, 1, 2, 3, 5, 6, 8], fun m_ vs M1 => ∃ y_b_ : Int, ∃ y_q_ : Int, ∃ y_sum : Int, ∃ y_x : Int, ∃ y_w : Int, ∃ y_c : Int, vs = [ar 0, ai y_b_, ai y_q_, al y_sum, ai y_x, al y_w, ai y_c] ∧ J7_weightOf_26 (pa true [0, 0] avs 0) (pa true [0, 0] avs 1) M m_ y_b_ y_q_ y_sum y_x y_w y_c M1)]) (by decide) rfl nil_nw (tbOK7 _) rfl (csL_all ?_) ?_ ?_ ?_
  · intro q hq
    simp only [cs7_weightOf, List.mem_cons, List.not_mem_nil, or_false] at hq
    rcases hq with rfl | rfl | rfl | rfl | rfl
    · exact cg7_lays (by decide)
    · exact cg7_carts (by decide)
    · exact cg7_isBit (by decide)
    · exact cg7_runs (by decide)
    · exact cg7_sagOf (by decide)
  · intro avs M Q hsp
    obtain ⟨xs, hx⟩ := spR_un _ _ _ hsp
    obtain ⟨e, hl⟩ := unA_mkT hx
    obtain ⟨b, q, rfl⟩ := len2 hl
    have e : avs = [ar 0, ai b, ai q] := e
    subst e
    simp [szL, isL]
  · intro avs M Q hM hav hsp
    obtain ⟨xs, hx⟩ := spR_un _ _ _ hsp
    obtain ⟨e, hl⟩ := unA_mkT hx
    obtain ⟨b, q, rfl⟩ := len2 hl
    have e : avs = [ar 0, ai b, ai q] := e
    subst e
    exact in7_weightOf hM (hav (ai b) (by simp)) (hav (ai q) (by simp)) hsp.1 hsp.2 _ (fun m_ y_b_ y_q_ y_sum y_x M2 hJ => ⟨m_, y_b_, y_q_, y_sum, y_x, rfl, hJ⟩) _ (fun m_ y_b_ y_q_ y_sum y_x y_w y_c M2 hJ => ⟨m_, y_b_, y_q_, y_sum, y_x, y_w, y_c, rfl, hJ⟩)
  · intro avs M Q hM hav hsp q hq m_ vs M1 hM1 hv hJ
    obtain ⟨xs, hx⟩ := spR_un _ _ _ hsp
    obtain ⟨e, hl⟩ := unA_mkT hx
    obtain ⟨b, q, rfl⟩ := len2 hl
    have e : avs = [ar 0, ai b, ai q] := e
    subst e
    simp only [List.mem_cons, List.not_mem_nil, or_false] at hq
    rcases hq with rfl | rfl
    · obtain ⟨y_b_, y_q_, y_sum, y_x, rfl, hJ⟩ := hJ
      exact at7_weightOf_9 hM (hav (ai b) (by simp)) (hav (ai q) (by simp)) hsp.1 hsp.2 hM1 (hv (1, ai y_b_) (List.mem_of_getElem? (i := 1) rfl)) (hv (2, ai y_q_) (List.mem_of_getElem? (i := 2) rfl)) (hv (3, al y_sum) (List.mem_of_getElem? (i := 3) rfl)) (hv (5, ai y_x) (List.mem_of_getElem? (i := 4) rfl)) hJ _ (fun m2 z_b_ z_q_ z_sum z_x M2 hm hJ2 => ⟨m2, hm, z_b_, z_q_, z_sum, z_x, rfl, hJ2⟩) _ (fun m2 z_b_ z_q_ z_sum z_x z_w z_c M2 hm hJ2 => ⟨m2, hm, z_b_, z_q_, z_sum, z_x, z_w, z_c, rfl, hJ2⟩)
    · obtain ⟨y_b_, y_q_, y_sum, y_x, y_w, y_c, rfl, hJ⟩ := hJ
      exact at7_weightOf_26 hM (hav (ai b) (by simp)) (hav (ai q) (by simp)) hsp.1 hsp.2 hM1 (hv (1, ai y_b_) (List.mem_of_getElem? (i := 1) rfl)) (hv (2, ai y_q_) (List.mem_of_getElem? (i := 2) rfl)) (hv (3, al y_sum) (List.mem_of_getElem? (i := 3) rfl)) (hv (5, ai y_x) (List.mem_of_getElem? (i := 4) rfl)) (hv (6, al y_w) (List.mem_of_getElem? (i := 5) rfl)) (hv (8, ai y_c) (List.mem_of_getElem? (i := 6) rfl)) hJ _ (fun m2 z_b_ z_q_ z_sum z_x M2 hm hJ2 => ⟨m2, hm, z_b_, z_q_, z_sum, z_x, rfl, hJ2⟩) _ (fun m2 z_b_ z_q_ z_sum z_x z_w z_c M2 hm hJ2 => ⟨m2, hm, z_b_, z_q_, z_sum, z_x, z_w, z_c, rfl, hJ2⟩)
theorem cg7_weightOf {lvl : Nat} (h : 4 < lvl) : CG RX7 cl7 sh7 tyl7 [] lvl 1 474 3 sp7_weightOf := cg_V (sg := [0, 0]) nil_nw spR_mono spR_un m7_weightOf h rfl (by decide) rfl rfl ⟨rfl, by decide, by decide, rfl⟩ q2207 q2209 qs123 q138 q2210
def A_chance (V : Vy) (b w : Int) : Int := if isB V b ∧ 0 ≤ w ∧ w ≤ 1 then (prtP (sumN (wF V b.toNat 0) (2 ^ (V 0 4).toNat)) (tenP (V 0 4).toNat) w).bmod 4294967296 else -2
def A_mean (V : Vy) (b w : Int) : Int := if isB V b ∧ 0 ≤ w ∧ w ≤ 1 then prtP (sumN (wF V b.toNat 1) (2 ^ (V 0 4).toNat)) (tenP (V 0 4).toNat) w else -2
theorem wgt_use {M M1 : Mm} {b q v : Int} (hY : okY (vM M)) (hR : R7_weightOf b q (up2 M 0 0 0) v M1) : keepM M M1 ∧ M1 7 = M 7 ∧ v = sumN (wF (vM M) b.toNat q) (2 ^ (vM M 0 4).toNat) ∧ 0 ≤ v ∧ v ≤ 1013760000000 := by
  have hk0 : keepM M (up2 M 0 0 0) := keep_u0 keep_rf (by decide)
  have hV : vM (up2 M 0 0 0) = vM M := keep_v hk0 0
  obtain ⟨h1, h2⟩ := hR
  rw [hV] at h2
  have hk := keep_tr hk0 h1
  have h4 : 0 ≤ M 7 4 ∧ M 7 4 ≤ 7 := hY.2.2.2.2.1
  have hp := pow7 (n := (vM M 0 4).toNat) (by show (M 7 4).toNat ≤ 7; omega)
  exact ⟨hk, keep_has hk, h2, by rw [h2]; exact wS_b hY hp⟩
def P7_chance (b : Int) (w : Int) (M : Mm) : Prop := okY (vM M)
def R7_chance (b : Int) (w : Int) (M : Mm) (v : Int) (M1 : Mm) : Prop := keepM M M1 ∧ v = A_chance (vM M) b w
def sp7_chance : Spec := spR true [0, 0] 1 (fun x M => P7_chance (x 0) (x 1) M) (fun x M v M1 => R7_chance (x 0) (x 1) M v M1)
theorem c7_chance {b w : Int} {M : Mm} {Q : Option AV → Mm → Prop} : sp7_chance [ar 0, ai b, ai w] M Q = (P7_chance b w M ∧ ∀ (v : Int) (M1 : Mm), R7_chance b w M v M1 → Q (some (ai v)) M1) := rfl
def cs7_chance : List (Nat × Nat × Nat × Spec) := [(292, 1, 2, sp7_isBridge), (342, 0, 1, sp7_isHalf), (474, 1, 3, sp7_weightOf), (478, 1, 1, sp7_tens), (456, 0, 3, sp7_part)]
set_option maxHeartbeats 4000000 in
set_option maxRecDepth 100000 in
theorem in7_chance {b w : Int} {M : Mm} {Q : Option AV → Mm → Prop} (hM : okM sh7 M) (h_b : i32 b) (h_w : i32 w) (hP : P7_chance b w M) (hQ : ∀ (v : Int) (M1 : Mm), R7_chance b w M v M1 → Q (some (ai v)) M1) : wp (tb7 (csL cs7_chance)) sh7 3 1 cX7_chance [] Q 400 0 [(0, ar 0), (1, ai b), (2, ai w)] [] M := by
  have h4 : 0 ≤ M 7 4 ∧ M 7 4 ≤ 7 := hP.2.2.2.2.1
  have h3 : 0 ≤ M 7 3 ∧ M 7 3 ≤ 3 := hP.2.2.2.1
  have hk0 : keepM M (up2 M 0 0 0) := keep_u0 keep_rf (by decide)
  have hV : vM (up2 M 0 0 0) = vM M := keep_v hk0 0
  have hP0 : okY (vM (up2 M 0 0 0)) := by rw [hV]; exact hP
  have e1 : ¬ (isB (vM M) b ∧ 0 ≤ w ∧ w ≤ 1) → A_chance (vM M) b w = -2 := fun q => if_neg q
  simp only [e_wp dX7_chance_0 rfl, e_wp dX7_chance_1 rfl, e_wp dX7_chance_2 rfl, e_wp dX7_chance_5 rfl, e_wp dX7_chance_6 rfl, e_wp dX7_chance_7 rfl, e_wp dX7_chance_8 rfl, e_wp dX7_chance_11 rfl, e_wp dX7_chance_14 rfl, e_wp dX7_chance_15 rfl, e_wp dX7_chance_18 rfl, e_wp dX7_chance_21 rfl, e_wp dX7_chance_22 rfl, e_wp dX7_chance_23 rfl, e_wp dX7_chance_24 rfl, e_wp dX7_chance_27 rfl, e_wp dX7_chance_28 rfl, e_wp dX7_chance_31 rfl, e_wp dX7_chance_32 rfl, e_wp dX7_chance_35 rfl, e_wp dX7_chance_36 rfl, e_wp dX7_chance_39 rfl, e_wp dX7_chance_41 rfl, p7_116, c7_isBridge, P7_isBridge, V7_isBridge, cs7_chance, c7_isHalf, P7_isHalf, V7_isHalf, c7_weightOf, c7_tens, P7_tens, V7_tens, c7_part, P7_part, V7_part, e_iconst, e_bipush, e_sipush, e_lconst_0, e_lconst_1, e_iload, e_iload_0, e_iload_1, e_iload_2, e_iload_3, e_lload, e_lload_0, e_lload_1, e_lload_2, e_lload_3, e_aload, e_aload_0, e_aload_1, e_aload_2, e_aload_3, e_istore, e_istore_0, e_istore_1, e_istore_2, e_istore_3, e_astore, e_astore_0, e_astore_1, e_astore_2, e_astore_3, e_lstore, e_lstore_0, e_lstore_1, e_lstore_2, e_lstore_3, e_iinc, e_iadd, e_isub, e_imul, e_ladd, e_lsub, e_lmul, e_idiv, e_irem, e_ldiv, e_lrem, e_ineg, e_lneg, e_iand, e_ior, e_ixor, e_ishl, e_ishr, e_iushr, e_lcmp, e_i2l, e_l2i, e_i2b, e_i2s, e_dup_i, e_dup_r, e_pop_i, e_pop_r, e_dup2_l, e_dup2_ir, e_dup2_ii, e_ifeq, e_ifne, e_iflt, e_ifge, e_ifgt, e_ifle, e_iceq, e_icne, e_iclt, e_icge, e_icgt, e_icle, e_goto, e_switch, e_invokevirtual, e_invokestatic, e_invokespecial, e_ret0, e_ret1, e_ret2, e_ret3, ldI_s, ldL_s, ldR_s, clO_s, ctP_s, ctS_s, mgo_0, mgo_s, pjc_s, pj_0, pj_s, lk_s, rm1_0, rm1_i, rm1_r, rm1_l, rm2_0, rm2_i, rm2_r, rm2_l, csL_s, lc_lt, lc_ge, lc_gt, lc_le, lc_eq, b01_0, b01_1, b01_01, b01_n, up2_o, up2_s, up2_u, ne_eq, reduceCtorEq, Nat.reduceAdd, Nat.reduceEqDiff, Nat.reduceLT, Nat.reduceLeDiff, Int.reduceLE, Int.reduceLT, Int.reduceAdd, Int.reduceNeg, Int.reduceMul, Int.reduceSub, Int.reduceEq, Int.reduceToNat, Int.reduceNatCast, Int.cast_ofNat_Int, ↓reduceIte, and_self, List.drop_succ_cons, List.drop_zero, List.take_succ_cons, List.take_zero, List.length_cons, List.length_nil, List.reverse_cons, List.reverse_nil, List.nil_append, List.cons_append, Option.toList, true_and, and_true, or_false, false_or, or_true, true_or, forall_const, Classical.not_not, not_false_eq_true, not_true_eq_false, false_implies, true_implies, implies_true, imp_self]
  refine ⟨h3, fun q => hQ _ _ ⟨hk0, (e1 (fun z => q z.1)).symm⟩, fun q => ⟨fun z => hQ _ _ ⟨hk0, (e1 (fun y => z y.2)).symm⟩, fun z => ⟨⟨hP0, by rw [hV]; exact q⟩, fun v M1 hR => ?_⟩⟩⟩
  obtain ⟨k1, e7, k2, k3, k4⟩ := wgt_use hP hR
  have ht := tenP_b (n := (M 7 4).toNat) (by omega)
  rw [e7]
  refine ⟨h4, ⟨by omega, by omega, by omega⟩, hQ _ _ ⟨k1, ?_⟩⟩
  rw [show A_chance (vM M) b w = _ from if_pos ⟨q, z⟩, k2]
  rfl
set_option maxHeartbeats 4000000 in
set_option maxRecDepth 100000 in
theorem m7_chance : MOK cl7 sh7 tyl7 [] 51 yX7_chance cX7_chance 3 (some .int) sp7_chance := by
  refine mok_of (own := RX7) (tb := tb7 (csL cs7_chance)) (rt := 1) (fuel := 400) (fun avs M Q => []) (by decide) rfl nil_nw (tbOK7 _) rfl (csL_all ?_) ?_ ?_ ?_
  · intro q hq
    simp only [cs7_chance, List.mem_cons, List.not_mem_nil, or_false] at hq
    rcases hq with rfl | rfl | rfl | rfl | rfl
    · exact cg7_isBridge (by decide)
    · exact cg7_isHalf (by decide)
    · exact cg7_weightOf (by decide)
    · exact cg7_tens (by decide)
    · exact cg7_part (by decide)
  · intro avs M Q hsp
    obtain ⟨xs, hx⟩ := spR_un _ _ _ hsp
    obtain ⟨e, hl⟩ := unA_mkT hx
    obtain ⟨b, w, rfl⟩ := len2 hl
    have e : avs = [ar 0, ai b, ai w] := e
    subst e
    simp [szL, isL]
  · intro avs M Q hM hav hsp
    obtain ⟨xs, hx⟩ := spR_un _ _ _ hsp
    obtain ⟨e, hl⟩ := unA_mkT hx
    obtain ⟨b, w, rfl⟩ := len2 hl
    have e : avs = [ar 0, ai b, ai w] := e
    subst e
    exact in7_chance hM (hav (ai b) (by simp)) (hav (ai w) (by simp)) hsp.1 hsp.2
  · intro avs M Q hM hav hsp q hq m_ vs M1 hM1 hv hJ
    obtain ⟨xs, hx⟩ := spR_un _ _ _ hsp
    obtain ⟨e, hl⟩ := unA_mkT hx
    obtain ⟨b, w, rfl⟩ := len2 hl
    have e : avs = [ar 0, ai b, ai w] := e
    subst e
    cases hq
def P7_mean (b : Int) (w : Int) (M : Mm) : Prop := okY (vM M)
def R7_mean (b : Int) (w : Int) (M : Mm) (v : Int) (M1 : Mm) : Prop := keepM M M1 ∧ v = A_mean (vM M) b w
def sp7_mean : Spec := spR true [0, 0] 2 (fun x M => P7_mean (x 0) (x 1) M) (fun x M v M1 => R7_mean (x 0) (x 1) M v M1)
theorem c7_mean {b w : Int} {M : Mm} {Q : Option AV → Mm → Prop} : sp7_mean [ar 0, ai b, ai w] M Q = (P7_mean b w M ∧ ∀ (v : Int) (M1 : Mm), R7_mean b w M v M1 → Q (some (al v)) M1) := rfl
def cs7_mean : List (Nat × Nat × Nat × Spec) := [(292, 1, 2, sp7_isBridge), (342, 0, 1, sp7_isHalf), (474, 1, 3, sp7_weightOf), (478, 1, 1, sp7_tens), (456, 0, 3, sp7_part)]
set_option maxHeartbeats 4000000 in
set_option maxRecDepth 100000 in
theorem in7_mean {b w : Int} {M : Mm} {Q : Option AV → Mm → Prop} (hM : okM sh7 M) (h_b : i32 b) (h_w : i32 w) (hP : P7_mean b w M) (hQ : ∀ (v : Int) (M1 : Mm), R7_mean b w M v M1 → Q (some (al v)) M1) : wp (tb7 (csL cs7_mean)) sh7 3 3 cX7_mean [] Q 400 0 [(0, ar 0), (1, ai b), (2, ai w)] [] M := by
  have h4 : 0 ≤ M 7 4 ∧ M 7 4 ≤ 7 := hP.2.2.2.2.1
  have h3 : 0 ≤ M 7 3 ∧ M 7 3 ≤ 3 := hP.2.2.2.1
  have hk0 : keepM M (up2 M 0 0 0) := keep_u0 keep_rf (by decide)
  have hV : vM (up2 M 0 0 0) = vM M := keep_v hk0 0
  have hP0 : okY (vM (up2 M 0 0 0)) := by rw [hV]; exact hP
  have e1 : ¬ (isB (vM M) b ∧ 0 ≤ w ∧ w ≤ 1) → A_mean (vM M) b w = -2 := fun q => if_neg q
  simp only [e_wp dX7_mean_0 rfl, e_wp dX7_mean_1 rfl, e_wp dX7_mean_2 rfl, e_wp dX7_mean_5 rfl, e_wp dX7_mean_6 rfl, e_wp dX7_mean_7 rfl, e_wp dX7_mean_8 rfl, e_wp dX7_mean_11 rfl, e_wp dX7_mean_14 rfl, e_wp dX7_mean_15 rfl, e_wp dX7_mean_18 rfl, e_wp dX7_mean_21 rfl, e_wp dX7_mean_22 rfl, e_wp dX7_mean_23 rfl, e_wp dX7_mean_24 rfl, e_wp dX7_mean_27 rfl, e_wp dX7_mean_28 rfl, e_wp dX7_mean_31 rfl, e_wp dX7_mean_32 rfl, e_wp dX7_mean_35 rfl, e_wp dX7_mean_38 rfl, e_wp dX7_mean_41 rfl, p7_116, c7_isBridge, P7_isBridge, V7_isBridge, cs7_mean, c7_isHalf, P7_isHalf, V7_isHalf, c7_weightOf, c7_tens, P7_tens, V7_tens, c7_part, P7_part, V7_part, k7_482, e_iconst, e_bipush, e_sipush, e_lconst_0, e_lconst_1, e_iload, e_iload_0, e_iload_1, e_iload_2, e_iload_3, e_lload, e_lload_0, e_lload_1, e_lload_2, e_lload_3, e_aload, e_aload_0, e_aload_1, e_aload_2, e_aload_3, e_istore, e_istore_0, e_istore_1, e_istore_2, e_istore_3, e_astore, e_astore_0, e_astore_1, e_astore_2, e_astore_3, e_lstore, e_lstore_0, e_lstore_1, e_lstore_2, e_lstore_3, e_iinc, e_iadd, e_isub, e_imul, e_ladd, e_lsub, e_lmul, e_idiv, e_irem, e_ldiv, e_lrem, e_ineg, e_lneg, e_iand, e_ior, e_ixor, e_ishl, e_ishr, e_iushr, e_lcmp, e_i2l, e_l2i, e_i2b, e_i2s, e_dup_i, e_dup_r, e_pop_i, e_pop_r, e_dup2_l, e_dup2_ir, e_dup2_ii, e_ifeq, e_ifne, e_iflt, e_ifge, e_ifgt, e_ifle, e_iceq, e_icne, e_iclt, e_icge, e_icgt, e_icle, e_goto, e_switch, e_invokevirtual, e_invokestatic, e_invokespecial, e_ret0, e_ret1, e_ret2, e_ret3, ldI_s, ldL_s, ldR_s, clO_s, ctP_s, ctS_s, mgo_0, mgo_s, pjc_s, pj_0, pj_s, lk_s, rm1_0, rm1_i, rm1_r, rm1_l, rm2_0, rm2_i, rm2_r, rm2_l, csL_s, lc_lt, lc_ge, lc_gt, lc_le, lc_eq, b01_0, b01_1, b01_01, b01_n, up2_o, up2_s, up2_u, ne_eq, reduceCtorEq, Nat.reduceAdd, Nat.reduceEqDiff, Nat.reduceLT, Nat.reduceLeDiff, Int.reduceLE, Int.reduceLT, Int.reduceAdd, Int.reduceNeg, Int.reduceMul, Int.reduceSub, Int.reduceEq, Int.reduceToNat, Int.reduceNatCast, Int.cast_ofNat_Int, ↓reduceIte, and_self, List.drop_succ_cons, List.drop_zero, List.take_succ_cons, List.take_zero, List.length_cons, List.length_nil, List.reverse_cons, List.reverse_nil, List.nil_append, List.cons_append, Option.toList, true_and, and_true, or_false, false_or, or_true, true_or, forall_const, Classical.not_not, not_false_eq_true, not_true_eq_false, false_implies, true_implies, implies_true, imp_self]
  refine ⟨h3, fun q => hQ _ _ ⟨hk0, (e1 (fun z => q z.1)).symm⟩, fun q => ⟨fun z => hQ _ _ ⟨hk0, (e1 (fun y => z y.2)).symm⟩, fun z => ⟨⟨hP0, by rw [hV]; exact q⟩, fun v M1 hR => ?_⟩⟩⟩
  obtain ⟨k1, e7, k2, k3, k4⟩ := wgt_use hP hR
  have ht := tenP_b (n := (M 7 4).toNat) (by omega)
  rw [e7]
  refine ⟨h4, ⟨by omega, by omega, by omega⟩, hQ _ _ ⟨k1, ?_⟩⟩
  rw [show A_mean (vM M) b w = _ from if_pos ⟨q, z⟩, k2]
  rfl
set_option maxHeartbeats 4000000 in
set_option maxRecDepth 100000 in
theorem m7_mean : MOK cl7 sh7 tyl7 [] 51 yX7_mean cX7_mean 3 (some .long) sp7_mean := by
  refine mok_of (own := RX7) (tb := tb7 (csL cs7_mean)) (rt := 3) (fuel := 400) (fun avs M Q => []) (by decide) rfl nil_nw (tbOK7 _) rfl (csL_all ?_) ?_ ?_ ?_
  · intro q hq
    simp only [cs7_mean, List.mem_cons, List.not_mem_nil, or_false] at hq
    rcases hq with rfl | rfl | rfl | rfl | rfl
    · exact cg7_isBridge (by decide)
    · exact cg7_isHalf (by decide)
    · exact cg7_weightOf (by decide)
    · exact cg7_tens (by decide)
    · exact cg7_part (by decide)
  · intro avs M Q hsp
    obtain ⟨xs, hx⟩ := spR_un _ _ _ hsp
    obtain ⟨e, hl⟩ := unA_mkT hx
    obtain ⟨b, w, rfl⟩ := len2 hl
    have e : avs = [ar 0, ai b, ai w] := e
    subst e
    simp [szL, isL]
  · intro avs M Q hM hav hsp
    obtain ⟨xs, hx⟩ := spR_un _ _ _ hsp
    obtain ⟨e, hl⟩ := unA_mkT hx
    obtain ⟨b, w, rfl⟩ := len2 hl
    have e : avs = [ar 0, ai b, ai w] := e
    subst e
    exact in7_mean hM (hav (ai b) (by simp)) (hav (ai w) (by simp)) hsp.1 hsp.2
  · intro avs M Q hM hav hsp q hq m_ vs M1 hM1 hv hJ
    obtain ⟨xs, hx⟩ := spR_un _ _ _ hsp
    obtain ⟨e, hl⟩ := unA_mkT hx
    obtain ⟨b, w, rfl⟩ := len2 hl
    have e : avs = [ar 0, ai b, ai w] := e
    subst e
    cases hq
/-- frosts drawn: the number behind, the set -/
def drwP (V : Vy) (x : Int) : Nat → Int × Int
  | 0 => (x, 0)
  | c + 1 => ((1103515245 * (drwP V x c).1 + 12345).tmod 2147483648, bor (drwP V x c).2 (if (((1103515245 * (drwP V x c).1 + 12345).tmod 2147483648).tdiv 65536).tmod 10 < V 0 2 then bshl 1 c else 0))
theorem drw_b {V : Vy} {x : Int} (h : 0 ≤ x ∧ x ≤ 3000000000) : ∀ n : Nat, 0 ≤ (drwP V x n).1 ∧ (drwP V x n).1 ≤ 3000000000 := by
  intro n
  induction n with
  | zero => exact h
  | succ n ih =>
    show 0 ≤ (1103515245 * (drwP V x n).1 + 12345).tmod 2147483648 ∧ (1103515245 * (drwP V x n).1 + 12345).tmod 2147483648 ≤ 3000000000
    rw [Int.tmod_eq_emod_of_nonneg (by omega)]
    omega
abbrev drwC (V : Vy) (x : Int) : Cf := frsC V (drwP V x (V 0 4).toNat).2
def P7_draws (x : Int) (M : Mm) : Prop := okY (vM M) ∧ 0 ≤ x ∧ x ≤ 3000000000
def R7_draws (x : Int) (M : Mm) (M1 : Mm) : Prop := keepM M M1 ∧ ranR (vM M) (drwC (vM M) x) M1 ∧ M1 0 25 = (drwP (vM M) x (vM M 0 4).toNat).2 ∧ M1 7 = M 7
def sp7_draws : Spec := spV true [1] (fun x M => P7_draws (x 0) M) (fun x M M1 => R7_draws (x 0) M M1)
theorem c7_draws {x : Int} {M : Mm} {Q : Option AV → Mm → Prop} : sp7_draws [ar 0, al x] M Q = (P7_draws x M ∧ ∀ (M1 : Mm), R7_draws x M M1 → Q none M1) := rfl
def cs7_draws : List (Nat × Nat × Nat × Spec) := [(330, 1, 1, sp7_lays), (286, 1, 1, sp7_carts), (333, 1, 1, sp7_runs)]
def J7_draws_14 (x : Int) (M : Mm) (m : Nat) (y : Int) (c : Int) (M1 : Mm) : Prop := keepM M M1 ∧ (∀ y, nC (vM M) (up2 (cM M1) 0 1 y) = frsC (vM M) y) ∧ ∃ a : Nat, c = a ∧ (a : Int) ≤ M 7 4 ∧ y = (drwP (vM M) x a).1 ∧ M1 0 25 = (drwP (vM M) x a).2 ∧ m = 7 - a
set_option maxHeartbeats 4000000 in
set_option maxRecDepth 100000 in
theorem in7_draws {x : Int} {M : Mm} {Q : Option AV → Mm → Prop} (hM : okM sh7 M) (h_x : i64 x) (hP : P7_draws x M) (hQ : ∀ (M1 : Mm), R7_draws x M M1 → Q none M1) (I_14 : List AV → Mm → Prop) (hI_14 : ∀ (m_ : Nat) (y_y : Int) (y_c : Int) (M2 : Mm), J7_draws_14 x M m_ y_y y_c M2 → I_14 [ar 0, al y_y, ai y_c] M2) : wp (tb7 (csL cs7_draws)) sh7 6 0 cX7_draws [(14, [0, 3, 5], I_14)] Q 400 0 [(0, ar 0), (1, al x)] [] M := by
  obtain ⟨hY, hx⟩ := id hP
  have h4 : 0 ≤ M 7 4 ∧ M 7 4 ≤ 7 := hY.2.2.2.2.1
  simp only [e_wp dX7_draws_0 rfl, e_wp dX7_draws_1 rfl, e_wp dX7_draws_4 rfl, e_wp dX7_draws_5 rfl, e_wp dX7_draws_6 rfl, e_wp dX7_draws_9 rfl, e_wp dX7_draws_10 rfl, e_wp dX7_draws_11 rfl, e_wp dX7_draws_12 rfl, e_wp dX7_draws_14 rfl, e_wp dX7_draws_16 rfl, e_wp dX7_draws_17 rfl, e_wp dX7_draws_20 rfl, e_wp dX7_draws_23 rfl, e_wp dX7_draws_26 rfl, e_wp dX7_draws_27 rfl, e_wp dX7_draws_28 rfl, e_wp dX7_draws_31 rfl, e_wp dX7_draws_32 rfl, e_wp dX7_draws_35 rfl, e_wp dX7_draws_36 rfl, e_wp dX7_draws_37 rfl, e_wp dX7_draws_38 rfl, e_wp dX7_draws_39 rfl, e_wp dX7_draws_42 rfl, e_wp dX7_draws_43 rfl, e_wp dX7_draws_46 rfl, e_wp dX7_draws_47 rfl, e_wp dX7_draws_50 rfl, e_wp dX7_draws_51 rfl, e_wp dX7_draws_52 rfl, e_wp dX7_draws_55 rfl, e_wp dX7_draws_56 rfl, e_wp dX7_draws_57 rfl, e_wp dX7_draws_58 rfl, e_wp dX7_draws_59 rfl, e_wp dX7_draws_62 rfl, e_wp dX7_draws_63 rfl, e_wp dX7_draws_65 rfl, e_wp dX7_draws_66 rfl, e_wp dX7_draws_69 rfl, e_wp dX7_draws_70 rfl, e_wp dX7_draws_71 rfl, e_wp dX7_draws_74 rfl, e_wp dX7_draws_77 rfl, e_wp dX7_draws_80 rfl, e_wp dX7_draws_81 rfl, e_wp dX7_draws_84 rfl, c7_lays, cs7_draws, p7_298, c7_carts, P7_carts, V7_carts, k7_484, k7_486, k7_488, g7_298, k7_490, k7_472, g7_34, c7_runs, a7_1, w7_1, a7_2, w7_2, a7_3, w7_3, a7_4, w7_4, a7_5, w7_5, a7_6, w7_6, a7_7, w7_7, a7_8, w7_8, a7_9, w7_9, a7_10, w7_10, a7_11, w7_11, a7_12, w7_12, a7_13, w7_13, a7_14, w7_14, a7_15, w7_15, a7_16, w7_16, a7_17, w7_17, a7_18, w7_18, a7_19, w7_19, a7_20, w7_20, a7_21, w7_21, a7_22, w7_22, a7_23, w7_23, a7_24, w7_24, a7_25, w7_25, a7_26, w7_26, a7_27, w7_27, a7_28, w7_28, a7_29, w7_29, a7_30, w7_30, a7_31, w7_31, a7_32, w7_32, a7_33, w7_33, e_iconst, e_bipush, e_sipush, e_lconst_0, e_lconst_1, e_iload, e_iload_0, e_iload_1, e_iload_2, e_iload_3, e_lload, e_lload_0, e_lload_1, e_lload_2, e_lload_3, e_aload, e_aload_0, e_aload_1, e_aload_2, e_aload_3, e_istore, e_istore_0, e_istore_1, e_istore_2, e_istore_3, e_astore, e_astore_0, e_astore_1, e_astore_2, e_astore_3, e_lstore, e_lstore_0, e_lstore_1, e_lstore_2, e_lstore_3, e_iinc, e_iadd, e_isub, e_imul, e_ladd, e_lsub, e_lmul, e_idiv, e_irem, e_ldiv, e_lrem, e_ineg, e_lneg, e_iand, e_ior, e_ixor, e_ishl, e_ishr, e_iushr, e_lcmp, e_i2l, e_l2i, e_i2b, e_i2s, e_dup_i, e_dup_r, e_pop_i, e_pop_r, e_dup2_l, e_dup2_ir, e_dup2_ii, e_ifeq, e_ifne, e_iflt, e_ifge, e_ifgt, e_ifle, e_iceq, e_icne, e_iclt, e_icge, e_icgt, e_icle, e_goto, e_switch, e_invokevirtual, e_invokestatic, e_invokespecial, e_ret0, e_ret1, e_ret2, e_ret3, ldI_s, ldL_s, ldR_s, clO_s, ctP_s, ctS_s, mgo_0, mgo_s, pjc_s, pj_0, pj_s, lk_s, rm1_0, rm1_i, rm1_r, rm1_l, rm2_0, rm2_i, rm2_r, rm2_l, csL_s, lc_lt, lc_ge, lc_gt, lc_le, lc_eq, b01_0, b01_1, b01_01, b01_n, up2_o, up2_s, up2_u, ne_eq, reduceCtorEq, Nat.reduceAdd, Nat.reduceEqDiff, Nat.reduceLT, Nat.reduceLeDiff, Int.reduceLE, Int.reduceLT, Int.reduceAdd, Int.reduceNeg, Int.reduceMul, Int.reduceSub, Int.reduceEq, Int.reduceToNat, Int.reduceNatCast, Int.cast_ofNat_Int, ↓reduceIte, and_self, List.drop_succ_cons, List.drop_zero, List.take_succ_cons, List.take_zero, List.length_cons, List.length_nil, List.reverse_cons, List.reverse_nil, List.nil_append, List.cons_append, Option.toList, true_and, and_true, or_false, false_or, or_true, true_or, forall_const, Classical.not_not, not_false_eq_true, not_true_eq_false, false_implies, true_implies, implies_true, imp_self]
  refine ⟨hY, fun M1 hR => ?_⟩
  obtain ⟨k1, k2⟩ := tl_use hR
  exact hI_14 (7 - 0) _ _ _ ⟨keep_u0 k1 (by decide), fun y => by rw [frs_cM, up2_u, nC_u, k2], 0, rfl, h4.1, rfl, up2_s, rfl⟩
set_option maxHeartbeats 4000000 in
set_option maxRecDepth 100000 in
theorem at7_draws_14 {x : Int} {M : Mm} {Q : Option AV → Mm → Prop} (hM : okM sh7 M) (h_x : i64 x) (hP : P7_draws x M) (hQ : ∀ (M1 : Mm), R7_draws x M M1 → Q none M1) {m : Nat} {y c : Int} {M1 : Mm} (hM1 : okM sh7 M1) (h_y : i64 y) (h_c : i32 c) (hJ : J7_draws_14 x M m y c M1) (I_14 : List AV → Mm → Prop) (hI_14 : ∀ (m_ : Nat) (y_y : Int) (y_c : Int) (M2 : Mm), m_ < m → J7_draws_14 x M m_ y_y y_c M2 → I_14 [ar 0, al y_y, ai y_c] M2) : wp (tb7 (csL cs7_draws)) sh7 6 0 cX7_draws [(14, [0, 3, 5], I_14)] Q 400 14 [(0, ar 0), (3, al y), (5, ai c)] [] M1 := by
  obtain ⟨hk, hC, a, rfl, ha, rfl, hf, rfl⟩ := hJ
  obtain ⟨hY, hx⟩ := id hP
  have h4 : 0 ≤ M 7 4 ∧ M 7 4 ≤ 7 := hY.2.2.2.2.1
  have e7 : M1 7 = M 7 := keep_has hk
  have hb := drw_b (V := vM M) hx a
  have hb1 := drw_b (V := vM M) hx (a + 1)
  have en : (((vM M 0 4).toNat : Nat) : Int) = M 7 4 := Int.toNat_of_nonneg h4.1
  have e1 : (drwP (vM M) x (a + 1)).1 = (1103515245 * (drwP (vM M) x a).1 + 12345).tmod 2147483648 := rfl
  have e2 : (drwP (vM M) x (a + 1)).2 = bor (drwP (vM M) x a).2 (if ((drwP (vM M) x (a + 1)).1.tdiv 65536).tmod 10 < vM M 0 2 then bshl 1 a else 0) := rfl
  have t1 := tdiv_i64 (a := 1103515245 * (drwP (vM M) x a).1 + 12345) (b := 2147483648) (by omega)
  have t2 := tdiv_i64 (a := (drwP (vM M) x (a + 1)).1) (b := 65536) (by omega)
  have t3 := tdiv_i64 (a := (drwP (vM M) x (a + 1)).1.tdiv 65536) (b := 10) (by omega)
  simp only [e_wp dX7_draws_0 rfl, e_wp dX7_draws_1 rfl, e_wp dX7_draws_4 rfl, e_wp dX7_draws_5 rfl, e_wp dX7_draws_6 rfl, e_wp dX7_draws_9 rfl, e_wp dX7_draws_10 rfl, e_wp dX7_draws_11 rfl, e_wp dX7_draws_12 rfl, e_wp dX7_draws_14 rfl, e_wp dX7_draws_16 rfl, e_wp dX7_draws_17 rfl, e_wp dX7_draws_20 rfl, e_wp dX7_draws_23 rfl, e_wp dX7_draws_26 rfl, e_wp dX7_draws_27 rfl, e_wp dX7_draws_28 rfl, e_wp dX7_draws_31 rfl, e_wp dX7_draws_32 rfl, e_wp dX7_draws_35 rfl, e_wp dX7_draws_36 rfl, e_wp dX7_draws_37 rfl, e_wp dX7_draws_38 rfl, e_wp dX7_draws_39 rfl, e_wp dX7_draws_42 rfl, e_wp dX7_draws_43 rfl, e_wp dX7_draws_46 rfl, e_wp dX7_draws_47 rfl, e_wp dX7_draws_50 rfl, e_wp dX7_draws_51 rfl, e_wp dX7_draws_52 rfl, e_wp dX7_draws_55 rfl, e_wp dX7_draws_56 rfl, e_wp dX7_draws_57 rfl, e_wp dX7_draws_58 rfl, e_wp dX7_draws_59 rfl, e_wp dX7_draws_62 rfl, e_wp dX7_draws_63 rfl, e_wp dX7_draws_65 rfl, e_wp dX7_draws_66 rfl, e_wp dX7_draws_69 rfl, e_wp dX7_draws_70 rfl, e_wp dX7_draws_71 rfl, e_wp dX7_draws_74 rfl, e_wp dX7_draws_77 rfl, e_wp dX7_draws_80 rfl, e_wp dX7_draws_81 rfl, e_wp dX7_draws_84 rfl, c7_lays, cs7_draws, p7_298, c7_carts, P7_carts, V7_carts, k7_484, k7_486, k7_488, g7_298, k7_490, k7_472, g7_34, c7_runs, a7_1, w7_1, a7_2, w7_2, a7_3, w7_3, a7_4, w7_4, a7_5, w7_5, a7_6, w7_6, a7_7, w7_7, a7_8, w7_8, a7_9, w7_9, a7_10, w7_10, a7_11, w7_11, a7_12, w7_12, a7_13, w7_13, a7_14, w7_14, a7_15, w7_15, a7_16, w7_16, a7_17, w7_17, a7_18, w7_18, a7_19, w7_19, a7_20, w7_20, a7_21, w7_21, a7_22, w7_22, a7_23, w7_23, a7_24, w7_24, a7_25, w7_25, a7_26, w7_26, a7_27, w7_27, a7_28, w7_28, a7_29, w7_29, a7_30, w7_30, a7_31, w7_31, a7_32, w7_32, a7_33, w7_33, e_iconst, e_bipush, e_sipush, e_lconst_0, e_lconst_1, e_iload, e_iload_0, e_iload_1, e_iload_2, e_iload_3, e_lload, e_lload_0, e_lload_1, e_lload_2, e_lload_3, e_aload, e_aload_0, e_aload_1, e_aload_2, e_aload_3, e_istore, e_istore_0, e_istore_1, e_istore_2, e_istore_3, e_astore, e_astore_0, e_astore_1, e_astore_2, e_astore_3, e_lstore, e_lstore_0, e_lstore_1, e_lstore_2, e_lstore_3, e_iinc, e_iadd, e_isub, e_imul, e_ladd, e_lsub, e_lmul, e_idiv, e_irem, e_ldiv, e_lrem, e_ineg, e_lneg, e_iand, e_ior, e_ixor, e_ishl, e_ishr, e_iushr, e_lcmp, e_i2l, e_l2i, e_i2b, e_i2s, e_dup_i, e_dup_r, e_pop_i, e_pop_r, e_dup2_l, e_dup2_ir, e_dup2_ii, e_ifeq, e_ifne, e_iflt, e_ifge, e_ifgt, e_ifle, e_iceq, e_icne, e_iclt, e_icge, e_icgt, e_icle, e_goto, e_switch, e_invokevirtual, e_invokestatic, e_invokespecial, e_ret0, e_ret1, e_ret2, e_ret3, ldI_s, ldL_s, ldR_s, clO_s, ctP_s, ctS_s, mgo_0, mgo_s, pjc_s, pj_0, pj_s, lk_s, rm1_0, rm1_i, rm1_r, rm1_l, rm2_0, rm2_i, rm2_r, rm2_l, csL_s, lc_lt, lc_ge, lc_gt, lc_le, lc_eq, b01_0, b01_1, b01_01, b01_n, up2_o, up2_s, up2_u, ne_eq, reduceCtorEq, Nat.reduceAdd, Nat.reduceEqDiff, Nat.reduceLT, Nat.reduceLeDiff, Int.reduceLE, Int.reduceLT, Int.reduceAdd, Int.reduceNeg, Int.reduceMul, Int.reduceSub, Int.reduceEq, Int.reduceToNat, Int.reduceNatCast, Int.cast_ofNat_Int, ↓reduceIte, and_self, List.drop_succ_cons, List.drop_zero, List.take_succ_cons, List.take_zero, List.length_cons, List.length_nil, List.reverse_cons, List.reverse_nil, List.nil_append, List.cons_append, Option.toList, true_and, and_true, or_false, false_or, or_true, true_or, forall_const, Classical.not_not, not_false_eq_true, not_true_eq_false, false_implies, true_implies, implies_true, imp_self, e7, hf]
  rw [← e1]
  refine ⟨fun q => ?_, fun q => ?_⟩
  · have ea : (vM M 0 4).toNat = a := by omega
    have k4 : nC (vM M) (cM M1) = drwC (vM M) x := by
      have := hC (drwP (vM M) x a).2
      rw [← hf, ← frs_cM, up2_id] at this
      rw [this]
      show frsC (vM M) _ = frsC (vM M) _
      rw [hf, ea]
    refine ⟨run_pre hY hk k4 (okCf_frs (okCf_tell hY)), fun M2 hR => ?_⟩
    have h0 : M2 0 = M1 0 := hR.1 _ (by decide)
    obtain ⟨s1, s2, s3, s4⟩ := run_use hk k4 hR
    exact hQ _ ⟨s1, s2, by rw [h0, hf, ea], s3⟩
  · have go : ∀ z, z = (if ((drwP (vM M) x (a + 1)).1.tdiv 65536).tmod 10 < vM M 0 2 then bshl 1 a else 0) → i32 ((a : Int) + 1) ∧ I_14 [ar 0, al (drwP (vM M) x (a + 1)).1, ai (a + 1)] (up2 M1 0 25 (bor (drwP (vM M) x a).2 z)) := by
      intro z hz
      refine ⟨by omega, hI_14 (7 - (a + 1)) _ _ _ (by omega) ⟨keep_u0 hk (by decide), fun y => by rw [frs_cM, up2_u]; exact hC y, a + 1, by omega, by omega, rfl, ?_, rfl⟩⟩
      rw [up2_s, e2, hz]
    repeat (refine And.intro (by omega) ?_)
    refine ⟨fun z => go 0 (if_neg (by show ¬ _ < M 7 2; omega)).symm, fun z => go _ (if_pos z).symm⟩
set_option maxHeartbeats 4000000 in
set_option maxRecDepth 100000 in
theorem m7_draws : MOK cl7 sh7 tyl7 [] 4 yX7_draws cX7_draws 6 none sp7_draws := by
  refine mok_of (own := RX7) (tb := tb7 (csL cs7_draws)) (rt := 0) (fuel := 400) (fun avs M Q => [(14, [0, 3, 5], fun m_ vs M1 => ∃ y_y : Int, ∃ y_c : Int, vs = [ar 0, al y_y, ai y_c] ∧ J7_draws_14 (pa true [1] avs 0) M m_ y_y y_c M1)]) (by decide) rfl nil_nw (tbOK7 _) rfl (csL_all ?_) ?_ ?_ ?_
  · intro q hq
    simp only [cs7_draws, List.mem_cons, List.not_mem_nil, or_false] at hq
    rcases hq with rfl | rfl | rfl
    · exact cg7_lays (by decide)
    · exact cg7_carts (by decide)
    · exact cg7_runs (by decide)
  · intro avs M Q hsp
    obtain ⟨xs, hx⟩ := spV_un _ _ _ hsp
    obtain ⟨e, hl⟩ := unA_mkT hx
    obtain ⟨x, rfl⟩ := len1 hl
    have e : avs = [ar 0, al x] := e
    subst e
    simp [szL, isL]
  · intro avs M Q hM hav hsp
    obtain ⟨xs, hx⟩ := spV_un _ _ _ hsp
    obtain ⟨e, hl⟩ := unA_mkT hx
    obtain ⟨x, rfl⟩ := len1 hl
    have e : avs = [ar 0, al x] := e
    subst e
    exact in7_draws hM (hav (al x) (by simp)) hsp.1 hsp.2 _ (fun m_ y_y y_c M2 hJ => ⟨m_, y_y, y_c, rfl, hJ⟩)
  · intro avs M Q hM hav hsp q hq m_ vs M1 hM1 hv hJ
    obtain ⟨xs, hx⟩ := spV_un _ _ _ hsp
    obtain ⟨e, hl⟩ := unA_mkT hx
    obtain ⟨x, rfl⟩ := len1 hl
    have e : avs = [ar 0, al x] := e
    subst e
    simp only [List.mem_cons, List.not_mem_nil, or_false] at hq
    rcases hq with rfl
    · obtain ⟨y_y, y_c, rfl, hJ⟩ := hJ
      exact at7_draws_14 hM (hav (al x) (by simp)) hsp.1 hsp.2 hM1 (hv (3, al y_y) (List.mem_of_getElem? (i := 1) rfl)) (hv (5, ai y_c) (List.mem_of_getElem? (i := 2) rfl)) hJ _ (fun m2 z_y z_c M2 hm hJ2 => ⟨m2, hm, z_y, z_c, rfl, hJ2⟩)
theorem cg7_draws {lvl : Nat} (h : 4 < lvl) : CG RX7 cl7 sh7 tyl7 [] lvl 1 497 2 sp7_draws := cg_V (sg := [1]) nil_nw spV_mono spV_un m7_draws h rfl (by decide) rfl rfl ⟨rfl, by decide, by decide, rfl⟩ q2229 q2231 qs125 q138 q2232
def A_drawn (V : Vy) (x w : Int) : Int := if 0 < V 0 8 ∧ (0 ≤ x ∧ x ≤ 2000000000) ∧ 0 ≤ w ∧ w ≤ 1 then (if w = 0 then (drwP V x (V 0 4).toNat).2 else sagF V (drwC V x)) else -2
def P7_drawn (x : Int) (w : Int) (M : Mm) : Prop := okY (vM M)
def R7_drawn (x : Int) (w : Int) (M : Mm) (v : Int) (M1 : Mm) : Prop := keepM M M1 ∧ v = A_drawn (vM M) x w
def sp7_drawn : Spec := spR true [0, 0] 1 (fun x M => P7_drawn (x 0) (x 1) M) (fun x M v M1 => R7_drawn (x 0) (x 1) M v M1)
theorem c7_drawn {x w : Int} {M : Mm} {Q : Option AV → Mm → Prop} : sp7_drawn [ar 0, ai x, ai w] M Q = (P7_drawn x w M ∧ ∀ (v : Int) (M1 : Mm), R7_drawn x w M v M1 → Q (some (ai v)) M1) := rfl
def cs7_drawn : List (Nat × Nat × Nat × Spec) := [(350, 1, 1, sp7_isValley), (494, 0, 1, sp7_isSeed), (342, 0, 1, sp7_isHalf), (497, 1, 2, sp7_draws), (339, 1, 1, sp7_sagAll)]
set_option maxHeartbeats 4000000 in
set_option maxRecDepth 100000 in
theorem in7_drawn {x w : Int} {M : Mm} {Q : Option AV → Mm → Prop} (hM : okM sh7 M) (h_x : i32 x) (h_w : i32 w) (hP : P7_drawn x w M) (hQ : ∀ (v : Int) (M1 : Mm), R7_drawn x w M v M1 → Q (some (ai v)) M1) : wp (tb7 (csL cs7_drawn)) sh7 3 1 cX7_drawn [] Q 400 0 [(0, ar 0), (1, ai x), (2, ai w)] [] M := by
  have h4 : 0 ≤ M 7 4 ∧ M 7 4 ≤ 7 := hP.2.2.2.2.1
  have hk0 : keepM M (up2 M 0 0 0) := keep_u0 keep_rf (by decide)
  have hV : vM (up2 M 0 0 0) = vM M := keep_v hk0 0
  have hP0 : okY (vM (up2 M 0 0 0)) := by rw [hV]; exact hP
  have e1 : ¬ (0 < M 6 0 ∧ (0 ≤ x ∧ x ≤ 2000000000) ∧ 0 ≤ w ∧ w ≤ 1) → A_drawn (vM M) x w = -2 := fun q => if_neg q
  simp only [e_wp dX7_drawn_0 rfl, e_wp dX7_drawn_1 rfl, e_wp dX7_drawn_2 rfl, e_wp dX7_drawn_5 rfl, e_wp dX7_drawn_6 rfl, e_wp dX7_drawn_9 rfl, e_wp dX7_drawn_12 rfl, e_wp dX7_drawn_13 rfl, e_wp dX7_drawn_16 rfl, e_wp dX7_drawn_19 rfl, e_wp dX7_drawn_20 rfl, e_wp dX7_drawn_23 rfl, e_wp dX7_drawn_26 rfl, e_wp dX7_drawn_28 rfl, e_wp dX7_drawn_29 rfl, e_wp dX7_drawn_30 rfl, e_wp dX7_drawn_31 rfl, e_wp dX7_drawn_32 rfl, e_wp dX7_drawn_35 rfl, e_wp dX7_drawn_36 rfl, e_wp dX7_drawn_39 rfl, e_wp dX7_drawn_40 rfl, e_wp dX7_drawn_43 rfl, e_wp dX7_drawn_46 rfl, e_wp dX7_drawn_47 rfl, e_wp dX7_drawn_50 rfl, p7_116, c7_isValley, P7_isValley, V7_isValley, cs7_drawn, c7_isSeed, P7_isSeed, V7_isSeed, c7_isHalf, P7_isHalf, V7_isHalf, c7_draws, g7_298, c7_sagAll, P7_sagAll, V7_sagAll, e_iconst, e_bipush, e_sipush, e_lconst_0, e_lconst_1, e_iload, e_iload_0, e_iload_1, e_iload_2, e_iload_3, e_lload, e_lload_0, e_lload_1, e_lload_2, e_lload_3, e_aload, e_aload_0, e_aload_1, e_aload_2, e_aload_3, e_istore, e_istore_0, e_istore_1, e_istore_2, e_istore_3, e_astore, e_astore_0, e_astore_1, e_astore_2, e_astore_3, e_lstore, e_lstore_0, e_lstore_1, e_lstore_2, e_lstore_3, e_iinc, e_iadd, e_isub, e_imul, e_ladd, e_lsub, e_lmul, e_idiv, e_irem, e_ldiv, e_lrem, e_ineg, e_lneg, e_iand, e_ior, e_ixor, e_ishl, e_ishr, e_iushr, e_lcmp, e_i2l, e_l2i, e_i2b, e_i2s, e_dup_i, e_dup_r, e_pop_i, e_pop_r, e_dup2_l, e_dup2_ir, e_dup2_ii, e_ifeq, e_ifne, e_iflt, e_ifge, e_ifgt, e_ifle, e_iceq, e_icne, e_iclt, e_icge, e_icgt, e_icle, e_goto, e_switch, e_invokevirtual, e_invokestatic, e_invokespecial, e_ret0, e_ret1, e_ret2, e_ret3, ldI_s, ldL_s, ldR_s, clO_s, ctP_s, ctS_s, mgo_0, mgo_s, pjc_s, pj_0, pj_s, lk_s, rm1_0, rm1_i, rm1_r, rm1_l, rm2_0, rm2_i, rm2_r, rm2_l, csL_s, lc_lt, lc_ge, lc_gt, lc_le, lc_eq, b01_0, b01_1, b01_01, b01_n, up2_o, up2_s, up2_u, ne_eq, reduceCtorEq, Nat.reduceAdd, Nat.reduceEqDiff, Nat.reduceLT, Nat.reduceLeDiff, Int.reduceLE, Int.reduceLT, Int.reduceAdd, Int.reduceNeg, Int.reduceMul, Int.reduceSub, Int.reduceEq, Int.reduceToNat, Int.reduceNatCast, Int.cast_ofNat_Int, ↓reduceIte, and_self, List.drop_succ_cons, List.drop_zero, List.take_succ_cons, List.take_zero, List.length_cons, List.length_nil, List.reverse_cons, List.reverse_nil, List.nil_append, List.cons_append, Option.toList, true_and, and_true, or_false, false_or, or_true, true_or, forall_const, Classical.not_not, not_false_eq_true, not_true_eq_false, false_implies, true_implies, implies_true, imp_self]
  refine ⟨fun q => hQ _ _ ⟨hk0, (e1 (fun z => absurd z.1 (by omega))).symm⟩, fun q => ⟨fun z => hQ _ _ ⟨hk0, (e1 (fun y => z y.2.1)).symm⟩, fun z => ⟨fun y => ⟨⟨hP0, by omega⟩, fun M1 hR => ?_⟩, fun y => hQ _ _ ⟨hk0, (e1 (fun u => y u.2.2)).symm⟩⟩⟩⟩
  obtain ⟨r1, r2, r3, r4⟩ := hR
  rw [hV] at r2 r3
  have k1 := keep_tr hk0 r1
  have eA : A_drawn (vM M) x w = if w = 0 then (drwP (vM M) x (vM M 0 4).toNat).2 else sagF (vM M) (drwC (vM M) x) := if_pos ⟨q, z, y⟩
  have e7 := keep_has k1
  refine ⟨fun u => ⟨sag_pre hP e7 r2, hQ _ _ ⟨k1, ?_⟩⟩, fun u => hQ _ _ ⟨k1, ?_⟩⟩
  · rw [eA, if_neg u]; exact sag_val e7 r2
  · rw [eA, if_pos u, r3]
set_option maxHeartbeats 4000000 in
set_option maxRecDepth 100000 in
theorem m7_drawn : MOK cl7 sh7 tyl7 [] 5 yX7_drawn cX7_drawn 3 (some .int) sp7_drawn := by
  refine mok_of (own := RX7) (tb := tb7 (csL cs7_drawn)) (rt := 1) (fuel := 400) (fun avs M Q => []) (by decide) rfl nil_nw (tbOK7 _) rfl (csL_all ?_) ?_ ?_ ?_
  · intro q hq
    simp only [cs7_drawn, List.mem_cons, List.not_mem_nil, or_false] at hq
    rcases hq with rfl | rfl | rfl | rfl | rfl
    · exact cg7_isValley (by decide)
    · exact cg7_isSeed (by decide)
    · exact cg7_isHalf (by decide)
    · exact cg7_draws (by decide)
    · exact cg7_sagAll (by decide)
  · intro avs M Q hsp
    obtain ⟨xs, hx⟩ := spR_un _ _ _ hsp
    obtain ⟨e, hl⟩ := unA_mkT hx
    obtain ⟨x, w, rfl⟩ := len2 hl
    have e : avs = [ar 0, ai x, ai w] := e
    subst e
    simp [szL, isL]
  · intro avs M Q hM hav hsp
    obtain ⟨xs, hx⟩ := spR_un _ _ _ hsp
    obtain ⟨e, hl⟩ := unA_mkT hx
    obtain ⟨x, w, rfl⟩ := len2 hl
    have e : avs = [ar 0, ai x, ai w] := e
    subst e
    exact in7_drawn hM (hav (ai x) (by simp)) (hav (ai w) (by simp)) hsp.1 hsp.2
  · intro avs M Q hM hav hsp q hq m_ vs M1 hM1 hv hJ
    obtain ⟨xs, hx⟩ := spR_un _ _ _ hsp
    obtain ⟨e, hl⟩ := unA_mkT hx
    obtain ⟨x, w, rfl⟩ := len2 hl
    have e : avs = [ar 0, ai x, ai w] := e
    subst e
    cases hq
def lukF (V : Vy) (x : Int) (b : Nat) (k : Nat) : Int := if (runP (whoM (drwC V (x + k))) V (drwC V (x + k)) (V 0 4).toNat).2.1 b = -1 then 0 else 1
def A_luck (V : Vy) (x n b : Int) : Int := if (0 ≤ x ∧ x ≤ 2000000000) ∧ (1 ≤ n ∧ n ≤ 20) ∧ isB V b then sumN (lukF V x b.toNat) n.toNat else -2
def P7_luck (x : Int) (n : Int) (b : Int) (M : Mm) : Prop := okY (vM M)
def R7_luck (x : Int) (n : Int) (b : Int) (M : Mm) (v : Int) (M1 : Mm) : Prop := keepM M M1 ∧ v = A_luck (vM M) x n b
def sp7_luck : Spec := spR true [0, 0, 0] 1 (fun x M => P7_luck (x 0) (x 1) (x 2) M) (fun x M v M1 => R7_luck (x 0) (x 1) (x 2) M v M1)
theorem c7_luck {x n b : Int} {M : Mm} {Q : Option AV → Mm → Prop} : sp7_luck [ar 0, ai x, ai n, ai b] M Q = (P7_luck x n b M ∧ ∀ (v : Int) (M1 : Mm), R7_luck x n b M v M1 → Q (some (ai v)) M1) := rfl
def cs7_luck : List (Nat × Nat × Nat × Spec) := [(494, 0, 1, sp7_isSeed), (121, 0, 3, sp7_in), (292, 1, 2, sp7_isBridge), (497, 1, 2, sp7_draws)]
def J7_luck_42 (x : Int) (n : Int) (b : Int) (M : Mm) (m : Nat) (x_ : Int) (n_ : Int) (b_ : Int) (s : Int) (k : Int) (M1 : Mm) : Prop := x = x_ ∧ n = n_ ∧ b = b_ ∧ ((0 ≤ x ∧ x ≤ 2000000000) ∧ (1 ≤ n ∧ n ≤ 20) ∧ isB (vM M) b) ∧ keepM M M1 ∧ ∃ a : Nat, k = a ∧ (a : Int) ≤ n ∧ s = sumN (lukF (vM M) x b.toNat) a ∧ m = 20 - a
set_option maxHeartbeats 4000000 in
set_option maxRecDepth 100000 in
theorem in7_luck {x n b : Int} {M : Mm} {Q : Option AV → Mm → Prop} (hM : okM sh7 M) (h_x : i32 x) (h_n : i32 n) (h_b : i32 b) (hP : P7_luck x n b M) (hQ : ∀ (v : Int) (M1 : Mm), R7_luck x n b M v M1 → Q (some (ai v)) M1) (I_42 : List AV → Mm → Prop) (hI_42 : ∀ (m_ : Nat) (y_x_ : Int) (y_n_ : Int) (y_b_ : Int) (y_s : Int) (y_k : Int) (M2 : Mm), J7_luck_42 x n b M m_ y_x_ y_n_ y_b_ y_s y_k M2 → I_42 [ar 0, ai y_x_, ai y_n_, ai y_b_, ai y_s, ai y_k] M2) : wp (tb7 (csL cs7_luck)) sh7 6 1 cX7_luck [(42, [0, 1, 2, 3, 4, 5], I_42)] Q 400 0 [(0, ar 0), (1, ai x), (2, ai n), (3, ai b)] [] M := by
  have h3 : 0 ≤ M 7 3 ∧ M 7 3 ≤ 3 := hP.2.2.2.1
  have hk0 : keepM M (up2 M 0 0 0) := keep_u0 keep_rf (by decide)
  have e1 : ¬ ((0 ≤ x ∧ x ≤ 2000000000) ∧ (1 ≤ n ∧ n ≤ 20) ∧ 0 ≤ b ∧ b < M 7 3) → A_luck (vM M) x n b = -2 := fun q => if_neg q
  simp only [e_wp dX7_luck_0 rfl, e_wp dX7_luck_1 rfl, e_wp dX7_luck_2 rfl, e_wp dX7_luck_5 rfl, e_wp dX7_luck_6 rfl, e_wp dX7_luck_9 rfl, e_wp dX7_luck_12 rfl, e_wp dX7_luck_13 rfl, e_wp dX7_luck_14 rfl, e_wp dX7_luck_15 rfl, e_wp dX7_luck_18 rfl, e_wp dX7_luck_21 rfl, e_wp dX7_luck_24 rfl, e_wp dX7_luck_25 rfl, e_wp dX7_luck_26 rfl, e_wp dX7_luck_27 rfl, e_wp dX7_luck_30 rfl, e_wp dX7_luck_33 rfl, e_wp dX7_luck_35 rfl, e_wp dX7_luck_36 rfl, e_wp dX7_luck_37 rfl, e_wp dX7_luck_39 rfl, e_wp dX7_luck_40 rfl, e_wp dX7_luck_42 rfl, e_wp dX7_luck_44 rfl, e_wp dX7_luck_45 rfl, e_wp dX7_luck_48 rfl, e_wp dX7_luck_49 rfl, e_wp dX7_luck_50 rfl, e_wp dX7_luck_51 rfl, e_wp dX7_luck_53 rfl, e_wp dX7_luck_54 rfl, e_wp dX7_luck_55 rfl, e_wp dX7_luck_58 rfl, e_wp dX7_luck_60 rfl, e_wp dX7_luck_61 rfl, e_wp dX7_luck_64 rfl, e_wp dX7_luck_65 rfl, e_wp dX7_luck_66 rfl, e_wp dX7_luck_67 rfl, e_wp dX7_luck_70 rfl, e_wp dX7_luck_71 rfl, e_wp dX7_luck_74 rfl, e_wp dX7_luck_75 rfl, e_wp dX7_luck_76 rfl, e_wp dX7_luck_78 rfl, e_wp dX7_luck_81 rfl, e_wp dX7_luck_84 rfl, e_wp dX7_luck_86 rfl, p7_116, c7_isSeed, P7_isSeed, V7_isSeed, cs7_luck, k7_500, c7_in, P7_in, V7_in, c7_isBridge, P7_isBridge, V7_isBridge, c7_draws, g7_74, a7_1, w7_1, a7_2, w7_2, a7_3, w7_3, a7_4, w7_4, a7_5, w7_5, a7_6, w7_6, a7_7, w7_7, a7_8, w7_8, a7_9, w7_9, a7_10, w7_10, a7_11, w7_11, a7_12, w7_12, a7_13, w7_13, a7_14, w7_14, a7_15, w7_15, a7_16, w7_16, a7_17, w7_17, a7_18, w7_18, a7_19, w7_19, a7_20, w7_20, a7_21, w7_21, a7_22, w7_22, a7_23, w7_23, a7_24, w7_24, a7_25, w7_25, a7_26, w7_26, a7_27, w7_27, a7_28, w7_28, a7_29, w7_29, a7_30, w7_30, a7_31, w7_31, a7_32, w7_32, a7_33, w7_33, e_iconst, e_bipush, e_sipush, e_lconst_0, e_lconst_1, e_iload, e_iload_0, e_iload_1, e_iload_2, e_iload_3, e_lload, e_lload_0, e_lload_1, e_lload_2, e_lload_3, e_aload, e_aload_0, e_aload_1, e_aload_2, e_aload_3, e_istore, e_istore_0, e_istore_1, e_istore_2, e_istore_3, e_astore, e_astore_0, e_astore_1, e_astore_2, e_astore_3, e_lstore, e_lstore_0, e_lstore_1, e_lstore_2, e_lstore_3, e_iinc, e_iadd, e_isub, e_imul, e_ladd, e_lsub, e_lmul, e_idiv, e_irem, e_ldiv, e_lrem, e_ineg, e_lneg, e_iand, e_ior, e_ixor, e_ishl, e_ishr, e_iushr, e_lcmp, e_i2l, e_l2i, e_i2b, e_i2s, e_dup_i, e_dup_r, e_pop_i, e_pop_r, e_dup2_l, e_dup2_ir, e_dup2_ii, e_ifeq, e_ifne, e_iflt, e_ifge, e_ifgt, e_ifle, e_iceq, e_icne, e_iclt, e_icge, e_icgt, e_icle, e_goto, e_switch, e_invokevirtual, e_invokestatic, e_invokespecial, e_ret0, e_ret1, e_ret2, e_ret3, ldI_s, ldL_s, ldR_s, clO_s, ctP_s, ctS_s, mgo_0, mgo_s, pjc_s, pj_0, pj_s, lk_s, rm1_0, rm1_i, rm1_r, rm1_l, rm2_0, rm2_i, rm2_r, rm2_l, csL_s, lc_lt, lc_ge, lc_gt, lc_le, lc_eq, b01_0, b01_1, b01_01, b01_n, up2_o, up2_s, up2_u, ne_eq, reduceCtorEq, Nat.reduceAdd, Nat.reduceEqDiff, Nat.reduceLT, Nat.reduceLeDiff, Int.reduceLE, Int.reduceLT, Int.reduceAdd, Int.reduceNeg, Int.reduceMul, Int.reduceSub, Int.reduceEq, Int.reduceToNat, Int.reduceNatCast, Int.cast_ofNat_Int, ↓reduceIte, and_self, List.drop_succ_cons, List.drop_zero, List.take_succ_cons, List.take_zero, List.length_cons, List.length_nil, List.reverse_cons, List.reverse_nil, List.nil_append, List.cons_append, Option.toList, true_and, and_true, or_false, false_or, or_true, true_or, forall_const, Classical.not_not, not_false_eq_true, not_true_eq_false, false_implies, true_implies, implies_true, imp_self]
  refine ⟨fun q => hQ _ _ ⟨hk0, (e1 (fun z => q z.1)).symm⟩, fun q => ⟨fun z => hQ _ _ ⟨hk0, (e1 (fun y => z y.2.1)).symm⟩, fun z => ⟨h3, fun y => ?_, fun y => hQ _ _ ⟨hk0, (e1 (fun u => y u.2.2)).symm⟩⟩⟩⟩
  exact hI_42 (20 - 0) _ _ _ _ _ _ ⟨rfl, rfl, rfl, ⟨q, z, y⟩, hk0, 0, rfl, by omega, rfl, rfl⟩
set_option maxHeartbeats 4000000 in
set_option maxRecDepth 100000 in
theorem at7_luck_42 {x n b : Int} {M : Mm} {Q : Option AV → Mm → Prop} (hM : okM sh7 M) (h_x : i32 x) (h_n : i32 n) (h_b : i32 b) (hP : P7_luck x n b M) (hQ : ∀ (v : Int) (M1 : Mm), R7_luck x n b M v M1 → Q (some (ai v)) M1) {m : Nat} {x_ n_ b_ s k : Int} {M1 : Mm} (hM1 : okM sh7 M1) (h_x_ : i32 x_) (h_n_ : i32 n_) (h_b_ : i32 b_) (h_s : i32 s) (h_k : i32 k) (hJ : J7_luck_42 x n b M m x_ n_ b_ s k M1) (I_42 : List AV → Mm → Prop) (hI_42 : ∀ (m_ : Nat) (y_x_ : Int) (y_n_ : Int) (y_b_ : Int) (y_s : Int) (y_k : Int) (M2 : Mm), m_ < m → J7_luck_42 x n b M m_ y_x_ y_n_ y_b_ y_s y_k M2 → I_42 [ar 0, ai y_x_, ai y_n_, ai y_b_, ai y_s, ai y_k] M2) : wp (tb7 (csL cs7_luck)) sh7 6 1 cX7_luck [(42, [0, 1, 2, 3, 4, 5], I_42)] Q 400 42 [(0, ar 0), (1, ai x_), (2, ai n_), (3, ai b_), (4, ai s), (5, ai k)] [] M1 := by
  obtain ⟨rfl, rfl, rfl, ⟨hx, hn, hb⟩, hk, a, rfl, ha, rfl, rfl⟩ := hJ
  have h3 : 0 ≤ M 7 3 ∧ M 7 3 ≤ 3 := hP.2.2.2.1
  have hb3 : b < M 7 3 := hb.2
  have eV : vM M1 = vM M := keep_v hk 0
  have hs := sumN_b (f := lukF (vM M) x b.toNat) (B := 1) (n := a) (fun k _ => by unfold lukF; split <;> omega)
  simp only [e_wp dX7_luck_0 rfl, e_wp dX7_luck_1 rfl, e_wp dX7_luck_2 rfl, e_wp dX7_luck_5 rfl, e_wp dX7_luck_6 rfl, e_wp dX7_luck_9 rfl, e_wp dX7_luck_12 rfl, e_wp dX7_luck_13 rfl, e_wp dX7_luck_14 rfl, e_wp dX7_luck_15 rfl, e_wp dX7_luck_18 rfl, e_wp dX7_luck_21 rfl, e_wp dX7_luck_24 rfl, e_wp dX7_luck_25 rfl, e_wp dX7_luck_26 rfl, e_wp dX7_luck_27 rfl, e_wp dX7_luck_30 rfl, e_wp dX7_luck_33 rfl, e_wp dX7_luck_35 rfl, e_wp dX7_luck_36 rfl, e_wp dX7_luck_37 rfl, e_wp dX7_luck_39 rfl, e_wp dX7_luck_40 rfl, e_wp dX7_luck_42 rfl, e_wp dX7_luck_44 rfl, e_wp dX7_luck_45 rfl, e_wp dX7_luck_48 rfl, e_wp dX7_luck_49 rfl, e_wp dX7_luck_50 rfl, e_wp dX7_luck_51 rfl, e_wp dX7_luck_53 rfl, e_wp dX7_luck_54 rfl, e_wp dX7_luck_55 rfl, e_wp dX7_luck_58 rfl, e_wp dX7_luck_60 rfl, e_wp dX7_luck_61 rfl, e_wp dX7_luck_64 rfl, e_wp dX7_luck_65 rfl, e_wp dX7_luck_66 rfl, e_wp dX7_luck_67 rfl, e_wp dX7_luck_70 rfl, e_wp dX7_luck_71 rfl, e_wp dX7_luck_74 rfl, e_wp dX7_luck_75 rfl, e_wp dX7_luck_76 rfl, e_wp dX7_luck_78 rfl, e_wp dX7_luck_81 rfl, e_wp dX7_luck_84 rfl, e_wp dX7_luck_86 rfl, p7_116, c7_isSeed, P7_isSeed, V7_isSeed, cs7_luck, k7_500, c7_in, P7_in, V7_in, c7_isBridge, P7_isBridge, V7_isBridge, c7_draws, g7_74, a7_1, w7_1, a7_2, w7_2, a7_3, w7_3, a7_4, w7_4, a7_5, w7_5, a7_6, w7_6, a7_7, w7_7, a7_8, w7_8, a7_9, w7_9, a7_10, w7_10, a7_11, w7_11, a7_12, w7_12, a7_13, w7_13, a7_14, w7_14, a7_15, w7_15, a7_16, w7_16, a7_17, w7_17, a7_18, w7_18, a7_19, w7_19, a7_20, w7_20, a7_21, w7_21, a7_22, w7_22, a7_23, w7_23, a7_24, w7_24, a7_25, w7_25, a7_26, w7_26, a7_27, w7_27, a7_28, w7_28, a7_29, w7_29, a7_30, w7_30, a7_31, w7_31, a7_32, w7_32, a7_33, w7_33, e_iconst, e_bipush, e_sipush, e_lconst_0, e_lconst_1, e_iload, e_iload_0, e_iload_1, e_iload_2, e_iload_3, e_lload, e_lload_0, e_lload_1, e_lload_2, e_lload_3, e_aload, e_aload_0, e_aload_1, e_aload_2, e_aload_3, e_istore, e_istore_0, e_istore_1, e_istore_2, e_istore_3, e_astore, e_astore_0, e_astore_1, e_astore_2, e_astore_3, e_lstore, e_lstore_0, e_lstore_1, e_lstore_2, e_lstore_3, e_iinc, e_iadd, e_isub, e_imul, e_ladd, e_lsub, e_lmul, e_idiv, e_irem, e_ldiv, e_lrem, e_ineg, e_lneg, e_iand, e_ior, e_ixor, e_ishl, e_ishr, e_iushr, e_lcmp, e_i2l, e_l2i, e_i2b, e_i2s, e_dup_i, e_dup_r, e_pop_i, e_pop_r, e_dup2_l, e_dup2_ir, e_dup2_ii, e_ifeq, e_ifne, e_iflt, e_ifge, e_ifgt, e_ifle, e_iceq, e_icne, e_iclt, e_icge, e_icgt, e_icle, e_goto, e_switch, e_invokevirtual, e_invokestatic, e_invokespecial, e_ret0, e_ret1, e_ret2, e_ret3, ldI_s, ldL_s, ldR_s, clO_s, ctP_s, ctS_s, mgo_0, mgo_s, pjc_s, pj_0, pj_s, lk_s, rm1_0, rm1_i, rm1_r, rm1_l, rm2_0, rm2_i, rm2_r, rm2_l, csL_s, lc_lt, lc_ge, lc_gt, lc_le, lc_eq, b01_0, b01_1, b01_01, b01_n, up2_o, up2_s, up2_u, ne_eq, reduceCtorEq, Nat.reduceAdd, Nat.reduceEqDiff, Nat.reduceLT, Nat.reduceLeDiff, Int.reduceLE, Int.reduceLT, Int.reduceAdd, Int.reduceNeg, Int.reduceMul, Int.reduceSub, Int.reduceEq, Int.reduceToNat, Int.reduceNatCast, Int.cast_ofNat_Int, ↓reduceIte, and_self, List.drop_succ_cons, List.drop_zero, List.take_succ_cons, List.take_zero, List.length_cons, List.length_nil, List.reverse_cons, List.reverse_nil, List.nil_append, List.cons_append, Option.toList, true_and, and_true, or_false, false_or, or_true, true_or, forall_const, Classical.not_not, not_false_eq_true, not_true_eq_false, false_implies, true_implies, implies_true, imp_self]
  refine ⟨fun q => hQ _ _ ⟨hk, ?_⟩, fun q => ?_⟩
  · rw [show A_luck (vM M) x n b = _ from if_pos ⟨hx, hn, hb⟩, show n.toNat = a by omega]
  · refine ⟨by omega, ⟨by rw [eV]; exact hP, by omega⟩, fun M2 hR => ?_⟩
    obtain ⟨r1, r2, r3, r4⟩ := hR
    rw [eV] at r2
    have hst := r2.2.1 b.toNat (by show ((b.toNat : Nat) : Int) < M 7 3; omega)
    have go : ∀ z, z = lukF (vM M) x b.toNat a → i32 (sumN (lukF (vM M) x b.toNat) a + z) ∧ i32 ((a : Int) + 1) ∧ I_42 [ar 0, ai x, ai n, ai b, ai (sumN (lukF (vM M) x b.toNat) a + z), ai (a + 1)] M2 := by
      rintro z rfl
      have hz : 0 ≤ lukF (vM M) x b.toNat a ∧ lukF (vM M) x b.toNat a ≤ 1 := by unfold lukF; split <;> omega
      exact ⟨by omega, by omega, hI_42 (20 - (a + 1)) _ _ _ _ _ _ (by omega) ⟨rfl, rfl, rfl, ⟨hx, hn, hb⟩, keep_tr hk r1, a + 1, by omega, by omega, rfl, rfl⟩⟩
    repeat (refine And.intro (by omega) ?_)
    refine ⟨fun z => go 1 ?_, fun z => go 0 ?_⟩
    · unfold lukF
      rw [if_neg (by rw [← hst.2.1]; exact z)]
    · unfold lukF
      rw [if_pos (by rw [← hst.2.1]; exact z)]
set_option maxHeartbeats 4000000 in
set_option maxRecDepth 100000 in
theorem m7_luck : MOK cl7 sh7 tyl7 [] 5 yX7_luck cX7_luck 6 (some .int) sp7_luck := by
  refine mok_of (own := RX7) (tb := tb7 (csL cs7_luck)) (rt := 1) (fuel := 400) (fun avs M Q => [(42, [0, 1, 2, 3, 4, 5], fun m_ vs M1 => ∃ y_x_ : Int, ∃ y_n_ : Int, ∃ y_b_ : Int, ∃ y_s : Int, ∃ y_k : Int, vs = [ar 0, ai y_x_, ai y_n_, ai y_b_, ai y_s, ai y_k] ∧ J7_luck_42 (pa true [0, 0, 0] avs 0) (pa true [0, 0, 0] avs 1) (pa true [0, 0, 0] avs 2) M m_ y_x_ y_n_ y_b_ y_s y_k M1)]) (by decide) rfl nil_nw (tbOK7 _) rfl (csL_all ?_) ?_ ?_ ?_
  · intro q hq
    simp only [cs7_luck, List.mem_cons, List.not_mem_nil, or_false] at hq
    rcases hq with rfl | rfl | rfl | rfl
    · exact cg7_isSeed (by decide)
    · exact cg7_in (by decide)
    · exact cg7_isBridge (by decide)
    · exact cg7_draws (by decide)
  · intro avs M Q hsp
    obtain ⟨xs, hx⟩ := spR_un _ _ _ hsp
    obtain ⟨e, hl⟩ := unA_mkT hx
    obtain ⟨x, n, b, rfl⟩ := len3 hl
    have e : avs = [ar 0, ai x, ai n, ai b] := e
    subst e
    simp [szL, isL]
  · intro avs M Q hM hav hsp
    obtain ⟨xs, hx⟩ := spR_un _ _ _ hsp
    obtain ⟨e, hl⟩ := unA_mkT hx
    obtain ⟨x, n, b, rfl⟩ := len3 hl
    have e : avs = [ar 0, ai x, ai n, ai b] := e
    subst e
    exact in7_luck hM (hav (ai x) (by simp)) (hav (ai n) (by simp)) (hav (ai b) (by simp)) hsp.1 hsp.2 _ (fun m_ y_x_ y_n_ y_b_ y_s y_k M2 hJ => ⟨m_, y_x_, y_n_, y_b_, y_s, y_k, rfl, hJ⟩)
  · intro avs M Q hM hav hsp q hq m_ vs M1 hM1 hv hJ
    obtain ⟨xs, hx⟩ := spR_un _ _ _ hsp
    obtain ⟨e, hl⟩ := unA_mkT hx
    obtain ⟨x, n, b, rfl⟩ := len3 hl
    have e : avs = [ar 0, ai x, ai n, ai b] := e
    subst e
    simp only [List.mem_cons, List.not_mem_nil, or_false] at hq
    rcases hq with rfl
    · obtain ⟨y_x_, y_n_, y_b_, y_s, y_k, rfl, hJ⟩ := hJ
      exact at7_luck_42 hM (hav (ai x) (by simp)) (hav (ai n) (by simp)) (hav (ai b) (by simp)) hsp.1 hsp.2 hM1 (hv (1, ai y_x_) (List.mem_of_getElem? (i := 1) rfl)) (hv (2, ai y_n_) (List.mem_of_getElem? (i := 2) rfl)) (hv (3, ai y_b_) (List.mem_of_getElem? (i := 3) rfl)) (hv (4, ai y_s) (List.mem_of_getElem? (i := 4) rfl)) (hv (5, ai y_k) (List.mem_of_getElem? (i := 5) rfl)) hJ _ (fun m2 z_x_ z_n_ z_b_ z_s z_k M2 hm hJ2 => ⟨m2, hm, z_x_, z_n_, z_b_, z_s, z_k, rfl, hJ2⟩)
