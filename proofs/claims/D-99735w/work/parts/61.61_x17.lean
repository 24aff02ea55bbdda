/-! SagMemory: a load besides -/
/-- what stays, where loads went over besides: so much more is wiped at most -/
def keepZ (d : Int) (M M1 : Mm) : Prop := frm sRows M M1 ∧ (∀ j, j ∈ [2, 3, 4] → M1 0 j = M 0 j) ∧ ∀ B : Int, 8 ≤ B → 0 ≤ M 0 8 ∧ M 0 8 ≤ B → 0 ≤ M1 0 8 ∧ M1 0 8 ≤ B + d
theorem keepZ_of {M M1 : Mm} {d : Int} (h : keepX M M1) (hd : 0 ≤ d) : keepZ d M M1 := ⟨h.1, h.2.1, fun B h8 hb => by
  have := h.2.2 B h8 hb
  omega⟩
theorem keepZ_w {M M1 : Mm} {d d' : Int} (h : keepZ d M M1) (hd : d ≤ d') : keepZ d' M M1 := ⟨h.1, h.2.1, fun B h8 hb => by
  have := h.2.2 B h8 hb
  omega⟩
theorem keepZ_st {M M1 M2 : Mm} {d d' : Int} (h : keepZ d M M1) (h1 : frm [0, 13, 14, 15] M1 M2) (h2 : ∀ j, ¬ j = 8 → M2 0 j = M1 0 j) (h3 : M1 0 8 ≤ M2 0 8 ∧ M2 0 8 ≤ M1 0 8 + d') : keepZ (d + d') M M2 := ⟨frm_tr h.1 h1 (by decide), fun j hj => (h2 j (by revert hj; simp only [List.mem_cons, List.not_mem_nil, or_false]; omega)).trans (h.2.1 j hj), fun B h8 hb => by
  have := h.2.2 B h8 hb
  omega⟩
theorem keepZ_1 {M M1 : Mm} {d : Int} (h : keepZ d M M1) : M1 1 = M 1 := h.1 _ (by decide)
theorem keepZ_v {M M1 : Mm} {d : Int} (h : keepZ d M M1) : vX M1 = vX M := vX_frm h.1 (by decide)
theorem keepZ_b {M M1 : Mm} {d : Int} (h : keepZ d M M1) (hB : baseI M) : baseI M1 := base_f h.1 (by decide) (by decide) hB
def turnY (M : Mm) (b t : Int) (l : List Pr) : Prop := (l.length ≤ 7 ∧ okL l) ∧ M 27 (3 * t + b).toNat = l.length ∧ M 28 (3 * t + b).toNat = sagP l ∧ stk (fun k => M 26 (8 * (3 * t + b) + k).toNat) l.length = l.map Prod.fst
/-- a turn's memory laid again -/
def withM (M : Mm) (a u : Nat) : Mm := cpM (up2 M 15 a (M 27 (3 * u + a))) 26 (8 * (3 * u + a)) 13 (8 * a) 8
theorem withY {M : Mm} {a u : Nat} {l : List Pr} (ha : a < 3) (h : turnY M a u l) : (mbX (withM M a u) a).map Prod.fst = l.map Prod.fst ∧ okBX (withM M a u) a ∧ withM M a u 15 a ≤ 7 := by
  obtain ⟨⟨h5, h6⟩, h7, h8, h9⟩ := h
  have i1 : ((3 : Int) * u + a).toNat = 3 * u + a := by omega
  rw [i1] at h7 h8
  have em : withM M a u 15 a = l.length := by
    unfold withM
    rw [cp_o (by decide), up2_s, h7]
  have ek : ∀ k, k < 8 → withM M a u 13 (8 * a + k) = M 26 (8 * (3 * u + a) + k) := by
    intro k hk
    unfold withM
    rw [cp_r, if_pos ⟨rfl, by omega, by omega⟩, up2_o (by decide), show 8 * a + k - 8 * a = k by omega]
  have hmf : (mbX (withM M a u) a).map Prod.fst = l.map Prod.fst := by
    rw [← h9]
    show (stk (mfX (withM M a u) a) (withM M a u 15 ((a : Int)).toNat).toNat).map Prod.fst = _
    rw [Int.toNat_natCast, em, Int.toNat_natCast]
    have key : ∀ n : Nat, n ≤ 8 → (stk (mfX (withM M a u) a) n).map Prod.fst = stk (fun k => M 26 (8 * (3 * (u : Int) + a) + k).toNat) n := by
      intro n
      induction n with
      | zero => intro _; rfl
      | succ n ih =>
        intro hn
        show (mfX (withM M a u) a n).1 :: (stk (mfX (withM M a u) a) n).map Prod.fst = _ :: _
        rw [ih (by omega)]
        congr 1
        show withM M a u 13 (8 * (a : Int) + n).toNat = M 26 (8 * (3 * (u : Int) + a) + n).toNat
        rw [show (8 * (a : Int) + n).toNat = 8 * a + n by omega, ek n (by omega), show (8 * (3 * (u : Int) + a) + n).toNat = 8 * (3 * u + a) + n by omega]
    exact key _ (by omega)
  refine ⟨hmf, ⟨by omega, by rw [Int.toNat_natCast, em]; omega, ?_⟩, by omega⟩
  intro x hx
  have : x.1 ∈ (mbX (withM M a u) a).map Prod.fst := List.mem_map.mpr ⟨x, hx, rfl⟩
  rw [hmf] at this
  obtain ⟨y, hy, e⟩ := List.mem_map.mp this
  rw [← e]
  exact h6 y hy
theorem law_ar {M : Mm} (h : 2 ≤ M 0 10 ∧ M 0 10 ≤ 5) : fval 2 (M 0 10) = ar (M 0 10).toNat := by
  rw [← fval_n (M 0 10).toNat, show (((M 0 10).toNat : Nat) : Int) = M 0 10 by omega]
def P0_sagWith (rs : List (Nat × Nat)) (b : Int) (t : Int) (load : Int) (M : Mm) : Prop := ((0 ≤ b ∧ b < 3) ∧ (0 ≤ t ∧ t < 7) ∧ (1 ≤ load ∧ load ≤ 99)) ∧ baseI M ∧ (2 ≤ M 0 10 ∧ M 0 10 ≤ 5) ∧ (0 ≤ M 0 8 ∧ M 0 8 ≤ 1000000000) ∧ ∃ l, turnY M b t l
def R0_sagWith (rs : List (Nat × Nat)) (b : Int) (t : Int) (load : Int) (M : Mm) (v : Int) (M1 : Mm) : Prop := frm [0, 13, 14, 15] M M1 ∧ (∀ j, ¬ j = 8 → M1 0 j = M 0 j) ∧ (M 0 8 ≤ M1 0 8 ∧ M1 0 8 ≤ M 0 8 + 8) ∧ ∀ l, turnY M b t l → v = sagP (crossP (M 0 10 - 2) load 0 l).1
def sp0_sagWith (rs : List (Nat × Nat)) : Spec := spR true [0, 0, 0] 1 (fun x M => P0_sagWith rs (x 0) (x 1) (x 2) M) (fun x M v M1 => R0_sagWith rs (x 0) (x 1) (x 2) M v M1)
theorem c0_sagWith {rs : List (Nat × Nat)} {b t load : Int} {M : Mm} {Q : Option AV → Mm → Prop} : sp0_sagWith rs [ar 0, ai b, ai t, ai load] M Q = (P0_sagWith rs b t load M ∧ ∀ (v : Int) (M1 : Mm), R0_sagWith rs b t load M v M1 → Q (some (ai v)) M1) := rfl
def cs0_sagWith (rs : List (Nat × Nat)) : List (Nat × Nat × Nat × Spec) := [(194, 0, 5, (sp0_copy rs)), (234, 1, 4, (sp0_wgoes rs)), (218, 1, 2, (sp0_sagOf rs))]
set_option maxHeartbeats 4000000 in
set_option maxRecDepth 100000 in
theorem in0_sagWith {rs : List (Nat × Nat)} {b t load : Int} {M : Mm} {Q : Option AV → Mm → Prop} (hM : okM (sh8 rs) M) (h_b : i32 b) (h_t : i32 t) (h_load : i32 load) (hP : P0_sagWith rs b t load M) (hQ : ∀ (v : Int) (M1 : Mm), R0_sagWith rs b t load M v M1 → Q (some (ai v)) M1) : wp (tb0 (csL (cs0_sagWith rs))) (sh8 rs) 4 1 cX0_sagWith [] Q 400 0 [(0, ar 0), (1, ai b), (2, ai t), (3, ai load)] [] M := by
  obtain ⟨⟨h1, h2, h3⟩, hB, hl, hw, l, hT⟩ := id hP
  obtain ⟨a, rfl⟩ := Int.eq_ofNat_of_zero_le h1.1
  obtain ⟨u, rfl⟩ := Int.eq_ofNat_of_zero_le h2.1
  have el := law_ar hl
  have i1 : ((3 : Int) * u + a).toNat = 3 * u + a := by omega
  have i2 : ((8 : Int) * a).toNat = 8 * a := by omega
  have i3 : ((8 : Int) * (3 * u + a)).toNat = 8 * (3 * u + a) := by omega
  have hc1 : ∀ M2, P0_copy rs 26 (8 * (3 * (u : Int) + a)) 13 (8 * (a : Int)) 8 M2 := fun M2 => cpP 168 24 rfl rfl (by omega)
  obtain ⟨w1, w2, w3⟩ := withY (by omega) hT
  have k0 : withM M a u 0 = M 0 := by
    unfold withM
    rw [cp_o (by decide), up2_ne (by decide)]
  have k6 : withM M a u 6 = M 6 := by
    unfold withM
    rw [cp_o (by decide), up2_ne (by decide)]
  have kf : frm [0, 13, 14, 15] M (withM M a u) := frm_cp (frm_up frm_rf (by decide)) (by decide)
  have hG : goP (a : Int) load (withM M a u) := ⟨w2, by rw [Int.toNat_natCast]; exact w3, h3, by rw [k0]; exact hw⟩
  have hL : withM M a u 6 0 = 2 := by rw [k6]; exact (hB 0 (by decide)).1
  simp only [e_wp dX0_sagWith_0 rfl, e_wp dX0_sagWith_1 rfl, e_wp dX0_sagWith_4 rfl, e_wp dX0_sagWith_5 rfl, e_wp dX0_sagWith_6 rfl, e_wp dX0_sagWith_9 rfl, e_wp dX0_sagWith_10 rfl, e_wp dX0_sagWith_11 rfl, e_wp dX0_sagWith_12 rfl, e_wp dX0_sagWith_13 rfl, e_wp dX0_sagWith_14 rfl, e_wp dX0_sagWith_15 rfl, e_wp dX0_sagWith_16 rfl, e_wp dX0_sagWith_17 rfl, e_wp dX0_sagWith_20 rfl, e_wp dX0_sagWith_22 rfl, e_wp dX0_sagWith_23 rfl, e_wp dX0_sagWith_24 rfl, e_wp dX0_sagWith_25 rfl, e_wp dX0_sagWith_26 rfl, e_wp dX0_sagWith_27 rfl, e_wp dX0_sagWith_28 rfl, e_wp dX0_sagWith_29 rfl, e_wp dX0_sagWith_32 rfl, e_wp dX0_sagWith_34 rfl, e_wp dX0_sagWith_35 rfl, e_wp dX0_sagWith_36 rfl, e_wp dX0_sagWith_38 rfl, e_wp dX0_sagWith_41 rfl, e_wp dX0_sagWith_42 rfl, e_wp dX0_sagWith_45 rfl, e_wp dX0_sagWith_46 rfl, e_wp dX0_sagWith_47 rfl, e_wp dX0_sagWith_48 rfl, e_wp dX0_sagWith_51 rfl, e_wp dX0_sagWith_52 rfl, e_wp dX0_sagWith_53 rfl, e_wp dX0_sagWith_56 rfl, g0_31, g0_89, g0_86, g0_24, c0_copy, cs0_sagWith, g0_52, c0_wgoes, c0_sagOf, P0_sagOf, V0_sagOf, a8_13, w8_13, a8_14, w8_14, a8_15, w8_15, a8_16, w8_16, a8_17, w8_17, a8_18, w8_18, a8_19, w8_19, a8_20, w8_20, a8_21, w8_21, a8_22, w8_22, a8_23, w8_23, a8_24, w8_24, a8_25, w8_25, a8_26, w8_26, a8_27, w8_27, a8_28, w8_28, a8_29, w8_29, a8_30, w8_30, a8_31, w8_31, a8_32, w8_32, a8_33, w8_33, a8_34, w8_34, a8_35, w8_35, a8_36, w8_36, a8_37, w8_37, a8_38, w8_38, a8_39, w8_39, a8_40, w8_40, a8_12, w8_12, a8_6, a8_7, e_iconst, e_bipush, e_sipush, e_lconst_0, e_lconst_1, e_iload, e_iload_0, e_iload_1, e_iload_2, e_iload_3, e_lload, e_lload_0, e_lload_1, e_lload_2, e_lload_3, e_aload, e_aload_0, e_aload_1, e_aload_2, e_aload_3, e_istore, e_istore_0, e_istore_1, e_istore_2, e_istore_3, e_astore, e_astore_0, e_astore_1, e_astore_2, e_astore_3, e_lstore, e_lstore_0, e_lstore_1, e_lstore_2, e_lstore_3, e_iinc, e_iadd, e_isub, e_imul, e_ladd, e_lsub, e_lmul, e_idiv, e_irem, e_ldiv, e_lrem, e_ineg, e_lneg, e_iand, e_ior, e_ixor, e_ishl, e_ishr, e_iushr, e_lcmp, e_i2l, e_l2i, e_i2b, e_i2s, e_dup_i, e_dup_r, e_pop_i, e_pop_r, e_dup2_l, e_dup2_ir, e_dup2_ii, e_ifeq, e_ifne, e_iflt, e_ifge, e_ifgt, e_ifle, e_iceq, e_icne, e_iclt, e_icge, e_icgt, e_icle, e_goto, e_switch, e_invokevirtual, e_invokestatic, e_invokespecial, e_ret0, e_ret1, e_ret2, e_ret3, ldI_s, ldL_s, ldR_s, clO_s, ctP_s, ctS_s, mgo_0, mgo_s, pjc_s, pj_0, pj_s, lk_s, rm1_0, rm1_i, rm1_r, rm1_l, rm2_0, rm2_i, rm2_r, rm2_l, csL_s, lc_lt, lc_ge, lc_gt, lc_le, lc_eq, b01_0, b01_1, b01_01, b01_n, up2_o, up2_s, up2_u, ne_eq, reduceCtorEq, Nat.reduceAdd, Nat.reduceEqDiff, Nat.reduceLT, Nat.reduceLeDiff, Int.reduceLE, Int.reduceLT, Int.reduceAdd, Int.reduceNeg, Int.reduceMul, Int.reduceSub, Int.reduceEq, Int.reduceToNat, Int.reduceNatCast, Int.cast_ofNat_Int, ↓reduceIte, and_self, List.drop_succ_cons, List.drop_zero, List.take_succ_cons, List.take_zero, List.length_cons, List.length_nil, List.reverse_cons, List.reverse_nil, List.nil_append, List.cons_append, Option.toList, true_and, and_true, or_false, false_or, or_true, true_or, forall_const, Classical.not_not, not_false_eq_true, not_true_eq_false, false_implies, true_implies, implies_true, imp_self, R0_copy, forall_eq, cp_o, el, Int.toNat_natCast, i1, i2, i3]
  repeat (refine And.intro (by omega) ?_)
  refine ⟨hc1 _, ⟨by omega, hG, hL⟩, fun M1 hR => ?_⟩
  have hR : goR (((M 0 10).toNat : Int) - 2) (a : Int) load (u : Int) (withM M a u) M1 := hR
  rw [show (((M 0 10).toNat : Nat) : Int) = M 0 10 by omega] at hR
  obtain ⟨g1, g2, g3, g4, g5, g6⟩ := hR
  refine ⟨g2, hQ _ _ ⟨frm_tr kf g4 (by decide), fun j hj => by rw [g5 j hj, k0], ?_, fun l' hl' => ?_⟩⟩
  · rw [g3, k0]
    have x1 := @cross_2b (M 0 10 - 2) load u (mbX (withM M a u) a)
    have x2 := mb_lenX w2
    rw [Int.toNat_natCast] at x2
    omega
  · rw [g1]
    exact sag_fst (cross_fst (withY (by omega) hl').1).1
set_option maxHeartbeats 4000000 in
set_option maxRecDepth 100000 in
theorem m0_sagWith {rs : List (Nat × Nat)} : MOK cl8 (sh8 rs) tyl8 Nws8 4 yX0_sagWith cX0_sagWith 4 (some .int) (sp0_sagWith rs) := by
  refine mok_of (own := RX0) (tb := tb0 (csL (cs0_sagWith rs))) (rt := 1) (fuel := 400) (fun avs M Q => []) (by decide) rfl nws8_ok (tbOK0 _) rfl (csL_all ?_) ?_ ?_ ?_
  · intro q hq
    simp only [cs0_sagWith, List.mem_cons, List.not_mem_nil, or_false] at hq
    rcases hq with rfl | rfl | rfl
    · exact cg0_copy (by decide)
    · exact cg0_wgoes (by decide)
    · exact cg0_sagOf (by decide)
  · intro avs M Q hsp
    obtain ⟨xs, hx⟩ := spR_un _ _ _ hsp
    obtain ⟨e, hl⟩ := unA_mkT hx
    obtain ⟨b, t, load, rfl⟩ := len3 hl
    have e : avs = [ar 0, ai b, ai t, ai load] := e
    subst e
    simp [szL, isL]
  · intro avs M Q hM hav hsp
    obtain ⟨xs, hx⟩ := spR_un _ _ _ hsp
    obtain ⟨e, hl⟩ := unA_mkT hx
    obtain ⟨b, t, load, rfl⟩ := len3 hl
    have e : avs = [ar 0, ai b, ai t, ai load] := e
    subst e
    exact in0_sagWith hM (hav (ai b) (by simp)) (hav (ai t) (by simp)) (hav (ai load) (by simp)) hsp.1 hsp.2
  · intro avs M Q hM hav hsp q hq m_ vs M1 hM1 hv hJ
    obtain ⟨xs, hx⟩ := spR_un _ _ _ hsp
    obtain ⟨e, hl⟩ := unA_mkT hx
    obtain ⟨b, t, load, rfl⟩ := len3 hl
    have e : avs = [ar 0, ai b, ai t, ai load] := e
    subst e
    cases hq
theorem cg0_sagWith {rs : List (Nat × Nat)} {lvl : Nat} (h : 4 < lvl) : CG RX0 cl8 (sh8 rs) tyl8 Nws8 lvl 1 280 4 (sp0_sagWith rs) := cg_V (sg := [0, 0, 0]) nws8_ok spR_mono spR_un m0_sagWith h rfl (by decide) rfl rfl ⟨rfl, by decide, by decide, rfl⟩ q959 q961 qs30 q128 q962
theorem turnY_of {M M1 : Mm} {b t : Nat} (hY : okY (vX M)) (k2 : laidX (vX M) (tellP (vX M)) M1) (hb : (b : Int) < M 1 4) (ht : (t : Int) < M 1 5) : turnY M1 b t ((rT (vX M) (t + 1)).1 b) ∧ M1 0 10 = vX M 0 0 + 2 := by
  obtain ⟨t0, t1, t2, t3, t4⟩ := laid_tab k2 (t := t) (b := b) ht hb
  have h4 : 0 ≤ M 1 5 ∧ M 1 5 ≤ 7 := (okY_n hY).2.1
  have h5 := (run_ok (w := whoM (tellP (vX M))) hY (okCf_tell hY) (t + 1) (by show ((t + 1 : Nat) : Int) ≤ M 1 5; omega) b).2
  have i1 : ((3 : Int) * t + b).toNat = 3 * t + b := by omega
  refine ⟨⟨⟨by show ((runP (whoM (tellP (vX M))) (vX M) (tellP (vX M)) (t + 1)).1 b).length ≤ 7; omega, t1⟩, by rw [i1]; exact t2, by rw [i1]; exact t3, ?_⟩, ?_⟩
  · rw [← t4]
    exact stk_congr fun k _ => by
      rw [show ((8 : Int) * (3 * t + b) + k).toNat = 8 * (3 * t + b) + k by omega]
  · have e : M1 0 10 - 2 = vX M 0 0 := congrFun (congrFun k2.1 0) 0
    omega
theorem turnY_k {M M1 : Mm} {b t : Int} {l : List Pr} (h : turnY M b t l) (h1 : M1 27 = M 27) (h2 : M1 28 = M 28) (h3 : M1 26 = M 26) : turnY M1 b t l := by
  unfold turnY
  rw [h1, h2, h3]
  exact h
abbrev okWi (M : Mm) : Prop := 0 ≤ M 0 8 ∧ M 0 8 ≤ 100000000
def P0_free (rs : List (Nat × Nat)) (b : Int) (t : Int) (M : Mm) : Prop := okX M ∧ okWi M
def R0_free (rs : List (Nat × Nat)) (b : Int) (t : Int) (M : Mm) (v : Int) (M1 : Mm) : Prop := keepZ 1000 M M1 ∧ v = A_free (vX M) b t
def sp0_free (rs : List (Nat × Nat)) : Spec := spR true [0, 0] 1 (fun x M => P0_free rs (x 0) (x 1) M) (fun x M v M1 => R0_free rs (x 0) (x 1) M v M1)
theorem c0_free {rs : List (Nat × Nat)} {b t : Int} {M : Mm} {Q : Option AV → Mm → Prop} : sp0_free rs [ar 0, ai b, ai t] M Q = (P0_free rs b t M ∧ ∀ (v : Int) (M1 : Mm), R0_free rs b t M v M1 → Q (some (ai v)) M1) := rfl
def cs0_free (rs : List (Nat × Nat)) : List (Nat × Nat × Nat × Spec) := [(277, 1, 3, (sp0_asks rs)), (280, 1, 4, (sp0_sagWith rs))]
def J0_free_15 (rs : List (Nat × Nat)) (b : Int) (t : Int) (M : Mm) (m : Nat) (b_ : Int) (t_ : Int) (n : Int) (M1 : Mm) : Prop := b = b_ ∧ t = t_ ∧ (isB (vX M) b ∧ isC (vX M) t) ∧ turnY M1 b t ((rT (vX M) (t.toNat + 1)).1 b.toNat) ∧ M1 0 10 = vX M 0 0 + 2 ∧ ∃ a : Nat, n = a ∧ a ≤ 99 ∧ keepZ (8 * (99 - a)) M M1 ∧ A_free (vX M) b t = frR (vX M 0 0) (sagP ((rT (vX M) (t.toNat + 1)).1 b.toNat)) ((rT (vX M) (t.toNat + 1)).1 b.toNat) a ∧ m = a
set_option maxHeartbeats 4000000 in
set_option maxRecDepth 100000 in
theorem in0_free {rs : List (Nat × Nat)} {b t : Int} {M : Mm} {Q : Option AV → Mm → Prop} (hM : okM (sh8 rs) M) (h_b : i32 b) (h_t : i32 t) (hP : P0_free rs b t M) (hQ : ∀ (v : Int) (M1 : Mm), R0_free rs b t M v M1 → Q (some (ai v)) M1) (I_15 : List AV → Mm → Prop) (hI_15 : ∀ (m_ : Nat) (y_b_ : Int) (y_t_ : Int) (y_n : Int) (M2 : Mm), J0_free_15 rs b t M m_ y_b_ y_t_ y_n M2 → I_15 [ar 0, ai y_b_, ai y_t_, ai y_n] M2) : wp (tb0 (csL (cs0_free rs))) (sh8 rs) 4 1 cX0_free [(15, [0, 1, 2, 3], I_15)] Q 400 0 [(0, ar 0), (1, ai b), (2, ai t)] [] M := by
  obtain ⟨⟨hY, hB⟩, hw⟩ := id hP
  have h3 : 0 ≤ M 1 4 ∧ M 1 4 ≤ 3 := (okY_n hY).1
  have h4 : 0 ≤ M 1 5 ∧ M 1 5 ≤ 7 := (okY_n hY).2.1
  simp only [e_wp dX0_free_0 rfl, e_wp dX0_free_1 rfl, e_wp dX0_free_2 rfl, e_wp dX0_free_3 rfl, e_wp dX0_free_6 rfl, e_wp dX0_free_9 rfl, e_wp dX0_free_11 rfl, e_wp dX0_free_12 rfl, e_wp dX0_free_14 rfl, e_wp dX0_free_15 rfl, e_wp dX0_free_16 rfl, e_wp dX0_free_19 rfl, e_wp dX0_free_20 rfl, e_wp dX0_free_21 rfl, e_wp dX0_free_22 rfl, e_wp dX0_free_23 rfl, e_wp dX0_free_26 rfl, e_wp dX0_free_27 rfl, e_wp dX0_free_30 rfl, e_wp dX0_free_31 rfl, e_wp dX0_free_32 rfl, e_wp dX0_free_33 rfl, e_wp dX0_free_34 rfl, e_wp dX0_free_35 rfl, e_wp dX0_free_36 rfl, e_wp dX0_free_39 rfl, e_wp dX0_free_40 rfl, e_wp dX0_free_41 rfl, e_wp dX0_free_44 rfl, e_wp dX0_free_47 rfl, e_wp dX0_free_48 rfl, c0_asks, cs0_free, c0_sagWith, g0_92, a8_13, w8_13, a8_14, w8_14, a8_15, w8_15, a8_16, w8_16, a8_17, w8_17, a8_18, w8_18, a8_19, w8_19, a8_20, w8_20, a8_21, w8_21, a8_22, w8_22, a8_23, w8_23, a8_24, w8_24, a8_25, w8_25, a8_26, w8_26, a8_27, w8_27, a8_28, w8_28, a8_29, w8_29, a8_30, w8_30, a8_31, w8_31, a8_32, w8_32, a8_33, w8_33, a8_34, w8_34, a8_35, w8_35, a8_36, w8_36, a8_37, w8_37, a8_38, w8_38, a8_39, w8_39, a8_40, w8_40, a8_12, w8_12, a8_6, a8_7, e_iconst, e_bipush, e_sipush, e_lconst_0, e_lconst_1, e_iload, e_iload_0, e_iload_1, e_iload_2, e_iload_3, e_lload, e_lload_0, e_lload_1, e_lload_2, e_lload_3, e_aload, e_aload_0, e_aload_1, e_aload_2, e_aload_3, e_istore, e_istore_0, e_istore_1, e_istore_2, e_istore_3, e_astore, e_astore_0, e_astore_1, e_astore_2, e_astore_3, e_lstore, e_lstore_0, e_lstore_1, e_lstore_2, e_lstore_3, e_iinc, e_iadd, e_isub, e_imul, e_ladd, e_lsub, e_lmul, e_idiv, e_irem, e_ldiv, e_lrem, e_ineg, e_lneg, e_iand, e_ior, e_ixor, e_ishl, e_ishr, e_iushr, e_lcmp, e_i2l, e_l2i, e_i2b, e_i2s, e_dup_i, e_dup_r, e_pop_i, e_pop_r, e_dup2_l, e_dup2_ir, e_dup2_ii, e_ifeq, e_ifne, e_iflt, e_ifge, e_ifgt, e_ifle, e_iceq, e_icne, e_iclt, e_icge, e_icgt, e_icle, e_goto, e_switch, e_invokevirtual, e_invokestatic, e_invokespecial, e_ret0, e_ret1, e_ret2, e_ret3, ldI_s, ldL_s, ldR_s, clO_s, ctP_s, ctS_s, mgo_0, mgo_s, pjc_s, pj_0, pj_s, lk_s, rm1_0, rm1_i, rm1_r, rm1_l, rm2_0, rm2_i, rm2_r, rm2_l, csL_s, lc_lt, lc_ge, lc_gt, lc_le, lc_eq, b01_0, b01_1, b01_01, b01_n, up2_o, up2_s, up2_u, ne_eq, reduceCtorEq, Nat.reduceAdd, Nat.reduceEqDiff, Nat.reduceLT, Nat.reduceLeDiff, Int.reduceLE, Int.reduceLT, Int.reduceAdd, Int.reduceNeg, Int.reduceMul, Int.reduceSub, Int.reduceEq, Int.reduceToNat, Int.reduceNatCast, Int.cast_ofNat_Int, ↓reduceIte, and_self, List.drop_succ_cons, List.drop_zero, List.take_succ_cons, List.take_zero, List.length_cons, List.length_nil, List.reverse_cons, List.reverse_nil, List.nil_append, List.cons_append, Option.toList, true_and, and_true, or_false, false_or, or_true, true_or, forall_const, Classical.not_not, not_false_eq_true, not_true_eq_false, false_implies, true_implies, implies_true, imp_self]
  refine ⟨⟨hY, hB⟩, fun v M1 hR => ?_⟩
  obtain ⟨r1, r2, r3⟩ := hR
  refine ⟨fun z => ?_, fun z => hQ _ _ ⟨keepZ_of r1 (by decide), ?_⟩⟩
  · have z1 := z
    rw [r2, b01_0] at z1
    have q := Classical.not_not.mp z1
    have k2 := r3 (by rw [r2, b01_t q])
    obtain ⟨a, rfl⟩ := Int.eq_ofNat_of_zero_le q.1.1
    obtain ⟨n, rfl⟩ := Int.eq_ofNat_of_zero_le q.2.1
    obtain ⟨x1, x2⟩ := turnY_of hY k2 q.1.2 q.2.2
    exact hI_15 99 _ _ _ _ ⟨rfl, rfl, q, x1, x2, 99, rfl, by omega, keepZ_of r1 (by decide), if_pos q, rfl⟩
  · rw [r2, b01_0] at z
    exact (if_neg z).symm
set_option maxHeartbeats 4000000 in
set_option maxRecDepth 100000 in
theorem at0_free_15 {rs : List (Nat × Nat)} {b t : Int} {M : Mm} {Q : Option AV → Mm → Prop} (hM : okM (sh8 rs) M) (h_b : i32 b) (h_t : i32 t) (hP : P0_free rs b t M) (hQ : ∀ (v : Int) (M1 : Mm), R0_free rs b t M v M1 → Q (some (ai v)) M1) {m : Nat} {b_ t_ n : Int} {M1 : Mm} (hM1 : okM (sh8 rs) M1) (h_b_ : i32 b_) (h_t_ : i32 t_) (h_n : i32 n) (hJ : J0_free_15 rs b t M m b_ t_ n M1) (I_15 : List AV → Mm → Prop) (hI_15 : ∀ (m_ : Nat) (y_b_ : Int) (y_t_ : Int) (y_n : Int) (M2 : Mm), m_ < m → J0_free_15 rs b t M m_ y_b_ y_t_ y_n M2 → I_15 [ar 0, ai y_b_, ai y_t_, ai y_n] M2) : wp (tb0 (csL (cs0_free rs))) (sh8 rs) 4 1 cX0_free [(15, [0, 1, 2, 3], I_15)] Q 400 15 [(0, ar 0), (1, ai b_), (2, ai t_), (3, ai n)] [] M1 := by
  obtain ⟨rfl, rfl, hq, hT, hl, a, rfl, ha, hk, eA, rfl⟩ := hJ
  obtain ⟨⟨hY, hB⟩, hw⟩ := id hP
  have h3 : 0 ≤ M 1 4 ∧ M 1 4 ≤ 3 := (okY_n hY).1
  have h4 : 0 ≤ M 1 5 ∧ M 1 5 ≤ 7 := (okY_n hY).2.1
  have hq3 : b < M 1 4 := hq.1.2
  have hq4 : t < M 1 5 := hq.2.2
  have hq1 := hq.1.1
  have hq2 := hq.2.1
  have hlaw : 2 ≤ M1 0 10 ∧ M1 0 10 ≤ 5 := by
    rw [hl]
    have := hY.1
    omega
  have hw1 := hk.2.2 100000000 (by decide) hw
  generalize hL : (rT (vX M) (t.toNat + 1)).1 b.toNat = L at *
  simp only [e_wp dX0_free_0 rfl, e_wp dX0_free_1 rfl, e_wp dX0_free_2 rfl, e_wp dX0_free_3 rfl, e_wp dX0_free_6 rfl, e_wp dX0_free_9 rfl, e_wp dX0_free_11 rfl, e_wp dX0_free_12 rfl, e_wp dX0_free_14 rfl, e_wp dX0_free_15 rfl, e_wp dX0_free_16 rfl, e_wp dX0_free_19 rfl, e_wp dX0_free_20 rfl, e_wp dX0_free_21 rfl, e_wp dX0_free_22 rfl, e_wp dX0_free_23 rfl, e_wp dX0_free_26 rfl, e_wp dX0_free_27 rfl, e_wp dX0_free_30 rfl, e_wp dX0_free_31 rfl, e_wp dX0_free_32 rfl, e_wp dX0_free_33 rfl, e_wp dX0_free_34 rfl, e_wp dX0_free_35 rfl, e_wp dX0_free_36 rfl, e_wp dX0_free_39 rfl, e_wp dX0_free_40 rfl, e_wp dX0_free_41 rfl, e_wp dX0_free_44 rfl, e_wp dX0_free_47 rfl, e_wp dX0_free_48 rfl, c0_asks, cs0_free, c0_sagWith, g0_92, a8_13, w8_13, a8_14, w8_14, a8_15, w8_15, a8_16, w8_16, a8_17, w8_17, a8_18, w8_18, a8_19, w8_19, a8_20, w8_20, a8_21, w8_21, a8_22, w8_22, a8_23, w8_23, a8_24, w8_24, a8_25, w8_25, a8_26, w8_26, a8_27, w8_27, a8_28, w8_28, a8_29, w8_29, a8_30, w8_30, a8_31, w8_31, a8_32, w8_32, a8_33, w8_33, a8_34, w8_34, a8_35, w8_35, a8_36, w8_36, a8_37, w8_37, a8_38, w8_38, a8_39, w8_39, a8_40, w8_40, a8_12, w8_12, a8_6, a8_7, e_iconst, e_bipush, e_sipush, e_lconst_0, e_lconst_1, e_iload, e_iload_0, e_iload_1, e_iload_2, e_iload_3, e_lload, e_lload_0, e_lload_1, e_lload_2, e_lload_3, e_aload, e_aload_0, e_aload_1, e_aload_2, e_aload_3, e_istore, e_istore_0, e_istore_1, e_istore_2, e_istore_3, e_astore, e_astore_0, e_astore_1, e_astore_2, e_astore_3, e_lstore, e_lstore_0, e_lstore_1, e_lstore_2, e_lstore_3, e_iinc, e_iadd, e_isub, e_imul, e_ladd, e_lsub, e_lmul, e_idiv, e_irem, e_ldiv, e_lrem, e_ineg, e_lneg, e_iand, e_ior, e_ixor, e_ishl, e_ishr, e_iushr, e_lcmp, e_i2l, e_l2i, e_i2b, e_i2s, e_dup_i, e_dup_r, e_pop_i, e_pop_r, e_dup2_l, e_dup2_ir, e_dup2_ii, e_ifeq, e_ifne, e_iflt, e_ifge, e_ifgt, e_ifle, e_iceq, e_icne, e_iclt, e_icge, e_icgt, e_icle, e_goto, e_switch, e_invokevirtual, e_invokestatic, e_invokespecial, e_ret0, e_ret1, e_ret2, e_ret3, ldI_s, ldL_s, ldR_s, clO_s, ctP_s, ctS_s, mgo_0, mgo_s, pjc_s, pj_0, pj_s, lk_s, rm1_0, rm1_i, rm1_r, rm1_l, rm2_0, rm2_i, rm2_r, rm2_l, csL_s, lc_lt, lc_ge, lc_gt, lc_le, lc_eq, b01_0, b01_1, b01_01, b01_n, up2_o, up2_s, up2_u, ne_eq, reduceCtorEq, Nat.reduceAdd, Nat.reduceEqDiff, Nat.reduceLT, Nat.reduceLeDiff, Int.reduceLE, Int.reduceLT, Int.reduceAdd, Int.reduceNeg, Int.reduceMul, Int.reduceSub, Int.reduceEq, Int.reduceToNat, Int.reduceNatCast, Int.cast_ofNat_Int, ↓reduceIte, and_self, List.drop_succ_cons, List.drop_zero, List.take_succ_cons, List.take_zero, List.length_cons, List.length_nil, List.reverse_cons, List.reverse_nil, List.nil_append, List.cons_append, Option.toList, true_and, and_true, or_false, false_or, or_true, true_or, forall_const, Classical.not_not, not_false_eq_true, not_true_eq_false, false_implies, true_implies, implies_true, imp_self]
  refine ⟨fun q => ?_, fun q => ⟨⟨by omega, keepZ_b hk hB, hlaw, by omega, L, hT⟩, fun v M2 hR => ?_⟩⟩
  · obtain rfl : m = 0 := by omega
    exact hQ _ _ ⟨keepZ_w hk (by omega), by rw [eA]; rfl⟩
  · obtain ⟨r1, r2, r3, r4⟩ := hR
    have ev := r4 L hT
    rw [show M1 0 10 - 2 = vX M 0 0 by omega] at ev
    have hT2 := turnY_k hT (r1 _ (by decide)) (r1 _ (by decide)) (r1 _ (by decide))
    have hk2 := keepZ_st hk r1 r2 r3
    have es := hT2.2.2.1
    obtain ⟨n, rfl⟩ : ∃ n, m = n + 1 := ⟨m - 1, by omega⟩
    have ef : frR (vX M 0 0) (sagP L) L (n + 1) = if sagP L < v then frR (vX M 0 0) (sagP L) L n else ((n : Int) + 1) := by
      rw [ev]
      rfl
    rw [ef] at eA
    rw [es]
    have hs := sagP_b hT.1.2
    repeat (refine And.intro (by omega) ?_)
    refine ⟨fun z => ⟨by omega, ?_⟩, fun z => hQ _ _ ⟨keepZ_w hk2 (by omega), ?_⟩⟩
    · rw [if_pos z] at eA
      refine hI_15 n _ _ _ _ (by omega) ⟨rfl, rfl, hq, by rw [hL]; exact hT2, by rw [r2 _ (by decide)]; exact hl, n, by omega, by omega, keepZ_w hk2 (by omega), by rw [hL]; exact eA, rfl⟩
    · rw [eA, if_neg (by omega)]
      omega
set_option maxHeartbeats 4000000 in
set_option maxRecDepth 100000 in
theorem m0_free {rs : List (Nat × Nat)} : MOK cl8 (sh8 rs) tyl8 Nws8 9 yX0_free cX0_free 4 (some .int) (sp0_free rs) := by
  refine mok_of (own := RX0) (tb := tb0 (csL (cs0_free rs))) (rt := 1) (fuel := 400) (fun avs M Q => [(15, [0, 1, 2, 3], fun m_ vs M1 => ∃ y_b_ : Int, ∃ y_t_ : Int, ∃ y_n : Int, vs = [ar 0, ai y_b_, ai y_t_, ai y_n] ∧ J0_free_15 rs (pa true [0, 0] avs 0) (pa true [0, 0] avs 1) M m_ y_b_ y_t_ y_n M1)]) (by decide) rfl nws8_ok (tbOK0 _) rfl (csL_all ?_) ?_ ?_ ?_
  · intro q hq
    simp only [cs0_free, List.mem_cons, List.not_mem_nil, or_false] at hq
    rcases hq with rfl | rfl
    · exact cg0_asks (by decide)
    · exact cg0_sagWith (by decide)
  · intro avs M Q hsp
    obtain ⟨xs, hx⟩ := spR_un _ _ _ hsp
    obtain ⟨e, hl⟩ := unA_mkT hx
    obtain ⟨b, t, rfl⟩ := len2 hl
    have e : avs = [ar 0, ai b, ai t] := e
    subst e
    simp [szL, isL]
  · intro avs M Q hM hav hsp
    obtain ⟨xs, hx⟩ := spR_un _ _ _ hsp
    obtain ⟨e, hl⟩ := unA_mkT hx
    obtain ⟨b, t, rfl⟩ := len2 hl
    have e : avs = [ar 0, ai b, ai t] := e
    subst e
    exact in0_free hM (hav (ai b) (by simp)) (hav (ai t) (by simp)) hsp.1 hsp.2 _ (fun m_ y_b_ y_t_ y_n M2 hJ => ⟨m_, y_b_, y_t_, y_n, rfl, hJ⟩)
  · intro avs M Q hM hav hsp q hq m_ vs M1 hM1 hv hJ
    obtain ⟨xs, hx⟩ := spR_un _ _ _ hsp
    obtain ⟨e, hl⟩ := unA_mkT hx
    obtain ⟨b, t, rfl⟩ := len2 hl
    have e : avs = [ar 0, ai b, ai t] := e
    subst e
    simp only [List.mem_cons, List.not_mem_nil, or_false] at hq
    rcases hq with rfl
    · obtain ⟨y_b_, y_t_, y_n, rfl, hJ⟩ := hJ
      exact at0_free_15 hM (hav (ai b) (by simp)) (hav (ai t) (by simp)) hsp.1 hsp.2 hM1 (hv (1, ai y_b_) (List.mem_of_getElem? (i := 1) rfl)) (hv (2, ai y_t_) (List.mem_of_getElem? (i := 2) rfl)) (hv (3, ai y_n) (List.mem_of_getElem? (i := 3) rfl)) hJ _ (fun m2 z_b_ z_t_ z_n M2 hm hJ2 => ⟨m2, hm, z_b_, z_t_, z_n, rfl, hJ2⟩)
def P0_most (rs : List (Nat × Nat)) (b : Int) (t : Int) (M : Mm) : Prop := okX M ∧ okWi M
def R0_most (rs : List (Nat × Nat)) (b : Int) (t : Int) (M : Mm) (v : Int) (M1 : Mm) : Prop := keepZ 1000 M M1 ∧ v = A_most (vX M) b t
def sp0_most (rs : List (Nat × Nat)) : Spec := spR true [0, 0] 1 (fun x M => P0_most rs (x 0) (x 1) M) (fun x M v M1 => R0_most rs (x 0) (x 1) M v M1)
theorem c0_most {rs : List (Nat × Nat)} {b t : Int} {M : Mm} {Q : Option AV → Mm → Prop} : sp0_most rs [ar 0, ai b, ai t] M Q = (P0_most rs b t M ∧ ∀ (v : Int) (M1 : Mm), R0_most rs b t M v M1 → Q (some (ai v)) M1) := rfl
def cs0_most (rs : List (Nat × Nat)) : List (Nat × Nat × Nat × Spec) := [(277, 1, 3, (sp0_asks rs)), (280, 1, 4, (sp0_sagWith rs))]
def J0_most_41 (rs : List (Nat × Nat)) (b : Int) (t : Int) (M : Mm) (m : Nat) (b_ : Int) (t_ : Int) (x : Int) (n : Int) (M1 : Mm) : Prop := b = b_ ∧ t = t_ ∧ (isB (vX M) b ∧ isC (vX M) t) ∧ turnY M1 b t ((rT (vX M) (t.toNat + 1)).1 b.toNat) ∧ M1 0 10 = vX M 0 0 + 2 ∧ x = b01 ((rT (vX M) (vX M 0 4).toNat).2.2 b.toNat ≤ t) ∧ ∃ a : Nat, n = 100 - (a : Int) ∧ a ≤ 99 ∧ keepZ (8 * (99 - a)) M M1 ∧ (¬ (rT (vX M) (vX M 0 4).toNat).2.2 b.toNat ≤ t → A_most (vX M) b t = moR (vX M 0 0) (vX M 1 b.toNat) ((rT (vX M) (t.toNat + 1)).1 b.toNat) a n) ∧ m = a
set_option maxHeartbeats 4000000 in
set_option maxRecDepth 100000 in
theorem in0_most {rs : List (Nat × Nat)} {b t : Int} {M : Mm} {Q : Option AV → Mm → Prop} (hM : okM (sh8 rs) M) (h_b : i32 b) (h_t : i32 t) (hP : P0_most rs b t M) (hQ : ∀ (v : Int) (M1 : Mm), R0_most rs b t M v M1 → Q (some (ai v)) M1) (I_41 : List AV → Mm → Prop) (hI_41 : ∀ (m_ : Nat) (y_b_ : Int) (y_t_ : Int) (y_x : Int) (y_n : Int) (M2 : Mm), J0_most_41 rs b t M m_ y_b_ y_t_ y_x y_n M2 → I_41 [ar 0, ai y_b_, ai y_t_, ai y_x, ai y_n] M2) : wp (tb0 (csL (cs0_most rs))) (sh8 rs) 5 1 cX0_most [(41, [0, 1, 2, 3, 4], I_41)] Q 400 0 [(0, ar 0), (1, ai b), (2, ai t)] [] M := by
  obtain ⟨⟨hY, hB⟩, hw⟩ := id hP
  have h3 : 0 ≤ M 1 4 ∧ M 1 4 ≤ 3 := (okY_n hY).1
  have h4 : 0 ≤ M 1 5 ∧ M 1 5 ≤ 7 := (okY_n hY).2.1
  have kc : vX M 0 4 ≤ 7 := h4.2
  simp only [e_wp dX0_most_0 rfl, e_wp dX0_most_1 rfl, e_wp dX0_most_2 rfl, e_wp dX0_most_3 rfl, e_wp dX0_most_6 rfl, e_wp dX0_most_9 rfl, e_wp dX0_most_11 rfl, e_wp dX0_most_12 rfl, e_wp dX0_most_13 rfl, e_wp dX0_most_16 rfl, e_wp dX0_most_17 rfl, e_wp dX0_most_18 rfl, e_wp dX0_most_19 rfl, e_wp dX0_most_22 rfl, e_wp dX0_most_23 rfl, e_wp dX0_most_26 rfl, e_wp dX0_most_27 rfl, e_wp dX0_most_28 rfl, e_wp dX0_most_29 rfl, e_wp dX0_most_32 rfl, e_wp dX0_most_33 rfl, e_wp dX0_most_36 rfl, e_wp dX0_most_37 rfl, e_wp dX0_most_38 rfl, e_wp dX0_most_39 rfl, e_wp dX0_most_41 rfl, e_wp dX0_most_43 rfl, e_wp dX0_most_45 rfl, e_wp dX0_most_48 rfl, e_wp dX0_most_49 rfl, e_wp dX0_most_52 rfl, e_wp dX0_most_53 rfl, e_wp dX0_most_54 rfl, e_wp dX0_most_55 rfl, e_wp dX0_most_57 rfl, e_wp dX0_most_60 rfl, e_wp dX0_most_61 rfl, e_wp dX0_most_64 rfl, e_wp dX0_most_67 rfl, e_wp dX0_most_68 rfl, e_wp dX0_most_69 rfl, e_wp dX0_most_72 rfl, e_wp dX0_most_74 rfl, e_wp dX0_most_75 rfl, e_wp dX0_most_78 rfl, e_wp dX0_most_81 rfl, e_wp dX0_most_82 rfl, c0_asks, cs0_most, g0_83, c0_sagWith, g0_10, g0_174, a8_13, w8_13, a8_14, w8_14, a8_15, w8_15, a8_16, w8_16, a8_17, w8_17, a8_18, w8_18, a8_19, w8_19, a8_20, w8_20, a8_21, w8_21, a8_22, w8_22, a8_23, w8_23, a8_24, w8_24, a8_25, w8_25, a8_26, w8_26, a8_27, w8_27, a8_28, w8_28, a8_29, w8_29, a8_30, w8_30, a8_31, w8_31, a8_32, w8_32, a8_33, w8_33, a8_34, w8_34, a8_35, w8_35, a8_36, w8_36, a8_37, w8_37, a8_38, w8_38, a8_39, w8_39, a8_40, w8_40, a8_12, w8_12, a8_6, a8_7, e_iconst, e_bipush, e_sipush, e_lconst_0, e_lconst_1, e_iload, e_iload_0, e_iload_1, e_iload_2, e_iload_3, e_lload, e_lload_0, e_lload_1, e_lload_2, e_lload_3, e_aload, e_aload_0, e_aload_1, e_aload_2, e_aload_3, e_istore, e_istore_0, e_istore_1, e_istore_2, e_istore_3, e_astore, e_astore_0, e_astore_1, e_astore_2, e_astore_3, e_lstore, e_lstore_0, e_lstore_1, e_lstore_2, e_lstore_3, e_iinc, e_iadd, e_isub, e_imul, e_ladd, e_lsub, e_lmul, e_idiv, e_irem, e_ldiv, e_lrem, e_ineg, e_lneg, e_iand, e_ior, e_ixor, e_ishl, e_ishr, e_iushr, e_lcmp, e_i2l, e_l2i, e_i2b, e_i2s, e_dup_i, e_dup_r, e_pop_i, e_pop_r, e_dup2_l, e_dup2_ir, e_dup2_ii, e_ifeq, e_ifne, e_iflt, e_ifge, e_ifgt, e_ifle, e_iceq, e_icne, e_iclt, e_icge, e_icgt, e_icle, e_goto, e_switch, e_invokevirtual, e_invokestatic, e_invokespecial, e_ret0, e_ret1, e_ret2, e_ret3, ldI_s, ldL_s, ldR_s, clO_s, ctP_s, ctS_s, mgo_0, mgo_s, pjc_s, pj_0, pj_s, lk_s, rm1_0, rm1_i, rm1_r, rm1_l, rm2_0, rm2_i, rm2_r, rm2_l, csL_s, lc_lt, lc_ge, lc_gt, lc_le, lc_eq, b01_0, b01_1, b01_01, b01_n, up2_o, up2_s, up2_u, ne_eq, reduceCtorEq, Nat.reduceAdd, Nat.reduceEqDiff, Nat.reduceLT, Nat.reduceLeDiff, Int.reduceLE, Int.reduceLT, Int.reduceAdd, Int.reduceNeg, Int.reduceMul, Int.reduceSub, Int.reduceEq, Int.reduceToNat, Int.reduceNatCast, Int.cast_ofNat_Int, ↓reduceIte, and_self, List.drop_succ_cons, List.drop_zero, List.take_succ_cons, List.take_zero, List.length_cons, List.length_nil, List.reverse_cons, List.reverse_nil, List.nil_append, List.cons_append, Option.toList, true_and, and_true, or_false, false_or, or_true, true_or, forall_const, Classical.not_not, not_false_eq_true, not_true_eq_false, false_implies, true_implies, implies_true, imp_self]
  refine ⟨⟨hY, hB⟩, fun v M1 hR => ?_⟩
  obtain ⟨r1, r2, r3⟩ := hR
  refine ⟨fun z => ?_, fun z => hQ _ _ ⟨keepZ_of r1 (by decide), ?_⟩⟩
  · have z1 := z
    rw [r2, b01_0] at z1
    have q := Classical.not_not.mp z1
    have k2 := r3 (by rw [r2, b01_t q])
    obtain ⟨a, rfl⟩ := Int.eq_ofNat_of_zero_le q.1.1
    obtain ⟨n, rfl⟩ := Int.eq_ofNat_of_zero_le q.2.1
    obtain ⟨x1, x2⟩ := turnY_of hY k2 q.1.2 q.2.2
    have hn4 : (n : Int) < M 1 5 := q.2.2
    have ha3 : (a : Int) < M 1 4 := q.1.2
    have kb := brk_x (V := vX M) h4 a
    rw [Int.toNat_natCast, (laid_end h4.1 k2 (b := a) q.1.2).2.2]
    have go : ∀ x, x = b01 ((rT (vX M) (vX M 0 4).toNat).2.2 a ≤ n) → I_41 [ar 0, ai a, ai n, ai x, ai 1] M1 := by
      intro x hx
      exact hI_41 99 _ _ _ _ _ ⟨rfl, rfl, q, x1, x2, hx, 99, rfl, by omega, keepZ_of r1 (by decide), fun z => (if_pos q).trans (if_neg z), rfl⟩
    refine ⟨by omega, fun w => go _ (b01_f (by omega)).symm, fun w => ⟨by omega, fun y => go _ (b01_f (by omega)).symm, fun y => go _ (b01_t (by omega)).symm⟩⟩
  · rw [r2, b01_0] at z
    exact (if_neg z).symm
set_option maxHeartbeats 4000000 in
set_option maxRecDepth 100000 in
theorem at0_most_41 {rs : List (Nat × Nat)} {b t : Int} {M : Mm} {Q : Option AV → Mm → Prop} (hM : okM (sh8 rs) M) (h_b : i32 b) (h_t : i32 t) (hP : P0_most rs b t M) (hQ : ∀ (v : Int) (M1 : Mm), R0_most rs b t M v M1 → Q (some (ai v)) M1) {m : Nat} {b_ t_ x n : Int} {M1 : Mm} (hM1 : okM (sh8 rs) M1) (h_b_ : i32 b_) (h_t_ : i32 t_) (h_x : i32 x) (h_n : i32 n) (hJ : J0_most_41 rs b t M m b_ t_ x n M1) (I_41 : List AV → Mm → Prop) (hI_41 : ∀ (m_ : Nat) (y_b_ : Int) (y_t_ : Int) (y_x : Int) (y_n : Int) (M2 : Mm), m_ < m → J0_most_41 rs b t M m_ y_b_ y_t_ y_x y_n M2 → I_41 [ar 0, ai y_b_, ai y_t_, ai y_x, ai y_n] M2) : wp (tb0 (csL (cs0_most rs))) (sh8 rs) 5 1 cX0_most [(41, [0, 1, 2, 3, 4], I_41)] Q 400 41 [(0, ar 0), (1, ai b_), (2, ai t_), (3, ai x), (4, ai n)] [] M1 := by
  obtain ⟨rfl, rfl, hq, hT, hl, rfl, a, rfl, ha, hk, eA, rfl⟩ := hJ
  obtain ⟨⟨hY, hB⟩, hw⟩ := id hP
  have h3 : 0 ≤ M 1 4 ∧ M 1 4 ≤ 3 := (okY_n hY).1
  have h4 : 0 ≤ M 1 5 ∧ M 1 5 ≤ 7 := (okY_n hY).2.1
  have hq3 : b < M 1 4 := hq.1.2
  have hq4 : t < M 1 5 := hq.2.2
  have hq1 := hq.1.1
  have hq2 := hq.2.1
  have hlaw : 2 ≤ M1 0 10 ∧ M1 0 10 ≤ 5 := by
    rw [hl]
    have := hY.1
    omega
  have hw1 := hk.2.2 100000000 (by decide) hw
  have eB : (rT (vX M) (vX M 0 4).toNat).2.2 b.toNat ≤ t → A_most (vX M) b t = -1 := fun z => (if_pos hq).trans (if_pos z)
  have e33 : M1 33 = M 33 := hk.1 _ (by decide)
  have v1 := (vX_b M (b := b.toNat) (by omega)).1
  have hho := (okY_b hY b.toNat (by show ((b.toNat : Nat) : Int) < M 1 4; omega)).1
  generalize hL : (rT (vX M) (t.toNat + 1)).1 b.toNat = L at *
  generalize hBr : (rT (vX M) (vX M 0 4).toNat).2.2 b.toNat = br at *
  simp only [e_wp dX0_most_0 rfl, e_wp dX0_most_1 rfl, e_wp dX0_most_2 rfl, e_wp dX0_most_3 rfl, e_wp dX0_most_6 rfl, e_wp dX0_most_9 rfl, e_wp dX0_most_11 rfl, e_wp dX0_most_12 rfl, e_wp dX0_most_13 rfl, e_wp dX0_most_16 rfl, e_wp dX0_most_17 rfl, e_wp dX0_most_18 rfl, e_wp dX0_most_19 rfl, e_wp dX0_most_22 rfl, e_wp dX0_most_23 rfl, e_wp dX0_most_26 rfl, e_wp dX0_most_27 rfl, e_wp dX0_most_28 rfl, e_wp dX0_most_29 rfl, e_wp dX0_most_32 rfl, e_wp dX0_most_33 rfl, e_wp dX0_most_36 rfl, e_wp dX0_most_37 rfl, e_wp dX0_most_38 rfl, e_wp dX0_most_39 rfl, e_wp dX0_most_41 rfl, e_wp dX0_most_43 rfl, e_wp dX0_most_45 rfl, e_wp dX0_most_48 rfl, e_wp dX0_most_49 rfl, e_wp dX0_most_52 rfl, e_wp dX0_most_53 rfl, e_wp dX0_most_54 rfl, e_wp dX0_most_55 rfl, e_wp dX0_most_57 rfl, e_wp dX0_most_60 rfl, e_wp dX0_most_61 rfl, e_wp dX0_most_64 rfl, e_wp dX0_most_67 rfl, e_wp dX0_most_68 rfl, e_wp dX0_most_69 rfl, e_wp dX0_most_72 rfl, e_wp dX0_most_74 rfl, e_wp dX0_most_75 rfl, e_wp dX0_most_78 rfl, e_wp dX0_most_81 rfl, e_wp dX0_most_82 rfl, c0_asks, cs0_most, g0_83, c0_sagWith, g0_10, g0_174, a8_13, w8_13, a8_14, w8_14, a8_15, w8_15, a8_16, w8_16, a8_17, w8_17, a8_18, w8_18, a8_19, w8_19, a8_20, w8_20, a8_21, w8_21, a8_22, w8_22, a8_23, w8_23, a8_24, w8_24, a8_25, w8_25, a8_26, w8_26, a8_27, w8_27, a8_28, w8_28, a8_29, w8_29, a8_30, w8_30, a8_31, w8_31, a8_32, w8_32, a8_33, w8_33, a8_34, w8_34, a8_35, w8_35, a8_36, w8_36, a8_37, w8_37, a8_38, w8_38, a8_39, w8_39, a8_40, w8_40, a8_12, w8_12, a8_6, a8_7, e_iconst, e_bipush, e_sipush, e_lconst_0, e_lconst_1, e_iload, e_iload_0, e_iload_1, e_iload_2, e_iload_3, e_lload, e_lload_0, e_lload_1, e_lload_2, e_lload_3, e_aload, e_aload_0, e_aload_1, e_aload_2, e_aload_3, e_istore, e_istore_0, e_istore_1, e_istore_2, e_istore_3, e_astore, e_astore_0, e_astore_1, e_astore_2, e_astore_3, e_lstore, e_lstore_0, e_lstore_1, e_lstore_2, e_lstore_3, e_iinc, e_iadd, e_isub, e_imul, e_ladd, e_lsub, e_lmul, e_idiv, e_irem, e_ldiv, e_lrem, e_ineg, e_lneg, e_iand, e_ior, e_ixor, e_ishl, e_ishr, e_iushr, e_lcmp, e_i2l, e_l2i, e_i2b, e_i2s, e_dup_i, e_dup_r, e_pop_i, e_pop_r, e_dup2_l, e_dup2_ir, e_dup2_ii, e_ifeq, e_ifne, e_iflt, e_ifge, e_ifgt, e_ifle, e_iceq, e_icne, e_iclt, e_icge, e_icgt, e_icle, e_goto, e_switch, e_invokevirtual, e_invokestatic, e_invokespecial, e_ret0, e_ret1, e_ret2, e_ret3, ldI_s, ldL_s, ldR_s, clO_s, ctP_s, ctS_s, mgo_0, mgo_s, pjc_s, pj_0, pj_s, lk_s, rm1_0, rm1_i, rm1_r, rm1_l, rm2_0, rm2_i, rm2_r, rm2_l, csL_s, lc_lt, lc_ge, lc_gt, lc_le, lc_eq, b01_0, b01_1, b01_01, b01_n, up2_o, up2_s, up2_u, ne_eq, reduceCtorEq, Nat.reduceAdd, Nat.reduceEqDiff, Nat.reduceLT, Nat.reduceLeDiff, Int.reduceLE, Int.reduceLT, Int.reduceAdd, Int.reduceNeg, Int.reduceMul, Int.reduceSub, Int.reduceEq, Int.reduceToNat, Int.reduceNatCast, Int.cast_ofNat_Int, ↓reduceIte, and_self, List.drop_succ_cons, List.drop_zero, List.take_succ_cons, List.take_zero, List.length_cons, List.length_nil, List.reverse_cons, List.reverse_nil, List.nil_append, List.cons_append, Option.toList, true_and, and_true, or_false, false_or, or_true, true_or, forall_const, Classical.not_not, not_false_eq_true, not_true_eq_false, false_implies, true_implies, implies_true, imp_self]
  refine ⟨fun q => ?_, fun q => ⟨fun z => ?_, fun z => ?_⟩⟩
  · obtain rfl : m = 0 := by omega
    refine hQ _ _ ⟨keepZ_w hk (by omega), ?_⟩
    by_cases z : br ≤ t
    · rw [eB z]
    · rw [eA z]; rfl
  · exact hQ _ _ ⟨keepZ_w hk (by omega), (eB (by omega)).symm⟩
  · refine ⟨⟨by omega, keepZ_b hk hB, hlaw, by omega, L, hT⟩, fun v M2 hR => ?_⟩
    obtain ⟨r1, r2, r3, r4⟩ := hR
    have ev := r4 L hT
    rw [show M1 0 10 - 2 = vX M 0 0 by omega] at ev
    have hT2 := turnY_k hT (r1 _ (by decide)) (r1 _ (by decide)) (r1 _ (by decide))
    have hk2 := keepZ_st hk r1 r2 r3
    have r33 : M2 33 = M 33 := (r1 _ (by decide)).trans e33
    obtain ⟨n, rfl⟩ : ∃ n, m = n + 1 := ⟨m - 1, by omega⟩
    have eA := eA (by omega)
    have ef : moR (vX M 0 0) (vX M 1 b.toNat) L (n + 1) (100 - ((n + 1 : Nat) : Int)) = if M 33 b.toNat < v then (100 - ((n + 1 : Nat) : Int)) else moR (vX M 0 0) (vX M 1 b.toNat) L n (100 - ((n + 1 : Nat) : Int) + 1) := by
      rw [ev, ← v1]
      rfl
    rw [ef] at eA
    rw [r33]
    repeat (refine And.intro (by omega) ?_)
    refine ⟨fun w => ⟨by omega, ?_⟩, fun w => hQ _ _ ⟨keepZ_w hk2 (by omega), ?_⟩⟩
    · rw [if_neg (by omega)] at eA
      refine hI_41 n _ _ _ _ _ (by omega) ⟨rfl, rfl, hq, by rw [hL]; exact hT2, by rw [r2 _ (by decide)]; exact hl, by rw [hBr], n, by omega, by omega, keepZ_w hk2 (by omega), fun _ => ?_, rfl⟩
      rw [hL]; exact eA
    · rw [eA, if_pos w]
set_option maxHeartbeats 4000000 in
set_option maxRecDepth 100000 in
theorem m0_most {rs : List (Nat × Nat)} : MOK cl8 (sh8 rs) tyl8 Nws8 9 yX0_most cX0_most 5 (some .int) (sp0_most rs) := by
  refine mok_of (own := RX0) (tb := tb0 (csL (cs0_most rs))) (rt := 1) (fuel := 400) (fun avs M Q => [(41, [0, 1, 2, 3, 4], fun m_ vs M1 => ∃ y_b_ : Int, ∃ y_t_ : Int, ∃ y_x : Int, ∃ y_n : Int, vs = [ar 0, ai y_b_, ai y_t_, ai y_x, ai y_n] ∧ J0_most_41 rs (pa true [0, 0] avs 0) (pa true [0, 0] avs 1) M m_ y_b_ y_t_ y_x y_n M1)]) (by decide) rfl nws8_ok (tbOK0 _) rfl (csL_all ?_) ?_ ?_ ?_
  · intro q hq
    simp only [cs0_most, List.mem_cons, List.not_mem_nil, or_false] at hq
    rcases hq with rfl | rfl
    · exact cg0_asks (by decide)
    · exact cg0_sagWith (by decide)
  · intro avs M Q hsp
    obtain ⟨xs, hx⟩ := spR_un _ _ _ hsp
    obtain ⟨e, hl⟩ := unA_mkT hx
    obtain ⟨b, t, rfl⟩ := len2 hl
    have e : avs = [ar 0, ai b, ai t] := e
    subst e
    simp [szL, isL]
  · intro avs M Q hM hav hsp
    obtain ⟨xs, hx⟩ := spR_un _ _ _ hsp
    obtain ⟨e, hl⟩ := unA_mkT hx
    obtain ⟨b, t, rfl⟩ := len2 hl
    have e : avs = [ar 0, ai b, ai t] := e
    subst e
    exact in0_most hM (hav (ai b) (by simp)) (hav (ai t) (by simp)) hsp.1 hsp.2 _ (fun m_ y_b_ y_t_ y_x y_n M2 hJ => ⟨m_, y_b_, y_t_, y_x, y_n, rfl, hJ⟩)
  · intro avs M Q hM hav hsp q hq m_ vs M1 hM1 hv hJ
    obtain ⟨xs, hx⟩ := spR_un _ _ _ hsp
    obtain ⟨e, hl⟩ := unA_mkT hx
    obtain ⟨b, t, rfl⟩ := len2 hl
    have e : avs = [ar 0, ai b, ai t] := e
    subst e
    simp only [List.mem_cons, List.not_mem_nil, or_false] at hq
    rcases hq with rfl
    · obtain ⟨y_b_, y_t_, y_x, y_n, rfl, hJ⟩ := hJ
      exact at0_most_41 hM (hav (ai b) (by simp)) (hav (ai t) (by simp)) hsp.1 hsp.2 hM1 (hv (1, ai y_b_) (List.mem_of_getElem? (i := 1) rfl)) (hv (2, ai y_t_) (List.mem_of_getElem? (i := 2) rfl)) (hv (3, ai y_x) (List.mem_of_getElem? (i := 3) rfl)) (hv (4, ai y_n) (List.mem_of_getElem? (i := 4) rfl)) hJ _ (fun m2 z_b_ z_t_ z_x z_n M2 hm hJ2 => ⟨m2, hm, z_b_, z_t_, z_x, z_n, rfl, hJ2⟩)
