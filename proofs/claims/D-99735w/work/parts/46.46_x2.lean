/-! SagMemory's laws of memory, by kinds -/
theorem mb_eqX {M M1 : Mm} (h1 : M1 13 = M 13) (h2 : M1 14 = M 14) (h3 : M1 15 = M 15) (b : Int) : mbX M1 b = mbX M b ∧ (okBX M1 b ↔ okBX M b) := by
  have e : mbX M1 b = mbX M b := by
    unfold mbX mfX
    rw [h1, h2, h3]
  refine ⟨e, ?_⟩
  unfold okBX
  rw [e, h3]
theorem mb_uX {M : Mm} {k j : Nat} {x : Int} {b : Int} (h1 : k ≠ 13) (h2 : k ≠ 14) (h3 : k ≠ 15) : mbX (up2 M k j x) b = mbX M b := (mb_eqX (up2_ne h1.symm) (up2_ne h2.symm) (up2_ne h3.symm) b).1
theorem okB_uX {M : Mm} {k j : Nat} {x : Int} {b : Int} (h1 : k ≠ 13) (h2 : k ≠ 14) (h3 : k ≠ 15) : okBX (up2 M k j x) b = okBX M b := propext (mb_eqX (up2_ne h1.symm) (up2_ne h2.symm) (up2_ne h3.symm) b).2
theorem mb_lenX {M : Mm} {b : Int} (h : okBX M b) : ((mbX M b).length : Int) = M 15 b.toNat := by
  have h1 := h.2.1
  have e : (mbX M b).length = (M 15 b.toNat).toNat := stk_len _ _
  omega
def goP (b load : Int) (M : Mm) : Prop := okBX M b ∧ M 15 b.toNat ≤ 7 ∧ (1 ≤ load ∧ load ≤ 99) ∧ 0 ≤ M 0 8 ∧ M 0 8 ≤ 1000000000
def goR (law b load turn : Int) (M M1 : Mm) : Prop := mbX M1 b = (crossP law load turn (mbX M b)).1 ∧ okBX M1 b ∧ M1 0 8 = M 0 8 + (crossP law load turn (mbX M b)).2 ∧ frm [0, 13, 14, 15] M M1 ∧ (∀ j, ¬ j = 8 → M1 0 j = M 0 j) ∧ ∀ b', okBX M b' → ¬ b' = b → mbX M1 b' = mbX M b' ∧ okBX M1 b'
/-- so many loads are left behind the wiping -/
def wM (M : Mm) (b : Int) (d : Nat) : Mm := up2 (up2 M 15 b.toNat d) 0 8 (M 0 8 + (M 15 b.toNat - d))
theorem wM_m {M : Mm} {b : Int} {d : Nat} : wM M b d 15 b.toNat = d := by
  unfold wM
  rw [up2_o (by decide), up2_s]
theorem wM_w {M : Mm} {b : Int} {d : Nat} : wM M b d 0 8 = M 0 8 + (M 15 b.toNat - d) := up2_s
theorem wM_s {M : Mm} {b : Int} {n : Nat} {x y : Int} (hx : x = n) (hy : y = M 0 8 + (M 15 b.toNat - n)) : up2 (up2 (wM M b (n + 1)) 15 b.toNat x) 0 8 y = wM M b n := by
  funext k j
  simp only [wM, up2_r]
  by_cases h1 : k = 0 ∧ j = 8
  · rw [if_pos h1, if_pos h1, hy]
  · rw [if_neg h1, if_neg h1, if_neg h1]
    by_cases h2 : k = 15 ∧ j = b.toNat
    · rw [if_pos h2, if_pos h2, hx]
    · rw [if_neg h2, if_neg h2, if_neg h2]
theorem wM_0 {M : Mm} {b : Int} {d : Nat} (h : (d : Int) = M 15 b.toNat) : wM M b d = M := by
  unfold wM
  rw [h, up2_id]
  rw [show M 0 8 + (M 15 b.toNat - M 15 b.toNat) = M 0 8 by omega, up2_id]
theorem wM_b {M : Mm} {b : Int} {d : Nat} : mbX (wM M b d) b = stk (mfX M b) d := by
  unfold wM
  rw [mb_uX (by decide) (by decide) (by decide), mb_upX]
theorem wM_k {M : Mm} {b : Int} {d : Nat} (h : okBX M b) (hd : (d : Int) ≤ M 15 b.toNat) : okBX (wM M b d) b := by
  unfold wM
  rw [okB_uX (by decide) (by decide) (by decide)]
  exact okB_upX h hd
theorem stk_okLX {M : Mm} {b : Int} {d : Nat} (h : okBX M b) (hd : (d : Int) ≤ M 15 b.toNat) : okL (stk (mfX M b) d) := stk_okL h.2.2 (by omega)
theorem wM_p {M : Mm} {b : Int} {d : Nat} {load turn : Int} (h : goP b load M) (hd : (d : Int) ≤ M 15 b.toNat) (hp : popP load (mbX M b) = stk (mfX M b) d) : goR 0 b load turn M (up2 (up2 (up2 (wM M b d) 13 (8 * b + d).toNat load) 14 (8 * b + d).toNat turn) 15 b.toNat (d + 1)) := by
  obtain ⟨h0, h1, h2, h3⟩ := h
  have hx := h0.1
  have hl := mb_lenX h0
  have hc : crossP 0 load turn (mbX M b) = ((load, turn) :: stk (mfX M b) d, ((mbX M b).length : Int) - (stk (mfX M b) d).length) := by
    unfold crossP
    rw [if_neg (by omega), if_neg (by omega), hp]
  have e13 : up2 (up2 (up2 (wM M b d) 13 (8 * b + d).toNat load) 14 (8 * b + d).toNat turn) 15 b.toNat (d + 1) 13 = pushMX M b d load turn 13 := by
    funext j; simp [pushMX, wM, up2_r]
  have e14 : up2 (up2 (up2 (wM M b d) 13 (8 * b + d).toNat load) 14 (8 * b + d).toNat turn) 15 b.toNat (d + 1) 14 = pushMX M b d load turn 14 := by
    funext j; simp [pushMX, wM, up2_r]
  have e15 : up2 (up2 (up2 (wM M b d) 13 (8 * b + d).toNat load) 14 (8 * b + d).toNat turn) 15 b.toNat (d + 1) 15 = pushMX M b d load turn 15 := by
    funext j; simp [pushMX, wM, up2_r]
  have em := fun b' => mb_eqX e13 e14 e15 b'
  have hpb := push_bX (M := M) (b := b) (d := d) (load := load) (who := turn) hx.1
  refine ⟨?_, ?_, ?_, ?_, ?_, ?_⟩
  · rw [hc, (em b).1, hpb]
  · refine (em b).2.mpr ⟨hx, ?_, ?_⟩
    · unfold pushMX
      rw [up2_s]
      omega
    · rw [hpb]
      exact okL_c.mpr ⟨h2, stk_okLX h0 hd⟩
  · rw [hc, up2_o (by decide), up2_o (by decide), up2_o (by decide), wM_w, stk_len]
    show _ = M 0 8 + (((mbX M b).length : Int) - d)
    omega
  · exact frm_up (frm_up (frm_up (frm_up (frm_up frm_rf (by decide)) (by decide)) (by decide)) (by decide)) (by decide)
  · intro j hj
    rw [up2_o (by decide), up2_o (by decide), up2_o (by decide)]
    unfold wM
    rw [up2_n hj, up2_o (by decide)]
  · intro b' hb hne
    have k := push_oX (M := M) (b := b) (d := d) (load := load) (who := turn) hx.1 (by omega) hb hne
    exact ⟨(em b').1.trans k.1, (em b').2.mpr k.2⟩
abbrev sp2_lastOf (rs : List (Nat × Nat)) : Spec := sp0_lastOf rs
theorem c2_lastOf {rs : List (Nat × Nat)} {b : Int} {M : Mm} {Q : Option AV → Mm → Prop} : sp2_lastOf rs [ar 0, ai b] M Q = (okBX M b ∧ Q (some (ai (lastP (mbX M b)))) M) := rfl
theorem rcv_lastOf {rs : List (Nat × Nat)} : ∀ avs M Q, sp0_lastOf rs avs M Q → rcv 0 1 avs := fun avs M Q h => by
  obtain ⟨xs, h1⟩ := spF_un _ _ _ h
  exact rcvT h1
theorem cg2_lastOf {rs : List (Nat × Nat)} {lvl : Nat} (h : 0 < lvl) : CG RX2 cl8 (sh8 rs) tyl8 Nws8 lvl 1 19 2 (sp2_lastOf rs) := cg_VN nws8_ok spF_mono rcv_lastOf m0_lastOf h rfl (by decide) (k := 0) rfl rfl ⟨rfl, by decide, by decide, rfl⟩ n_q851 q833 qs25 q128 q834
theorem cg3_lastOf {rs : List (Nat × Nat)} {lvl : Nat} (h : 0 < lvl) : CG RX3 cl8 (sh8 rs) tyl8 Nws8 lvl 1 13 2 (sp2_lastOf rs) := cg_VN nws8_ok spF_mono rcv_lastOf m0_lastOf h rfl (by decide) (k := 0) rfl rfl ⟨rfl, by decide, by decide, rfl⟩ n_q854 q833 qs25 q128 q834
theorem cg4_lastOf {rs : List (Nat × Nat)} {lvl : Nat} (h : 0 < lvl) : CG RX4 cl8 (sh8 rs) tyl8 Nws8 lvl 1 19 2 (sp2_lastOf rs) := cg_VN nws8_ok spF_mono rcv_lastOf m0_lastOf h rfl (by decide) (k := 0) rfl rfl ⟨rfl, by decide, by decide, rfl⟩ n_q848 q833 qs25 q128 q834
def P2_goes (rs : List (Nat × Nat)) (o : Int) (b : Int) (load : Int) (turn : Int) (M : Mm) : Prop := o = 2 ∧ goP b load M
def R2_goes (rs : List (Nat × Nat)) (o : Int) (b : Int) (load : Int) (turn : Int) (M : Mm) (M1 : Mm) : Prop := goR 0 b load turn M M1
def sp2_goes (rs : List (Nat × Nat)) : Spec := spV false [2, 0, 0, 0] (fun x M => P2_goes rs (x 0) (x 1) (x 2) (x 3) M) (fun x M M1 => R2_goes rs (x 0) (x 1) (x 2) (x 3) M M1)
theorem c2_goes {rs : List (Nat × Nat)} {o : Nat} {b : Int} {load : Int} {turn : Int} {M : Mm} {Q : Option AV → Mm → Prop} : sp2_goes rs [ar o, ai b, ai load, ai turn] M Q = (P2_goes rs (o : Int) b load turn M ∧ ∀ (M1 : Mm), R2_goes rs (o : Int) b load turn M M1 → Q none M1) := rfl
def cs2_goes (rs : List (Nat × Nat)) : List (Nat × Nat × Nat × Spec) := [(19, 1, 2, (sp2_lastOf rs))]
def J2_goes_0 (rs : List (Nat × Nat)) (o : Int) (b : Int) (load : Int) (turn : Int) (M : Mm) (m : Nat) (b_ : Int) (l_ : Int) (t_ : Int) (M1 : Mm) : Prop := b = b_ ∧ load = l_ ∧ turn = t_ ∧ ∃ d : Nat, (d : Int) ≤ M 15 b.toNat ∧ M1 = wM M b d ∧ popP load (stk (mfX M b) d) = popP load (mbX M b) ∧ m = d
set_option maxHeartbeats 4000000 in
set_option maxRecDepth 100000 in
theorem at2_goes_0 {rs : List (Nat × Nat)} {o b load turn : Int} {M : Mm} {Q : Option AV → Mm → Prop} (hM : okM (sh8 rs) M) (h_b : i32 b) (h_load : i32 load) (h_turn : i32 turn) (hP : P2_goes rs o b load turn M) (hQ : ∀ (M1 : Mm), R2_goes rs o b load turn M M1 → Q none M1) {m : Nat} {b_ l_ t_ : Int} {M1 : Mm} (hM1 : okM (sh8 rs) M1) (h_b_ : i32 b_) (h_l_ : i32 l_) (h_t_ : i32 t_) (hJ : J2_goes_0 rs o b load turn M m b_ l_ t_ M1) (I_0 : List AV → Mm → Prop) (hI_0 : ∀ (m_ : Nat) (y_b_ : Int) (y_l_ : Int) (y_t_ : Int) (M2 : Mm), m_ < m → J2_goes_0 rs o b load turn M m_ y_b_ y_l_ y_t_ M2 → I_0 [ar o.toNat, ai y_b_, ai y_l_, ai y_t_] M2) : wp (tb2 (csL (cs2_goes rs))) (sh8 rs) 4 0 cX2_goes [(0, [0, 1, 2, 3], I_0)] Q 400 0 [(0, ar o.toNat), (1, ai b_), (2, ai l_), (3, ai t_)] [] M1 := by
  obtain ⟨rfl, rfl, rfl, d, hd, rfl, hp, rfl⟩ := hJ
  obtain ⟨rfl, hG⟩ := id hP
  obtain ⟨h0, h1, h2, h3⟩ := id hG
  have hx := h0.1
  have hok := wM_k h0 hd
  have kF : popP load (stk (mfX M b) m) = stk (mfX M b) m → Q none (up2 (up2 (up2 (wM M b m) 13 (8 * b + m).toNat load) 14 (8 * b + m).toNat turn) 15 b.toNat (m + 1)) := by
    intro q
    exact hQ _ (wM_p hG hd (by rw [← hp, q]))
  simp only [e_wp dX2_goes_0 rfl, e_wp dX2_goes_1 rfl, e_wp dX2_goes_4 rfl, e_wp dX2_goes_7 rfl, e_wp dX2_goes_8 rfl, e_wp dX2_goes_9 rfl, e_wp dX2_goes_12 rfl, e_wp dX2_goes_13 rfl, e_wp dX2_goes_16 rfl, e_wp dX2_goes_17 rfl, e_wp dX2_goes_20 rfl, e_wp dX2_goes_21 rfl, e_wp dX2_goes_24 rfl, e_wp dX2_goes_25 rfl, e_wp dX2_goes_28 rfl, e_wp dX2_goes_31 rfl, e_wp dX2_goes_32 rfl, e_wp dX2_goes_33 rfl, e_wp dX2_goes_34 rfl, e_wp dX2_goes_35 rfl, e_wp dX2_goes_36 rfl, e_wp dX2_goes_37 rfl, e_wp dX2_goes_38 rfl, e_wp dX2_goes_41 rfl, e_wp dX2_goes_42 rfl, e_wp dX2_goes_45 rfl, e_wp dX2_goes_46 rfl, e_wp dX2_goes_47 rfl, e_wp dX2_goes_50 rfl, e_wp dX2_goes_53 rfl, e_wp dX2_goes_54 rfl, e_wp dX2_goes_57 rfl, e_wp dX2_goes_60 rfl, e_wp dX2_goes_62 rfl, e_wp dX2_goes_63 rfl, e_wp dX2_goes_64 rfl, e_wp dX2_goes_65 rfl, e_wp dX2_goes_68 rfl, e_wp dX2_goes_71 rfl, e_wp dX2_goes_72 rfl, e_wp dX2_goes_73 rfl, e_wp dX2_goes_74 rfl, e_wp dX2_goes_75 rfl, e_wp dX2_goes_76 rfl, e_wp dX2_goes_77 rfl, e_wp dX2_goes_80 rfl, e_wp dX2_goes_83 rfl, e_wp dX2_goes_85 rfl, e_wp dX2_goes_86 rfl, e_wp dX2_goes_87 rfl, e_wp dX2_goes_88 rfl, e_wp dX2_goes_91 rfl, e_wp dX2_goes_94 rfl, e_wp dX2_goes_95 rfl, e_wp dX2_goes_96 rfl, e_wp dX2_goes_97 rfl, e_wp dX2_goes_98 rfl, e_wp dX2_goes_99 rfl, e_wp dX2_goes_100 rfl, e_wp dX2_goes_103 rfl, e_wp dX2_goes_106 rfl, e_wp dX2_goes_107 rfl, e_wp dX2_goes_108 rfl, e_wp dX2_goes_109 rfl, e_wp dX2_goes_110 rfl, e_wp dX2_goes_111 rfl, e_wp dX2_goes_112 rfl, g2_3, g2_15, c2_lastOf, cs2_goes, g2_23, p2_23, g2_27, g2_30, a8_13, w8_13, a8_14, w8_14, a8_15, w8_15, a8_16, w8_16, a8_17, w8_17, a8_18, w8_18, a8_19, w8_19, a8_20, w8_20, a8_21, w8_21, a8_22, w8_22, a8_23, w8_23, a8_24, w8_24, a8_25, w8_25, a8_26, w8_26, a8_27, w8_27, a8_28, w8_28, a8_29, w8_29, a8_30, w8_30, a8_31, w8_31, a8_32, w8_32, a8_33, w8_33, a8_34, w8_34, a8_35, w8_35, a8_36, w8_36, a8_37, w8_37, a8_38, w8_38, a8_39, w8_39, a8_40, w8_40, a8_12, w8_12, a8_6, a8_7, e_iconst, e_bipush, e_sipush, e_lconst_0, e_lconst_1, e_iload, e_iload_0, e_iload_1, e_iload_2, e_iload_3, e_lload, e_lload_0, e_lload_1, e_lload_2, e_lload_3, e_aload, e_aload_0, e_aload_1, e_aload_2, e_aload_3, e_istore, e_istore_0, e_istore_1, e_istore_2, e_istore_3, e_astore, e_astore_0, e_astore_1, e_astore_2, e_astore_3, e_lstore, e_lstore_0, e_lstore_1, e_lstore_2, e_lstore_3, e_iinc, e_iadd, e_isub, e_imul, e_ladd, e_lsub, e_lmul, e_idiv, e_irem, e_ldiv, e_lrem, e_ineg, e_lneg, e_iand, e_ior, e_ixor, e_ishl, e_ishr, e_iushr, e_lcmp, e_i2l, e_l2i, e_i2b, e_i2s, e_dup_i, e_dup_r, e_pop_i, e_pop_r, e_dup2_l, e_dup2_ir, e_dup2_ii, e_ifeq, e_ifne, e_iflt, e_ifge, e_ifgt, e_ifle, e_iceq, e_icne, e_iclt, e_icge, e_icgt, e_icle, e_goto, e_switch, e_invokevirtual, e_invokestatic, e_invokespecial, e_ret0, e_ret1, e_ret2, e_ret3, ldI_s, ldL_s, ldR_s, clO_s, ctP_s, ctS_s, mgo_0, mgo_s, pjc_s, pj_0, pj_s, lk_s, rm1_0, rm1_i, rm1_r, rm1_l, rm2_0, rm2_i, rm2_r, rm2_l, csL_s, lc_lt, lc_ge, lc_gt, lc_le, lc_eq, b01_0, b01_1, b01_01, b01_n, up2_o, up2_s, up2_u, ne_eq, reduceCtorEq, Nat.reduceAdd, Nat.reduceEqDiff, Nat.reduceLT, Nat.reduceLeDiff, Int.reduceLE, Int.reduceLT, Int.reduceAdd, Int.reduceNeg, Int.reduceMul, Int.reduceSub, Int.reduceEq, Int.reduceToNat, Int.reduceNatCast, Int.cast_ofNat_Int, ↓reduceIte, and_self, List.drop_succ_cons, List.drop_zero, List.take_succ_cons, List.take_zero, List.length_cons, List.length_nil, List.reverse_cons, List.reverse_nil, List.nil_append, List.cons_append, Option.toList, true_and, and_true, or_false, false_or, or_true, true_or, forall_const, Classical.not_not, not_false_eq_true, not_true_eq_false, false_implies, true_implies, implies_true, imp_self, wM_m, wM_w]
  refine ⟨hx, fun q => ?_, fun q => ⟨hok, fun q2 => ?_, fun q2 => ?_⟩⟩
  · obtain rfl : m = 0 := by omega
    have k := kF rfl
    (repeat' (first | (refine And.intro ?_ ?_))); all_goals (first | omega | exact k)
  · obtain ⟨n, rfl⟩ : ∃ n, m = n + 1 := ⟨m - 1, by omega⟩
    rw [wM_b] at q2
    have k := kF (by
      show (if (mfX M b n).1 ≤ load then _ else _) = _
      rw [if_neg (by have : load < (mfX M b n).1 := q2; omega)]
      rfl)
    (repeat' (first | (refine And.intro ?_ ?_))); all_goals (first | omega | exact k)
  · obtain ⟨n, rfl⟩ : ∃ n, m = n + 1 := ⟨m - 1, by omega⟩
    rw [wM_b] at q2
    refine ⟨hx, by omega, hx, by omega, ?_⟩
    rw [wM_s (M := M) (b := b) (n := n) (by omega) (by omega)]
    refine hI_0 n b load turn _ (by omega) ⟨rfl, rfl, rfl, n, by omega, rfl, ?_, rfl⟩
    rw [← hp]
    show _ = (if (mfX M b n).1 ≤ load then popP load (stk (mfX M b) n) else _)
    rw [if_pos (show (mfX M b n).1 ≤ load from q2)]
set_option maxHeartbeats 4000000 in
set_option maxRecDepth 100000 in
theorem in2_goes {rs : List (Nat × Nat)} {o b load turn : Int} {M : Mm} {Q : Option AV → Mm → Prop} (hM : okM (sh8 rs) M) (h_b : i32 b) (h_load : i32 load) (h_turn : i32 turn) (hP : P2_goes rs o b load turn M) (hQ : ∀ (M1 : Mm), R2_goes rs o b load turn M M1 → Q none M1) (I_0 : List AV → Mm → Prop) (hI_0 : ∀ (m_ : Nat) (y_b_ : Int) (y_l_ : Int) (y_t_ : Int) (M2 : Mm), J2_goes_0 rs o b load turn M m_ y_b_ y_l_ y_t_ M2 → I_0 [ar o.toNat, ai y_b_, ai y_l_, ai y_t_] M2) : wp (tb2 (csL (cs2_goes rs))) (sh8 rs) 4 0 cX2_goes [(0, [0, 1, 2, 3], I_0)] Q 400 0 [(0, ar o.toNat), (1, ai b), (2, ai load), (3, ai turn)] [] M := by
  obtain ⟨e0, hG⟩ := id hP
  have hn := hG.1.2.1
  refine at2_goes_0 (m := (M 15 b.toNat).toNat) hM h_b h_load h_turn hP hQ hM h_b h_load h_turn ⟨rfl, rfl, rfl, (M 15 b.toNat).toNat, by omega, (wM_0 (by omega)).symm, rfl, rfl⟩ _ (fun m_ y1 y2 y3 M2 _ hJ => hI_0 m_ y1 y2 y3 M2 hJ)
set_option maxHeartbeats 4000000 in
set_option maxRecDepth 100000 in
theorem m2_goes {rs : List (Nat × Nat)} : MOK cl8 (sh8 rs) tyl8 Nws8 1 yX2_goes cX2_goes 4 none (sp2_goes rs) := by
  refine mok_of (own := RX2) (tb := tb2 (csL (cs2_goes rs))) (rt := 0) (fuel := 400) (fun avs M Q => [(0, [0, 1, 2, 3], fun m_ vs M1 => ∃ y_b_ : Int, ∃ y_l_ : Int, ∃ y_t_ : Int, vs = [ar (pa false [2, 0, 0, 0] avs 0).toNat, ai y_b_, ai y_l_, ai y_t_] ∧ J2_goes_0 rs (pa false [2, 0, 0, 0] avs 0) (pa false [2, 0, 0, 0] avs 1) (pa false [2, 0, 0, 0] avs 2) (pa false [2, 0, 0, 0] avs 3) M m_ y_b_ y_l_ y_t_ M1)]) (by decide) rfl nws8_ok (tbOK2 _) rfl (csL_all ?_) ?_ ?_ ?_
  · intro q hq
    simp only [cs2_goes, List.mem_cons, List.not_mem_nil, or_false] at hq
    rcases hq with rfl
    · exact cg2_lastOf (by decide)
  · intro avs M Q hsp
    obtain ⟨xs, hx⟩ := spV_un _ _ _ hsp
    obtain ⟨e, hl⟩ := unA_mk hx
    obtain ⟨o, b, load, turn, rfl⟩ := len4 hl
    have e : avs = [ar o.toNat, ai b, ai load, ai turn] := e
    subst e
    simp [szL, isL]
  · intro avs M Q hM hav hsp
    obtain ⟨xs, hx⟩ := spV_un _ _ _ hsp
    obtain ⟨e, hl⟩ := unA_mk hx
    obtain ⟨o, b, load, turn, rfl⟩ := len4 hl
    have e : avs = [ar o.toNat, ai b, ai load, ai turn] := e
    subst e
    exact in2_goes (o := ((o.toNat : Nat) : Int)) hM (hav (ai b) (by simp)) (hav (ai load) (by simp)) (hav (ai turn) (by simp)) hsp.1 hsp.2 _ (fun m_ y_b_ y_l_ y_t_ M2 hJ => ⟨m_, y_b_, y_l_, y_t_, rfl, hJ⟩)
  · intro avs M Q hM hav hsp q hq m_ vs M1 hM1 hv hJ
    obtain ⟨xs, hx⟩ := spV_un _ _ _ hsp
    obtain ⟨e, hl⟩ := unA_mk hx
    obtain ⟨o, b, load, turn, rfl⟩ := len4 hl
    have e : avs = [ar o.toNat, ai b, ai load, ai turn] := e
    subst e
    simp only [List.mem_cons, List.not_mem_nil, or_false] at hq
    rcases hq with rfl
    · obtain ⟨y_b_, y_l_, y_t_, rfl, hJ⟩ := hJ
      exact at2_goes_0 (o := ((o.toNat : Nat) : Int)) hM (hav (ai b) (by simp)) (hav (ai load) (by simp)) (hav (ai turn) (by simp)) hsp.1 hsp.2 hM1 (hv (1, ai y_b_) (List.mem_of_getElem? (i := 1) rfl)) (hv (2, ai y_l_) (List.mem_of_getElem? (i := 2) rfl)) (hv (3, ai y_t_) (List.mem_of_getElem? (i := 3) rfl)) hJ _ (fun m2 z_b_ z_l_ z_t_ M2 hm hJ2 => ⟨m2, hm, z_b_, z_l_, z_t_, rfl, hJ2⟩)
def P23_goes (rs : List (Nat × Nat)) (o : Int) (b : Int) (load : Int) (turn : Int) (M : Mm) : Prop := o = 3 ∧ goP b load M
def R23_goes (rs : List (Nat × Nat)) (o : Int) (b : Int) (load : Int) (turn : Int) (M : Mm) (M1 : Mm) : Prop := goR 0 b load turn M M1
def sp23_goes (rs : List (Nat × Nat)) : Spec := spV false [2, 0, 0, 0] (fun x M => P23_goes rs (x 0) (x 1) (x 2) (x 3) M) (fun x M M1 => R23_goes rs (x 0) (x 1) (x 2) (x 3) M M1)
theorem c23_goes {rs : List (Nat × Nat)} {o : Nat} {b : Int} {load : Int} {turn : Int} {M : Mm} {Q : Option AV → Mm → Prop} : sp23_goes rs [ar o, ai b, ai load, ai turn] M Q = (P23_goes rs (o : Int) b load turn M ∧ ∀ (M1 : Mm), R23_goes rs (o : Int) b load turn M M1 → Q none M1) := rfl
def cs23_goes (rs : List (Nat × Nat)) : List (Nat × Nat × Nat × Spec) := [(19, 1, 2, (sp2_lastOf rs))]
def J23_goes_0 (rs : List (Nat × Nat)) (o : Int) (b : Int) (load : Int) (turn : Int) (M : Mm) (m : Nat) (b_ : Int) (l_ : Int) (t_ : Int) (M1 : Mm) : Prop := b = b_ ∧ load = l_ ∧ turn = t_ ∧ ∃ d : Nat, (d : Int) ≤ M 15 b.toNat ∧ M1 = wM M b d ∧ popP load (stk (mfX M b) d) = popP load (mbX M b) ∧ m = d
set_option maxHeartbeats 4000000 in
set_option maxRecDepth 100000 in
theorem at23_goes_0 {rs : List (Nat × Nat)} {o b load turn : Int} {M : Mm} {Q : Option AV → Mm → Prop} (hM : okM (sh8 rs) M) (h_b : i32 b) (h_load : i32 load) (h_turn : i32 turn) (hP : P23_goes rs o b load turn M) (hQ : ∀ (M1 : Mm), R23_goes rs o b load turn M M1 → Q none M1) {m : Nat} {b_ l_ t_ : Int} {M1 : Mm} (hM1 : okM (sh8 rs) M1) (h_b_ : i32 b_) (h_l_ : i32 l_) (h_t_ : i32 t_) (hJ : J23_goes_0 rs o b load turn M m b_ l_ t_ M1) (I_0 : List AV → Mm → Prop) (hI_0 : ∀ (m_ : Nat) (y_b_ : Int) (y_l_ : Int) (y_t_ : Int) (M2 : Mm), m_ < m → J23_goes_0 rs o b load turn M m_ y_b_ y_l_ y_t_ M2 → I_0 [ar o.toNat, ai y_b_, ai y_l_, ai y_t_] M2) : wp (tb23 (csL (cs23_goes rs))) (sh8 rs) 4 0 cX2_goes [(0, [0, 1, 2, 3], I_0)] Q 400 0 [(0, ar o.toNat), (1, ai b_), (2, ai l_), (3, ai t_)] [] M1 := by
  obtain ⟨rfl, rfl, rfl, d, hd, rfl, hp, rfl⟩ := hJ
  obtain ⟨rfl, hG⟩ := id hP
  obtain ⟨h0, h1, h2, h3⟩ := id hG
  have hx := h0.1
  have hok := wM_k h0 hd
  have kF : popP load (stk (mfX M b) m) = stk (mfX M b) m → Q none (up2 (up2 (up2 (wM M b m) 13 (8 * b + m).toNat load) 14 (8 * b + m).toNat turn) 15 b.toNat (m + 1)) := by
    intro q
    exact hQ _ (wM_p hG hd (by rw [← hp, q]))
  simp only [e_wp dX2_goes_0 rfl, e_wp dX2_goes_1 rfl, e_wp dX2_goes_4 rfl, e_wp dX2_goes_7 rfl, e_wp dX2_goes_8 rfl, e_wp dX2_goes_9 rfl, e_wp dX2_goes_12 rfl, e_wp dX2_goes_13 rfl, e_wp dX2_goes_16 rfl, e_wp dX2_goes_17 rfl, e_wp dX2_goes_20 rfl, e_wp dX2_goes_21 rfl, e_wp dX2_goes_24 rfl, e_wp dX2_goes_25 rfl, e_wp dX2_goes_28 rfl, e_wp dX2_goes_31 rfl, e_wp dX2_goes_32 rfl, e_wp dX2_goes_33 rfl, e_wp dX2_goes_34 rfl, e_wp dX2_goes_35 rfl, e_wp dX2_goes_36 rfl, e_wp dX2_goes_37 rfl, e_wp dX2_goes_38 rfl, e_wp dX2_goes_41 rfl, e_wp dX2_goes_42 rfl, e_wp dX2_goes_45 rfl, e_wp dX2_goes_46 rfl, e_wp dX2_goes_47 rfl, e_wp dX2_goes_50 rfl, e_wp dX2_goes_53 rfl, e_wp dX2_goes_54 rfl, e_wp dX2_goes_57 rfl, e_wp dX2_goes_60 rfl, e_wp dX2_goes_62 rfl, e_wp dX2_goes_63 rfl, e_wp dX2_goes_64 rfl, e_wp dX2_goes_65 rfl, e_wp dX2_goes_68 rfl, e_wp dX2_goes_71 rfl, e_wp dX2_goes_72 rfl, e_wp dX2_goes_73 rfl, e_wp dX2_goes_74 rfl, e_wp dX2_goes_75 rfl, e_wp dX2_goes_76 rfl, e_wp dX2_goes_77 rfl, e_wp dX2_goes_80 rfl, e_wp dX2_goes_83 rfl, e_wp dX2_goes_85 rfl, e_wp dX2_goes_86 rfl, e_wp dX2_goes_87 rfl, e_wp dX2_goes_88 rfl, e_wp dX2_goes_91 rfl, e_wp dX2_goes_94 rfl, e_wp dX2_goes_95 rfl, e_wp dX2_goes_96 rfl, e_wp dX2_goes_97 rfl, e_wp dX2_goes_98 rfl, e_wp dX2_goes_99 rfl, e_wp dX2_goes_100 rfl, e_wp dX2_goes_103 rfl, e_wp dX2_goes_106 rfl, e_wp dX2_goes_107 rfl, e_wp dX2_goes_108 rfl, e_wp dX2_goes_109 rfl, e_wp dX2_goes_110 rfl, e_wp dX2_goes_111 rfl, e_wp dX2_goes_112 rfl, g23_3, g23_15, c2_lastOf, cs23_goes, g23_23, p23_23, g23_27, g23_30, a8_13, w8_13, a8_14, w8_14, a8_15, w8_15, a8_16, w8_16, a8_17, w8_17, a8_18, w8_18, a8_19, w8_19, a8_20, w8_20, a8_21, w8_21, a8_22, w8_22, a8_23, w8_23, a8_24, w8_24, a8_25, w8_25, a8_26, w8_26, a8_27, w8_27, a8_28, w8_28, a8_29, w8_29, a8_30, w8_30, a8_31, w8_31, a8_32, w8_32, a8_33, w8_33, a8_34, w8_34, a8_35, w8_35, a8_36, w8_36, a8_37, w8_37, a8_38, w8_38, a8_39, w8_39, a8_40, w8_40, a8_12, w8_12, a8_6, a8_7, e_iconst, e_bipush, e_sipush, e_lconst_0, e_lconst_1, e_iload, e_iload_0, e_iload_1, e_iload_2, e_iload_3, e_lload, e_lload_0, e_lload_1, e_lload_2, e_lload_3, e_aload, e_aload_0, e_aload_1, e_aload_2, e_aload_3, e_istore, e_istore_0, e_istore_1, e_istore_2, e_istore_3, e_astore, e_astore_0, e_astore_1, e_astore_2, e_astore_3, e_lstore, e_lstore_0, e_lstore_1, e_lstore_2, e_lstore_3, e_iinc, e_iadd, e_isub, e_imul, e_ladd, e_lsub, e_lmul, e_idiv, e_irem, e_ldiv, e_lrem, e_ineg, e_lneg, e_iand, e_ior, e_ixor, e_ishl, e_ishr, e_iushr, e_lcmp, e_i2l, e_l2i, e_i2b, e_i2s, e_dup_i, e_dup_r, e_pop_i, e_pop_r, e_dup2_l, e_dup2_ir, e_dup2_ii, e_ifeq, e_ifne, e_iflt, e_ifge, e_ifgt, e_ifle, e_iceq, e_icne, e_iclt, e_icge, e_icgt, e_icle, e_goto, e_switch, e_invokevirtual, e_invokestatic, e_invokespecial, e_ret0, e_ret1, e_ret2, e_ret3, ldI_s, ldL_s, ldR_s, clO_s, ctP_s, ctS_s, mgo_0, mgo_s, pjc_s, pj_0, pj_s, lk_s, rm1_0, rm1_i, rm1_r, rm1_l, rm2_0, rm2_i, rm2_r, rm2_l, csL_s, lc_lt, lc_ge, lc_gt, lc_le, lc_eq, b01_0, b01_1, b01_01, b01_n, up2_o, up2_s, up2_u, ne_eq, reduceCtorEq, Nat.reduceAdd, Nat.reduceEqDiff, Nat.reduceLT, Nat.reduceLeDiff, Int.reduceLE, Int.reduceLT, Int.reduceAdd, Int.reduceNeg, Int.reduceMul, Int.reduceSub, Int.reduceEq, Int.reduceToNat, Int.reduceNatCast, Int.cast_ofNat_Int, ↓reduceIte, and_self, List.drop_succ_cons, List.drop_zero, List.take_succ_cons, List.take_zero, List.length_cons, List.length_nil, List.reverse_cons, List.reverse_nil, List.nil_append, List.cons_append, Option.toList, true_and, and_true, or_false, false_or, or_true, true_or, forall_const, Classical.not_not, not_false_eq_true, not_true_eq_false, false_implies, true_implies, implies_true, imp_self, wM_m, wM_w]
  refine ⟨hx, fun q => ?_, fun q => ⟨hok, fun q2 => ?_, fun q2 => ?_⟩⟩
  · obtain rfl : m = 0 := by omega
    have k := kF rfl
    (repeat' (first | (refine And.intro ?_ ?_))); all_goals (first | omega | exact k)
  · obtain ⟨n, rfl⟩ : ∃ n, m = n + 1 := ⟨m - 1, by omega⟩
    rw [wM_b] at q2
    have k := kF (by
      show (if (mfX M b n).1 ≤ load then _ else _) = _
      rw [if_neg (by have : load < (mfX M b n).1 := q2; omega)]
      rfl)
    (repeat' (first | (refine And.intro ?_ ?_))); all_goals (first | omega | exact k)
  · obtain ⟨n, rfl⟩ : ∃ n, m = n + 1 := ⟨m - 1, by omega⟩
    rw [wM_b] at q2
    refine ⟨hx, by omega, hx, by omega, ?_⟩
    rw [wM_s (M := M) (b := b) (n := n) (by omega) (by omega)]
    refine hI_0 n b load turn _ (by omega) ⟨rfl, rfl, rfl, n, by omega, rfl, ?_, rfl⟩
    rw [← hp]
    show _ = (if (mfX M b n).1 ≤ load then popP load (stk (mfX M b) n) else _)
    rw [if_pos (show (mfX M b n).1 ≤ load from q2)]
set_option maxHeartbeats 4000000 in
set_option maxRecDepth 100000 in
theorem in23_goes {rs : List (Nat × Nat)} {o b load turn : Int} {M : Mm} {Q : Option AV → Mm → Prop} (hM : okM (sh8 rs) M) (h_b : i32 b) (h_load : i32 load) (h_turn : i32 turn) (hP : P23_goes rs o b load turn M) (hQ : ∀ (M1 : Mm), R23_goes rs o b load turn M M1 → Q none M1) (I_0 : List AV → Mm → Prop) (hI_0 : ∀ (m_ : Nat) (y_b_ : Int) (y_l_ : Int) (y_t_ : Int) (M2 : Mm), J23_goes_0 rs o b load turn M m_ y_b_ y_l_ y_t_ M2 → I_0 [ar o.toNat, ai y_b_, ai y_l_, ai y_t_] M2) : wp (tb23 (csL (cs23_goes rs))) (sh8 rs) 4 0 cX2_goes [(0, [0, 1, 2, 3], I_0)] Q 400 0 [(0, ar o.toNat), (1, ai b), (2, ai load), (3, ai turn)] [] M := by
  obtain ⟨e0, hG⟩ := id hP
  have hn := hG.1.2.1
  refine at23_goes_0 (m := (M 15 b.toNat).toNat) hM h_b h_load h_turn hP hQ hM h_b h_load h_turn ⟨rfl, rfl, rfl, (M 15 b.toNat).toNat, by omega, (wM_0 (by omega)).symm, rfl, rfl⟩ _ (fun m_ y1 y2 y3 M2 _ hJ => hI_0 m_ y1 y2 y3 M2 hJ)
set_option maxHeartbeats 4000000 in
set_option maxRecDepth 100000 in
theorem m23_goes {rs : List (Nat × Nat)} : MOK cl8 (sh8 rs) tyl8 Nws8 1 yX2_goes cX2_goes 4 none (sp23_goes rs) := by
  refine mok_of (own := RX2) (tb := tb23 (csL (cs23_goes rs))) (rt := 0) (fuel := 400) (fun avs M Q => [(0, [0, 1, 2, 3], fun m_ vs M1 => ∃ y_b_ : Int, ∃ y_l_ : Int, ∃ y_t_ : Int, vs = [ar (pa false [2, 0, 0, 0] avs 0).toNat, ai y_b_, ai y_l_, ai y_t_] ∧ J23_goes_0 rs (pa false [2, 0, 0, 0] avs 0) (pa false [2, 0, 0, 0] avs 1) (pa false [2, 0, 0, 0] avs 2) (pa false [2, 0, 0, 0] avs 3) M m_ y_b_ y_l_ y_t_ M1)]) (by decide) rfl nws8_ok (tbOK23 _) rfl (csL_all ?_) ?_ ?_ ?_
  · intro q hq
    simp only [cs23_goes, List.mem_cons, List.not_mem_nil, or_false] at hq
    rcases hq with rfl
    · exact cg2_lastOf (by decide)
  · intro avs M Q hsp
    obtain ⟨xs, hx⟩ := spV_un _ _ _ hsp
    obtain ⟨e, hl⟩ := unA_mk hx
    obtain ⟨o, b, load, turn, rfl⟩ := len4 hl
    have e : avs = [ar o.toNat, ai b, ai load, ai turn] := e
    subst e
    simp [szL, isL]
  · intro avs M Q hM hav hsp
    obtain ⟨xs, hx⟩ := spV_un _ _ _ hsp
    obtain ⟨e, hl⟩ := unA_mk hx
    obtain ⟨o, b, load, turn, rfl⟩ := len4 hl
    have e : avs = [ar o.toNat, ai b, ai load, ai turn] := e
    subst e
    exact in23_goes (o := ((o.toNat : Nat) : Int)) hM (hav (ai b) (by simp)) (hav (ai load) (by simp)) (hav (ai turn) (by simp)) hsp.1 hsp.2 _ (fun m_ y_b_ y_l_ y_t_ M2 hJ => ⟨m_, y_b_, y_l_, y_t_, rfl, hJ⟩)
  · intro avs M Q hM hav hsp q hq m_ vs M1 hM1 hv hJ
    obtain ⟨xs, hx⟩ := spV_un _ _ _ hsp
    obtain ⟨e, hl⟩ := unA_mk hx
    obtain ⟨o, b, load, turn, rfl⟩ := len4 hl
    have e : avs = [ar o.toNat, ai b, ai load, ai turn] := e
    subst e
    simp only [List.mem_cons, List.not_mem_nil, or_false] at hq
    rcases hq with rfl
    · obtain ⟨y_b_, y_l_, y_t_, rfl, hJ⟩ := hJ
      exact at23_goes_0 (o := ((o.toNat : Nat) : Int)) hM (hav (ai b) (by simp)) (hav (ai load) (by simp)) (hav (ai turn) (by simp)) hsp.1 hsp.2 hM1 (hv (1, ai y_b_) (List.mem_of_getElem? (i := 1) rfl)) (hv (2, ai y_l_) (List.mem_of_getElem? (i := 2) rfl)) (hv (3, ai y_t_) (List.mem_of_getElem? (i := 3) rfl)) hJ _ (fun m2 z_b_ z_l_ z_t_ M2 hm hJ2 => ⟨m2, hm, z_b_, z_l_, z_t_, rfl, hJ2⟩)
def P24_goes (rs : List (Nat × Nat)) (o : Int) (b : Int) (load : Int) (turn : Int) (M : Mm) : Prop := o = 4 ∧ goP b load M
def R24_goes (rs : List (Nat × Nat)) (o : Int) (b : Int) (load : Int) (turn : Int) (M : Mm) (M1 : Mm) : Prop := goR 0 b load turn M M1
def sp24_goes (rs : List (Nat × Nat)) : Spec := spV false [2, 0, 0, 0] (fun x M => P24_goes rs (x 0) (x 1) (x 2) (x 3) M) (fun x M M1 => R24_goes rs (x 0) (x 1) (x 2) (x 3) M M1)
theorem c24_goes {rs : List (Nat × Nat)} {o : Nat} {b : Int} {load : Int} {turn : Int} {M : Mm} {Q : Option AV → Mm → Prop} : sp24_goes rs [ar o, ai b, ai load, ai turn] M Q = (P24_goes rs (o : Int) b load turn M ∧ ∀ (M1 : Mm), R24_goes rs (o : Int) b load turn M M1 → Q none M1) := rfl
def cs24_goes (rs : List (Nat × Nat)) : List (Nat × Nat × Nat × Spec) := [(19, 1, 2, (sp2_lastOf rs))]
def J24_goes_0 (rs : List (Nat × Nat)) (o : Int) (b : Int) (load : Int) (turn : Int) (M : Mm) (m : Nat) (b_ : Int) (l_ : Int) (t_ : Int) (M1 : Mm) : Prop := b = b_ ∧ load = l_ ∧ turn = t_ ∧ ∃ d : Nat, (d : Int) ≤ M 15 b.toNat ∧ M1 = wM M b d ∧ popP load (stk (mfX M b) d) = popP load (mbX M b) ∧ m = d
set_option maxHeartbeats 4000000 in
set_option maxRecDepth 100000 in
theorem at24_goes_0 {rs : List (Nat × Nat)} {o b load turn : Int} {M : Mm} {Q : Option AV → Mm → Prop} (hM : okM (sh8 rs) M) (h_b : i32 b) (h_load : i32 load) (h_turn : i32 turn) (hP : P24_goes rs o b load turn M) (hQ : ∀ (M1 : Mm), R24_goes rs o b load turn M M1 → Q none M1) {m : Nat} {b_ l_ t_ : Int} {M1 : Mm} (hM1 : okM (sh8 rs) M1) (h_b_ : i32 b_) (h_l_ : i32 l_) (h_t_ : i32 t_) (hJ : J24_goes_0 rs o b load turn M m b_ l_ t_ M1) (I_0 : List AV → Mm → Prop) (hI_0 : ∀ (m_ : Nat) (y_b_ : Int) (y_l_ : Int) (y_t_ : Int) (M2 : Mm), m_ < m → J24_goes_0 rs o b load turn M m_ y_b_ y_l_ y_t_ M2 → I_0 [ar o.toNat, ai y_b_, ai y_l_, ai y_t_] M2) : wp (tb24 (csL (cs24_goes rs))) (sh8 rs) 4 0 cX2_goes [(0, [0, 1, 2, 3], I_0)] Q 400 0 [(0, ar o.toNat), (1, ai b_), (2, ai l_), (3, ai t_)] [] M1 := by
  obtain ⟨rfl, rfl, rfl, d, hd, rfl, hp, rfl⟩ := hJ
  obtain ⟨rfl, hG⟩ := id hP
  obtain ⟨h0, h1, h2, h3⟩ := id hG
  have hx := h0.1
  have hok := wM_k h0 hd
  have kF : popP load (stk (mfX M b) m) = stk (mfX M b) m → Q none (up2 (up2 (up2 (wM M b m) 13 (8 * b + m).toNat load) 14 (8 * b + m).toNat turn) 15 b.toNat (m + 1)) := by
    intro q
    exact hQ _ (wM_p hG hd (by rw [← hp, q]))
  simp only [e_wp dX2_goes_0 rfl, e_wp dX2_goes_1 rfl, e_wp dX2_goes_4 rfl, e_wp dX2_goes_7 rfl, e_wp dX2_goes_8 rfl, e_wp dX2_goes_9 rfl, e_wp dX2_goes_12 rfl, e_wp dX2_goes_13 rfl, e_wp dX2_goes_16 rfl, e_wp dX2_goes_17 rfl, e_wp dX2_goes_20 rfl, e_wp dX2_goes_21 rfl, e_wp dX2_goes_24 rfl, e_wp dX2_goes_25 rfl, e_wp dX2_goes_28 rfl, e_wp dX2_goes_31 rfl, e_wp dX2_goes_32 rfl, e_wp dX2_goes_33 rfl, e_wp dX2_goes_34 rfl, e_wp dX2_goes_35 rfl, e_wp dX2_goes_36 rfl, e_wp dX2_goes_37 rfl, e_wp dX2_goes_38 rfl, e_wp dX2_goes_41 rfl, e_wp dX2_goes_42 rfl, e_wp dX2_goes_45 rfl, e_wp dX2_goes_46 rfl, e_wp dX2_goes_47 rfl, e_wp dX2_goes_50 rfl, e_wp dX2_goes_53 rfl, e_wp dX2_goes_54 rfl, e_wp dX2_goes_57 rfl, e_wp dX2_goes_60 rfl, e_wp dX2_goes_62 rfl, e_wp dX2_goes_63 rfl, e_wp dX2_goes_64 rfl, e_wp dX2_goes_65 rfl, e_wp dX2_goes_68 rfl, e_wp dX2_goes_71 rfl, e_wp dX2_goes_72 rfl, e_wp dX2_goes_73 rfl, e_wp dX2_goes_74 rfl, e_wp dX2_goes_75 rfl, e_wp dX2_goes_76 rfl, e_wp dX2_goes_77 rfl, e_wp dX2_goes_80 rfl, e_wp dX2_goes_83 rfl, e_wp dX2_goes_85 rfl, e_wp dX2_goes_86 rfl, e_wp dX2_goes_87 rfl, e_wp dX2_goes_88 rfl, e_wp dX2_goes_91 rfl, e_wp dX2_goes_94 rfl, e_wp dX2_goes_95 rfl, e_wp dX2_goes_96 rfl, e_wp dX2_goes_97 rfl, e_wp dX2_goes_98 rfl, e_wp dX2_goes_99 rfl, e_wp dX2_goes_100 rfl, e_wp dX2_goes_103 rfl, e_wp dX2_goes_106 rfl, e_wp dX2_goes_107 rfl, e_wp dX2_goes_108 rfl, e_wp dX2_goes_109 rfl, e_wp dX2_goes_110 rfl, e_wp dX2_goes_111 rfl, e_wp dX2_goes_112 rfl, g24_3, g24_15, c2_lastOf, cs24_goes, g24_23, p24_23, g24_27, g24_30, a8_13, w8_13, a8_14, w8_14, a8_15, w8_15, a8_16, w8_16, a8_17, w8_17, a8_18, w8_18, a8_19, w8_19, a8_20, w8_20, a8_21, w8_21, a8_22, w8_22, a8_23, w8_23, a8_24, w8_24, a8_25, w8_25, a8_26, w8_26, a8_27, w8_27, a8_28, w8_28, a8_29, w8_29, a8_30, w8_30, a8_31, w8_31, a8_32, w8_32, a8_33, w8_33, a8_34, w8_34, a8_35, w8_35, a8_36, w8_36, a8_37, w8_37, a8_38, w8_38, a8_39, w8_39, a8_40, w8_40, a8_12, w8_12, a8_6, a8_7, e_iconst, e_bipush, e_sipush, e_lconst_0, e_lconst_1, e_iload, e_iload_0, e_iload_1, e_iload_2, e_iload_3, e_lload, e_lload_0, e_lload_1, e_lload_2, e_lload_3, e_aload, e_aload_0, e_aload_1, e_aload_2, e_aload_3, e_istore, e_istore_0, e_istore_1, e_istore_2, e_istore_3, e_astore, e_astore_0, e_astore_1, e_astore_2, e_astore_3, e_lstore, e_lstore_0, e_lstore_1, e_lstore_2, e_lstore_3, e_iinc, e_iadd, e_isub, e_imul, e_ladd, e_lsub, e_lmul, e_idiv, e_irem, e_ldiv, e_lrem, e_ineg, e_lneg, e_iand, e_ior, e_ixor, e_ishl, e_ishr, e_iushr, e_lcmp, e_i2l, e_l2i, e_i2b, e_i2s, e_dup_i, e_dup_r, e_pop_i, e_pop_r, e_dup2_l, e_dup2_ir, e_dup2_ii, e_ifeq, e_ifne, e_iflt, e_ifge, e_ifgt, e_ifle, e_iceq, e_icne, e_iclt, e_icge, e_icgt, e_icle, e_goto, e_switch, e_invokevirtual, e_invokestatic, e_invokespecial, e_ret0, e_ret1, e_ret2, e_ret3, ldI_s, ldL_s, ldR_s, clO_s, ctP_s, ctS_s, mgo_0, mgo_s, pjc_s, pj_0, pj_s, lk_s, rm1_0, rm1_i, rm1_r, rm1_l, rm2_0, rm2_i, rm2_r, rm2_l, csL_s, lc_lt, lc_ge, lc_gt, lc_le, lc_eq, b01_0, b01_1, b01_01, b01_n, up2_o, up2_s, up2_u, ne_eq, reduceCtorEq, Nat.reduceAdd, Nat.reduceEqDiff, Nat.reduceLT, Nat.reduceLeDiff, Int.reduceLE, Int.reduceLT, Int.reduceAdd, Int.reduceNeg, Int.reduceMul, Int.reduceSub, Int.reduceEq, Int.reduceToNat, Int.reduceNatCast, Int.cast_ofNat_Int, ↓reduceIte, and_self, List.drop_succ_cons, List.drop_zero, List.take_succ_cons, List.take_zero, List.length_cons, List.length_nil, List.reverse_cons, List.reverse_nil, List.nil_append, List.cons_append, Option.toList, true_and, and_true, or_false, false_or, or_true, true_or, forall_const, Classical.not_not, not_false_eq_true, not_true_eq_false, false_implies, true_implies, implies_true, imp_self, wM_m, wM_w]
  refine ⟨hx, fun q => ?_, fun q => ⟨hok, fun q2 => ?_, fun q2 => ?_⟩⟩
  · obtain rfl : m = 0 := by omega
    have k := kF rfl
    (repeat' (first | (refine And.intro ?_ ?_))); all_goals (first | omega | exact k)
  · obtain ⟨n, rfl⟩ : ∃ n, m = n + 1 := ⟨m - 1, by omega⟩
    rw [wM_b] at q2
    have k := kF (by
      show (if (mfX M b n).1 ≤ load then _ else _) = _
      rw [if_neg (by have : load < (mfX M b n).1 := q2; omega)]
      rfl)
    (repeat' (first | (refine And.intro ?_ ?_))); all_goals (first | omega | exact k)
  · obtain ⟨n, rfl⟩ : ∃ n, m = n + 1 := ⟨m - 1, by omega⟩
    rw [wM_b] at q2
    refine ⟨hx, by omega, hx, by omega, ?_⟩
    rw [wM_s (M := M) (b := b) (n := n) (by omega) (by omega)]
    refine hI_0 n b load turn _ (by omega) ⟨rfl, rfl, rfl, n, by omega, rfl, ?_, rfl⟩
    rw [← hp]
    show _ = (if (mfX M b n).1 ≤ load then popP load (stk (mfX M b) n) else _)
    rw [if_pos (show (mfX M b n).1 ≤ load from q2)]
set_option maxHeartbeats 4000000 in
set_option maxRecDepth 100000 in
theorem in24_goes {rs : List (Nat × Nat)} {o b load turn : Int} {M : Mm} {Q : Option AV → Mm → Prop} (hM : okM (sh8 rs) M) (h_b : i32 b) (h_load : i32 load) (h_turn : i32 turn) (hP : P24_goes rs o b load turn M) (hQ : ∀ (M1 : Mm), R24_goes rs o b load turn M M1 → Q none M1) (I_0 : List AV → Mm → Prop) (hI_0 : ∀ (m_ : Nat) (y_b_ : Int) (y_l_ : Int) (y_t_ : Int) (M2 : Mm), J24_goes_0 rs o b load turn M m_ y_b_ y_l_ y_t_ M2 → I_0 [ar o.toNat, ai y_b_, ai y_l_, ai y_t_] M2) : wp (tb24 (csL (cs24_goes rs))) (sh8 rs) 4 0 cX2_goes [(0, [0, 1, 2, 3], I_0)] Q 400 0 [(0, ar o.toNat), (1, ai b), (2, ai load), (3, ai turn)] [] M := by
  obtain ⟨e0, hG⟩ := id hP
  have hn := hG.1.2.1
  refine at24_goes_0 (m := (M 15 b.toNat).toNat) hM h_b h_load h_turn hP hQ hM h_b h_load h_turn ⟨rfl, rfl, rfl, (M 15 b.toNat).toNat, by omega, (wM_0 (by omega)).symm, rfl, rfl⟩ _ (fun m_ y1 y2 y3 M2 _ hJ => hI_0 m_ y1 y2 y3 M2 hJ)
set_option maxHeartbeats 4000000 in
set_option maxRecDepth 100000 in
theorem m24_goes {rs : List (Nat × Nat)} : MOK cl8 (sh8 rs) tyl8 Nws8 1 yX2_goes cX2_goes 4 none (sp24_goes rs) := by
  refine mok_of (own := RX2) (tb := tb24 (csL (cs24_goes rs))) (rt := 0) (fuel := 400) (fun avs M Q => [(0, [0, 1, 2, 3], fun m_ vs M1 => ∃ y_b_ : Int, ∃ y_l_ : Int, ∃ y_t_ : Int, vs = [ar (pa false [2, 0, 0, 0] avs 0).toNat, ai y_b_, ai y_l_, ai y_t_] ∧ J24_goes_0 rs (pa false [2, 0, 0, 0] avs 0) (pa false [2, 0, 0, 0] avs 1) (pa false [2, 0, 0, 0] avs 2) (pa false [2, 0, 0, 0] avs 3) M m_ y_b_ y_l_ y_t_ M1)]) (by decide) rfl nws8_ok (tbOK24 _) rfl (csL_all ?_) ?_ ?_ ?_
  · intro q hq
    simp only [cs24_goes, List.mem_cons, List.not_mem_nil, or_false] at hq
    rcases hq with rfl
    · exact cg2_lastOf (by decide)
  · intro avs M Q hsp
    obtain ⟨xs, hx⟩ := spV_un _ _ _ hsp
    obtain ⟨e, hl⟩ := unA_mk hx
    obtain ⟨o, b, load, turn, rfl⟩ := len4 hl
    have e : avs = [ar o.toNat, ai b, ai load, ai turn] := e
    subst e
    simp [szL, isL]
  · intro avs M Q hM hav hsp
    obtain ⟨xs, hx⟩ := spV_un _ _ _ hsp
    obtain ⟨e, hl⟩ := unA_mk hx
    obtain ⟨o, b, load, turn, rfl⟩ := len4 hl
    have e : avs = [ar o.toNat, ai b, ai load, ai turn] := e
    subst e
    exact in24_goes (o := ((o.toNat : Nat) : Int)) hM (hav (ai b) (by simp)) (hav (ai load) (by simp)) (hav (ai turn) (by simp)) hsp.1 hsp.2 _ (fun m_ y_b_ y_l_ y_t_ M2 hJ => ⟨m_, y_b_, y_l_, y_t_, rfl, hJ⟩)
  · intro avs M Q hM hav hsp q hq m_ vs M1 hM1 hv hJ
    obtain ⟨xs, hx⟩ := spV_un _ _ _ hsp
    obtain ⟨e, hl⟩ := unA_mk hx
    obtain ⟨o, b, load, turn, rfl⟩ := len4 hl
    have e : avs = [ar o.toNat, ai b, ai load, ai turn] := e
    subst e
    simp only [List.mem_cons, List.not_mem_nil, or_false] at hq
    rcases hq with rfl
    · obtain ⟨y_b_, y_l_, y_t_, rfl, hJ⟩ := hJ
      exact at24_goes_0 (o := ((o.toNat : Nat) : Int)) hM (hav (ai b) (by simp)) (hav (ai load) (by simp)) (hav (ai turn) (by simp)) hsp.1 hsp.2 hM1 (hv (1, ai y_b_) (List.mem_of_getElem? (i := 1) rfl)) (hv (2, ai y_l_) (List.mem_of_getElem? (i := 2) rfl)) (hv (3, ai y_t_) (List.mem_of_getElem? (i := 3) rfl)) hJ _ (fun m2 z_b_ z_l_ z_t_ M2 hm hJ2 => ⟨m2, hm, z_b_, z_l_, z_t_, rfl, hJ2⟩)
def P25_goes (rs : List (Nat × Nat)) (o : Int) (b : Int) (load : Int) (turn : Int) (M : Mm) : Prop := o = 5 ∧ goP b load M
def R25_goes (rs : List (Nat × Nat)) (o : Int) (b : Int) (load : Int) (turn : Int) (M : Mm) (M1 : Mm) : Prop := goR 0 b load turn M M1
def sp25_goes (rs : List (Nat × Nat)) : Spec := spV false [2, 0, 0, 0] (fun x M => P25_goes rs (x 0) (x 1) (x 2) (x 3) M) (fun x M M1 => R25_goes rs (x 0) (x 1) (x 2) (x 3) M M1)
theorem c25_goes {rs : List (Nat × Nat)} {o : Nat} {b : Int} {load : Int} {turn : Int} {M : Mm} {Q : Option AV → Mm → Prop} : sp25_goes rs [ar o, ai b, ai load, ai turn] M Q = (P25_goes rs (o : Int) b load turn M ∧ ∀ (M1 : Mm), R25_goes rs (o : Int) b load turn M M1 → Q none M1) := rfl
def cs25_goes (rs : List (Nat × Nat)) : List (Nat × Nat × Nat × Spec) := [(19, 1, 2, (sp2_lastOf rs))]
def J25_goes_0 (rs : List (Nat × Nat)) (o : Int) (b : Int) (load : Int) (turn : Int) (M : Mm) (m : Nat) (b_ : Int) (l_ : Int) (t_ : Int) (M1 : Mm) : Prop := b = b_ ∧ load = l_ ∧ turn = t_ ∧ ∃ d : Nat, (d : Int) ≤ M 15 b.toNat ∧ M1 = wM M b d ∧ popP load (stk (mfX M b) d) = popP load (mbX M b) ∧ m = d
set_option maxHeartbeats 4000000 in
set_option maxRecDepth 100000 in
theorem at25_goes_0 {rs : List (Nat × Nat)} {o b load turn : Int} {M : Mm} {Q : Option AV → Mm → Prop} (hM : okM (sh8 rs) M) (h_b : i32 b) (h_load : i32 load) (h_turn : i32 turn) (hP : P25_goes rs o b load turn M) (hQ : ∀ (M1 : Mm), R25_goes rs o b load turn M M1 → Q none M1) {m : Nat} {b_ l_ t_ : Int} {M1 : Mm} (hM1 : okM (sh8 rs) M1) (h_b_ : i32 b_) (h_l_ : i32 l_) (h_t_ : i32 t_) (hJ : J25_goes_0 rs o b load turn M m b_ l_ t_ M1) (I_0 : List AV → Mm → Prop) (hI_0 : ∀ (m_ : Nat) (y_b_ : Int) (y_l_ : Int) (y_t_ : Int) (M2 : Mm), m_ < m → J25_goes_0 rs o b load turn M m_ y_b_ y_l_ y_t_ M2 → I_0 [ar o.toNat, ai y_b_, ai y_l_, ai y_t_] M2) : wp (tb25 (csL (cs25_goes rs))) (sh8 rs) 4 0 cX2_goes [(0, [0, 1, 2, 3], I_0)] Q 400 0 [(0, ar o.toNat), (1, ai b_), (2, ai l_), (3, ai t_)] [] M1 := by
  obtain ⟨rfl, rfl, rfl, d, hd, rfl, hp, rfl⟩ := hJ
  obtain ⟨rfl, hG⟩ := id hP
  obtain ⟨h0, h1, h2, h3⟩ := id hG
  have hx := h0.1
  have hok := wM_k h0 hd
  have kF : popP load (stk (mfX M b) m) = stk (mfX M b) m → Q none (up2 (up2 (up2 (wM M b m) 13 (8 * b + m).toNat load) 14 (8 * b + m).toNat turn) 15 b.toNat (m + 1)) := by
    intro q
    exact hQ _ (wM_p hG hd (by rw [← hp, q]))
  simp only [e_wp dX2_goes_0 rfl, e_wp dX2_goes_1 rfl, e_wp dX2_goes_4 rfl, e_wp dX2_goes_7 rfl, e_wp dX2_goes_8 rfl, e_wp dX2_goes_9 rfl, e_wp dX2_goes_12 rfl, e_wp dX2_goes_13 rfl, e_wp dX2_goes_16 rfl, e_wp dX2_goes_17 rfl, e_wp dX2_goes_20 rfl, e_wp dX2_goes_21 rfl, e_wp dX2_goes_24 rfl, e_wp dX2_goes_25 rfl, e_wp dX2_goes_28 rfl, e_wp dX2_goes_31 rfl, e_wp dX2_goes_32 rfl, e_wp dX2_goes_33 rfl, e_wp dX2_goes_34 rfl, e_wp dX2_goes_35 rfl, e_wp dX2_goes_36 rfl, e_wp dX2_goes_37 rfl, e_wp dX2_goes_38 rfl, e_wp dX2_goes_41 rfl, e_wp dX2_goes_42 rfl, e_wp dX2_goes_45 rfl, e_wp dX2_goes_46 rfl, e_wp dX2_goes_47 rfl, e_wp dX2_goes_50 rfl, e_wp dX2_goes_53 rfl, e_wp dX2_goes_54 rfl, e_wp dX2_goes_57 rfl, e_wp dX2_goes_60 rfl, e_wp dX2_goes_62 rfl, e_wp dX2_goes_63 rfl, e_wp dX2_goes_64 rfl, e_wp dX2_goes_65 rfl, e_wp dX2_goes_68 rfl, e_wp dX2_goes_71 rfl, e_wp dX2_goes_72 rfl, e_wp dX2_goes_73 rfl, e_wp dX2_goes_74 rfl, e_wp dX2_goes_75 rfl, e_wp dX2_goes_76 rfl, e_wp dX2_goes_77 rfl, e_wp dX2_goes_80 rfl, e_wp dX2_goes_83 rfl, e_wp dX2_goes_85 rfl, e_wp dX2_goes_86 rfl, e_wp dX2_goes_87 rfl, e_wp dX2_goes_88 rfl, e_wp dX2_goes_91 rfl, e_wp dX2_goes_94 rfl, e_wp dX2_goes_95 rfl, e_wp dX2_goes_96 rfl, e_wp dX2_goes_97 rfl, e_wp dX2_goes_98 rfl, e_wp dX2_goes_99 rfl, e_wp dX2_goes_100 rfl, e_wp dX2_goes_103 rfl, e_wp dX2_goes_106 rfl, e_wp dX2_goes_107 rfl, e_wp dX2_goes_108 rfl, e_wp dX2_goes_109 rfl, e_wp dX2_goes_110 rfl, e_wp dX2_goes_111 rfl, e_wp dX2_goes_112 rfl, g25_3, g25_15, c2_lastOf, cs25_goes, g25_23, p25_23, g25_27, g25_30, a8_13, w8_13, a8_14, w8_14, a8_15, w8_15, a8_16, w8_16, a8_17, w8_17, a8_18, w8_18, a8_19, w8_19, a8_20, w8_20, a8_21, w8_21, a8_22, w8_22, a8_23, w8_23, a8_24, w8_24, a8_25, w8_25, a8_26, w8_26, a8_27, w8_27, a8_28, w8_28, a8_29, w8_29, a8_30, w8_30, a8_31, w8_31, a8_32, w8_32, a8_33, w8_33, a8_34, w8_34, a8_35, w8_35, a8_36, w8_36, a8_37, w8_37, a8_38, w8_38, a8_39, w8_39, a8_40, w8_40, a8_12, w8_12, a8_6, a8_7, e_iconst, e_bipush, e_sipush, e_lconst_0, e_lconst_1, e_iload, e_iload_0, e_iload_1, e_iload_2, e_iload_3, e_lload, e_lload_0, e_lload_1, e_lload_2, e_lload_3, e_aload, e_aload_0, e_aload_1, e_aload_2, e_aload_3, e_istore, e_istore_0, e_istore_1, e_istore_2, e_istore_3, e_astore, e_astore_0, e_astore_1, e_astore_2, e_astore_3, e_lstore, e_lstore_0, e_lstore_1, e_lstore_2, e_lstore_3, e_iinc, e_iadd, e_isub, e_imul, e_ladd, e_lsub, e_lmul, e_idiv, e_irem, e_ldiv, e_lrem, e_ineg, e_lneg, e_iand, e_ior, e_ixor, e_ishl, e_ishr, e_iushr, e_lcmp, e_i2l, e_l2i, e_i2b, e_i2s, e_dup_i, e_dup_r, e_pop_i, e_pop_r, e_dup2_l, e_dup2_ir, e_dup2_ii, e_ifeq, e_ifne, e_iflt, e_ifge, e_ifgt, e_ifle, e_iceq, e_icne, e_iclt, e_icge, e_icgt, e_icle, e_goto, e_switch, e_invokevirtual, e_invokestatic, e_invokespecial, e_ret0, e_ret1, e_ret2, e_ret3, ldI_s, ldL_s, ldR_s, clO_s, ctP_s, ctS_s, mgo_0, mgo_s, pjc_s, pj_0, pj_s, lk_s, rm1_0, rm1_i, rm1_r, rm1_l, rm2_0, rm2_i, rm2_r, rm2_l, csL_s, lc_lt, lc_ge, lc_gt, lc_le, lc_eq, b01_0, b01_1, b01_01, b01_n, up2_o, up2_s, up2_u, ne_eq, reduceCtorEq, Nat.reduceAdd, Nat.reduceEqDiff, Nat.reduceLT, Nat.reduceLeDiff, Int.reduceLE, Int.reduceLT, Int.reduceAdd, Int.reduceNeg, Int.reduceMul, Int.reduceSub, Int.reduceEq, Int.reduceToNat, Int.reduceNatCast, Int.cast_ofNat_Int, ↓reduceIte, and_self, List.drop_succ_cons, List.drop_zero, List.take_succ_cons, List.take_zero, List.length_cons, List.length_nil, List.reverse_cons, List.reverse_nil, List.nil_append, List.cons_append, Option.toList, true_and, and_true, or_false, false_or, or_true, true_or, forall_const, Classical.not_not, not_false_eq_true, not_true_eq_false, false_implies, true_implies, implies_true, imp_self, wM_m, wM_w]
  refine ⟨hx, fun q => ?_, fun q => ⟨hok, fun q2 => ?_, fun q2 => ?_⟩⟩
  · obtain rfl : m = 0 := by omega
    have k := kF rfl
    (repeat' (first | (refine And.intro ?_ ?_))); all_goals (first | omega | exact k)
  · obtain ⟨n, rfl⟩ : ∃ n, m = n + 1 := ⟨m - 1, by omega⟩
    rw [wM_b] at q2
    have k := kF (by
      show (if (mfX M b n).1 ≤ load then _ else _) = _
      rw [if_neg (by have : load < (mfX M b n).1 := q2; omega)]
      rfl)
    (repeat' (first | (refine And.intro ?_ ?_))); all_goals (first | omega | exact k)
  · obtain ⟨n, rfl⟩ : ∃ n, m = n + 1 := ⟨m - 1, by omega⟩
    rw [wM_b] at q2
    refine ⟨hx, by omega, hx, by omega, ?_⟩
    rw [wM_s (M := M) (b := b) (n := n) (by omega) (by omega)]
    refine hI_0 n b load turn _ (by omega) ⟨rfl, rfl, rfl, n, by omega, rfl, ?_, rfl⟩
    rw [← hp]
    show _ = (if (mfX M b n).1 ≤ load then popP load (stk (mfX M b) n) else _)
    rw [if_pos (show (mfX M b n).1 ≤ load from q2)]
set_option maxHeartbeats 4000000 in
set_option maxRecDepth 100000 in
theorem in25_goes {rs : List (Nat × Nat)} {o b load turn : Int} {M : Mm} {Q : Option AV → Mm → Prop} (hM : okM (sh8 rs) M) (h_b : i32 b) (h_load : i32 load) (h_turn : i32 turn) (hP : P25_goes rs o b load turn M) (hQ : ∀ (M1 : Mm), R25_goes rs o b load turn M M1 → Q none M1) (I_0 : List AV → Mm → Prop) (hI_0 : ∀ (m_ : Nat) (y_b_ : Int) (y_l_ : Int) (y_t_ : Int) (M2 : Mm), J25_goes_0 rs o b load turn M m_ y_b_ y_l_ y_t_ M2 → I_0 [ar o.toNat, ai y_b_, ai y_l_, ai y_t_] M2) : wp (tb25 (csL (cs25_goes rs))) (sh8 rs) 4 0 cX2_goes [(0, [0, 1, 2, 3], I_0)] Q 400 0 [(0, ar o.toNat), (1, ai b), (2, ai load), (3, ai turn)] [] M := by
  obtain ⟨e0, hG⟩ := id hP
  have hn := hG.1.2.1
  refine at25_goes_0 (m := (M 15 b.toNat).toNat) hM h_b h_load h_turn hP hQ hM h_b h_load h_turn ⟨rfl, rfl, rfl, (M 15 b.toNat).toNat, by omega, (wM_0 (by omega)).symm, rfl, rfl⟩ _ (fun m_ y1 y2 y3 M2 _ hJ => hI_0 m_ y1 y2 y3 M2 hJ)
set_option maxHeartbeats 4000000 in
set_option maxRecDepth 100000 in
theorem m25_goes {rs : List (Nat × Nat)} : MOK cl8 (sh8 rs) tyl8 Nws8 1 yX2_goes cX2_goes 4 none (sp25_goes rs) := by
  refine mok_of (own := RX2) (tb := tb25 (csL (cs25_goes rs))) (rt := 0) (fuel := 400) (fun avs M Q => [(0, [0, 1, 2, 3], fun m_ vs M1 => ∃ y_b_ : Int, ∃ y_l_ : Int, ∃ y_t_ : Int, vs = [ar (pa false [2, 0, 0, 0] avs 0).toNat, ai y_b_, ai y_l_, ai y_t_] ∧ J25_goes_0 rs (pa false [2, 0, 0, 0] avs 0) (pa false [2, 0, 0, 0] avs 1) (pa false [2, 0, 0, 0] avs 2) (pa false [2, 0, 0, 0] avs 3) M m_ y_b_ y_l_ y_t_ M1)]) (by decide) rfl nws8_ok (tbOK25 _) rfl (csL_all ?_) ?_ ?_ ?_
  · intro q hq
    simp only [cs25_goes, List.mem_cons, List.not_mem_nil, or_false] at hq
    rcases hq with rfl
    · exact cg2_lastOf (by decide)
  · intro avs M Q hsp
    obtain ⟨xs, hx⟩ := spV_un _ _ _ hsp
    obtain ⟨e, hl⟩ := unA_mk hx
    obtain ⟨o, b, load, turn, rfl⟩ := len4 hl
    have e : avs = [ar o.toNat, ai b, ai load, ai turn] := e
    subst e
    simp [szL, isL]
  · intro avs M Q hM hav hsp
    obtain ⟨xs, hx⟩ := spV_un _ _ _ hsp
    obtain ⟨e, hl⟩ := unA_mk hx
    obtain ⟨o, b, load, turn, rfl⟩ := len4 hl
    have e : avs = [ar o.toNat, ai b, ai load, ai turn] := e
    subst e
    exact in25_goes (o := ((o.toNat : Nat) : Int)) hM (hav (ai b) (by simp)) (hav (ai load) (by simp)) (hav (ai turn) (by simp)) hsp.1 hsp.2 _ (fun m_ y_b_ y_l_ y_t_ M2 hJ => ⟨m_, y_b_, y_l_, y_t_, rfl, hJ⟩)
  · intro avs M Q hM hav hsp q hq m_ vs M1 hM1 hv hJ
    obtain ⟨xs, hx⟩ := spV_un _ _ _ hsp
    obtain ⟨e, hl⟩ := unA_mk hx
    obtain ⟨o, b, load, turn, rfl⟩ := len4 hl
    have e : avs = [ar o.toNat, ai b, ai load, ai turn] := e
    subst e
    simp only [List.mem_cons, List.not_mem_nil, or_false] at hq
    rcases hq with rfl
    · obtain ⟨y_b_, y_l_, y_t_, rfl, hJ⟩ := hJ
      exact at25_goes_0 (o := ((o.toNat : Nat) : Int)) hM (hav (ai b) (by simp)) (hav (ai load) (by simp)) (hav (ai turn) (by simp)) hsp.1 hsp.2 hM1 (hv (1, ai y_b_) (List.mem_of_getElem? (i := 1) rfl)) (hv (2, ai y_l_) (List.mem_of_getElem? (i := 2) rfl)) (hv (3, ai y_t_) (List.mem_of_getElem? (i := 3) rfl)) hJ _ (fun m2 z_b_ z_l_ z_t_ M2 hm hJ2 => ⟨m2, hm, z_b_, z_l_, z_t_, rfl, hJ2⟩)
theorem rcv_g {k : Nat} {P : (Nat → Int) → Mm → Prop} {R : (Nat → Int) → Mm → Mm → Prop} {avs : List AV} {M : Mm} {Q : Option AV → Mm → Prop} (h : spV false [2, 0, 0, 0] P R avs M Q) (hP : ∀ x M, P x M → x 0 = (k : Int)) : rcv k 3 avs := by
  obtain ⟨xs, h1⟩ := spV_un _ _ _ h
  unfold spV at h
  rw [h1, oS_s] at h
  exact rcvF h1 (hP _ _ h.1)
theorem goR_c {law law' b load turn : Int} {M M1 : Mm} (h : crossP law load turn (mbX M b) = crossP law' load turn (mbX M b)) (hR : goR law' b load turn M M1) : goR law b load turn M M1 := by
  unfold goR
  rw [h]
  exact hR
theorem goR_0 {law b load turn : Int} {M : Mm} (hG : goP b load M) (h : crossP law load turn (mbX M b) = (mbX M b, 0)) : goR law b load turn M M := by
  refine ⟨by rw [h], hG.1, by rw [h]; show _ = M 0 8 + 0; omega, frm_rf, fun _ _ => rfl, fun b' hb _ => ⟨rfl, hb⟩⟩
theorem goR_pop {law b load turn : Int} {M : Mm} {n : Nat} (hG : goP b load M) (hn : M 15 b.toNat = n + 1) (h : crossP law load turn (mbX M b) = ((mbX M b).tail, 1)) : goR law b load turn M (wM M b n) := by
  have h0 := hG.1
  refine ⟨?_, wM_k h0 (by omega), ?_, ?_, ?_, ?_⟩
  · rw [h, wM_b, mb_sX hn]; rfl
  · rw [h, wM_w]; show _ = M 0 8 + 1; omega
  · exact frm_up (frm_up frm_rf (by decide)) (by decide)
  · intro j hj
    unfold wM
    rw [up2_n hj, up2_o (by decide)]
  · intro b' hb hne
    have k := cross_oX (x := (n : Int)) hb hne h0 rfl
    unfold wM
    rw [mb_uX (by decide) (by decide) (by decide), okB_uX (by decide) (by decide) (by decide)]
    exact k
theorem wM_e {M : Mm} {b : Int} {n : Nat} {x y : Int} (hx : x = n) (hy : y = M 0 8 + (M 15 b.toNat - n)) : up2 (up2 M 15 b.toNat x) 0 8 y = wM M b n := by rw [hx, hy]; rfl
theorem lastP_0 {M : Mm} {b : Int} (h : okBX M b) (h1 : 0 < lastP (mbX M b)) : ¬ mbX M b = [] ∧ ∃ n : Nat, M 15 b.toNat = n + 1 := by
  have h2 := h.2.1
  have h3 : ¬ M 15 b.toNat = 0 := fun e => by
    rw [(mb_neX h).mpr e] at h1
    exact absurd h1 (by decide)
  exact ⟨fun e => h3 ((mb_neX h).mp e), (M 15 b.toNat - 1).toNat, by omega⟩
abbrev sp3_sgoes (rs : List (Nat × Nat)) : Spec := sp23_goes rs
theorem c3_sgoes {rs : List (Nat × Nat)} {o : Nat} {b load turn : Int} {M : Mm} {Q : Option AV → Mm → Prop} : sp3_sgoes rs [ar o, ai b, ai load, ai turn] M Q = (((o : Int) = 3 ∧ goP b load M) ∧ ∀ M1, goR 0 b load turn M M1 → Q none M1) := rfl
theorem cg3_sgoes {rs : List (Nat × Nat)} {lvl : Nat} (h : 1 < lvl) : CG RX3 cl8 (sh8 rs) tyl8 Nws8 lvl 2 19 4 (sp3_sgoes rs) := cg_SU nws8_ok spV_mono (fun avs M Q h => rcv_g h (fun x M h1 => h1.1)) m23_goes h rfl (by decide) (k := 3) rfl rfl ⟨by decide, rfl⟩ q855 q841 q287 q839 q130 q850
abbrev sp35_sgoes (rs : List (Nat × Nat)) : Spec := sp25_goes rs
theorem c35_sgoes {rs : List (Nat × Nat)} {o : Nat} {b load turn : Int} {M : Mm} {Q : Option AV → Mm → Prop} : sp35_sgoes rs [ar o, ai b, ai load, ai turn] M Q = (((o : Int) = 5 ∧ goP b load M) ∧ ∀ M1, goR 0 b load turn M M1 → Q none M1) := rfl
theorem cg35_sgoes {rs : List (Nat × Nat)} {lvl : Nat} (h : 1 < lvl) : CG RX3 cl8 (sh8 rs) tyl8 Nws8 lvl 2 19 4 (sp35_sgoes rs) := cg_SU nws8_ok spV_mono (fun avs M Q h => rcv_g h (fun x M h1 => h1.1)) m25_goes h rfl (by decide) (k := 5) rfl rfl ⟨by decide, rfl⟩ q855 q841 q287 q839 q130 q850
abbrev sp4_sgoes (rs : List (Nat × Nat)) : Spec := sp24_goes rs
theorem c4_sgoes {rs : List (Nat × Nat)} {o : Nat} {b load turn : Int} {M : Mm} {Q : Option AV → Mm → Prop} : sp4_sgoes rs [ar o, ai b, ai load, ai turn] M Q = (((o : Int) = 4 ∧ goP b load M) ∧ ∀ M1, goR 0 b load turn M M1 → Q none M1) := rfl
theorem cg4_sgoes {rs : List (Nat × Nat)} {lvl : Nat} (h : 1 < lvl) : CG RX4 cl8 (sh8 rs) tyl8 Nws8 lvl 2 23 4 (sp4_sgoes rs) := cg_SU nws8_ok spV_mono (fun avs M Q h => rcv_g h (fun x M h1 => h1.1)) m24_goes h rfl (by decide) (k := 4) rfl rfl ⟨by decide, rfl⟩ q849 q841 q298 q839 q130 q850
abbrev sp3_lastOf (rs : List (Nat × Nat)) : Spec := sp0_lastOf rs
theorem c3_lastOf {rs : List (Nat × Nat)} {b : Int} {M : Mm} {Q : Option AV → Mm → Prop} : sp3_lastOf rs [ar 0, ai b] M Q = (okBX M b ∧ Q (some (ai (lastP (mbX M b)))) M) := rfl
abbrev sp4_lastOf (rs : List (Nat × Nat)) : Spec := sp0_lastOf rs
theorem c4_lastOf {rs : List (Nat × Nat)} {b : Int} {M : Mm} {Q : Option AV → Mm → Prop} : sp4_lastOf rs [ar 0, ai b] M Q = (okBX M b ∧ Q (some (ai (lastP (mbX M b)))) M) := rfl
def P3_goes (rs : List (Nat × Nat)) (o : Int) (b : Int) (load : Int) (turn : Int) (M : Mm) : Prop := o = 3 ∧ goP b load M
def R3_goes (rs : List (Nat × Nat)) (o : Int) (b : Int) (load : Int) (turn : Int) (M : Mm) (M1 : Mm) : Prop := goR 1 b load turn M M1
def sp3_goes (rs : List (Nat × Nat)) : Spec := spV false [2, 0, 0, 0] (fun x M => P3_goes rs (x 0) (x 1) (x 2) (x 3) M) (fun x M M1 => R3_goes rs (x 0) (x 1) (x 2) (x 3) M M1)
theorem c3_goes {rs : List (Nat × Nat)} {o : Nat} {b : Int} {load : Int} {turn : Int} {M : Mm} {Q : Option AV → Mm → Prop} : sp3_goes rs [ar o, ai b, ai load, ai turn] M Q = (P3_goes rs (o : Int) b load turn M ∧ ∀ (M1 : Mm), R3_goes rs (o : Int) b load turn M M1 → Q none M1) := rfl
def cs3_goes (rs : List (Nat × Nat)) : List (Nat × Nat × Nat × Spec) := [(13, 1, 2, (sp3_lastOf rs)), (19, 2, 4, (sp3_sgoes rs))]
set_option maxHeartbeats 4000000 in
set_option maxRecDepth 100000 in
theorem in3_goes {rs : List (Nat × Nat)} {o b load turn : Int} {M : Mm} {Q : Option AV → Mm → Prop} (hM : okM (sh8 rs) M) (h_b : i32 b) (h_load : i32 load) (h_turn : i32 turn) (hP : P3_goes rs o b load turn M) (hQ : ∀ (M1 : Mm), R3_goes rs o b load turn M M1 → Q none M1) : wp (tb3 (csL (cs3_goes rs))) (sh8 rs) 4 0 cX3_goes [] Q 400 0 [(0, ar o.toNat), (1, ai b), (2, ai load), (3, ai turn)] [] M := by
  obtain ⟨rfl, hG⟩ := id hP
  obtain ⟨h0, h1, h2, h3⟩ := id hG
  have hx := h0.1
  have k1 : ∀ n : Nat, 2 * load < lastP (mbX M b) → M 15 b.toNat = n + 1 → Q none (wM M b n) := by
    intro n q q2
    have q3 := (lastP_0 h0 (by omega)).1
    refine hQ _ (goR_pop hG q2 ?_)
    unfold crossP
    rw [if_neg (by omega), if_pos ⟨Or.inl rfl, q3, q⟩]
  have k0 : lastP (mbX M b) ≤ 2 * load → ∀ M1, goR 0 b load turn M M1 → Q none M1 := by
    intro q M1 hR
    refine hQ _ (goR_c ?_ hR)
    unfold crossP
    rw [if_neg (by omega), if_neg (by omega), if_neg (by omega), if_neg (by omega)]
  simp only [e_wp dX3_goes_0 rfl, e_wp dX3_goes_1 rfl, e_wp dX3_goes_2 rfl, e_wp dX3_goes_3 rfl, e_wp dX3_goes_4 rfl, e_wp dX3_goes_7 rfl, e_wp dX3_goes_8 rfl, e_wp dX3_goes_11 rfl, e_wp dX3_goes_14 rfl, e_wp dX3_goes_15 rfl, e_wp dX3_goes_16 rfl, e_wp dX3_goes_17 rfl, e_wp dX3_goes_18 rfl, e_wp dX3_goes_21 rfl, e_wp dX3_goes_22 rfl, e_wp dX3_goes_23 rfl, e_wp dX3_goes_26 rfl, e_wp dX3_goes_29 rfl, e_wp dX3_goes_30 rfl, e_wp dX3_goes_31 rfl, e_wp dX3_goes_32 rfl, e_wp dX3_goes_33 rfl, e_wp dX3_goes_34 rfl, e_wp dX3_goes_35 rfl, e_wp dX3_goes_36 rfl, e_wp dX3_goes_39 rfl, e_wp dX3_goes_40 rfl, e_wp dX3_goes_43 rfl, e_wp dX3_goes_44 rfl, e_wp dX3_goes_45 rfl, e_wp dX3_goes_48 rfl, g3_1, c3_lastOf, cs3_goes, c3_sgoes, g3_23, g3_27, p3_27, a8_13, w8_13, a8_14, w8_14, a8_15, w8_15, a8_16, w8_16, a8_17, w8_17, a8_18, w8_18, a8_19, w8_19, a8_20, w8_20, a8_21, w8_21, a8_22, w8_22, a8_23, w8_23, a8_24, w8_24, a8_25, w8_25, a8_26, w8_26, a8_27, w8_27, a8_28, w8_28, a8_29, w8_29, a8_30, w8_30, a8_31, w8_31, a8_32, w8_32, a8_33, w8_33, a8_34, w8_34, a8_35, w8_35, a8_36, w8_36, a8_37, w8_37, a8_38, w8_38, a8_39, w8_39, a8_40, w8_40, a8_12, w8_12, a8_6, a8_7, e_iconst, e_bipush, e_sipush, e_lconst_0, e_lconst_1, e_iload, e_iload_0, e_iload_1, e_iload_2, e_iload_3, e_lload, e_lload_0, e_lload_1, e_lload_2, e_lload_3, e_aload, e_aload_0, e_aload_1, e_aload_2, e_aload_3, e_istore, e_istore_0, e_istore_1, e_istore_2, e_istore_3, e_astore, e_astore_0, e_astore_1, e_astore_2, e_astore_3, e_lstore, e_lstore_0, e_lstore_1, e_lstore_2, e_lstore_3, e_iinc, e_iadd, e_isub, e_imul, e_ladd, e_lsub, e_lmul, e_idiv, e_irem, e_ldiv, e_lrem, e_ineg, e_lneg, e_iand, e_ior, e_ixor, e_ishl, e_ishr, e_iushr, e_lcmp, e_i2l, e_l2i, e_i2b, e_i2s, e_dup_i, e_dup_r, e_pop_i, e_pop_r, e_dup2_l, e_dup2_ir, e_dup2_ii, e_ifeq, e_ifne, e_iflt, e_ifge, e_ifgt, e_ifle, e_iceq, e_icne, e_iclt, e_icge, e_icgt, e_icle, e_goto, e_switch, e_invokevirtual, e_invokestatic, e_invokespecial, e_ret0, e_ret1, e_ret2, e_ret3, ldI_s, ldL_s, ldR_s, clO_s, ctP_s, ctS_s, mgo_0, mgo_s, pjc_s, pj_0, pj_s, lk_s, rm1_0, rm1_i, rm1_r, rm1_l, rm2_0, rm2_i, rm2_r, rm2_l, csL_s, lc_lt, lc_ge, lc_gt, lc_le, lc_eq, b01_0, b01_1, b01_01, b01_n, up2_o, up2_s, up2_u, ne_eq, reduceCtorEq, Nat.reduceAdd, Nat.reduceEqDiff, Nat.reduceLT, Nat.reduceLeDiff, Int.reduceLE, Int.reduceLT, Int.reduceAdd, Int.reduceNeg, Int.reduceMul, Int.reduceSub, Int.reduceEq, Int.reduceToNat, Int.reduceNatCast, Int.cast_ofNat_Int, ↓reduceIte, and_self, List.drop_succ_cons, List.drop_zero, List.take_succ_cons, List.take_zero, List.length_cons, List.length_nil, List.reverse_cons, List.reverse_nil, List.nil_append, List.cons_append, Option.toList, true_and, and_true, or_false, false_or, or_true, true_or, forall_const, Classical.not_not, not_false_eq_true, not_true_eq_false, false_implies, true_implies, implies_true, imp_self]
  refine ⟨by omega, h0, fun q => ?_, fun q => ⟨hG, k0 q⟩⟩
  obtain ⟨n, hn⟩ := (lastP_0 h0 (by omega)).2
  have k := k1 n q hn
  refine ⟨hx, by omega, hx, by omega, ?_⟩
  rw [wM_e (n := n) (by omega) (by omega)]
  exact k
set_option maxHeartbeats 4000000 in
set_option maxRecDepth 100000 in
theorem m3_goes {rs : List (Nat × Nat)} : MOK cl8 (sh8 rs) tyl8 Nws8 2 yX3_goes cX3_goes 4 none (sp3_goes rs) := by
  refine mok_of (own := RX3) (tb := tb3 (csL (cs3_goes rs))) (rt := 0) (fuel := 400) (fun avs M Q => []) (by decide) rfl nws8_ok (tbOK3 _) rfl (csL_all ?_) ?_ ?_ ?_
  · intro q hq
    simp only [cs3_goes, List.mem_cons, List.not_mem_nil, or_false] at hq
    rcases hq with rfl | rfl
    · exact cg3_lastOf (by decide)
    · exact cg3_sgoes (by decide)
  · intro avs M Q hsp
    obtain ⟨xs, hx⟩ := spV_un _ _ _ hsp
    obtain ⟨e, hl⟩ := unA_mk hx
    obtain ⟨o, b, load, turn, rfl⟩ := len4 hl
    have e : avs = [ar o.toNat, ai b, ai load, ai turn] := e
    subst e
    simp [szL, isL]
  · intro avs M Q hM hav hsp
    obtain ⟨xs, hx⟩ := spV_un _ _ _ hsp
    obtain ⟨e, hl⟩ := unA_mk hx
    obtain ⟨o, b, load, turn, rfl⟩ := len4 hl
    have e : avs = [ar o.toNat, ai b, ai load, ai turn] := e
    subst e
    exact in3_goes (o := ((o.toNat : Nat) : Int)) hM (hav (ai b) (by simp)) (hav (ai load) (by simp)) (hav (ai turn) (by simp)) hsp.1 hsp.2
  · intro avs M Q hM hav hsp q hq m_ vs M1 hM1 hv hJ
    obtain ⟨xs, hx⟩ := spV_un _ _ _ hsp
    obtain ⟨e, hl⟩ := unA_mk hx
    obtain ⟨o, b, load, turn, rfl⟩ := len4 hl
    have e : avs = [ar o.toNat, ai b, ai load, ai turn] := e
    subst e
    cases hq
def P35_goes (rs : List (Nat × Nat)) (o : Int) (b : Int) (load : Int) (turn : Int) (M : Mm) : Prop := o = 5 ∧ goP b load M
def R35_goes (rs : List (Nat × Nat)) (o : Int) (b : Int) (load : Int) (turn : Int) (M : Mm) (M1 : Mm) : Prop := goR 1 b load turn M M1
def sp35_goes (rs : List (Nat × Nat)) : Spec := spV false [2, 0, 0, 0] (fun x M => P35_goes rs (x 0) (x 1) (x 2) (x 3) M) (fun x M M1 => R35_goes rs (x 0) (x 1) (x 2) (x 3) M M1)
theorem c35_goes {rs : List (Nat × Nat)} {o : Nat} {b : Int} {load : Int} {turn : Int} {M : Mm} {Q : Option AV → Mm → Prop} : sp35_goes rs [ar o, ai b, ai load, ai turn] M Q = (P35_goes rs (o : Int) b load turn M ∧ ∀ (M1 : Mm), R35_goes rs (o : Int) b load turn M M1 → Q none M1) := rfl
def cs35_goes (rs : List (Nat × Nat)) : List (Nat × Nat × Nat × Spec) := [(13, 1, 2, (sp3_lastOf rs)), (19, 2, 4, (sp35_sgoes rs))]
set_option maxHeartbeats 4000000 in
set_option maxRecDepth 100000 in
theorem in35_goes {rs : List (Nat × Nat)} {o b load turn : Int} {M : Mm} {Q : Option AV → Mm → Prop} (hM : okM (sh8 rs) M) (h_b : i32 b) (h_load : i32 load) (h_turn : i32 turn) (hP : P35_goes rs o b load turn M) (hQ : ∀ (M1 : Mm), R35_goes rs o b load turn M M1 → Q none M1) : wp (tb35 (csL (cs35_goes rs))) (sh8 rs) 4 0 cX3_goes [] Q 400 0 [(0, ar o.toNat), (1, ai b), (2, ai load), (3, ai turn)] [] M := by
  obtain ⟨rfl, hG⟩ := id hP
  obtain ⟨h0, h1, h2, h3⟩ := id hG
  have hx := h0.1
  have k1 : ∀ n : Nat, 2 * load < lastP (mbX M b) → M 15 b.toNat = n + 1 → Q none (wM M b n) := by
    intro n q q2
    have q3 := (lastP_0 h0 (by omega)).1
    refine hQ _ (goR_pop hG q2 ?_)
    unfold crossP
    rw [if_neg (by omega), if_pos ⟨Or.inl rfl, q3, q⟩]
  have k0 : lastP (mbX M b) ≤ 2 * load → ∀ M1, goR 0 b load turn M M1 → Q none M1 := by
    intro q M1 hR
    refine hQ _ (goR_c ?_ hR)
    unfold crossP
    rw [if_neg (by omega), if_neg (by omega), if_neg (by omega), if_neg (by omega)]
  simp only [e_wp dX3_goes_0 rfl, e_wp dX3_goes_1 rfl, e_wp dX3_goes_2 rfl, e_wp dX3_goes_3 rfl, e_wp dX3_goes_4 rfl, e_wp dX3_goes_7 rfl, e_wp dX3_goes_8 rfl, e_wp dX3_goes_11 rfl, e_wp dX3_goes_14 rfl, e_wp dX3_goes_15 rfl, e_wp dX3_goes_16 rfl, e_wp dX3_goes_17 rfl, e_wp dX3_goes_18 rfl, e_wp dX3_goes_21 rfl, e_wp dX3_goes_22 rfl, e_wp dX3_goes_23 rfl, e_wp dX3_goes_26 rfl, e_wp dX3_goes_29 rfl, e_wp dX3_goes_30 rfl, e_wp dX3_goes_31 rfl, e_wp dX3_goes_32 rfl, e_wp dX3_goes_33 rfl, e_wp dX3_goes_34 rfl, e_wp dX3_goes_35 rfl, e_wp dX3_goes_36 rfl, e_wp dX3_goes_39 rfl, e_wp dX3_goes_40 rfl, e_wp dX3_goes_43 rfl, e_wp dX3_goes_44 rfl, e_wp dX3_goes_45 rfl, e_wp dX3_goes_48 rfl, g35_1, c3_lastOf, cs35_goes, c35_sgoes, g35_23, g35_27, p35_27, a8_13, w8_13, a8_14, w8_14, a8_15, w8_15, a8_16, w8_16, a8_17, w8_17, a8_18, w8_18, a8_19, w8_19, a8_20, w8_20, a8_21, w8_21, a8_22, w8_22, a8_23, w8_23, a8_24, w8_24, a8_25, w8_25, a8_26, w8_26, a8_27, w8_27, a8_28, w8_28, a8_29, w8_29, a8_30, w8_30, a8_31, w8_31, a8_32, w8_32, a8_33, w8_33, a8_34, w8_34, a8_35, w8_35, a8_36, w8_36, a8_37, w8_37, a8_38, w8_38, a8_39, w8_39, a8_40, w8_40, a8_12, w8_12, a8_6, a8_7, e_iconst, e_bipush, e_sipush, e_lconst_0, e_lconst_1, e_iload, e_iload_0, e_iload_1, e_iload_2, e_iload_3, e_lload, e_lload_0, e_lload_1, e_lload_2, e_lload_3, e_aload, e_aload_0, e_aload_1, e_aload_2, e_aload_3, e_istore, e_istore_0, e_istore_1, e_istore_2, e_istore_3, e_astore, e_astore_0, e_astore_1, e_astore_2, e_astore_3, e_lstore, e_lstore_0, e_lstore_1, e_lstore_2, e_lstore_3, e_iinc, e_iadd, e_isub, e_imul, e_ladd, e_lsub, e_lmul, e_idiv, e_irem, e_ldiv, e_lrem, e_ineg, e_lneg, e_iand, e_ior, e_ixor, e_ishl, e_ishr, e_iushr, e_lcmp, e_i2l, e_l2i, e_i2b, e_i2s, e_dup_i, e_dup_r, e_pop_i, e_pop_r, e_dup2_l, e_dup2_ir, e_dup2_ii, e_ifeq, e_ifne, e_iflt, e_ifge, e_ifgt, e_ifle, e_iceq, e_icne, e_iclt, e_icge, e_icgt, e_icle, e_goto, e_switch, e_invokevirtual, e_invokestatic, e_invokespecial, e_ret0, e_ret1, e_ret2, e_ret3, ldI_s, ldL_s, ldR_s, clO_s, ctP_s, ctS_s, mgo_0, mgo_s, pjc_s, pj_0, pj_s, lk_s, rm1_0, rm1_i, rm1_r, rm1_l, rm2_0, rm2_i, rm2_r, rm2_l, csL_s, lc_lt, lc_ge, lc_gt, lc_le, lc_eq, b01_0, b01_1, b01_01, b01_n, up2_o, up2_s, up2_u, ne_eq, reduceCtorEq, Nat.reduceAdd, Nat.reduceEqDiff, Nat.reduceLT, Nat.reduceLeDiff, Int.reduceLE, Int.reduceLT, Int.reduceAdd, Int.reduceNeg, Int.reduceMul, Int.reduceSub, Int.reduceEq, Int.reduceToNat, Int.reduceNatCast, Int.cast_ofNat_Int, ↓reduceIte, and_self, List.drop_succ_cons, List.drop_zero, List.take_succ_cons, List.take_zero, List.length_cons, List.length_nil, List.reverse_cons, List.reverse_nil, List.nil_append, List.cons_append, Option.toList, true_and, and_true, or_false, false_or, or_true, true_or, forall_const, Classical.not_not, not_false_eq_true, not_true_eq_false, false_implies, true_implies, implies_true, imp_self]
  refine ⟨by omega, h0, fun q => ?_, fun q => ⟨hG, k0 q⟩⟩
  obtain ⟨n, hn⟩ := (lastP_0 h0 (by omega)).2
  have k := k1 n q hn
  refine ⟨hx, by omega, hx, by omega, ?_⟩
  rw [wM_e (n := n) (by omega) (by omega)]
  exact k
set_option maxHeartbeats 4000000 in
set_option maxRecDepth 100000 in
theorem m35_goes {rs : List (Nat × Nat)} : MOK cl8 (sh8 rs) tyl8 Nws8 2 yX3_goes cX3_goes 4 none (sp35_goes rs) := by
  refine mok_of (own := RX3) (tb := tb35 (csL (cs35_goes rs))) (rt := 0) (fuel := 400) (fun avs M Q => []) (by decide) rfl nws8_ok (tbOK35 _) rfl (csL_all ?_) ?_ ?_ ?_
  · intro q hq
    simp only [cs35_goes, List.mem_cons, List.not_mem_nil, or_false] at hq
    rcases hq with rfl | rfl
    · exact cg3_lastOf (by decide)
    · exact cg35_sgoes (by decide)
  · intro avs M Q hsp
    obtain ⟨xs, hx⟩ := spV_un _ _ _ hsp
    obtain ⟨e, hl⟩ := unA_mk hx
    obtain ⟨o, b, load, turn, rfl⟩ := len4 hl
    have e : avs = [ar o.toNat, ai b, ai load, ai turn] := e
    subst e
    simp [szL, isL]
  · intro avs M Q hM hav hsp
    obtain ⟨xs, hx⟩ := spV_un _ _ _ hsp
    obtain ⟨e, hl⟩ := unA_mk hx
    obtain ⟨o, b, load, turn, rfl⟩ := len4 hl
    have e : avs = [ar o.toNat, ai b, ai load, ai turn] := e
    subst e
    exact in35_goes (o := ((o.toNat : Nat) : Int)) hM (hav (ai b) (by simp)) (hav (ai load) (by simp)) (hav (ai turn) (by simp)) hsp.1 hsp.2
  · intro avs M Q hM hav hsp q hq m_ vs M1 hM1 hv hJ
    obtain ⟨xs, hx⟩ := spV_un _ _ _ hsp
    obtain ⟨e, hl⟩ := unA_mk hx
    obtain ⟨o, b, load, turn, rfl⟩ := len4 hl
    have e : avs = [ar o.toNat, ai b, ai load, ai turn] := e
    subst e
    cases hq
def P4_goes (rs : List (Nat × Nat)) (o : Int) (b : Int) (load : Int) (turn : Int) (M : Mm) : Prop := o = 4 ∧ goP b load M
def R4_goes (rs : List (Nat × Nat)) (o : Int) (b : Int) (load : Int) (turn : Int) (M : Mm) (M1 : Mm) : Prop := goR 2 b load turn M M1
def sp4_goes (rs : List (Nat × Nat)) : Spec := spV false [2, 0, 0, 0] (fun x M => P4_goes rs (x 0) (x 1) (x 2) (x 3) M) (fun x M M1 => R4_goes rs (x 0) (x 1) (x 2) (x 3) M M1)
theorem c4_goes {rs : List (Nat × Nat)} {o : Nat} {b : Int} {load : Int} {turn : Int} {M : Mm} {Q : Option AV → Mm → Prop} : sp4_goes rs [ar o, ai b, ai load, ai turn] M Q = (P4_goes rs (o : Int) b load turn M ∧ ∀ (M1 : Mm), R4_goes rs (o : Int) b load turn M M1 → Q none M1) := rfl
def cs4_goes (rs : List (Nat × Nat)) : List (Nat × Nat × Nat × Spec) := [(19, 1, 2, (sp4_lastOf rs)), (23, 2, 4, (sp4_sgoes rs))]
set_option maxHeartbeats 4000000 in
set_option maxRecDepth 100000 in
theorem in4_goes {rs : List (Nat × Nat)} {o b load turn : Int} {M : Mm} {Q : Option AV → Mm → Prop} (hM : okM (sh8 rs) M) (h_b : i32 b) (h_load : i32 load) (h_turn : i32 turn) (hP : P4_goes rs o b load turn M) (hQ : ∀ (M1 : Mm), R4_goes rs o b load turn M M1 → Q none M1) : wp (tb4 (csL (cs4_goes rs))) (sh8 rs) 4 0 cX4_goes [] Q 400 0 [(0, ar o.toNat), (1, ai b), (2, ai load), (3, ai turn)] [] M := by
  obtain ⟨rfl, hG⟩ := id hP
  obtain ⟨h0, h1, h2, h3⟩ := id hG
  have hx := h0.1
  have k1 : ¬ M 15 b.toNat = 0 → 2 * load ≤ lastP (mbX M b) → Q none M := by
    intro q q2
    refine hQ _ (goR_0 hG ?_)
    unfold crossP
    rw [if_pos ⟨rfl, fun e => q ((mb_neX h0).mp e), q2⟩]
  have k0 : (M 15 b.toNat = 0 ∨ lastP (mbX M b) < 2 * load) → ∀ M1, goR 0 b load turn M M1 → Q none M1 := by
    intro q M1 hR
    refine hQ _ (goR_c ?_ hR)
    unfold crossP
    rw [if_neg (fun z => z.2.1 ((mb_neX h0).mpr (by omega))), if_neg (by omega), if_neg (by omega), if_neg (by omega)]
  simp only [e_wp dX4_goes_0 rfl, e_wp dX4_goes_1 rfl, e_wp dX4_goes_4 rfl, e_wp dX4_goes_7 rfl, e_wp dX4_goes_8 rfl, e_wp dX4_goes_9 rfl, e_wp dX4_goes_12 rfl, e_wp dX4_goes_13 rfl, e_wp dX4_goes_14 rfl, e_wp dX4_goes_15 rfl, e_wp dX4_goes_16 rfl, e_wp dX4_goes_19 rfl, e_wp dX4_goes_20 rfl, e_wp dX4_goes_23 rfl, e_wp dX4_goes_26 rfl, e_wp dX4_goes_27 rfl, e_wp dX4_goes_28 rfl, e_wp dX4_goes_29 rfl, e_wp dX4_goes_30 rfl, e_wp dX4_goes_33 rfl, g4_1, g4_13, c4_lastOf, cs4_goes, c4_sgoes, a8_13, w8_13, a8_14, w8_14, a8_15, w8_15, a8_16, w8_16, a8_17, w8_17, a8_18, w8_18, a8_19, w8_19, a8_20, w8_20, a8_21, w8_21, a8_22, w8_22, a8_23, w8_23, a8_24, w8_24, a8_25, w8_25, a8_26, w8_26, a8_27, w8_27, a8_28, w8_28, a8_29, w8_29, a8_30, w8_30, a8_31, w8_31, a8_32, w8_32, a8_33, w8_33, a8_34, w8_34, a8_35, w8_35, a8_36, w8_36, a8_37, w8_37, a8_38, w8_38, a8_39, w8_39, a8_40, w8_40, a8_12, w8_12, a8_6, a8_7, e_iconst, e_bipush, e_sipush, e_lconst_0, e_lconst_1, e_iload, e_iload_0, e_iload_1, e_iload_2, e_iload_3, e_lload, e_lload_0, e_lload_1, e_lload_2, e_lload_3, e_aload, e_aload_0, e_aload_1, e_aload_2, e_aload_3, e_istore, e_istore_0, e_istore_1, e_istore_2, e_istore_3, e_astore, e_astore_0, e_astore_1, e_astore_2, e_astore_3, e_lstore, e_lstore_0, e_lstore_1, e_lstore_2, e_lstore_3, e_iinc, e_iadd, e_isub, e_imul, e_ladd, e_lsub, e_lmul, e_idiv, e_irem, e_ldiv, e_lrem, e_ineg, e_lneg, e_iand, e_ior, e_ixor, e_ishl, e_ishr, e_iushr, e_lcmp, e_i2l, e_l2i, e_i2b, e_i2s, e_dup_i, e_dup_r, e_pop_i, e_pop_r, e_dup2_l, e_dup2_ir, e_dup2_ii, e_ifeq, e_ifne, e_iflt, e_ifge, e_ifgt, e_ifle, e_iceq, e_icne, e_iclt, e_icge, e_icgt, e_icle, e_goto, e_switch, e_invokevirtual, e_invokestatic, e_invokespecial, e_ret0, e_ret1, e_ret2, e_ret3, ldI_s, ldL_s, ldR_s, clO_s, ctP_s, ctS_s, mgo_0, mgo_s, pjc_s, pj_0, pj_s, lk_s, rm1_0, rm1_i, rm1_r, rm1_l, rm2_0, rm2_i, rm2_r, rm2_l, csL_s, lc_lt, lc_ge, lc_gt, lc_le, lc_eq, b01_0, b01_1, b01_01, b01_n, up2_o, up2_s, up2_u, ne_eq, reduceCtorEq, Nat.reduceAdd, Nat.reduceEqDiff, Nat.reduceLT, Nat.reduceLeDiff, Int.reduceLE, Int.reduceLT, Int.reduceAdd, Int.reduceNeg, Int.reduceMul, Int.reduceSub, Int.reduceEq, Int.reduceToNat, Int.reduceNatCast, Int.cast_ofNat_Int, ↓reduceIte, and_self, List.drop_succ_cons, List.drop_zero, List.take_succ_cons, List.take_zero, List.length_cons, List.length_nil, List.reverse_cons, List.reverse_nil, List.nil_append, List.cons_append, Option.toList, true_and, and_true, or_false, false_or, or_true, true_or, forall_const, Classical.not_not, not_false_eq_true, not_true_eq_false, false_implies, true_implies, implies_true, imp_self]
  refine ⟨hx, fun q => ⟨hG, k0 (Or.inl q)⟩, fun q => ⟨by omega, h0, fun q2 => k1 q q2, fun q2 => ⟨hG, k0 (Or.inr q2)⟩⟩⟩
set_option maxHeartbeats 4000000 in
set_option maxRecDepth 100000 in
theorem m4_goes {rs : List (Nat × Nat)} : MOK cl8 (sh8 rs) tyl8 Nws8 2 yX4_goes cX4_goes 4 none (sp4_goes rs) := by
  refine mok_of (own := RX4) (tb := tb4 (csL (cs4_goes rs))) (rt := 0) (fuel := 400) (fun avs M Q => []) (by decide) rfl nws8_ok (tbOK4 _) rfl (csL_all ?_) ?_ ?_ ?_
  · intro q hq
    simp only [cs4_goes, List.mem_cons, List.not_mem_nil, or_false] at hq
    rcases hq with rfl | rfl
    · exact cg4_lastOf (by decide)
    · exact cg4_sgoes (by decide)
  · intro avs M Q hsp
    obtain ⟨xs, hx⟩ := spV_un _ _ _ hsp
    obtain ⟨e, hl⟩ := unA_mk hx
    obtain ⟨o, b, load, turn, rfl⟩ := len4 hl
    have e : avs = [ar o.toNat, ai b, ai load, ai turn] := e
    subst e
    simp [szL, isL]
  · intro avs M Q hM hav hsp
    obtain ⟨xs, hx⟩ := spV_un _ _ _ hsp
    obtain ⟨e, hl⟩ := unA_mk hx
    obtain ⟨o, b, load, turn, rfl⟩ := len4 hl
    have e : avs = [ar o.toNat, ai b, ai load, ai turn] := e
    subst e
    exact in4_goes (o := ((o.toNat : Nat) : Int)) hM (hav (ai b) (by simp)) (hav (ai load) (by simp)) (hav (ai turn) (by simp)) hsp.1 hsp.2
  · intro avs M Q hM hav hsp q hq m_ vs M1 hM1 hv hJ
    obtain ⟨xs, hx⟩ := spV_un _ _ _ hsp
    obtain ⟨e, hl⟩ := unA_mk hx
    obtain ⟨o, b, load, turn, rfl⟩ := len4 hl
    have e : avs = [ar o.toNat, ai b, ai load, ai turn] := e
    subst e
    cases hq
abbrev sp5_sgoes (rs : List (Nat × Nat)) : Spec := sp35_goes rs
theorem c5_sgoes {rs : List (Nat × Nat)} {o : Nat} {b load turn : Int} {M : Mm} {Q : Option AV → Mm → Prop} : sp5_sgoes rs [ar o, ai b, ai load, ai turn] M Q = (((o : Int) = 5 ∧ goP b load M) ∧ ∀ M1, goR 1 b load turn M M1 → Q none M1) := rfl
theorem cg5_sgoes {rs : List (Nat × Nat)} {lvl : Nat} (h : 2 < lvl) : CG RX5 cl8 (sh8 rs) tyl8 Nws8 lvl 2 25 4 (sp5_sgoes rs) := cg_SU nws8_ok spV_mono (fun avs M Q h => rcv_g h (fun x M h1 => h1.1)) m35_goes h rfl (by decide) (k := 5) rfl rfl ⟨by decide, rfl⟩ q856 q2282 q310 q852 q131 q853
abbrev sp5_goes0 (rs : List (Nat × Nat)) : Spec := sp2_goes rs
theorem c5_goes0 {rs : List (Nat × Nat)} {o : Nat} {b load turn : Int} {M : Mm} {Q : Option AV → Mm → Prop} : sp5_goes0 rs [ar o, ai b, ai load, ai turn] M Q = (((o : Int) = 2 ∧ goP b load M) ∧ ∀ M1, goR 0 b load turn M M1 → Q none M1) := rfl
theorem cg5_goes0 {rs : List (Nat × Nat)} {lvl : Nat} (h : 1 < lvl) : CG RX5 cl8 (sh8 rs) tyl8 Nws8 lvl 1 19 4 (sp5_goes0 rs) := cg_VR nws8_ok spV_mono (fun avs M Q h => rcv_g h (fun x M h1 => h1.1)) m2_goes h rfl (by decide) (k := 2) rfl rfl ⟨rfl, by decide, by decide, rfl⟩ q845 q839 q840 q130 q850
def P5_goes (rs : List (Nat × Nat)) (o : Int) (b : Int) (load : Int) (turn : Int) (M : Mm) : Prop := o = 5 ∧ goP b load M ∧ M 6 0 = 2
def R5_goes (rs : List (Nat × Nat)) (o : Int) (b : Int) (load : Int) (turn : Int) (M : Mm) (M1 : Mm) : Prop := goR 3 b load turn M M1
def sp5_goes (rs : List (Nat × Nat)) : Spec := spV false [2, 0, 0, 0] (fun x M => P5_goes rs (x 0) (x 1) (x 2) (x 3) M) (fun x M M1 => R5_goes rs (x 0) (x 1) (x 2) (x 3) M M1)
theorem c5_goes {rs : List (Nat × Nat)} {o : Nat} {b : Int} {load : Int} {turn : Int} {M : Mm} {Q : Option AV → Mm → Prop} : sp5_goes rs [ar o, ai b, ai load, ai turn] M Q = (P5_goes rs (o : Int) b load turn M ∧ ∀ (M1 : Mm), R5_goes rs (o : Int) b load turn M M1 → Q none M1) := rfl
def cs5_goes (rs : List (Nat × Nat)) : List (Nat × Nat × Nat × Spec) := [(19, 1, 4, (sp5_goes0 rs)), (25, 2, 4, (sp5_sgoes rs))]
set_option maxHeartbeats 4000000 in
set_option maxRecDepth 100000 in
theorem in5_goes {rs : List (Nat × Nat)} {o b load turn : Int} {M : Mm} {Q : Option AV → Mm → Prop} (hM : okM (sh8 rs) M) (h_b : i32 b) (h_load : i32 load) (h_turn : i32 turn) (hP : P5_goes rs o b load turn M) (hQ : ∀ (M1 : Mm), R5_goes rs o b load turn M M1 → Q none M1) : wp (tb5 (csL (cs5_goes rs))) (sh8 rs) 4 0 cX5_goes [] Q 400 0 [(0, ar o.toNat), (1, ai b), (2, ai load), (3, ai turn)] [] M := by
  obtain ⟨rfl, hG, hL⟩ := id hP
  obtain ⟨h0, h1, h2, h3⟩ := id hG
  have hx := h0.1
  have hL2 : fval 2 (M 6 0) = ar 2 := by rw [hL]; rfl
  have td := tdiv_b (x := load) (n := 2) (by omega) (by omega)
  have tm : load.tmod 2 = 0 ∨ load.tmod 2 = 1 := by
    rw [Int.tmod_eq_emod_of_nonneg (by omega)]
    omega
  have k1 : ¬ load.tmod 2 = 0 → ∀ M1, goR 1 b load turn M M1 → Q none M1 := by
    intro q M1 hR
    refine hQ _ (goR_c ?_ hR)
    have c3 : crossP 3 load turn (mbX M b) = if ((3 : Int) = 1 ∨ ((3 : Int) = 3 ∧ load.tmod 2 = 1)) ∧ mbX M b ≠ [] ∧ 2 * load < lastP (mbX M b) then ((mbX M b).tail, 1) else ((load, turn) :: popP load (mbX M b), ((mbX M b).length : Int) - (popP load (mbX M b)).length) := if_neg (by omega)
    have c1 : crossP 1 load turn (mbX M b) = if ((1 : Int) = 1 ∨ ((1 : Int) = 3 ∧ load.tmod 2 = 1)) ∧ mbX M b ≠ [] ∧ 2 * load < lastP (mbX M b) then ((mbX M b).tail, 1) else ((load, turn) :: popP load (mbX M b), ((mbX M b).length : Int) - (popP load (mbX M b)).length) := if_neg (by omega)
    rw [c3, c1]
    by_cases z : mbX M b ≠ [] ∧ 2 * load < lastP (mbX M b)
    · rw [if_pos ⟨Or.inr ⟨rfl, by omega⟩, z.1, z.2⟩, if_pos ⟨Or.inl rfl, z.1, z.2⟩]
    · rw [if_neg (fun y => z ⟨y.2.1, y.2.2⟩), if_neg (fun y => z ⟨y.2.1, y.2.2⟩)]
  have k0 : load.tmod 2 = 0 → ∀ M1, goR 0 b load turn M M1 → Q none M1 := by
    intro q M1 hR
    refine hQ _ (goR_c ?_ hR)
    unfold crossP
    rw [if_neg (by omega), if_neg (by omega), if_neg (by omega), if_neg (by omega)]
  simp only [e_wp dX5_goes_0 rfl, e_wp dX5_goes_1 rfl, e_wp dX5_goes_2 rfl, e_wp dX5_goes_3 rfl, e_wp dX5_goes_6 rfl, e_wp dX5_goes_7 rfl, e_wp dX5_goes_10 rfl, e_wp dX5_goes_13 rfl, e_wp dX5_goes_14 rfl, e_wp dX5_goes_15 rfl, e_wp dX5_goes_16 rfl, e_wp dX5_goes_17 rfl, e_wp dX5_goes_18 rfl, e_wp dX5_goes_21 rfl, e_wp dX5_goes_24 rfl, e_wp dX5_goes_25 rfl, e_wp dX5_goes_26 rfl, e_wp dX5_goes_27 rfl, e_wp dX5_goes_28 rfl, e_wp dX5_goes_31 rfl, g5_1, g5_13, c5_goes0, cs5_goes, c5_sgoes, a8_13, w8_13, a8_14, w8_14, a8_15, w8_15, a8_16, w8_16, a8_17, w8_17, a8_18, w8_18, a8_19, w8_19, a8_20, w8_20, a8_21, w8_21, a8_22, w8_22, a8_23, w8_23, a8_24, w8_24, a8_25, w8_25, a8_26, w8_26, a8_27, w8_27, a8_28, w8_28, a8_29, w8_29, a8_30, w8_30, a8_31, w8_31, a8_32, w8_32, a8_33, w8_33, a8_34, w8_34, a8_35, w8_35, a8_36, w8_36, a8_37, w8_37, a8_38, w8_38, a8_39, w8_39, a8_40, w8_40, a8_12, w8_12, a8_6, a8_7, e_iconst, e_bipush, e_sipush, e_lconst_0, e_lconst_1, e_iload, e_iload_0, e_iload_1, e_iload_2, e_iload_3, e_lload, e_lload_0, e_lload_1, e_lload_2, e_lload_3, e_aload, e_aload_0, e_aload_1, e_aload_2, e_aload_3, e_istore, e_istore_0, e_istore_1, e_istore_2, e_istore_3, e_astore, e_astore_0, e_astore_1, e_astore_2, e_astore_3, e_lstore, e_lstore_0, e_lstore_1, e_lstore_2, e_lstore_3, e_iinc, e_iadd, e_isub, e_imul, e_ladd, e_lsub, e_lmul, e_idiv, e_irem, e_ldiv, e_lrem, e_ineg, e_lneg, e_iand, e_ior, e_ixor, e_ishl, e_ishr, e_iushr, e_lcmp, e_i2l, e_l2i, e_i2b, e_i2s, e_dup_i, e_dup_r, e_pop_i, e_pop_r, e_dup2_l, e_dup2_ir, e_dup2_ii, e_ifeq, e_ifne, e_iflt, e_ifge, e_ifgt, e_ifle, e_iceq, e_icne, e_iclt, e_icge, e_icgt, e_icle, e_goto, e_switch, e_invokevirtual, e_invokestatic, e_invokespecial, e_ret0, e_ret1, e_ret2, e_ret3, ldI_s, ldL_s, ldR_s, clO_s, ctP_s, ctS_s, mgo_0, mgo_s, pjc_s, pj_0, pj_s, lk_s, rm1_0, rm1_i, rm1_r, rm1_l, rm2_0, rm2_i, rm2_r, rm2_l, csL_s, lc_lt, lc_ge, lc_gt, lc_le, lc_eq, b01_0, b01_1, b01_01, b01_n, up2_o, up2_s, up2_u, ne_eq, reduceCtorEq, Nat.reduceAdd, Nat.reduceEqDiff, Nat.reduceLT, Nat.reduceLeDiff, Int.reduceLE, Int.reduceLT, Int.reduceAdd, Int.reduceNeg, Int.reduceMul, Int.reduceSub, Int.reduceEq, Int.reduceToNat, Int.reduceNatCast, Int.cast_ofNat_Int, ↓reduceIte, and_self, List.drop_succ_cons, List.drop_zero, List.take_succ_cons, List.take_zero, List.length_cons, List.length_nil, List.reverse_cons, List.reverse_nil, List.nil_append, List.cons_append, Option.toList, true_and, and_true, or_false, false_or, or_true, true_or, forall_const, Classical.not_not, not_false_eq_true, not_true_eq_false, false_implies, true_implies, implies_true, imp_self, hL2]
  refine ⟨⟨by omega, by omega⟩, fun q => ⟨hG, k1 q⟩, fun q => ⟨hG, k0 q⟩⟩
set_option maxHeartbeats 4000000 in
set_option maxRecDepth 100000 in
theorem m5_goes {rs : List (Nat × Nat)} : MOK cl8 (sh8 rs) tyl8 Nws8 3 yX5_goes cX5_goes 4 none (sp5_goes rs) := by
  refine mok_of (own := RX5) (tb := tb5 (csL (cs5_goes rs))) (rt := 0) (fuel := 400) (fun avs M Q => []) (by decide) rfl nws8_ok (tbOK5 _) rfl (csL_all ?_) ?_ ?_ ?_
  · intro q hq
    simp only [cs5_goes, List.mem_cons, List.not_mem_nil, or_false] at hq
    rcases hq with rfl | rfl
    · exact cg5_goes0 (by decide)
    · exact cg5_sgoes (by decide)
  · intro avs M Q hsp
    obtain ⟨xs, hx⟩ := spV_un _ _ _ hsp
    obtain ⟨e, hl⟩ := unA_mk hx
    obtain ⟨o, b, load, turn, rfl⟩ := len4 hl
    have e : avs = [ar o.toNat, ai b, ai load, ai turn] := e
    subst e
    simp [szL, isL]
  · intro avs M Q hM hav hsp
    obtain ⟨xs, hx⟩ := spV_un _ _ _ hsp
    obtain ⟨e, hl⟩ := unA_mk hx
    obtain ⟨o, b, load, turn, rfl⟩ := len4 hl
    have e : avs = [ar o.toNat, ai b, ai load, ai turn] := e
    subst e
    exact in5_goes (o := ((o.toNat : Nat) : Int)) hM (hav (ai b) (by simp)) (hav (ai load) (by simp)) (hav (ai turn) (by simp)) hsp.1 hsp.2
  · intro avs M Q hM hav hsp q hq m_ vs M1 hM1 hv hJ
    obtain ⟨xs, hx⟩ := spV_un _ _ _ hsp
    obtain ⟨e, hl⟩ := unA_mk hx
    obtain ⟨o, b, load, turn, rfl⟩ := len4 hl
    have e : avs = [ar o.toNat, ai b, ai load, ai turn] := e
    subst e
    cases hq
