/-! SagMemory: what is asked of a slot whose row isn't there: -6 by what was thrown -/
theorem th_catch {rs : List (Nat × Nat)} {p : Program} {l : Launch} {e : Env} {R : Room} {s : State} {m : MethodId} {args : Array Value} {below : List Frame} {meth : Method} {c : Code} {QQ : State → Prop} {cc : ByteArray} {D : va_G} {A : Nat → Prop} {ad : Nat → Nat} {ca : Nat → ClassId} {own : String} {nL mc ms : Nat} {Q : Option AV → Mm → Prop} {fl : FLP} {hh : List (Nat × Nat × Nat × Nat)}
    (F : fx p s m args c cc D cl8 ca tyl8 own Nws8) (htab : c.exceptionTable.toList = tableOf hh) (hrt : rtOK 1 meth.sig.returnType) (hlocks : meth.locks = false) (hR : ∀ (H : Heap) (locs : List Loc) (g : JFrame), W p l e R s m args below meth c H locs mc ms (MQ below (vq D cl8 tyl8 ad ca (sh8 rs) A Q) args s mc ms A) g → W p l e R s m args below meth c H locs mc ms QQ g)
    {pc : Nat} {M' : Mm} (pre : List ExceptionTableEntry) (x : ExceptionTableEntry) (suf : List ExceptionTableEntry) (hsplit : tableOf hh = pre ++ x :: suf) {E name : String} (hpass : ∀ z ∈ pre, covers z pc = false ∨ (z.catchType ≠ 0 ∧ ∃ nm : String, Cond.classLink own z.catchType nm ∈ lw_all ∧ Cond.not (Cond.castable E nm) ∈ Nws8)) (hx : covers x pc = true) (h0 : x.catchType ≠ 0) (hlink : Cond.classLink own x.catchType name ∈ lw_all) (hcast : Cond.castable E name ∈ Nws8) (hE : excN (M' 0 900000).toNat = E)
    {v : Int} (d1 : (∃ k : Fin 4, k.val < nL ∧ decode cc x.handlerPc = .ok (.astore_n k, 1) ∧ decode cc (x.handlerPc + 1) = .ok (.bipush v, 2) ∧ decode cc (x.handlerPc + 3) = .ok (.ireturn, 1)) ∨ (∃ k : Nat, k < nL ∧ decode cc x.handlerPc = .ok (.astore k, 2) ∧ decode cc (x.handlerPc + 2) = .ok (.bipush v, 2) ∧ decode cc (x.handlerPc + 4) = .ok (.ireturn, 1))) (hv : -128 ≤ v ∧ v ≤ 127) (hQ : Q (some (ai v)) M') :
    thW p l e R s m args below meth c QQ D cl8 A ad ca (sh8 rs) fl nL mc ms pc M' := by
  intro ls H locs rest q ce h1 h2 h3 h4 h5 h6 h7 h8 _
  rw [hE] at h8
  refine vx_catch F.2.2.1 pre x suf (htab.trans hsplit) (fun z hz => ?_) hx h0 (F.2.2.2.1 _ hlink) (F.2.2.2.2.1 _ hcast) h6 h7 h8 ?_
  · rcases hpass z hz with h | ⟨h9, nm, k1, k2⟩
    · exact Or.inl h
    · exact Or.inr ⟨h9, nm, F.2.2.2.1 _ k1, va_Nc.of (F.2.2.2.2.1 _ k2)⟩
  · exact hd_n F hR hrt hlocks d1 hv hQ h1 h2 h3 h4 h5
/-- no row is there -/
abbrev bkN (s b : Int) (M : Mm) : Prop := okX M ∧ okWi M ∧ ((0 ≤ s ∧ s ≤ 3) ∧ isB (vX M) b) ∧ M (8 + s.toNat) 0 < 0
abbrev boN (s : Int) (M : Mm) : Prop := okX M ∧ ((0 ≤ s ∧ s ≤ 3) ∧ 0 < vX M 0 8) ∧ M (8 + s.toNat) 0 < 0
abbrev sixZ (r : Option AV) (M M1 : Mm) : Prop := r = some (ai (-6)) ∧ ∃ M2, keepZ 7200 M M2 ∧ M1 = gh M2 0
abbrev sixX (r : Option AV) (M M1 : Mm) : Prop := r = some (ai (-6)) ∧ M1 = gh M 0
theorem hH_back {rs : List (Nat × Nat)} : ∀ (p : Program) (l : Launch) (e : Env) (R : Room) (s : State) (m : MethodId) (args : Array Value) (below : List Frame) (meth : Method) (c : Code) (QQ : State → Prop) (D : va_G) (A : Nat → Prop) (ad : Nat → Nat) (ca : Nat → ClassId) (Q : Option AV → Mm → Prop), fx p s m args c cX0_asksBack D cl8 ca tyl8 RX0 Nws8 → c.exceptionTable.toList = tableOf [(19, 89, 90, 345)] → rtOK 1 meth.sig.returnType → meth.locks = false → (∀ (H : Heap) (locs : List Loc) (g : JFrame), W p l e R s m args below meth c H locs 3 222 (MQ below (vq D cl8 tyl8 ad ca (sh8 rs) A Q) args s 3 222 A) g → W p l e R s m args below meth c H locs 3 222 QQ g) → ∀ pc M', (pc = 53 ∧ M' 0 900000 = 0 ∧ Q (some (ai (-6))) M') → thW p l e R s m args below meth c QQ D cl8 A ad ca (sh8 rs) fl0 4 3 222 pc M' := by
  intro p l e R s m args below meth c QQ D A ad ca Q F htab hrt hlocks hR pc M' h
  obtain ⟨rfl, h1, h2⟩ := h
  exact th_catch F htab hrt hlocks hR [] _ _ rfl (fun z hz => by cases hz) rfl (by decide) q1055 n_q1077 (by rw [h1]; rfl) (Or.inl ⟨3, by decide, dX0_asksBack_90, dX0_asksBack_91, dX0_asksBack_93⟩) (by decide) h2
theorem hH_book {rs : List (Nat × Nat)} : ∀ (p : Program) (l : Launch) (e : Env) (R : Room) (s : State) (m : MethodId) (args : Array Value) (below : List Frame) (meth : Method) (c : Code) (QQ : State → Prop) (D : va_G) (A : Nat → Prop) (ad : Nat → Nat) (ca : Nat → ClassId) (Q : Option AV → Mm → Prop), fx p s m args c cX0_asksBook D cl8 ca tyl8 RX0 Nws8 → c.exceptionTable.toList = tableOf [(17, 35, 104, 345), (36, 91, 104, 345), (92, 103, 104, 345)] → rtOK 1 meth.sig.returnType → meth.locks = false → (∀ (H : Heap) (locs : List Loc) (g : JFrame), W p l e R s m args below meth c H locs 3 222 (MQ below (vq D cl8 tyl8 ad ca (sh8 rs) A Q) args s 3 222 A) g → W p l e R s m args below meth c H locs 3 222 QQ g) → ∀ pc M', (pc = 25 ∧ M' 0 900000 = 0 ∧ Q (some (ai (-6))) M') → thW p l e R s m args below meth c QQ D cl8 A ad ca (sh8 rs) fl0 4 3 222 pc M' := by
  intro p l e R s m args below meth c QQ D A ad ca Q F htab hrt hlocks hR pc M' h
  obtain ⟨rfl, h1, h2⟩ := h
  exact th_catch F htab hrt hlocks hR [] _ _ rfl (fun z hz => by cases hz) rfl (by decide) q1055 n_q1077 (by rw [h1]; rfl) (Or.inl ⟨2, by decide, dX0_asksBook_104, dX0_asksBook_105, dX0_asksBook_107⟩) (by decide) h2
def P0_asksBackN (rs : List (Nat × Nat)) (s : Int) (b : Int) (M : Mm) : Prop := bkN s b M
def R0_asksBackN (rs : List (Nat × Nat)) (s : Int) (b : Int) (M : Mm) (r : Option AV) (M1 : Mm) : Prop := sixZ r M M1
def sp0_asksBackN (rs : List (Nat × Nat)) : Spec := spX true [0, 0] (fun x M => P0_asksBackN rs (x 0) (x 1) M) (fun x M r M1 => R0_asksBackN rs (x 0) (x 1) M r M1)
theorem c0_asksBackN {rs : List (Nat × Nat)} {s b : Int} {M : Mm} {Q : Option AV → Mm → Prop} : sp0_asksBackN rs [ar 0, ai s, ai b] M Q = (P0_asksBackN rs s b M ∧ ∀ (r : Option AV) (M1 : Mm), R0_asksBackN rs s b M r M1 → Q r M1) := rfl
def cs0_asksBackN (rs : List (Nat × Nat)) : List (Nat × Nat × Nat × Spec) := [(330, 0, 1, (sp0_isSlot rs)), (167, 1, 2, (sp0_isBridge rs)), (250, 1, 1, (sp0_asItIs rs)), (336, 1, 1, (sp0_all_2 rs)), (339, 1, 2, (sp0_toldBy rs))]
def xs0_asksBackN (rs : List (Nat × Nat)) : List (Nat × Nat × Nat × Spec) := [(3425, 1, 3, sp0_isLeftN rs)]
def J0_asksBackN_30 (rs : List (Nat × Nat)) (s : Int) (b : Int) (M : Mm) (m : Nat) (s_ : Int) (b_ : Int) (x : Int) (M1 : Mm) : Prop := s = s_ ∧ b = b_ ∧ x = 0 ∧ bckI M M1 0 (vX M) (slX rs M s.toNat) b ∧ m = 0
set_option maxHeartbeats 4000000 in
set_option maxRecDepth 100000 in
theorem in0_asksBackN {rs : List (Nat × Nat)} {s b : Int} {M : Mm} {Q : Option AV → Mm → Prop} (hM : okM (sh8 rs) M) (h_s : i32 s) (h_b : i32 b) (hP : P0_asksBackN rs s b M) (hQ : ∀ (r : Option AV) (M1 : Mm), R0_asksBackN rs s b M r M1 → Q r M1) (I_30 : List AV → Mm → Prop) (hI_30 : ∀ (m_ : Nat) (y_s_ : Int) (y_b_ : Int) (y_x : Int) (M2 : Mm), J0_asksBackN_30 rs s b M m_ y_s_ y_b_ y_x M2 → I_30 [ar 0, ai y_s_, ai y_b_, ai y_x] M2) : wpx (tb0 (csL (cs0_asksBackN rs))) (csL (xs0_asksBackN rs)) (sh8 rs) 4 1 cX0_asksBack [(30, [0, 1, 2, 3], I_30)] Q (fun pc M1 => pc = 53 ∧ M1 0 900000 = 0 ∧ Q (some (ai (-6))) M1) 400 false 0 [(0, ar 0), (1, ai s), (2, ai b)] [] M := by
  obtain ⟨⟨hY, hB⟩, hw, ⟨hs, hb⟩, hn⟩ := id hP
  have h3 : 0 ≤ M 1 4 ∧ M 1 4 ≤ 3 := (okY_n hY).1
  simp only [e_wpy (k := 9) dX0_asksBack_0 rfl rfl rfl, e_wpy (k := 3306) dX0_asksBack_1 rfl rfl rfl, e_wpy (k := 9) dX0_asksBack_4 rfl rfl rfl, e_wpy (k := 9) dX0_asksBack_7 rfl rfl rfl, e_wpy (k := 9) dX0_asksBack_8 rfl rfl rfl, e_wpy (k := 9) dX0_asksBack_9 rfl rfl rfl, e_wpy (k := 1675) dX0_asksBack_10 rfl rfl rfl, e_wpy (k := 9) dX0_asksBack_13 rfl rfl rfl, e_wpy (k := 9) dX0_asksBack_16 rfl rfl rfl, e_wpy (k := 9) dX0_asksBack_18 rfl rfl rfl, e_wpy (k := 9) dX0_asksBack_19 rfl rfl rfl, e_wpy (k := 2505) dX0_asksBack_20 rfl rfl rfl, e_wpy (k := 9) dX0_asksBack_23 rfl rfl rfl, e_wpy (k := 9) dX0_asksBack_24 rfl rfl rfl, e_wpy (k := 9) dX0_asksBack_25 rfl rfl rfl, e_wpy (k := 9) dX0_asksBack_28 rfl rfl rfl, e_wpy (k := 9) dX0_asksBack_29 rfl rfl rfl, e_wpy (k := 9) dX0_asksBack_30 rfl rfl rfl, e_wpy (k := 9) dX0_asksBack_31 rfl rfl rfl, e_wpy (k := 3365) dX0_asksBack_32 rfl rfl rfl, e_wpy (k := 9) dX0_asksBack_35 rfl rfl rfl, e_wpy (k := 9) dX0_asksBack_38 rfl rfl rfl, e_wpy (k := 9) dX0_asksBack_39 rfl rfl rfl, e_wpy (k := 9) dX0_asksBack_40 rfl rfl rfl, e_wpy (k := 3395) dX0_asksBack_41 rfl rfl rfl, e_wpy (k := 9) dX0_asksBack_44 rfl rfl rfl, e_wpy (k := 9) dX0_asksBack_45 rfl rfl rfl, e_wpy (k := 9) dX0_asksBack_46 rfl rfl rfl, e_wpy (k := 9) dX0_asksBack_47 rfl rfl rfl, e_wpy (k := 9) dX0_asksBack_50 rfl rfl rfl, e_wpy (k := 9) dX0_asksBack_51 rfl rfl rfl, e_wpy (k := 9) dX0_asksBack_52 rfl rfl rfl, e_wpy (k := 3425) dX0_asksBack_53 rfl rfl rfl, e_wpy (k := 9) dX0_asksBack_56 rfl rfl rfl, e_wpy (k := 9) dX0_asksBack_59 rfl rfl rfl, e_wpy (k := 9) dX0_asksBack_62 rfl rfl rfl, e_wpy (k := 9) dX0_asksBack_63 rfl rfl rfl, e_wpy (k := 9) dX0_asksBack_66 rfl rfl rfl, e_wpy (k := 9) dX0_asksBack_67 rfl rfl rfl, e_wpy (k := 9) dX0_asksBack_70 rfl rfl rfl, e_wpy (k := 58) dX0_asksBack_71 rfl rfl rfl, e_wpy (k := 9) dX0_asksBack_72 rfl rfl rfl, e_wpy (k := 9) dX0_asksBack_73 rfl rfl rfl, e_wpy (k := 9) dX0_asksBack_74 rfl rfl rfl, e_wpy (k := 9) dX0_asksBack_77 rfl rfl rfl, e_wpy (k := 9) dX0_asksBack_78 rfl rfl rfl, e_wpy (k := 9) dX0_asksBack_79 rfl rfl rfl, e_wpy (k := 9) dX0_asksBack_82 rfl rfl rfl, e_wpy (k := 9) dX0_asksBack_85 rfl rfl rfl, e_wpy (k := 9) dX0_asksBack_88 rfl rfl rfl, e_wpy (k := 9) dX0_asksBack_89 rfl rfl rfl, e_wpy (k := 9) dX0_asksBack_90 rfl rfl rfl, e_wpy (k := 9) dX0_asksBack_91 rfl rfl rfl, e_wpy (k := 9) dX0_asksBack_93 rfl rfl rfl, xoff_a, ex_null_n, ex_null_r, ex_nonn_n, ex_nonn_r, ex_aret, xel_n, xel_s, xgo_0, xgo_1x, xgo_1v, xgo_1i, xgo_1l, xgo_1r, xgo_2, xgo_3, xgo_4, xgo_5x, xgo_5v, xgo_5i, xgo_5l, xgd_5, xgd_0, xgd_1, xgd_2, xgd_3, xgd_4, ath_y, xct_f, xct_t, xna_f, csL_n, Nat.reduceMul, retX_i, retX_l, retX_r, retX_v, c0_isLeftN, P0_isLeftN, xs0_asksBackN, c0_isSlot, P0_isSlot, V0_isSlot, cs0_asksBackN, c0_isBridge, P0_isBridge, V0_isBridge, c0_asItIs, p0_333, c0_all_2, P0_all_2, V0_all_2, c0_toldBy, P0_toldBy, V0_toldBy, g0_98, g0_333, a8_13, w8_13, a8_14, w8_14, a8_15, w8_15, a8_16, w8_16, a8_17, w8_17, a8_18, w8_18, a8_19, w8_19, a8_20, w8_20, a8_21, w8_21, a8_22, w8_22, a8_23, w8_23, a8_24, w8_24, a8_25, w8_25, a8_26, w8_26, a8_27, w8_27, a8_28, w8_28, a8_29, w8_29, a8_30, w8_30, a8_31, w8_31, a8_32, w8_32, a8_33, w8_33, a8_34, w8_34, a8_35, w8_35, a8_36, w8_36, a8_37, w8_37, a8_38, w8_38, a8_39, w8_39, a8_40, w8_40, a8_12, w8_12, a8_6, a8_7, e_iconst, e_bipush, e_sipush, e_lconst_0, e_lconst_1, e_iload, e_iload_0, e_iload_1, e_iload_2, e_iload_3, e_lload, e_lload_0, e_lload_1, e_lload_2, e_lload_3, e_aload, e_aload_0, e_aload_1, e_aload_2, e_aload_3, e_istore, e_istore_0, e_istore_1, e_istore_2, e_istore_3, e_astore, e_astore_0, e_astore_1, e_astore_2, e_astore_3, e_lstore, e_lstore_0, e_lstore_1, e_lstore_2, e_lstore_3, e_iinc, e_iadd, e_isub, e_imul, e_ladd, e_lsub, e_lmul, e_idiv, e_irem, e_ldiv, e_lrem, e_ineg, e_lneg, e_iand, e_ior, e_ixor, e_ishl, e_ishr, e_iushr, e_lcmp, e_i2l, e_l2i, e_i2b, e_i2s, e_dup_i, e_dup_r, e_pop_i, e_pop_r, e_dup2_l, e_dup2_ir, e_dup2_ii, e_ifeq, e_ifne, e_iflt, e_ifge, e_ifgt, e_ifle, e_iceq, e_icne, e_iclt, e_icge, e_icgt, e_icle, e_goto, e_switch, e_invokevirtual, e_invokestatic, e_invokespecial, e_ret0, e_ret1, e_ret2, e_ret3, ldI_s, ldL_s, ldR_s, clO_s, ctP_s, ctS_s, mgo_0, mgo_s, pjc_s, pj_0, pj_s, lk_s, rm1_0, rm1_i, rm1_r, rm1_l, rm2_0, rm2_i, rm2_r, rm2_l, csL_s, lc_lt, lc_ge, lc_gt, lc_le, lc_eq, b01_0, b01_1, b01_01, b01_n, up2_o, up2_s, up2_u, ne_eq, reduceCtorEq, Nat.reduceAdd, Nat.reduceEqDiff, Nat.reduceLT, Nat.reduceLeDiff, Int.reduceLE, Int.reduceLT, Int.reduceAdd, Int.reduceNeg, Int.reduceMul, Int.reduceSub, Int.reduceEq, Int.reduceToNat, Int.reduceNatCast, Int.cast_ofNat_Int, ↓reduceIte, and_self, List.drop_succ_cons, List.drop_zero, List.take_succ_cons, List.take_zero, List.length_cons, List.length_nil, List.reverse_cons, List.reverse_nil, List.nil_append, List.cons_append, Option.toList, true_and, and_true, or_false, false_or, or_true, true_or, forall_const, Classical.not_not, not_false_eq_true, not_true_eq_false, false_implies, true_implies, implies_true, imp_self]
  refine ⟨fun q => absurd hs q, fun q => ⟨h3, fun q2 => ⟨⟨hY, hB⟩, fun M1 hR => ?_⟩, fun q2 => absurd hb q2⟩⟩
  obtain ⟨r1, r2, r3⟩ := hR
  have hl := tellX_l r3
  refine hI_30 0 _ _ _ _ ⟨rfl, rfl, rfl, ⟨frm_up (frm_w r1 (by decide)) (by decide), fun j hj => ?_, ?_, ?_, ?_, ?_⟩, rfl⟩
  · simp only [List.mem_cons, List.not_mem_nil, or_false] at hj
    rw [up2_n (by omega)]
    exact r2 j (by omega) (by omega) (by omega)
  · rw [up2_n (by decide)]; exact hl
  · rw [up2_n (by decide), r2 8 (by decide) (by decide) (by decide)]; omega
  · rw [up2_s]; rfl
  · unfold bkX
    rw [up2_s]; rfl
set_option maxHeartbeats 4000000 in
set_option maxRecDepth 100000 in
theorem at0_asksBackN_30 {rs : List (Nat × Nat)} {s b : Int} {M : Mm} {Q : Option AV → Mm → Prop} (hM : okM (sh8 rs) M) (h_s : i32 s) (h_b : i32 b) (hP : P0_asksBackN rs s b M) (hQ : ∀ (r : Option AV) (M1 : Mm), R0_asksBackN rs s b M r M1 → Q r M1) {m : Nat} {s_ b_ x : Int} {M1 : Mm} (hM1 : okM (sh8 rs) M1) (h_s_ : i32 s_) (h_b_ : i32 b_) (h_x : i32 x) (hJ : J0_asksBackN_30 rs s b M m s_ b_ x M1) (I_30 : List AV → Mm → Prop) (hI_30 : ∀ (m_ : Nat) (y_s_ : Int) (y_b_ : Int) (y_x : Int) (M2 : Mm), m_ < m → J0_asksBackN_30 rs s b M m_ y_s_ y_b_ y_x M2 → I_30 [ar 0, ai y_s_, ai y_b_, ai y_x] M2) : wpx (tb0 (csL (cs0_asksBackN rs))) (csL (xs0_asksBackN rs)) (sh8 rs) 4 1 cX0_asksBack [(30, [0, 1, 2, 3], I_30)] Q (fun pc M1 => pc = 53 ∧ M1 0 900000 = 0 ∧ Q (some (ai (-6))) M1) 400 false 30 [(0, ar 0), (1, ai s_), (2, ai b_), (3, ai x)] [] M1 := by
  obtain ⟨rfl, rfl, rfl, hz, rfl⟩ := hJ
  obtain ⟨⟨hY, hB⟩, hw, ⟨hs, hb⟩, hn⟩ := id hP
  obtain ⟨z1, z2, z3, z4, z5, z6⟩ := id hz
  have h4 : 0 ≤ M 1 5 ∧ M 1 5 ≤ 7 := (okY_n hY).2.1
  have e1 : M1 1 = M 1 := z1 _ (by decide)
  have eV : vX M1 = vX M := vX_frm z1 (by decide)
  have hB1 : baseI M1 := base_f z1 (by decide) (by decide) hB
  have e80 : M1 (8 + s.toNat) 0 = M (8 + s.toNat) 0 := congrFun (z1 _ (by simp only [List.mem_cons, List.not_mem_nil, or_false]; omega)) 0
  have hp := pow7 (n := (M 1 5).toNat) (by omega)
  have hpw : (((2 : Nat) ^ (M 1 5).toNat : Nat) : Int) = (2 : Int) ^ (M 1 5).toNat := Int.natCast_pow 2 _
  simp only [e_wpy (k := 9) dX0_asksBack_30 rfl rfl rfl, e_wpy (k := 9) dX0_asksBack_31 rfl rfl rfl, e_wpy (k := 3365) dX0_asksBack_32 rfl rfl rfl, e_wpy (k := 9) dX0_asksBack_35 rfl rfl rfl, e_wpy (k := 9) dX0_asksBack_38 rfl rfl rfl, e_wpy (k := 9) dX0_asksBack_39 rfl rfl rfl, e_wpy (k := 9) dX0_asksBack_40 rfl rfl rfl, e_wpy (k := 3395) dX0_asksBack_41 rfl rfl rfl, e_wpy (k := 9) dX0_asksBack_44 rfl rfl rfl, e_wpy (k := 9) dX0_asksBack_45 rfl rfl rfl, e_wpy (k := 9) dX0_asksBack_46 rfl rfl rfl, e_wpy (k := 9) dX0_asksBack_47 rfl rfl rfl, e_wpy (k := 9) dX0_asksBack_50 rfl rfl rfl, e_wpy (k := 9) dX0_asksBack_51 rfl rfl rfl, e_wpy (k := 9) dX0_asksBack_52 rfl rfl rfl, e_wpy (k := 3425) dX0_asksBack_53 rfl rfl rfl, xoff_a, ex_null_n, ex_null_r, ex_nonn_n, ex_nonn_r, ex_aret, xel_n, xel_s, xgo_0, xgo_1x, xgo_1v, xgo_1i, xgo_1l, xgo_1r, xgo_2, xgo_3, xgo_4, xgo_5x, xgo_5v, xgo_5i, xgo_5l, xgd_5, xgd_0, xgd_1, xgd_2, xgd_3, xgd_4, ath_y, xct_f, xct_t, xna_f, csL_n, Nat.reduceMul, retX_i, retX_l, retX_r, retX_v, c0_isLeftN, P0_isLeftN, xs0_asksBackN, c0_isSlot, P0_isSlot, V0_isSlot, cs0_asksBackN, c0_isBridge, P0_isBridge, V0_isBridge, c0_asItIs, p0_333, c0_all_2, P0_all_2, V0_all_2, c0_toldBy, P0_toldBy, V0_toldBy, g0_98, g0_333, a8_13, w8_13, a8_14, w8_14, a8_15, w8_15, a8_16, w8_16, a8_17, w8_17, a8_18, w8_18, a8_19, w8_19, a8_20, w8_20, a8_21, w8_21, a8_22, w8_22, a8_23, w8_23, a8_24, w8_24, a8_25, w8_25, a8_26, w8_26, a8_27, w8_27, a8_28, w8_28, a8_29, w8_29, a8_30, w8_30, a8_31, w8_31, a8_32, w8_32, a8_33, w8_33, a8_34, w8_34, a8_35, w8_35, a8_36, w8_36, a8_37, w8_37, a8_38, w8_38, a8_39, w8_39, a8_40, w8_40, a8_12, w8_12, a8_6, a8_7, e_iconst, e_bipush, e_sipush, e_lconst_0, e_lconst_1, e_iload, e_iload_0, e_iload_1, e_iload_2, e_iload_3, e_lload, e_lload_0, e_lload_1, e_lload_2, e_lload_3, e_aload, e_aload_0, e_aload_1, e_aload_2, e_aload_3, e_istore, e_istore_0, e_istore_1, e_istore_2, e_istore_3, e_astore, e_astore_0, e_astore_1, e_astore_2, e_astore_3, e_lstore, e_lstore_0, e_lstore_1, e_lstore_2, e_lstore_3, e_iinc, e_iadd, e_isub, e_imul, e_ladd, e_lsub, e_lmul, e_idiv, e_irem, e_ldiv, e_lrem, e_ineg, e_lneg, e_iand, e_ior, e_ixor, e_ishl, e_ishr, e_iushr, e_lcmp, e_i2l, e_l2i, e_i2b, e_i2s, e_dup_i, e_dup_r, e_pop_i, e_pop_r, e_dup2_l, e_dup2_ir, e_dup2_ii, e_ifeq, e_ifne, e_iflt, e_ifge, e_ifgt, e_ifle, e_iceq, e_icne, e_iclt, e_icge, e_icgt, e_icle, e_goto, e_switch, e_invokevirtual, e_invokestatic, e_invokespecial, e_ret0, e_ret1, e_ret2, e_ret3, ldI_s, ldL_s, ldR_s, clO_s, ctP_s, ctS_s, mgo_0, mgo_s, pjc_s, pj_0, pj_s, lk_s, rm1_0, rm1_i, rm1_r, rm1_l, rm2_0, rm2_i, rm2_r, rm2_l, csL_s, lc_lt, lc_ge, lc_gt, lc_le, lc_eq, b01_0, b01_1, b01_01, b01_n, up2_o, up2_s, up2_u, ne_eq, reduceCtorEq, Nat.reduceAdd, Nat.reduceEqDiff, Nat.reduceLT, Nat.reduceLeDiff, Int.reduceLE, Int.reduceLT, Int.reduceAdd, Int.reduceNeg, Int.reduceMul, Int.reduceSub, Int.reduceEq, Int.reduceToNat, Int.reduceNatCast, Int.cast_ofNat_Int, ↓reduceIte, and_self, List.drop_succ_cons, List.drop_zero, List.take_succ_cons, List.take_zero, List.length_cons, List.length_nil, List.reverse_cons, List.reverse_nil, List.nil_append, List.cons_append, Option.toList, true_and, and_true, or_false, false_or, or_true, true_or, forall_const, Classical.not_not, not_false_eq_true, not_true_eq_false, false_implies, true_implies, implies_true, imp_self, e1, eV]
  rw [← hpw]
  have hp1 : (1 : Nat) ≤ 2 ^ (M 1 5).toNat := Nat.one_le_two_pow
  refine ⟨h4, fun q => by omega, fun q => ⟨h4, fun q2 => absurd (band_0 _) q2, fun q2 => ⟨⟨⟨by rw [eV]; exact hY, hB1⟩, hs, by rw [e80]; exact hn⟩, fun r M2 hR => ?_⟩⟩⟩
  obtain ⟨rfl, M3, hf, rfl⟩ := hR
  simp only [xgo_1x]
  refine ⟨up2_s, hQ _ _ ⟨rfl, M3, ⟨frm_w (frm_tr z1 hf (by decide)) (by decide), fun j hj => by rw [hf 0 (by decide)]; exact z2 j hj, fun B h8 hb => ?_⟩, rfl⟩⟩
  have h0 := congrFun (hf 0 (by decide)) 8
  omega
set_option maxHeartbeats 4000000 in
set_option maxRecDepth 100000 in
theorem m0_asksBackN {rs : List (Nat × Nat)} : MOKA cl8 (sh8 rs) tyl8 Nws8 evE 202 3 222 yX0_asksBack (wsW_ yX0_asksBack cX0_asksBack 4 (some .int) [(19, 89, 90, 345)]) (sp0_asksBackN rs) := by
  refine mokAH_of (own := RX0) (fl := fl0) (tb := tb0 (csL (cs0_asksBackN rs))) (xt := csL (xs0_asksBackN rs)) (rt := 1) (fuel := 400) (thx := fun Q pc M1 => pc = 53 ∧ M1 0 900000 = 0 ∧ Q (some (ai (-6))) M1) (fun avs M Q => [(30, [0, 1, 2, 3], fun m_ vs M1 => ∃ y_s_ : Int, ∃ y_b_ : Int, ∃ y_x : Int, vs = [ar 0, ai y_s_, ai y_b_, ai y_x] ∧ J0_asksBackN_30 rs (pa true [0, 0] avs 0) (pa true [0, 0] avs 1) M m_ y_s_ y_b_ y_x M1)]) (by decide) rfl nws8_ok (tbOK0 _) rfl (csL_all ?_) (csA_all ?_) ?_ hH_back ?_ ?_
  · intro q hq
    simp only [cs0_asksBackN, List.mem_cons, List.not_mem_nil, or_false] at hq
    rcases hq with rfl | rfl | rfl | rfl | rfl
    · exact cg0_isSlot (by decide)
    · exact cg0_isBridge (by decide)
    · exact cg0_asItIs (by decide)
    · exact cg0_all_2 (by decide)
    · exact cg0_toldBy (by decide)
  · intro q hq
    simp only [xs0_asksBackN, List.mem_cons, List.not_mem_nil, or_false] at hq
    rcases hq with rfl
    · exact Or.inr ⟨(by decide : ¬ (((1 : Nat) = 0 ∨ (1 : Nat) = 3) ∨ (1 : Nat) = 4)), cxe0_isLeftN (by decide)⟩
  · intro avs M Q hsp
    obtain ⟨xs, hx⟩ := spX_un _ _ _ hsp
    obtain ⟨e, hl⟩ := unA_mkT hx
    obtain ⟨s, b, rfl⟩ := len2 hl
    have e : avs = [ar 0, ai s, ai b] := e
    subst e
    simp [szL, isL]
  · intro avs M Q hM hav hsp
    obtain ⟨xs, hx⟩ := spX_un _ _ _ hsp
    obtain ⟨e, hl⟩ := unA_mkT hx
    obtain ⟨s, b, rfl⟩ := len2 hl
    have e : avs = [ar 0, ai s, ai b] := e
    subst e
    exact in0_asksBackN hM (hav (ai s) (by simp)) (hav (ai b) (by simp)) hsp.1 hsp.2 _ (fun m_ y_s_ y_b_ y_x M2 hJ => ⟨m_, y_s_, y_b_, y_x, rfl, hJ⟩)
  · intro avs M Q hM hav hsp q hq m_ vs M1 hM1 hv hJ
    obtain ⟨xs, hx⟩ := spX_un _ _ _ hsp
    obtain ⟨e, hl⟩ := unA_mkT hx
    obtain ⟨s, b, rfl⟩ := len2 hl
    have e : avs = [ar 0, ai s, ai b] := e
    subst e
    simp only [List.mem_cons, List.not_mem_nil, or_false] at hq
    rcases hq with rfl
    · obtain ⟨y_s_, y_b_, y_x, rfl, hJ⟩ := hJ
      exact at0_asksBackN_30 hM (hav (ai s) (by simp)) (hav (ai b) (by simp)) hsp.1 hsp.2 hM1 (hv (1, ai y_s_) (List.mem_of_getElem? (i := 1) rfl)) (hv (2, ai y_b_) (List.mem_of_getElem? (i := 2) rfl)) (hv (3, ai y_x) (List.mem_of_getElem? (i := 3) rfl)) hJ _ (fun m2 z_s_ z_b_ z_x M2 hm hJ2 => ⟨m2, hm, z_s_, z_b_, z_x, rfl, hJ2⟩)
theorem cxe0_asksBackN {rs : List (Nat × Nat)} {lvl : Nat} (h : 202 < lvl) : CXE RX0 cl8 (sh8 rs) tyl8 Nws8 evE fl0 lvl 3 222 3475 2 3 (sp0_asksBackN rs) := cxe_VAH (k := 0) (n' := 2) nws8_ok evE_ok spX_mono (fun avs M Q h => (spX_un _ _ _ h).elim fun xs hx => rcvT (sg := [0, 0]) hx) m0_asksBackN h rfl (by decide) rfl rfl ⟨rfl, by decide, by decide, rfl⟩ q1051 q1053 qs39 q128 q1054
def P0_asksBookN (rs : List (Nat × Nat)) (s : Int) (M : Mm) : Prop := boN s M
def R0_asksBookN (rs : List (Nat × Nat)) (s : Int) (M : Mm) (r : Option AV) (M1 : Mm) : Prop := sixX r M M1
def sp0_asksBookN (rs : List (Nat × Nat)) : Spec := spX true [0] (fun x M => P0_asksBookN rs (x 0) M) (fun x M r M1 => R0_asksBookN rs (x 0) M r M1)
theorem c0_asksBookN {rs : List (Nat × Nat)} {s : Int} {M : Mm} {Q : Option AV → Mm → Prop} : sp0_asksBookN rs [ar 0, ai s] M Q = (P0_asksBookN rs s M ∧ ∀ (r : Option AV) (M1 : Mm), R0_asksBookN rs s M r M1 → Q r M1) := rfl
def cs0_asksBookN (rs : List (Nat × Nat)) : List (Nat × Nat × Nat × Spec) := [(330, 0, 1, (sp0_isSlot rs)), (256, 1, 1, (sp0_isValley rs)), (327, 1, 2, (sp6_at rs)), (167, 1, 2, (sp0_isBridge rs)), (159, 1, 2, (sp0_isCart rs)), (128, 0, 3, (sp0_isIn rs)), (250, 1, 1, (sp0_asItIs rs))]
def xs0_asksBookN (rs : List (Nat × Nat)) : List (Nat × Nat × Nat × Spec) := [(3245, 1, 1, sp6_sizeN rs)]
def J0_asksBookN_38 (rs : List (Nat × Nat)) (s : Int) (M : Mm) (m : Nat) (i : Int) (M1 : Mm) : Prop := False
set_option maxHeartbeats 4000000 in
set_option maxRecDepth 100000 in
theorem in0_asksBookN {rs : List (Nat × Nat)} {s : Int} {M : Mm} {Q : Option AV → Mm → Prop} (hM : okM (sh8 rs) M) (h_s : i32 s) (hP : P0_asksBookN rs s M) (hQ : ∀ (r : Option AV) (M1 : Mm), R0_asksBookN rs s M r M1 → Q r M1) (I_38 : List AV → Mm → Prop) (hI_38 : ∀ (m_ : Nat) (y_i : Int) (M2 : Mm), J0_asksBookN_38 rs s M m_ y_i M2 → I_38 [ar 0, ar (8+s.toNat), ai y_i] M2) : wpx (tb0 (csL (cs0_asksBookN rs))) (csL (xs0_asksBookN rs)) (sh8 rs) 4 1 cX0_asksBook [(38, [0, 2, 3], I_38)] Q (fun pc M1 => pc = 25 ∧ M1 0 900000 = 0 ∧ Q (some (ai (-6))) M1) 400 false 0 [(0, ar 0), (1, ai s)] [] M := by
  obtain ⟨⟨hY, hB⟩, hq, hn⟩ := id hP
  have hf := fval_s hB hq.1
  simp only [e_wpy (k := 9) dX0_asksBook_0 rfl rfl rfl, e_wpy (k := 3306) dX0_asksBook_1 rfl rfl rfl, e_wpy (k := 9) dX0_asksBook_4 rfl rfl rfl, e_wpy (k := 9) dX0_asksBook_7 rfl rfl rfl, e_wpy (k := 2565) dX0_asksBook_8 rfl rfl rfl, e_wpy (k := 9) dX0_asksBook_11 rfl rfl rfl, e_wpy (k := 9) dX0_asksBook_14 rfl rfl rfl, e_wpy (k := 9) dX0_asksBook_16 rfl rfl rfl, e_wpy (k := 9) dX0_asksBook_17 rfl rfl rfl, e_wpy (k := 9) dX0_asksBook_18 rfl rfl rfl, e_wpy (k := 9) dX0_asksBook_21 rfl rfl rfl, e_wpy (k := 9) dX0_asksBook_22 rfl rfl rfl, e_wpy (k := 9) dX0_asksBook_23 rfl rfl rfl, e_wpy (k := 9) dX0_asksBook_24 rfl rfl rfl, e_wpy (k := 3245) dX0_asksBook_25 rfl rfl rfl, xoff_a, ex_null_n, ex_null_r, ex_nonn_n, ex_nonn_r, ex_aret, xel_n, xel_s, xgo_0, xgo_1x, xgo_1v, xgo_1i, xgo_1l, xgo_1r, xgo_2, xgo_3, xgo_4, xgo_5x, xgo_5v, xgo_5i, xgo_5l, xgd_5, xgd_0, xgd_1, xgd_2, xgd_3, xgd_4, ath_y, xct_f, xct_t, xna_f, csL_n, Nat.reduceMul, retX_i, retX_l, retX_r, retX_v, c6_sizeN, P6_sizeN, xs0_asksBookN, c0_isSlot, P0_isSlot, V0_isSlot, cs0_asksBookN, c0_isValley, P0_isValley, V0_isValley, g0_110, c6_at, P6_at, V6_at, c0_isBridge, P0_isBridge, V0_isBridge, c0_isCart, P0_isCart, V0_isCart, k0_356, c0_isIn, P0_isIn, V0_isIn, c0_asItIs, a8_13, w8_13, a8_14, w8_14, a8_15, w8_15, a8_16, w8_16, a8_17, w8_17, a8_18, w8_18, a8_19, w8_19, a8_20, w8_20, a8_21, w8_21, a8_22, w8_22, a8_23, w8_23, a8_24, w8_24, a8_25, w8_25, a8_26, w8_26, a8_27, w8_27, a8_28, w8_28, a8_29, w8_29, a8_30, w8_30, a8_31, w8_31, a8_32, w8_32, a8_33, w8_33, a8_34, w8_34, a8_35, w8_35, a8_36, w8_36, a8_37, w8_37, a8_38, w8_38, a8_39, w8_39, a8_40, w8_40, a8_12, w8_12, a8_6, a8_7, e_iconst, e_bipush, e_sipush, e_lconst_0, e_lconst_1, e_iload, e_iload_0, e_iload_1, e_iload_2, e_iload_3, e_lload, e_lload_0, e_lload_1, e_lload_2, e_lload_3, e_aload, e_aload_0, e_aload_1, e_aload_2, e_aload_3, e_istore, e_istore_0, e_istore_1, e_istore_2, e_istore_3, e_astore, e_astore_0, e_astore_1, e_astore_2, e_astore_3, e_lstore, e_lstore_0, e_lstore_1, e_lstore_2, e_lstore_3, e_iinc, e_iadd, e_isub, e_imul, e_ladd, e_lsub, e_lmul, e_idiv, e_irem, e_ldiv, e_lrem, e_ineg, e_lneg, e_iand, e_ior, e_ixor, e_ishl, e_ishr, e_iushr, e_lcmp, e_i2l, e_l2i, e_i2b, e_i2s, e_dup_i, e_dup_r, e_pop_i, e_pop_r, e_dup2_l, e_dup2_ir, e_dup2_ii, e_ifeq, e_ifne, e_iflt, e_ifge, e_ifgt, e_ifle, e_iceq, e_icne, e_iclt, e_icge, e_icgt, e_icle, e_goto, e_switch, e_invokevirtual, e_invokestatic, e_invokespecial, e_ret0, e_ret1, e_ret2, e_ret3, ldI_s, ldL_s, ldR_s, clO_s, ctP_s, ctS_s, mgo_0, mgo_s, pjc_s, pj_0, pj_s, lk_s, rm1_0, rm1_i, rm1_r, rm1_l, rm2_0, rm2_i, rm2_r, rm2_l, csL_s, lc_lt, lc_ge, lc_gt, lc_le, lc_eq, b01_0, b01_1, b01_01, b01_n, up2_o, up2_s, up2_u, ne_eq, reduceCtorEq, Nat.reduceAdd, Nat.reduceEqDiff, Nat.reduceLT, Nat.reduceLeDiff, Int.reduceLE, Int.reduceLT, Int.reduceAdd, Int.reduceNeg, Int.reduceMul, Int.reduceSub, Int.reduceEq, Int.reduceToNat, Int.reduceNatCast, Int.cast_ofNat_Int, ↓reduceIte, and_self, List.drop_succ_cons, List.drop_zero, List.take_succ_cons, List.take_zero, List.length_cons, List.length_nil, List.reverse_cons, List.reverse_nil, List.nil_append, List.cons_append, Option.toList, true_and, and_true, or_false, false_or, or_true, true_or, forall_const, Classical.not_not, not_false_eq_true, not_true_eq_false, false_implies, true_implies, implies_true, imp_self, hf, Int.toNat_natCast]
  refine ⟨fun q => absurd hq.1 q, fun _ => ⟨fun _ => ⟨by omega, ⟨by omega, hn⟩, fun r M1 hR => ?_⟩, fun q => absurd hq.2 q⟩⟩
  obtain ⟨rfl, rfl⟩ := hR
  simp only [xgo_1x]
  exact ⟨up2_s, hQ _ _ ⟨rfl, rfl⟩⟩
set_option maxHeartbeats 4000000 in
set_option maxRecDepth 100000 in
theorem at0_asksBookN_38 {rs : List (Nat × Nat)} {s : Int} {M : Mm} {Q : Option AV → Mm → Prop} (hM : okM (sh8 rs) M) (h_s : i32 s) (hP : P0_asksBookN rs s M) (hQ : ∀ (r : Option AV) (M1 : Mm), R0_asksBookN rs s M r M1 → Q r M1) {m : Nat} {i : Int} {M1 : Mm} (hM1 : okM (sh8 rs) M1) (h_i : i32 i) (hJ : J0_asksBookN_38 rs s M m i M1) (I_38 : List AV → Mm → Prop) (hI_38 : ∀ (m_ : Nat) (y_i : Int) (M2 : Mm), m_ < m → J0_asksBookN_38 rs s M m_ y_i M2 → I_38 [ar 0, ar (8+s.toNat), ai y_i] M2) : wpx (tb0 (csL (cs0_asksBookN rs))) (csL (xs0_asksBookN rs)) (sh8 rs) 4 1 cX0_asksBook [(38, [0, 2, 3], I_38)] Q (fun pc M1 => pc = 25 ∧ M1 0 900000 = 0 ∧ Q (some (ai (-6))) M1) 400 false 38 [(0, ar 0), (2, ar (8+s.toNat)), (3, ai i)] [] M1 := by
  exact hJ.elim
set_option maxHeartbeats 4000000 in
set_option maxRecDepth 100000 in
theorem m0_asksBookN {rs : List (Nat × Nat)} : MOKA cl8 (sh8 rs) tyl8 Nws8 evE 202 3 222 yX0_asksBook (wsW_ yX0_asksBook cX0_asksBook 4 (some .int) [(17, 35, 104, 345), (36, 91, 104, 345), (92, 103, 104, 345)]) (sp0_asksBookN rs) := by
  refine mokAH_of (own := RX0) (fl := fl0) (tb := tb0 (csL (cs0_asksBookN rs))) (xt := csL (xs0_asksBookN rs)) (rt := 1) (fuel := 400) (thx := fun Q pc M1 => pc = 25 ∧ M1 0 900000 = 0 ∧ Q (some (ai (-6))) M1) (fun avs M Q => [(38, [0, 2, 3], fun m_ vs M1 => ∃ y_i : Int, vs = [ar 0, ar (8+(pa true [0] avs 0).toNat), ai y_i] ∧ J0_asksBookN_38 rs (pa true [0] avs 0) M m_ y_i M1)]) (by decide) rfl nws8_ok (tbOK0 _) rfl (csL_all ?_) (csA_all ?_) ?_ hH_book ?_ ?_
  · intro q hq
    simp only [cs0_asksBookN, List.mem_cons, List.not_mem_nil, or_false] at hq
    rcases hq with rfl | rfl | rfl | rfl | rfl | rfl | rfl
    · exact cg0_isSlot (by decide)
    · exact cg0_isValley (by decide)
    · exact cg6_at (by decide)
    · exact cg0_isBridge (by decide)
    · exact cg0_isCart (by decide)
    · exact cg0_isIn (by decide)
    · exact cg0_asItIs (by decide)
  · intro q hq
    simp only [xs0_asksBookN, List.mem_cons, List.not_mem_nil, or_false] at hq
    rcases hq with rfl
    · exact Or.inr ⟨(by decide : ¬ (((1 : Nat) = 0 ∨ (1 : Nat) = 3) ∨ (1 : Nat) = 4)), cxe6_sizeN (by decide)⟩
  · intro avs M Q hsp
    obtain ⟨xs, hx⟩ := spX_un _ _ _ hsp
    obtain ⟨e, hl⟩ := unA_mkT hx
    obtain ⟨s, rfl⟩ := len1 hl
    have e : avs = [ar 0, ai s] := e
    subst e
    simp [szL, isL]
  · intro avs M Q hM hav hsp
    obtain ⟨xs, hx⟩ := spX_un _ _ _ hsp
    obtain ⟨e, hl⟩ := unA_mkT hx
    obtain ⟨s, rfl⟩ := len1 hl
    have e : avs = [ar 0, ai s] := e
    subst e
    exact in0_asksBookN hM (hav (ai s) (by simp)) hsp.1 hsp.2 _ (fun m_ y_i M2 hJ => ⟨m_, y_i, rfl, hJ⟩)
  · intro avs M Q hM hav hsp q hq m_ vs M1 hM1 hv hJ
    obtain ⟨xs, hx⟩ := spX_un _ _ _ hsp
    obtain ⟨e, hl⟩ := unA_mkT hx
    obtain ⟨s, rfl⟩ := len1 hl
    have e : avs = [ar 0, ai s] := e
    subst e
    simp only [List.mem_cons, List.not_mem_nil, or_false] at hq
    rcases hq with rfl
    · obtain ⟨y_i, rfl, hJ⟩ := hJ
      exact at0_asksBookN_38 hM (hav (ai s) (by simp)) hsp.1 hsp.2 hM1 (hv (3, ai y_i) (List.mem_of_getElem? (i := 2) rfl)) hJ _ (fun m2 z_i M2 hm hJ2 => ⟨m2, hm, z_i, rfl, hJ2⟩)
theorem cxe0_asksBookN {rs : List (Nat × Nat)} {lvl : Nat} (h : 202 < lvl) : CXE RX0 cl8 (sh8 rs) tyl8 Nws8 evE fl0 lvl 3 222 3735 2 2 (sp0_asksBookN rs) := cxe_VAH (k := 0) (n' := 1) nws8_ok evE_ok spX_mono (fun avs M Q h => (spX_un _ _ _ h).elim fun xs hx => rcvT (sg := [0]) hx) m0_asksBookN h rfl (by decide) rfl rfl ⟨rfl, by decide, by decide, rfl⟩ q1142 q1144 qs45 q128 q1145
def P0_asksLoadsN (rs : List (Nat × Nat)) (s : Int) (c : Int) (M : Mm) : Prop := boN s M ∧ isC (vX M) c
def R0_asksLoadsN (rs : List (Nat × Nat)) (s : Int) (c : Int) (M : Mm) (r : Option AV) (M1 : Mm) : Prop := sixX r M M1
def sp0_asksLoadsN (rs : List (Nat × Nat)) : Spec := spX true [0, 0] (fun x M => P0_asksLoadsN rs (x 0) (x 1) M) (fun x M r M1 => R0_asksLoadsN rs (x 0) (x 1) M r M1)
theorem c0_asksLoadsN {rs : List (Nat × Nat)} {s c : Int} {M : Mm} {Q : Option AV → Mm → Prop} : sp0_asksLoadsN rs [ar 0, ai s, ai c] M Q = (P0_asksLoadsN rs s c M ∧ ∀ (r : Option AV) (M1 : Mm), R0_asksLoadsN rs s c M r M1 → Q r M1) := rfl
def cs0_asksLoadsN (rs : List (Nat × Nat)) : List (Nat × Nat × Nat × Spec) := [(159, 1, 2, (sp0_isCart rs)), (376, 1, 3, (sp0_laysLoads rs))]
def xs0_asksLoadsN (rs : List (Nat × Nat)) : List (Nat × Nat × Nat × Spec) := [(3735, 2, 2, sp0_asksBookN rs)]
set_option maxHeartbeats 4000000 in
set_option maxRecDepth 100000 in
theorem in0_asksLoadsN {rs : List (Nat × Nat)} {s c : Int} {M : Mm} {Q : Option AV → Mm → Prop} (hM : okM (sh8 rs) M) (h_s : i32 s) (h_c : i32 c) (hP : P0_asksLoadsN rs s c M) (hQ : ∀ (r : Option AV) (M1 : Mm), R0_asksLoadsN rs s c M r M1 → Q r M1) : wpx (tb0 (csL (cs0_asksLoadsN rs))) (csL (xs0_asksLoadsN rs)) (sh8 rs) 4 1 cX0_asksLoads [] Q (fun _ _ => False) 400 false 0 [(0, ar 0), (1, ai s), (2, ai c)] [] M := by
  obtain ⟨⟨hX, hq, hn⟩, hc⟩ := id hP
  have h4 : 0 ≤ M 1 5 ∧ M 1 5 ≤ 7 := (okY_n hX.1).2.1
  simp only [e_wpy (k := 9) dX0_asksLoads_0 rfl rfl rfl, e_wpy (k := 9) dX0_asksLoads_1 rfl rfl rfl, e_wpy (k := 9) dX0_asksLoads_2 rfl rfl rfl, e_wpy (k := 1595) dX0_asksLoads_3 rfl rfl rfl, e_wpy (k := 9) dX0_asksLoads_6 rfl rfl rfl, e_wpy (k := 9) dX0_asksLoads_9 rfl rfl rfl, e_wpy (k := 9) dX0_asksLoads_11 rfl rfl rfl, e_wpy (k := 9) dX0_asksLoads_12 rfl rfl rfl, e_wpy (k := 9) dX0_asksLoads_13 rfl rfl rfl, e_wpy (k := 3735) dX0_asksLoads_14 rfl rfl rfl, e_wpy (k := 9) dX0_asksLoads_17 rfl rfl rfl, e_wpy (k := 9) dX0_asksLoads_18 rfl rfl rfl, e_wpy (k := 9) dX0_asksLoads_19 rfl rfl rfl, e_wpy (k := 9) dX0_asksLoads_22 rfl rfl rfl, e_wpy (k := 9) dX0_asksLoads_23 rfl rfl rfl, e_wpy (k := 9) dX0_asksLoads_24 rfl rfl rfl, e_wpy (k := 3765) dX0_asksLoads_25 rfl rfl rfl, e_wpy (k := 9) dX0_asksLoads_28 rfl rfl rfl, e_wpy (k := 9) dX0_asksLoads_29 rfl rfl rfl, xoff_a, ex_null_n, ex_null_r, ex_nonn_n, ex_nonn_r, ex_aret, xel_n, xel_s, xgo_0, xgo_1x, xgo_1v, xgo_1i, xgo_1l, xgo_1r, xgo_2, xgo_3, xgo_4, xgo_5x, xgo_5v, xgo_5i, xgo_5l, xgd_5, xgd_0, xgd_1, xgd_2, xgd_3, xgd_4, ath_y, xct_f, xct_t, xna_f, csL_n, Nat.reduceMul, retX_i, retX_l, retX_r, retX_v, c0_asksBookN, P0_asksBookN, xs0_asksLoadsN, c0_isCart, P0_isCart, V0_isCart, cs0_asksLoadsN, c0_laysLoads, e_iconst, e_bipush, e_sipush, e_lconst_0, e_lconst_1, e_iload, e_iload_0, e_iload_1, e_iload_2, e_iload_3, e_lload, e_lload_0, e_lload_1, e_lload_2, e_lload_3, e_aload, e_aload_0, e_aload_1, e_aload_2, e_aload_3, e_istore, e_istore_0, e_istore_1, e_istore_2, e_istore_3, e_astore, e_astore_0, e_astore_1, e_astore_2, e_astore_3, e_lstore, e_lstore_0, e_lstore_1, e_lstore_2, e_lstore_3, e_iinc, e_iadd, e_isub, e_imul, e_ladd, e_lsub, e_lmul, e_idiv, e_irem, e_ldiv, e_lrem, e_ineg, e_lneg, e_iand, e_ior, e_ixor, e_ishl, e_ishr, e_iushr, e_lcmp, e_i2l, e_l2i, e_i2b, e_i2s, e_dup_i, e_dup_r, e_pop_i, e_pop_r, e_dup2_l, e_dup2_ir, e_dup2_ii, e_ifeq, e_ifne, e_iflt, e_ifge, e_ifgt, e_ifle, e_iceq, e_icne, e_iclt, e_icge, e_icgt, e_icle, e_goto, e_switch, e_invokevirtual, e_invokestatic, e_invokespecial, e_ret0, e_ret1, e_ret2, e_ret3, ldI_s, ldL_s, ldR_s, clO_s, ctP_s, ctS_s, mgo_0, mgo_s, pjc_s, pj_0, pj_s, lk_s, rm1_0, rm1_i, rm1_r, rm1_l, rm2_0, rm2_i, rm2_r, rm2_l, csL_s, lc_lt, lc_ge, lc_gt, lc_le, lc_eq, b01_0, b01_1, b01_01, b01_n, up2_o, up2_s, up2_u, ne_eq, reduceCtorEq, Nat.reduceAdd, Nat.reduceEqDiff, Nat.reduceLT, Nat.reduceLeDiff, Int.reduceLE, Int.reduceLT, Int.reduceAdd, Int.reduceNeg, Int.reduceMul, Int.reduceSub, Int.reduceEq, Int.reduceToNat, Int.reduceNatCast, Int.cast_ofNat_Int, ↓reduceIte, and_self, List.drop_succ_cons, List.drop_zero, List.take_succ_cons, List.take_zero, List.length_cons, List.length_nil, List.reverse_cons, List.reverse_nil, List.nil_append, List.cons_append, Option.toList, true_and, and_true, or_false, false_or, or_true, true_or, forall_const, Classical.not_not, not_false_eq_true, not_true_eq_false, false_implies, true_implies, implies_true, imp_self]
  refine ⟨h4, fun _ => ⟨⟨hX, hq, hn⟩, fun r M1 hR => ?_⟩, fun q => absurd hc q⟩
  obtain ⟨rfl, rfl⟩ := hR
  simp only [e_wpy (k := 9) dX0_asksLoads_17 rfl rfl rfl, e_wpy (k := 9) dX0_asksLoads_18 rfl rfl rfl, e_wpy (k := 9) dX0_asksLoads_19 rfl rfl rfl, e_wpy (k := 9) dX0_asksLoads_22 rfl rfl rfl, e_wpy (k := 9) dX0_asksLoads_23 rfl rfl rfl, e_wpy (k := 9) dX0_asksLoads_24 rfl rfl rfl, e_wpy (k := 3765) dX0_asksLoads_25 rfl rfl rfl, e_wpy (k := 9) dX0_asksLoads_28 rfl rfl rfl, e_wpy (k := 9) dX0_asksLoads_29 rfl rfl rfl, xoff_a, ex_null_n, ex_null_r, ex_nonn_n, ex_nonn_r, ex_aret, xel_n, xel_s, xgo_0, xgo_1x, xgo_1v, xgo_1i, xgo_1l, xgo_1r, xgo_2, xgo_3, xgo_4, xgo_5x, xgo_5v, xgo_5i, xgo_5l, xgd_5, xgd_0, xgd_1, xgd_2, xgd_3, xgd_4, ath_y, xct_f, xct_t, xna_f, csL_n, Nat.reduceMul, retX_i, retX_l, retX_r, retX_v, c0_asksBookN, P0_asksBookN, xs0_asksLoadsN, c0_isCart, P0_isCart, V0_isCart, cs0_asksLoadsN, c0_laysLoads, e_iconst, e_bipush, e_sipush, e_lconst_0, e_lconst_1, e_iload, e_iload_0, e_iload_1, e_iload_2, e_iload_3, e_lload, e_lload_0, e_lload_1, e_lload_2, e_lload_3, e_aload, e_aload_0, e_aload_1, e_aload_2, e_aload_3, e_istore, e_istore_0, e_istore_1, e_istore_2, e_istore_3, e_astore, e_astore_0, e_astore_1, e_astore_2, e_astore_3, e_lstore, e_lstore_0, e_lstore_1, e_lstore_2, e_lstore_3, e_iinc, e_iadd, e_isub, e_imul, e_ladd, e_lsub, e_lmul, e_idiv, e_irem, e_ldiv, e_lrem, e_ineg, e_lneg, e_iand, e_ior, e_ixor, e_ishl, e_ishr, e_iushr, e_lcmp, e_i2l, e_l2i, e_i2b, e_i2s, e_dup_i, e_dup_r, e_pop_i, e_pop_r, e_dup2_l, e_dup2_ir, e_dup2_ii, e_ifeq, e_ifne, e_iflt, e_ifge, e_ifgt, e_ifle, e_iceq, e_icne, e_iclt, e_icge, e_icgt, e_icle, e_goto, e_switch, e_invokevirtual, e_invokestatic, e_invokespecial, e_ret0, e_ret1, e_ret2, e_ret3, ldI_s, ldL_s, ldR_s, clO_s, ctP_s, ctS_s, mgo_0, mgo_s, pjc_s, pj_0, pj_s, lk_s, rm1_0, rm1_i, rm1_r, rm1_l, rm2_0, rm2_i, rm2_r, rm2_l, csL_s, lc_lt, lc_ge, lc_gt, lc_le, lc_eq, b01_0, b01_1, b01_01, b01_n, up2_o, up2_s, up2_u, ne_eq, reduceCtorEq, Nat.reduceAdd, Nat.reduceEqDiff, Nat.reduceLT, Nat.reduceLeDiff, Int.reduceLE, Int.reduceLT, Int.reduceAdd, Int.reduceNeg, Int.reduceMul, Int.reduceSub, Int.reduceEq, Int.reduceToNat, Int.reduceNatCast, Int.cast_ofNat_Int, ↓reduceIte, and_self, List.drop_succ_cons, List.drop_zero, List.take_succ_cons, List.take_zero, List.length_cons, List.length_nil, List.reverse_cons, List.reverse_nil, List.nil_append, List.cons_append, Option.toList, true_and, and_true, or_false, false_or, or_true, true_or, forall_const, Classical.not_not, not_false_eq_true, not_true_eq_false, false_implies, true_implies, implies_true, imp_self]
  first | exact hQ _ _ ⟨rfl, rfl⟩ | exact ⟨fun _ => hQ _ _ ⟨rfl, rfl⟩, fun z => absurd z (by decide)⟩ | exact ⟨fun z => absurd z (by decide), fun _ => hQ _ _ ⟨rfl, rfl⟩⟩
set_option maxHeartbeats 4000000 in
set_option maxRecDepth 100000 in
theorem m0_asksLoadsN {rs : List (Nat × Nat)} : MOKA cl8 (sh8 rs) tyl8 Nws8 evE 203 3 222 yX0_asksLoads (ws_ yX0_asksLoads cX0_asksLoads 4 (some .int)) (sp0_asksLoadsN rs) := by
  refine mokA_of (own := RX0) (fl := fl0) (tb := tb0 (csL (cs0_asksLoadsN rs))) (xt := csL (xs0_asksLoadsN rs)) (rt := 1) (fuel := 400) (fun avs M Q => []) (by decide) rfl nws8_ok (tbOK0 _) rfl (csL_all ?_) (csA_all ?_) ?_ ?_ ?_
  · intro q hq
    simp only [cs0_asksLoadsN, List.mem_cons, List.not_mem_nil, or_false] at hq
    rcases hq with rfl | rfl
    · exact cg0_isCart (by decide)
    · exact cg0_laysLoads (by decide)
  · intro q hq
    simp only [xs0_asksLoadsN, List.mem_cons, List.not_mem_nil, or_false] at hq
    rcases hq with rfl
    · exact Or.inr ⟨(by decide : ¬ (((2 : Nat) = 0 ∨ (2 : Nat) = 3) ∨ (2 : Nat) = 4)), cxe0_asksBookN (by decide)⟩
  · intro avs M Q hsp
    obtain ⟨xs, hx⟩ := spX_un _ _ _ hsp
    obtain ⟨e, hl⟩ := unA_mkT hx
    obtain ⟨s, c, rfl⟩ := len2 hl
    have e : avs = [ar 0, ai s, ai c] := e
    subst e
    simp [szL, isL]
  · intro avs M Q hM hav hsp
    obtain ⟨xs, hx⟩ := spX_un _ _ _ hsp
    obtain ⟨e, hl⟩ := unA_mkT hx
    obtain ⟨s, c, rfl⟩ := len2 hl
    have e : avs = [ar 0, ai s, ai c] := e
    subst e
    exact in0_asksLoadsN hM (hav (ai s) (by simp)) (hav (ai c) (by simp)) hsp.1 hsp.2
  · intro avs M Q hM hav hsp q hq m_ vs M1 hM1 hv hJ
    obtain ⟨xs, hx⟩ := spX_un _ _ _ hsp
    obtain ⟨e, hl⟩ := unA_mkT hx
    obtain ⟨s, c, rfl⟩ := len2 hl
    have e : avs = [ar 0, ai s, ai c] := e
    subst e
    cases hq
theorem cxe0_asksLoadsN {rs : List (Nat × Nat)} {lvl : Nat} (h : 203 < lvl) : CXE RX0 cl8 (sh8 rs) tyl8 Nws8 evE fl0 lvl 3 222 3795 2 3 (sp0_asksLoadsN rs) := cxe_VA (k := 0) (n' := 2) nws8_ok evE_ok spX_mono (fun avs M Q h => (spX_un _ _ _ h).elim fun xs hx => rcvT (sg := [0, 0]) hx) m0_asksLoadsN h rfl (by decide) rfl rfl ⟨rfl, by decide, by decide, rfl⟩ q1138 q1140 qs44 q128 q1141
def P0_setsN (rs : List (Nat × Nat)) (s : Int) (b : Int) (M : Mm) : Prop := bkN s b M
def R0_setsN (rs : List (Nat × Nat)) (s : Int) (b : Int) (M : Mm) (r : Option AV) (M1 : Mm) : Prop := sixZ r M M1
def sp0_setsN (rs : List (Nat × Nat)) : Spec := spX true [0, 0] (fun x M => P0_setsN rs (x 0) (x 1) M) (fun x M r M1 => R0_setsN rs (x 0) (x 1) M r M1)
theorem c0_setsN {rs : List (Nat × Nat)} {s b : Int} {M : Mm} {Q : Option AV → Mm → Prop} : sp0_setsN rs [ar 0, ai s, ai b] M Q = (P0_setsN rs s b M ∧ ∀ (r : Option AV) (M1 : Mm), R0_setsN rs s b M r M1 → Q r M1) := rfl
def cs0_setsN (rs : List (Nat × Nat)) : List (Nat × Nat × Nat × Spec) := []
def xs0_setsN (rs : List (Nat × Nat)) : List (Nat × Nat × Nat × Spec) := [(3475, 2, 3, sp0_asksBackN rs)]
set_option maxHeartbeats 4000000 in
set_option maxRecDepth 100000 in
theorem in0_setsN {rs : List (Nat × Nat)} {s b : Int} {M : Mm} {Q : Option AV → Mm → Prop} (hM : okM (sh8 rs) M) (h_s : i32 s) (h_b : i32 b) (hP : P0_setsN rs s b M) (hQ : ∀ (r : Option AV) (M1 : Mm), R0_setsN rs s b M r M1 → Q r M1) : wpx (tb0 (csL (cs0_setsN rs))) (csL (xs0_setsN rs)) (sh8 rs) 4 1 cX0_sets [] Q (fun _ _ => False) 400 false 0 [(0, ar 0), (1, ai s), (2, ai b)] [] M := by
  simp only [e_wpy (k := 9) dX0_sets_0 rfl rfl rfl, e_wpy (k := 9) dX0_sets_1 rfl rfl rfl, e_wpy (k := 9) dX0_sets_2 rfl rfl rfl, e_wpy (k := 3475) dX0_sets_3 rfl rfl rfl, e_wpy (k := 9) dX0_sets_6 rfl rfl rfl, e_wpy (k := 9) dX0_sets_7 rfl rfl rfl, e_wpy (k := 9) dX0_sets_8 rfl rfl rfl, e_wpy (k := 9) dX0_sets_11 rfl rfl rfl, e_wpy (k := 9) dX0_sets_12 rfl rfl rfl, e_wpy (k := 9) dX0_sets_15 rfl rfl rfl, e_wpy (k := 9) dX0_sets_16 rfl rfl rfl, e_wpy (k := 9) dX0_sets_19 rfl rfl rfl, xoff_a, ex_null_n, ex_null_r, ex_nonn_n, ex_nonn_r, ex_aret, xel_n, xel_s, xgo_0, xgo_1x, xgo_1v, xgo_1i, xgo_1l, xgo_1r, xgo_2, xgo_3, xgo_4, xgo_5x, xgo_5v, xgo_5i, xgo_5l, xgd_5, xgd_0, xgd_1, xgd_2, xgd_3, xgd_4, ath_y, xct_f, xct_t, xna_f, csL_n, Nat.reduceMul, retX_i, retX_l, retX_r, retX_v, c0_asksBackN, P0_asksBackN, xs0_setsN, cs0_setsN, g0_333, e_iconst, e_bipush, e_sipush, e_lconst_0, e_lconst_1, e_iload, e_iload_0, e_iload_1, e_iload_2, e_iload_3, e_lload, e_lload_0, e_lload_1, e_lload_2, e_lload_3, e_aload, e_aload_0, e_aload_1, e_aload_2, e_aload_3, e_istore, e_istore_0, e_istore_1, e_istore_2, e_istore_3, e_astore, e_astore_0, e_astore_1, e_astore_2, e_astore_3, e_lstore, e_lstore_0, e_lstore_1, e_lstore_2, e_lstore_3, e_iinc, e_iadd, e_isub, e_imul, e_ladd, e_lsub, e_lmul, e_idiv, e_irem, e_ldiv, e_lrem, e_ineg, e_lneg, e_iand, e_ior, e_ixor, e_ishl, e_ishr, e_iushr, e_lcmp, e_i2l, e_l2i, e_i2b, e_i2s, e_dup_i, e_dup_r, e_pop_i, e_pop_r, e_dup2_l, e_dup2_ir, e_dup2_ii, e_ifeq, e_ifne, e_iflt, e_ifge, e_ifgt, e_ifle, e_iceq, e_icne, e_iclt, e_icge, e_icgt, e_icle, e_goto, e_switch, e_invokevirtual, e_invokestatic, e_invokespecial, e_ret0, e_ret1, e_ret2, e_ret3, ldI_s, ldL_s, ldR_s, clO_s, ctP_s, ctS_s, mgo_0, mgo_s, pjc_s, pj_0, pj_s, lk_s, rm1_0, rm1_i, rm1_r, rm1_l, rm2_0, rm2_i, rm2_r, rm2_l, csL_s, lc_lt, lc_ge, lc_gt, lc_le, lc_eq, b01_0, b01_1, b01_01, b01_n, up2_o, up2_s, up2_u, ne_eq, reduceCtorEq, Nat.reduceAdd, Nat.reduceEqDiff, Nat.reduceLT, Nat.reduceLeDiff, Int.reduceLE, Int.reduceLT, Int.reduceAdd, Int.reduceNeg, Int.reduceMul, Int.reduceSub, Int.reduceEq, Int.reduceToNat, Int.reduceNatCast, Int.cast_ofNat_Int, ↓reduceIte, and_self, List.drop_succ_cons, List.drop_zero, List.take_succ_cons, List.take_zero, List.length_cons, List.length_nil, List.reverse_cons, List.reverse_nil, List.nil_append, List.cons_append, Option.toList, true_and, and_true, or_false, false_or, or_true, true_or, forall_const, Classical.not_not, not_false_eq_true, not_true_eq_false, false_implies, true_implies, implies_true, imp_self]
  refine ⟨hP, fun r M1 hR => ?_⟩
  obtain ⟨rfl, M2, hk, rfl⟩ := hR
  simp only [e_wpy (k := 3475) dX0_sets_3 rfl rfl rfl, e_wpy (k := 9) dX0_sets_6 rfl rfl rfl, e_wpy (k := 9) dX0_sets_7 rfl rfl rfl, e_wpy (k := 9) dX0_sets_8 rfl rfl rfl, e_wpy (k := 9) dX0_sets_11 rfl rfl rfl, e_wpy (k := 9) dX0_sets_12 rfl rfl rfl, e_wpy (k := 9) dX0_sets_15 rfl rfl rfl, e_wpy (k := 9) dX0_sets_16 rfl rfl rfl, e_wpy (k := 9) dX0_sets_19 rfl rfl rfl, xoff_a, ex_null_n, ex_null_r, ex_nonn_n, ex_nonn_r, ex_aret, xel_n, xel_s, xgo_0, xgo_1x, xgo_1v, xgo_1i, xgo_1l, xgo_1r, xgo_2, xgo_3, xgo_4, xgo_5x, xgo_5v, xgo_5i, xgo_5l, xgd_5, xgd_0, xgd_1, xgd_2, xgd_3, xgd_4, ath_y, xct_f, xct_t, xna_f, csL_n, Nat.reduceMul, retX_i, retX_l, retX_r, retX_v, c0_asksBackN, P0_asksBackN, xs0_setsN, cs0_setsN, g0_333, e_iconst, e_bipush, e_sipush, e_lconst_0, e_lconst_1, e_iload, e_iload_0, e_iload_1, e_iload_2, e_iload_3, e_lload, e_lload_0, e_lload_1, e_lload_2, e_lload_3, e_aload, e_aload_0, e_aload_1, e_aload_2, e_aload_3, e_istore, e_istore_0, e_istore_1, e_istore_2, e_istore_3, e_astore, e_astore_0, e_astore_1, e_astore_2, e_astore_3, e_lstore, e_lstore_0, e_lstore_1, e_lstore_2, e_lstore_3, e_iinc, e_iadd, e_isub, e_imul, e_ladd, e_lsub, e_lmul, e_idiv, e_irem, e_ldiv, e_lrem, e_ineg, e_lneg, e_iand, e_ior, e_ixor, e_ishl, e_ishr, e_iushr, e_lcmp, e_i2l, e_l2i, e_i2b, e_i2s, e_dup_i, e_dup_r, e_pop_i, e_pop_r, e_dup2_l, e_dup2_ir, e_dup2_ii, e_ifeq, e_ifne, e_iflt, e_ifge, e_ifgt, e_ifle, e_iceq, e_icne, e_iclt, e_icge, e_icgt, e_icle, e_goto, e_switch, e_invokevirtual, e_invokestatic, e_invokespecial, e_ret0, e_ret1, e_ret2, e_ret3, ldI_s, ldL_s, ldR_s, clO_s, ctP_s, ctS_s, mgo_0, mgo_s, pjc_s, pj_0, pj_s, lk_s, rm1_0, rm1_i, rm1_r, rm1_l, rm2_0, rm2_i, rm2_r, rm2_l, csL_s, lc_lt, lc_ge, lc_gt, lc_le, lc_eq, b01_0, b01_1, b01_01, b01_n, up2_o, up2_s, up2_u, ne_eq, reduceCtorEq, Nat.reduceAdd, Nat.reduceEqDiff, Nat.reduceLT, Nat.reduceLeDiff, Int.reduceLE, Int.reduceLT, Int.reduceAdd, Int.reduceNeg, Int.reduceMul, Int.reduceSub, Int.reduceEq, Int.reduceToNat, Int.reduceNatCast, Int.cast_ofNat_Int, ↓reduceIte, and_self, List.drop_succ_cons, List.drop_zero, List.take_succ_cons, List.take_zero, List.length_cons, List.length_nil, List.reverse_cons, List.reverse_nil, List.nil_append, List.cons_append, Option.toList, true_and, and_true, or_false, false_or, or_true, true_or, forall_const, Classical.not_not, not_false_eq_true, not_true_eq_false, false_implies, true_implies, implies_true, imp_self]
  first | exact hQ _ _ ⟨rfl, M2, hk, rfl⟩ | exact ⟨fun z => absurd z (by decide), fun _ => hQ _ _ ⟨rfl, M2, hk, rfl⟩⟩ | exact ⟨fun _ => hQ _ _ ⟨rfl, M2, hk, rfl⟩, fun z => absurd z (by decide)⟩
set_option maxHeartbeats 4000000 in
set_option maxRecDepth 100000 in
theorem m0_setsN {rs : List (Nat × Nat)} : MOKA cl8 (sh8 rs) tyl8 Nws8 evE 203 3 222 yX0_sets (ws_ yX0_sets cX0_sets 4 (some .int)) (sp0_setsN rs) := by
  refine mokA_of (own := RX0) (fl := fl0) (tb := tb0 (csL (cs0_setsN rs))) (xt := csL (xs0_setsN rs)) (rt := 1) (fuel := 400) (fun avs M Q => []) (by decide) rfl nws8_ok (tbOK0 _) rfl (csL_all ?_) (csA_all ?_) ?_ ?_ ?_
  · intro q hq; cases hq
  · intro q hq
    simp only [xs0_setsN, List.mem_cons, List.not_mem_nil, or_false] at hq
    rcases hq with rfl
    · exact Or.inr ⟨(by decide : ¬ (((2 : Nat) = 0 ∨ (2 : Nat) = 3) ∨ (2 : Nat) = 4)), cxe0_asksBackN (by decide)⟩
  · intro avs M Q hsp
    obtain ⟨xs, hx⟩ := spX_un _ _ _ hsp
    obtain ⟨e, hl⟩ := unA_mkT hx
    obtain ⟨s, b, rfl⟩ := len2 hl
    have e : avs = [ar 0, ai s, ai b] := e
    subst e
    simp [szL, isL]
  · intro avs M Q hM hav hsp
    obtain ⟨xs, hx⟩ := spX_un _ _ _ hsp
    obtain ⟨e, hl⟩ := unA_mkT hx
    obtain ⟨s, b, rfl⟩ := len2 hl
    have e : avs = [ar 0, ai s, ai b] := e
    subst e
    exact in0_setsN hM (hav (ai s) (by simp)) (hav (ai b) (by simp)) hsp.1 hsp.2
  · intro avs M Q hM hav hsp q hq m_ vs M1 hM1 hv hJ
    obtain ⟨xs, hx⟩ := spX_un _ _ _ hsp
    obtain ⟨e, hl⟩ := unA_mkT hx
    obtain ⟨s, b, rfl⟩ := len2 hl
    have e : avs = [ar 0, ai s, ai b] := e
    subst e
    cases hq
def P0_surelyN (rs : List (Nat × Nat)) (s : Int) (b : Int) (M : Mm) : Prop := bkN s b M
def R0_surelyN (rs : List (Nat × Nat)) (s : Int) (b : Int) (M : Mm) (r : Option AV) (M1 : Mm) : Prop := sixZ r M M1
def sp0_surelyN (rs : List (Nat × Nat)) : Spec := spX true [0, 0] (fun x M => P0_surelyN rs (x 0) (x 1) M) (fun x M r M1 => R0_surelyN rs (x 0) (x 1) M r M1)
theorem c0_surelyN {rs : List (Nat × Nat)} {s b : Int} {M : Mm} {Q : Option AV → Mm → Prop} : sp0_surelyN rs [ar 0, ai s, ai b] M Q = (P0_surelyN rs s b M ∧ ∀ (r : Option AV) (M1 : Mm), R0_surelyN rs s b M r M1 → Q r M1) := rfl
def cs0_surelyN (rs : List (Nat × Nat)) : List (Nat × Nat × Nat × Spec) := [(336, 1, 1, (sp0_all_2 rs))]
def xs0_surelyN (rs : List (Nat × Nat)) : List (Nat × Nat × Nat × Spec) := [(3475, 2, 3, sp0_asksBackN rs)]
def J0_surelyN_22 (rs : List (Nat × Nat)) (s : Int) (b : Int) (M : Mm) (m : Nat) (x : Int) (k : Int) (M1 : Mm) : Prop := False
set_option maxHeartbeats 4000000 in
set_option maxRecDepth 100000 in
theorem in0_surelyN {rs : List (Nat × Nat)} {s b : Int} {M : Mm} {Q : Option AV → Mm → Prop} (hM : okM (sh8 rs) M) (h_s : i32 s) (h_b : i32 b) (hP : P0_surelyN rs s b M) (hQ : ∀ (r : Option AV) (M1 : Mm), R0_surelyN rs s b M r M1 → Q r M1) (I_22 : List AV → Mm → Prop) (hI_22 : ∀ (m_ : Nat) (y_x : Int) (y_k : Int) (M2 : Mm), J0_surelyN_22 rs s b M m_ y_x y_k M2 → I_22 [ar 0, ai y_x, ai y_k] M2) : wpx (tb0 (csL (cs0_surelyN rs))) (csL (xs0_surelyN rs)) (sh8 rs) 6 1 cX0_surely [(22, [0, 4, 5], I_22)] Q (fun _ _ => False) 400 false 0 [(0, ar 0), (1, ai s), (2, ai b)] [] M := by
  simp only [e_wpy (k := 9) dX0_surely_0 rfl rfl rfl, e_wpy (k := 9) dX0_surely_1 rfl rfl rfl, e_wpy (k := 9) dX0_surely_2 rfl rfl rfl, e_wpy (k := 3475) dX0_surely_3 rfl rfl rfl, e_wpy (k := 9) dX0_surely_6 rfl rfl rfl, e_wpy (k := 9) dX0_surely_7 rfl rfl rfl, e_wpy (k := 9) dX0_surely_8 rfl rfl rfl, e_wpy (k := 9) dX0_surely_11 rfl rfl rfl, e_wpy (k := 9) dX0_surely_12 rfl rfl rfl, xoff_a, ex_null_n, ex_null_r, ex_nonn_n, ex_nonn_r, ex_aret, xel_n, xel_s, xgo_0, xgo_1x, xgo_1v, xgo_1i, xgo_1l, xgo_1r, xgo_2, xgo_3, xgo_4, xgo_5x, xgo_5v, xgo_5i, xgo_5l, xgd_5, xgd_0, xgd_1, xgd_2, xgd_3, xgd_4, ath_y, xct_f, xct_t, xna_f, csL_n, Nat.reduceMul, retX_i, retX_l, retX_r, retX_v, c0_asksBackN, P0_asksBackN, xs0_surelyN, cs0_surelyN, c0_all_2, P0_all_2, V0_all_2, g0_333, g0_98, a8_13, w8_13, a8_14, w8_14, a8_15, w8_15, a8_16, w8_16, a8_17, w8_17, a8_18, w8_18, a8_19, w8_19, a8_20, w8_20, a8_21, w8_21, a8_22, w8_22, a8_23, w8_23, a8_24, w8_24, a8_25, w8_25, a8_26, w8_26, a8_27, w8_27, a8_28, w8_28, a8_29, w8_29, a8_30, w8_30, a8_31, w8_31, a8_32, w8_32, a8_33, w8_33, a8_34, w8_34, a8_35, w8_35, a8_36, w8_36, a8_37, w8_37, a8_38, w8_38, a8_39, w8_39, a8_40, w8_40, a8_12, w8_12, a8_6, a8_7, e_iconst, e_bipush, e_sipush, e_lconst_0, e_lconst_1, e_iload, e_iload_0, e_iload_1, e_iload_2, e_iload_3, e_lload, e_lload_0, e_lload_1, e_lload_2, e_lload_3, e_aload, e_aload_0, e_aload_1, e_aload_2, e_aload_3, e_istore, e_istore_0, e_istore_1, e_istore_2, e_istore_3, e_astore, e_astore_0, e_astore_1, e_astore_2, e_astore_3, e_lstore, e_lstore_0, e_lstore_1, e_lstore_2, e_lstore_3, e_iinc, e_iadd, e_isub, e_imul, e_ladd, e_lsub, e_lmul, e_idiv, e_irem, e_ldiv, e_lrem, e_ineg, e_lneg, e_iand, e_ior, e_ixor, e_ishl, e_ishr, e_iushr, e_lcmp, e_i2l, e_l2i, e_i2b, e_i2s, e_dup_i, e_dup_r, e_pop_i, e_pop_r, e_dup2_l, e_dup2_ir, e_dup2_ii, e_ifeq, e_ifne, e_iflt, e_ifge, e_ifgt, e_ifle, e_iceq, e_icne, e_iclt, e_icge, e_icgt, e_icle, e_goto, e_switch, e_invokevirtual, e_invokestatic, e_invokespecial, e_ret0, e_ret1, e_ret2, e_ret3, ldI_s, ldL_s, ldR_s, clO_s, ctP_s, ctS_s, mgo_0, mgo_s, pjc_s, pj_0, pj_s, lk_s, rm1_0, rm1_i, rm1_r, rm1_l, rm2_0, rm2_i, rm2_r, rm2_l, csL_s, lc_lt, lc_ge, lc_gt, lc_le, lc_eq, b01_0, b01_1, b01_01, b01_n, up2_o, up2_s, up2_u, ne_eq, reduceCtorEq, Nat.reduceAdd, Nat.reduceEqDiff, Nat.reduceLT, Nat.reduceLeDiff, Int.reduceLE, Int.reduceLT, Int.reduceAdd, Int.reduceNeg, Int.reduceMul, Int.reduceSub, Int.reduceEq, Int.reduceToNat, Int.reduceNatCast, Int.cast_ofNat_Int, ↓reduceIte, and_self, List.drop_succ_cons, List.drop_zero, List.take_succ_cons, List.take_zero, List.length_cons, List.length_nil, List.reverse_cons, List.reverse_nil, List.nil_append, List.cons_append, Option.toList, true_and, and_true, or_false, false_or, or_true, true_or, forall_const, Classical.not_not, not_false_eq_true, not_true_eq_false, false_implies, true_implies, implies_true, imp_self]
  refine ⟨hP, fun r M1 hR => ?_⟩
  obtain ⟨rfl, M2, hk, rfl⟩ := hR
  simp only [e_wpy (k := 3475) dX0_surely_3 rfl rfl rfl, e_wpy (k := 9) dX0_surely_6 rfl rfl rfl, e_wpy (k := 9) dX0_surely_7 rfl rfl rfl, e_wpy (k := 9) dX0_surely_8 rfl rfl rfl, e_wpy (k := 9) dX0_surely_11 rfl rfl rfl, e_wpy (k := 9) dX0_surely_12 rfl rfl rfl, xoff_a, ex_null_n, ex_null_r, ex_nonn_n, ex_nonn_r, ex_aret, xel_n, xel_s, xgo_0, xgo_1x, xgo_1v, xgo_1i, xgo_1l, xgo_1r, xgo_2, xgo_3, xgo_4, xgo_5x, xgo_5v, xgo_5i, xgo_5l, xgd_5, xgd_0, xgd_1, xgd_2, xgd_3, xgd_4, ath_y, xct_f, xct_t, xna_f, csL_n, Nat.reduceMul, retX_i, retX_l, retX_r, retX_v, c0_asksBackN, P0_asksBackN, xs0_surelyN, cs0_surelyN, c0_all_2, P0_all_2, V0_all_2, g0_333, g0_98, a8_13, w8_13, a8_14, w8_14, a8_15, w8_15, a8_16, w8_16, a8_17, w8_17, a8_18, w8_18, a8_19, w8_19, a8_20, w8_20, a8_21, w8_21, a8_22, w8_22, a8_23, w8_23, a8_24, w8_24, a8_25, w8_25, a8_26, w8_26, a8_27, w8_27, a8_28, w8_28, a8_29, w8_29, a8_30, w8_30, a8_31, w8_31, a8_32, w8_32, a8_33, w8_33, a8_34, w8_34, a8_35, w8_35, a8_36, w8_36, a8_37, w8_37, a8_38, w8_38, a8_39, w8_39, a8_40, w8_40, a8_12, w8_12, a8_6, a8_7, e_iconst, e_bipush, e_sipush, e_lconst_0, e_lconst_1, e_iload, e_iload_0, e_iload_1, e_iload_2, e_iload_3, e_lload, e_lload_0, e_lload_1, e_lload_2, e_lload_3, e_aload, e_aload_0, e_aload_1, e_aload_2, e_aload_3, e_istore, e_istore_0, e_istore_1, e_istore_2, e_istore_3, e_astore, e_astore_0, e_astore_1, e_astore_2, e_astore_3, e_lstore, e_lstore_0, e_lstore_1, e_lstore_2, e_lstore_3, e_iinc, e_iadd, e_isub, e_imul, e_ladd, e_lsub, e_lmul, e_idiv, e_irem, e_ldiv, e_lrem, e_ineg, e_lneg, e_iand, e_ior, e_ixor, e_ishl, e_ishr, e_iushr, e_lcmp, e_i2l, e_l2i, e_i2b, e_i2s, e_dup_i, e_dup_r, e_pop_i, e_pop_r, e_dup2_l, e_dup2_ir, e_dup2_ii, e_ifeq, e_ifne, e_iflt, e_ifge, e_ifgt, e_ifle, e_iceq, e_icne, e_iclt, e_icge, e_icgt, e_icle, e_goto, e_switch, e_invokevirtual, e_invokestatic, e_invokespecial, e_ret0, e_ret1, e_ret2, e_ret3, ldI_s, ldL_s, ldR_s, clO_s, ctP_s, ctS_s, mgo_0, mgo_s, pjc_s, pj_0, pj_s, lk_s, rm1_0, rm1_i, rm1_r, rm1_l, rm2_0, rm2_i, rm2_r, rm2_l, csL_s, lc_lt, lc_ge, lc_gt, lc_le, lc_eq, b01_0, b01_1, b01_01, b01_n, up2_o, up2_s, up2_u, ne_eq, reduceCtorEq, Nat.reduceAdd, Nat.reduceEqDiff, Nat.reduceLT, Nat.reduceLeDiff, Int.reduceLE, Int.reduceLT, Int.reduceAdd, Int.reduceNeg, Int.reduceMul, Int.reduceSub, Int.reduceEq, Int.reduceToNat, Int.reduceNatCast, Int.cast_ofNat_Int, ↓reduceIte, and_self, List.drop_succ_cons, List.drop_zero, List.take_succ_cons, List.take_zero, List.length_cons, List.length_nil, List.reverse_cons, List.reverse_nil, List.nil_append, List.cons_append, Option.toList, true_and, and_true, or_false, false_or, or_true, true_or, forall_const, Classical.not_not, not_false_eq_true, not_true_eq_false, false_implies, true_implies, implies_true, imp_self]
  first | exact hQ _ _ ⟨rfl, M2, hk, rfl⟩ | exact ⟨fun z => absurd z (by decide), fun _ => hQ _ _ ⟨rfl, M2, hk, rfl⟩⟩ | exact ⟨fun _ => hQ _ _ ⟨rfl, M2, hk, rfl⟩, fun z => absurd z (by decide)⟩
set_option maxHeartbeats 4000000 in
set_option maxRecDepth 100000 in
theorem at0_surelyN_22 {rs : List (Nat × Nat)} {s b : Int} {M : Mm} {Q : Option AV → Mm → Prop} (hM : okM (sh8 rs) M) (h_s : i32 s) (h_b : i32 b) (hP : P0_surelyN rs s b M) (hQ : ∀ (r : Option AV) (M1 : Mm), R0_surelyN rs s b M r M1 → Q r M1) {m : Nat} {x k : Int} {M1 : Mm} (hM1 : okM (sh8 rs) M1) (h_x : i32 x) (h_k : i32 k) (hJ : J0_surelyN_22 rs s b M m x k M1) (I_22 : List AV → Mm → Prop) (hI_22 : ∀ (m_ : Nat) (y_x : Int) (y_k : Int) (M2 : Mm), m_ < m → J0_surelyN_22 rs s b M m_ y_x y_k M2 → I_22 [ar 0, ai y_x, ai y_k] M2) : wpx (tb0 (csL (cs0_surelyN rs))) (csL (xs0_surelyN rs)) (sh8 rs) 6 1 cX0_surely [(22, [0, 4, 5], I_22)] Q (fun _ _ => False) 400 false 22 [(0, ar 0), (4, ai x), (5, ai k)] [] M1 := by
  exact hJ.elim
set_option maxHeartbeats 4000000 in
set_option maxRecDepth 100000 in
theorem m0_surelyN {rs : List (Nat × Nat)} : MOKA cl8 (sh8 rs) tyl8 Nws8 evE 203 3 222 yX0_surely (ws_ yX0_surely cX0_surely 6 (some .int)) (sp0_surelyN rs) := by
  refine mokA_of (own := RX0) (fl := fl0) (tb := tb0 (csL (cs0_surelyN rs))) (xt := csL (xs0_surelyN rs)) (rt := 1) (fuel := 400) (fun avs M Q => [(22, [0, 4, 5], fun m_ vs M1 => ∃ y_x : Int, ∃ y_k : Int, vs = [ar 0, ai y_x, ai y_k] ∧ J0_surelyN_22 rs (pa true [0, 0] avs 0) (pa true [0, 0] avs 1) M m_ y_x y_k M1)]) (by decide) rfl nws8_ok (tbOK0 _) rfl (csL_all ?_) (csA_all ?_) ?_ ?_ ?_
  · intro q hq
    simp only [cs0_surelyN, List.mem_cons, List.not_mem_nil, or_false] at hq
    rcases hq with rfl
    · exact cg0_all_2 (by decide)
  · intro q hq
    simp only [xs0_surelyN, List.mem_cons, List.not_mem_nil, or_false] at hq
    rcases hq with rfl
    · exact Or.inr ⟨(by decide : ¬ (((2 : Nat) = 0 ∨ (2 : Nat) = 3) ∨ (2 : Nat) = 4)), cxe0_asksBackN (by decide)⟩
  · intro avs M Q hsp
    obtain ⟨xs, hx⟩ := spX_un _ _ _ hsp
    obtain ⟨e, hl⟩ := unA_mkT hx
    obtain ⟨s, b, rfl⟩ := len2 hl
    have e : avs = [ar 0, ai s, ai b] := e
    subst e
    simp [szL, isL]
  · intro avs M Q hM hav hsp
    obtain ⟨xs, hx⟩ := spX_un _ _ _ hsp
    obtain ⟨e, hl⟩ := unA_mkT hx
    obtain ⟨s, b, rfl⟩ := len2 hl
    have e : avs = [ar 0, ai s, ai b] := e
    subst e
    exact in0_surelyN hM (hav (ai s) (by simp)) (hav (ai b) (by simp)) hsp.1 hsp.2 _ (fun m_ y_x y_k M2 hJ => ⟨m_, y_x, y_k, rfl, hJ⟩)
  · intro avs M Q hM hav hsp q hq m_ vs M1 hM1 hv hJ
    obtain ⟨xs, hx⟩ := spX_un _ _ _ hsp
    obtain ⟨e, hl⟩ := unA_mkT hx
    obtain ⟨s, b, rfl⟩ := len2 hl
    have e : avs = [ar 0, ai s, ai b] := e
    subst e
    simp only [List.mem_cons, List.not_mem_nil, or_false] at hq
    rcases hq with rfl
    · obtain ⟨y_x, y_k, rfl, hJ⟩ := hJ
      exact at0_surelyN_22 hM (hav (ai s) (by simp)) (hav (ai b) (by simp)) hsp.1 hsp.2 hM1 (hv (4, ai y_x) (List.mem_of_getElem? (i := 1) rfl)) (hv (5, ai y_k) (List.mem_of_getElem? (i := 2) rfl)) hJ _ (fun m2 z_x z_k M2 hm hJ2 => ⟨m2, hm, z_x, z_k, rfl, hJ2⟩)
def P0_neverN (rs : List (Nat × Nat)) (s : Int) (b : Int) (M : Mm) : Prop := bkN s b M
def R0_neverN (rs : List (Nat × Nat)) (s : Int) (b : Int) (M : Mm) (r : Option AV) (M1 : Mm) : Prop := sixZ r M M1
def sp0_neverN (rs : List (Nat × Nat)) : Spec := spX true [0, 0] (fun x M => P0_neverN rs (x 0) (x 1) M) (fun x M r M1 => R0_neverN rs (x 0) (x 1) M r M1)
theorem c0_neverN {rs : List (Nat × Nat)} {s b : Int} {M : Mm} {Q : Option AV → Mm → Prop} : sp0_neverN rs [ar 0, ai s, ai b] M Q = (P0_neverN rs s b M ∧ ∀ (r : Option AV) (M1 : Mm), R0_neverN rs s b M r M1 → Q r M1) := rfl
def cs0_neverN (rs : List (Nat × Nat)) : List (Nat × Nat × Nat × Spec) := [(339, 1, 2, (sp0_toldBy rs))]
def xs0_neverN (rs : List (Nat × Nat)) : List (Nat × Nat × Nat × Spec) := [(3475, 2, 3, sp0_asksBackN rs)]
def J0_neverN_19 (rs : List (Nat × Nat)) (s : Int) (b : Int) (M : Mm) (m : Nat) (b_ : Int) (x : Int) (k : Int) (M1 : Mm) : Prop := False
set_option maxHeartbeats 4000000 in
set_option maxRecDepth 100000 in
theorem in0_neverN {rs : List (Nat × Nat)} {s b : Int} {M : Mm} {Q : Option AV → Mm → Prop} (hM : okM (sh8 rs) M) (h_s : i32 s) (h_b : i32 b) (hP : P0_neverN rs s b M) (hQ : ∀ (r : Option AV) (M1 : Mm), R0_neverN rs s b M r M1 → Q r M1) (I_19 : List AV → Mm → Prop) (hI_19 : ∀ (m_ : Nat) (y_b_ : Int) (y_x : Int) (y_k : Int) (M2 : Mm), J0_neverN_19 rs s b M m_ y_b_ y_x y_k M2 → I_19 [ar 0, ai y_b_, ai y_x, ai y_k] M2) : wpx (tb0 (csL (cs0_neverN rs))) (csL (xs0_neverN rs)) (sh8 rs) 6 1 cX0_never [(19, [0, 2, 4, 5], I_19)] Q (fun _ _ => False) 400 false 0 [(0, ar 0), (1, ai s), (2, ai b)] [] M := by
  simp only [e_wpy (k := 9) dX0_never_0 rfl rfl rfl, e_wpy (k := 9) dX0_never_1 rfl rfl rfl, e_wpy (k := 9) dX0_never_2 rfl rfl rfl, e_wpy (k := 3475) dX0_never_3 rfl rfl rfl, e_wpy (k := 9) dX0_never_6 rfl rfl rfl, e_wpy (k := 9) dX0_never_7 rfl rfl rfl, e_wpy (k := 9) dX0_never_8 rfl rfl rfl, e_wpy (k := 9) dX0_never_11 rfl rfl rfl, e_wpy (k := 9) dX0_never_12 rfl rfl rfl, xoff_a, ex_null_n, ex_null_r, ex_nonn_n, ex_nonn_r, ex_aret, xel_n, xel_s, xgo_0, xgo_1x, xgo_1v, xgo_1i, xgo_1l, xgo_1r, xgo_2, xgo_3, xgo_4, xgo_5x, xgo_5v, xgo_5i, xgo_5l, xgd_5, xgd_0, xgd_1, xgd_2, xgd_3, xgd_4, ath_y, xct_f, xct_t, xna_f, csL_n, Nat.reduceMul, retX_i, retX_l, retX_r, retX_v, c0_asksBackN, P0_asksBackN, xs0_neverN, cs0_neverN, g0_333, g0_98, c0_toldBy, P0_toldBy, V0_toldBy, a8_13, w8_13, a8_14, w8_14, a8_15, w8_15, a8_16, w8_16, a8_17, w8_17, a8_18, w8_18, a8_19, w8_19, a8_20, w8_20, a8_21, w8_21, a8_22, w8_22, a8_23, w8_23, a8_24, w8_24, a8_25, w8_25, a8_26, w8_26, a8_27, w8_27, a8_28, w8_28, a8_29, w8_29, a8_30, w8_30, a8_31, w8_31, a8_32, w8_32, a8_33, w8_33, a8_34, w8_34, a8_35, w8_35, a8_36, w8_36, a8_37, w8_37, a8_38, w8_38, a8_39, w8_39, a8_40, w8_40, a8_12, w8_12, a8_6, a8_7, e_iconst, e_bipush, e_sipush, e_lconst_0, e_lconst_1, e_iload, e_iload_0, e_iload_1, e_iload_2, e_iload_3, e_lload, e_lload_0, e_lload_1, e_lload_2, e_lload_3, e_aload, e_aload_0, e_aload_1, e_aload_2, e_aload_3, e_istore, e_istore_0, e_istore_1, e_istore_2, e_istore_3, e_astore, e_astore_0, e_astore_1, e_astore_2, e_astore_3, e_lstore, e_lstore_0, e_lstore_1, e_lstore_2, e_lstore_3, e_iinc, e_iadd, e_isub, e_imul, e_ladd, e_lsub, e_lmul, e_idiv, e_irem, e_ldiv, e_lrem, e_ineg, e_lneg, e_iand, e_ior, e_ixor, e_ishl, e_ishr, e_iushr, e_lcmp, e_i2l, e_l2i, e_i2b, e_i2s, e_dup_i, e_dup_r, e_pop_i, e_pop_r, e_dup2_l, e_dup2_ir, e_dup2_ii, e_ifeq, e_ifne, e_iflt, e_ifge, e_ifgt, e_ifle, e_iceq, e_icne, e_iclt, e_icge, e_icgt, e_icle, e_goto, e_switch, e_invokevirtual, e_invokestatic, e_invokespecial, e_ret0, e_ret1, e_ret2, e_ret3, ldI_s, ldL_s, ldR_s, clO_s, ctP_s, ctS_s, mgo_0, mgo_s, pjc_s, pj_0, pj_s, lk_s, rm1_0, rm1_i, rm1_r, rm1_l, rm2_0, rm2_i, rm2_r, rm2_l, csL_s, lc_lt, lc_ge, lc_gt, lc_le, lc_eq, b01_0, b01_1, b01_01, b01_n, up2_o, up2_s, up2_u, ne_eq, reduceCtorEq, Nat.reduceAdd, Nat.reduceEqDiff, Nat.reduceLT, Nat.reduceLeDiff, Int.reduceLE, Int.reduceLT, Int.reduceAdd, Int.reduceNeg, Int.reduceMul, Int.reduceSub, Int.reduceEq, Int.reduceToNat, Int.reduceNatCast, Int.cast_ofNat_Int, ↓reduceIte, and_self, List.drop_succ_cons, List.drop_zero, List.take_succ_cons, List.take_zero, List.length_cons, List.length_nil, List.reverse_cons, List.reverse_nil, List.nil_append, List.cons_append, Option.toList, true_and, and_true, or_false, false_or, or_true, true_or, forall_const, Classical.not_not, not_false_eq_true, not_true_eq_false, false_implies, true_implies, implies_true, imp_self]
  refine ⟨hP, fun r M1 hR => ?_⟩
  obtain ⟨rfl, M2, hk, rfl⟩ := hR
  simp only [e_wpy (k := 3475) dX0_never_3 rfl rfl rfl, e_wpy (k := 9) dX0_never_6 rfl rfl rfl, e_wpy (k := 9) dX0_never_7 rfl rfl rfl, e_wpy (k := 9) dX0_never_8 rfl rfl rfl, e_wpy (k := 9) dX0_never_11 rfl rfl rfl, e_wpy (k := 9) dX0_never_12 rfl rfl rfl, xoff_a, ex_null_n, ex_null_r, ex_nonn_n, ex_nonn_r, ex_aret, xel_n, xel_s, xgo_0, xgo_1x, xgo_1v, xgo_1i, xgo_1l, xgo_1r, xgo_2, xgo_3, xgo_4, xgo_5x, xgo_5v, xgo_5i, xgo_5l, xgd_5, xgd_0, xgd_1, xgd_2, xgd_3, xgd_4, ath_y, xct_f, xct_t, xna_f, csL_n, Nat.reduceMul, retX_i, retX_l, retX_r, retX_v, c0_asksBackN, P0_asksBackN, xs0_neverN, cs0_neverN, g0_333, g0_98, c0_toldBy, P0_toldBy, V0_toldBy, a8_13, w8_13, a8_14, w8_14, a8_15, w8_15, a8_16, w8_16, a8_17, w8_17, a8_18, w8_18, a8_19, w8_19, a8_20, w8_20, a8_21, w8_21, a8_22, w8_22, a8_23, w8_23, a8_24, w8_24, a8_25, w8_25, a8_26, w8_26, a8_27, w8_27, a8_28, w8_28, a8_29, w8_29, a8_30, w8_30, a8_31, w8_31, a8_32, w8_32, a8_33, w8_33, a8_34, w8_34, a8_35, w8_35, a8_36, w8_36, a8_37, w8_37, a8_38, w8_38, a8_39, w8_39, a8_40, w8_40, a8_12, w8_12, a8_6, a8_7, e_iconst, e_bipush, e_sipush, e_lconst_0, e_lconst_1, e_iload, e_iload_0, e_iload_1, e_iload_2, e_iload_3, e_lload, e_lload_0, e_lload_1, e_lload_2, e_lload_3, e_aload, e_aload_0, e_aload_1, e_aload_2, e_aload_3, e_istore, e_istore_0, e_istore_1, e_istore_2, e_istore_3, e_astore, e_astore_0, e_astore_1, e_astore_2, e_astore_3, e_lstore, e_lstore_0, e_lstore_1, e_lstore_2, e_lstore_3, e_iinc, e_iadd, e_isub, e_imul, e_ladd, e_lsub, e_lmul, e_idiv, e_irem, e_ldiv, e_lrem, e_ineg, e_lneg, e_iand, e_ior, e_ixor, e_ishl, e_ishr, e_iushr, e_lcmp, e_i2l, e_l2i, e_i2b, e_i2s, e_dup_i, e_dup_r, e_pop_i, e_pop_r, e_dup2_l, e_dup2_ir, e_dup2_ii, e_ifeq, e_ifne, e_iflt, e_ifge, e_ifgt, e_ifle, e_iceq, e_icne, e_iclt, e_icge, e_icgt, e_icle, e_goto, e_switch, e_invokevirtual, e_invokestatic, e_invokespecial, e_ret0, e_ret1, e_ret2, e_ret3, ldI_s, ldL_s, ldR_s, clO_s, ctP_s, ctS_s, mgo_0, mgo_s, pjc_s, pj_0, pj_s, lk_s, rm1_0, rm1_i, rm1_r, rm1_l, rm2_0, rm2_i, rm2_r, rm2_l, csL_s, lc_lt, lc_ge, lc_gt, lc_le, lc_eq, b01_0, b01_1, b01_01, b01_n, up2_o, up2_s, up2_u, ne_eq, reduceCtorEq, Nat.reduceAdd, Nat.reduceEqDiff, Nat.reduceLT, Nat.reduceLeDiff, Int.reduceLE, Int.reduceLT, Int.reduceAdd, Int.reduceNeg, Int.reduceMul, Int.reduceSub, Int.reduceEq, Int.reduceToNat, Int.reduceNatCast, Int.cast_ofNat_Int, ↓reduceIte, and_self, List.drop_succ_cons, List.drop_zero, List.take_succ_cons, List.take_zero, List.length_cons, List.length_nil, List.reverse_cons, List.reverse_nil, List.nil_append, List.cons_append, Option.toList, true_and, and_true, or_false, false_or, or_true, true_or, forall_const, Classical.not_not, not_false_eq_true, not_true_eq_false, false_implies, true_implies, implies_true, imp_self]
  first | exact hQ _ _ ⟨rfl, M2, hk, rfl⟩ | exact ⟨fun z => absurd z (by decide), fun _ => hQ _ _ ⟨rfl, M2, hk, rfl⟩⟩ | exact ⟨fun _ => hQ _ _ ⟨rfl, M2, hk, rfl⟩, fun z => absurd z (by decide)⟩
set_option maxHeartbeats 4000000 in
set_option maxRecDepth 100000 in
theorem at0_neverN_19 {rs : List (Nat × Nat)} {s b : Int} {M : Mm} {Q : Option AV → Mm → Prop} (hM : okM (sh8 rs) M) (h_s : i32 s) (h_b : i32 b) (hP : P0_neverN rs s b M) (hQ : ∀ (r : Option AV) (M1 : Mm), R0_neverN rs s b M r M1 → Q r M1) {m : Nat} {b_ x k : Int} {M1 : Mm} (hM1 : okM (sh8 rs) M1) (h_b_ : i32 b_) (h_x : i32 x) (h_k : i32 k) (hJ : J0_neverN_19 rs s b M m b_ x k M1) (I_19 : List AV → Mm → Prop) (hI_19 : ∀ (m_ : Nat) (y_b_ : Int) (y_x : Int) (y_k : Int) (M2 : Mm), m_ < m → J0_neverN_19 rs s b M m_ y_b_ y_x y_k M2 → I_19 [ar 0, ai y_b_, ai y_x, ai y_k] M2) : wpx (tb0 (csL (cs0_neverN rs))) (csL (xs0_neverN rs)) (sh8 rs) 6 1 cX0_never [(19, [0, 2, 4, 5], I_19)] Q (fun _ _ => False) 400 false 19 [(0, ar 0), (2, ai b_), (4, ai x), (5, ai k)] [] M1 := by
  exact hJ.elim
set_option maxHeartbeats 4000000 in
set_option maxRecDepth 100000 in
theorem m0_neverN {rs : List (Nat × Nat)} : MOKA cl8 (sh8 rs) tyl8 Nws8 evE 203 3 222 yX0_never (ws_ yX0_never cX0_never 6 (some .int)) (sp0_neverN rs) := by
  refine mokA_of (own := RX0) (fl := fl0) (tb := tb0 (csL (cs0_neverN rs))) (xt := csL (xs0_neverN rs)) (rt := 1) (fuel := 400) (fun avs M Q => [(19, [0, 2, 4, 5], fun m_ vs M1 => ∃ y_b_ : Int, ∃ y_x : Int, ∃ y_k : Int, vs = [ar 0, ai y_b_, ai y_x, ai y_k] ∧ J0_neverN_19 rs (pa true [0, 0] avs 0) (pa true [0, 0] avs 1) M m_ y_b_ y_x y_k M1)]) (by decide) rfl nws8_ok (tbOK0 _) rfl (csL_all ?_) (csA_all ?_) ?_ ?_ ?_
  · intro q hq
    simp only [cs0_neverN, List.mem_cons, List.not_mem_nil, or_false] at hq
    rcases hq with rfl
    · exact cg0_toldBy (by decide)
  · intro q hq
    simp only [xs0_neverN, List.mem_cons, List.not_mem_nil, or_false] at hq
    rcases hq with rfl
    · exact Or.inr ⟨(by decide : ¬ (((2 : Nat) = 0 ∨ (2 : Nat) = 3) ∨ (2 : Nat) = 4)), cxe0_asksBackN (by decide)⟩
  · intro avs M Q hsp
    obtain ⟨xs, hx⟩ := spX_un _ _ _ hsp
    obtain ⟨e, hl⟩ := unA_mkT hx
    obtain ⟨s, b, rfl⟩ := len2 hl
    have e : avs = [ar 0, ai s, ai b] := e
    subst e
    simp [szL, isL]
  · intro avs M Q hM hav hsp
    obtain ⟨xs, hx⟩ := spX_un _ _ _ hsp
    obtain ⟨e, hl⟩ := unA_mkT hx
    obtain ⟨s, b, rfl⟩ := len2 hl
    have e : avs = [ar 0, ai s, ai b] := e
    subst e
    exact in0_neverN hM (hav (ai s) (by simp)) (hav (ai b) (by simp)) hsp.1 hsp.2 _ (fun m_ y_b_ y_x y_k M2 hJ => ⟨m_, y_b_, y_x, y_k, rfl, hJ⟩)
  · intro avs M Q hM hav hsp q hq m_ vs M1 hM1 hv hJ
    obtain ⟨xs, hx⟩ := spX_un _ _ _ hsp
    obtain ⟨e, hl⟩ := unA_mkT hx
    obtain ⟨s, b, rfl⟩ := len2 hl
    have e : avs = [ar 0, ai s, ai b] := e
    subst e
    simp only [List.mem_cons, List.not_mem_nil, or_false] at hq
    rcases hq with rfl
    · obtain ⟨y_b_, y_x, y_k, rfl, hJ⟩ := hJ
      exact at0_neverN_19 hM (hav (ai s) (by simp)) (hav (ai b) (by simp)) hsp.1 hsp.2 hM1 (hv (2, ai y_b_) (List.mem_of_getElem? (i := 1) rfl)) (hv (4, ai y_x) (List.mem_of_getElem? (i := 2) rfl)) (hv (5, ai y_k) (List.mem_of_getElem? (i := 3) rfl)) hJ _ (fun m2 z_b_ z_x z_k M2 hm hJ2 => ⟨m2, hm, z_b_, z_x, z_k, rfl, hJ2⟩)
def P0_fewestN (rs : List (Nat × Nat)) (s : Int) (b : Int) (M : Mm) : Prop := bkN s b M
def R0_fewestN (rs : List (Nat × Nat)) (s : Int) (b : Int) (M : Mm) (r : Option AV) (M1 : Mm) : Prop := sixZ r M M1
def sp0_fewestN (rs : List (Nat × Nat)) : Spec := spX true [0, 0] (fun x M => P0_fewestN rs (x 0) (x 1) M) (fun x M r M1 => R0_fewestN rs (x 0) (x 1) M r M1)
theorem c0_fewestN {rs : List (Nat × Nat)} {s b : Int} {M : Mm} {Q : Option AV → Mm → Prop} : sp0_fewestN rs [ar 0, ai s, ai b] M Q = (P0_fewestN rs s b M ∧ ∀ (r : Option AV) (M1 : Mm), R0_fewestN rs s b M r M1 → Q r M1) := rfl
def cs0_fewestN (rs : List (Nat × Nat)) : List (Nat × Nat × Nat × Spec) := [(300, 0, 1, (sp0_bits rs))]
def xs0_fewestN (rs : List (Nat × Nat)) : List (Nat × Nat × Nat × Spec) := [(3475, 2, 3, sp0_asksBackN rs)]
def J0_fewestN_19 (rs : List (Nat × Nat)) (s : Int) (b : Int) (M : Mm) (m : Nat) (x : Int) (k : Int) (M1 : Mm) : Prop := False
set_option maxHeartbeats 4000000 in
set_option maxRecDepth 100000 in
theorem in0_fewestN {rs : List (Nat × Nat)} {s b : Int} {M : Mm} {Q : Option AV → Mm → Prop} (hM : okM (sh8 rs) M) (h_s : i32 s) (h_b : i32 b) (hP : P0_fewestN rs s b M) (hQ : ∀ (r : Option AV) (M1 : Mm), R0_fewestN rs s b M r M1 → Q r M1) (I_19 : List AV → Mm → Prop) (hI_19 : ∀ (m_ : Nat) (y_x : Int) (y_k : Int) (M2 : Mm), J0_fewestN_19 rs s b M m_ y_x y_k M2 → I_19 [ar 0, ai y_x, ai y_k] M2) : wpx (tb0 (csL (cs0_fewestN rs))) (csL (xs0_fewestN rs)) (sh8 rs) 6 1 cX0_fewest [(19, [0, 4, 5], I_19)] Q (fun _ _ => False) 400 false 0 [(0, ar 0), (1, ai s), (2, ai b)] [] M := by
  simp only [e_wpy (k := 9) dX0_fewest_0 rfl rfl rfl, e_wpy (k := 9) dX0_fewest_1 rfl rfl rfl, e_wpy (k := 9) dX0_fewest_2 rfl rfl rfl, e_wpy (k := 3475) dX0_fewest_3 rfl rfl rfl, e_wpy (k := 9) dX0_fewest_6 rfl rfl rfl, e_wpy (k := 9) dX0_fewest_7 rfl rfl rfl, e_wpy (k := 9) dX0_fewest_8 rfl rfl rfl, e_wpy (k := 9) dX0_fewest_11 rfl rfl rfl, e_wpy (k := 9) dX0_fewest_12 rfl rfl rfl, xoff_a, ex_null_n, ex_null_r, ex_nonn_n, ex_nonn_r, ex_aret, xel_n, xel_s, xgo_0, xgo_1x, xgo_1v, xgo_1i, xgo_1l, xgo_1r, xgo_2, xgo_3, xgo_4, xgo_5x, xgo_5v, xgo_5i, xgo_5l, xgd_5, xgd_0, xgd_1, xgd_2, xgd_3, xgd_4, ath_y, xct_f, xct_t, xna_f, csL_n, Nat.reduceMul, retX_i, retX_l, retX_r, retX_v, c0_asksBackN, P0_asksBackN, xs0_fewestN, cs0_fewestN, g0_333, g0_98, c0_bits, P0_bits, V0_bits, a8_13, w8_13, a8_14, w8_14, a8_15, w8_15, a8_16, w8_16, a8_17, w8_17, a8_18, w8_18, a8_19, w8_19, a8_20, w8_20, a8_21, w8_21, a8_22, w8_22, a8_23, w8_23, a8_24, w8_24, a8_25, w8_25, a8_26, w8_26, a8_27, w8_27, a8_28, w8_28, a8_29, w8_29, a8_30, w8_30, a8_31, w8_31, a8_32, w8_32, a8_33, w8_33, a8_34, w8_34, a8_35, w8_35, a8_36, w8_36, a8_37, w8_37, a8_38, w8_38, a8_39, w8_39, a8_40, w8_40, a8_12, w8_12, a8_6, a8_7, e_iconst, e_bipush, e_sipush, e_lconst_0, e_lconst_1, e_iload, e_iload_0, e_iload_1, e_iload_2, e_iload_3, e_lload, e_lload_0, e_lload_1, e_lload_2, e_lload_3, e_aload, e_aload_0, e_aload_1, e_aload_2, e_aload_3, e_istore, e_istore_0, e_istore_1, e_istore_2, e_istore_3, e_astore, e_astore_0, e_astore_1, e_astore_2, e_astore_3, e_lstore, e_lstore_0, e_lstore_1, e_lstore_2, e_lstore_3, e_iinc, e_iadd, e_isub, e_imul, e_ladd, e_lsub, e_lmul, e_idiv, e_irem, e_ldiv, e_lrem, e_ineg, e_lneg, e_iand, e_ior, e_ixor, e_ishl, e_ishr, e_iushr, e_lcmp, e_i2l, e_l2i, e_i2b, e_i2s, e_dup_i, e_dup_r, e_pop_i, e_pop_r, e_dup2_l, e_dup2_ir, e_dup2_ii, e_ifeq, e_ifne, e_iflt, e_ifge, e_ifgt, e_ifle, e_iceq, e_icne, e_iclt, e_icge, e_icgt, e_icle, e_goto, e_switch, e_invokevirtual, e_invokestatic, e_invokespecial, e_ret0, e_ret1, e_ret2, e_ret3, ldI_s, ldL_s, ldR_s, clO_s, ctP_s, ctS_s, mgo_0, mgo_s, pjc_s, pj_0, pj_s, lk_s, rm1_0, rm1_i, rm1_r, rm1_l, rm2_0, rm2_i, rm2_r, rm2_l, csL_s, lc_lt, lc_ge, lc_gt, lc_le, lc_eq, b01_0, b01_1, b01_01, b01_n, up2_o, up2_s, up2_u, ne_eq, reduceCtorEq, Nat.reduceAdd, Nat.reduceEqDiff, Nat.reduceLT, Nat.reduceLeDiff, Int.reduceLE, Int.reduceLT, Int.reduceAdd, Int.reduceNeg, Int.reduceMul, Int.reduceSub, Int.reduceEq, Int.reduceToNat, Int.reduceNatCast, Int.cast_ofNat_Int, ↓reduceIte, and_self, List.drop_succ_cons, List.drop_zero, List.take_succ_cons, List.take_zero, List.length_cons, List.length_nil, List.reverse_cons, List.reverse_nil, List.nil_append, List.cons_append, Option.toList, true_and, and_true, or_false, false_or, or_true, true_or, forall_const, Classical.not_not, not_false_eq_true, not_true_eq_false, false_implies, true_implies, implies_true, imp_self]
  refine ⟨hP, fun r M1 hR => ?_⟩
  obtain ⟨rfl, M2, hk, rfl⟩ := hR
  simp only [e_wpy (k := 3475) dX0_fewest_3 rfl rfl rfl, e_wpy (k := 9) dX0_fewest_6 rfl rfl rfl, e_wpy (k := 9) dX0_fewest_7 rfl rfl rfl, e_wpy (k := 9) dX0_fewest_8 rfl rfl rfl, e_wpy (k := 9) dX0_fewest_11 rfl rfl rfl, e_wpy (k := 9) dX0_fewest_12 rfl rfl rfl, xoff_a, ex_null_n, ex_null_r, ex_nonn_n, ex_nonn_r, ex_aret, xel_n, xel_s, xgo_0, xgo_1x, xgo_1v, xgo_1i, xgo_1l, xgo_1r, xgo_2, xgo_3, xgo_4, xgo_5x, xgo_5v, xgo_5i, xgo_5l, xgd_5, xgd_0, xgd_1, xgd_2, xgd_3, xgd_4, ath_y, xct_f, xct_t, xna_f, csL_n, Nat.reduceMul, retX_i, retX_l, retX_r, retX_v, c0_asksBackN, P0_asksBackN, xs0_fewestN, cs0_fewestN, g0_333, g0_98, c0_bits, P0_bits, V0_bits, a8_13, w8_13, a8_14, w8_14, a8_15, w8_15, a8_16, w8_16, a8_17, w8_17, a8_18, w8_18, a8_19, w8_19, a8_20, w8_20, a8_21, w8_21, a8_22, w8_22, a8_23, w8_23, a8_24, w8_24, a8_25, w8_25, a8_26, w8_26, a8_27, w8_27, a8_28, w8_28, a8_29, w8_29, a8_30, w8_30, a8_31, w8_31, a8_32, w8_32, a8_33, w8_33, a8_34, w8_34, a8_35, w8_35, a8_36, w8_36, a8_37, w8_37, a8_38, w8_38, a8_39, w8_39, a8_40, w8_40, a8_12, w8_12, a8_6, a8_7, e_iconst, e_bipush, e_sipush, e_lconst_0, e_lconst_1, e_iload, e_iload_0, e_iload_1, e_iload_2, e_iload_3, e_lload, e_lload_0, e_lload_1, e_lload_2, e_lload_3, e_aload, e_aload_0, e_aload_1, e_aload_2, e_aload_3, e_istore, e_istore_0, e_istore_1, e_istore_2, e_istore_3, e_astore, e_astore_0, e_astore_1, e_astore_2, e_astore_3, e_lstore, e_lstore_0, e_lstore_1, e_lstore_2, e_lstore_3, e_iinc, e_iadd, e_isub, e_imul, e_ladd, e_lsub, e_lmul, e_idiv, e_irem, e_ldiv, e_lrem, e_ineg, e_lneg, e_iand, e_ior, e_ixor, e_ishl, e_ishr, e_iushr, e_lcmp, e_i2l, e_l2i, e_i2b, e_i2s, e_dup_i, e_dup_r, e_pop_i, e_pop_r, e_dup2_l, e_dup2_ir, e_dup2_ii, e_ifeq, e_ifne, e_iflt, e_ifge, e_ifgt, e_ifle, e_iceq, e_icne, e_iclt, e_icge, e_icgt, e_icle, e_goto, e_switch, e_invokevirtual, e_invokestatic, e_invokespecial, e_ret0, e_ret1, e_ret2, e_ret3, ldI_s, ldL_s, ldR_s, clO_s, ctP_s, ctS_s, mgo_0, mgo_s, pjc_s, pj_0, pj_s, lk_s, rm1_0, rm1_i, rm1_r, rm1_l, rm2_0, rm2_i, rm2_r, rm2_l, csL_s, lc_lt, lc_ge, lc_gt, lc_le, lc_eq, b01_0, b01_1, b01_01, b01_n, up2_o, up2_s, up2_u, ne_eq, reduceCtorEq, Nat.reduceAdd, Nat.reduceEqDiff, Nat.reduceLT, Nat.reduceLeDiff, Int.reduceLE, Int.reduceLT, Int.reduceAdd, Int.reduceNeg, Int.reduceMul, Int.reduceSub, Int.reduceEq, Int.reduceToNat, Int.reduceNatCast, Int.cast_ofNat_Int, ↓reduceIte, and_self, List.drop_succ_cons, List.drop_zero, List.take_succ_cons, List.take_zero, List.length_cons, List.length_nil, List.reverse_cons, List.reverse_nil, List.nil_append, List.cons_append, Option.toList, true_and, and_true, or_false, false_or, or_true, true_or, forall_const, Classical.not_not, not_false_eq_true, not_true_eq_false, false_implies, true_implies, implies_true, imp_self]
  first | exact hQ _ _ ⟨rfl, M2, hk, rfl⟩ | exact ⟨fun z => absurd z (by decide), fun _ => hQ _ _ ⟨rfl, M2, hk, rfl⟩⟩ | exact ⟨fun _ => hQ _ _ ⟨rfl, M2, hk, rfl⟩, fun z => absurd z (by decide)⟩
set_option maxHeartbeats 4000000 in
set_option maxRecDepth 100000 in
theorem at0_fewestN_19 {rs : List (Nat × Nat)} {s b : Int} {M : Mm} {Q : Option AV → Mm → Prop} (hM : okM (sh8 rs) M) (h_s : i32 s) (h_b : i32 b) (hP : P0_fewestN rs s b M) (hQ : ∀ (r : Option AV) (M1 : Mm), R0_fewestN rs s b M r M1 → Q r M1) {m : Nat} {x k : Int} {M1 : Mm} (hM1 : okM (sh8 rs) M1) (h_x : i32 x) (h_k : i32 k) (hJ : J0_fewestN_19 rs s b M m x k M1) (I_19 : List AV → Mm → Prop) (hI_19 : ∀ (m_ : Nat) (y_x : Int) (y_k : Int) (M2 : Mm), m_ < m → J0_fewestN_19 rs s b M m_ y_x y_k M2 → I_19 [ar 0, ai y_x, ai y_k] M2) : wpx (tb0 (csL (cs0_fewestN rs))) (csL (xs0_fewestN rs)) (sh8 rs) 6 1 cX0_fewest [(19, [0, 4, 5], I_19)] Q (fun _ _ => False) 400 false 19 [(0, ar 0), (4, ai x), (5, ai k)] [] M1 := by
  exact hJ.elim
set_option maxHeartbeats 4000000 in
set_option maxRecDepth 100000 in
theorem m0_fewestN {rs : List (Nat × Nat)} : MOKA cl8 (sh8 rs) tyl8 Nws8 evE 203 3 222 yX0_fewest (ws_ yX0_fewest cX0_fewest 6 (some .int)) (sp0_fewestN rs) := by
  refine mokA_of (own := RX0) (fl := fl0) (tb := tb0 (csL (cs0_fewestN rs))) (xt := csL (xs0_fewestN rs)) (rt := 1) (fuel := 400) (fun avs M Q => [(19, [0, 4, 5], fun m_ vs M1 => ∃ y_x : Int, ∃ y_k : Int, vs = [ar 0, ai y_x, ai y_k] ∧ J0_fewestN_19 rs (pa true [0, 0] avs 0) (pa true [0, 0] avs 1) M m_ y_x y_k M1)]) (by decide) rfl nws8_ok (tbOK0 _) rfl (csL_all ?_) (csA_all ?_) ?_ ?_ ?_
  · intro q hq
    simp only [cs0_fewestN, List.mem_cons, List.not_mem_nil, or_false] at hq
    rcases hq with rfl
    · exact cg0_bits (by decide)
  · intro q hq
    simp only [xs0_fewestN, List.mem_cons, List.not_mem_nil, or_false] at hq
    rcases hq with rfl
    · exact Or.inr ⟨(by decide : ¬ (((2 : Nat) = 0 ∨ (2 : Nat) = 3) ∨ (2 : Nat) = 4)), cxe0_asksBackN (by decide)⟩
  · intro avs M Q hsp
    obtain ⟨xs, hx⟩ := spX_un _ _ _ hsp
    obtain ⟨e, hl⟩ := unA_mkT hx
    obtain ⟨s, b, rfl⟩ := len2 hl
    have e : avs = [ar 0, ai s, ai b] := e
    subst e
    simp [szL, isL]
  · intro avs M Q hM hav hsp
    obtain ⟨xs, hx⟩ := spX_un _ _ _ hsp
    obtain ⟨e, hl⟩ := unA_mkT hx
    obtain ⟨s, b, rfl⟩ := len2 hl
    have e : avs = [ar 0, ai s, ai b] := e
    subst e
    exact in0_fewestN hM (hav (ai s) (by simp)) (hav (ai b) (by simp)) hsp.1 hsp.2 _ (fun m_ y_x y_k M2 hJ => ⟨m_, y_x, y_k, rfl, hJ⟩)
  · intro avs M Q hM hav hsp q hq m_ vs M1 hM1 hv hJ
    obtain ⟨xs, hx⟩ := spX_un _ _ _ hsp
    obtain ⟨e, hl⟩ := unA_mkT hx
    obtain ⟨s, b, rfl⟩ := len2 hl
    have e : avs = [ar 0, ai s, ai b] := e
    subst e
    simp only [List.mem_cons, List.not_mem_nil, or_false] at hq
    rcases hq with rfl
    · obtain ⟨y_x, y_k, rfl, hJ⟩ := hJ
      exact at0_fewestN_19 hM (hav (ai s) (by simp)) (hav (ai b) (by simp)) hsp.1 hsp.2 hM1 (hv (4, ai y_x) (List.mem_of_getElem? (i := 1) rfl)) (hv (5, ai y_k) (List.mem_of_getElem? (i := 2) rfl)) hJ _ (fun m2 z_x z_k M2 hm hJ2 => ⟨m2, hm, z_x, z_k, rfl, hJ2⟩)
def P0_askN (rs : List (Nat × Nat)) (s : Int) (b : Int) (M : Mm) : Prop := bkN s b M
def R0_askN (rs : List (Nat × Nat)) (s : Int) (b : Int) (M : Mm) (r : Option AV) (M1 : Mm) : Prop := sixZ r M M1
def sp0_askN (rs : List (Nat × Nat)) : Spec := spX true [0, 0] (fun x M => P0_askN rs (x 0) (x 1) M) (fun x M r M1 => R0_askN rs (x 0) (x 1) M r M1)
theorem c0_askN {rs : List (Nat × Nat)} {s b : Int} {M : Mm} {Q : Option AV → Mm → Prop} : sp0_askN rs [ar 0, ai s, ai b] M Q = (P0_askN rs s b M ∧ ∀ (r : Option AV) (M1 : Mm), R0_askN rs s b M r M1 → Q r M1) := rfl
def cs0_askN (rs : List (Nat × Nat)) : List (Nat × Nat × Nat × Spec) := [(353, 1, 1, (sp0_askOf rs))]
def xs0_askN (rs : List (Nat × Nat)) : List (Nat × Nat × Nat × Spec) := [(3475, 2, 3, sp0_asksBackN rs)]
set_option maxHeartbeats 4000000 in
set_option maxRecDepth 100000 in
theorem in0_askN {rs : List (Nat × Nat)} {s b : Int} {M : Mm} {Q : Option AV → Mm → Prop} (hM : okM (sh8 rs) M) (h_s : i32 s) (h_b : i32 b) (hP : P0_askN rs s b M) (hQ : ∀ (r : Option AV) (M1 : Mm), R0_askN rs s b M r M1 → Q r M1) : wpx (tb0 (csL (cs0_askN rs))) (csL (xs0_askN rs)) (sh8 rs) 4 1 cX0_ask [] Q (fun _ _ => False) 400 false 0 [(0, ar 0), (1, ai s), (2, ai b)] [] M := by
  simp only [e_wpy (k := 9) dX0_ask_0 rfl rfl rfl, e_wpy (k := 9) dX0_ask_1 rfl rfl rfl, e_wpy (k := 9) dX0_ask_2 rfl rfl rfl, e_wpy (k := 3475) dX0_ask_3 rfl rfl rfl, e_wpy (k := 9) dX0_ask_6 rfl rfl rfl, e_wpy (k := 9) dX0_ask_7 rfl rfl rfl, e_wpy (k := 9) dX0_ask_8 rfl rfl rfl, e_wpy (k := 9) dX0_ask_11 rfl rfl rfl, e_wpy (k := 9) dX0_ask_12 rfl rfl rfl, e_wpy (k := 9) dX0_ask_15 rfl rfl rfl, e_wpy (k := 3535) dX0_ask_16 rfl rfl rfl, e_wpy (k := 9) dX0_ask_19 rfl rfl rfl, xoff_a, ex_null_n, ex_null_r, ex_nonn_n, ex_nonn_r, ex_aret, xel_n, xel_s, xgo_0, xgo_1x, xgo_1v, xgo_1i, xgo_1l, xgo_1r, xgo_2, xgo_3, xgo_4, xgo_5x, xgo_5v, xgo_5i, xgo_5l, xgd_5, xgd_0, xgd_1, xgd_2, xgd_3, xgd_4, ath_y, xct_f, xct_t, xna_f, csL_n, Nat.reduceMul, retX_i, retX_l, retX_r, retX_v, c0_asksBackN, P0_asksBackN, xs0_askN, cs0_askN, c0_askOf, e_iconst, e_bipush, e_sipush, e_lconst_0, e_lconst_1, e_iload, e_iload_0, e_iload_1, e_iload_2, e_iload_3, e_lload, e_lload_0, e_lload_1, e_lload_2, e_lload_3, e_aload, e_aload_0, e_aload_1, e_aload_2, e_aload_3, e_istore, e_istore_0, e_istore_1, e_istore_2, e_istore_3, e_astore, e_astore_0, e_astore_1, e_astore_2, e_astore_3, e_lstore, e_lstore_0, e_lstore_1, e_lstore_2, e_lstore_3, e_iinc, e_iadd, e_isub, e_imul, e_ladd, e_lsub, e_lmul, e_idiv, e_irem, e_ldiv, e_lrem, e_ineg, e_lneg, e_iand, e_ior, e_ixor, e_ishl, e_ishr, e_iushr, e_lcmp, e_i2l, e_l2i, e_i2b, e_i2s, e_dup_i, e_dup_r, e_pop_i, e_pop_r, e_dup2_l, e_dup2_ir, e_dup2_ii, e_ifeq, e_ifne, e_iflt, e_ifge, e_ifgt, e_ifle, e_iceq, e_icne, e_iclt, e_icge, e_icgt, e_icle, e_goto, e_switch, e_invokevirtual, e_invokestatic, e_invokespecial, e_ret0, e_ret1, e_ret2, e_ret3, ldI_s, ldL_s, ldR_s, clO_s, ctP_s, ctS_s, mgo_0, mgo_s, pjc_s, pj_0, pj_s, lk_s, rm1_0, rm1_i, rm1_r, rm1_l, rm2_0, rm2_i, rm2_r, rm2_l, csL_s, lc_lt, lc_ge, lc_gt, lc_le, lc_eq, b01_0, b01_1, b01_01, b01_n, up2_o, up2_s, up2_u, ne_eq, reduceCtorEq, Nat.reduceAdd, Nat.reduceEqDiff, Nat.reduceLT, Nat.reduceLeDiff, Int.reduceLE, Int.reduceLT, Int.reduceAdd, Int.reduceNeg, Int.reduceMul, Int.reduceSub, Int.reduceEq, Int.reduceToNat, Int.reduceNatCast, Int.cast_ofNat_Int, ↓reduceIte, and_self, List.drop_succ_cons, List.drop_zero, List.take_succ_cons, List.take_zero, List.length_cons, List.length_nil, List.reverse_cons, List.reverse_nil, List.nil_append, List.cons_append, Option.toList, true_and, and_true, or_false, false_or, or_true, true_or, forall_const, Classical.not_not, not_false_eq_true, not_true_eq_false, false_implies, true_implies, implies_true, imp_self]
  refine ⟨hP, fun r M1 hR => ?_⟩
  obtain ⟨rfl, M2, hk, rfl⟩ := hR
  simp only [e_wpy (k := 3475) dX0_ask_3 rfl rfl rfl, e_wpy (k := 9) dX0_ask_6 rfl rfl rfl, e_wpy (k := 9) dX0_ask_7 rfl rfl rfl, e_wpy (k := 9) dX0_ask_8 rfl rfl rfl, e_wpy (k := 9) dX0_ask_11 rfl rfl rfl, e_wpy (k := 9) dX0_ask_12 rfl rfl rfl, e_wpy (k := 9) dX0_ask_15 rfl rfl rfl, e_wpy (k := 3535) dX0_ask_16 rfl rfl rfl, e_wpy (k := 9) dX0_ask_19 rfl rfl rfl, xoff_a, ex_null_n, ex_null_r, ex_nonn_n, ex_nonn_r, ex_aret, xel_n, xel_s, xgo_0, xgo_1x, xgo_1v, xgo_1i, xgo_1l, xgo_1r, xgo_2, xgo_3, xgo_4, xgo_5x, xgo_5v, xgo_5i, xgo_5l, xgd_5, xgd_0, xgd_1, xgd_2, xgd_3, xgd_4, ath_y, xct_f, xct_t, xna_f, csL_n, Nat.reduceMul, retX_i, retX_l, retX_r, retX_v, c0_asksBackN, P0_asksBackN, xs0_askN, cs0_askN, c0_askOf, e_iconst, e_bipush, e_sipush, e_lconst_0, e_lconst_1, e_iload, e_iload_0, e_iload_1, e_iload_2, e_iload_3, e_lload, e_lload_0, e_lload_1, e_lload_2, e_lload_3, e_aload, e_aload_0, e_aload_1, e_aload_2, e_aload_3, e_istore, e_istore_0, e_istore_1, e_istore_2, e_istore_3, e_astore, e_astore_0, e_astore_1, e_astore_2, e_astore_3, e_lstore, e_lstore_0, e_lstore_1, e_lstore_2, e_lstore_3, e_iinc, e_iadd, e_isub, e_imul, e_ladd, e_lsub, e_lmul, e_idiv, e_irem, e_ldiv, e_lrem, e_ineg, e_lneg, e_iand, e_ior, e_ixor, e_ishl, e_ishr, e_iushr, e_lcmp, e_i2l, e_l2i, e_i2b, e_i2s, e_dup_i, e_dup_r, e_pop_i, e_pop_r, e_dup2_l, e_dup2_ir, e_dup2_ii, e_ifeq, e_ifne, e_iflt, e_ifge, e_ifgt, e_ifle, e_iceq, e_icne, e_iclt, e_icge, e_icgt, e_icle, e_goto, e_switch, e_invokevirtual, e_invokestatic, e_invokespecial, e_ret0, e_ret1, e_ret2, e_ret3, ldI_s, ldL_s, ldR_s, clO_s, ctP_s, ctS_s, mgo_0, mgo_s, pjc_s, pj_0, pj_s, lk_s, rm1_0, rm1_i, rm1_r, rm1_l, rm2_0, rm2_i, rm2_r, rm2_l, csL_s, lc_lt, lc_ge, lc_gt, lc_le, lc_eq, b01_0, b01_1, b01_01, b01_n, up2_o, up2_s, up2_u, ne_eq, reduceCtorEq, Nat.reduceAdd, Nat.reduceEqDiff, Nat.reduceLT, Nat.reduceLeDiff, Int.reduceLE, Int.reduceLT, Int.reduceAdd, Int.reduceNeg, Int.reduceMul, Int.reduceSub, Int.reduceEq, Int.reduceToNat, Int.reduceNatCast, Int.cast_ofNat_Int, ↓reduceIte, and_self, List.drop_succ_cons, List.drop_zero, List.take_succ_cons, List.take_zero, List.length_cons, List.length_nil, List.reverse_cons, List.reverse_nil, List.nil_append, List.cons_append, Option.toList, true_and, and_true, or_false, false_or, or_true, true_or, forall_const, Classical.not_not, not_false_eq_true, not_true_eq_false, false_implies, true_implies, implies_true, imp_self]
  first | exact hQ _ _ ⟨rfl, M2, hk, rfl⟩ | exact ⟨fun z => absurd z (by decide), fun _ => hQ _ _ ⟨rfl, M2, hk, rfl⟩⟩ | exact ⟨fun _ => hQ _ _ ⟨rfl, M2, hk, rfl⟩, fun z => absurd z (by decide)⟩
set_option maxHeartbeats 4000000 in
set_option maxRecDepth 100000 in
theorem m0_askN {rs : List (Nat × Nat)} : MOKA cl8 (sh8 rs) tyl8 Nws8 evE 203 3 222 yX0_ask (ws_ yX0_ask cX0_ask 4 (some .int)) (sp0_askN rs) := by
  refine mokA_of (own := RX0) (fl := fl0) (tb := tb0 (csL (cs0_askN rs))) (xt := csL (xs0_askN rs)) (rt := 1) (fuel := 400) (fun avs M Q => []) (by decide) rfl nws8_ok (tbOK0 _) rfl (csL_all ?_) (csA_all ?_) ?_ ?_ ?_
  · intro q hq
    simp only [cs0_askN, List.mem_cons, List.not_mem_nil, or_false] at hq
    rcases hq with rfl
    · exact cg0_askOf (by decide)
  · intro q hq
    simp only [xs0_askN, List.mem_cons, List.not_mem_nil, or_false] at hq
    rcases hq with rfl
    · exact Or.inr ⟨(by decide : ¬ (((2 : Nat) = 0 ∨ (2 : Nat) = 3) ∨ (2 : Nat) = 4)), cxe0_asksBackN (by decide)⟩
  · intro avs M Q hsp
    obtain ⟨xs, hx⟩ := spX_un _ _ _ hsp
    obtain ⟨e, hl⟩ := unA_mkT hx
    obtain ⟨s, b, rfl⟩ := len2 hl
    have e : avs = [ar 0, ai s, ai b] := e
    subst e
    simp [szL, isL]
  · intro avs M Q hM hav hsp
    obtain ⟨xs, hx⟩ := spX_un _ _ _ hsp
    obtain ⟨e, hl⟩ := unA_mkT hx
    obtain ⟨s, b, rfl⟩ := len2 hl
    have e : avs = [ar 0, ai s, ai b] := e
    subst e
    exact in0_askN hM (hav (ai s) (by simp)) (hav (ai b) (by simp)) hsp.1 hsp.2
  · intro avs M Q hM hav hsp q hq m_ vs M1 hM1 hv hJ
    obtain ⟨xs, hx⟩ := spX_un _ _ _ hsp
    obtain ⟨e, hl⟩ := unA_mkT hx
    obtain ⟨s, b, rfl⟩ := len2 hl
    have e : avs = [ar 0, ai s, ai b] := e
    subst e
    cases hq
def P0_leavesN (rs : List (Nat × Nat)) (s : Int) (b : Int) (M : Mm) : Prop := bkN s b M
def R0_leavesN (rs : List (Nat × Nat)) (s : Int) (b : Int) (M : Mm) (r : Option AV) (M1 : Mm) : Prop := sixZ r M M1
def sp0_leavesN (rs : List (Nat × Nat)) : Spec := spX true [0, 0] (fun x M => P0_leavesN rs (x 0) (x 1) M) (fun x M r M1 => R0_leavesN rs (x 0) (x 1) M r M1)
theorem c0_leavesN {rs : List (Nat × Nat)} {s b : Int} {M : Mm} {Q : Option AV → Mm → Prop} : sp0_leavesN rs [ar 0, ai s, ai b] M Q = (P0_leavesN rs s b M ∧ ∀ (r : Option AV) (M1 : Mm), R0_leavesN rs s b M r M1 → Q r M1) := rfl
def cs0_leavesN (rs : List (Nat × Nat)) : List (Nat × Nat × Nat × Spec) := [(353, 1, 1, (sp0_askOf rs))]
def xs0_leavesN (rs : List (Nat × Nat)) : List (Nat × Nat × Nat × Spec) := [(3475, 2, 3, sp0_asksBackN rs)]
set_option maxHeartbeats 4000000 in
set_option maxRecDepth 100000 in
theorem in0_leavesN {rs : List (Nat × Nat)} {s b : Int} {M : Mm} {Q : Option AV → Mm → Prop} (hM : okM (sh8 rs) M) (h_s : i32 s) (h_b : i32 b) (hP : P0_leavesN rs s b M) (hQ : ∀ (r : Option AV) (M1 : Mm), R0_leavesN rs s b M r M1 → Q r M1) : wpx (tb0 (csL (cs0_leavesN rs))) (csL (xs0_leavesN rs)) (sh8 rs) 4 1 cX0_leaves [] Q (fun _ _ => False) 400 false 0 [(0, ar 0), (1, ai s), (2, ai b)] [] M := by
  simp only [e_wpy (k := 9) dX0_leaves_0 rfl rfl rfl, e_wpy (k := 9) dX0_leaves_1 rfl rfl rfl, e_wpy (k := 9) dX0_leaves_2 rfl rfl rfl, e_wpy (k := 3475) dX0_leaves_3 rfl rfl rfl, e_wpy (k := 9) dX0_leaves_6 rfl rfl rfl, e_wpy (k := 9) dX0_leaves_7 rfl rfl rfl, e_wpy (k := 9) dX0_leaves_8 rfl rfl rfl, e_wpy (k := 9) dX0_leaves_11 rfl rfl rfl, e_wpy (k := 9) dX0_leaves_12 rfl rfl rfl, xoff_a, ex_null_n, ex_null_r, ex_nonn_n, ex_nonn_r, ex_aret, xel_n, xel_s, xgo_0, xgo_1x, xgo_1v, xgo_1i, xgo_1l, xgo_1r, xgo_2, xgo_3, xgo_4, xgo_5x, xgo_5v, xgo_5i, xgo_5l, xgd_5, xgd_0, xgd_1, xgd_2, xgd_3, xgd_4, ath_y, xct_f, xct_t, xna_f, csL_n, Nat.reduceMul, retX_i, retX_l, retX_r, retX_v, c0_asksBackN, P0_asksBackN, xs0_leavesN, cs0_leavesN, c0_askOf, g0_350, e_iconst, e_bipush, e_sipush, e_lconst_0, e_lconst_1, e_iload, e_iload_0, e_iload_1, e_iload_2, e_iload_3, e_lload, e_lload_0, e_lload_1, e_lload_2, e_lload_3, e_aload, e_aload_0, e_aload_1, e_aload_2, e_aload_3, e_istore, e_istore_0, e_istore_1, e_istore_2, e_istore_3, e_astore, e_astore_0, e_astore_1, e_astore_2, e_astore_3, e_lstore, e_lstore_0, e_lstore_1, e_lstore_2, e_lstore_3, e_iinc, e_iadd, e_isub, e_imul, e_ladd, e_lsub, e_lmul, e_idiv, e_irem, e_ldiv, e_lrem, e_ineg, e_lneg, e_iand, e_ior, e_ixor, e_ishl, e_ishr, e_iushr, e_lcmp, e_i2l, e_l2i, e_i2b, e_i2s, e_dup_i, e_dup_r, e_pop_i, e_pop_r, e_dup2_l, e_dup2_ir, e_dup2_ii, e_ifeq, e_ifne, e_iflt, e_ifge, e_ifgt, e_ifle, e_iceq, e_icne, e_iclt, e_icge, e_icgt, e_icle, e_goto, e_switch, e_invokevirtual, e_invokestatic, e_invokespecial, e_ret0, e_ret1, e_ret2, e_ret3, ldI_s, ldL_s, ldR_s, clO_s, ctP_s, ctS_s, mgo_0, mgo_s, pjc_s, pj_0, pj_s, lk_s, rm1_0, rm1_i, rm1_r, rm1_l, rm2_0, rm2_i, rm2_r, rm2_l, csL_s, lc_lt, lc_ge, lc_gt, lc_le, lc_eq, b01_0, b01_1, b01_01, b01_n, up2_o, up2_s, up2_u, ne_eq, reduceCtorEq, Nat.reduceAdd, Nat.reduceEqDiff, Nat.reduceLT, Nat.reduceLeDiff, Int.reduceLE, Int.reduceLT, Int.reduceAdd, Int.reduceNeg, Int.reduceMul, Int.reduceSub, Int.reduceEq, Int.reduceToNat, Int.reduceNatCast, Int.cast_ofNat_Int, ↓reduceIte, and_self, List.drop_succ_cons, List.drop_zero, List.take_succ_cons, List.take_zero, List.length_cons, List.length_nil, List.reverse_cons, List.reverse_nil, List.nil_append, List.cons_append, Option.toList, true_and, and_true, or_false, false_or, or_true, true_or, forall_const, Classical.not_not, not_false_eq_true, not_true_eq_false, false_implies, true_implies, implies_true, imp_self]
  refine ⟨hP, fun r M1 hR => ?_⟩
  obtain ⟨rfl, M2, hk, rfl⟩ := hR
  simp only [e_wpy (k := 3475) dX0_leaves_3 rfl rfl rfl, e_wpy (k := 9) dX0_leaves_6 rfl rfl rfl, e_wpy (k := 9) dX0_leaves_7 rfl rfl rfl, e_wpy (k := 9) dX0_leaves_8 rfl rfl rfl, e_wpy (k := 9) dX0_leaves_11 rfl rfl rfl, e_wpy (k := 9) dX0_leaves_12 rfl rfl rfl, xoff_a, ex_null_n, ex_null_r, ex_nonn_n, ex_nonn_r, ex_aret, xel_n, xel_s, xgo_0, xgo_1x, xgo_1v, xgo_1i, xgo_1l, xgo_1r, xgo_2, xgo_3, xgo_4, xgo_5x, xgo_5v, xgo_5i, xgo_5l, xgd_5, xgd_0, xgd_1, xgd_2, xgd_3, xgd_4, ath_y, xct_f, xct_t, xna_f, csL_n, Nat.reduceMul, retX_i, retX_l, retX_r, retX_v, c0_asksBackN, P0_asksBackN, xs0_leavesN, cs0_leavesN, c0_askOf, g0_350, e_iconst, e_bipush, e_sipush, e_lconst_0, e_lconst_1, e_iload, e_iload_0, e_iload_1, e_iload_2, e_iload_3, e_lload, e_lload_0, e_lload_1, e_lload_2, e_lload_3, e_aload, e_aload_0, e_aload_1, e_aload_2, e_aload_3, e_istore, e_istore_0, e_istore_1, e_istore_2, e_istore_3, e_astore, e_astore_0, e_astore_1, e_astore_2, e_astore_3, e_lstore, e_lstore_0, e_lstore_1, e_lstore_2, e_lstore_3, e_iinc, e_iadd, e_isub, e_imul, e_ladd, e_lsub, e_lmul, e_idiv, e_irem, e_ldiv, e_lrem, e_ineg, e_lneg, e_iand, e_ior, e_ixor, e_ishl, e_ishr, e_iushr, e_lcmp, e_i2l, e_l2i, e_i2b, e_i2s, e_dup_i, e_dup_r, e_pop_i, e_pop_r, e_dup2_l, e_dup2_ir, e_dup2_ii, e_ifeq, e_ifne, e_iflt, e_ifge, e_ifgt, e_ifle, e_iceq, e_icne, e_iclt, e_icge, e_icgt, e_icle, e_goto, e_switch, e_invokevirtual, e_invokestatic, e_invokespecial, e_ret0, e_ret1, e_ret2, e_ret3, ldI_s, ldL_s, ldR_s, clO_s, ctP_s, ctS_s, mgo_0, mgo_s, pjc_s, pj_0, pj_s, lk_s, rm1_0, rm1_i, rm1_r, rm1_l, rm2_0, rm2_i, rm2_r, rm2_l, csL_s, lc_lt, lc_ge, lc_gt, lc_le, lc_eq, b01_0, b01_1, b01_01, b01_n, up2_o, up2_s, up2_u, ne_eq, reduceCtorEq, Nat.reduceAdd, Nat.reduceEqDiff, Nat.reduceLT, Nat.reduceLeDiff, Int.reduceLE, Int.reduceLT, Int.reduceAdd, Int.reduceNeg, Int.reduceMul, Int.reduceSub, Int.reduceEq, Int.reduceToNat, Int.reduceNatCast, Int.cast_ofNat_Int, ↓reduceIte, and_self, List.drop_succ_cons, List.drop_zero, List.take_succ_cons, List.take_zero, List.length_cons, List.length_nil, List.reverse_cons, List.reverse_nil, List.nil_append, List.cons_append, Option.toList, true_and, and_true, or_false, false_or, or_true, true_or, forall_const, Classical.not_not, not_false_eq_true, not_true_eq_false, false_implies, true_implies, implies_true, imp_self]
  first | exact hQ _ _ ⟨rfl, M2, hk, rfl⟩ | exact ⟨fun z => absurd z (by decide), fun _ => hQ _ _ ⟨rfl, M2, hk, rfl⟩⟩ | exact ⟨fun _ => hQ _ _ ⟨rfl, M2, hk, rfl⟩, fun z => absurd z (by decide)⟩
set_option maxHeartbeats 4000000 in
set_option maxRecDepth 100000 in
theorem m0_leavesN {rs : List (Nat × Nat)} : MOKA cl8 (sh8 rs) tyl8 Nws8 evE 203 3 222 yX0_leaves (ws_ yX0_leaves cX0_leaves 4 (some .int)) (sp0_leavesN rs) := by
  refine mokA_of (own := RX0) (fl := fl0) (tb := tb0 (csL (cs0_leavesN rs))) (xt := csL (xs0_leavesN rs)) (rt := 1) (fuel := 400) (fun avs M Q => []) (by decide) rfl nws8_ok (tbOK0 _) rfl (csL_all ?_) (csA_all ?_) ?_ ?_ ?_
  · intro q hq
    simp only [cs0_leavesN, List.mem_cons, List.not_mem_nil, or_false] at hq
    rcases hq with rfl
    · exact cg0_askOf (by decide)
  · intro q hq
    simp only [xs0_leavesN, List.mem_cons, List.not_mem_nil, or_false] at hq
    rcases hq with rfl
    · exact Or.inr ⟨(by decide : ¬ (((2 : Nat) = 0 ∨ (2 : Nat) = 3) ∨ (2 : Nat) = 4)), cxe0_asksBackN (by decide)⟩
  · intro avs M Q hsp
    obtain ⟨xs, hx⟩ := spX_un _ _ _ hsp
    obtain ⟨e, hl⟩ := unA_mkT hx
    obtain ⟨s, b, rfl⟩ := len2 hl
    have e : avs = [ar 0, ai s, ai b] := e
    subst e
    simp [szL, isL]
  · intro avs M Q hM hav hsp
    obtain ⟨xs, hx⟩ := spX_un _ _ _ hsp
    obtain ⟨e, hl⟩ := unA_mkT hx
    obtain ⟨s, b, rfl⟩ := len2 hl
    have e : avs = [ar 0, ai s, ai b] := e
    subst e
    exact in0_leavesN hM (hav (ai s) (by simp)) (hav (ai b) (by simp)) hsp.1 hsp.2
  · intro avs M Q hM hav hsp q hq m_ vs M1 hM1 hv hJ
    obtain ⟨xs, hx⟩ := spX_un _ _ _ hsp
    obtain ⟨e, hl⟩ := unA_mkT hx
    obtain ⟨s, b, rfl⟩ := len2 hl
    have e : avs = [ar 0, ai s, ai b] := e
    subst e
    cases hq
def P0_loadsN (rs : List (Nat × Nat)) (s : Int) (c : Int) (M : Mm) : Prop := boN s M ∧ isC (vX M) c
def R0_loadsN (rs : List (Nat × Nat)) (s : Int) (c : Int) (M : Mm) (r : Option AV) (M1 : Mm) : Prop := sixX r M M1
def sp0_loadsN (rs : List (Nat × Nat)) : Spec := spX true [0, 0] (fun x M => P0_loadsN rs (x 0) (x 1) M) (fun x M r M1 => R0_loadsN rs (x 0) (x 1) M r M1)
theorem c0_loadsN {rs : List (Nat × Nat)} {s c : Int} {M : Mm} {Q : Option AV → Mm → Prop} : sp0_loadsN rs [ar 0, ai s, ai c] M Q = (P0_loadsN rs s c M ∧ ∀ (r : Option AV) (M1 : Mm), R0_loadsN rs s c M r M1 → Q r M1) := rfl
def cs0_loadsN (rs : List (Nat × Nat)) : List (Nat × Nat × Nat × Spec) := []
def xs0_loadsN (rs : List (Nat × Nat)) : List (Nat × Nat × Nat × Spec) := [(3795, 2, 3, sp0_asksLoadsN rs)]
set_option maxHeartbeats 4000000 in
set_option maxRecDepth 100000 in
theorem in0_loadsN {rs : List (Nat × Nat)} {s c : Int} {M : Mm} {Q : Option AV → Mm → Prop} (hM : okM (sh8 rs) M) (h_s : i32 s) (h_c : i32 c) (hP : P0_loadsN rs s c M) (hQ : ∀ (r : Option AV) (M1 : Mm), R0_loadsN rs s c M r M1 → Q r M1) : wpx (tb0 (csL (cs0_loadsN rs))) (csL (xs0_loadsN rs)) (sh8 rs) 4 1 cX0_loads [] Q (fun _ _ => False) 400 false 0 [(0, ar 0), (1, ai s), (2, ai c)] [] M := by
  simp only [e_wpy (k := 9) dX0_loads_0 rfl rfl rfl, e_wpy (k := 9) dX0_loads_1 rfl rfl rfl, e_wpy (k := 9) dX0_loads_2 rfl rfl rfl, e_wpy (k := 3795) dX0_loads_3 rfl rfl rfl, e_wpy (k := 9) dX0_loads_6 rfl rfl rfl, e_wpy (k := 9) dX0_loads_7 rfl rfl rfl, e_wpy (k := 9) dX0_loads_8 rfl rfl rfl, e_wpy (k := 9) dX0_loads_11 rfl rfl rfl, e_wpy (k := 9) dX0_loads_12 rfl rfl rfl, e_wpy (k := 9) dX0_loads_15 rfl rfl rfl, e_wpy (k := 9) dX0_loads_16 rfl rfl rfl, e_wpy (k := 9) dX0_loads_19 rfl rfl rfl, xoff_a, ex_null_n, ex_null_r, ex_nonn_n, ex_nonn_r, ex_aret, xel_n, xel_s, xgo_0, xgo_1x, xgo_1v, xgo_1i, xgo_1l, xgo_1r, xgo_2, xgo_3, xgo_4, xgo_5x, xgo_5v, xgo_5i, xgo_5l, xgd_5, xgd_0, xgd_1, xgd_2, xgd_3, xgd_4, ath_y, xct_f, xct_t, xna_f, csL_n, Nat.reduceMul, retX_i, retX_l, retX_r, retX_v, c0_asksLoadsN, P0_asksLoadsN, xs0_loadsN, cs0_loadsN, g0_361, e_iconst, e_bipush, e_sipush, e_lconst_0, e_lconst_1, e_iload, e_iload_0, e_iload_1, e_iload_2, e_iload_3, e_lload, e_lload_0, e_lload_1, e_lload_2, e_lload_3, e_aload, e_aload_0, e_aload_1, e_aload_2, e_aload_3, e_istore, e_istore_0, e_istore_1, e_istore_2, e_istore_3, e_astore, e_astore_0, e_astore_1, e_astore_2, e_astore_3, e_lstore, e_lstore_0, e_lstore_1, e_lstore_2, e_lstore_3, e_iinc, e_iadd, e_isub, e_imul, e_ladd, e_lsub, e_lmul, e_idiv, e_irem, e_ldiv, e_lrem, e_ineg, e_lneg, e_iand, e_ior, e_ixor, e_ishl, e_ishr, e_iushr, e_lcmp, e_i2l, e_l2i, e_i2b, e_i2s, e_dup_i, e_dup_r, e_pop_i, e_pop_r, e_dup2_l, e_dup2_ir, e_dup2_ii, e_ifeq, e_ifne, e_iflt, e_ifge, e_ifgt, e_ifle, e_iceq, e_icne, e_iclt, e_icge, e_icgt, e_icle, e_goto, e_switch, e_invokevirtual, e_invokestatic, e_invokespecial, e_ret0, e_ret1, e_ret2, e_ret3, ldI_s, ldL_s, ldR_s, clO_s, ctP_s, ctS_s, mgo_0, mgo_s, pjc_s, pj_0, pj_s, lk_s, rm1_0, rm1_i, rm1_r, rm1_l, rm2_0, rm2_i, rm2_r, rm2_l, csL_s, lc_lt, lc_ge, lc_gt, lc_le, lc_eq, b01_0, b01_1, b01_01, b01_n, up2_o, up2_s, up2_u, ne_eq, reduceCtorEq, Nat.reduceAdd, Nat.reduceEqDiff, Nat.reduceLT, Nat.reduceLeDiff, Int.reduceLE, Int.reduceLT, Int.reduceAdd, Int.reduceNeg, Int.reduceMul, Int.reduceSub, Int.reduceEq, Int.reduceToNat, Int.reduceNatCast, Int.cast_ofNat_Int, ↓reduceIte, and_self, List.drop_succ_cons, List.drop_zero, List.take_succ_cons, List.take_zero, List.length_cons, List.length_nil, List.reverse_cons, List.reverse_nil, List.nil_append, List.cons_append, Option.toList, true_and, and_true, or_false, false_or, or_true, true_or, forall_const, Classical.not_not, not_false_eq_true, not_true_eq_false, false_implies, true_implies, implies_true, imp_self]
  refine ⟨hP, fun r M1 hR => ?_⟩
  obtain ⟨rfl, rfl⟩ := hR
  simp only [e_wpy (k := 3795) dX0_loads_3 rfl rfl rfl, e_wpy (k := 9) dX0_loads_6 rfl rfl rfl, e_wpy (k := 9) dX0_loads_7 rfl rfl rfl, e_wpy (k := 9) dX0_loads_8 rfl rfl rfl, e_wpy (k := 9) dX0_loads_11 rfl rfl rfl, e_wpy (k := 9) dX0_loads_12 rfl rfl rfl, e_wpy (k := 9) dX0_loads_15 rfl rfl rfl, e_wpy (k := 9) dX0_loads_16 rfl rfl rfl, e_wpy (k := 9) dX0_loads_19 rfl rfl rfl, xoff_a, ex_null_n, ex_null_r, ex_nonn_n, ex_nonn_r, ex_aret, xel_n, xel_s, xgo_0, xgo_1x, xgo_1v, xgo_1i, xgo_1l, xgo_1r, xgo_2, xgo_3, xgo_4, xgo_5x, xgo_5v, xgo_5i, xgo_5l, xgd_5, xgd_0, xgd_1, xgd_2, xgd_3, xgd_4, ath_y, xct_f, xct_t, xna_f, csL_n, Nat.reduceMul, retX_i, retX_l, retX_r, retX_v, c0_asksLoadsN, P0_asksLoadsN, xs0_loadsN, cs0_loadsN, g0_361, e_iconst, e_bipush, e_sipush, e_lconst_0, e_lconst_1, e_iload, e_iload_0, e_iload_1, e_iload_2, e_iload_3, e_lload, e_lload_0, e_lload_1, e_lload_2, e_lload_3, e_aload, e_aload_0, e_aload_1, e_aload_2, e_aload_3, e_istore, e_istore_0, e_istore_1, e_istore_2, e_istore_3, e_astore, e_astore_0, e_astore_1, e_astore_2, e_astore_3, e_lstore, e_lstore_0, e_lstore_1, e_lstore_2, e_lstore_3, e_iinc, e_iadd, e_isub, e_imul, e_ladd, e_lsub, e_lmul, e_idiv, e_irem, e_ldiv, e_lrem, e_ineg, e_lneg, e_iand, e_ior, e_ixor, e_ishl, e_ishr, e_iushr, e_lcmp, e_i2l, e_l2i, e_i2b, e_i2s, e_dup_i, e_dup_r, e_pop_i, e_pop_r, e_dup2_l, e_dup2_ir, e_dup2_ii, e_ifeq, e_ifne, e_iflt, e_ifge, e_ifgt, e_ifle, e_iceq, e_icne, e_iclt, e_icge, e_icgt, e_icle, e_goto, e_switch, e_invokevirtual, e_invokestatic, e_invokespecial, e_ret0, e_ret1, e_ret2, e_ret3, ldI_s, ldL_s, ldR_s, clO_s, ctP_s, ctS_s, mgo_0, mgo_s, pjc_s, pj_0, pj_s, lk_s, rm1_0, rm1_i, rm1_r, rm1_l, rm2_0, rm2_i, rm2_r, rm2_l, csL_s, lc_lt, lc_ge, lc_gt, lc_le, lc_eq, b01_0, b01_1, b01_01, b01_n, up2_o, up2_s, up2_u, ne_eq, reduceCtorEq, Nat.reduceAdd, Nat.reduceEqDiff, Nat.reduceLT, Nat.reduceLeDiff, Int.reduceLE, Int.reduceLT, Int.reduceAdd, Int.reduceNeg, Int.reduceMul, Int.reduceSub, Int.reduceEq, Int.reduceToNat, Int.reduceNatCast, Int.cast_ofNat_Int, ↓reduceIte, and_self, List.drop_succ_cons, List.drop_zero, List.take_succ_cons, List.take_zero, List.length_cons, List.length_nil, List.reverse_cons, List.reverse_nil, List.nil_append, List.cons_append, Option.toList, true_and, and_true, or_false, false_or, or_true, true_or, forall_const, Classical.not_not, not_false_eq_true, not_true_eq_false, false_implies, true_implies, implies_true, imp_self]
  first | exact hQ _ _ ⟨rfl, rfl⟩ | exact ⟨fun z => absurd z (by decide), fun _ => hQ _ _ ⟨rfl, rfl⟩⟩ | exact ⟨fun _ => hQ _ _ ⟨rfl, rfl⟩, fun z => absurd z (by decide)⟩
set_option maxHeartbeats 4000000 in
set_option maxRecDepth 100000 in
theorem m0_loadsN {rs : List (Nat × Nat)} : MOKA cl8 (sh8 rs) tyl8 Nws8 evE 204 3 222 yX0_loads (ws_ yX0_loads cX0_loads 4 (some .int)) (sp0_loadsN rs) := by
  refine mokA_of (own := RX0) (fl := fl0) (tb := tb0 (csL (cs0_loadsN rs))) (xt := csL (xs0_loadsN rs)) (rt := 1) (fuel := 400) (fun avs M Q => []) (by decide) rfl nws8_ok (tbOK0 _) rfl (csL_all ?_) (csA_all ?_) ?_ ?_ ?_
  · intro q hq; cases hq
  · intro q hq
    simp only [xs0_loadsN, List.mem_cons, List.not_mem_nil, or_false] at hq
    rcases hq with rfl
    · exact Or.inr ⟨(by decide : ¬ (((2 : Nat) = 0 ∨ (2 : Nat) = 3) ∨ (2 : Nat) = 4)), cxe0_asksLoadsN (by decide)⟩
  · intro avs M Q hsp
    obtain ⟨xs, hx⟩ := spX_un _ _ _ hsp
    obtain ⟨e, hl⟩ := unA_mkT hx
    obtain ⟨s, c, rfl⟩ := len2 hl
    have e : avs = [ar 0, ai s, ai c] := e
    subst e
    simp [szL, isL]
  · intro avs M Q hM hav hsp
    obtain ⟨xs, hx⟩ := spX_un _ _ _ hsp
    obtain ⟨e, hl⟩ := unA_mkT hx
    obtain ⟨s, c, rfl⟩ := len2 hl
    have e : avs = [ar 0, ai s, ai c] := e
    subst e
    exact in0_loadsN hM (hav (ai s) (by simp)) (hav (ai c) (by simp)) hsp.1 hsp.2
  · intro avs M Q hM hav hsp q hq m_ vs M1 hM1 hv hJ
    obtain ⟨xs, hx⟩ := spX_un _ _ _ hsp
    obtain ⟨e, hl⟩ := unA_mkT hx
    obtain ⟨s, c, rfl⟩ := len2 hl
    have e : avs = [ar 0, ai s, ai c] := e
    subst e
    cases hq
def P0_lightN (rs : List (Nat × Nat)) (s : Int) (c : Int) (M : Mm) : Prop := boN s M ∧ isC (vX M) c
def R0_lightN (rs : List (Nat × Nat)) (s : Int) (c : Int) (M : Mm) (r : Option AV) (M1 : Mm) : Prop := sixX r M M1
def sp0_lightN (rs : List (Nat × Nat)) : Spec := spX true [0, 0] (fun x M => P0_lightN rs (x 0) (x 1) M) (fun x M r M1 => R0_lightN rs (x 0) (x 1) M r M1)
theorem c0_lightN {rs : List (Nat × Nat)} {s c : Int} {M : Mm} {Q : Option AV → Mm → Prop} : sp0_lightN rs [ar 0, ai s, ai c] M Q = (P0_lightN rs s c M ∧ ∀ (r : Option AV) (M1 : Mm), R0_lightN rs s c M r M1 → Q r M1) := rfl
def cs0_lightN (rs : List (Nat × Nat)) : List (Nat × Nat × Nat × Spec) := []
def xs0_lightN (rs : List (Nat × Nat)) : List (Nat × Nat × Nat × Spec) := [(3795, 2, 3, sp0_asksLoadsN rs)]
set_option maxHeartbeats 4000000 in
set_option maxRecDepth 100000 in
theorem in0_lightN {rs : List (Nat × Nat)} {s c : Int} {M : Mm} {Q : Option AV → Mm → Prop} (hM : okM (sh8 rs) M) (h_s : i32 s) (h_c : i32 c) (hP : P0_lightN rs s c M) (hQ : ∀ (r : Option AV) (M1 : Mm), R0_lightN rs s c M r M1 → Q r M1) : wpx (tb0 (csL (cs0_lightN rs))) (csL (xs0_lightN rs)) (sh8 rs) 4 1 cX0_light [] Q (fun _ _ => False) 400 false 0 [(0, ar 0), (1, ai s), (2, ai c)] [] M := by
  simp only [e_wpy (k := 9) dX0_light_0 rfl rfl rfl, e_wpy (k := 9) dX0_light_1 rfl rfl rfl, e_wpy (k := 9) dX0_light_2 rfl rfl rfl, e_wpy (k := 3795) dX0_light_3 rfl rfl rfl, e_wpy (k := 9) dX0_light_6 rfl rfl rfl, e_wpy (k := 9) dX0_light_7 rfl rfl rfl, e_wpy (k := 9) dX0_light_8 rfl rfl rfl, e_wpy (k := 9) dX0_light_11 rfl rfl rfl, e_wpy (k := 9) dX0_light_12 rfl rfl rfl, e_wpy (k := 9) dX0_light_15 rfl rfl rfl, e_wpy (k := 9) dX0_light_16 rfl rfl rfl, e_wpy (k := 9) dX0_light_19 rfl rfl rfl, xoff_a, ex_null_n, ex_null_r, ex_nonn_n, ex_nonn_r, ex_aret, xel_n, xel_s, xgo_0, xgo_1x, xgo_1v, xgo_1i, xgo_1l, xgo_1r, xgo_2, xgo_3, xgo_4, xgo_5x, xgo_5v, xgo_5i, xgo_5l, xgd_5, xgd_0, xgd_1, xgd_2, xgd_3, xgd_4, ath_y, xct_f, xct_t, xna_f, csL_n, Nat.reduceMul, retX_i, retX_l, retX_r, retX_v, c0_asksLoadsN, P0_asksLoadsN, xs0_lightN, cs0_lightN, g0_364, e_iconst, e_bipush, e_sipush, e_lconst_0, e_lconst_1, e_iload, e_iload_0, e_iload_1, e_iload_2, e_iload_3, e_lload, e_lload_0, e_lload_1, e_lload_2, e_lload_3, e_aload, e_aload_0, e_aload_1, e_aload_2, e_aload_3, e_istore, e_istore_0, e_istore_1, e_istore_2, e_istore_3, e_astore, e_astore_0, e_astore_1, e_astore_2, e_astore_3, e_lstore, e_lstore_0, e_lstore_1, e_lstore_2, e_lstore_3, e_iinc, e_iadd, e_isub, e_imul, e_ladd, e_lsub, e_lmul, e_idiv, e_irem, e_ldiv, e_lrem, e_ineg, e_lneg, e_iand, e_ior, e_ixor, e_ishl, e_ishr, e_iushr, e_lcmp, e_i2l, e_l2i, e_i2b, e_i2s, e_dup_i, e_dup_r, e_pop_i, e_pop_r, e_dup2_l, e_dup2_ir, e_dup2_ii, e_ifeq, e_ifne, e_iflt, e_ifge, e_ifgt, e_ifle, e_iceq, e_icne, e_iclt, e_icge, e_icgt, e_icle, e_goto, e_switch, e_invokevirtual, e_invokestatic, e_invokespecial, e_ret0, e_ret1, e_ret2, e_ret3, ldI_s, ldL_s, ldR_s, clO_s, ctP_s, ctS_s, mgo_0, mgo_s, pjc_s, pj_0, pj_s, lk_s, rm1_0, rm1_i, rm1_r, rm1_l, rm2_0, rm2_i, rm2_r, rm2_l, csL_s, lc_lt, lc_ge, lc_gt, lc_le, lc_eq, b01_0, b01_1, b01_01, b01_n, up2_o, up2_s, up2_u, ne_eq, reduceCtorEq, Nat.reduceAdd, Nat.reduceEqDiff, Nat.reduceLT, Nat.reduceLeDiff, Int.reduceLE, Int.reduceLT, Int.reduceAdd, Int.reduceNeg, Int.reduceMul, Int.reduceSub, Int.reduceEq, Int.reduceToNat, Int.reduceNatCast, Int.cast_ofNat_Int, ↓reduceIte, and_self, List.drop_succ_cons, List.drop_zero, List.take_succ_cons, List.take_zero, List.length_cons, List.length_nil, List.reverse_cons, List.reverse_nil, List.nil_append, List.cons_append, Option.toList, true_and, and_true, or_false, false_or, or_true, true_or, forall_const, Classical.not_not, not_false_eq_true, not_true_eq_false, false_implies, true_implies, implies_true, imp_self]
  refine ⟨hP, fun r M1 hR => ?_⟩
  obtain ⟨rfl, rfl⟩ := hR
  simp only [e_wpy (k := 3795) dX0_light_3 rfl rfl rfl, e_wpy (k := 9) dX0_light_6 rfl rfl rfl, e_wpy (k := 9) dX0_light_7 rfl rfl rfl, e_wpy (k := 9) dX0_light_8 rfl rfl rfl, e_wpy (k := 9) dX0_light_11 rfl rfl rfl, e_wpy (k := 9) dX0_light_12 rfl rfl rfl, e_wpy (k := 9) dX0_light_15 rfl rfl rfl, e_wpy (k := 9) dX0_light_16 rfl rfl rfl, e_wpy (k := 9) dX0_light_19 rfl rfl rfl, xoff_a, ex_null_n, ex_null_r, ex_nonn_n, ex_nonn_r, ex_aret, xel_n, xel_s, xgo_0, xgo_1x, xgo_1v, xgo_1i, xgo_1l, xgo_1r, xgo_2, xgo_3, xgo_4, xgo_5x, xgo_5v, xgo_5i, xgo_5l, xgd_5, xgd_0, xgd_1, xgd_2, xgd_3, xgd_4, ath_y, xct_f, xct_t, xna_f, csL_n, Nat.reduceMul, retX_i, retX_l, retX_r, retX_v, c0_asksLoadsN, P0_asksLoadsN, xs0_lightN, cs0_lightN, g0_364, e_iconst, e_bipush, e_sipush, e_lconst_0, e_lconst_1, e_iload, e_iload_0, e_iload_1, e_iload_2, e_iload_3, e_lload, e_lload_0, e_lload_1, e_lload_2, e_lload_3, e_aload, e_aload_0, e_aload_1, e_aload_2, e_aload_3, e_istore, e_istore_0, e_istore_1, e_istore_2, e_istore_3, e_astore, e_astore_0, e_astore_1, e_astore_2, e_astore_3, e_lstore, e_lstore_0, e_lstore_1, e_lstore_2, e_lstore_3, e_iinc, e_iadd, e_isub, e_imul, e_ladd, e_lsub, e_lmul, e_idiv, e_irem, e_ldiv, e_lrem, e_ineg, e_lneg, e_iand, e_ior, e_ixor, e_ishl, e_ishr, e_iushr, e_lcmp, e_i2l, e_l2i, e_i2b, e_i2s, e_dup_i, e_dup_r, e_pop_i, e_pop_r, e_dup2_l, e_dup2_ir, e_dup2_ii, e_ifeq, e_ifne, e_iflt, e_ifge, e_ifgt, e_ifle, e_iceq, e_icne, e_iclt, e_icge, e_icgt, e_icle, e_goto, e_switch, e_invokevirtual, e_invokestatic, e_invokespecial, e_ret0, e_ret1, e_ret2, e_ret3, ldI_s, ldL_s, ldR_s, clO_s, ctP_s, ctS_s, mgo_0, mgo_s, pjc_s, pj_0, pj_s, lk_s, rm1_0, rm1_i, rm1_r, rm1_l, rm2_0, rm2_i, rm2_r, rm2_l, csL_s, lc_lt, lc_ge, lc_gt, lc_le, lc_eq, b01_0, b01_1, b01_01, b01_n, up2_o, up2_s, up2_u, ne_eq, reduceCtorEq, Nat.reduceAdd, Nat.reduceEqDiff, Nat.reduceLT, Nat.reduceLeDiff, Int.reduceLE, Int.reduceLT, Int.reduceAdd, Int.reduceNeg, Int.reduceMul, Int.reduceSub, Int.reduceEq, Int.reduceToNat, Int.reduceNatCast, Int.cast_ofNat_Int, ↓reduceIte, and_self, List.drop_succ_cons, List.drop_zero, List.take_succ_cons, List.take_zero, List.length_cons, List.length_nil, List.reverse_cons, List.reverse_nil, List.nil_append, List.cons_append, Option.toList, true_and, and_true, or_false, false_or, or_true, true_or, forall_const, Classical.not_not, not_false_eq_true, not_true_eq_false, false_implies, true_implies, implies_true, imp_self]
  first | exact hQ _ _ ⟨rfl, rfl⟩ | exact ⟨fun z => absurd z (by decide), fun _ => hQ _ _ ⟨rfl, rfl⟩⟩ | exact ⟨fun _ => hQ _ _ ⟨rfl, rfl⟩, fun z => absurd z (by decide)⟩
set_option maxHeartbeats 4000000 in
set_option maxRecDepth 100000 in
theorem m0_lightN {rs : List (Nat × Nat)} : MOKA cl8 (sh8 rs) tyl8 Nws8 evE 204 3 222 yX0_light (ws_ yX0_light cX0_light 4 (some .int)) (sp0_lightN rs) := by
  refine mokA_of (own := RX0) (fl := fl0) (tb := tb0 (csL (cs0_lightN rs))) (xt := csL (xs0_lightN rs)) (rt := 1) (fuel := 400) (fun avs M Q => []) (by decide) rfl nws8_ok (tbOK0 _) rfl (csL_all ?_) (csA_all ?_) ?_ ?_ ?_
  · intro q hq; cases hq
  · intro q hq
    simp only [xs0_lightN, List.mem_cons, List.not_mem_nil, or_false] at hq
    rcases hq with rfl
    · exact Or.inr ⟨(by decide : ¬ (((2 : Nat) = 0 ∨ (2 : Nat) = 3) ∨ (2 : Nat) = 4)), cxe0_asksLoadsN (by decide)⟩
  · intro avs M Q hsp
    obtain ⟨xs, hx⟩ := spX_un _ _ _ hsp
    obtain ⟨e, hl⟩ := unA_mkT hx
    obtain ⟨s, c, rfl⟩ := len2 hl
    have e : avs = [ar 0, ai s, ai c] := e
    subst e
    simp [szL, isL]
  · intro avs M Q hM hav hsp
    obtain ⟨xs, hx⟩ := spX_un _ _ _ hsp
    obtain ⟨e, hl⟩ := unA_mkT hx
    obtain ⟨s, c, rfl⟩ := len2 hl
    have e : avs = [ar 0, ai s, ai c] := e
    subst e
    exact in0_lightN hM (hav (ai s) (by simp)) (hav (ai c) (by simp)) hsp.1 hsp.2
  · intro avs M Q hM hav hsp q hq m_ vs M1 hM1 hv hJ
    obtain ⟨xs, hx⟩ := spX_un _ _ _ hsp
    obtain ⟨e, hl⟩ := unA_mkT hx
    obtain ⟨s, c, rfl⟩ := len2 hl
    have e : avs = [ar 0, ai s, ai c] := e
    subst e
    cases hq
def P0_heavyN (rs : List (Nat × Nat)) (s : Int) (c : Int) (M : Mm) : Prop := boN s M ∧ isC (vX M) c
def R0_heavyN (rs : List (Nat × Nat)) (s : Int) (c : Int) (M : Mm) (r : Option AV) (M1 : Mm) : Prop := sixX r M M1
def sp0_heavyN (rs : List (Nat × Nat)) : Spec := spX true [0, 0] (fun x M => P0_heavyN rs (x 0) (x 1) M) (fun x M r M1 => R0_heavyN rs (x 0) (x 1) M r M1)
theorem c0_heavyN {rs : List (Nat × Nat)} {s c : Int} {M : Mm} {Q : Option AV → Mm → Prop} : sp0_heavyN rs [ar 0, ai s, ai c] M Q = (P0_heavyN rs s c M ∧ ∀ (r : Option AV) (M1 : Mm), R0_heavyN rs s c M r M1 → Q r M1) := rfl
def cs0_heavyN (rs : List (Nat × Nat)) : List (Nat × Nat × Nat × Spec) := []
def xs0_heavyN (rs : List (Nat × Nat)) : List (Nat × Nat × Nat × Spec) := [(3795, 2, 3, sp0_asksLoadsN rs)]
set_option maxHeartbeats 4000000 in
set_option maxRecDepth 100000 in
theorem in0_heavyN {rs : List (Nat × Nat)} {s c : Int} {M : Mm} {Q : Option AV → Mm → Prop} (hM : okM (sh8 rs) M) (h_s : i32 s) (h_c : i32 c) (hP : P0_heavyN rs s c M) (hQ : ∀ (r : Option AV) (M1 : Mm), R0_heavyN rs s c M r M1 → Q r M1) : wpx (tb0 (csL (cs0_heavyN rs))) (csL (xs0_heavyN rs)) (sh8 rs) 4 1 cX0_heavy [] Q (fun _ _ => False) 400 false 0 [(0, ar 0), (1, ai s), (2, ai c)] [] M := by
  simp only [e_wpy (k := 9) dX0_heavy_0 rfl rfl rfl, e_wpy (k := 9) dX0_heavy_1 rfl rfl rfl, e_wpy (k := 9) dX0_heavy_2 rfl rfl rfl, e_wpy (k := 3795) dX0_heavy_3 rfl rfl rfl, e_wpy (k := 9) dX0_heavy_6 rfl rfl rfl, e_wpy (k := 9) dX0_heavy_7 rfl rfl rfl, e_wpy (k := 9) dX0_heavy_8 rfl rfl rfl, e_wpy (k := 9) dX0_heavy_11 rfl rfl rfl, e_wpy (k := 9) dX0_heavy_12 rfl rfl rfl, e_wpy (k := 9) dX0_heavy_15 rfl rfl rfl, e_wpy (k := 9) dX0_heavy_16 rfl rfl rfl, e_wpy (k := 9) dX0_heavy_19 rfl rfl rfl, xoff_a, ex_null_n, ex_null_r, ex_nonn_n, ex_nonn_r, ex_aret, xel_n, xel_s, xgo_0, xgo_1x, xgo_1v, xgo_1i, xgo_1l, xgo_1r, xgo_2, xgo_3, xgo_4, xgo_5x, xgo_5v, xgo_5i, xgo_5l, xgd_5, xgd_0, xgd_1, xgd_2, xgd_3, xgd_4, ath_y, xct_f, xct_t, xna_f, csL_n, Nat.reduceMul, retX_i, retX_l, retX_r, retX_v, c0_asksLoadsN, P0_asksLoadsN, xs0_heavyN, cs0_heavyN, g0_367, e_iconst, e_bipush, e_sipush, e_lconst_0, e_lconst_1, e_iload, e_iload_0, e_iload_1, e_iload_2, e_iload_3, e_lload, e_lload_0, e_lload_1, e_lload_2, e_lload_3, e_aload, e_aload_0, e_aload_1, e_aload_2, e_aload_3, e_istore, e_istore_0, e_istore_1, e_istore_2, e_istore_3, e_astore, e_astore_0, e_astore_1, e_astore_2, e_astore_3, e_lstore, e_lstore_0, e_lstore_1, e_lstore_2, e_lstore_3, e_iinc, e_iadd, e_isub, e_imul, e_ladd, e_lsub, e_lmul, e_idiv, e_irem, e_ldiv, e_lrem, e_ineg, e_lneg, e_iand, e_ior, e_ixor, e_ishl, e_ishr, e_iushr, e_lcmp, e_i2l, e_l2i, e_i2b, e_i2s, e_dup_i, e_dup_r, e_pop_i, e_pop_r, e_dup2_l, e_dup2_ir, e_dup2_ii, e_ifeq, e_ifne, e_iflt, e_ifge, e_ifgt, e_ifle, e_iceq, e_icne, e_iclt, e_icge, e_icgt, e_icle, e_goto, e_switch, e_invokevirtual, e_invokestatic, e_invokespecial, e_ret0, e_ret1, e_ret2, e_ret3, ldI_s, ldL_s, ldR_s, clO_s, ctP_s, ctS_s, mgo_0, mgo_s, pjc_s, pj_0, pj_s, lk_s, rm1_0, rm1_i, rm1_r, rm1_l, rm2_0, rm2_i, rm2_r, rm2_l, csL_s, lc_lt, lc_ge, lc_gt, lc_le, lc_eq, b01_0, b01_1, b01_01, b01_n, up2_o, up2_s, up2_u, ne_eq, reduceCtorEq, Nat.reduceAdd, Nat.reduceEqDiff, Nat.reduceLT, Nat.reduceLeDiff, Int.reduceLE, Int.reduceLT, Int.reduceAdd, Int.reduceNeg, Int.reduceMul, Int.reduceSub, Int.reduceEq, Int.reduceToNat, Int.reduceNatCast, Int.cast_ofNat_Int, ↓reduceIte, and_self, List.drop_succ_cons, List.drop_zero, List.take_succ_cons, List.take_zero, List.length_cons, List.length_nil, List.reverse_cons, List.reverse_nil, List.nil_append, List.cons_append, Option.toList, true_and, and_true, or_false, false_or, or_true, true_or, forall_const, Classical.not_not, not_false_eq_true, not_true_eq_false, false_implies, true_implies, implies_true, imp_self]
  refine ⟨hP, fun r M1 hR => ?_⟩
  obtain ⟨rfl, rfl⟩ := hR
  simp only [e_wpy (k := 3795) dX0_heavy_3 rfl rfl rfl, e_wpy (k := 9) dX0_heavy_6 rfl rfl rfl, e_wpy (k := 9) dX0_heavy_7 rfl rfl rfl, e_wpy (k := 9) dX0_heavy_8 rfl rfl rfl, e_wpy (k := 9) dX0_heavy_11 rfl rfl rfl, e_wpy (k := 9) dX0_heavy_12 rfl rfl rfl, e_wpy (k := 9) dX0_heavy_15 rfl rfl rfl, e_wpy (k := 9) dX0_heavy_16 rfl rfl rfl, e_wpy (k := 9) dX0_heavy_19 rfl rfl rfl, xoff_a, ex_null_n, ex_null_r, ex_nonn_n, ex_nonn_r, ex_aret, xel_n, xel_s, xgo_0, xgo_1x, xgo_1v, xgo_1i, xgo_1l, xgo_1r, xgo_2, xgo_3, xgo_4, xgo_5x, xgo_5v, xgo_5i, xgo_5l, xgd_5, xgd_0, xgd_1, xgd_2, xgd_3, xgd_4, ath_y, xct_f, xct_t, xna_f, csL_n, Nat.reduceMul, retX_i, retX_l, retX_r, retX_v, c0_asksLoadsN, P0_asksLoadsN, xs0_heavyN, cs0_heavyN, g0_367, e_iconst, e_bipush, e_sipush, e_lconst_0, e_lconst_1, e_iload, e_iload_0, e_iload_1, e_iload_2, e_iload_3, e_lload, e_lload_0, e_lload_1, e_lload_2, e_lload_3, e_aload, e_aload_0, e_aload_1, e_aload_2, e_aload_3, e_istore, e_istore_0, e_istore_1, e_istore_2, e_istore_3, e_astore, e_astore_0, e_astore_1, e_astore_2, e_astore_3, e_lstore, e_lstore_0, e_lstore_1, e_lstore_2, e_lstore_3, e_iinc, e_iadd, e_isub, e_imul, e_ladd, e_lsub, e_lmul, e_idiv, e_irem, e_ldiv, e_lrem, e_ineg, e_lneg, e_iand, e_ior, e_ixor, e_ishl, e_ishr, e_iushr, e_lcmp, e_i2l, e_l2i, e_i2b, e_i2s, e_dup_i, e_dup_r, e_pop_i, e_pop_r, e_dup2_l, e_dup2_ir, e_dup2_ii, e_ifeq, e_ifne, e_iflt, e_ifge, e_ifgt, e_ifle, e_iceq, e_icne, e_iclt, e_icge, e_icgt, e_icle, e_goto, e_switch, e_invokevirtual, e_invokestatic, e_invokespecial, e_ret0, e_ret1, e_ret2, e_ret3, ldI_s, ldL_s, ldR_s, clO_s, ctP_s, ctS_s, mgo_0, mgo_s, pjc_s, pj_0, pj_s, lk_s, rm1_0, rm1_i, rm1_r, rm1_l, rm2_0, rm2_i, rm2_r, rm2_l, csL_s, lc_lt, lc_ge, lc_gt, lc_le, lc_eq, b01_0, b01_1, b01_01, b01_n, up2_o, up2_s, up2_u, ne_eq, reduceCtorEq, Nat.reduceAdd, Nat.reduceEqDiff, Nat.reduceLT, Nat.reduceLeDiff, Int.reduceLE, Int.reduceLT, Int.reduceAdd, Int.reduceNeg, Int.reduceMul, Int.reduceSub, Int.reduceEq, Int.reduceToNat, Int.reduceNatCast, Int.cast_ofNat_Int, ↓reduceIte, and_self, List.drop_succ_cons, List.drop_zero, List.take_succ_cons, List.take_zero, List.length_cons, List.length_nil, List.reverse_cons, List.reverse_nil, List.nil_append, List.cons_append, Option.toList, true_and, and_true, or_false, false_or, or_true, true_or, forall_const, Classical.not_not, not_false_eq_true, not_true_eq_false, false_implies, true_implies, implies_true, imp_self]
  first | exact hQ _ _ ⟨rfl, rfl⟩ | exact ⟨fun z => absurd z (by decide), fun _ => hQ _ _ ⟨rfl, rfl⟩⟩ | exact ⟨fun _ => hQ _ _ ⟨rfl, rfl⟩, fun z => absurd z (by decide)⟩
set_option maxHeartbeats 4000000 in
set_option maxRecDepth 100000 in
theorem m0_heavyN {rs : List (Nat × Nat)} : MOKA cl8 (sh8 rs) tyl8 Nws8 evE 204 3 222 yX0_heavy (ws_ yX0_heavy cX0_heavy 4 (some .int)) (sp0_heavyN rs) := by
  refine mokA_of (own := RX0) (fl := fl0) (tb := tb0 (csL (cs0_heavyN rs))) (xt := csL (xs0_heavyN rs)) (rt := 1) (fuel := 400) (fun avs M Q => []) (by decide) rfl nws8_ok (tbOK0 _) rfl (csL_all ?_) (csA_all ?_) ?_ ?_ ?_
  · intro q hq; cases hq
  · intro q hq
    simp only [xs0_heavyN, List.mem_cons, List.not_mem_nil, or_false] at hq
    rcases hq with rfl
    · exact Or.inr ⟨(by decide : ¬ (((2 : Nat) = 0 ∨ (2 : Nat) = 3) ∨ (2 : Nat) = 4)), cxe0_asksLoadsN (by decide)⟩
  · intro avs M Q hsp
    obtain ⟨xs, hx⟩ := spX_un _ _ _ hsp
    obtain ⟨e, hl⟩ := unA_mkT hx
    obtain ⟨s, c, rfl⟩ := len2 hl
    have e : avs = [ar 0, ai s, ai c] := e
    subst e
    simp [szL, isL]
  · intro avs M Q hM hav hsp
    obtain ⟨xs, hx⟩ := spX_un _ _ _ hsp
    obtain ⟨e, hl⟩ := unA_mkT hx
    obtain ⟨s, c, rfl⟩ := len2 hl
    have e : avs = [ar 0, ai s, ai c] := e
    subst e
    exact in0_heavyN hM (hav (ai s) (by simp)) (hav (ai c) (by simp)) hsp.1 hsp.2
  · intro avs M Q hM hav hsp q hq m_ vs M1 hM1 hv hJ
    obtain ⟨xs, hx⟩ := spX_un _ _ _ hsp
    obtain ⟨e, hl⟩ := unA_mkT hx
    obtain ⟨s, c, rfl⟩ := len2 hl
    have e : avs = [ar 0, ai s, ai c] := e
    subst e
    cases hq
def P0_liarsN (rs : List (Nat × Nat)) (s : Int) (M : Mm) : Prop := boN s M
def R0_liarsN (rs : List (Nat × Nat)) (s : Int) (M : Mm) (r : Option AV) (M1 : Mm) : Prop := sixX r M M1
def sp0_liarsN (rs : List (Nat × Nat)) : Spec := spX true [0] (fun x M => P0_liarsN rs (x 0) M) (fun x M r M1 => R0_liarsN rs (x 0) M r M1)
theorem c0_liarsN {rs : List (Nat × Nat)} {s : Int} {M : Mm} {Q : Option AV → Mm → Prop} : sp0_liarsN rs [ar 0, ai s] M Q = (P0_liarsN rs s M ∧ ∀ (r : Option AV) (M1 : Mm), R0_liarsN rs s M r M1 → Q r M1) := rfl
def cs0_liarsN (rs : List (Nat × Nat)) : List (Nat × Nat × Nat × Spec) := [(370, 1, 2, (sp0_isSo rs)), (376, 1, 3, (sp0_laysLoads rs))]
def xs0_liarsN (rs : List (Nat × Nat)) : List (Nat × Nat × Nat × Spec) := [(3735, 2, 2, sp0_asksBookN rs)]
def J0_liarsN_27 (rs : List (Nat × Nat)) (s : Int) (M : Mm) (m : Nat) (s_ : Int) (n : Int) (c : Int) (M1 : Mm) : Prop := False
set_option maxHeartbeats 4000000 in
set_option maxRecDepth 100000 in
theorem in0_liarsN {rs : List (Nat × Nat)} {s : Int} {M : Mm} {Q : Option AV → Mm → Prop} (hM : okM (sh8 rs) M) (h_s : i32 s) (hP : P0_liarsN rs s M) (hQ : ∀ (r : Option AV) (M1 : Mm), R0_liarsN rs s M r M1 → Q r M1) (I_27 : List AV → Mm → Prop) (hI_27 : ∀ (m_ : Nat) (y_s_ : Int) (y_n : Int) (y_c : Int) (M2 : Mm), J0_liarsN_27 rs s M m_ y_s_ y_n y_c M2 → I_27 [ar 0, ai y_s_, ai y_n, ai y_c] M2) : wpx (tb0 (csL (cs0_liarsN rs))) (csL (xs0_liarsN rs)) (sh8 rs) 5 1 cX0_liars [(27, [0, 1, 3, 4], I_27)] Q (fun _ _ => False) 400 false 0 [(0, ar 0), (1, ai s)] [] M := by
  simp only [e_wpy (k := 9) dX0_liars_0 rfl rfl rfl, e_wpy (k := 9) dX0_liars_1 rfl rfl rfl, e_wpy (k := 3735) dX0_liars_2 rfl rfl rfl, e_wpy (k := 9) dX0_liars_5 rfl rfl rfl, e_wpy (k := 9) dX0_liars_6 rfl rfl rfl, e_wpy (k := 9) dX0_liars_7 rfl rfl rfl, e_wpy (k := 9) dX0_liars_10 rfl rfl rfl, e_wpy (k := 9) dX0_liars_11 rfl rfl rfl, xoff_a, ex_null_n, ex_null_r, ex_nonn_n, ex_nonn_r, ex_aret, xel_n, xel_s, xgo_0, xgo_1x, xgo_1v, xgo_1i, xgo_1l, xgo_1r, xgo_2, xgo_3, xgo_4, xgo_5x, xgo_5v, xgo_5i, xgo_5l, xgd_5, xgd_0, xgd_1, xgd_2, xgd_3, xgd_4, ath_y, xct_f, xct_t, xna_f, csL_n, Nat.reduceMul, retX_i, retX_l, retX_r, retX_v, c0_asksBookN, P0_asksBookN, xs0_liarsN, cs0_liarsN, c0_isSo, g0_10, g0_156, c0_laysLoads, g0_361, e_iconst, e_bipush, e_sipush, e_lconst_0, e_lconst_1, e_iload, e_iload_0, e_iload_1, e_iload_2, e_iload_3, e_lload, e_lload_0, e_lload_1, e_lload_2, e_lload_3, e_aload, e_aload_0, e_aload_1, e_aload_2, e_aload_3, e_istore, e_istore_0, e_istore_1, e_istore_2, e_istore_3, e_astore, e_astore_0, e_astore_1, e_astore_2, e_astore_3, e_lstore, e_lstore_0, e_lstore_1, e_lstore_2, e_lstore_3, e_iinc, e_iadd, e_isub, e_imul, e_ladd, e_lsub, e_lmul, e_idiv, e_irem, e_ldiv, e_lrem, e_ineg, e_lneg, e_iand, e_ior, e_ixor, e_ishl, e_ishr, e_iushr, e_lcmp, e_i2l, e_l2i, e_i2b, e_i2s, e_dup_i, e_dup_r, e_pop_i, e_pop_r, e_dup2_l, e_dup2_ir, e_dup2_ii, e_ifeq, e_ifne, e_iflt, e_ifge, e_ifgt, e_ifle, e_iceq, e_icne, e_iclt, e_icge, e_icgt, e_icle, e_goto, e_switch, e_invokevirtual, e_invokestatic, e_invokespecial, e_ret0, e_ret1, e_ret2, e_ret3, ldI_s, ldL_s, ldR_s, clO_s, ctP_s, ctS_s, mgo_0, mgo_s, pjc_s, pj_0, pj_s, lk_s, rm1_0, rm1_i, rm1_r, rm1_l, rm2_0, rm2_i, rm2_r, rm2_l, csL_s, lc_lt, lc_ge, lc_gt, lc_le, lc_eq, b01_0, b01_1, b01_01, b01_n, up2_o, up2_s, up2_u, ne_eq, reduceCtorEq, Nat.reduceAdd, Nat.reduceEqDiff, Nat.reduceLT, Nat.reduceLeDiff, Int.reduceLE, Int.reduceLT, Int.reduceAdd, Int.reduceNeg, Int.reduceMul, Int.reduceSub, Int.reduceEq, Int.reduceToNat, Int.reduceNatCast, Int.cast_ofNat_Int, ↓reduceIte, and_self, List.drop_succ_cons, List.drop_zero, List.take_succ_cons, List.take_zero, List.length_cons, List.length_nil, List.reverse_cons, List.reverse_nil, List.nil_append, List.cons_append, Option.toList, true_and, and_true, or_false, false_or, or_true, true_or, forall_const, Classical.not_not, not_false_eq_true, not_true_eq_false, false_implies, true_implies, implies_true, imp_self]
  refine ⟨hP, fun r M1 hR => ?_⟩
  obtain ⟨rfl, rfl⟩ := hR
  simp only [e_wpy (k := 9) dX0_liars_5 rfl rfl rfl, e_wpy (k := 9) dX0_liars_6 rfl rfl rfl, e_wpy (k := 9) dX0_liars_7 rfl rfl rfl, e_wpy (k := 9) dX0_liars_10 rfl rfl rfl, e_wpy (k := 9) dX0_liars_11 rfl rfl rfl, xoff_a, ex_null_n, ex_null_r, ex_nonn_n, ex_nonn_r, ex_aret, xel_n, xel_s, xgo_0, xgo_1x, xgo_1v, xgo_1i, xgo_1l, xgo_1r, xgo_2, xgo_3, xgo_4, xgo_5x, xgo_5v, xgo_5i, xgo_5l, xgd_5, xgd_0, xgd_1, xgd_2, xgd_3, xgd_4, ath_y, xct_f, xct_t, xna_f, csL_n, Nat.reduceMul, retX_i, retX_l, retX_r, retX_v, c0_asksBookN, P0_asksBookN, xs0_liarsN, cs0_liarsN, c0_isSo, g0_10, g0_156, c0_laysLoads, g0_361, e_iconst, e_bipush, e_sipush, e_lconst_0, e_lconst_1, e_iload, e_iload_0, e_iload_1, e_iload_2, e_iload_3, e_lload, e_lload_0, e_lload_1, e_lload_2, e_lload_3, e_aload, e_aload_0, e_aload_1, e_aload_2, e_aload_3, e_istore, e_istore_0, e_istore_1, e_istore_2, e_istore_3, e_astore, e_astore_0, e_astore_1, e_astore_2, e_astore_3, e_lstore, e_lstore_0, e_lstore_1, e_lstore_2, e_lstore_3, e_iinc, e_iadd, e_isub, e_imul, e_ladd, e_lsub, e_lmul, e_idiv, e_irem, e_ldiv, e_lrem, e_ineg, e_lneg, e_iand, e_ior, e_ixor, e_ishl, e_ishr, e_iushr, e_lcmp, e_i2l, e_l2i, e_i2b, e_i2s, e_dup_i, e_dup_r, e_pop_i, e_pop_r, e_dup2_l, e_dup2_ir, e_dup2_ii, e_ifeq, e_ifne, e_iflt, e_ifge, e_ifgt, e_ifle, e_iceq, e_icne, e_iclt, e_icge, e_icgt, e_icle, e_goto, e_switch, e_invokevirtual, e_invokestatic, e_invokespecial, e_ret0, e_ret1, e_ret2, e_ret3, ldI_s, ldL_s, ldR_s, clO_s, ctP_s, ctS_s, mgo_0, mgo_s, pjc_s, pj_0, pj_s, lk_s, rm1_0, rm1_i, rm1_r, rm1_l, rm2_0, rm2_i, rm2_r, rm2_l, csL_s, lc_lt, lc_ge, lc_gt, lc_le, lc_eq, b01_0, b01_1, b01_01, b01_n, up2_o, up2_s, up2_u, ne_eq, reduceCtorEq, Nat.reduceAdd, Nat.reduceEqDiff, Nat.reduceLT, Nat.reduceLeDiff, Int.reduceLE, Int.reduceLT, Int.reduceAdd, Int.reduceNeg, Int.reduceMul, Int.reduceSub, Int.reduceEq, Int.reduceToNat, Int.reduceNatCast, Int.cast_ofNat_Int, ↓reduceIte, and_self, List.drop_succ_cons, List.drop_zero, List.take_succ_cons, List.take_zero, List.length_cons, List.length_nil, List.reverse_cons, List.reverse_nil, List.nil_append, List.cons_append, Option.toList, true_and, and_true, or_false, false_or, or_true, true_or, forall_const, Classical.not_not, not_false_eq_true, not_true_eq_false, false_implies, true_implies, implies_true, imp_self]
  first | exact hQ _ _ ⟨rfl, rfl⟩ | exact ⟨fun z => absurd z (by decide), fun _ => hQ _ _ ⟨rfl, rfl⟩⟩ | exact ⟨fun _ => hQ _ _ ⟨rfl, rfl⟩, fun z => absurd z (by decide)⟩
set_option maxHeartbeats 4000000 in
set_option maxRecDepth 100000 in
theorem at0_liarsN_27 {rs : List (Nat × Nat)} {s : Int} {M : Mm} {Q : Option AV → Mm → Prop} (hM : okM (sh8 rs) M) (h_s : i32 s) (hP : P0_liarsN rs s M) (hQ : ∀ (r : Option AV) (M1 : Mm), R0_liarsN rs s M r M1 → Q r M1) {m : Nat} {s_ n c : Int} {M1 : Mm} (hM1 : okM (sh8 rs) M1) (h_s_ : i32 s_) (h_n : i32 n) (h_c : i32 c) (hJ : J0_liarsN_27 rs s M m s_ n c M1) (I_27 : List AV → Mm → Prop) (hI_27 : ∀ (m_ : Nat) (y_s_ : Int) (y_n : Int) (y_c : Int) (M2 : Mm), m_ < m → J0_liarsN_27 rs s M m_ y_s_ y_n y_c M2 → I_27 [ar 0, ai y_s_, ai y_n, ai y_c] M2) : wpx (tb0 (csL (cs0_liarsN rs))) (csL (xs0_liarsN rs)) (sh8 rs) 5 1 cX0_liars [(27, [0, 1, 3, 4], I_27)] Q (fun _ _ => False) 400 false 27 [(0, ar 0), (1, ai s_), (3, ai n), (4, ai c)] [] M1 := by
  exact hJ.elim
set_option maxHeartbeats 4000000 in
set_option maxRecDepth 100000 in
theorem m0_liarsN {rs : List (Nat × Nat)} : MOKA cl8 (sh8 rs) tyl8 Nws8 evE 203 3 222 yX0_liars (ws_ yX0_liars cX0_liars 5 (some .int)) (sp0_liarsN rs) := by
  refine mokA_of (own := RX0) (fl := fl0) (tb := tb0 (csL (cs0_liarsN rs))) (xt := csL (xs0_liarsN rs)) (rt := 1) (fuel := 400) (fun avs M Q => [(27, [0, 1, 3, 4], fun m_ vs M1 => ∃ y_s_ : Int, ∃ y_n : Int, ∃ y_c : Int, vs = [ar 0, ai y_s_, ai y_n, ai y_c] ∧ J0_liarsN_27 rs (pa true [0] avs 0) M m_ y_s_ y_n y_c M1)]) (by decide) rfl nws8_ok (tbOK0 _) rfl (csL_all ?_) (csA_all ?_) ?_ ?_ ?_
  · intro q hq
    simp only [cs0_liarsN, List.mem_cons, List.not_mem_nil, or_false] at hq
    rcases hq with rfl | rfl
    · exact cg0_isSo (by decide)
    · exact cg0_laysLoads (by decide)
  · intro q hq
    simp only [xs0_liarsN, List.mem_cons, List.not_mem_nil, or_false] at hq
    rcases hq with rfl
    · exact Or.inr ⟨(by decide : ¬ (((2 : Nat) = 0 ∨ (2 : Nat) = 3) ∨ (2 : Nat) = 4)), cxe0_asksBookN (by decide)⟩
  · intro avs M Q hsp
    obtain ⟨xs, hx⟩ := spX_un _ _ _ hsp
    obtain ⟨e, hl⟩ := unA_mkT hx
    obtain ⟨s, rfl⟩ := len1 hl
    have e : avs = [ar 0, ai s] := e
    subst e
    simp [szL, isL]
  · intro avs M Q hM hav hsp
    obtain ⟨xs, hx⟩ := spX_un _ _ _ hsp
    obtain ⟨e, hl⟩ := unA_mkT hx
    obtain ⟨s, rfl⟩ := len1 hl
    have e : avs = [ar 0, ai s] := e
    subst e
    exact in0_liarsN hM (hav (ai s) (by simp)) hsp.1 hsp.2 _ (fun m_ y_s_ y_n y_c M2 hJ => ⟨m_, y_s_, y_n, y_c, rfl, hJ⟩)
  · intro avs M Q hM hav hsp q hq m_ vs M1 hM1 hv hJ
    obtain ⟨xs, hx⟩ := spX_un _ _ _ hsp
    obtain ⟨e, hl⟩ := unA_mkT hx
    obtain ⟨s, rfl⟩ := len1 hl
    have e : avs = [ar 0, ai s] := e
    subst e
    simp only [List.mem_cons, List.not_mem_nil, or_false] at hq
    rcases hq with rfl
    · obtain ⟨y_s_, y_n, y_c, rfl, hJ⟩ := hJ
      exact at0_liarsN_27 hM (hav (ai s) (by simp)) hsp.1 hsp.2 hM1 (hv (1, ai y_s_) (List.mem_of_getElem? (i := 1) rfl)) (hv (3, ai y_n) (List.mem_of_getElem? (i := 2) rfl)) (hv (4, ai y_c) (List.mem_of_getElem? (i := 3) rfl)) hJ _ (fun m2 z_s_ z_n z_c M2 hm hJ2 => ⟨m2, hm, z_s_, z_n, z_c, rfl, hJ2⟩)
def P0_lawsN (rs : List (Nat × Nat)) (s : Int) (M : Mm) : Prop := boN s M
def R0_lawsN (rs : List (Nat × Nat)) (s : Int) (M : Mm) (r : Option AV) (M1 : Mm) : Prop := sixX r M M1
def sp0_lawsN (rs : List (Nat × Nat)) : Spec := spX true [0] (fun x M => P0_lawsN rs (x 0) M) (fun x M r M1 => R0_lawsN rs (x 0) M r M1)
theorem c0_lawsN {rs : List (Nat × Nat)} {s : Int} {M : Mm} {Q : Option AV → Mm → Prop} : sp0_lawsN rs [ar 0, ai s] M Q = (P0_lawsN rs s M ∧ ∀ (r : Option AV) (M1 : Mm), R0_lawsN rs s M r M1 → Q r M1) := rfl
def cs0_lawsN (rs : List (Nat × Nat)) : List (Nat × Nat × Nat × Spec) := [(370, 1, 2, (sp0_isSo rs))]
def xs0_lawsN (rs : List (Nat × Nat)) : List (Nat × Nat × Nat × Spec) := [(3735, 2, 2, sp0_asksBookN rs)]
def J0_lawsN_17 (rs : List (Nat × Nat)) (s : Int) (M : Mm) (m : Nat) (s_ : Int) (n : Int) (l : Int) (M1 : Mm) : Prop := False
set_option maxHeartbeats 4000000 in
set_option maxRecDepth 100000 in
theorem in0_lawsN {rs : List (Nat × Nat)} {s : Int} {M : Mm} {Q : Option AV → Mm → Prop} (hM : okM (sh8 rs) M) (h_s : i32 s) (hP : P0_lawsN rs s M) (hQ : ∀ (r : Option AV) (M1 : Mm), R0_lawsN rs s M r M1 → Q r M1) (I_17 : List AV → Mm → Prop) (hI_17 : ∀ (m_ : Nat) (y_s_ : Int) (y_n : Int) (y_l : Int) (M2 : Mm), J0_lawsN_17 rs s M m_ y_s_ y_n y_l M2 → I_17 [ar 0, ai y_s_, ai y_n, ai y_l] M2) : wpx (tb0 (csL (cs0_lawsN rs))) (csL (xs0_lawsN rs)) (sh8 rs) 5 1 cX0_laws [(17, [0, 1, 3, 4], I_17)] Q (fun _ _ => False) 400 false 0 [(0, ar 0), (1, ai s)] [] M := by
  simp only [e_wpy (k := 9) dX0_laws_0 rfl rfl rfl, e_wpy (k := 9) dX0_laws_1 rfl rfl rfl, e_wpy (k := 3735) dX0_laws_2 rfl rfl rfl, e_wpy (k := 9) dX0_laws_5 rfl rfl rfl, e_wpy (k := 9) dX0_laws_6 rfl rfl rfl, e_wpy (k := 9) dX0_laws_7 rfl rfl rfl, e_wpy (k := 9) dX0_laws_10 rfl rfl rfl, e_wpy (k := 9) dX0_laws_11 rfl rfl rfl, xoff_a, ex_null_n, ex_null_r, ex_nonn_n, ex_nonn_r, ex_aret, xel_n, xel_s, xgo_0, xgo_1x, xgo_1v, xgo_1i, xgo_1l, xgo_1r, xgo_2, xgo_3, xgo_4, xgo_5x, xgo_5v, xgo_5i, xgo_5l, xgd_5, xgd_0, xgd_1, xgd_2, xgd_3, xgd_4, ath_y, xct_f, xct_t, xna_f, csL_n, Nat.reduceMul, retX_i, retX_l, retX_r, retX_v, c0_asksBookN, P0_asksBookN, xs0_lawsN, cs0_lawsN, g0_48, p0_52, c0_isSo, a8_13, w8_13, a8_14, w8_14, a8_15, w8_15, a8_16, w8_16, a8_17, w8_17, a8_18, w8_18, a8_19, w8_19, a8_20, w8_20, a8_21, w8_21, a8_22, w8_22, a8_23, w8_23, a8_24, w8_24, a8_25, w8_25, a8_26, w8_26, a8_27, w8_27, a8_28, w8_28, a8_29, w8_29, a8_30, w8_30, a8_31, w8_31, a8_32, w8_32, a8_33, w8_33, a8_34, w8_34, a8_35, w8_35, a8_36, w8_36, a8_37, w8_37, a8_38, w8_38, a8_39, w8_39, a8_40, w8_40, a8_12, w8_12, a8_6, a8_7, e_iconst, e_bipush, e_sipush, e_lconst_0, e_lconst_1, e_iload, e_iload_0, e_iload_1, e_iload_2, e_iload_3, e_lload, e_lload_0, e_lload_1, e_lload_2, e_lload_3, e_aload, e_aload_0, e_aload_1, e_aload_2, e_aload_3, e_istore, e_istore_0, e_istore_1, e_istore_2, e_istore_3, e_astore, e_astore_0, e_astore_1, e_astore_2, e_astore_3, e_lstore, e_lstore_0, e_lstore_1, e_lstore_2, e_lstore_3, e_iinc, e_iadd, e_isub, e_imul, e_ladd, e_lsub, e_lmul, e_idiv, e_irem, e_ldiv, e_lrem, e_ineg, e_lneg, e_iand, e_ior, e_ixor, e_ishl, e_ishr, e_iushr, e_lcmp, e_i2l, e_l2i, e_i2b, e_i2s, e_dup_i, e_dup_r, e_pop_i, e_pop_r, e_dup2_l, e_dup2_ir, e_dup2_ii, e_ifeq, e_ifne, e_iflt, e_ifge, e_ifgt, e_ifle, e_iceq, e_icne, e_iclt, e_icge, e_icgt, e_icle, e_goto, e_switch, e_invokevirtual, e_invokestatic, e_invokespecial, e_ret0, e_ret1, e_ret2, e_ret3, ldI_s, ldL_s, ldR_s, clO_s, ctP_s, ctS_s, mgo_0, mgo_s, pjc_s, pj_0, pj_s, lk_s, rm1_0, rm1_i, rm1_r, rm1_l, rm2_0, rm2_i, rm2_r, rm2_l, csL_s, lc_lt, lc_ge, lc_gt, lc_le, lc_eq, b01_0, b01_1, b01_01, b01_n, up2_o, up2_s, up2_u, ne_eq, reduceCtorEq, Nat.reduceAdd, Nat.reduceEqDiff, Nat.reduceLT, Nat.reduceLeDiff, Int.reduceLE, Int.reduceLT, Int.reduceAdd, Int.reduceNeg, Int.reduceMul, Int.reduceSub, Int.reduceEq, Int.reduceToNat, Int.reduceNatCast, Int.cast_ofNat_Int, ↓reduceIte, and_self, List.drop_succ_cons, List.drop_zero, List.take_succ_cons, List.take_zero, List.length_cons, List.length_nil, List.reverse_cons, List.reverse_nil, List.nil_append, List.cons_append, Option.toList, true_and, and_true, or_false, false_or, or_true, true_or, forall_const, Classical.not_not, not_false_eq_true, not_true_eq_false, false_implies, true_implies, implies_true, imp_self]
  refine ⟨hP, fun r M1 hR => ?_⟩
  obtain ⟨rfl, rfl⟩ := hR
  simp only [e_wpy (k := 9) dX0_laws_5 rfl rfl rfl, e_wpy (k := 9) dX0_laws_6 rfl rfl rfl, e_wpy (k := 9) dX0_laws_7 rfl rfl rfl, e_wpy (k := 9) dX0_laws_10 rfl rfl rfl, e_wpy (k := 9) dX0_laws_11 rfl rfl rfl, xoff_a, ex_null_n, ex_null_r, ex_nonn_n, ex_nonn_r, ex_aret, xel_n, xel_s, xgo_0, xgo_1x, xgo_1v, xgo_1i, xgo_1l, xgo_1r, xgo_2, xgo_3, xgo_4, xgo_5x, xgo_5v, xgo_5i, xgo_5l, xgd_5, xgd_0, xgd_1, xgd_2, xgd_3, xgd_4, ath_y, xct_f, xct_t, xna_f, csL_n, Nat.reduceMul, retX_i, retX_l, retX_r, retX_v, c0_asksBookN, P0_asksBookN, xs0_lawsN, cs0_lawsN, g0_48, p0_52, c0_isSo, a8_13, w8_13, a8_14, w8_14, a8_15, w8_15, a8_16, w8_16, a8_17, w8_17, a8_18, w8_18, a8_19, w8_19, a8_20, w8_20, a8_21, w8_21, a8_22, w8_22, a8_23, w8_23, a8_24, w8_24, a8_25, w8_25, a8_26, w8_26, a8_27, w8_27, a8_28, w8_28, a8_29, w8_29, a8_30, w8_30, a8_31, w8_31, a8_32, w8_32, a8_33, w8_33, a8_34, w8_34, a8_35, w8_35, a8_36, w8_36, a8_37, w8_37, a8_38, w8_38, a8_39, w8_39, a8_40, w8_40, a8_12, w8_12, a8_6, a8_7, e_iconst, e_bipush, e_sipush, e_lconst_0, e_lconst_1, e_iload, e_iload_0, e_iload_1, e_iload_2, e_iload_3, e_lload, e_lload_0, e_lload_1, e_lload_2, e_lload_3, e_aload, e_aload_0, e_aload_1, e_aload_2, e_aload_3, e_istore, e_istore_0, e_istore_1, e_istore_2, e_istore_3, e_astore, e_astore_0, e_astore_1, e_astore_2, e_astore_3, e_lstore, e_lstore_0, e_lstore_1, e_lstore_2, e_lstore_3, e_iinc, e_iadd, e_isub, e_imul, e_ladd, e_lsub, e_lmul, e_idiv, e_irem, e_ldiv, e_lrem, e_ineg, e_lneg, e_iand, e_ior, e_ixor, e_ishl, e_ishr, e_iushr, e_lcmp, e_i2l, e_l2i, e_i2b, e_i2s, e_dup_i, e_dup_r, e_pop_i, e_pop_r, e_dup2_l, e_dup2_ir, e_dup2_ii, e_ifeq, e_ifne, e_iflt, e_ifge, e_ifgt, e_ifle, e_iceq, e_icne, e_iclt, e_icge, e_icgt, e_icle, e_goto, e_switch, e_invokevirtual, e_invokestatic, e_invokespecial, e_ret0, e_ret1, e_ret2, e_ret3, ldI_s, ldL_s, ldR_s, clO_s, ctP_s, ctS_s, mgo_0, mgo_s, pjc_s, pj_0, pj_s, lk_s, rm1_0, rm1_i, rm1_r, rm1_l, rm2_0, rm2_i, rm2_r, rm2_l, csL_s, lc_lt, lc_ge, lc_gt, lc_le, lc_eq, b01_0, b01_1, b01_01, b01_n, up2_o, up2_s, up2_u, ne_eq, reduceCtorEq, Nat.reduceAdd, Nat.reduceEqDiff, Nat.reduceLT, Nat.reduceLeDiff, Int.reduceLE, Int.reduceLT, Int.reduceAdd, Int.reduceNeg, Int.reduceMul, Int.reduceSub, Int.reduceEq, Int.reduceToNat, Int.reduceNatCast, Int.cast_ofNat_Int, ↓reduceIte, and_self, List.drop_succ_cons, List.drop_zero, List.take_succ_cons, List.take_zero, List.length_cons, List.length_nil, List.reverse_cons, List.reverse_nil, List.nil_append, List.cons_append, Option.toList, true_and, and_true, or_false, false_or, or_true, true_or, forall_const, Classical.not_not, not_false_eq_true, not_true_eq_false, false_implies, true_implies, implies_true, imp_self]
  first | exact hQ _ _ ⟨rfl, rfl⟩ | exact ⟨fun z => absurd z (by decide), fun _ => hQ _ _ ⟨rfl, rfl⟩⟩ | exact ⟨fun _ => hQ _ _ ⟨rfl, rfl⟩, fun z => absurd z (by decide)⟩
set_option maxHeartbeats 4000000 in
set_option maxRecDepth 100000 in
theorem at0_lawsN_17 {rs : List (Nat × Nat)} {s : Int} {M : Mm} {Q : Option AV → Mm → Prop} (hM : okM (sh8 rs) M) (h_s : i32 s) (hP : P0_lawsN rs s M) (hQ : ∀ (r : Option AV) (M1 : Mm), R0_lawsN rs s M r M1 → Q r M1) {m : Nat} {s_ n l : Int} {M1 : Mm} (hM1 : okM (sh8 rs) M1) (h_s_ : i32 s_) (h_n : i32 n) (h_l : i32 l) (hJ : J0_lawsN_17 rs s M m s_ n l M1) (I_17 : List AV → Mm → Prop) (hI_17 : ∀ (m_ : Nat) (y_s_ : Int) (y_n : Int) (y_l : Int) (M2 : Mm), m_ < m → J0_lawsN_17 rs s M m_ y_s_ y_n y_l M2 → I_17 [ar 0, ai y_s_, ai y_n, ai y_l] M2) : wpx (tb0 (csL (cs0_lawsN rs))) (csL (xs0_lawsN rs)) (sh8 rs) 5 1 cX0_laws [(17, [0, 1, 3, 4], I_17)] Q (fun _ _ => False) 400 false 17 [(0, ar 0), (1, ai s_), (3, ai n), (4, ai l)] [] M1 := by
  exact hJ.elim
set_option maxHeartbeats 4000000 in
set_option maxRecDepth 100000 in
theorem m0_lawsN {rs : List (Nat × Nat)} : MOKA cl8 (sh8 rs) tyl8 Nws8 evE 203 3 222 yX0_laws (ws_ yX0_laws cX0_laws 5 (some .int)) (sp0_lawsN rs) := by
  refine mokA_of (own := RX0) (fl := fl0) (tb := tb0 (csL (cs0_lawsN rs))) (xt := csL (xs0_lawsN rs)) (rt := 1) (fuel := 400) (fun avs M Q => [(17, [0, 1, 3, 4], fun m_ vs M1 => ∃ y_s_ : Int, ∃ y_n : Int, ∃ y_l : Int, vs = [ar 0, ai y_s_, ai y_n, ai y_l] ∧ J0_lawsN_17 rs (pa true [0] avs 0) M m_ y_s_ y_n y_l M1)]) (by decide) rfl nws8_ok (tbOK0 _) rfl (csL_all ?_) (csA_all ?_) ?_ ?_ ?_
  · intro q hq
    simp only [cs0_lawsN, List.mem_cons, List.not_mem_nil, or_false] at hq
    rcases hq with rfl
    · exact cg0_isSo (by decide)
  · intro q hq
    simp only [xs0_lawsN, List.mem_cons, List.not_mem_nil, or_false] at hq
    rcases hq with rfl
    · exact Or.inr ⟨(by decide : ¬ (((2 : Nat) = 0 ∨ (2 : Nat) = 3) ∨ (2 : Nat) = 4)), cxe0_asksBookN (by decide)⟩
  · intro avs M Q hsp
    obtain ⟨xs, hx⟩ := spX_un _ _ _ hsp
    obtain ⟨e, hl⟩ := unA_mkT hx
    obtain ⟨s, rfl⟩ := len1 hl
    have e : avs = [ar 0, ai s] := e
    subst e
    simp [szL, isL]
  · intro avs M Q hM hav hsp
    obtain ⟨xs, hx⟩ := spX_un _ _ _ hsp
    obtain ⟨e, hl⟩ := unA_mkT hx
    obtain ⟨s, rfl⟩ := len1 hl
    have e : avs = [ar 0, ai s] := e
    subst e
    exact in0_lawsN hM (hav (ai s) (by simp)) hsp.1 hsp.2 _ (fun m_ y_s_ y_n y_l M2 hJ => ⟨m_, y_s_, y_n, y_l, rfl, hJ⟩)
  · intro avs M Q hM hav hsp q hq m_ vs M1 hM1 hv hJ
    obtain ⟨xs, hx⟩ := spX_un _ _ _ hsp
    obtain ⟨e, hl⟩ := unA_mkT hx
    obtain ⟨s, rfl⟩ := len1 hl
    have e : avs = [ar 0, ai s] := e
    subst e
    simp only [List.mem_cons, List.not_mem_nil, or_false] at hq
    rcases hq with rfl
    · obtain ⟨y_s_, y_n, y_l, rfl, hJ⟩ := hJ
      exact at0_lawsN_17 hM (hav (ai s) (by simp)) hsp.1 hsp.2 hM1 (hv (1, ai y_s_) (List.mem_of_getElem? (i := 1) rfl)) (hv (3, ai y_n) (List.mem_of_getElem? (i := 2) rfl)) (hv (4, ai y_l) (List.mem_of_getElem? (i := 3) rfl)) hJ _ (fun m2 z_s_ z_n z_l M2 hm hJ2 => ⟨m2, hm, z_s_, z_n, z_l, rfl, hJ2⟩)
