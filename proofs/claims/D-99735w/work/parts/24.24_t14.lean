/-! SagMemoryModel: sets -/
/-- how many bits, of seven -/
def szP (x : Int) : Int := sumN (fun k => b01 (bitP x k)) 7
set_option maxRecDepth 100000 in
theorem sz_dec : ∀ v : Fin 128, v.val ≠ 0 → szP (band (v.val : Int) ((v.val : Int) - 1)) + 1 = szP v.val ∧ 0 ≤ band (v.val : Int) ((v.val : Int) - 1) ∧ band (v.val : Int) ((v.val : Int) - 1) < (v.val : Int) := by decide
theorem szP_b (x : Int) : 0 ≤ szP x ∧ szP x ≤ 7 := by
  have := sumN_b (f := fun k => b01 (bitP x k)) (B := 1) (n := 7) (fun k _ => by
    show 0 ≤ b01 (bitP x k) ∧ b01 (bitP x k) ≤ 1
    unfold b01
    split <;> omega)
  exact this
def P7_sizeOf (s : Int) (M : Mm) : Prop := 0 ≤ s ∧ s < 128
def V7_sizeOf (s : Int) (M : Mm) : Int := szP s
def sp7_sizeOf : Spec := spF false [0] 1 (fun x M => P7_sizeOf (x 0) M) (fun x M => V7_sizeOf (x 0) M)
theorem c7_sizeOf {s : Int} {M : Mm} {Q : Option AV → Mm → Prop} : sp7_sizeOf [ai s] M Q = (P7_sizeOf s M ∧ Q (some (ai (V7_sizeOf s M))) M) := rfl
def cs7_sizeOf : List (Nat × Nat × Nat × Spec) := []
def J7_sizeOf_4 (s : Int) (M : Mm) (m : Nat) (n : Int) (v : Int) (M1 : Mm) : Prop := M = M1 ∧ (0 ≤ v ∧ v < 128) ∧ n + szP v = szP s ∧ (0 ≤ n ∧ n ≤ 7) ∧ m = v.toNat
set_option maxHeartbeats 4000000 in
set_option maxRecDepth 100000 in
theorem in7_sizeOf {s : Int} {M : Mm} {Q : Option AV → Mm → Prop} (hM : okM sh7 M) (h_s : i32 s) (hP : P7_sizeOf s M) (hQ : Q (some (ai (V7_sizeOf s M))) M) (I_4 : List AV → Mm → Prop) (hI_4 : ∀ (m_ : Nat) (y_n : Int) (y_v : Int) (M2 : Mm), J7_sizeOf_4 s M m_ y_n y_v M2 → I_4 [ai y_n, ai y_v] M2) : wp (tb7 (csL cs7_sizeOf)) sh7 3 1 cX7_sizeOf [(4, [1, 2], I_4)] Q 400 0 [(0, ai s)] [] M := by
  simp only [e_wp dX7_sizeOf_0 rfl, e_wp dX7_sizeOf_1 rfl, e_wp dX7_sizeOf_2 rfl, e_wp dX7_sizeOf_3 rfl, e_wp dX7_sizeOf_4 rfl, e_wp dX7_sizeOf_5 rfl, e_wp dX7_sizeOf_8 rfl, e_wp dX7_sizeOf_11 rfl, e_wp dX7_sizeOf_12 rfl, e_wp dX7_sizeOf_13 rfl, e_wp dX7_sizeOf_14 rfl, e_wp dX7_sizeOf_15 rfl, e_wp dX7_sizeOf_16 rfl, e_wp dX7_sizeOf_17 rfl, e_wp dX7_sizeOf_20 rfl, e_wp dX7_sizeOf_21 rfl, e_iconst, e_bipush, e_sipush, e_lconst_0, e_lconst_1, e_iload, e_iload_0, e_iload_1, e_iload_2, e_iload_3, e_lload, e_lload_0, e_lload_1, e_lload_2, e_lload_3, e_aload, e_aload_0, e_aload_1, e_aload_2, e_aload_3, e_istore, e_istore_0, e_istore_1, e_istore_2, e_istore_3, e_astore, e_astore_0, e_astore_1, e_astore_2, e_astore_3, e_lstore, e_lstore_0, e_lstore_1, e_lstore_2, e_lstore_3, e_iinc, e_iadd, e_isub, e_imul, e_ladd, e_lsub, e_lmul, e_idiv, e_irem, e_ldiv, e_lrem, e_ineg, e_lneg, e_iand, e_ior, e_ixor, e_ishl, e_ishr, e_iushr, e_lcmp, e_i2l, e_l2i, e_i2b, e_i2s, e_dup_i, e_dup_r, e_pop_i, e_pop_r, e_dup2_l, e_dup2_ir, e_dup2_ii, e_ifeq, e_ifne, e_iflt, e_ifge, e_ifgt, e_ifle, e_iceq, e_icne, e_iclt, e_icge, e_icgt, e_icle, e_goto, e_switch, e_invokevirtual, e_invokestatic, e_invokespecial, e_ret0, e_ret1, e_ret2, e_ret3, ldI_s, ldL_s, ldR_s, clO_s, ctP_s, ctS_s, mgo_0, mgo_s, pjc_s, pj_0, pj_s, lk_s, rm1_0, rm1_i, rm1_r, rm1_l, rm2_0, rm2_i, rm2_r, rm2_l, csL_s, lc_lt, lc_ge, lc_gt, lc_le, lc_eq, b01_0, b01_1, b01_01, b01_n, up2_o, up2_s, up2_u, ne_eq, reduceCtorEq, Nat.reduceAdd, Nat.reduceEqDiff, Nat.reduceLT, Nat.reduceLeDiff, Int.reduceLE, Int.reduceLT, Int.reduceAdd, Int.reduceNeg, Int.reduceMul, Int.reduceSub, Int.reduceEq, Int.reduceToNat, Int.reduceNatCast, Int.cast_ofNat_Int, ↓reduceIte, and_self, List.drop_succ_cons, List.drop_zero, List.take_succ_cons, List.take_zero, List.length_cons, List.length_nil, List.reverse_cons, List.reverse_nil, List.nil_append, List.cons_append, Option.toList, true_and, and_true, or_false, false_or, or_true, true_or, forall_const, Classical.not_not, not_false_eq_true, not_true_eq_false, false_implies, true_implies, implies_true, imp_self]
  exact hI_4 _ _ _ _ ⟨rfl, hP, by omega, by omega, rfl⟩
set_option maxHeartbeats 4000000 in
set_option maxRecDepth 100000 in
theorem at7_sizeOf_4 {s : Int} {M : Mm} {Q : Option AV → Mm → Prop} (hM : okM sh7 M) (h_s : i32 s) (hP : P7_sizeOf s M) (hQ : Q (some (ai (V7_sizeOf s M))) M) {m : Nat} {n v : Int} {M1 : Mm} (hM1 : okM sh7 M1) (h_n : i32 n) (h_v : i32 v) (hJ : J7_sizeOf_4 s M m n v M1) (I_4 : List AV → Mm → Prop) (hI_4 : ∀ (m_ : Nat) (y_n : Int) (y_v : Int) (M2 : Mm), m_ < m → J7_sizeOf_4 s M m_ y_n y_v M2 → I_4 [ai y_n, ai y_v] M2) : wp (tb7 (csL cs7_sizeOf)) sh7 3 1 cX7_sizeOf [(4, [1, 2], I_4)] Q 400 4 [(1, ai n), (2, ai v)] [] M1 := by
  obtain ⟨rfl, hv, hn, hn2, rfl⟩ := hJ
  have b1 := szP_b s
  have b2 := szP_b v
  have b3 := szP_b (band v (v - 1))
  simp only [e_wp dX7_sizeOf_0 rfl, e_wp dX7_sizeOf_1 rfl, e_wp dX7_sizeOf_2 rfl, e_wp dX7_sizeOf_3 rfl, e_wp dX7_sizeOf_4 rfl, e_wp dX7_sizeOf_5 rfl, e_wp dX7_sizeOf_8 rfl, e_wp dX7_sizeOf_11 rfl, e_wp dX7_sizeOf_12 rfl, e_wp dX7_sizeOf_13 rfl, e_wp dX7_sizeOf_14 rfl, e_wp dX7_sizeOf_15 rfl, e_wp dX7_sizeOf_16 rfl, e_wp dX7_sizeOf_17 rfl, e_wp dX7_sizeOf_20 rfl, e_wp dX7_sizeOf_21 rfl, e_iconst, e_bipush, e_sipush, e_lconst_0, e_lconst_1, e_iload, e_iload_0, e_iload_1, e_iload_2, e_iload_3, e_lload, e_lload_0, e_lload_1, e_lload_2, e_lload_3, e_aload, e_aload_0, e_aload_1, e_aload_2, e_aload_3, e_istore, e_istore_0, e_istore_1, e_istore_2, e_istore_3, e_astore, e_astore_0, e_astore_1, e_astore_2, e_astore_3, e_lstore, e_lstore_0, e_lstore_1, e_lstore_2, e_lstore_3, e_iinc, e_iadd, e_isub, e_imul, e_ladd, e_lsub, e_lmul, e_idiv, e_irem, e_ldiv, e_lrem, e_ineg, e_lneg, e_iand, e_ior, e_ixor, e_ishl, e_ishr, e_iushr, e_lcmp, e_i2l, e_l2i, e_i2b, e_i2s, e_dup_i, e_dup_r, e_pop_i, e_pop_r, e_dup2_l, e_dup2_ir, e_dup2_ii, e_ifeq, e_ifne, e_iflt, e_ifge, e_ifgt, e_ifle, e_iceq, e_icne, e_iclt, e_icge, e_icgt, e_icle, e_goto, e_switch, e_invokevirtual, e_invokestatic, e_invokespecial, e_ret0, e_ret1, e_ret2, e_ret3, ldI_s, ldL_s, ldR_s, clO_s, ctP_s, ctS_s, mgo_0, mgo_s, pjc_s, pj_0, pj_s, lk_s, rm1_0, rm1_i, rm1_r, rm1_l, rm2_0, rm2_i, rm2_r, rm2_l, csL_s, lc_lt, lc_ge, lc_gt, lc_le, lc_eq, b01_0, b01_1, b01_01, b01_n, up2_o, up2_s, up2_u, ne_eq, reduceCtorEq, Nat.reduceAdd, Nat.reduceEqDiff, Nat.reduceLT, Nat.reduceLeDiff, Int.reduceLE, Int.reduceLT, Int.reduceAdd, Int.reduceNeg, Int.reduceMul, Int.reduceSub, Int.reduceEq, Int.reduceToNat, Int.reduceNatCast, Int.cast_ofNat_Int, ↓reduceIte, and_self, List.drop_succ_cons, List.drop_zero, List.take_succ_cons, List.take_zero, List.length_cons, List.length_nil, List.reverse_cons, List.reverse_nil, List.nil_append, List.cons_append, Option.toList, true_and, and_true, or_false, false_or, or_true, true_or, forall_const, Classical.not_not, not_false_eq_true, not_true_eq_false, false_implies, true_implies, implies_true, imp_self]
  refine ⟨fun q => ?_, fun q => ?_⟩
  · refine qeq hQ ?_
    rw [q] at hn
    have z : szP 0 = 0 := by decide
    show szP s = n
    omega
  · obtain ⟨u, rfl⟩ := Int.eq_ofNat_of_zero_le hv.1
    obtain ⟨d1, d2, d3⟩ := sz_dec ⟨u, by omega⟩ (by show u ≠ 0; omega)
    have d1 : szP (band (u : Int) ((u : Int) - 1)) + 1 = szP u := d1
    have d2 : 0 ≤ band (u : Int) ((u : Int) - 1) := d2
    have d3 : band (u : Int) ((u : Int) - 1) < (u : Int) := d3
    repeat (refine And.intro (by omega) ?_)
    exact hI_4 _ _ _ _ (by omega) ⟨rfl, by omega, by omega, by omega, rfl⟩
set_option maxHeartbeats 4000000 in
set_option maxRecDepth 100000 in
theorem m7_sizeOf : MOK cl7 sh7 tyl7 [] 0 yX7_sizeOf cX7_sizeOf 3 (some .int) sp7_sizeOf := by
  refine mok_of (own := RX7) (tb := tb7 (csL cs7_sizeOf)) (rt := 1) (fuel := 400) (fun avs M Q => [(4, [1, 2], fun m_ vs M1 => ∃ y_n : Int, ∃ y_v : Int, vs = [ai y_n, ai y_v] ∧ J7_sizeOf_4 (pa false [0] avs 0) M m_ y_n y_v M1)]) (by decide) rfl nil_nw (tbOK7 _) rfl (csL_all ?_) ?_ ?_ ?_
  · intro q hq; cases hq
  · intro avs M Q hsp
    obtain ⟨xs, hx⟩ := spF_un _ _ _ hsp
    obtain ⟨e, hl⟩ := unA_mk hx
    obtain ⟨s, rfl⟩ := len1 hl
    have e : avs = [ai s] := e
    subst e
    simp [szL, isL]
  · intro avs M Q hM hav hsp
    obtain ⟨xs, hx⟩ := spF_un _ _ _ hsp
    obtain ⟨e, hl⟩ := unA_mk hx
    obtain ⟨s, rfl⟩ := len1 hl
    have e : avs = [ai s] := e
    subst e
    exact in7_sizeOf hM (hav (ai s) (by simp)) hsp.1 hsp.2 _ (fun m_ y_n y_v M2 hJ => ⟨m_, y_n, y_v, rfl, hJ⟩)
  · intro avs M Q hM hav hsp q hq m_ vs M1 hM1 hv hJ
    obtain ⟨xs, hx⟩ := spF_un _ _ _ hsp
    obtain ⟨e, hl⟩ := unA_mk hx
    obtain ⟨s, rfl⟩ := len1 hl
    have e : avs = [ai s] := e
    subst e
    simp only [List.mem_cons, List.not_mem_nil, or_false] at hq
    rcases hq with rfl
    · obtain ⟨y_n, y_v, rfl, hJ⟩ := hJ
      exact at7_sizeOf_4 hM (hav (ai s) (by simp)) hsp.1 hsp.2 hM1 (hv (1, ai y_n) (List.mem_of_getElem? (i := 0) rfl)) (hv (2, ai y_v) (List.mem_of_getElem? (i := 1) rfl)) hJ _ (fun m2 z_n z_v M2 hm hJ2 => ⟨m2, hm, z_n, z_v, rfl, hJ2⟩)
theorem cg7_sizeOf {lvl : Nat} (h : 0 < lvl) : CG RX7 cl7 sh7 tyl7 [] lvl 0 407 1 sp7_sizeOf := cg_S (sg := [0]) nil_nw spF_mono spF_un m7_sizeOf h rfl (by decide) ⟨by decide, by decide, rfl⟩ q2094 q2095 q138 q2096
