/-! SagMemoryModel: shares by sets -/
def facN : Nat → Int
  | 0 => 1
  | n + 1 => ((n + 1 : Nat) : Int) * facN n
theorem facN_b7 : ∀ n : Fin 8, 1 ≤ facN n.val ∧ facN n.val ≤ 5040 := by decide
theorem facN_b {n : Nat} (h : n ≤ 7) : 1 ≤ facN n ∧ facN n ≤ 5040 := facN_b7 ⟨n, by omega⟩
def P7_times (d_ : Nat) (n : Int) (M : Mm) : Prop := 1 ≤ d_ ∧ n ≤ (d_ : Int) ∧ n ≤ 7
def V7_times (d_ : Nat) (n : Int) (M : Mm) : Int := facN n.toNat
def sp7_times (d_ : Nat) : Spec := spF false [0] 2 (fun x M => P7_times d_ (x 0) M) (fun x M => V7_times d_ (x 0) M)
theorem c7_times {d_ : Nat} {n : Int} {M : Mm} {Q : Option AV → Mm → Prop} : sp7_times d_ [ai n] M Q = (P7_times d_ n M ∧ Q (some (al (V7_times d_ n M))) M) := rfl
def cs7_times (d_ : Nat) : List (Nat × Nat × Nat × Spec) := [(448, 0, 1, sp7_times d_)]
set_option maxHeartbeats 4000000 in
set_option maxRecDepth 100000 in
theorem in7_times {d_ : Nat} {n : Int} {M : Mm} {Q : Option AV → Mm → Prop} (hM : okM sh7 M) (h_n : i32 n) (hP : P7_times (d_ + 1) n M) (hQ : Q (some (al (V7_times (d_ + 1) n M))) M) : wp (tb7 (csL (cs7_times d_))) sh7 1 3 cX7_times [] Q 400 0 [(0, ai n)] [] M := by
  obtain ⟨h1, h2, h3⟩ := id hP
  have hV : V7_times (d_ + 1) n M = facN n.toNat := rfl
  simp only [e_wp dX7_times_0 rfl, e_wp dX7_times_1 rfl, e_wp dX7_times_2 rfl, e_wp dX7_times_5 rfl, e_wp dX7_times_6 rfl, e_wp dX7_times_9 rfl, e_wp dX7_times_10 rfl, e_wp dX7_times_11 rfl, e_wp dX7_times_12 rfl, e_wp dX7_times_13 rfl, e_wp dX7_times_14 rfl, e_wp dX7_times_17 rfl, e_wp dX7_times_18 rfl, c7_times, P7_times, V7_times, cs7_times, e_iconst, e_bipush, e_sipush, e_lconst_0, e_lconst_1, e_iload, e_iload_0, e_iload_1, e_iload_2, e_iload_3, e_lload, e_lload_0, e_lload_1, e_lload_2, e_lload_3, e_aload, e_aload_0, e_aload_1, e_aload_2, e_aload_3, e_istore, e_istore_0, e_istore_1, e_istore_2, e_istore_3, e_astore, e_astore_0, e_astore_1, e_astore_2, e_astore_3, e_lstore, e_lstore_0, e_lstore_1, e_lstore_2, e_lstore_3, e_iinc, e_iadd, e_isub, e_imul, e_ladd, e_lsub, e_lmul, e_idiv, e_irem, e_ldiv, e_lrem, e_ineg, e_lneg, e_iand, e_ior, e_ixor, e_ishl, e_ishr, e_iushr, e_lcmp, e_i2l, e_l2i, e_i2b, e_i2s, e_dup_i, e_dup_r, e_pop_i, e_pop_r, e_dup2_l, e_dup2_ir, e_dup2_ii, e_ifeq, e_ifne, e_iflt, e_ifge, e_ifgt, e_ifle, e_iceq, e_icne, e_iclt, e_icge, e_icgt, e_icle, e_goto, e_switch, e_invokevirtual, e_invokestatic, e_invokespecial, e_ret0, e_ret1, e_ret2, e_ret3, ldI_s, ldL_s, ldR_s, clO_s, ctP_s, ctS_s, mgo_0, mgo_s, pjc_s, pj_0, pj_s, lk_s, rm1_0, rm1_i, rm1_r, rm1_l, rm2_0, rm2_i, rm2_r, rm2_l, csL_s, lc_lt, lc_ge, lc_gt, lc_le, lc_eq, b01_0, b01_1, b01_01, b01_n, up2_o, up2_s, up2_u, ne_eq, reduceCtorEq, Nat.reduceAdd, Nat.reduceEqDiff, Nat.reduceLT, Nat.reduceLeDiff, Int.reduceLE, Int.reduceLT, Int.reduceAdd, Int.reduceNeg, Int.reduceMul, Int.reduceSub, Int.reduceEq, Int.reduceToNat, Int.reduceNatCast, Int.cast_ofNat_Int, ↓reduceIte, and_self, List.drop_succ_cons, List.drop_zero, List.take_succ_cons, List.take_zero, List.length_cons, List.length_nil, List.reverse_cons, List.reverse_nil, List.nil_append, List.cons_append, Option.toList, true_and, and_true, or_false, false_or, or_true, true_or, forall_const, Classical.not_not, not_false_eq_true, not_true_eq_false, false_implies, true_implies, implies_true, imp_self]
  refine ⟨fun q => ⟨by omega, ⟨by omega, by omega, by omega⟩, ?_⟩, fun q => qel hQ ?_⟩
  · obtain ⟨k, rfl⟩ : ∃ k : Nat, n = k + 1 := ⟨(n - 1).toNat, by omega⟩
    have b1 := facN_b (n := k + 1) (by omega)
    have e0 : facN (k + 1) = ((k : Int) + 1) * facN k := rfl
    have e1 : ((k : Int) + 1 - 1).toNat = k := by omega
    have e2 : ((k : Int) + 1).toNat = k + 1 := by omega
    rw [e1, ← e0]
    exact ⟨by omega, qel hQ (by rw [hV, e2])⟩
  · rw [hV]
    rcases (show n.toNat = 0 ∨ n.toNat = 1 by omega) with e | e <;> rw [e] <;> rfl
theorem z7_times {n : Int} {M : Mm} (hP : P7_times 0 n M) : False := by
  unfold P7_times at hP
  omega
theorem r7_times {lvl d_ : Nat} (ih : MOK cl7 sh7 tyl7 [] (0 + d_) yX7_times cX7_times 1 (some .long) (sp7_times d_)) (h : 0 + d_ < lvl) : CG RX7 cl7 sh7 tyl7 [] lvl 0 448 1 (sp7_times d_) := cg_S (sg := [0]) nil_nw spF_mono spF_un ih h rfl (by decide) ⟨by decide, by decide, rfl⟩ q2170 q2171 q138 q2172
set_option maxHeartbeats 4000000 in
set_option maxRecDepth 100000 in
theorem m7_times : ∀ d_ : Nat, MOK cl7 sh7 tyl7 [] (0 + d_) yX7_times cX7_times 1 (some .long) (sp7_times d_) := by
  intro d_
  induction d_ with
  | zero =>
    intro l D ca ad sz avs M Q hM hav hsp
    exfalso
    obtain ⟨xs, hx⟩ := spF_un _ _ _ hsp
    obtain ⟨e, hl⟩ := unA_mk hx
    obtain ⟨n, rfl⟩ := len1 hl
    have e : avs = [ai n] := e
    subst e
    exact z7_times hsp.1
  | succ d_ ih =>
    refine mok_of (own := RX7) (tb := tb7 (csL (cs7_times d_))) (rt := 3) (fuel := 400) (fun avs M Q => []) (by decide) rfl nil_nw (tbOK7 _) rfl (csL_all ?_) ?_ ?_ ?_
    · intro q hq
      simp only [cs7_times, List.mem_cons, List.not_mem_nil, or_false] at hq
      rcases hq with rfl
      · exact r7_times ih (by omega)
    · intro avs M Q hsp
      obtain ⟨xs, hx⟩ := spF_un _ _ _ hsp
      obtain ⟨e, hl⟩ := unA_mk hx
      obtain ⟨n, rfl⟩ := len1 hl
      have e : avs = [ai n] := e
      subst e
      simp [szL, isL]
    · intro avs M Q hM hav hsp
      obtain ⟨xs, hx⟩ := spF_un _ _ _ hsp
      obtain ⟨e, hl⟩ := unA_mk hx
      obtain ⟨n, rfl⟩ := len1 hl
      have e : avs = [ai n] := e
      subst e
      exact in7_times hM (hav (ai n) (by simp)) hsp.1 hsp.2
    · intro avs M Q hM hav hsp q hq m_ vs M1 hM1 hv hJ
      obtain ⟨xs, hx⟩ := spF_un _ _ _ hsp
      obtain ⟨e, hl⟩ := unA_mk hx
      obtain ⟨n, rfl⟩ := len1 hl
      have e : avs = [ai n] := e
      subst e
      cases hq
theorem cg7_times {lvl d_ : Nat} (h : 0 + d_ < lvl) : CG RX7 cl7 sh7 tyl7 [] lvl 0 448 1 (sp7_times d_) := r7_times (m7_times d_) h
/-- how deep the greatest common divisor goes -/
def gcdP (d : Nat) (a b : Int) : Prop := ∃ k : Nat, (2 * k + 1 ≤ d ∧ b.natAbs < 2 ^ k) ∨ (2 * k ≤ d ∧ 1 ≤ k ∧ b.natAbs < a.natAbs ∧ a.natAbs < 2 ^ k)
theorem gcdP_s {d : Nat} {a b : Int} (h : gcdP (d + 1) a b) (hb : ¬ b = 0) : gcdP d b (a.tmod b) := by
  have e : (a.tmod b).natAbs = a.natAbs % b.natAbs := Int.natAbs_tmod a b
  have hb' : 0 < b.natAbs := by omega
  have hlt := Nat.mod_lt a.natAbs hb'
  obtain ⟨k, h | h⟩ := h
  · obtain ⟨h1, h2⟩ := h
    have hk : 1 ≤ k := by
      rcases k with _ | k
      · simp at h2; omega
      · omega
    exact ⟨k, Or.inr ⟨by omega, hk, by omega, h2⟩⟩
  · obtain ⟨h1, h2, h3, h4⟩ := h
    obtain ⟨j, rfl⟩ : ∃ j, k = j + 1 := ⟨k - 1, by omega⟩
    refine ⟨j, Or.inl ⟨by omega, ?_⟩⟩
    rw [Nat.pow_succ] at h4
    have e2 : a.natAbs % b.natAbs + b.natAbs ≤ a.natAbs := by
      have := Nat.mod_add_div a.natAbs b.natAbs
      have h5 : 1 ≤ a.natAbs / b.natAbs := Nat.div_pos (by omega) hb'
      have h6 : b.natAbs * 1 ≤ b.natAbs * (a.natAbs / b.natAbs) := Nat.mul_le_mul_left _ h5
      omega
    omega
theorem gcd_s (a b : Int) : Int.gcd a b = Int.gcd b (a.tmod b) := by
  show Nat.gcd a.natAbs b.natAbs = Nat.gcd b.natAbs (a.tmod b).natAbs
  rw [Int.natAbs_tmod, Nat.gcd_comm b.natAbs, ← Nat.gcd_rec, Nat.gcd_comm]
theorem tdiv_i64 {a b : Int} (h : -4000000000000000000 ≤ a ∧ a ≤ 4000000000000000000) : -4000000000000000000 ≤ a.tdiv b ∧ a.tdiv b ≤ 4000000000000000000 := by
  have h1 : (a.tdiv b).natAbs ≤ a.natAbs := by
    rw [Int.natAbs_tdiv]
    exact Nat.div_le_self _ _
  omega
theorem tmod_i64 {a b : Int} (h : -4000000000000000000 ≤ a ∧ a ≤ 4000000000000000000) : -4000000000000000000 ≤ a.tmod b ∧ a.tmod b ≤ 4000000000000000000 := by
  have h1 : (a.tmod b).natAbs ≤ a.natAbs := by
    rw [Int.natAbs_tmod]
    exact Nat.mod_le _ _
  omega
def P7_common (d_ : Nat) (a : Int) (b : Int) (M : Mm) : Prop := gcdP d_ a b ∧ (-4000000000000000000 ≤ a ∧ a ≤ 4000000000000000000) ∧ (-4000000000000000000 ≤ b ∧ b ≤ 4000000000000000000)
def V7_common (d_ : Nat) (a : Int) (b : Int) (M : Mm) : Int := (Int.gcd a b : Int)
def sp7_common (d_ : Nat) : Spec := spF false [1, 1] 2 (fun x M => P7_common d_ (x 0) (x 1) M) (fun x M => V7_common d_ (x 0) (x 1) M)
theorem c7_common {d_ : Nat} {a b : Int} {M : Mm} {Q : Option AV → Mm → Prop} : sp7_common d_ [al a, al b] M Q = (P7_common d_ a b M ∧ Q (some (al (V7_common d_ a b M))) M) := rfl
def cs7_common (d_ : Nat) : List (Nat × Nat × Nat × Spec) := [(452, 0, 2, sp7_common d_)]
set_option maxHeartbeats 4000000 in
set_option maxRecDepth 100000 in
theorem in7_common {d_ : Nat} {a b : Int} {M : Mm} {Q : Option AV → Mm → Prop} (hM : okM sh7 M) (h_a : i64 a) (h_b : i64 b) (hP : P7_common (d_ + 1) a b M) (hQ : Q (some (al (V7_common (d_ + 1) a b M))) M) : wp (tb7 (csL (cs7_common d_))) sh7 4 3 cX7_common [] Q 400 0 [(0, al a), (2, al b)] [] M := by
  obtain ⟨h1, h2, h3⟩ := id hP
  have hV : V7_common (d_ + 1) a b M = (Int.gcd a b : Int) := rfl
  simp only [e_wp dX7_common_0 rfl, e_wp dX7_common_1 rfl, e_wp dX7_common_2 rfl, e_wp dX7_common_3 rfl, e_wp dX7_common_6 rfl, e_wp dX7_common_7 rfl, e_wp dX7_common_8 rfl, e_wp dX7_common_9 rfl, e_wp dX7_common_12 rfl, e_wp dX7_common_13 rfl, e_wp dX7_common_14 rfl, e_wp dX7_common_17 rfl, e_wp dX7_common_18 rfl, e_wp dX7_common_21 rfl, e_wp dX7_common_22 rfl, e_wp dX7_common_23 rfl, e_wp dX7_common_24 rfl, e_wp dX7_common_25 rfl, e_wp dX7_common_28 rfl, c7_common, P7_common, V7_common, cs7_common, e_iconst, e_bipush, e_sipush, e_lconst_0, e_lconst_1, e_iload, e_iload_0, e_iload_1, e_iload_2, e_iload_3, e_lload, e_lload_0, e_lload_1, e_lload_2, e_lload_3, e_aload, e_aload_0, e_aload_1, e_aload_2, e_aload_3, e_istore, e_istore_0, e_istore_1, e_istore_2, e_istore_3, e_astore, e_astore_0, e_astore_1, e_astore_2, e_astore_3, e_lstore, e_lstore_0, e_lstore_1, e_lstore_2, e_lstore_3, e_iinc, e_iadd, e_isub, e_imul, e_ladd, e_lsub, e_lmul, e_idiv, e_irem, e_ldiv, e_lrem, e_ineg, e_lneg, e_iand, e_ior, e_ixor, e_ishl, e_ishr, e_iushr, e_lcmp, e_i2l, e_l2i, e_i2b, e_i2s, e_dup_i, e_dup_r, e_pop_i, e_pop_r, e_dup2_l, e_dup2_ir, e_dup2_ii, e_ifeq, e_ifne, e_iflt, e_ifge, e_ifgt, e_ifle, e_iceq, e_icne, e_iclt, e_icge, e_icgt, e_icle, e_goto, e_switch, e_invokevirtual, e_invokestatic, e_invokespecial, e_ret0, e_ret1, e_ret2, e_ret3, ldI_s, ldL_s, ldR_s, clO_s, ctP_s, ctS_s, mgo_0, mgo_s, pjc_s, pj_0, pj_s, lk_s, rm1_0, rm1_i, rm1_r, rm1_l, rm2_0, rm2_i, rm2_r, rm2_l, csL_s, lc_lt, lc_ge, lc_gt, lc_le, lc_eq, b01_0, b01_1, b01_01, b01_n, up2_o, up2_s, up2_u, ne_eq, reduceCtorEq, Nat.reduceAdd, Nat.reduceEqDiff, Nat.reduceLT, Nat.reduceLeDiff, Int.reduceLE, Int.reduceLT, Int.reduceAdd, Int.reduceNeg, Int.reduceMul, Int.reduceSub, Int.reduceEq, Int.reduceToNat, Int.reduceNatCast, Int.cast_ofNat_Int, ↓reduceIte, and_self, List.drop_succ_cons, List.drop_zero, List.take_succ_cons, List.take_zero, List.length_cons, List.length_nil, List.reverse_cons, List.reverse_nil, List.nil_append, List.cons_append, Option.toList, true_and, and_true, or_false, false_or, or_true, true_or, forall_const, Classical.not_not, not_false_eq_true, not_true_eq_false, false_implies, true_implies, implies_true, imp_self]
  refine ⟨fun q => ?_, fun q => ⟨fun z => ?_, fun z => ?_⟩⟩
  · have t1 := tdiv_i64 (b := b) h2
    have t2 := tmod_i64 (b := b) h2
    refine ⟨⟨by omega, by omega⟩, ⟨gcdP_s h1 q, h3, t2⟩, qel hQ ?_⟩
    rw [hV, gcd_s]
  · subst q
    refine qel hQ ?_
    rw [hV, Int.gcd_zero_right]
    omega
  · subst q
    refine ⟨by omega, qel hQ ?_⟩
    rw [hV, Int.gcd_zero_right]
    omega
theorem z7_common {a b : Int} {M : Mm} (hP : P7_common 0 a b M) : False := by
  obtain ⟨⟨k, h | h⟩, -⟩ := hP <;> omega
theorem r7_common {lvl d_ : Nat} (ih : MOK cl7 sh7 tyl7 [] (0 + d_) yX7_common cX7_common 4 (some .long) (sp7_common d_)) (h : 0 + d_ < lvl) : CG RX7 cl7 sh7 tyl7 [] lvl 0 452 2 (sp7_common d_) := cg_S (sg := [1, 1]) nil_nw spF_mono spF_un ih h rfl (by decide) ⟨by decide, by decide, rfl⟩ q2176 q2177 q138 q2178
set_option maxHeartbeats 4000000 in
set_option maxRecDepth 100000 in
theorem m7_common : ∀ d_ : Nat, MOK cl7 sh7 tyl7 [] (0 + d_) yX7_common cX7_common 4 (some .long) (sp7_common d_) := by
  intro d_
  induction d_ with
  | zero =>
    intro l D ca ad sz avs M Q hM hav hsp
    exfalso
    obtain ⟨xs, hx⟩ := spF_un _ _ _ hsp
    obtain ⟨e, hl⟩ := unA_mk hx
    obtain ⟨a, b, rfl⟩ := len2 hl
    have e : avs = [al a, al b] := e
    subst e
    exact z7_common hsp.1
  | succ d_ ih =>
    refine mok_of (own := RX7) (tb := tb7 (csL (cs7_common d_))) (rt := 3) (fuel := 400) (fun avs M Q => []) (by decide) rfl nil_nw (tbOK7 _) rfl (csL_all ?_) ?_ ?_ ?_
    · intro q hq
      simp only [cs7_common, List.mem_cons, List.not_mem_nil, or_false] at hq
      rcases hq with rfl
      · exact r7_common ih (by omega)
    · intro avs M Q hsp
      obtain ⟨xs, hx⟩ := spF_un _ _ _ hsp
      obtain ⟨e, hl⟩ := unA_mk hx
      obtain ⟨a, b, rfl⟩ := len2 hl
      have e : avs = [al a, al b] := e
      subst e
      simp [szL, isL]
    · intro avs M Q hM hav hsp
      obtain ⟨xs, hx⟩ := spF_un _ _ _ hsp
      obtain ⟨e, hl⟩ := unA_mk hx
      obtain ⟨a, b, rfl⟩ := len2 hl
      have e : avs = [al a, al b] := e
      subst e
      exact in7_common hM (hav (al a) (by simp)) (hav (al b) (by simp)) hsp.1 hsp.2
    · intro avs M Q hM hav hsp q hq m_ vs M1 hM1 hv hJ
      obtain ⟨xs, hx⟩ := spF_un _ _ _ hsp
      obtain ⟨e, hl⟩ := unA_mk hx
      obtain ⟨a, b, rfl⟩ := len2 hl
      have e : avs = [al a, al b] := e
      subst e
      cases hq
theorem cg7_common {lvl d_ : Nat} (h : 0 + d_ < lvl) : CG RX7 cl7 sh7 tyl7 [] lvl 0 452 2 (sp7_common d_) := r7_common (m7_common d_) h
def prtP (a b w : Int) : Int := (if w = 0 then a else b).tdiv (Int.gcd a b)
def P7_part (a : Int) (b : Int) (w : Int) (M : Mm) : Prop := (-4000000000000000000 ≤ a ∧ a ≤ 4000000000000000000) ∧ 0 < b ∧ b ≤ 10000000
def V7_part (a : Int) (b : Int) (w : Int) (M : Mm) : Int := prtP a b w
def sp7_part : Spec := spF false [1, 1, 0] 2 (fun x M => P7_part (x 0) (x 1) (x 2) M) (fun x M => V7_part (x 0) (x 1) (x 2) M)
theorem c7_part {a b w : Int} {M : Mm} {Q : Option AV → Mm → Prop} : sp7_part [al a, al b, ai w] M Q = (P7_part a b w M ∧ Q (some (al (V7_part a b w M))) M) := rfl
def cs7_part : List (Nat × Nat × Nat × Spec) := [(452, 0, 2, (sp7_common 49))]
set_option maxHeartbeats 4000000 in
set_option maxRecDepth 100000 in
theorem in7_part {a b w : Int} {M : Mm} {Q : Option AV → Mm → Prop} (hM : okM sh7 M) (h_a : i64 a) (h_b : i64 b) (h_w : i32 w) (hP : P7_part a b w M) (hQ : Q (some (al (V7_part a b w M))) M) : wp (tb7 (csL cs7_part)) sh7 5 3 cX7_part [] Q 400 0 [(0, al a), (2, al b), (4, ai w)] [] M := by
  obtain ⟨h2, h3⟩ := id hP
  have hV : V7_part a b w M = (if w = 0 then a else b).tdiv (Int.gcd a b) := rfl
  have hg : gcdP 49 a b := ⟨24, Or.inl ⟨by omega, by omega⟩⟩
  have t1 := tdiv_i64 (b := (Int.gcd a b : Int)) h2
  have t2 := tdiv_i64 (a := b) (b := (Int.gcd a b : Int)) (by omega)
  have t3 : ¬ ((Int.gcd a b : Nat) : Int) = 0 := by
    have := Int.gcd_pos_of_ne_zero_right a (show b ≠ 0 by omega)
    omega
  simp only [e_wp dX7_part_0 rfl, e_wp dX7_part_2 rfl, e_wp dX7_part_5 rfl, e_wp dX7_part_6 rfl, e_wp dX7_part_9 rfl, e_wp dX7_part_10 rfl, e_wp dX7_part_11 rfl, e_wp dX7_part_12 rfl, e_wp dX7_part_15 rfl, e_wp dX7_part_16 rfl, c7_common, P7_common, V7_common, cs7_part, e_iconst, e_bipush, e_sipush, e_lconst_0, e_lconst_1, e_iload, e_iload_0, e_iload_1, e_iload_2, e_iload_3, e_lload, e_lload_0, e_lload_1, e_lload_2, e_lload_3, e_aload, e_aload_0, e_aload_1, e_aload_2, e_aload_3, e_istore, e_istore_0, e_istore_1, e_istore_2, e_istore_3, e_astore, e_astore_0, e_astore_1, e_astore_2, e_astore_3, e_lstore, e_lstore_0, e_lstore_1, e_lstore_2, e_lstore_3, e_iinc, e_iadd, e_isub, e_imul, e_ladd, e_lsub, e_lmul, e_idiv, e_irem, e_ldiv, e_lrem, e_ineg, e_lneg, e_iand, e_ior, e_ixor, e_ishl, e_ishr, e_iushr, e_lcmp, e_i2l, e_l2i, e_i2b, e_i2s, e_dup_i, e_dup_r, e_pop_i, e_pop_r, e_dup2_l, e_dup2_ir, e_dup2_ii, e_ifeq, e_ifne, e_iflt, e_ifge, e_ifgt, e_ifle, e_iceq, e_icne, e_iclt, e_icge, e_icgt, e_icle, e_goto, e_switch, e_invokevirtual, e_invokestatic, e_invokespecial, e_ret0, e_ret1, e_ret2, e_ret3, ldI_s, ldL_s, ldR_s, clO_s, ctP_s, ctS_s, mgo_0, mgo_s, pjc_s, pj_0, pj_s, lk_s, rm1_0, rm1_i, rm1_r, rm1_l, rm2_0, rm2_i, rm2_r, rm2_l, csL_s, lc_lt, lc_ge, lc_gt, lc_le, lc_eq, b01_0, b01_1, b01_01, b01_n, up2_o, up2_s, up2_u, ne_eq, reduceCtorEq, Nat.reduceAdd, Nat.reduceEqDiff, Nat.reduceLT, Nat.reduceLeDiff, Int.reduceLE, Int.reduceLT, Int.reduceAdd, Int.reduceNeg, Int.reduceMul, Int.reduceSub, Int.reduceEq, Int.reduceToNat, Int.reduceNatCast, Int.cast_ofNat_Int, ↓reduceIte, and_self, List.drop_succ_cons, List.drop_zero, List.take_succ_cons, List.take_zero, List.length_cons, List.length_nil, List.reverse_cons, List.reverse_nil, List.nil_append, List.cons_append, Option.toList, true_and, and_true, or_false, false_or, or_true, true_or, forall_const, Classical.not_not, not_false_eq_true, not_true_eq_false, false_implies, true_implies, implies_true, imp_self]
  refine ⟨fun q => ?_, fun q => ?_⟩
  · refine ⟨⟨hg, h2, by omega, by omega⟩, ⟨t3, by omega⟩, qel hQ ?_⟩
    rw [hV]
    first | rw [if_neg q] | rw [if_pos q]
  · refine ⟨⟨hg, h2, by omega, by omega⟩, ⟨t3, by omega⟩, qel hQ ?_⟩
    rw [hV]
    first | rw [if_neg q] | rw [if_pos q]
set_option maxHeartbeats 4000000 in
set_option maxRecDepth 100000 in
theorem m7_part : MOK cl7 sh7 tyl7 [] 50 yX7_part cX7_part 5 (some .long) sp7_part := by
  refine mok_of (own := RX7) (tb := tb7 (csL cs7_part)) (rt := 3) (fuel := 400) (fun avs M Q => []) (by decide) rfl nil_nw (tbOK7 _) rfl (csL_all ?_) ?_ ?_ ?_
  · intro q hq
    simp only [cs7_part, List.mem_cons, List.not_mem_nil, or_false] at hq
    rcases hq with rfl
    · exact cg7_common (d_ := 49) (by decide)
  · intro avs M Q hsp
    obtain ⟨xs, hx⟩ := spF_un _ _ _ hsp
    obtain ⟨e, hl⟩ := unA_mk hx
    obtain ⟨a, b, w, rfl⟩ := len3 hl
    have e : avs = [al a, al b, ai w] := e
    subst e
    simp [szL, isL]
  · intro avs M Q hM hav hsp
    obtain ⟨xs, hx⟩ := spF_un _ _ _ hsp
    obtain ⟨e, hl⟩ := unA_mk hx
    obtain ⟨a, b, w, rfl⟩ := len3 hl
    have e : avs = [al a, al b, ai w] := e
    subst e
    exact in7_part hM (hav (al a) (by simp)) (hav (al b) (by simp)) (hav (ai w) (by simp)) hsp.1 hsp.2
  · intro avs M Q hM hav hsp q hq m_ vs M1 hM1 hv hJ
    obtain ⟨xs, hx⟩ := spF_un _ _ _ hsp
    obtain ⟨e, hl⟩ := unA_mk hx
    obtain ⟨a, b, w, rfl⟩ := len3 hl
    have e : avs = [al a, al b, ai w] := e
    subst e
    cases hq
theorem cg7_part {lvl : Nat} (h : 50 < lvl) : CG RX7 cl7 sh7 tyl7 [] lvl 0 456 3 sp7_part := cg_S (sg := [1, 1, 0]) nil_nw spF_mono spF_un m7_part h rfl (by decide) ⟨by decide, by decide, rfl⟩ q2173 q2174 q138 q2175
abbrev allB (V : Vy) : Int := ((2 ^ (V 0 4).toNat : Nat) : Int) - 1
/-- what a set of carts gives to a share -/
def shrF (V : Vy) (c : Int) (x : Nat) : Int := if bitP x c then 0 else facN (szP x).toNat * facN (V 0 4 - szP x - 1).toNat * (sagF V (absC (tellP V) (band (allB V) (notI (bor x (bshl 1 c))))) - sagF V (absC (tellP V) (band (allB V) (notI x))))
theorem mul_abs {a b A B : Int} (ha : 0 ≤ a ∧ a ≤ A) (hb : -B ≤ b ∧ b ≤ B) : -(A * B) ≤ a * b ∧ a * b ≤ A * B := by
  have h1 : a * b ≤ a * B := Int.mul_le_mul_of_nonneg_left hb.2 ha.1
  have h2 : a * B ≤ A * B := Int.mul_le_mul_of_nonneg_right ha.2 (by omega)
  have h3 : a * (-B) ≤ a * b := Int.mul_le_mul_of_nonneg_left hb.1 ha.1
  rw [Int.mul_neg] at h3
  omega
theorem shr_bb {V : Vy} {x p q : Int} (h : okY V) (ha : 0 ≤ x ∧ x < 128) (hp : 0 ≤ p ∧ p ≤ 2376) (hq : 0 ≤ q ∧ q ≤ 2376) : (0 ≤ facN (szP x).toNat * facN (V 0 4 - szP x - 1).toNat ∧ facN (szP x).toNat * facN (V 0 4 - szP x - 1).toNat ≤ 5040 * 5040) ∧ -(5040 * 5040 * 2376) ≤ facN (szP x).toNat * facN (V 0 4 - szP x - 1).toNat * (p - q) ∧ facN (szP x).toNat * facN (V 0 4 - szP x - 1).toNat * (p - q) ≤ 5040 * 5040 * 2376 := by
  have h4 := (okY_n h).2.1
  have hs := szP_b x
  have b1 := facN_b (n := (szP x).toNat) (by omega)
  have b2 := facN_b (n := (V 0 4 - szP x - 1).toNat) (by omega)
  have m1 := mul_abs (a := facN (szP x).toNat) (b := facN (V 0 4 - szP x - 1).toNat) (A := 5040) (B := 5040) (by omega) (by omega)
  have m0 := Int.mul_nonneg (show 0 ≤ facN (szP x).toNat by omega) (show 0 ≤ facN (V 0 4 - szP x - 1).toNat by omega)
  have m2 := mul_abs (a := facN (szP x).toNat * facN (V 0 4 - szP x - 1).toNat) (b := p - q) (A := 5040 * 5040) (B := 2376) ⟨m0, m1.2⟩ (by omega)
  exact ⟨⟨m0, m1.2⟩, m2⟩
theorem sumN_ab {f : Nat → Int} {B : Int} : ∀ {n : Nat}, (∀ k, k < n → -B ≤ f k ∧ f k ≤ B) → -(n * B) ≤ sumN f n ∧ sumN f n ≤ n * B := by
  intro n
  induction n with
  | zero => intro _; exact ⟨by show -(((0 : Nat) : Int) * B) ≤ 0; simp, by show (0 : Int) ≤ ((0 : Nat) : Int) * B; simp⟩
  | succ n ih =>
    intro h
    have h1 := ih fun k hk => h k (by omega)
    have h2 := h n (by omega)
    show -(((n + 1 : Nat) : Int) * B) ≤ sumN f n + f n ∧ sumN f n + f n ≤ ((n + 1 : Nat) : Int) * B
    have e : ((n + 1 : Nat) : Int) * B = n * B + B := by
      rw [Int.natCast_add, Int.add_mul]
      simp
    omega
theorem shr_b {V : Vy} {c : Int} (h : okY V) {n : Nat} (hn : n ≤ 128) : -1000000000000000 ≤ sumN (shrF V c) n ∧ sumN (shrF V c) n ≤ 1000000000000000 := by
  have := sumN_ab (f := shrF V c) (B := 5040 * 5040 * 2376) (n := n) (fun k hk => by
    unfold shrF
    split
    · omega
    · exact (shr_bb h (x := k) (by omega) (sagA_b h) (sagA_b h)).2)
  have h2 : (n : Int) * (5040 * 5040 * 2376) ≤ 128 * (5040 * 5040 * 2376) := Int.mul_le_mul_of_nonneg_right (by omega) (by omega)
  omega
def A_share (V : Vy) (c w : Int) : Int := if isC V c ∧ 0 ≤ w ∧ w ≤ 1 then (prtP (sumN (shrF V c) (2 ^ (V 0 4).toNat)) (facN (V 0 4).toNat) w).bmod 4294967296 else -2
def P7_share (c : Int) (w : Int) (M : Mm) : Prop := okY (vM M)
def R7_share (c : Int) (w : Int) (M : Mm) (v : Int) (M1 : Mm) : Prop := keepM M M1 ∧ v = A_share (vM M) c w
def sp7_share : Spec := spR true [0, 0] 1 (fun x M => P7_share (x 0) (x 1) M) (fun x M v M1 => R7_share (x 0) (x 1) M v M1)
theorem c7_share {c w : Int} {M : Mm} {Q : Option AV → Mm → Prop} : sp7_share [ar 0, ai c, ai w] M Q = (P7_share c w M ∧ ∀ (v : Int) (M1 : Mm), R7_share c w M v M1 → Q (some (ai v)) M1) := rfl
def cs7_share : List (Nat × Nat × Nat × Spec) := [(289, 1, 2, sp7_isCart), (342, 0, 1, sp7_isHalf), (286, 1, 1, sp7_carts), (307, 0, 2, sp7_isBit), (407, 0, 1, sp7_sizeOf), (448, 0, 1, (sp7_times 7)), (389, 1, 2, sp7_sagWithout), (456, 0, 3, sp7_part)]
def J7_share_39 (c : Int) (w : Int) (M : Mm) (m : Nat) (c_ : Int) (w_ : Int) (all : Int) (sum : Int) (x : Int) (M1 : Mm) : Prop := c = c_ ∧ w = w_ ∧ (isC (vM M) c ∧ 0 ≤ w ∧ w ≤ 1) ∧ keepM M M1 ∧ all = allB (vM M) ∧ ∃ a : Nat, x = a ∧ a ≤ 2 ^ (vM M 0 4).toNat ∧ sum = sumN (shrF (vM M) c) a ∧ m = 128 - a
set_option maxHeartbeats 4000000 in
set_option maxRecDepth 100000 in
theorem in7_share {c w : Int} {M : Mm} {Q : Option AV → Mm → Prop} (hM : okM sh7 M) (h_c : i32 c) (h_w : i32 w) (hP : P7_share c w M) (hQ : ∀ (v : Int) (M1 : Mm), R7_share c w M v M1 → Q (some (ai v)) M1) (I_39 : List AV → Mm → Prop) (hI_39 : ∀ (m_ : Nat) (y_c_ : Int) (y_w_ : Int) (y_all : Int) (y_sum : Int) (y_x : Int) (M2 : Mm), J7_share_39 c w M m_ y_c_ y_w_ y_all y_sum y_x M2 → I_39 [ar 0, ai y_c_, ai y_w_, ai y_all, al y_sum, ai y_x] M2) : wp (tb7 (csL cs7_share)) sh7 8 1 cX7_share [(39, [0, 1, 2, 3, 4, 6], I_39)] Q 400 0 [(0, ar 0), (1, ai c), (2, ai w)] [] M := by
  have h4 : 0 ≤ M 7 4 ∧ M 7 4 ≤ 7 := hP.2.2.2.2.1
  have hk0 : keepM M (up2 M 0 0 0) := keep_u0 keep_rf (by decide)
  have e1 : ¬ ((0 ≤ c ∧ c < M 7 4) ∧ 0 ≤ w ∧ w ≤ 1) → A_share (vM M) c w = -2 := fun q => if_neg q
  have en : (((vM M 0 4).toNat : Nat) : Int) = M 7 4 := Int.toNat_of_nonneg h4.1
  have eb : bshl 1 (M 7 4) = ((2 ^ (vM M 0 4).toNat : Nat) : Int) := by rw [← en]; exact shl_n (by omega)
  have hp := pow7 (n := (vM M 0 4).toNat) (by omega)
  have hp0 := Nat.two_pow_pos (vM M 0 4).toNat
  have eAll : allB (vM M) = ((2 ^ (vM M 0 4).toNat : Nat) : Int) - 1 := rfl
  simp only [e_wp dX7_share_0 rfl, e_wp dX7_share_1 rfl, e_wp dX7_share_2 rfl, e_wp dX7_share_5 rfl, e_wp dX7_share_6 rfl, e_wp dX7_share_7 rfl, e_wp dX7_share_8 rfl, e_wp dX7_share_11 rfl, e_wp dX7_share_14 rfl, e_wp dX7_share_15 rfl, e_wp dX7_share_18 rfl, e_wp dX7_share_21 rfl, e_wp dX7_share_23 rfl, e_wp dX7_share_24 rfl, e_wp dX7_share_25 rfl, e_wp dX7_share_26 rfl, e_wp dX7_share_29 rfl, e_wp dX7_share_30 rfl, e_wp dX7_share_31 rfl, e_wp dX7_share_32 rfl, e_wp dX7_share_33 rfl, e_wp dX7_share_34 rfl, e_wp dX7_share_36 rfl, e_wp dX7_share_37 rfl, e_wp dX7_share_39 rfl, e_wp dX7_share_41 rfl, e_wp dX7_share_42 rfl, e_wp dX7_share_45 rfl, e_wp dX7_share_47 rfl, e_wp dX7_share_48 rfl, e_wp dX7_share_51 rfl, e_wp dX7_share_54 rfl, e_wp dX7_share_57 rfl, e_wp dX7_share_59 rfl, e_wp dX7_share_62 rfl, e_wp dX7_share_64 rfl, e_wp dX7_share_66 rfl, e_wp dX7_share_68 rfl, e_wp dX7_share_71 rfl, e_wp dX7_share_72 rfl, e_wp dX7_share_75 rfl, e_wp dX7_share_77 rfl, e_wp dX7_share_78 rfl, e_wp dX7_share_79 rfl, e_wp dX7_share_80 rfl, e_wp dX7_share_83 rfl, e_wp dX7_share_84 rfl, e_wp dX7_share_85 rfl, e_wp dX7_share_86 rfl, e_wp dX7_share_88 rfl, e_wp dX7_share_89 rfl, e_wp dX7_share_90 rfl, e_wp dX7_share_91 rfl, e_wp dX7_share_92 rfl, e_wp dX7_share_93 rfl, e_wp dX7_share_94 rfl, e_wp dX7_share_95 rfl, e_wp dX7_share_98 rfl, e_wp dX7_share_99 rfl, e_wp dX7_share_100 rfl, e_wp dX7_share_102 rfl, e_wp dX7_share_103 rfl, e_wp dX7_share_104 rfl, e_wp dX7_share_105 rfl, e_wp dX7_share_108 rfl, e_wp dX7_share_109 rfl, e_wp dX7_share_110 rfl, e_wp dX7_share_111 rfl, e_wp dX7_share_112 rfl, e_wp dX7_share_114 rfl, e_wp dX7_share_117 rfl, e_wp dX7_share_120 rfl, e_wp dX7_share_122 rfl, e_wp dX7_share_123 rfl, e_wp dX7_share_126 rfl, e_wp dX7_share_129 rfl, e_wp dX7_share_130 rfl, e_wp dX7_share_133 rfl, e_wp dX7_share_134 rfl, p7_116, c7_isCart, P7_isCart, V7_isCart, cs7_share, c7_isHalf, P7_isHalf, V7_isHalf, c7_carts, P7_carts, V7_carts, c7_isBit, P7_isBit, V7_isBit, c7_sizeOf, P7_sizeOf, V7_sizeOf, c7_times, P7_times, V7_times, c7_sagWithout, c7_part, P7_part, V7_part, e_iconst, e_bipush, e_sipush, e_lconst_0, e_lconst_1, e_iload, e_iload_0, e_iload_1, e_iload_2, e_iload_3, e_lload, e_lload_0, e_lload_1, e_lload_2, e_lload_3, e_aload, e_aload_0, e_aload_1, e_aload_2, e_aload_3, e_istore, e_istore_0, e_istore_1, e_istore_2, e_istore_3, e_astore, e_astore_0, e_astore_1, e_astore_2, e_astore_3, e_lstore, e_lstore_0, e_lstore_1, e_lstore_2, e_lstore_3, e_iinc, e_iadd, e_isub, e_imul, e_ladd, e_lsub, e_lmul, e_idiv, e_irem, e_ldiv, e_lrem, e_ineg, e_lneg, e_iand, e_ior, e_ixor, e_ishl, e_ishr, e_iushr, e_lcmp, e_i2l, e_l2i, e_i2b, e_i2s, e_dup_i, e_dup_r, e_pop_i, e_pop_r, e_dup2_l, e_dup2_ir, e_dup2_ii, e_ifeq, e_ifne, e_iflt, e_ifge, e_ifgt, e_ifle, e_iceq, e_icne, e_iclt, e_icge, e_icgt, e_icle, e_goto, e_switch, e_invokevirtual, e_invokestatic, e_invokespecial, e_ret0, e_ret1, e_ret2, e_ret3, ldI_s, ldL_s, ldR_s, clO_s, ctP_s, ctS_s, mgo_0, mgo_s, pjc_s, pj_0, pj_s, lk_s, rm1_0, rm1_i, rm1_r, rm1_l, rm2_0, rm2_i, rm2_r, rm2_l, csL_s, lc_lt, lc_ge, lc_gt, lc_le, lc_eq, b01_0, b01_1, b01_01, b01_n, up2_o, up2_s, up2_u, ne_eq, reduceCtorEq, Nat.reduceAdd, Nat.reduceEqDiff, Nat.reduceLT, Nat.reduceLeDiff, Int.reduceLE, Int.reduceLT, Int.reduceAdd, Int.reduceNeg, Int.reduceMul, Int.reduceSub, Int.reduceEq, Int.reduceToNat, Int.reduceNatCast, Int.cast_ofNat_Int, ↓reduceIte, and_self, List.drop_succ_cons, List.drop_zero, List.take_succ_cons, List.take_zero, List.length_cons, List.length_nil, List.reverse_cons, List.reverse_nil, List.nil_append, List.cons_append, Option.toList, true_and, and_true, or_false, false_or, or_true, true_or, forall_const, Classical.not_not, not_false_eq_true, not_true_eq_false, false_implies, true_implies, implies_true, imp_self]
  rw [eb]
  refine ⟨h4, fun q => hQ _ _ ⟨hk0, (e1 (fun z => q z.1)).symm⟩, fun q => ⟨fun z => ⟨by omega, ?_⟩, fun z => hQ _ _ ⟨hk0, (e1 (fun y => z y.2)).symm⟩⟩⟩
  exact hI_39 (128 - 0) _ _ _ _ _ _ ⟨rfl, rfl, ⟨q, z⟩, hk0, rfl, 0, rfl, Nat.zero_le _, rfl, rfl⟩
set_option maxHeartbeats 4000000 in
set_option maxRecDepth 100000 in
theorem at7_share_39 {c w : Int} {M : Mm} {Q : Option AV → Mm → Prop} (hM : okM sh7 M) (h_c : i32 c) (h_w : i32 w) (hP : P7_share c w M) (hQ : ∀ (v : Int) (M1 : Mm), R7_share c w M v M1 → Q (some (ai v)) M1) {m : Nat} {c_ w_ all sum x : Int} {M1 : Mm} (hM1 : okM sh7 M1) (h_c_ : i32 c_) (h_w_ : i32 w_) (h_all : i32 all) (h_sum : i64 sum) (h_x : i32 x) (hJ : J7_share_39 c w M m c_ w_ all sum x M1) (I_39 : List AV → Mm → Prop) (hI_39 : ∀ (m_ : Nat) (y_c_ : Int) (y_w_ : Int) (y_all : Int) (y_sum : Int) (y_x : Int) (M2 : Mm), m_ < m → J7_share_39 c w M m_ y_c_ y_w_ y_all y_sum y_x M2 → I_39 [ar 0, ai y_c_, ai y_w_, ai y_all, al y_sum, ai y_x] M2) : wp (tb7 (csL cs7_share)) sh7 8 1 cX7_share [(39, [0, 1, 2, 3, 4, 6], I_39)] Q 400 39 [(0, ar 0), (1, ai c_), (2, ai w_), (3, ai all), (4, al sum), (6, ai x)] [] M1 := by
  obtain ⟨rfl, rfl, hq, hk, rfl, a, rfl, ha, rfl, rfl⟩ := hJ
  have h4 : 0 ≤ M 7 4 ∧ M 7 4 ≤ 7 := hP.2.2.2.2.1
  have en : (((vM M 0 4).toNat : Nat) : Int) = M 7 4 := Int.toNat_of_nonneg h4.1
  have hp := pow7 (n := (vM M 0 4).toNat) (by omega)
  have hp0 := Nat.two_pow_pos (vM M 0 4).toNat
  have eAll : allB (vM M) = ((2 ^ (vM M 0 4).toNat : Nat) : Int) - 1 := rfl
  have e7 : M1 7 = M 7 := keep_has hk
  have eV : vM M1 = vM M := keep_v hk 0
  have hb := shr_b (c := c) hP (n := a) (by omega)
  have hs := szP_b a
  have hfn := facN_b (n := (M 7 4).toNat) (by omega)
  have e4 : vM M 0 4 = M 7 4 := rfl
  simp only [e_wp dX7_share_0 rfl, e_wp dX7_share_1 rfl, e_wp dX7_share_2 rfl, e_wp dX7_share_5 rfl, e_wp dX7_share_6 rfl, e_wp dX7_share_7 rfl, e_wp dX7_share_8 rfl, e_wp dX7_share_11 rfl, e_wp dX7_share_14 rfl, e_wp dX7_share_15 rfl, e_wp dX7_share_18 rfl, e_wp dX7_share_21 rfl, e_wp dX7_share_23 rfl, e_wp dX7_share_24 rfl, e_wp dX7_share_25 rfl, e_wp dX7_share_26 rfl, e_wp dX7_share_29 rfl, e_wp dX7_share_30 rfl, e_wp dX7_share_31 rfl, e_wp dX7_share_32 rfl, e_wp dX7_share_33 rfl, e_wp dX7_share_34 rfl, e_wp dX7_share_36 rfl, e_wp dX7_share_37 rfl, e_wp dX7_share_39 rfl, e_wp dX7_share_41 rfl, e_wp dX7_share_42 rfl, e_wp dX7_share_45 rfl, e_wp dX7_share_47 rfl, e_wp dX7_share_48 rfl, e_wp dX7_share_51 rfl, e_wp dX7_share_54 rfl, e_wp dX7_share_57 rfl, e_wp dX7_share_59 rfl, e_wp dX7_share_62 rfl, e_wp dX7_share_64 rfl, e_wp dX7_share_66 rfl, e_wp dX7_share_68 rfl, e_wp dX7_share_71 rfl, e_wp dX7_share_72 rfl, e_wp dX7_share_75 rfl, e_wp dX7_share_77 rfl, e_wp dX7_share_78 rfl, e_wp dX7_share_79 rfl, e_wp dX7_share_80 rfl, e_wp dX7_share_83 rfl, e_wp dX7_share_84 rfl, e_wp dX7_share_85 rfl, e_wp dX7_share_86 rfl, e_wp dX7_share_88 rfl, e_wp dX7_share_89 rfl, e_wp dX7_share_90 rfl, e_wp dX7_share_91 rfl, e_wp dX7_share_92 rfl, e_wp dX7_share_93 rfl, e_wp dX7_share_94 rfl, e_wp dX7_share_95 rfl, e_wp dX7_share_98 rfl, e_wp dX7_share_99 rfl, e_wp dX7_share_100 rfl, e_wp dX7_share_102 rfl, e_wp dX7_share_103 rfl, e_wp dX7_share_104 rfl, e_wp dX7_share_105 rfl, e_wp dX7_share_108 rfl, e_wp dX7_share_109 rfl, e_wp dX7_share_110 rfl, e_wp dX7_share_111 rfl, e_wp dX7_share_112 rfl, e_wp dX7_share_114 rfl, e_wp dX7_share_117 rfl, e_wp dX7_share_120 rfl, e_wp dX7_share_122 rfl, e_wp dX7_share_123 rfl, e_wp dX7_share_126 rfl, e_wp dX7_share_129 rfl, e_wp dX7_share_130 rfl, e_wp dX7_share_133 rfl, e_wp dX7_share_134 rfl, p7_116, c7_isCart, P7_isCart, V7_isCart, cs7_share, c7_isHalf, P7_isHalf, V7_isHalf, c7_carts, P7_carts, V7_carts, c7_isBit, P7_isBit, V7_isBit, c7_sizeOf, P7_sizeOf, V7_sizeOf, c7_times, P7_times, V7_times, c7_sagWithout, c7_part, P7_part, V7_part, e_iconst, e_bipush, e_sipush, e_lconst_0, e_lconst_1, e_iload, e_iload_0, e_iload_1, e_iload_2, e_iload_3, e_lload, e_lload_0, e_lload_1, e_lload_2, e_lload_3, e_aload, e_aload_0, e_aload_1, e_aload_2, e_aload_3, e_istore, e_istore_0, e_istore_1, e_istore_2, e_istore_3, e_astore, e_astore_0, e_astore_1, e_astore_2, e_astore_3, e_lstore, e_lstore_0, e_lstore_1, e_lstore_2, e_lstore_3, e_iinc, e_iadd, e_isub, e_imul, e_ladd, e_lsub, e_lmul, e_idiv, e_irem, e_ldiv, e_lrem, e_ineg, e_lneg, e_iand, e_ior, e_ixor, e_ishl, e_ishr, e_iushr, e_lcmp, e_i2l, e_l2i, e_i2b, e_i2s, e_dup_i, e_dup_r, e_pop_i, e_pop_r, e_dup2_l, e_dup2_ir, e_dup2_ii, e_ifeq, e_ifne, e_iflt, e_ifge, e_ifgt, e_ifle, e_iceq, e_icne, e_iclt, e_icge, e_icgt, e_icle, e_goto, e_switch, e_invokevirtual, e_invokestatic, e_invokespecial, e_ret0, e_ret1, e_ret2, e_ret3, ldI_s, ldL_s, ldR_s, clO_s, ctP_s, ctS_s, mgo_0, mgo_s, pjc_s, pj_0, pj_s, lk_s, rm1_0, rm1_i, rm1_r, rm1_l, rm2_0, rm2_i, rm2_r, rm2_l, csL_s, lc_lt, lc_ge, lc_gt, lc_le, lc_eq, b01_0, b01_1, b01_01, b01_n, up2_o, up2_s, up2_u, ne_eq, reduceCtorEq, Nat.reduceAdd, Nat.reduceEqDiff, Nat.reduceLT, Nat.reduceLeDiff, Int.reduceLE, Int.reduceLT, Int.reduceAdd, Int.reduceNeg, Int.reduceMul, Int.reduceSub, Int.reduceEq, Int.reduceToNat, Int.reduceNatCast, Int.cast_ofNat_Int, ↓reduceIte, and_self, List.drop_succ_cons, List.drop_zero, List.take_succ_cons, List.take_zero, List.length_cons, List.length_nil, List.reverse_cons, List.reverse_nil, List.nil_append, List.cons_append, Option.toList, true_and, and_true, or_false, false_or, or_true, true_or, forall_const, Classical.not_not, not_false_eq_true, not_true_eq_false, false_implies, true_implies, implies_true, imp_self, e7]
  refine ⟨fun q => ?_, fun q => ⟨fun z => ?_, fun z => ⟨by omega, ?_⟩⟩⟩
  · have ea : a = 2 ^ (vM M 0 4).toNat := by omega
    refine ⟨by omega, by omega, hQ _ _ ⟨hk, ?_⟩⟩
    rw [show A_share (vM M) c w = _ from if_pos hq, ← ea]
    rfl
  · have hPa : ∀ M2, keepM M M2 → okY (vM M2) := fun M2 h => by rw [show vM M2 = vM M from keep_v h 0]; exact hP
    obtain ⟨m1, -⟩ := shr_bb hP (x := a) (p := 0) (q := 0) (by omega) (by omega) (by omega)
    rw [e4] at m1
    repeat (refine And.intro (by omega) ?_)
    refine ⟨hPa M1 hk, fun v M2 hR => ⟨hPa M2 (keep_tr hk hR.1), fun v2 M3 hR2 => ?_⟩⟩
    have eV2 : vM M2 = vM M := keep_v (keep_tr hk hR.1) 0
    obtain ⟨r1, r2⟩ := hR
    obtain ⟨s1, s2⟩ := hR2
    rw [eV] at r2
    rw [eV2] at s2
    have b1 : 0 ≤ v ∧ v ≤ 2376 := by rw [r2]; exact sagA_b hP
    have b2 : 0 ≤ v2 ∧ v2 ≤ 2376 := by rw [s2]; exact sagA_b hP
    obtain ⟨-, m2⟩ := shr_bb hP (x := a) (p := v) (q := v2) (by omega) b1 b2
    rw [e4] at m2
    repeat (refine And.intro (by omega) ?_)
    refine hI_39 (128 - (a + 1)) _ _ _ _ _ _ (by omega) ⟨rfl, rfl, hq, keep_tr hk (keep_tr r1 s1), rfl, a + 1, by omega, by omega, ?_, rfl⟩
    show _ = sumN (shrF (vM M) c) a + shrF (vM M) c a
    unfold shrF
    rw [if_neg z, r2, s2]
    rfl
  · refine hI_39 (128 - (a + 1)) _ _ _ _ _ _ (by omega) ⟨rfl, rfl, hq, hk, rfl, a + 1, by omega, by omega, ?_, rfl⟩
    show sumN (shrF (vM M) c) a = sumN (shrF (vM M) c) a + shrF (vM M) c a
    unfold shrF
    rw [if_pos z]
    omega
set_option maxHeartbeats 4000000 in
set_option maxRecDepth 100000 in
theorem m7_share : MOK cl7 sh7 tyl7 [] 51 yX7_share cX7_share 8 (some .int) sp7_share := by
  refine mok_of (own := RX7) (tb := tb7 (csL cs7_share)) (rt := 1) (fuel := 400) (fun avs M Q => [(39, [0, 1, 2, 3, 4, 6], fun m_ vs M1 => ∃ y_c_ : Int, ∃ y_w_ : Int, ∃ y_all : Int, ∃ y_sum : Int, ∃ y_x : Int, vs = [ar 0, ai y_c_, ai y_w_, ai y_all, al y_sum, ai y_x] ∧ J7_share_39 (pa true [0, 0] avs 0) (pa true [0, 0] avs 1) M m_ y_c_ y_w_ y_all y_sum y_x M1)]) (by decide) rfl nil_nw (tbOK7 _) rfl (csL_all ?_) ?_ ?_ ?_
  · intro q hq
    simp only [cs7_share, List.mem_cons, List.not_mem_nil, or_false] at hq
    rcases hq with rfl | rfl | rfl | rfl | rfl | rfl | rfl | rfl
    · exact cg7_isCart (by decide)
    · exact cg7_isHalf (by decide)
    · exact cg7_carts (by decide)
    · exact cg7_isBit (by decide)
    · exact cg7_sizeOf (by decide)
    · exact cg7_times (d_ := 7) (by decide)
    · exact cg7_sagWithout (by decide)
    · exact cg7_part (by decide)
  · intro avs M Q hsp
    obtain ⟨xs, hx⟩ := spR_un _ _ _ hsp
    obtain ⟨e, hl⟩ := unA_mkT hx
    obtain ⟨c, w, rfl⟩ := len2 hl
    have e : avs = [ar 0, ai c, ai w] := e
    subst e
    simp [szL, isL]
  · intro avs M Q hM hav hsp
    obtain ⟨xs, hx⟩ := spR_un _ _ _ hsp
    obtain ⟨e, hl⟩ := unA_mkT hx
    obtain ⟨c, w, rfl⟩ := len2 hl
    have e : avs = [ar 0, ai c, ai w] := e
    subst e
    exact in7_share hM (hav (ai c) (by simp)) (hav (ai w) (by simp)) hsp.1 hsp.2 _ (fun m_ y_c_ y_w_ y_all y_sum y_x M2 hJ => ⟨m_, y_c_, y_w_, y_all, y_sum, y_x, rfl, hJ⟩)
  · intro avs M Q hM hav hsp q hq m_ vs M1 hM1 hv hJ
    obtain ⟨xs, hx⟩ := spR_un _ _ _ hsp
    obtain ⟨e, hl⟩ := unA_mkT hx
    obtain ⟨c, w, rfl⟩ := len2 hl
    have e : avs = [ar 0, ai c, ai w] := e
    subst e
    simp only [List.mem_cons, List.not_mem_nil, or_false] at hq
    rcases hq with rfl
    · obtain ⟨y_c_, y_w_, y_all, y_sum, y_x, rfl, hJ⟩ := hJ
      exact at7_share_39 hM (hav (ai c) (by simp)) (hav (ai w) (by simp)) hsp.1 hsp.2 hM1 (hv (1, ai y_c_) (List.mem_of_getElem? (i := 1) rfl)) (hv (2, ai y_w_) (List.mem_of_getElem? (i := 2) rfl)) (hv (3, ai y_all) (List.mem_of_getElem? (i := 3) rfl)) (hv (4, al y_sum) (List.mem_of_getElem? (i := 4) rfl)) (hv (6, ai y_x) (List.mem_of_getElem? (i := 5) rfl)) hJ _ (fun m2 z_c_ z_w_ z_all z_sum z_x M2 hm hJ2 => ⟨m2, hm, z_c_, z_w_, z_all, z_sum, z_x, rfl, hJ2⟩)
