/-! Runs don't depend on marks, but for the marks; a row is kept -/
theorem frz_fst {fr : Int} : ∀ {l l' : List Pr}, l.map Prod.fst = l'.map Prod.fst → (frzP fr l).map Prod.fst = (frzP fr l').map Prod.fst := by
  intro l
  induction l with
  | nil => intro l' h; cases l' with
    | nil => rfl
    | cons y l' => cases h
  | cons x l ih =>
    intro l' h
    cases l' with
    | nil => cases h
    | cons y l' =>
      obtain ⟨h1, h2⟩ := List.cons.inj h
      have h1 : x.1 = y.1 := h1
      show (if x.1 - fr ≤ 0 then frzP fr l else (x.1 - fr, x.2) :: frzP fr l).map Prod.fst = (if y.1 - fr ≤ 0 then frzP fr l' else (y.1 - fr, y.2) :: frzP fr l').map Prod.fst
      rw [h1]
      split
      · exact ih h2
      · show (y.1 - fr) :: (frzP fr l).map Prod.fst = (y.1 - fr) :: (frzP fr l').map Prod.fst
        rw [ih h2]
def simS (S S' : Sm) : Prop := (∀ b, (S.1 b).map Prod.fst = (S'.1 b).map Prod.fst) ∧ S.2 = S'.2
theorem sim_frz {V : Vy} {C : Cf} {S S' : Sm} {t : Nat} (h : simS S S') : simS (frzA V C S t) (frzA V C S' t) := by
  unfold frzA
  by_cases q : bitP (C 0 1) t
  · rw [if_pos q, if_pos q]
    exact ⟨fun b => frz_fst (h.1 b), h.2⟩
  · rw [if_neg q, if_neg q]
    exact h
theorem sim_cr {V : Vy} {C : Cf} {S S' : Sm} {t : Nat} {w w' : Nat → Int} (h : simS S S') : (crP w V C S t).1.map Prod.fst = (crP w' V C S' t).1.map Prod.fst ∧ (crP w V C S t).2 = (crP w' V C S' t).2 := cross_fst (h.1 _)
theorem sim_goS {V : Vy} {C : Cf} {S S' : Sm} {t : Nat} {w w' : Nat → Int} (h : simS S S') : simS (goS w V C S t) (goS w' V C S' t) := by
  have hc := (sim_cr (V := V) (C := C) (t := t) (w := w) (w' := w') h).1
  have hs := sag_fst hc
  refine ⟨fun b => ?_, ?_⟩
  · show (if b = (toP V C (C 3 t).toNat).toNat then (crP w V C S t).1 else S.1 b).map Prod.fst = (if b = (toP V C (C 3 t).toNat).toNat then (crP w' V C S' t).1 else S'.1 b).map Prod.fst
    split
    · exact hc
    · exact h.1 b
  · unfold goS
    dsimp only
    rw [hs, h.2]
theorem sim_is {V : Vy} {C : Cf} {S S' : Sm} {c : Nat} (h : simS S S') : isGo V C S c ↔ isGo V C S' c := by
  unfold isGo
  rw [h.2]
theorem sim_step {V : Vy} {C : Cf} {S S' : Sm} {t : Nat} {w w' : Nat → Int} (h : simS S S') : simS (stepP w V C S t) (stepP w' V C S' t) := by
  have hf := sim_frz (V := V) (C := C) (t := t) h
  unfold stepP
  by_cases q : isGo V C (frzA V C S t) (C 3 t).toNat
  · rw [if_pos q, if_pos ((sim_is hf).mp q)]
    exact sim_goS hf
  · rw [if_neg q, if_neg (fun z => q ((sim_is hf).mpr z))]
    exact hf
theorem sim_run {V : Vy} {C : Cf} {w w' : Nat → Int} : ∀ n : Nat, simS (runP w V C n) (runP w' V C n) := by
  intro n
  induction n with
  | zero => exact ⟨fun _ => rfl, rfl⟩
  | succ n ih => exact sim_step ih
theorem sim_pre {V : Vy} {C : Cf} {w w' : Nat → Int} (t : Nat) : simS (preP w V C t) (preP w' V C t) := sim_frz (sim_run t)
theorem went_sim {V : Vy} {C : Cf} {S S' : Sm} {t : Nat} (h : simS S S') : wentS V C S t = wentS V C S' t := by
  unfold wentS
  by_cases q : isGo V C S (C 3 t).toNat
  · rw [if_pos q, if_pos ((sim_is h).mp q)]
  · rw [if_neg q, if_neg (fun z => q ((sim_is h).mpr z))]
theorem give_sim {V : Vy} {C : Cf} {S S' : Sm} {t : Nat} {w w' : Nat → Int} (h : simS S S') : giveS w V C S t = giveS w' V C S' t := by
  unfold giveS
  by_cases q : isGo V C S (C 3 t).toNat
  · rw [if_pos q, if_pos ((sim_is h).mp q), sag_fst (sim_cr (w := w) (w' := w') h).1, sag_fst (h.1 _)]
  · rw [if_neg q, if_neg (fun z => q ((sim_is h).mpr z))]
/-- the sag behind a run -/
theorem sag_outX {V : Vy} {C : Cf} {M1 : Mm} (hr : ranX V C M1) : sumN (fun b => sagP (mbX M1 b)) (V 0 3).toNat = sagF V C := sumN_congr fun b hb => by
  rw [(hr.2.1 b (by omega)).1]
  exact sag_fst ((sim_run _).1 b)
theorem gon_outX {V : Vy} {C : Cf} {M1 : Mm} (hC : okCf V C) (hi : injR V C) (hr : ranX V C M1) {c : Nat} (hc : (c : Int) < V 0 4) : M1 19 c = gonP V C (V 0 4).toNat c := by
  obtain ⟨t, ht, e⟩ := surj_of_inj (V 0 4).toNat (fun t => (C 3 t).toNat) (fun t ht => by have := (hC.2 t (by omega)).2.2; show (C 3 t).toNat < _; omega) (fun t t' h1 h2 e => by
    have r1 := (hC.2 t (by omega)).2.2
    have r2 := (hC.2 t' (by omega)).2.2
    have e : (C 3 t).toNat = (C 3 t').toNat := e
    exact hi t t' (by omega) (by omega) (by omega)) c (by omega)
  have e : (C 3 t).toNat = c := e
  rw [← e, gon_of hC hi (by omega) ht]
  exact (hr.2.2.2 hi t (by omega)).1.trans (went_sim (sim_pre t))
/-! sets of carts as numbers -/
theorem bor7_dec : ∀ (x : Fin 128) (c : Fin 7), (decide (0 ≤ bor (x.val : Int) (bshl 1 (c.val : Int))) && decide (bor (x.val : Int) (bshl 1 (c.val : Int)) < 128) && decide (bor (x.val : Int) 0 = (x.val : Int))) = true := by decide +kernel
theorem bor7 {x : Int} {c : Nat} (h : 0 ≤ x ∧ x < 128) (hc : c < 7) : (0 ≤ bor x (bshl 1 c) ∧ bor x (bshl 1 c) < 128) ∧ bor x 0 = x := by
  have k := bor7_dec ⟨x.toNat, by omega⟩ ⟨c, hc⟩
  simp only [Bool.and_eq_true, decide_eq_true_eq] at k
  rw [show ((x.toNat : Nat) : Int) = x by omega] at k
  exact k
theorem orS_b {g : Nat → Int} {z : Int} : ∀ {n : Nat}, n ≤ 7 → 0 ≤ orN (fun c => if g c = z then bshl 1 c else 0) n ∧ orN (fun c => if g c = z then bshl 1 c else 0) n < 128 := by
  intro n
  induction n with
  | zero => intro _; exact ⟨Int.le_refl _, by show (0 : Int) < 128; omega⟩
  | succ n ih =>
    intro hn
    have h := ih (by omega)
    have k := bor7 (c := n) h (by omega)
    show 0 ≤ bor (orN _ n) (if g n = z then bshl 1 n else 0) ∧ bor (orN _ n) (if g n = z then bshl 1 n else 0) < 128
    by_cases q : g n = z
    · rw [if_pos q]; exact k.1
    · rw [if_neg q, k.2]; exact h
theorem orS_bit {g : Nat → Int} {z : Int} : ∀ {n : Nat}, n ≤ 7 → ∀ k : Nat, k < 8 → (bitP (orN (fun c => if g c = z then bshl 1 c else 0) n) k ↔ k < n ∧ g k = z) := by
  intro n
  induction n with
  | zero =>
    intro _ k hk
    constructor
    · intro h; exact absurd h (bit_z k hk)
    · intro h; omega
  | succ n ih =>
    intro hn k hk
    have h := orS_b (g := g) (z := z) (n := n) (by omega)
    have e : orN (fun c => if g c = z then bshl 1 c else 0) (n + 1) = bor (orN (fun c => if g c = z then bshl 1 c else 0) n) (if g n = z then bshl 1 n else 0) := rfl
    rw [e]
    by_cases q : g n = z
    · rw [if_pos q, bit_or (by omega) hk, ih (by omega) k hk]
      constructor
      · rintro (w | w)
        · exact ⟨by omega, w.2⟩
        · exact ⟨by omega, w ▸ q⟩
      · intro w
        by_cases e2 : k = n
        · exact Or.inr e2
        · exact Or.inl ⟨by omega, w.2⟩
    · rw [if_neg q, (bor7 (c := 0) h (by omega)).2, ih (by omega) k hk]
      constructor
      · intro w; exact ⟨by omega, w.2⟩
      · intro w
        refine ⟨?_, w.2⟩
        by_cases e2 : k = n
        · exact absurd (e2 ▸ w.2) q
        · omega
theorem sum_cut {g : Nat → Int} {z : Int} {n : Nat} : ∀ m : Nat, sumN (fun k => b01 (k < n ∧ g k = z)) (n + m) = sumN (fun k => b01 (g k = z)) n := by
  intro m
  induction m with
  | zero => exact sumN_congr fun k hk => b01_c ⟨fun h => h.2, fun h => ⟨hk, h⟩⟩
  | succ m ih =>
    show sumN _ (n + m) + b01 (n + m < n ∧ g (n + m) = z) = _
    rw [ih, b01_f (by omega), Int.add_zero]
theorem szP_or {g : Nat → Int} {z : Int} {n : Nat} (hn : n ≤ 7) : szP (orN (fun c => if g c = z then bshl 1 c else 0) n) = sumN (fun k => b01 (g k = z)) n := by
  rw [← sum_cut (g := g) (z := z) (n := n) (7 - n), show n + (7 - n) = 7 by omega]
  exact sumN_congr fun k hk => b01_c (orS_bit hn k (by omega))
theorem sum_cmp {g : Nat → Int} {z : Int} : ∀ n : Nat, (n : Int) - sumN (fun k => b01 (g k = z)) n = sumN (fun k => if g k = z then 0 else 1) n := by
  intro n
  induction n with
  | zero => rfl
  | succ n ih =>
    show ((n + 1 : Nat) : Int) - (sumN _ n + b01 (g n = z)) = sumN _ n + (if g n = z then 0 else 1)
    rw [← ih]
    by_cases q : g n = z
    · rw [b01_t q, if_pos q]; omega
    · rw [b01_f q, if_neg q]; omega
theorem over_outX {V : Vy} {C : Cf} {M1 : Mm} (h4 : 0 ≤ V 0 4 ∧ V 0 4 ≤ 7) (hC : okCf V C) (hi : injR V C) (hr : ranX V C M1) : V 0 4 - szP (orN (fun c => if M1 19 c = -1 then bshl 1 c else 0) (V 0 4).toNat) = ovF V C := by
  rw [szP_or (by omega)]
  have := sum_cmp (g := M1 19) (z := -1) (V 0 4).toNat
  rw [Int.toNat_of_nonneg h4.1] at this
  rw [this]
  exact sumN_congr fun c hc => by rw [gon_outX hC hi hr (by omega)]
theorem ovF_b {V : Vy} {C : Cf} (h4 : 0 ≤ V 0 4 ∧ V 0 4 ≤ 7) : 0 ≤ ovF V C ∧ ovF V C ≤ 7 := by
  have := sumN_b (f := fun c => if gonP V C (V 0 4).toNat c = -1 then 0 else 1) (B := 1) (n := (V 0 4).toNat) (fun k _ => by
    show 0 ≤ (if gonP V C (V 0 4).toNat k = -1 then (0 : Int) else 1) ∧ (if gonP V C (V 0 4).toNat k = -1 then (0 : Int) else 1) ≤ 1
    split <;> omega)
  unfold ovF
  omega
abbrev nX (M : Mm) : Cf := nC (vX M) (cX M)
def P0_laysSag (rs : List (Nat × Nat)) (M : Mm) : Prop := okY (vX M) ∧ okCf (vX M) (cX M) ∧ baseI M
def R0_laysSag (rs : List (Nat × Nat)) (M : Mm) (v : Int) (M1 : Mm) : Prop := frm tRows M M1 ∧ (wX M M1 ∧ ∀ j, ¬ j = 8 → M1 0 j = M 0 j) ∧ ranX (vX M) (nX M) M1 ∧ v = sagF (vX M) (nX M)
def sp0_laysSag (rs : List (Nat × Nat)) : Spec := spR true [] 1 (fun x M => P0_laysSag rs M) (fun x M v M1 => R0_laysSag rs M v M1)
theorem c0_laysSag {rs : List (Nat × Nat)} {M : Mm} {Q : Option AV → Mm → Prop} : sp0_laysSag rs [ar 0] M Q = (P0_laysSag rs M ∧ ∀ (v : Int) (M1 : Mm), R0_laysSag rs M v M1 → Q (some (ai v)) M1) := rfl
def cs0_laysSag (rs : List (Nat × Nat)) : List (Nat × Nat × Nat × Spec) := [(253, 1, 1, (sp0_lays rs)), (267, 1, 1, (sp0_allSag rs))]
set_option maxHeartbeats 4000000 in
set_option maxRecDepth 100000 in
theorem in0_laysSag {rs : List (Nat × Nat)} {M : Mm} {Q : Option AV → Mm → Prop} (hM : okM (sh8 rs) M) (hP : P0_laysSag rs M) (hQ : ∀ (v : Int) (M1 : Mm), R0_laysSag rs M v M1 → Q (some (ai v)) M1) : wp (tb0 (csL (cs0_laysSag rs))) (sh8 rs) 1 1 cX0_laysSag [] Q 400 0 [(0, ar 0)] [] M := by
  have h3 : 0 ≤ M 1 4 ∧ M 1 4 ≤ 3 := (okY_n hP.1).1
  simp only [e_wp dX0_laysSag_0 rfl, e_wp dX0_laysSag_1 rfl, e_wp dX0_laysSag_4 rfl, e_wp dX0_laysSag_5 rfl, e_wp dX0_laysSag_8 rfl, c0_lays, cs0_laysSag, c0_allSag, P0_allSag, V0_allSag, e_iconst, e_bipush, e_sipush, e_lconst_0, e_lconst_1, e_iload, e_iload_0, e_iload_1, e_iload_2, e_iload_3, e_lload, e_lload_0, e_lload_1, e_lload_2, e_lload_3, e_aload, e_aload_0, e_aload_1, e_aload_2, e_aload_3, e_istore, e_istore_0, e_istore_1, e_istore_2, e_istore_3, e_astore, e_astore_0, e_astore_1, e_astore_2, e_astore_3, e_lstore, e_lstore_0, e_lstore_1, e_lstore_2, e_lstore_3, e_iinc, e_iadd, e_isub, e_imul, e_ladd, e_lsub, e_lmul, e_idiv, e_irem, e_ldiv, e_lrem, e_ineg, e_lneg, e_iand, e_ior, e_ixor, e_ishl, e_ishr, e_iushr, e_lcmp, e_i2l, e_l2i, e_i2b, e_i2s, e_dup_i, e_dup_r, e_pop_i, e_pop_r, e_dup2_l, e_dup2_ir, e_dup2_ii, e_ifeq, e_ifne, e_iflt, e_ifge, e_ifgt, e_ifle, e_iceq, e_icne, e_iclt, e_icge, e_icgt, e_icle, e_goto, e_switch, e_invokevirtual, e_invokestatic, e_invokespecial, e_ret0, e_ret1, e_ret2, e_ret3, ldI_s, ldL_s, ldR_s, clO_s, ctP_s, ctS_s, mgo_0, mgo_s, pjc_s, pj_0, pj_s, lk_s, rm1_0, rm1_i, rm1_r, rm1_l, rm2_0, rm2_i, rm2_r, rm2_l, csL_s, lc_lt, lc_ge, lc_gt, lc_le, lc_eq, b01_0, b01_1, b01_01, b01_n, up2_o, up2_s, up2_u, ne_eq, reduceCtorEq, Nat.reduceAdd, Nat.reduceEqDiff, Nat.reduceLT, Nat.reduceLeDiff, Int.reduceLE, Int.reduceLT, Int.reduceAdd, Int.reduceNeg, Int.reduceMul, Int.reduceSub, Int.reduceEq, Int.reduceToNat, Int.reduceNatCast, Int.cast_ofNat_Int, ↓reduceIte, and_self, List.drop_succ_cons, List.drop_zero, List.take_succ_cons, List.take_zero, List.length_cons, List.length_nil, List.reverse_cons, List.reverse_nil, List.nil_append, List.cons_append, Option.toList, true_and, and_true, or_false, false_or, or_true, true_or, forall_const, Classical.not_not, not_false_eq_true, not_true_eq_false, false_implies, true_implies, implies_true, imp_self]
  refine ⟨hP, fun M1 hR => ?_⟩
  obtain ⟨r1, r2, r3⟩ := hR
  have e1 : M1 1 = M 1 := r1 _ (by decide)
  rw [e1]
  refine ⟨⟨h3, fun b hb => (r3.1 b hb).1⟩, hQ _ _ ⟨r1, r2, r3, ?_⟩⟩
  exact sag_outX r3
set_option maxHeartbeats 4000000 in
set_option maxRecDepth 100000 in
theorem m0_laysSag {rs : List (Nat × Nat)} : MOK cl8 (sh8 rs) tyl8 Nws8 6 yX0_laysSag cX0_laysSag 1 (some .int) (sp0_laysSag rs) := by
  refine mok_of (own := RX0) (tb := tb0 (csL (cs0_laysSag rs))) (rt := 1) (fuel := 400) (fun avs M Q => []) (by decide) rfl nws8_ok (tbOK0 _) rfl (csL_all ?_) ?_ ?_ ?_
  · intro q hq
    simp only [cs0_laysSag, List.mem_cons, List.not_mem_nil, or_false] at hq
    rcases hq with rfl | rfl
    · exact cg0_lays (by decide)
    · exact cg0_allSag (by decide)
  · intro avs M Q hsp
    obtain ⟨xs, hx⟩ := spR_un _ _ _ hsp
    obtain ⟨e, hl⟩ := unA_mkT hx
    obtain rfl := len0 hl
    have e : avs = [ar 0] := e
    subst e
    simp [szL, isL]
  · intro avs M Q hM hav hsp
    obtain ⟨xs, hx⟩ := spR_un _ _ _ hsp
    obtain ⟨e, hl⟩ := unA_mkT hx
    obtain rfl := len0 hl
    have e : avs = [ar 0] := e
    subst e
    exact in0_laysSag hM hsp.1 hsp.2
  · intro avs M Q hM hav hsp q hq m_ vs M1 hM1 hv hJ
    obtain ⟨xs, hx⟩ := spR_un _ _ _ hsp
    obtain ⟨e, hl⟩ := unA_mkT hx
    obtain rfl := len0 hl
    have e : avs = [ar 0] := e
    subst e
    cases hq
theorem cg0_laysSag {rs : List (Nat × Nat)} {lvl : Nat} (h : 6 < lvl) : CG RX0 cl8 (sh8 rs) tyl8 Nws8 lvl 1 294 1 (sp0_laysSag rs) := cg_V (sg := []) nws8_ok spR_mono spR_un m0_laysSag h rfl (by decide) rfl rfl ⟨rfl, by decide, by decide, rfl⟩ q988 q990 qs35 q128 q991
abbrev kRows : List Nat := [0, 13, 14, 15, 25, 19, 20, 21, 22, 23, 24, 26, 27, 28, 29]
/-- a row is kept: its sag, its number, how many go over -/
def P0_keeps (rs : List (Nat × Nat)) (a : Int) (M : Mm) : Prop := (a = 17 ∨ a = 18) ∧ okY (vX M) ∧ okCf (vX M) (cX M) ∧ baseI M ∧ injR (vX M) (nX M) ∧ 0 ≤ M 0 28 ∧ M 0 28 ≤ 1000000000
def R0_keeps (rs : List (Nat × Nat)) (a : Int) (M : Mm) (M1 : Mm) : Prop := frm kRows M M1 ∧ (wX M M1 ∧ ∀ j, ¬ j = 8 → ¬ j = 27 → ¬ j = 28 → ¬ j = 29 → M1 0 j = M 0 j) ∧ M1 0 27 = (if sagF (vX M) (nX M) < M 0 27 then sagF (vX M) (nX M) else M 0 27) ∧ M1 0 28 = (if sagF (vX M) (nX M) < M 0 27 then 1 else if sagF (vX M) (nX M) = M 0 27 then M 0 28 + 1 else M 0 28) ∧ M1 0 29 = (if M 0 29 < ovF (vX M) (nX M) then ovF (vX M) (nX M) else M 0 29) ∧ ∀ k : Nat, k < 7 → M1 29 k = if sagF (vX M) (nX M) < M 0 27 then M a.toNat k else M 29 k
def sp0_keeps (rs : List (Nat × Nat)) : Spec := spV true [2] (fun x M => P0_keeps rs (x 0) M) (fun x M M1 => R0_keeps rs (x 0) M M1)
theorem c0_keeps {rs : List (Nat × Nat)} {a : Nat} {M : Mm} {Q : Option AV → Mm → Prop} : sp0_keeps rs [ar 0, ar a] M Q = (P0_keeps rs (a : Int) M ∧ ∀ (M1 : Mm), R0_keeps rs (a : Int) M M1 → Q none M1) := rfl
def cs0_keeps (rs : List (Nat × Nat)) : List (Nat × Nat × Nat × Spec) := [(294, 1, 1, (sp0_laysSag rs)), (194, 0, 5, (sp0_copy rs)), (297, 0, 2, (sp0_mmin rs)), (274, 1, 2, (sp0_overOf rs)), (300, 0, 1, (sp0_bits rs)), (225, 0, 2, (sp0_mmax rs))]
set_option maxHeartbeats 4000000 in
set_option maxRecDepth 100000 in
theorem in0_keeps {rs : List (Nat × Nat)} {a : Int} {M : Mm} {Q : Option AV → Mm → Prop} (hM : okM (sh8 rs) M) (hP : P0_keeps rs a M) (hQ : ∀ (M1 : Mm), R0_keeps rs a M M1 → Q none M1) : wp (tb0 (csL (cs0_keeps rs))) (sh8 rs) 3 0 cX0_keeps [] Q 400 0 [(0, ar 0), (1, ar a.toNat)] [] M := by
  obtain ⟨ha, hY, hC, hB, hi, hm⟩ := id hP
  have h4 : 0 ≤ M 1 5 ∧ M 1 5 ≤ 7 := (okY_n hY).2.1
  have hov := ovF_b (V := vX M) (C := nX M) h4
  have hc1 : ∀ M2, P0_copy rs a 0 29 0 7 M2 := fun M2 => by
    rcases ha with rfl | rfl
    · exact cpP 7 7 rfl rfl (by decide)
    · exact cpP 7 7 rfl rfl (by decide)
  have han : ((a.toNat : Nat) : Int) = a := by omega
  simp only [e_wp dX0_keeps_0 rfl, e_wp dX0_keeps_1 rfl, e_wp dX0_keeps_4 rfl, e_wp dX0_keeps_5 rfl, e_wp dX0_keeps_6 rfl, e_wp dX0_keeps_7 rfl, e_wp dX0_keeps_10 rfl, e_wp dX0_keeps_13 rfl, e_wp dX0_keeps_14 rfl, e_wp dX0_keeps_15 rfl, e_wp dX0_keeps_18 rfl, e_wp dX0_keeps_19 rfl, e_wp dX0_keeps_20 rfl, e_wp dX0_keeps_21 rfl, e_wp dX0_keeps_24 rfl, e_wp dX0_keeps_25 rfl, e_wp dX0_keeps_27 rfl, e_wp dX0_keeps_30 rfl, e_wp dX0_keeps_31 rfl, e_wp dX0_keeps_32 rfl, e_wp dX0_keeps_35 rfl, e_wp dX0_keeps_36 rfl, e_wp dX0_keeps_39 rfl, e_wp dX0_keeps_42 rfl, e_wp dX0_keeps_43 rfl, e_wp dX0_keeps_44 rfl, e_wp dX0_keeps_47 rfl, e_wp dX0_keeps_48 rfl, e_wp dX0_keeps_49 rfl, e_wp dX0_keeps_52 rfl, e_wp dX0_keeps_55 rfl, e_wp dX0_keeps_56 rfl, e_wp dX0_keeps_59 rfl, e_wp dX0_keeps_60 rfl, e_wp dX0_keeps_61 rfl, e_wp dX0_keeps_64 rfl, e_wp dX0_keeps_65 rfl, e_wp dX0_keeps_66 rfl, e_wp dX0_keeps_69 rfl, e_wp dX0_keeps_70 rfl, e_wp dX0_keeps_73 rfl, e_wp dX0_keeps_76 rfl, e_wp dX0_keeps_77 rfl, e_wp dX0_keeps_78 rfl, e_wp dX0_keeps_81 rfl, e_wp dX0_keeps_84 rfl, e_wp dX0_keeps_85 rfl, e_wp dX0_keeps_88 rfl, e_wp dX0_keeps_91 rfl, c0_laysSag, cs0_keeps, g0_285, p0_288, g0_95, c0_copy, c0_mmin, P0_mmin, V0_mmin, p0_285, g0_288, g0_291, g0_10, g0_156, c0_overOf, P0_overOf, V0_overOf, c0_bits, P0_bits, V0_bits, c0_mmax, P0_mmax, V0_mmax, p0_291, e_iconst, e_bipush, e_sipush, e_lconst_0, e_lconst_1, e_iload, e_iload_0, e_iload_1, e_iload_2, e_iload_3, e_lload, e_lload_0, e_lload_1, e_lload_2, e_lload_3, e_aload, e_aload_0, e_aload_1, e_aload_2, e_aload_3, e_istore, e_istore_0, e_istore_1, e_istore_2, e_istore_3, e_astore, e_astore_0, e_astore_1, e_astore_2, e_astore_3, e_lstore, e_lstore_0, e_lstore_1, e_lstore_2, e_lstore_3, e_iinc, e_iadd, e_isub, e_imul, e_ladd, e_lsub, e_lmul, e_idiv, e_irem, e_ldiv, e_lrem, e_ineg, e_lneg, e_iand, e_ior, e_ixor, e_ishl, e_ishr, e_iushr, e_lcmp, e_i2l, e_l2i, e_i2b, e_i2s, e_dup_i, e_dup_r, e_pop_i, e_pop_r, e_dup2_l, e_dup2_ir, e_dup2_ii, e_ifeq, e_ifne, e_iflt, e_ifge, e_ifgt, e_ifle, e_iceq, e_icne, e_iclt, e_icge, e_icgt, e_icle, e_goto, e_switch, e_invokevirtual, e_invokestatic, e_invokespecial, e_ret0, e_ret1, e_ret2, e_ret3, ldI_s, ldL_s, ldR_s, clO_s, ctP_s, ctS_s, mgo_0, mgo_s, pjc_s, pj_0, pj_s, lk_s, rm1_0, rm1_i, rm1_r, rm1_l, rm2_0, rm2_i, rm2_r, rm2_l, csL_s, lc_lt, lc_ge, lc_gt, lc_le, lc_eq, b01_0, b01_1, b01_01, b01_n, up2_o, up2_s, up2_u, ne_eq, reduceCtorEq, Nat.reduceAdd, Nat.reduceEqDiff, Nat.reduceLT, Nat.reduceLeDiff, Int.reduceLE, Int.reduceLT, Int.reduceAdd, Int.reduceNeg, Int.reduceMul, Int.reduceSub, Int.reduceEq, Int.reduceToNat, Int.reduceNatCast, Int.cast_ofNat_Int, ↓reduceIte, and_self, List.drop_succ_cons, List.drop_zero, List.take_succ_cons, List.take_zero, List.length_cons, List.length_nil, List.reverse_cons, List.reverse_nil, List.nil_append, List.cons_append, Option.toList, true_and, and_true, or_false, false_or, or_true, true_or, forall_const, Classical.not_not, not_false_eq_true, not_true_eq_false, false_implies, true_implies, implies_true, imp_self, R0_copy, forall_eq, cp_o, han, up2_n]
  refine ⟨⟨hY, hC, hB⟩, fun v M1 hR => ?_⟩
  obtain ⟨r1, r2, r3, r4⟩ := hR
  subst r4
  have e1 : M1 1 = M 1 := r1 _ (by decide)
  have e27 : M1 0 27 = M 0 27 := r2.2 _ (by decide)
  have e28 : M1 0 28 = M 0 28 := r2.2 _ (by decide)
  have e29 : M1 0 29 = M 0 29 := r2.2 _ (by decide)
  have ea : M1 a.toNat = M a.toNat := r1 _ (by rcases ha with rfl | rfl <;> decide)
  have ef : M1 29 = M 29 := r1 _ (by decide)
  have eo : M 1 5 - szP (orN (fun c => if M1 19 c = -1 then bshl 1 c else 0) (M 1 5).toNat) = ovF (vX M) (nX M) := over_outX (V := vX M) h4 (okCf_n hC) hi r3
  have ob := orS_b (g := M1 19) (z := -1) (n := (M 1 5).toNat) (by omega)
  have fin : ∀ (M2 : Mm), (∀ j, ¬ j = 27 → ¬ j = 28 → ¬ j = 29 → M2 0 j = M1 0 j) → frm [0, 29] M1 M2 → M2 0 27 = (if sagF (vX M) (nX M) < M 0 27 then sagF (vX M) (nX M) else M 0 27) → M2 0 28 = (if sagF (vX M) (nX M) < M 0 27 then 1 else if sagF (vX M) (nX M) = M 0 27 then M 0 28 + 1 else M 0 28) → M2 0 29 = (if M 0 29 < ovF (vX M) (nX M) then ovF (vX M) (nX M) else M 0 29) → (∀ k : Nat, k < 7 → M2 29 k = if sagF (vX M) (nX M) < M 0 27 then M a.toNat k else M 29 k) → Q none M2 := by
    intro M2 g0 g1 g2 g3 g4 g5
    exact hQ _ ⟨frm_tr (frm_w r1 (by decide)) g1 (by decide), ⟨wX_tr r2.1 (wX_eq (g0 8 (by decide) (by decide) (by decide))), fun j j1 j2 j3 j4 => (g0 j j2 j3 j4).trans (r2.2 j j1)⟩, g2, g3, g4, g5⟩
  simp only [e1, e27, e28, e29, eo]
  generalize hs : sagF (vX M) (nX M) = s at *
  generalize ho : ovF (vX M) (nX M) = o at *
  have f1 : ¬ s < M 0 27 → ∀ x, x = (if s = M 0 27 then M 0 28 + 1 else M 0 28) → Q none (up2 (up2 (up2 M1 0 27 (if s < M 0 27 then s else M 0 27)) 0 28 x) 0 29 (if M 0 29 < o then o else M 0 29)) := by
    intro z x hx
    refine fin _ (fun j a b c => by rw [up2_n c, up2_n b, up2_n a]) (frm_up (frm_up (frm_up frm_rf (by decide)) (by decide)) (by decide)) ?_ ?_ up2_s (fun k hk => ?_)
    · rw [up2_n (by decide), up2_n (by decide), up2_s]
    · rw [up2_n (by decide), up2_s, if_neg z, hx]
    · rw [up2_o (by decide), up2_o (by decide), up2_o (by decide), ef, if_neg z]
  have f2 : s < M 0 27 → ∀ x, x = 1 → Q none (up2 (up2 (up2 (cpM (up2 M1 0 28 0) a.toNat 0 29 0 7) 0 27 (if s < M 0 27 then s else M 0 27)) 0 28 x) 0 29 (if M 0 29 < o then o else M 0 29)) := by
    intro z x hx
    refine fin _ (fun j a b c => by rw [up2_n c, up2_n b, up2_n a, cp_o (by decide), up2_n b]) (frm_up (frm_up (frm_up (frm_cp (frm_up frm_rf (by decide)) (by decide)) (by decide)) (by decide)) (by decide)) ?_ ?_ up2_s (fun k hk => ?_)
    · rw [up2_n (by decide), up2_n (by decide), up2_s]
    · rw [up2_n (by decide), up2_s, if_pos z, hx]
    · rw [up2_o (by decide), up2_o (by decide), up2_o (by decide), cp_r, if_pos ⟨rfl, by omega, by omega⟩, if_pos z, Nat.zero_add, Nat.sub_zero, up2_o (by omega), ea]
  refine ⟨fun z => ⟨fun y => ⟨by omega, h4, ob, by omega, f1 (by omega) _ ?_⟩, fun y => ⟨by omega, h4, ob, by omega, f1 (by omega) _ ?_⟩⟩, fun z => ⟨hc1 _, fun y => absurd (if_pos z).symm y, fun y => ⟨by omega, h4, ob, by omega, f2 z _ rfl⟩⟩⟩
  · rw [if_neg (by omega)] at y
    rw [if_neg y]; omega
  · rw [if_neg (by omega)] at y
    rw [if_pos y]
set_option maxHeartbeats 4000000 in
set_option maxRecDepth 100000 in
theorem m0_keeps {rs : List (Nat × Nat)} : MOK cl8 (sh8 rs) tyl8 Nws8 7 yX0_keeps cX0_keeps 3 none (sp0_keeps rs) := by
  refine mok_of (own := RX0) (tb := tb0 (csL (cs0_keeps rs))) (rt := 0) (fuel := 400) (fun avs M Q => []) (by decide) rfl nws8_ok (tbOK0 _) rfl (csL_all ?_) ?_ ?_ ?_
  · intro q hq
    simp only [cs0_keeps, List.mem_cons, List.not_mem_nil, or_false] at hq
    rcases hq with rfl | rfl | rfl | rfl | rfl | rfl
    · exact cg0_laysSag (by decide)
    · exact cg0_copy (by decide)
    · exact cg0_mmin (by decide)
    · exact cg0_overOf (by decide)
    · exact cg0_bits (by decide)
    · exact cg0_mmax (by decide)
  · intro avs M Q hsp
    obtain ⟨xs, hx⟩ := spV_un _ _ _ hsp
    obtain ⟨e, hl⟩ := unA_mkT hx
    obtain ⟨a, rfl⟩ := len1 hl
    have e : avs = [ar 0, ar a.toNat] := e
    subst e
    simp [szL, isL]
  · intro avs M Q hM hav hsp
    obtain ⟨xs, hx⟩ := spV_un _ _ _ hsp
    obtain ⟨e, hl⟩ := unA_mkT hx
    obtain ⟨a, rfl⟩ := len1 hl
    have e : avs = [ar 0, ar a.toNat] := e
    subst e
    exact in0_keeps (a := ((a.toNat : Nat) : Int)) hM hsp.1 hsp.2
  · intro avs M Q hM hav hsp q hq m_ vs M1 hM1 hv hJ
    obtain ⟨xs, hx⟩ := spV_un _ _ _ hsp
    obtain ⟨e, hl⟩ := unA_mkT hx
    obtain ⟨a, rfl⟩ := len1 hl
    have e : avs = [ar 0, ar a.toNat] := e
    subst e
    cases hq
theorem cg0_keeps {rs : List (Nat × Nat)} {lvl : Nat} (h : 7 < lvl) : CG RX0 cl8 (sh8 rs) tyl8 Nws8 lvl 1 305 2 (sp0_keeps rs) := cg_V (sg := [2]) nws8_ok spV_mono spV_un m0_keeps h rfl (by decide) rfl rfl ⟨rfl, by decide, by decide, rfl⟩ q984 q986 qs34 q128 q987
