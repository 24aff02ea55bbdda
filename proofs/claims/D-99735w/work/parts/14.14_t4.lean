/-! SagMemoryModel: runs -/
/-- no more than the carts' places -/
def nC (V : Vy) (C : Cf) : Cf := fun i j => if i = 0 then C 0 j else if (j : Int) < V 0 4 then C i j else 0
theorem nC_0 {V : Vy} {C : Cf} {j : Nat} : nC V C 0 j = C 0 j := rfl
theorem nC_s {V : Vy} {C : Cf} {i j : Nat} (hi : i ≠ 0) (h : (j : Int) < V 0 4) : nC V C i j = C i j := by
  unfold nC
  rw [if_neg hi, if_pos h]
theorem okCf_n {V : Vy} {C : Cf} (h : okCf V C) : okCf V (nC V C) := by
  refine ⟨h.1, fun c hc => ?_⟩
  rw [nC_s (by decide) hc, nC_s (by decide) hc, nC_s (by decide) hc]
  exact h.2 c hc
theorem frzA_n {V : Vy} {C : Cf} {S : Sm} {t : Nat} : frzA V (nC V C) S t = frzA V C S t := rfl
theorem toP_n {V : Vy} {C : Cf} {c : Nat} (h : (c : Int) < V 0 4) : toP V (nC V C) c = toP V C c := by
  unfold toP
  rw [nC_s (by decide) h, nC_s (by decide) h]
theorem row_n {V : Vy} {C : Cf} {t : Nat} (h : okCf V C) (ht : (t : Int) < V 0 4) : nC V C 3 t = C 3 t ∧ (((C 3 t).toNat : Nat) : Int) < V 0 4 := by
  have h1 := (h.2 t ht).2.2
  exact ⟨nC_s (by decide) ht, by omega⟩
theorem isGo_n {V : Vy} {C : Cf} {S : Sm} {t : Nat} (h : okCf V C) (ht : (t : Int) < V 0 4) : isGo V (nC V C) S (nC V C 3 t).toNat ↔ isGo V C S (C 3 t).toNat := by
  obtain ⟨e, e2⟩ := row_n h ht
  unfold isGo
  rw [e, toP_n e2]
  rfl
theorem crP_n {V : Vy} {C : Cf} {S : Sm} {t : Nat} {who : Nat → Int} (h : okCf V C) (ht : (t : Int) < V 0 4) : crP who V (nC V C) S t = crP who V C S t := by
  obtain ⟨e, e2⟩ := row_n h ht
  unfold crP
  rw [e, toP_n e2, nC_s (by decide) e2]
  rfl
theorem goS_n {V : Vy} {C : Cf} {S : Sm} {t : Nat} {who : Nat → Int} (h : okCf V C) (ht : (t : Int) < V 0 4) : goS who V (nC V C) S t = goS who V C S t := by
  obtain ⟨e, e2⟩ := row_n h ht
  unfold goS
  rw [crP_n h ht, e, toP_n e2]
theorem stepP_n {V : Vy} {C : Cf} {S : Sm} {t : Nat} {who : Nat → Int} (h : okCf V C) (ht : (t : Int) < V 0 4) : stepP who V (nC V C) S t = stepP who V C S t := by
  unfold stepP
  rw [frzA_n]
  by_cases q : isGo V C (frzA V C S t) (C 3 t).toNat
  · rw [if_pos q, if_pos ((isGo_n h ht).mpr q), goS_n h ht]
  · rw [if_neg q, if_neg (fun z => q ((isGo_n h ht).mp z))]
theorem goS_w {V : Vy} {C : Cf} {S : Sm} {t : Nat} {w w' : Nat → Int} (h : w t = w' t) : goS w V C S t = goS w' V C S t := by
  unfold goS crP
  rw [h]
theorem stepP_w {V : Vy} {C : Cf} {S : Sm} {t : Nat} {w w' : Nat → Int} (h : w t = w' t) : stepP w V C S t = stepP w' V C S t := by
  unfold stepP
  rw [goS_w h]
theorem runP_n {V : Vy} {C : Cf} (h : okCf V C) : ∀ t : Nat, (t : Int) ≤ V 0 4 → runP (whoM (nC V C)) V (nC V C) t = runP (whoM C) V C t := by
  intro t
  induction t with
  | zero => intro _; rfl
  | succ t ih =>
    intro ht
    show stepP _ _ _ _ t = stepP _ _ _ _ t
    rw [ih (by omega), stepP_n h (by omega)]
    exact stepP_w (row_n h (by omega)).1
theorem outR_n {V : Vy} {C : Cf} {S : Sm} {t : Nat} {M1 : Mm} (h : okCf V C) (ht : (t : Int) < V 0 4) (hr : outR V C S t M1) : outR V (nC V C) S t M1 := by
  obtain ⟨e, e2⟩ := row_n h ht
  have ew : whoM (nC V C) t = whoM C t := e
  have ec : crP (whoM (nC V C)) V (nC V C) S t = crP (whoM C) V C S t := by
    rw [crP_n h ht]
    unfold crP
    rw [ew]
  obtain ⟨r1, r2, r3, r4, r5⟩ := hr
  have ig : isGo V (nC V C) S (C 3 t).toNat ↔ isGo V C S (C 3 t).toNat := by
    have := isGo_n (S := S) h ht
    rwa [e] at this
  refine ⟨?_, ?_, ?_, ?_, ?_⟩
  · rw [e, r1]; unfold wentS; simp only [ig, e, toP_n e2]
  · rw [e, r2, toP_n e2]; rfl
  · rw [e, r3]; unfold giveS; simp only [ig, e, toP_n e2, ec]
  · rw [e, r4]; unfold creakS; simp only [ig, e, toP_n e2, nC_s (show (1 : Nat) ≠ 0 by decide) e2]
  · rw [e, r5]; unfold wipeS; simp only [e, ig, ec]
/-- what is held of a turn: how many, sag, loads -/
def tabR (V : Vy) (C : Cf) (M1 : Mm) (t b : Nat) : Prop := ((runP (whoM C) V C (t + 1)).1 b).length ≤ 8 ∧ okL ((runP (whoM C) V C (t + 1)).1 b) ∧ M1 27 (3 * t + b) = ((runP (whoM C) V C (t + 1)).1 b).length ∧ M1 28 (3 * t + b) = sagP ((runP (whoM C) V C (t + 1)).1 b) ∧ stk (fun k => M1 29 (8 * (3 * t + b) + k)) ((runP (whoM C) V C (t + 1)).1 b).length = ((runP (whoM C) V C (t + 1)).1 b).map Prod.fst
theorem tabR_k {V : Vy} {C : Cf} {M1 M2 : Mm} {t b : Nat} (h : tabR V C M1 t b) (h1 : M2 27 (3 * t + b) = M1 27 (3 * t + b)) (h2 : M2 28 (3 * t + b) = M1 28 (3 * t + b)) (h3 : ∀ k, k < 8 → M2 29 (8 * (3 * t + b) + k) = M1 29 (8 * (3 * t + b) + k)) : tabR V C M2 t b := by
  obtain ⟨a0, a1, a2, a3, a4⟩ := h
  refine ⟨a0, a1, by rw [h1]; exact a2, by rw [h2]; exact a3, ?_⟩
  rw [← a4]
  exact stk_congr fun k hk => h3 k (by omega)
abbrev tabRows : List Nat := [17, 18, 19, 20, 21, 22, 23, 24, 25, 26, 27, 28, 29]
abbrev injR (V : Vy) (C : Cf) : Prop := ∀ t t' : Nat, (t : Int) < V 0 4 → (t' : Int) < V 0 4 → C 3 t = C 3 t' → t = t'
/-- a run's outcome -/
def ranR (V : Vy) (C : Cf) (M1 : Mm) : Prop := (∀ b : Nat, (b : Int) < V 0 3 → okB M1 b ∧ -1 ≤ M1 20 b ∧ M1 20 b ≤ 6) ∧ stR V M1 (runP (whoM C) V C (V 0 4).toNat) ∧ (∀ t b : Nat, (t : Int) < V 0 4 → (b : Int) < V 0 3 → tabR V C M1 t b) ∧ (injR V C → ∀ t : Nat, (t : Int) < V 0 4 → outR V C (preP (whoM C) V C t) t M1)
/-- a run after n turns -/
def midR (M M1 : Mm) (n : Nat) : Prop := frm tabRows M M1 ∧ (∀ b : Nat, (b : Int) < M 7 3 → (okB M1 b ∧ M1 19 b ≤ n) ∧ -1 ≤ M1 20 b ∧ M1 20 b ≤ 6) ∧ stR (vM M) M1 (runP (whoM (cM M)) (vM M) (cM M) n) ∧ (injR (vM M) (cM M) → ∀ t : Nat, t < n → outR (vM M) (cM M) (preP (whoM (cM M)) (vM M) (cM M) t) t M1)
theorem outR_k {V : Vy} {C : Cf} {S : Sm} {t : Nat} {M1 M2 : Mm} (h : outR V C S t M1) (hk : ∀ k, k ∈ [22, 23, 24, 25, 26] → M2 k (C 3 t).toNat = M1 k (C 3 t).toNat) : outR V C S t M2 := by
  unfold outR
  rw [hk _ (by decide), hk _ (by decide), hk _ (by decide), hk _ (by decide), hk _ (by decide)]
  exact h
theorem tabR_n {V : Vy} {C : Cf} {M1 : Mm} {t b : Nat} (h : okCf V C) (ht : (t : Int) < V 0 4) (hr : tabR V C M1 t b) : tabR V (nC V C) M1 t b := by
  unfold tabR
  rw [runP_n h (t + 1) (by omega)]
  exact hr
theorem ran_of {M M1 : Mm} (h2 : okCf (vM M) (cM M)) {n : Nat} (hn : (n : Int) = M 7 4) (hm : midR M M1 n) (ht : ∀ u b : Nat, u < n → (b : Int) < M 7 3 → tabR (vM M) (cM M) M1 u b) : ranR (vM M) (nC (vM M) (cM M)) M1 := by
  obtain ⟨m1, m2, m3, m4⟩ := hm
  have e4 : vM M 0 4 = (n : Int) := hn.symm
  refine ⟨fun b hb => ⟨(m2 b hb).1.1, (m2 b hb).2⟩, ?_, fun t b h1 h3 => ?_, fun hi t h1 => ?_⟩
  · rw [runP_n h2 _ (by omega), e4, Int.toNat_natCast]
    exact m3
  · exact tabR_n h2 h1 (ht t b (by omega) h3)
  · have hi2 : injR (vM M) (cM M) := fun t t' q1 q2 q3 => hi t t' q1 q2 (by rw [(row_n h2 q1).1, (row_n h2 q2).1]; exact q3)
    have e : preP (whoM (nC (vM M) (cM M))) (vM M) (nC (vM M) (cM M)) t = preP (whoM (cM M)) (vM M) (cM M) t := by
      unfold preP
      rw [runP_n h2 t (by omega), frzA_n]
    rw [e]
    exact outR_n h2 h1 (m4 hi2 t (by omega))
theorem mid_turn {M M1 M2 : Mm} {n : Nat} (hn : (n : Int) < M 7 4) (hC : okCf (vM M) (cM M)) (hm : midR M M1 n) (hr : turnR n M1 M2) : midR M M2 (n + 1) := by
  obtain ⟨m1, m2, m3, m4⟩ := hm
  have e7 : M1 7 = M 7 := m1 _ (by decide)
  have e16 : M1 16 = M 16 := m1 _ (by decide)
  have eV : vM M1 = vM M := vS_frm m1 (by decide)
  have eC : cM M1 = cM M := cM_frm m1 (by decide)
  obtain ⟨r1, r2, r3, r4⟩ := hr
  rw [e7] at r2
  rw [eV, eC] at r3
  rw [e16, Int.toNat_natCast] at r4
  obtain ⟨s1, s2⟩ := r3 _ m3
  rw [Int.toNat_natCast] at s1 s2
  refine ⟨frm_tr m1 r1 (by decide), fun b hb => ?_, s1, fun hi t ht => ?_⟩
  · obtain ⟨x1, x2⟩ := m2 b hb
    obtain ⟨y1, y2⟩ := r2 b hb
    exact ⟨⟨y1.1, by have := x1.2; have := y1.2; omega⟩, y2⟩
  · by_cases e : t = n
    · subst e
      exact s2
    · refine outR_k (m4 hi t (by omega)) (fun k hk => r4 _ ?_ k hk)
      intro z
      have a1 := (hC.2 t (show (t : Int) < M 7 4 by omega)).2.2
      have a2 := (hC.2 n hn).2.2
      have z2 : (cM M 3 t).toNat = (cM M 3 n).toNat := z
      exact e (hi t n (show (t : Int) < M 7 4 by omega) hn (by omega))
theorem mid_k {M M1 M2 : Mm} {n : Nat} (hm : midR M M1 n) (h : frm [27, 28, 29] M1 M2) : midR M M2 n := by
  obtain ⟨m1, m2, m3, m4⟩ := hm
  have em : ∀ b : Int, mb M2 b = mb M1 b ∧ (okB M2 b ↔ okB M1 b) := mb_eq (h _ (by decide)) (h _ (by decide)) (h _ (by decide))
  have e19 : M2 19 = M1 19 := h _ (by decide)
  have e20 : M2 20 = M1 20 := h _ (by decide)
  refine ⟨frm_tr m1 h (by decide), fun b hb => ?_, stR_eq m3 (fun b => (em b).1) e20 (h _ (by decide)), fun hi t ht => outR_k (m4 hi t ht) (fun k hk => ?_)⟩
  · rw [e19, e20, (em b).2]
    exact m2 b hb
  · rw [h k (by revert hk; simp only [List.mem_cons, List.not_mem_nil, or_false]; omega)]
def P7_runs (M : Mm) : Prop := okY (vM M) ∧ okCf (vM M) (cM M)
def R7_runs (M : Mm) (M1 : Mm) : Prop := frm tabRows M M1 ∧ ranR (vM M) (nC (vM M) (cM M)) M1
def sp7_runs : Spec := spV true [] (fun x M => P7_runs M) (fun x M M1 => R7_runs M M1)
theorem c7_runs {M : Mm} {Q : Option AV → Mm → Prop} : sp7_runs [ar 0] M Q = (P7_runs M ∧ ∀ (M1 : Mm), R7_runs M M1 → Q none M1) := rfl
def cs7_runs : List (Nat × Nat × Nat × Spec) := [(324, 1, 1, sp7_begin), (286, 1, 1, sp7_carts), (327, 1, 2, sp7_turn), (283, 1, 1, sp7_bridges), (317, 1, 2, sp7_sagOf)]
def J7_runs_6 (M : Mm) (m : Nat) (t : Int) (M1 : Mm) : Prop := ∃ n : Nat, t = n ∧ (n : Int) ≤ M 7 4 ∧ midR M M1 n ∧ (∀ u b : Nat, u < n → (b : Int) < M 7 3 → tabR (vM M) (cM M) M1 u b) ∧ m = (7 - n) * 1000 + 999
def J7_runs_21 (M : Mm) (m : Nat) (t : Int) (b : Int) (M1 : Mm) : Prop := ∃ n a : Nat, t = n ∧ b = a ∧ (n : Int) < M 7 4 ∧ (a : Int) ≤ M 7 3 ∧ midR M M1 (n + 1) ∧ (∀ u b : Nat, u < n → (b : Int) < M 7 3 → tabR (vM M) (cM M) M1 u b) ∧ (∀ b : Nat, b < a → tabR (vM M) (cM M) M1 n b) ∧ m = (7 - n) * 1000 + (3 - a) * 20 + 19
def J7_runs_62 (M : Mm) (m : Nat) (t : Int) (b : Int) (k : Int) (M1 : Mm) : Prop := ∃ n a j : Nat, t = n ∧ b = a ∧ k = j ∧ (n : Int) < M 7 4 ∧ (a : Int) < M 7 3 ∧ (j : Int) ≤ M1 19 a ∧ midR M M1 (n + 1) ∧ (∀ u b : Nat, u < n → (b : Int) < M 7 3 → tabR (vM M) (cM M) M1 u b) ∧ (∀ b : Nat, b < a → tabR (vM M) (cM M) M1 n b) ∧ M1 27 (3 * n + a) = M1 19 a ∧ M1 28 (3 * n + a) = sagP (mb M1 a) ∧ stk (fun i => M1 29 (8 * (3 * n + a) + i)) j = (stk (mf M1 a) j).map Prod.fst ∧ m = (7 - n) * 1000 + (3 - a) * 20 + (8 - j)
set_option maxHeartbeats 4000000 in
set_option maxRecDepth 100000 in
theorem in7_runs {M : Mm} {Q : Option AV → Mm → Prop} (hM : okM sh7 M) (hP : P7_runs M) (hQ : ∀ (M1 : Mm), R7_runs M M1 → Q none M1) (I_6 : List AV → Mm → Prop) (hI_6 : ∀ (m_ : Nat) (y_t : Int) (M2 : Mm), J7_runs_6 M m_ y_t M2 → I_6 [ar 0, ai y_t] M2) (I_21 : List AV → Mm → Prop) (hI_21 : ∀ (m_ : Nat) (y_t : Int) (y_b : Int) (M2 : Mm), J7_runs_21 M m_ y_t y_b M2 → I_21 [ar 0, ai y_t, ai y_b] M2) (I_62 : List AV → Mm → Prop) (hI_62 : ∀ (m_ : Nat) (y_t : Int) (y_b : Int) (y_k : Int) (M2 : Mm), J7_runs_62 M m_ y_t y_b y_k M2 → I_62 [ar 0, ai y_t, ai y_b, ai y_k] M2) : wp (tb7 (csL cs7_runs)) sh7 4 0 cX7_runs [(6, [0, 1], I_6), (21, [0, 1, 2], I_21), (62, [0, 1, 2, 3], I_62)] Q 400 0 [(0, ar 0)] [] M := by
  obtain ⟨h1, h2⟩ := id hP
  have h6 := okY_n h1
  obtain ⟨v3, v4, v5, v1⟩ := vM_n M
  rw [v3, v4, v5, v1] at h6
  simp only [e_wp dX7_runs_0 rfl, e_wp dX7_runs_1 rfl, e_wp dX7_runs_4 rfl, e_wp dX7_runs_5 rfl, e_wp dX7_runs_6 rfl, e_wp dX7_runs_7 rfl, e_wp dX7_runs_8 rfl, e_wp dX7_runs_11 rfl, e_wp dX7_runs_14 rfl, e_wp dX7_runs_15 rfl, e_wp dX7_runs_16 rfl, e_wp dX7_runs_19 rfl, e_wp dX7_runs_20 rfl, e_wp dX7_runs_21 rfl, e_wp dX7_runs_22 rfl, e_wp dX7_runs_23 rfl, e_wp dX7_runs_26 rfl, e_wp dX7_runs_29 rfl, e_wp dX7_runs_30 rfl, e_wp dX7_runs_33 rfl, e_wp dX7_runs_34 rfl, e_wp dX7_runs_35 rfl, e_wp dX7_runs_36 rfl, e_wp dX7_runs_37 rfl, e_wp dX7_runs_38 rfl, e_wp dX7_runs_39 rfl, e_wp dX7_runs_42 rfl, e_wp dX7_runs_43 rfl, e_wp dX7_runs_44 rfl, e_wp dX7_runs_45 rfl, e_wp dX7_runs_46 rfl, e_wp dX7_runs_49 rfl, e_wp dX7_runs_50 rfl, e_wp dX7_runs_51 rfl, e_wp dX7_runs_52 rfl, e_wp dX7_runs_53 rfl, e_wp dX7_runs_54 rfl, e_wp dX7_runs_55 rfl, e_wp dX7_runs_56 rfl, e_wp dX7_runs_59 rfl, e_wp dX7_runs_60 rfl, e_wp dX7_runs_61 rfl, e_wp dX7_runs_62 rfl, e_wp dX7_runs_63 rfl, e_wp dX7_runs_64 rfl, e_wp dX7_runs_67 rfl, e_wp dX7_runs_68 rfl, e_wp dX7_runs_69 rfl, e_wp dX7_runs_72 rfl, e_wp dX7_runs_73 rfl, e_wp dX7_runs_76 rfl, e_wp dX7_runs_78 rfl, e_wp dX7_runs_79 rfl, e_wp dX7_runs_80 rfl, e_wp dX7_runs_81 rfl, e_wp dX7_runs_82 rfl, e_wp dX7_runs_83 rfl, e_wp dX7_runs_84 rfl, e_wp dX7_runs_85 rfl, e_wp dX7_runs_86 rfl, e_wp dX7_runs_87 rfl, e_wp dX7_runs_90 rfl, e_wp dX7_runs_92 rfl, e_wp dX7_runs_93 rfl, e_wp dX7_runs_94 rfl, e_wp dX7_runs_95 rfl, e_wp dX7_runs_96 rfl, e_wp dX7_runs_97 rfl, e_wp dX7_runs_98 rfl, e_wp dX7_runs_101 rfl, e_wp dX7_runs_104 rfl, e_wp dX7_runs_107 rfl, e_wp dX7_runs_110 rfl, e_wp dX7_runs_113 rfl, e_wp dX7_runs_116 rfl, c7_begin, cs7_runs, c7_carts, P7_carts, V7_carts, c7_turn, c7_bridges, P7_bridges, V7_bridges, g7_95, g7_71, g7_98, c7_sagOf, P7_sagOf, V7_sagOf, g7_101, g7_65, a7_1, w7_1, a7_2, w7_2, a7_3, w7_3, a7_4, w7_4, a7_5, w7_5, a7_6, w7_6, a7_7, w7_7, a7_8, w7_8, a7_9, w7_9, a7_10, w7_10, a7_11, w7_11, a7_12, w7_12, a7_13, w7_13, a7_14, w7_14, a7_15, w7_15, a7_16, w7_16, a7_17, w7_17, a7_18, w7_18, a7_19, w7_19, a7_20, w7_20, a7_21, w7_21, a7_22, w7_22, a7_23, w7_23, a7_24, w7_24, a7_25, w7_25, a7_26, w7_26, a7_27, w7_27, a7_28, w7_28, a7_29, w7_29, a7_30, w7_30, a7_31, w7_31, a7_32, w7_32, a7_33, w7_33, e_iconst, e_bipush, e_sipush, e_lconst_0, e_lconst_1, e_iload, e_iload_0, e_iload_1, e_iload_2, e_iload_3, e_lload, e_lload_0, e_lload_1, e_lload_2, e_lload_3, e_aload, e_aload_0, e_aload_1, e_aload_2, e_aload_3, e_istore, e_istore_0, e_istore_1, e_istore_2, e_istore_3, e_astore, e_astore_0, e_astore_1, e_astore_2, e_astore_3, e_lstore, e_lstore_0, e_lstore_1, e_lstore_2, e_lstore_3, e_iinc, e_iadd, e_isub, e_imul, e_ladd, e_lsub, e_lmul, e_idiv, e_irem, e_ldiv, e_lrem, e_ineg, e_lneg, e_iand, e_ior, e_ixor, e_ishl, e_ishr, e_iushr, e_lcmp, e_i2l, e_l2i, e_i2b, e_i2s, e_dup_i, e_dup_r, e_pop_i, e_pop_r, e_dup2_l, e_dup2_ir, e_dup2_ii, e_ifeq, e_ifne, e_iflt, e_ifge, e_ifgt, e_ifle, e_iceq, e_icne, e_iclt, e_icge, e_icgt, e_icle, e_goto, e_switch, e_invokevirtual, e_invokestatic, e_invokespecial, e_ret0, e_ret1, e_ret2, e_ret3, ldI_s, ldL_s, ldR_s, clO_s, ctP_s, ctS_s, mgo_0, mgo_s, pjc_s, pj_0, pj_s, lk_s, rm1_0, rm1_i, rm1_r, rm1_l, rm2_0, rm2_i, rm2_r, rm2_l, csL_s, lc_lt, lc_ge, lc_gt, lc_le, lc_eq, b01_0, b01_1, b01_01, b01_n, up2_o, up2_s, up2_u, ne_eq, reduceCtorEq, Nat.reduceAdd, Nat.reduceEqDiff, Nat.reduceLT, Nat.reduceLeDiff, Int.reduceLE, Int.reduceLT, Int.reduceAdd, Int.reduceNeg, Int.reduceMul, Int.reduceSub, Int.reduceEq, Int.reduceToNat, Int.reduceNatCast, Int.cast_ofNat_Int, ↓reduceIte, and_self, List.drop_succ_cons, List.drop_zero, List.take_succ_cons, List.take_zero, List.length_cons, List.length_nil, List.reverse_cons, List.reverse_nil, List.nil_append, List.cons_append, Option.toList, true_and, and_true, or_false, false_or, or_true, true_or, forall_const, Classical.not_not, not_false_eq_true, not_true_eq_false, false_implies, true_implies, implies_true, imp_self]
  refine ⟨by trivial, fun M1 hR => ?_⟩
  obtain ⟨r1, r2⟩ := hR
  have hb0 : ∀ b : Nat, (b : Int) < M 7 3 → mb M1 b = [] ∧ okB M1 b := by
    intro b hb
    have hd := (r2 b (by omega)).1
    have e : mb M1 b = [] := by
      show stk (mf M1 b) (M1 19 ((b : Int)).toNat).toNat = []
      rw [Int.toNat_natCast, hd]
      rfl
    exact ⟨e, ⟨by omega, by omega⟩, by rw [Int.toNat_natCast, hd]; omega, by rw [e]; exact okL_0⟩
  refine hI_6 _ _ _ ⟨0, rfl, by omega, ⟨frm_w r1 (by decide), fun b hb => ?_, fun b hb => ?_, fun _ t ht => by omega⟩, fun u b hu => by omega, rfl⟩
  · have := r2 b (by omega)
    exact ⟨⟨(hb0 b hb).2, by omega⟩, by omega⟩
  · have hb3 : (b : Int) < M 7 3 := hb
    have := r2 b (by omega)
    exact ⟨(hb0 b hb).1, this.2.1, this.2.2⟩
set_option maxHeartbeats 4000000 in
set_option maxRecDepth 100000 in
theorem at7_runs_6 {M : Mm} {Q : Option AV → Mm → Prop} (hM : okM sh7 M) (hP : P7_runs M) (hQ : ∀ (M1 : Mm), R7_runs M M1 → Q none M1) {m : Nat} {t : Int} {M1 : Mm} (hM1 : okM sh7 M1) (h_t : i32 t) (hJ : J7_runs_6 M m t M1) (I_6 : List AV → Mm → Prop) (hI_6 : ∀ (m_ : Nat) (y_t : Int) (M2 : Mm), m_ < m → J7_runs_6 M m_ y_t M2 → I_6 [ar 0, ai y_t] M2) (I_21 : List AV → Mm → Prop) (hI_21 : ∀ (m_ : Nat) (y_t : Int) (y_b : Int) (M2 : Mm), m_ < m → J7_runs_21 M m_ y_t y_b M2 → I_21 [ar 0, ai y_t, ai y_b] M2) (I_62 : List AV → Mm → Prop) (hI_62 : ∀ (m_ : Nat) (y_t : Int) (y_b : Int) (y_k : Int) (M2 : Mm), m_ < m → J7_runs_62 M m_ y_t y_b y_k M2 → I_62 [ar 0, ai y_t, ai y_b, ai y_k] M2) : wp (tb7 (csL cs7_runs)) sh7 4 0 cX7_runs [(6, [0, 1], I_6), (21, [0, 1, 2], I_21), (62, [0, 1, 2, 3], I_62)] Q 400 6 [(0, ar 0), (1, ai t)] [] M1 := by
  obtain ⟨n, rfl, hn, hm, ht, rfl⟩ := hJ
  obtain ⟨h1, h2⟩ := id hP
  have h6 := okY_n h1
  obtain ⟨v3, v4, v5, v1⟩ := vM_n M
  rw [v3, v4, v5, v1] at h6
  have e7 : M1 7 = M 7 := hm.1 _ (by decide)
  have eV : vM M1 = vM M := vS_frm hm.1 (by decide)
  have eC : cM M1 = cM M := cM_frm hm.1 (by decide)
  simp only [e_wp dX7_runs_0 rfl, e_wp dX7_runs_1 rfl, e_wp dX7_runs_4 rfl, e_wp dX7_runs_5 rfl, e_wp dX7_runs_6 rfl, e_wp dX7_runs_7 rfl, e_wp dX7_runs_8 rfl, e_wp dX7_runs_11 rfl, e_wp dX7_runs_14 rfl, e_wp dX7_runs_15 rfl, e_wp dX7_runs_16 rfl, e_wp dX7_runs_19 rfl, e_wp dX7_runs_20 rfl, e_wp dX7_runs_21 rfl, e_wp dX7_runs_22 rfl, e_wp dX7_runs_23 rfl, e_wp dX7_runs_26 rfl, e_wp dX7_runs_29 rfl, e_wp dX7_runs_30 rfl, e_wp dX7_runs_33 rfl, e_wp dX7_runs_34 rfl, e_wp dX7_runs_35 rfl, e_wp dX7_runs_36 rfl, e_wp dX7_runs_37 rfl, e_wp dX7_runs_38 rfl, e_wp dX7_runs_39 rfl, e_wp dX7_runs_42 rfl, e_wp dX7_runs_43 rfl, e_wp dX7_runs_44 rfl, e_wp dX7_runs_45 rfl, e_wp dX7_runs_46 rfl, e_wp dX7_runs_49 rfl, e_wp dX7_runs_50 rfl, e_wp dX7_runs_51 rfl, e_wp dX7_runs_52 rfl, e_wp dX7_runs_53 rfl, e_wp dX7_runs_54 rfl, e_wp dX7_runs_55 rfl, e_wp dX7_runs_56 rfl, e_wp dX7_runs_59 rfl, e_wp dX7_runs_60 rfl, e_wp dX7_runs_61 rfl, e_wp dX7_runs_62 rfl, e_wp dX7_runs_63 rfl, e_wp dX7_runs_64 rfl, e_wp dX7_runs_67 rfl, e_wp dX7_runs_68 rfl, e_wp dX7_runs_69 rfl, e_wp dX7_runs_72 rfl, e_wp dX7_runs_73 rfl, e_wp dX7_runs_76 rfl, e_wp dX7_runs_78 rfl, e_wp dX7_runs_79 rfl, e_wp dX7_runs_80 rfl, e_wp dX7_runs_81 rfl, e_wp dX7_runs_82 rfl, e_wp dX7_runs_83 rfl, e_wp dX7_runs_84 rfl, e_wp dX7_runs_85 rfl, e_wp dX7_runs_86 rfl, e_wp dX7_runs_87 rfl, e_wp dX7_runs_90 rfl, e_wp dX7_runs_92 rfl, e_wp dX7_runs_93 rfl, e_wp dX7_runs_94 rfl, e_wp dX7_runs_95 rfl, e_wp dX7_runs_96 rfl, e_wp dX7_runs_97 rfl, e_wp dX7_runs_98 rfl, e_wp dX7_runs_101 rfl, e_wp dX7_runs_104 rfl, e_wp dX7_runs_107 rfl, e_wp dX7_runs_110 rfl, e_wp dX7_runs_113 rfl, e_wp dX7_runs_116 rfl, c7_begin, cs7_runs, c7_carts, P7_carts, V7_carts, c7_turn, c7_bridges, P7_bridges, V7_bridges, g7_95, g7_71, g7_98, c7_sagOf, P7_sagOf, V7_sagOf, g7_101, g7_65, a7_1, w7_1, a7_2, w7_2, a7_3, w7_3, a7_4, w7_4, a7_5, w7_5, a7_6, w7_6, a7_7, w7_7, a7_8, w7_8, a7_9, w7_9, a7_10, w7_10, a7_11, w7_11, a7_12, w7_12, a7_13, w7_13, a7_14, w7_14, a7_15, w7_15, a7_16, w7_16, a7_17, w7_17, a7_18, w7_18, a7_19, w7_19, a7_20, w7_20, a7_21, w7_21, a7_22, w7_22, a7_23, w7_23, a7_24, w7_24, a7_25, w7_25, a7_26, w7_26, a7_27, w7_27, a7_28, w7_28, a7_29, w7_29, a7_30, w7_30, a7_31, w7_31, a7_32, w7_32, a7_33, w7_33, e_iconst, e_bipush, e_sipush, e_lconst_0, e_lconst_1, e_iload, e_iload_0, e_iload_1, e_iload_2, e_iload_3, e_lload, e_lload_0, e_lload_1, e_lload_2, e_lload_3, e_aload, e_aload_0, e_aload_1, e_aload_2, e_aload_3, e_istore, e_istore_0, e_istore_1, e_istore_2, e_istore_3, e_astore, e_astore_0, e_astore_1, e_astore_2, e_astore_3, e_lstore, e_lstore_0, e_lstore_1, e_lstore_2, e_lstore_3, e_iinc, e_iadd, e_isub, e_imul, e_ladd, e_lsub, e_lmul, e_idiv, e_irem, e_ldiv, e_lrem, e_ineg, e_lneg, e_iand, e_ior, e_ixor, e_ishl, e_ishr, e_iushr, e_lcmp, e_i2l, e_l2i, e_i2b, e_i2s, e_dup_i, e_dup_r, e_pop_i, e_pop_r, e_dup2_l, e_dup2_ir, e_dup2_ii, e_ifeq, e_ifne, e_iflt, e_ifge, e_ifgt, e_ifle, e_iceq, e_icne, e_iclt, e_icge, e_icgt, e_icle, e_goto, e_switch, e_invokevirtual, e_invokestatic, e_invokespecial, e_ret0, e_ret1, e_ret2, e_ret3, ldI_s, ldL_s, ldR_s, clO_s, ctP_s, ctS_s, mgo_0, mgo_s, pjc_s, pj_0, pj_s, lk_s, rm1_0, rm1_i, rm1_r, rm1_l, rm2_0, rm2_i, rm2_r, rm2_l, csL_s, lc_lt, lc_ge, lc_gt, lc_le, lc_eq, b01_0, b01_1, b01_01, b01_n, up2_o, up2_s, up2_u, ne_eq, reduceCtorEq, Nat.reduceAdd, Nat.reduceEqDiff, Nat.reduceLT, Nat.reduceLeDiff, Int.reduceLE, Int.reduceLT, Int.reduceAdd, Int.reduceNeg, Int.reduceMul, Int.reduceSub, Int.reduceEq, Int.reduceToNat, Int.reduceNatCast, Int.cast_ofNat_Int, ↓reduceIte, and_self, List.drop_succ_cons, List.drop_zero, List.take_succ_cons, List.take_zero, List.length_cons, List.length_nil, List.reverse_cons, List.reverse_nil, List.nil_append, List.cons_append, Option.toList, true_and, and_true, or_false, false_or, or_true, true_or, forall_const, Classical.not_not, not_false_eq_true, not_true_eq_false, false_implies, true_implies, implies_true, imp_self, e7]
  refine ⟨fun q => hQ _ ⟨hm.1, ran_of h2 (by omega) hm ht⟩, fun q => ⟨⟨by rw [eV]; exact h1, by rw [eV, eC]; exact h2, by rw [e7]; omega, fun b hb => ?_, fun b hb => ?_⟩, fun M2 hR => ?_⟩⟩
  · rw [e7] at hb
    exact (hm.2.1 b hb).1
  · rw [e7] at hb
    exact (hm.2.1 b hb).2
  · refine hI_21 _ _ _ _ (by omega) ⟨n, 0, rfl, rfl, q, by omega, mid_turn q h2 hm hR, fun u b hu hb => ?_, fun b hb => by omega, rfl⟩
    exact tabR_k (ht u b hu hb) (by rw [hR.1 _ (by decide)]) (by rw [hR.1 _ (by decide)]) (fun k _ => by rw [hR.1 _ (by decide)])
set_option maxHeartbeats 4000000 in
set_option maxRecDepth 100000 in
theorem at7_runs_21 {M : Mm} {Q : Option AV → Mm → Prop} (hM : okM sh7 M) (hP : P7_runs M) (hQ : ∀ (M1 : Mm), R7_runs M M1 → Q none M1) {m : Nat} {t b : Int} {M1 : Mm} (hM1 : okM sh7 M1) (h_t : i32 t) (h_b : i32 b) (hJ : J7_runs_21 M m t b M1) (I_6 : List AV → Mm → Prop) (hI_6 : ∀ (m_ : Nat) (y_t : Int) (M2 : Mm), m_ < m → J7_runs_6 M m_ y_t M2 → I_6 [ar 0, ai y_t] M2) (I_21 : List AV → Mm → Prop) (hI_21 : ∀ (m_ : Nat) (y_t : Int) (y_b : Int) (M2 : Mm), m_ < m → J7_runs_21 M m_ y_t y_b M2 → I_21 [ar 0, ai y_t, ai y_b] M2) (I_62 : List AV → Mm → Prop) (hI_62 : ∀ (m_ : Nat) (y_t : Int) (y_b : Int) (y_k : Int) (M2 : Mm), m_ < m → J7_runs_62 M m_ y_t y_b y_k M2 → I_62 [ar 0, ai y_t, ai y_b, ai y_k] M2) : wp (tb7 (csL cs7_runs)) sh7 4 0 cX7_runs [(6, [0, 1], I_6), (21, [0, 1, 2], I_21), (62, [0, 1, 2, 3], I_62)] Q 400 21 [(0, ar 0), (1, ai t), (2, ai b)] [] M1 := by
  obtain ⟨n, a, rfl, rfl, hn, ha, hm, ht, hb, rfl⟩ := hJ
  obtain ⟨h1, h2⟩ := id hP
  have h6 := okY_n h1
  obtain ⟨v3, v4, v5, v1⟩ := vM_n M
  rw [v3, v4, v5, v1] at h6
  have e7 : M1 7 = M 7 := hm.1 _ (by decide)
  have i1 : ((3 : Int) * n + a).toNat = 3 * n + a := by omega
  simp only [e_wp dX7_runs_0 rfl, e_wp dX7_runs_1 rfl, e_wp dX7_runs_4 rfl, e_wp dX7_runs_5 rfl, e_wp dX7_runs_6 rfl, e_wp dX7_runs_7 rfl, e_wp dX7_runs_8 rfl, e_wp dX7_runs_11 rfl, e_wp dX7_runs_14 rfl, e_wp dX7_runs_15 rfl, e_wp dX7_runs_16 rfl, e_wp dX7_runs_19 rfl, e_wp dX7_runs_20 rfl, e_wp dX7_runs_21 rfl, e_wp dX7_runs_22 rfl, e_wp dX7_runs_23 rfl, e_wp dX7_runs_26 rfl, e_wp dX7_runs_29 rfl, e_wp dX7_runs_30 rfl, e_wp dX7_runs_33 rfl, e_wp dX7_runs_34 rfl, e_wp dX7_runs_35 rfl, e_wp dX7_runs_36 rfl, e_wp dX7_runs_37 rfl, e_wp dX7_runs_38 rfl, e_wp dX7_runs_39 rfl, e_wp dX7_runs_42 rfl, e_wp dX7_runs_43 rfl, e_wp dX7_runs_44 rfl, e_wp dX7_runs_45 rfl, e_wp dX7_runs_46 rfl, e_wp dX7_runs_49 rfl, e_wp dX7_runs_50 rfl, e_wp dX7_runs_51 rfl, e_wp dX7_runs_52 rfl, e_wp dX7_runs_53 rfl, e_wp dX7_runs_54 rfl, e_wp dX7_runs_55 rfl, e_wp dX7_runs_56 rfl, e_wp dX7_runs_59 rfl, e_wp dX7_runs_60 rfl, e_wp dX7_runs_61 rfl, e_wp dX7_runs_62 rfl, e_wp dX7_runs_63 rfl, e_wp dX7_runs_64 rfl, e_wp dX7_runs_67 rfl, e_wp dX7_runs_68 rfl, e_wp dX7_runs_69 rfl, e_wp dX7_runs_72 rfl, e_wp dX7_runs_73 rfl, e_wp dX7_runs_76 rfl, e_wp dX7_runs_78 rfl, e_wp dX7_runs_79 rfl, e_wp dX7_runs_80 rfl, e_wp dX7_runs_81 rfl, e_wp dX7_runs_82 rfl, e_wp dX7_runs_83 rfl, e_wp dX7_runs_84 rfl, e_wp dX7_runs_85 rfl, e_wp dX7_runs_86 rfl, e_wp dX7_runs_87 rfl, e_wp dX7_runs_90 rfl, e_wp dX7_runs_92 rfl, e_wp dX7_runs_93 rfl, e_wp dX7_runs_94 rfl, e_wp dX7_runs_95 rfl, e_wp dX7_runs_96 rfl, e_wp dX7_runs_97 rfl, e_wp dX7_runs_98 rfl, e_wp dX7_runs_101 rfl, e_wp dX7_runs_104 rfl, e_wp dX7_runs_107 rfl, e_wp dX7_runs_110 rfl, e_wp dX7_runs_113 rfl, e_wp dX7_runs_116 rfl, c7_begin, cs7_runs, c7_carts, P7_carts, V7_carts, c7_turn, c7_bridges, P7_bridges, V7_bridges, g7_95, g7_71, g7_98, c7_sagOf, P7_sagOf, V7_sagOf, g7_101, g7_65, a7_1, w7_1, a7_2, w7_2, a7_3, w7_3, a7_4, w7_4, a7_5, w7_5, a7_6, w7_6, a7_7, w7_7, a7_8, w7_8, a7_9, w7_9, a7_10, w7_10, a7_11, w7_11, a7_12, w7_12, a7_13, w7_13, a7_14, w7_14, a7_15, w7_15, a7_16, w7_16, a7_17, w7_17, a7_18, w7_18, a7_19, w7_19, a7_20, w7_20, a7_21, w7_21, a7_22, w7_22, a7_23, w7_23, a7_24, w7_24, a7_25, w7_25, a7_26, w7_26, a7_27, w7_27, a7_28, w7_28, a7_29, w7_29, a7_30, w7_30, a7_31, w7_31, a7_32, w7_32, a7_33, w7_33, e_iconst, e_bipush, e_sipush, e_lconst_0, e_lconst_1, e_iload, e_iload_0, e_iload_1, e_iload_2, e_iload_3, e_lload, e_lload_0, e_lload_1, e_lload_2, e_lload_3, e_aload, e_aload_0, e_aload_1, e_aload_2, e_aload_3, e_istore, e_istore_0, e_istore_1, e_istore_2, e_istore_3, e_astore, e_astore_0, e_astore_1, e_astore_2, e_astore_3, e_lstore, e_lstore_0, e_lstore_1, e_lstore_2, e_lstore_3, e_iinc, e_iadd, e_isub, e_imul, e_ladd, e_lsub, e_lmul, e_idiv, e_irem, e_ldiv, e_lrem, e_ineg, e_lneg, e_iand, e_ior, e_ixor, e_ishl, e_ishr, e_iushr, e_lcmp, e_i2l, e_l2i, e_i2b, e_i2s, e_dup_i, e_dup_r, e_pop_i, e_pop_r, e_dup2_l, e_dup2_ir, e_dup2_ii, e_ifeq, e_ifne, e_iflt, e_ifge, e_ifgt, e_ifle, e_iceq, e_icne, e_iclt, e_icge, e_icgt, e_icle, e_goto, e_switch, e_invokevirtual, e_invokestatic, e_invokespecial, e_ret0, e_ret1, e_ret2, e_ret3, ldI_s, ldL_s, ldR_s, clO_s, ctP_s, ctS_s, mgo_0, mgo_s, pjc_s, pj_0, pj_s, lk_s, rm1_0, rm1_i, rm1_r, rm1_l, rm2_0, rm2_i, rm2_r, rm2_l, csL_s, lc_lt, lc_ge, lc_gt, lc_le, lc_eq, b01_0, b01_1, b01_01, b01_n, up2_o, up2_s, up2_u, ne_eq, reduceCtorEq, Nat.reduceAdd, Nat.reduceEqDiff, Nat.reduceLT, Nat.reduceLeDiff, Int.reduceLE, Int.reduceLT, Int.reduceAdd, Int.reduceNeg, Int.reduceMul, Int.reduceSub, Int.reduceEq, Int.reduceToNat, Int.reduceNatCast, Int.cast_ofNat_Int, ↓reduceIte, and_self, List.drop_succ_cons, List.drop_zero, List.take_succ_cons, List.take_zero, List.length_cons, List.length_nil, List.reverse_cons, List.reverse_nil, List.nil_append, List.cons_append, Option.toList, true_and, and_true, or_false, false_or, or_true, true_or, forall_const, Classical.not_not, not_false_eq_true, not_true_eq_false, false_implies, true_implies, implies_true, imp_self, e7, mb_u, okB_u, Int.toNat_natCast, i1]
  refine ⟨fun q => ⟨by omega, hI_6 _ _ _ (by omega) ⟨n + 1, by omega, by omega, hm, fun u b hu hb2 => ?_, rfl⟩⟩, fun q => ?_⟩
  · by_cases e : u = n
    · rw [e]; exact hb b (by omega)
    · exact ht u b (by omega) hb2
  · have ob := (hm.2.1 a q).1
    repeat (refine And.intro (by omega) ?_)
    refine ⟨ob.1, by omega, ?_⟩
    refine hI_62 _ _ _ _ _ (by omega) ⟨n, a, 0, rfl, rfl, rfl, hn, q, ?_, mid_k hm ?_, fun u b hu hb2 => ?_, fun b hb2 => ?_, ?_, ?_, rfl, rfl⟩
    · rw [up2_o (by decide), up2_o (by decide)]
      have := ob.1.2.1
      rw [Int.toNat_natCast] at this
      exact this.1
    · exact frm_up (frm_up frm_rf (by decide)) (by decide)
    · refine tabR_k (ht u b hu hb2) ?_ ?_ (fun k _ => rfl)
      · rw [up2_o (by decide), up2_n (by omega)]
      · rw [up2_n (by omega), up2_o (by decide)]
    · refine tabR_k (hb b hb2) ?_ ?_ (fun k _ => rfl)
      · rw [up2_o (by decide), up2_n (by omega)]
      · rw [up2_n (by omega), up2_o (by decide)]
    · rw [up2_o (by decide), up2_s, up2_o (by decide), up2_o (by decide)]
    · rw [up2_s, mb_u (by decide) (by decide) (by decide), mb_u (by decide) (by decide) (by decide)]
set_option maxHeartbeats 4000000 in
set_option maxRecDepth 100000 in
theorem at7_runs_62 {M : Mm} {Q : Option AV → Mm → Prop} (hM : okM sh7 M) (hP : P7_runs M) (hQ : ∀ (M1 : Mm), R7_runs M M1 → Q none M1) {m : Nat} {t b k : Int} {M1 : Mm} (hM1 : okM sh7 M1) (h_t : i32 t) (h_b : i32 b) (h_k : i32 k) (hJ : J7_runs_62 M m t b k M1) (I_6 : List AV → Mm → Prop) (hI_6 : ∀ (m_ : Nat) (y_t : Int) (M2 : Mm), m_ < m → J7_runs_6 M m_ y_t M2 → I_6 [ar 0, ai y_t] M2) (I_21 : List AV → Mm → Prop) (hI_21 : ∀ (m_ : Nat) (y_t : Int) (y_b : Int) (M2 : Mm), m_ < m → J7_runs_21 M m_ y_t y_b M2 → I_21 [ar 0, ai y_t, ai y_b] M2) (I_62 : List AV → Mm → Prop) (hI_62 : ∀ (m_ : Nat) (y_t : Int) (y_b : Int) (y_k : Int) (M2 : Mm), m_ < m → J7_runs_62 M m_ y_t y_b y_k M2 → I_62 [ar 0, ai y_t, ai y_b, ai y_k] M2) : wp (tb7 (csL cs7_runs)) sh7 4 0 cX7_runs [(6, [0, 1], I_6), (21, [0, 1, 2], I_21), (62, [0, 1, 2, 3], I_62)] Q 400 62 [(0, ar 0), (1, ai t), (2, ai b), (3, ai k)] [] M1 := by
  obtain ⟨n, a, j, rfl, rfl, rfl, hn, ha, hj, hm, ht, hb, d1, d2, d3, rfl⟩ := hJ
  obtain ⟨h1, h2⟩ := id hP
  have h6 := okY_n h1
  obtain ⟨v3, v4, v5, v1⟩ := vM_n M
  rw [v3, v4, v5, v1] at h6
  have e7 : M1 7 = M 7 := hm.1 _ (by decide)
  have ob := (hm.2.1 a ha).1
  have od := ob.1.2.1
  rw [Int.toNat_natCast] at od
  have i1 : ((8 : Int) * (3 * n + a) + j).toNat = 8 * (3 * n + a) + j := by omega
  have i2 : ((8 : Int) * a + j).toNat = 8 * a + j := by omega
  simp only [e_wp dX7_runs_0 rfl, e_wp dX7_runs_1 rfl, e_wp dX7_runs_4 rfl, e_wp dX7_runs_5 rfl, e_wp dX7_runs_6 rfl, e_wp dX7_runs_7 rfl, e_wp dX7_runs_8 rfl, e_wp dX7_runs_11 rfl, e_wp dX7_runs_14 rfl, e_wp dX7_runs_15 rfl, e_wp dX7_runs_16 rfl, e_wp dX7_runs_19 rfl, e_wp dX7_runs_20 rfl, e_wp dX7_runs_21 rfl, e_wp dX7_runs_22 rfl, e_wp dX7_runs_23 rfl, e_wp dX7_runs_26 rfl, e_wp dX7_runs_29 rfl, e_wp dX7_runs_30 rfl, e_wp dX7_runs_33 rfl, e_wp dX7_runs_34 rfl, e_wp dX7_runs_35 rfl, e_wp dX7_runs_36 rfl, e_wp dX7_runs_37 rfl, e_wp dX7_runs_38 rfl, e_wp dX7_runs_39 rfl, e_wp dX7_runs_42 rfl, e_wp dX7_runs_43 rfl, e_wp dX7_runs_44 rfl, e_wp dX7_runs_45 rfl, e_wp dX7_runs_46 rfl, e_wp dX7_runs_49 rfl, e_wp dX7_runs_50 rfl, e_wp dX7_runs_51 rfl, e_wp dX7_runs_52 rfl, e_wp dX7_runs_53 rfl, e_wp dX7_runs_54 rfl, e_wp dX7_runs_55 rfl, e_wp dX7_runs_56 rfl, e_wp dX7_runs_59 rfl, e_wp dX7_runs_60 rfl, e_wp dX7_runs_61 rfl, e_wp dX7_runs_62 rfl, e_wp dX7_runs_63 rfl, e_wp dX7_runs_64 rfl, e_wp dX7_runs_67 rfl, e_wp dX7_runs_68 rfl, e_wp dX7_runs_69 rfl, e_wp dX7_runs_72 rfl, e_wp dX7_runs_73 rfl, e_wp dX7_runs_76 rfl, e_wp dX7_runs_78 rfl, e_wp dX7_runs_79 rfl, e_wp dX7_runs_80 rfl, e_wp dX7_runs_81 rfl, e_wp dX7_runs_82 rfl, e_wp dX7_runs_83 rfl, e_wp dX7_runs_84 rfl, e_wp dX7_runs_85 rfl, e_wp dX7_runs_86 rfl, e_wp dX7_runs_87 rfl, e_wp dX7_runs_90 rfl, e_wp dX7_runs_92 rfl, e_wp dX7_runs_93 rfl, e_wp dX7_runs_94 rfl, e_wp dX7_runs_95 rfl, e_wp dX7_runs_96 rfl, e_wp dX7_runs_97 rfl, e_wp dX7_runs_98 rfl, e_wp dX7_runs_101 rfl, e_wp dX7_runs_104 rfl, e_wp dX7_runs_107 rfl, e_wp dX7_runs_110 rfl, e_wp dX7_runs_113 rfl, e_wp dX7_runs_116 rfl, c7_begin, cs7_runs, c7_carts, P7_carts, V7_carts, c7_turn, c7_bridges, P7_bridges, V7_bridges, g7_95, g7_71, g7_98, c7_sagOf, P7_sagOf, V7_sagOf, g7_101, g7_65, a7_1, w7_1, a7_2, w7_2, a7_3, w7_3, a7_4, w7_4, a7_5, w7_5, a7_6, w7_6, a7_7, w7_7, a7_8, w7_8, a7_9, w7_9, a7_10, w7_10, a7_11, w7_11, a7_12, w7_12, a7_13, w7_13, a7_14, w7_14, a7_15, w7_15, a7_16, w7_16, a7_17, w7_17, a7_18, w7_18, a7_19, w7_19, a7_20, w7_20, a7_21, w7_21, a7_22, w7_22, a7_23, w7_23, a7_24, w7_24, a7_25, w7_25, a7_26, w7_26, a7_27, w7_27, a7_28, w7_28, a7_29, w7_29, a7_30, w7_30, a7_31, w7_31, a7_32, w7_32, a7_33, w7_33, e_iconst, e_bipush, e_sipush, e_lconst_0, e_lconst_1, e_iload, e_iload_0, e_iload_1, e_iload_2, e_iload_3, e_lload, e_lload_0, e_lload_1, e_lload_2, e_lload_3, e_aload, e_aload_0, e_aload_1, e_aload_2, e_aload_3, e_istore, e_istore_0, e_istore_1, e_istore_2, e_istore_3, e_astore, e_astore_0, e_astore_1, e_astore_2, e_astore_3, e_lstore, e_lstore_0, e_lstore_1, e_lstore_2, e_lstore_3, e_iinc, e_iadd, e_isub, e_imul, e_ladd, e_lsub, e_lmul, e_idiv, e_irem, e_ldiv, e_lrem, e_ineg, e_lneg, e_iand, e_ior, e_ixor, e_ishl, e_ishr, e_iushr, e_lcmp, e_i2l, e_l2i, e_i2b, e_i2s, e_dup_i, e_dup_r, e_pop_i, e_pop_r, e_dup2_l, e_dup2_ir, e_dup2_ii, e_ifeq, e_ifne, e_iflt, e_ifge, e_ifgt, e_ifle, e_iceq, e_icne, e_iclt, e_icge, e_icgt, e_icle, e_goto, e_switch, e_invokevirtual, e_invokestatic, e_invokespecial, e_ret0, e_ret1, e_ret2, e_ret3, ldI_s, ldL_s, ldR_s, clO_s, ctP_s, ctS_s, mgo_0, mgo_s, pjc_s, pj_0, pj_s, lk_s, rm1_0, rm1_i, rm1_r, rm1_l, rm2_0, rm2_i, rm2_r, rm2_l, csL_s, lc_lt, lc_ge, lc_gt, lc_le, lc_eq, b01_0, b01_1, b01_01, b01_n, up2_o, up2_s, up2_u, ne_eq, reduceCtorEq, Nat.reduceAdd, Nat.reduceEqDiff, Nat.reduceLT, Nat.reduceLeDiff, Int.reduceLE, Int.reduceLT, Int.reduceAdd, Int.reduceNeg, Int.reduceMul, Int.reduceSub, Int.reduceEq, Int.reduceToNat, Int.reduceNatCast, Int.cast_ofNat_Int, ↓reduceIte, and_self, List.drop_succ_cons, List.drop_zero, List.take_succ_cons, List.take_zero, List.length_cons, List.length_nil, List.reverse_cons, List.reverse_nil, List.nil_append, List.cons_append, Option.toList, true_and, and_true, or_false, false_or, or_true, true_or, forall_const, Classical.not_not, not_false_eq_true, not_true_eq_false, false_implies, true_implies, implies_true, imp_self, e7, Int.toNat_natCast, i1]
  refine ⟨by omega, fun q => ⟨by omega, hI_21 _ _ _ _ (by omega) ⟨n, a + 1, rfl, by omega, hn, by omega, hm, ht, fun b hb2 => ?_, rfl⟩⟩, fun q => ?_⟩
  · by_cases e : b = a
    · have hs := (hm.2.2.1 a ha).1
      have hl := mb_len ob.1
      rw [Int.toNat_natCast] at hl
      subst e
      unfold tabR
      rw [← hs]
      refine ⟨by omega, ob.1.2.2, by omega, d2, ?_⟩
      rw [show (mb M1 b).length = j by omega, d3]
      show _ = List.map Prod.fst (stk (mf M1 b) (M1 19 ((b : Int)).toNat).toNat)
      rw [Int.toNat_natCast, show (M1 19 b).toNat = j by omega]
    · exact hb b (by omega)
  · repeat (refine And.intro (by omega) ?_)
    refine hI_62 _ _ _ _ _ (by omega) ⟨n, a, j + 1, rfl, rfl, by omega, hn, ha, ?_, mid_k hm (frm_up frm_rf (by decide)), fun u b hu hb2 => ?_, fun b hb2 => ?_, ?_, ?_, ?_, rfl⟩
    · rw [up2_o (by decide)]; omega
    · exact tabR_k (ht u b hu hb2) rfl rfl (fun k hk => up2_n (by omega))
    · exact tabR_k (hb b hb2) rfl rfl (fun k hk => up2_n (by omega))
    · rw [up2_o (by decide), up2_o (by decide)]; exact d1
    · rw [up2_o (by decide), mb_u (by decide) (by decide) (by decide)]; exact d2
    · show up2 M1 29 _ _ 29 (8 * (3 * n + a) + j) :: stk _ j = M1 17 ((8 : Int) * a + j).toNat :: List.map Prod.fst (stk (mf M1 a) j)
      rw [up2_s, ← d3]
      congr 1
      exact stk_congr fun k hk => up2_n (by omega)
set_option maxHeartbeats 4000000 in
set_option maxRecDepth 100000 in
theorem m7_runs : MOK cl7 sh7 tyl7 [] 3 yX7_runs cX7_runs 4 none sp7_runs := by
  refine mok_of (own := RX7) (tb := tb7 (csL cs7_runs)) (rt := 0) (fuel := 400) (fun avs M Q => [(6, [0, 1], fun m_ vs M1 => ∃ y_t : Int, vs = [ar 0, ai y_t] ∧ J7_runs_6 M m_ y_t M1), (21, [0, 1, 2], fun m_ vs M1 => ∃ y_t : Int, ∃ y_b : Int, vs = [ar 0, ai y_t, ai y_b] ∧ J7_runs_21 M m_ y_t y_b M1), (62, [0, 1, 2, 3], fun m_ vs M1 => ∃ y_t : Int, ∃ y_b : Int, ∃ y_k : Int, vs = [ar 0, ai y_t, ai y_b, ai y_k] ∧ J7_runs_62 M m_ y_t y_b y_k M1)]) (by decide) rfl nil_nw (tbOK7 _) rfl (csL_all ?_) ?_ ?_ ?_
  · intro q hq
    simp only [cs7_runs, List.mem_cons, List.not_mem_nil, or_false] at hq
    rcases hq with rfl | rfl | rfl | rfl | rfl
    · exact cg7_begin (by decide)
    · exact cg7_carts (by decide)
    · exact cg7_turn (by decide)
    · exact cg7_bridges (by decide)
    · exact cg7_sagOf (by decide)
  · intro avs M Q hsp
    obtain ⟨xs, hx⟩ := spV_un _ _ _ hsp
    obtain ⟨e, hl⟩ := unA_mkT hx
    obtain rfl := len0 hl
    have e : avs = [ar 0] := e
    subst e
    simp [szL, isL]
  · intro avs M Q hM hav hsp
    obtain ⟨xs, hx⟩ := spV_un _ _ _ hsp
    obtain ⟨e, hl⟩ := unA_mkT hx
    obtain rfl := len0 hl
    have e : avs = [ar 0] := e
    subst e
    exact in7_runs hM hsp.1 hsp.2 _ (fun m_ y_t M2 hJ => ⟨m_, y_t, rfl, hJ⟩) _ (fun m_ y_t y_b M2 hJ => ⟨m_, y_t, y_b, rfl, hJ⟩) _ (fun m_ y_t y_b y_k M2 hJ => ⟨m_, y_t, y_b, y_k, rfl, hJ⟩)
  · intro avs M Q hM hav hsp q hq m_ vs M1 hM1 hv hJ
    obtain ⟨xs, hx⟩ := spV_un _ _ _ hsp
    obtain ⟨e, hl⟩ := unA_mkT hx
    obtain rfl := len0 hl
    have e : avs = [ar 0] := e
    subst e
    simp only [List.mem_cons, List.not_mem_nil, or_false] at hq
    rcases hq with rfl | rfl | rfl
    · obtain ⟨y_t, rfl, hJ⟩ := hJ
      exact at7_runs_6 hM hsp.1 hsp.2 hM1 (hv (1, ai y_t) (List.mem_of_getElem? (i := 1) rfl)) hJ _ (fun m2 z_t M2 hm hJ2 => ⟨m2, hm, z_t, rfl, hJ2⟩) _ (fun m2 z_t z_b M2 hm hJ2 => ⟨m2, hm, z_t, z_b, rfl, hJ2⟩) _ (fun m2 z_t z_b z_k M2 hm hJ2 => ⟨m2, hm, z_t, z_b, z_k, rfl, hJ2⟩)
    · obtain ⟨y_t, y_b, rfl, hJ⟩ := hJ
      exact at7_runs_21 hM hsp.1 hsp.2 hM1 (hv (1, ai y_t) (List.mem_of_getElem? (i := 1) rfl)) (hv (2, ai y_b) (List.mem_of_getElem? (i := 2) rfl)) hJ _ (fun m2 z_t M2 hm hJ2 => ⟨m2, hm, z_t, rfl, hJ2⟩) _ (fun m2 z_t z_b M2 hm hJ2 => ⟨m2, hm, z_t, z_b, rfl, hJ2⟩) _ (fun m2 z_t z_b z_k M2 hm hJ2 => ⟨m2, hm, z_t, z_b, z_k, rfl, hJ2⟩)
    · obtain ⟨y_t, y_b, y_k, rfl, hJ⟩ := hJ
      exact at7_runs_62 hM hsp.1 hsp.2 hM1 (hv (1, ai y_t) (List.mem_of_getElem? (i := 1) rfl)) (hv (2, ai y_b) (List.mem_of_getElem? (i := 2) rfl)) (hv (3, ai y_k) (List.mem_of_getElem? (i := 3) rfl)) hJ _ (fun m2 z_t M2 hm hJ2 => ⟨m2, hm, z_t, rfl, hJ2⟩) _ (fun m2 z_t z_b M2 hm hJ2 => ⟨m2, hm, z_t, z_b, rfl, hJ2⟩) _ (fun m2 z_t z_b z_k M2 hm hJ2 => ⟨m2, hm, z_t, z_b, z_k, rfl, hJ2⟩)
theorem cg7_runs {lvl : Nat} (h : 3 < lvl) : CG RX7 cl7 sh7 tyl7 [] lvl 1 333 1 sp7_runs := cg_V (sg := []) nil_nw spV_mono spV_un m7_runs h rfl (by decide) rfl rfl ⟨rfl, by decide, by decide, rfl⟩ q1866 q1868 qs90 q138 q1869
