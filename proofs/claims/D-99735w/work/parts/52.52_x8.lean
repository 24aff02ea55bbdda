/-! SagMemory: a run, plain -/
theorem cX_e {M M1 : Mm} (h0 : ∀ j, ¬ j = 8 → M1 0 j = M 0 j) (h1 : M1 16 = M 16) (h2 : M1 17 = M 17) (h3 : M1 18 = M 18) : cX M1 = cX M := by
  have a1 := h0 10 (by decide)
  have a2 := h0 24 (by decide)
  have a3 := h0 25 (by decide)
  funext i j
  unfold cX
  rw [a1, a2, a3, h1, h2, h3]
theorem vX_u {M : Mm} {k j : Nat} {x : Int} (h1 : k ≠ 1) (h2 : k ≠ 33) (h3 : k ≠ 34) (h4 : k ≠ 35) (h5 : k ≠ 36) (h6 : k ≠ 37) (h7 : k ≠ 38) (h8 : k ≠ 39) (h9 : k ≠ 40) : vX (up2 M k j x) = vX M := vX_eq fun k' hk => up2_ne (fun e => by
  subst e
  simp only [xRows, List.mem_cons, List.not_mem_nil, or_false] at hk
  omega)
theorem cX_u {M : Mm} {k j : Nat} {x : Int} (h0 : k ≠ 0) (h1 : k ≠ 16) (h2 : k ≠ 17) (h3 : k ≠ 18) : cX (up2 M k j x) = cX M := cX_eq (up2_ne h0.symm) (up2_ne h1.symm) (up2_ne h2.symm) (up2_ne h3.symm)
theorem base_f {rows : List Nat} {M M1 : Mm} (h : frm rows M M1) (h6 : 6 ∉ rows) (h7 : 7 ∉ rows) (hB : baseI M) : baseI M1 := fun j hj => by
  rw [h _ h6, h _ h7]
  exact hB j hj
theorem runX_n {V : Vy} {C : Cf} (h : okCf V C) : ∀ t : Nat, (t : Int) ≤ V 0 4 → runP whoX V (nC V C) t = runP whoX V C t := by
  intro t
  induction t with
  | zero => intro _; rfl
  | succ t ih =>
    intro ht
    show stepP _ _ _ _ t = stepP _ _ _ _ t
    rw [ih (by omega), stepP_n h (by omega)]
theorem outX_n {V : Vy} {C : Cf} {S : Sm} {t : Nat} {M1 : Mm} (h : okCf V C) (ht : (t : Int) < V 0 4) (hr : outX V C S t M1) : outX V (nC V C) S t M1 := by
  obtain ⟨e, e2⟩ := row_n h ht
  have ec : crP whoX V (nC V C) S t = crP whoX V C S t := crP_n h ht
  obtain ⟨r1, r2, r3, r4, r5, r6⟩ := hr
  have ig : isGo V (nC V C) S (C 3 t).toNat ↔ isGo V C S (C 3 t).toNat := by
    have := isGo_n (S := S) h ht
    rwa [e] at this
  have w1 : wentS V (nC V C) S t = wentS V C S t := by unfold wentS; simp only [ig, e, toP_n e2]
  have w2 : giveS whoX V (nC V C) S t = giveS whoX V C S t := by unfold giveS; simp only [ig, e, toP_n e2, ec]
  refine ⟨?_, ?_, ?_, ?_, ?_, ?_⟩
  · rw [e, r1, w1]
  · rw [e, r2, toP_n e2]
  · rw [e, r3, w2]
  · rw [e, r4]; unfold creakS; simp only [ig, e, toP_n e2, nC_s (show (1 : Nat) ≠ 0 by decide) e2]
  · rw [e, r5]; unfold wipeS; simp only [e, ig, ec]
  · rw [e, r6]; unfold paidS; rw [w1, w2]
/-- what is held of a turn: how many, sag, loads -/
def tabX (V : Vy) (C : Cf) (M1 : Mm) (t b : Nat) : Prop := ((runP whoX V C (t + 1)).1 b).length ≤ 8 ∧ okL ((runP whoX V C (t + 1)).1 b) ∧ M1 27 (3 * t + b) = ((runP whoX V C (t + 1)).1 b).length ∧ M1 28 (3 * t + b) = sagP ((runP whoX V C (t + 1)).1 b) ∧ stk (fun k => M1 26 (8 * (3 * t + b) + k)) ((runP whoX V C (t + 1)).1 b).length = ((runP whoX V C (t + 1)).1 b).map Prod.fst
theorem tabX_k {V : Vy} {C : Cf} {M1 M2 : Mm} {t b : Nat} (h : tabX V C M1 t b) (h1 : M2 27 (3 * t + b) = M1 27 (3 * t + b)) (h2 : M2 28 (3 * t + b) = M1 28 (3 * t + b)) (h3 : ∀ k, k < 8 → M2 26 (8 * (3 * t + b) + k) = M1 26 (8 * (3 * t + b) + k)) : tabX V C M2 t b := by
  obtain ⟨a0, a1, a2, a3, a4⟩ := h
  refine ⟨a0, a1, by rw [h1]; exact a2, by rw [h2]; exact a3, ?_⟩
  rw [← a4]
  exact stk_congr fun k hk => h3 k (by omega)
theorem tabX_n {V : Vy} {C : Cf} {M1 : Mm} {t b : Nat} (h : okCf V C) (ht : (t : Int) < V 0 4) (hr : tabX V C M1 t b) : tabX V (nC V C) M1 t b := by
  unfold tabX
  rw [runX_n h (t + 1) (by omega)]
  exact hr
abbrev tRows : List Nat := [0, 13, 14, 15, 25, 19, 20, 21, 22, 23, 24, 26, 27, 28]
/-- a run's outcome -/
def ranX (V : Vy) (C : Cf) (M1 : Mm) : Prop := (∀ b : Nat, (b : Int) < V 0 3 → okBX M1 b ∧ -1 ≤ M1 25 b ∧ M1 25 b ≤ 6) ∧ stX V M1 (runP whoX V C (V 0 4).toNat) ∧ (∀ t b : Nat, (t : Int) < V 0 4 → (b : Int) < V 0 3 → tabX V C M1 t b) ∧ (injR V C → ∀ t : Nat, (t : Int) < V 0 4 → outX V C (preP whoX V C t) t M1)
/-- a run after n turns -/
def midX (M M1 : Mm) (n : Nat) : Prop := frm tRows M M1 ∧ (wX M M1 ∧ ∀ j, ¬ j = 8 → M1 0 j = M 0 j) ∧ (∀ b : Nat, (b : Int) < M 1 4 → (okBX M1 b ∧ M1 15 b ≤ n) ∧ -1 ≤ M1 25 b ∧ M1 25 b ≤ 6) ∧ stX (vX M) M1 (runP whoX (vX M) (cX M) n) ∧ (injR (vX M) (cX M) → ∀ t : Nat, t < n → outX (vX M) (cX M) (preP whoX (vX M) (cX M) t) t M1)
theorem midX_v {M M1 : Mm} {n : Nat} (h : midX M M1 n) : vX M1 = vX M ∧ cX M1 = cX M ∧ M1 1 = M 1 ∧ M1 18 = M 18 := ⟨vX_frm h.1 (by decide), cX_e h.2.1.2 (h.1 _ (by decide)) (h.1 _ (by decide)) (h.1 _ (by decide)), h.1 _ (by decide), h.1 _ (by decide)⟩
theorem outX_k {V : Vy} {C : Cf} {S : Sm} {t : Nat} {M1 M2 : Mm} (h : outX V C S t M1) (hk : ∀ k, k ∈ oRows → M2 k (C 3 t).toNat = M1 k (C 3 t).toNat) : outX V C S t M2 := by
  unfold outX
  rw [hk _ (by decide), hk _ (by decide), hk _ (by decide), hk _ (by decide), hk _ (by decide), hk _ (by decide)]
  exact h
theorem ranX_of {M M1 : Mm} (h2 : okCf (vX M) (cX M)) {n : Nat} (hn : (n : Int) = M 1 5) (hm : midX M M1 n) (ht : ∀ u b : Nat, u < n → (b : Int) < M 1 4 → tabX (vX M) (cX M) M1 u b) : ranX (vX M) (nC (vX M) (cX M)) M1 := by
  obtain ⟨m1, m0, m2, m3, m4⟩ := hm
  have e4 : vX M 0 4 = (n : Int) := hn.symm
  refine ⟨fun b hb => ⟨(m2 b hb).1.1, (m2 b hb).2⟩, ?_, fun t b h1 h3 => ?_, fun hi t h1 => ?_⟩
  · rw [runX_n h2 _ (by omega), e4, Int.toNat_natCast]
    exact m3
  · exact tabX_n h2 h1 (ht t b (by omega) h3)
  · have hi2 : injR (vX M) (cX M) := fun t t' q1 q2 q3 => hi t t' q1 q2 (by rw [(row_n h2 q1).1, (row_n h2 q2).1]; exact q3)
    have e : preP whoX (vX M) (nC (vX M) (cX M)) t = preP whoX (vX M) (cX M) t := by
      unfold preP
      rw [runX_n h2 t (by omega), frzA_n]
    rw [e]
    exact outX_n h2 h1 (m4 hi2 t (by omega))
theorem midX_turn {M M1 M2 : Mm} {n : Nat} (hn : (n : Int) < M 1 5) (hC : okCf (vX M) (cX M)) (hm : midX M M1 n) (hr : turnRX n M1 M2) : midX M M2 (n + 1) := by
  obtain ⟨eV, eC, e1, e18⟩ := midX_v hm
  obtain ⟨m1, m0, m2, m3, m4⟩ := hm
  obtain ⟨r1, r0, r2, r3, r4⟩ := hr
  rw [e1] at r2
  rw [eV, eC] at r3
  rw [e18] at r4
  obtain ⟨s1, s2⟩ := r3 _ m3
  refine ⟨frm_tr m1 r1 (by decide), ⟨wX_tr m0.1 r0.1, fun j hj => (r0.2 j hj).trans (m0.2 j hj)⟩, fun b hb => ?_, s1, fun hi t ht => ?_⟩
  · obtain ⟨x1, x2⟩ := m2 b hb
    obtain ⟨y1, y2⟩ := r2 b hb
    exact ⟨⟨y1.1, by have := x1.2; have := y1.2; omega⟩, y2⟩
  · by_cases e : t = n
    · subst e
      exact s2
    · refine outX_k (m4 hi t (by omega)) (fun k hk => r4 _ ?_ k hk)
      intro z
      have a1 := (hC.2 t (show (t : Int) < M 1 5 by omega)).2.2
      have a2 := (hC.2 n hn).2.2
      have z2 : (cX M 3 t).toNat = (cX M 3 n).toNat := z
      exact e (hi t n (show (t : Int) < M 1 5 by omega) hn (by omega))
theorem midX_k {M M1 M2 : Mm} {n : Nat} (hm : midX M M1 n) (h : frm [26, 27, 28] M1 M2) : midX M M2 n := by
  obtain ⟨m1, m0, m2, m3, m4⟩ := hm
  have em : ∀ b : Int, mbX M2 b = mbX M1 b ∧ (okBX M2 b ↔ okBX M1 b) := mb_eqX (h _ (by decide)) (h _ (by decide)) (h _ (by decide))
  have e19 : M2 15 = M1 15 := h _ (by decide)
  have e20 : M2 25 = M1 25 := h _ (by decide)
  refine ⟨frm_tr m1 h (by decide), ⟨wX_tr m0.1 (wX_eq (by rw [h 0 (by decide)])), fun j hj => by rw [h 0 (by decide)]; exact m0.2 j hj⟩, fun b hb => ?_, fun b hb => ?_, fun hi t ht => outX_k (m4 hi t ht) (fun k hk => ?_)⟩
  · rw [e19, e20, (em b).2]
    exact m2 b hb
  · rw [(em b).1, e20]
    exact m3 b hb
  · rw [h k (by revert hk; simp only [List.mem_cons, List.not_mem_nil, or_false]; omega)]
theorem midX_p {M M1 : Mm} {n : Nat} (hY : okY (vX M)) (hC : okCf (vX M) (cX M)) (hB : baseI M) (hn : (n : Int) < M 1 5) (hm : midX M M1 n) : turnPX n M1 := by
  obtain ⟨eV, eC, e1, e18⟩ := midX_v hm
  refine ⟨by rw [eV]; exact hY, by rw [eV, eC]; exact hC, base_f hm.1 (by decide) (by decide) hB, by rw [e1]; exact hn, fun b hb => ?_, fun b hb => ?_⟩
  · rw [e1] at hb
    exact (hm.2.2.1 b hb).1
  · rw [e1] at hb
    exact (hm.2.2.1 b hb).2
