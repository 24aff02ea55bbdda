/-! SagMemory: a turn, plain -/
/-- whose mark an entry bears: its turn's -/
def whoX : Nat → Int := fun t => t
def stX (V : Vy) (M : Mm) (S : Sm) : Prop := ∀ b : Nat, (b : Int) < V 0 3 → mbX M b = S.1 b ∧ M 25 b = S.2.1 b
def paidS (V : Vy) (C : Cf) (S : Sm) (t : Nat) : Int := if wentS V C S t = -1 ∨ giveS whoX V C S t < 0 then 0 else V 2 (wentS V C S t).toNat * giveS whoX V C S t
def outX (V : Vy) (C : Cf) (S1 : Sm) (t : Nat) (M1 : Mm) : Prop := M1 19 (C 3 t).toNat = wentS V C S1 t ∧ M1 20 (C 3 t).toNat = toP V C (C 3 t).toNat ∧ M1 21 (C 3 t).toNat = giveS whoX V C S1 t ∧ M1 22 (C 3 t).toNat = creakS V C S1 t ∧ M1 24 (C 3 t).toNat = wipeS whoX V C S1 t ∧ M1 23 (C 3 t).toNat = paidS V C S1 t
abbrev oRows : List Nat := [19, 20, 21, 22, 23, 24]
abbrev rRows : List Nat := [0, 13, 14, 15, 25, 19, 20, 21, 22, 23, 24]
def frTX (M Mf : Mm) (t : Nat) : Prop := frm [13, 14, 15] M Mf ∧ (∀ b : Nat, (b : Int) < M 1 4 → okBX Mf b ∧ Mf 15 b ≤ M 15 b) ∧ ∀ S, stX (vX M) M S → stX (vX M) Mf (frzA (vX M) (cX M) S t)
def turnPX (t : Nat) (M : Mm) : Prop := okY (vX M) ∧ okCf (vX M) (cX M) ∧ baseI M ∧ (t : Int) < M 1 5 ∧ (∀ b : Nat, (b : Int) < M 1 4 → okBX M b ∧ M 15 b ≤ t) ∧ ∀ b : Nat, (b : Int) < M 1 4 → -1 ≤ M 25 b ∧ M 25 b ≤ 6
def turnRX (t : Nat) (M M1 : Mm) : Prop := frm rRows M M1 ∧ (wX M M1 ∧ ∀ j, ¬ j = 8 → M1 0 j = M 0 j) ∧ (∀ b : Nat, (b : Int) < M 1 4 → (okBX M1 b ∧ M1 15 b ≤ M 15 b + 1) ∧ -1 ≤ M1 25 b ∧ M1 25 b ≤ 6) ∧ (∀ S, stX (vX M) M S → stX (vX M) M1 (stepP whoX (vX M) (cX M) S t) ∧ outX (vX M) (cX M) (frzA (vX M) (cX M) S t) t M1) ∧ ∀ c : Nat, ¬ c = (M 18 t).toNat → ∀ k, k ∈ oRows → M1 k c = M k c
/-- a turn in which no cart goes over -/
theorem turnX_no {M Mf M1 : Mm} {t : Nat} (hp : turnPX t M) (hf : frTX M Mf t) (h1 : frm oRows Mf M1) (hc : ∀ c : Nat, ¬ c = (M 18 t).toNat → ∀ k, k ∈ oRows → M1 k c = Mf k c)
    (hno : ¬ (¬ bitP (M 0 25) (M 18 t) ∧ ¬ toP (vX M) (cX M) (M 18 t).toNat = -1 ∧ M 25 (toP (vX M) (cX M) (M 18 t).toNat).toNat = -1))
    (ho : M1 19 (M 18 t).toNat = -1 ∧ M1 20 (M 18 t).toNat = toP (vX M) (cX M) (M 18 t).toNat ∧ M1 21 (M 18 t).toNat = 0 ∧ M1 22 (M 18 t).toNat = 0 ∧ M1 24 (M 18 t).toNat = 0 ∧ M1 23 (M 18 t).toNat = 0) : turnRX t M M1 := by
  obtain ⟨hY, hC, hB, ht, hb, hk⟩ := hp
  obtain ⟨f1, f2, f3⟩ := hf
  have hrow : 0 ≤ M 18 t ∧ M 18 t < M 1 5 := (hC.2 t ht).2.2
  have hto := toP_rg hY hC (c := (M 18 t).toNat) (by show ((M 18 t).toNat : Int) < M 1 5; omega)
  have hto3 : toP (vX M) (cX M) (M 18 t).toNat < M 1 4 := hto.2
  have em : ∀ b : Int, mbX M1 b = mbX Mf b ∧ (okBX M1 b ↔ okBX Mf b) := mb_eqX (h1 _ (by decide)) (h1 _ (by decide)) (h1 _ (by decide))
  have e19 : M1 15 = Mf 15 := h1 _ (by decide)
  have e20 : M1 25 = M 25 := (h1 _ (by decide)).trans (f1 _ (by decide))
  have e20f : M1 25 = Mf 25 := h1 _ (by decide)
  refine ⟨fun k hk2 => ?_, ⟨wX_eq (by rw [h1 0 (by decide), f1 0 (by decide)]), fun j _ => ?_⟩, fun b hb2 => ?_, fun S hS => ?_, fun c hc2 k hk2 => ?_⟩
  · rw [h1 k (fun z => hk2 (by revert z; simp only [List.mem_cons, List.not_mem_nil, or_false]; omega)), f1 k (fun z => hk2 (by revert z; simp only [List.mem_cons, List.not_mem_nil, or_false]; omega))]
  · rw [h1 0 (by decide), f1 0 (by decide)]
  · obtain ⟨x1, x2⟩ := f2 b hb2
    rw [e19, e20]
    exact ⟨⟨(em b).2.mpr x1, by omega⟩, hk b hb2⟩
  · have hn : ¬ isGo (vX M) (cX M) (frzA (vX M) (cX M) S t) (cX M 3 t).toNat := by
      intro z
      refine hno ⟨?_, z.2.1, ?_⟩
      · have z1 := z.1
        show ¬ bitP (M 0 25) (M 18 t)
        rw [show ((cX M 3 t).toNat : Int) = M 18 t from Int.toNat_of_nonneg hrow.1] at z1
        exact z1
      · have z2 := z.2.2
        rw [frz_brk] at z2
        have z1 := z.2.1
        have hto0 : 0 ≤ toP (vX M) (cX M) (M 18 t).toNat := by
          have : ¬ toP (vX M) (cX M) (M 18 t).toNat = -1 := z1
          omega
        rw [(hS (toP (vX M) (cX M) (M 18 t).toNat).toNat (by show ((toP (vX M) (cX M) (M 18 t).toNat).toNat : Int) < M 1 4; omega)).2]
        exact z2
    have e1 : stepP whoX (vX M) (cX M) S t = frzA (vX M) (cX M) S t := by
      unfold stepP
      rw [if_neg hn]
    rw [e1]
    have w1 : wentS (vX M) (cX M) (frzA (vX M) (cX M) S t) t = -1 := by unfold wentS; rw [if_neg hn]
    refine ⟨fun b hb2 => ?_, ?_, ?_, ?_, ?_, ?_, ?_⟩
    · rw [(em b).1, e20f]
      exact f3 S hS b hb2
    · rw [w1]; exact ho.1
    · exact ho.2.1
    · unfold giveS; rw [if_neg hn]; exact ho.2.2.1
    · unfold creakS; rw [if_neg hn]; exact ho.2.2.2.1
    · unfold wipeS; rw [if_neg hn]; exact ho.2.2.2.2.1
    · unfold paidS; rw [if_pos (Or.inl w1)]; exact ho.2.2.2.2.2
  · rw [hc c hc2 k hk2, f1 k (by revert hk2; simp only [List.mem_cons, List.not_mem_nil, or_false]; omega)]
/-- a turn in which a cart goes over the bridge b -/
theorem turnX_go {M Mf Mc M1 : Mm} {t : Nat} {b : Int} (hp : turnPX t M) (hf : frTX M Mf t) (eb : b = toP (vX M) (cX M) (M 18 t).toNat) (h1 : frm oRows Mf Mc) (hc : ∀ c : Nat, ¬ c = (M 18 t).toNat → ∀ k, k ∈ oRows → Mc k c = Mf k c)
    (hgo : ¬ bitP (M 0 25) (M 18 t) ∧ ¬ b = -1 ∧ M 25 b.toNat = -1) (hcm : Mc 20 (M 18 t).toNat = b) (hg : goneR (M 18 t) b t Mc M1) : turnRX t M M1 := by
  obtain ⟨hY, hC, hB, ht, hb, hk⟩ := hp
  obtain ⟨f1, f2, f3⟩ := hf
  have hN := okY_n hY
  obtain ⟨v3, v4, v5, v1, -⟩ := vX_n M
  rw [v3, v4, v5, v1] at hN
  have hrow : 0 ≤ M 18 t ∧ M 18 t < M 1 5 := (hC.2 t ht).2.2
  have hto := toP_rg hY hC (c := (M 18 t).toNat) (by show ((M 18 t).toNat : Int) < M 1 5; omega)
  rw [← eb] at hto
  have hto3 : b < M 1 4 := hto.2
  have hb0 : 0 ≤ b := by omega
  have hbn : ((b.toNat : Nat) : Int) = b := Int.toNat_of_nonneg hb0
  have hV1 : vX M 1 b.toNat = M 33 b.toNat := (vX_b M (by omega)).1
  have hV2 : vX M 2 b.toNat = M 34 b.toNat := (vX_b M (by omega)).2
  have fb := f2 b.toNat (by omega)
  rw [hbn] at fb
  have em : ∀ b : Int, mbX Mc b = mbX Mf b ∧ (okBX Mc b ↔ okBX Mf b) := mb_eqX (h1 _ (by decide)) (h1 _ (by decide)) (h1 _ (by decide))
  have c0 : Mc 0 = M 0 := (h1 _ (by decide)).trans (f1 _ (by decide))
  have c16 : Mc 16 = M 16 := (h1 _ (by decide)).trans (f1 _ (by decide))
  have c33 : Mc 33 = M 33 := (h1 _ (by decide)).trans (f1 _ (by decide))
  have c34 : Mc 34 = M 34 := (h1 _ (by decide)).trans (f1 _ (by decide))
  have c25 : Mc 25 = M 25 := (h1 _ (by decide)).trans (f1 _ (by decide))
  have f25 : Mf 25 = M 25 := f1 _ (by decide)
  rw [goneR, c0, c16, c33, c34, c25, (em b).1] at hg
  obtain ⟨r, er⟩ : ∃ r, r = crossP (M 0 10 - 2) (M 16 (M 18 t).toNat) t (mbX Mf b) := ⟨_, rfl⟩
  rw [← er] at hg
  obtain ⟨⟨g1, g2⟩, g3, g4, g5, g6, ⟨o1, o2, o3, o4, o5, o6⟩, g8⟩ := hg
  have hload := (hC.2 (M 18 t).toNat (by show ((M 18 t).toNat : Int) < M 1 5; omega)).1
  have hw8 : wX M M1 := wX_8 (by
    have x1 := @cross_2b (M 0 10 - 2) (M 16 (M 18 t).toNat) t (mbX Mf b)
    have x2 := mb_lenX fb.1
    have x3 := fb.1.2.1
    rw [← er] at x1
    rw [o6]
    omega)
  refine ⟨fun k hk2 => ?_, ⟨hw8, fun j hj => ?_⟩, fun a ha => ?_, fun S hS => ?_, fun c hc2 k hk2 => ?_⟩
  · rw [g4 k (fun z => hk2 (by revert z; simp only [List.mem_cons, List.not_mem_nil, or_false]; omega)), h1 k (fun z => hk2 (by revert z; simp only [List.mem_cons, List.not_mem_nil, or_false]; omega)), f1 k (fun z => hk2 (by revert z; simp only [List.mem_cons, List.not_mem_nil, or_false]; omega))]
  · exact g5 j hj
  · refine ⟨?_, ?_⟩
    · by_cases e : (a : Int) = b
      · have x1 := mb_lenX g2
        have x2 := mb_lenX fb.1
        rw [g1] at x1
        have x3 := @cross_len (M 0 10 - 2) (M 16 (M 18 t).toNat) t (mbX Mf b)
        rw [← er] at x3
        rw [e]
        have e' : a = b.toNat := by omega
        rw [e']
        exact ⟨g2, by omega⟩
      · obtain ⟨x1, x2⟩ := f2 a ha
        obtain ⟨y1, y2⟩ := g3 a ((em a).2.mpr x1) e
        have z1 := mb_lenX y2
        have z2 := mb_lenX x1
        rw [y1, (em a).1] at z1
        refine ⟨y2, ?_⟩
        rw [Int.toNat_natCast] at z1 z2
        omega
    · rw [g8 a]
      split
      · omega
      · exact hk a ha
  · have hS1 : stX (vX M) Mf (frzA (vX M) (cX M) S t) := f3 S hS
    have hSb := hS1 b.toNat (by show ((b.toNat : Nat) : Int) < M 1 4; omega)
    rw [hbn] at hSb
    have ec : ((cX M 3 t).toNat : Int) = M 18 t := Int.toNat_of_nonneg hrow.1
    have ebt : (toP (vX M) (cX M) (cX M 3 t).toNat).toNat = b.toNat := by rw [eb]; rfl
    have hn : isGo (vX M) (cX M) (frzA (vX M) (cX M) S t) (cX M 3 t).toNat := by
      refine ⟨?_, ?_, ?_⟩
      · rw [ec]; exact hgo.1
      · intro z
        exact hgo.2.1 (eb.trans z)
      · rw [ebt, ← hSb.2, f25]
        exact hgo.2.2
    have hcr : crP whoX (vX M) (cX M) (frzA (vX M) (cX M) S t) t = r := by
      rw [er]
      unfold crP
      rw [ebt, ← hSb.1]
      rfl
    have w1 : wentS (vX M) (cX M) (frzA (vX M) (cX M) S t) t = b := by
      unfold wentS
      rw [if_pos hn, eb]
      rfl
    have w2 : giveS whoX (vX M) (cX M) (frzA (vX M) (cX M) S t) t = sagP r.1 - sagP (mbX Mf b) := by
      unfold giveS
      rw [if_pos hn, hcr, ebt, ← hSb.1]
    have e1 : stepP whoX (vX M) (cX M) S t = goS whoX (vX M) (cX M) (frzA (vX M) (cX M) S t) t := by
      unfold stepP
      rw [if_pos hn]
    rw [e1]
    refine ⟨fun a ha => ?_, ?_, ?_, ?_, ?_, ?_, ?_⟩
    · have ha3 : (a : Int) < M 1 4 := ha
      have hSa := hS1 a ha
      unfold goS
      rw [hcr, ebt, hV1]
      by_cases e : a = b.toNat
      · subst e
        rw [g8]
        refine ⟨?_, ?_⟩
        · rw [hbn]
          show _ = (if b.toNat = b.toNat then r.1 else _)
          rw [if_pos rfl]
          exact g1
        · by_cases q : M 33 b.toNat < sagP r.1
          · rw [if_pos ⟨q, rfl⟩, if_pos q]
            show _ = (if b.toNat = b.toNat then cX M 3 t else _)
            rw [if_pos rfl]
            rfl
          · rw [if_neg (fun z => q z.1), if_neg q, ← f25]
            exact hSa.2
      · have q8 : M1 25 a = M 25 a := by rw [g8 a, if_neg (fun z => e z.2)]
        rw [q8]
        refine ⟨?_, ?_⟩
        · show _ = (if a = b.toNat then r.1 else _)
          rw [if_neg e, (g3 a ((em a).2.mpr (f2 a ha3).1) (by omega)).1, (em a).1]
          exact hSa.1
        · by_cases q : M 33 b.toNat < sagP r.1
          · rw [if_pos q]
            show _ = (if a = b.toNat then cX M 3 t else _)
            rw [if_neg e, ← f25]
            exact hSa.2
          · rw [if_neg q, ← f25]
            exact hSa.2
    · rw [w1]; exact o1
    · show M1 20 (M 18 t).toNat = toP (vX M) (cX M) (M 18 t).toNat
      rw [g4 _ (by decide), hcm, eb]
    · rw [w2]; exact o2
    · unfold creakS
      rw [if_pos hn, ebt, ← hSb.1]
      exact o3
    · unfold wipeS
      rw [if_pos hn, hcr]
      exact o4
    · unfold paidS
      rw [w1, w2, hV2]
      show M1 23 (M 18 t).toNat = _
      rw [o5]
      by_cases q : sagP r.1 - sagP (mbX Mf b) < 0
      · rw [if_pos q, if_pos (Or.inr q)]
      · rw [if_neg q, if_neg (by omega)]
  · have k2 := hk2
    simp only [List.mem_cons, List.not_mem_nil, or_false] at k2
    by_cases e : k = 20
    · rw [e, g4 _ (by decide), hc c hc2 _ (by decide), f1 _ (by decide)]
    · rw [g6 k (by simp only [List.mem_cons, List.not_mem_nil, or_false]; omega) c hc2, hc c hc2 k hk2, f1 k (by simp only [List.mem_cons, List.not_mem_nil, or_false]; omega)]
