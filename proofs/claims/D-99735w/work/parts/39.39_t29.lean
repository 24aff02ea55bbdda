/-! Reading, plain: it goes on; what is read is a valley -/
section
variable {T : Nat → Int} {n : Nat}
def leS (n p : Nat) (y : Ps) : Prop := match y with
  | .inl _ => True
  | .inr q => p ≤ q ∧ q ≤ n
theorem le_nxt {p : Nat} {x : Ps} (h : leS n p x) : leS n p (nxtS T n x) := by
  cases x with
  | inl e => trivial
  | inr q =>
    have := tkP_rg (T := T) h.2
    show p ≤ (tkP T n q).2.2 ∧ (tkP T n q).2.2 ≤ n
    have h1 := h.1
    omega
theorem le_fail {p : Nat} {k : Int} {x : Ps} (h : leS n p x) : leS n p (failS T n k x) := by
  cases x <;> trivial
theorem le_take {p : Nat} {w : List Int} {x : Ps} (h : leS n p x) : leS n p (takeS T n w x) := by
  cases x with
  | inl e => trivial
  | inr q =>
    show leS n p (if isW T n w q then .inr (tkP T n q).2.2 else .inr q)
    split
    · exact le_nxt (T := T) h
    · exact h
theorem le_ask {p : Nat} {w : List Int} {x : Ps} (h : leS n p x) : leS n p (askS T n w x) := by
  cases x with
  | inl e => trivial
  | inr q =>
    show leS n p (if isW T n w q then .inr (tkP T n q).2.2 else .inl _)
    split
    · exact le_nxt (T := T) h
    · trivial
theorem le_num {p : Nat} {lo hi : Int} {x : Ps} (h : leS n p x) : leS n p (numS T n lo hi x).2 := by
  cases x with
  | inl e => trivial
  | inr q =>
    show leS n p (if (tkP T n q).1 = 2 then (if lo ≤ numN T n q ∧ numN T n q ≤ hi then (numN T n q, .inr (tkP T n q).2.2) else (lo, .inl _)) else (lo, .inl _) : Int × Ps).2
    split
    · split
      · exact le_nxt (T := T) h
      · trivial
    · trivial
theorem le_own {p : Nat} {a : Int} {x : Ps} (h : leS n p x) : leS n p (ownS T n a x) := by
  cases x with
  | inl e => trivial
  | inr q =>
    show leS n p (if (tkP T n q).1 = 2 ∧ numN T n q = a then failS T n 2 (.inr q) else .inr q)
    split
    · trivial
    · exact h
theorem le_body {p : Nat} {V : Vy} {x : Ps} (h : leS n p x) : leS n p (bodyS T n V x).2 := by
  unfold bodyS firstS lineS
  split
  · exact le_num (le_ask (le_num (le_ask (le_num (le_ask (le_ask h))))))
  · split
    · split
      · exact le_fail h
      · exact le_num (le_ask (le_num (le_ask (le_nxt h))))
    · split
      · split
        · exact le_fail h
        · exact le_num (le_ask (le_num (le_nxt h)))
      · split
        · split
          · exact le_fail h
          · have hx : leS n p (wardX T n V (nxtS T n x)) := le_ask (le_num (le_ask (le_num (le_nxt h))))
            show leS n p (wardT T n V (nxtS T n x)).2
            unfold wardT
            split
            · exact le_take hx
            · exact le_num (le_own hx)
        · split
          · split
            · exact le_fail h
            · exact le_num (le_ask (le_nxt h))
          · exact le_fail h
theorem end_lt {p q : Nat} {x : Ps} (h : leS n p x) (he : endS T n x = .inr q) : p + 1 ≤ q ∧ q ≤ n := by
  cases x with
  | inl e => cases he
  | inr r =>
    have he : (if (tkP T n r).1 = 3 then (.inr (tkP T n r).2.2) else .inl (1, ((tkP T n r).2.1 : Int)) : Ps) = .inr q := he
    split at he
    · rename_i z
      have e := Sum.inr.inj he
      have k := tkP_rg (T := T) h.2
      have k2 := k.2.2.2.2 (by omega)
      have h1 := h.1
      omega
    · cases he
/-- numbers that are read lie where they must; an error stays -/
theorem num_ok {lo hi : Int} {x : Ps} {q : Nat} (h : (numS T n lo hi x).2 = .inr q) : (lo ≤ (numS T n lo hi x).1 ∧ (numS T n lo hi x).1 ≤ hi) ∧ ∃ p, x = .inr p := by
  cases x with
  | inl e => cases h
  | inr p =>
    refine ⟨?_, p, rfl⟩
    have h : (if (tkP T n p).1 = 2 then (if lo ≤ numN T n p ∧ numN T n p ≤ hi then (numN T n p, .inr (tkP T n p).2.2) else (lo, .inl (2, ((tkP T n p).2.1 : Int)))) else (lo, .inl (1, ((tkP T n p).2.1 : Int))) : Int × Ps).2 = .inr q := h
    show lo ≤ (if (tkP T n p).1 = 2 then (if lo ≤ numN T n p ∧ numN T n p ≤ hi then (numN T n p, .inr (tkP T n p).2.2) else (lo, .inl (2, ((tkP T n p).2.1 : Int)))) else (lo, .inl (1, ((tkP T n p).2.1 : Int))) : Int × Ps).1 ∧ (if (tkP T n p).1 = 2 then (if lo ≤ numN T n p ∧ numN T n p ≤ hi then (numN T n p, .inr (tkP T n p).2.2) else (lo, .inl (2, ((tkP T n p).2.1 : Int)))) else (lo, .inl (1, ((tkP T n p).2.1 : Int))) : Int × Ps).1 ≤ hi
    by_cases a : (tkP T n p).1 = 2
    · rw [if_pos a] at h ⊢
      by_cases b : lo ≤ numN T n p ∧ numN T n p ≤ hi
      · rw [if_pos b]; exact b
      · rw [if_neg b] at h; cases h
    · rw [if_neg a] at h; cases h
theorem ask_ok {w : List Int} {x : Ps} {q : Nat} (h : askS T n w x = .inr q) : ∃ p, x = .inr p := by
  cases x with
  | inl e => cases h
  | inr p => exact ⟨p, rfl⟩
theorem told_ok {w : List Int} {lo hi : Int} {x : Ps} {q : Nat} (h : (told T n w lo hi x).2 = .inr q) : (lo ≤ (told T n w lo hi x).1 ∧ (told T n w lo hi x).1 ≤ hi) ∧ ∃ p, x = .inr p := by
  obtain ⟨h1, p, h2⟩ := num_ok h
  exact ⟨h1, ask_ok h2⟩
theorem fail_no {k : Int} {x : Ps} {q : Nat} (h : failS T n k x = .inr q) : False := by
  cases x <;> cases h
end
abbrev cntV (V : Vy) : Prop := (0 ≤ V 0 3 ∧ V 0 3 ≤ 3) ∧ (0 ≤ V 0 4 ∧ V 0 4 ≤ 7) ∧ (0 ≤ V 0 5 ∧ V 0 5 ≤ 5) ∧ 0 ≤ V 0 6 ∧ V 0 6 ≤ 4
theorem add_cnt {V : Vy} {c : Nat} {l : List (Nat × Int)} {j : Nat} : addV V c l 0 j = if j = c then V 0 c + 1 else V 0 j := rfl
theorem body_08 {T : Nat → Int} {n : Nat} {V : Vy} {x : Ps} : (bodyS T n V x).1 0 8 = V 0 8 := by
  unfold bodyS firstS lineS
  repeat' split
  all_goals rfl
theorem cnt_body {T : Nat → Int} {n : Nat} {V : Vy} {x : Ps} (h : cntV V) : cntV (bodyS T n V x).1 := by
  have e0 : ∀ (c : Nat) (l : List (Nat × Int)) (j : Nat), addV V c l 0 j = if j = c then V 0 c + 1 else V 0 j := fun _ _ _ => rfl
  have f0 : ∀ v j, frsV V v 0 j = if j = 6 then V 0 6 + 1 else V 0 j := fun _ _ => rfl
  unfold bodyS firstS lineS
  split
  · exact h
  · split
    · split
      · exact h
      · show cntV (addV V 3 _)
        unfold cntV
        rw [e0, e0, e0, e0]
        simp only [if_true, Nat.reduceEqDiff, if_false]
        omega
    · split
      · split
        · exact h
        · show cntV (addV V 4 _)
          unfold cntV
          rw [e0, e0, e0, e0]
          simp only [if_true, Nat.reduceEqDiff, if_false]
          omega
      · split
        · split
          · exact h
          · show cntV (addV V 5 _)
            unfold cntV
            rw [e0, e0, e0, e0]
            simp only [if_true, Nat.reduceEqDiff, if_false]
            omega
        · split
          · split
            · exact h
            · show cntV (frsV V _)
              unfold cntV
              rw [f0, f0, f0, f0]
              simp only [if_true, Nat.reduceEqDiff, if_false]
              omega
          · exact h
theorem okY_cnt {V : Vy} (h : okY V) : cntV V := ⟨h.2.2.2.1, h.2.2.2.2.1, h.2.2.2.2.2.1, h.2.2.2.2.2.2.1⟩
theorem okY_z : okY (fun _ _ => 0) := by
  unfold okY
  dsimp only
  refine ⟨by omega, by omega, by omega, by omega, by omega, by omega, by omega, by omega, by omega, fun b hb => ?_, fun b hb => ?_, fun b hb => ?_, fun b hb => ?_⟩ <;> (have hb : (b : Int) < 0 := hb; omega)
theorem okY_up {V : Vy} {j : Nat} {x : Int} (h : okY V) (hj : j = 0 ∧ (0 ≤ x ∧ x ≤ 3) ∨ j = 1 ∧ (0 ≤ x ∧ x ≤ 50) ∨ j = 2 ∧ (0 ≤ x ∧ x ≤ 10) ∨ j = 8 ∧ (0 ≤ x ∧ x ≤ 1000)) : okY (up2 V 0 j x) := by
  obtain ⟨h0, h1, h2, h3, h4, h5, h6, h7, h8, hb, hc, hw, ha⟩ := h
  rcases hj with ⟨rfl, q⟩ | ⟨rfl, q⟩ | ⟨rfl, q⟩ | ⟨rfl, q⟩
  · exact ⟨q, h1, h2, h3, h4, h5, h6, h7, h8, hb, hc, hw, ha⟩
  · exact ⟨h0, q, h2, h3, h4, h5, h6, h7, h8, hb, hc, hw, ha⟩
  · exact ⟨h0, h1, q, h3, h4, h5, h6, h7, h8, hb, hc, hw, ha⟩
  · exact ⟨h0, h1, h2, h3, h4, h5, h6, h7, q, hb, hc, hw, ha⟩
theorem as_1 {k i : Nat} {v d : Int} {l : List (Nat × Int)} : asI ((k, v) :: l) i d = if i = k then v else asI l i d := rfl
theorem okY_bridge {V : Vy} {a b : Int} (h : okY V) (hn : ¬ V 0 3 = 3) (ha : 1 ≤ a ∧ a ≤ 300) (hb2 : 0 ≤ b ∧ b ≤ 9) : okY (addV V 3 [(1, a), (2, b)]) := by
  obtain ⟨h0, h1, h2, h3, h4, h5, h6, h7, h8, hb, hc, hw, hA⟩ := h
  have w1 : ∀ j : Nat, addV V 3 [(1, a), (2, b)] 1 j = if (j : Int) = V 0 3 then a else V 1 j := fun j => by
    rw [add_s (by decide)]
    simp [asI]
  have w2 : ∀ j : Nat, addV V 3 [(1, a), (2, b)] 2 j = if (j : Int) = V 0 3 then b else V 2 j := fun j => by
    rw [add_s (by decide)]
    simp [asI]
  have e3 : addV V 3 [(1, a), (2, b)] 0 3 = V 0 3 + 1 := rfl
  have k : ∀ i j, 3 ≤ i → addV V 3 [(1, a), (2, b)] i j = V i j := fun i j hi => add_k (by omega) (by rw [as_1, as_1, if_neg (by omega), if_neg (by omega)]; rfl)
  refine ⟨h0, h1, h2, by rw [e3]; omega, h4, h5, h6, h7, h8, fun j hj => ?_, fun j hj => ?_, fun j hj => ?_, fun j hj => ?_⟩
  · rw [e3] at hj
    rw [w1, w2]
    by_cases e : (j : Int) = V 0 3
    · rw [if_pos e, if_pos e]; exact ⟨ha, hb2⟩
    · rw [if_neg e, if_neg e]; exact hb j (by omega)
  · rw [k 3 j (by omega), k 4 j (by omega), e3]
    have := hc j hj
    omega
  · rw [k 5 j (by omega), k 6 j (by omega), k 7 j (by omega), e3]
    have := hw j hj
    omega
  · rw [k 9 j (by omega), k 10 j (by omega), k 11 j (by omega), e3]
    obtain ⟨x1, x2, x3⟩ := hA j hj
    exact ⟨x1, x2, fun z => by have := x3 z; omega⟩
theorem okY_cart {V : Vy} {a b : Int} (h : okY V) (hn : ¬ V 0 4 = 7) (ha : 1 ≤ a ∧ a ≤ 99) (hb2 : 0 ≤ b ∧ b ≤ V 0 3 - 1) : okY (addV V 4 [(3, a), (4, b)]) := by
  obtain ⟨h0, h1, h2, h3, h4, h5, h6, h7, h8, hb, hc, hw, hA⟩ := h
  have w3 : ∀ j : Nat, addV V 4 [(3, a), (4, b)] 3 j = if (j : Int) = V 0 4 then a else V 3 j := fun j => by
    rw [add_s (by decide)]
    simp [asI]
  have w4 : ∀ j : Nat, addV V 4 [(3, a), (4, b)] 4 j = if (j : Int) = V 0 4 then b else V 4 j := fun j => by
    rw [add_s (by decide)]
    simp [asI]
  have e3 : addV V 4 [(3, a), (4, b)] 0 4 = V 0 4 + 1 := rfl
  have e4 : addV V 4 [(3, a), (4, b)] 0 3 = V 0 3 := rfl
  have k : ∀ i j, 1 ≤ i → ¬ i = 3 → ¬ i = 4 → addV V 4 [(3, a), (4, b)] i j = V i j := fun i j hi h3 h4 => add_k (by omega) (by rw [as_1, as_1, if_neg h3, if_neg h4]; rfl)
  refine ⟨h0, h1, h2, h3, by rw [e3]; omega, h5, h6, h7, h8, fun j hj => ?_, fun j hj => ?_, fun j hj => ?_, fun j hj => ?_⟩
  · rw [k 1 j (by omega) (by omega) (by omega), k 2 j (by omega) (by omega) (by omega)]; exact hb j hj
  · rw [e3] at hj
    rw [w3, w4, e4]
    by_cases e : (j : Int) = V 0 4
    · rw [if_pos e, if_pos e]; exact ⟨ha, by omega, by omega⟩
    · rw [if_neg e, if_neg e]; exact hc j (by omega)
  · rw [k 5 j (by omega) (by omega) (by omega), k 6 j (by omega) (by omega) (by omega), k 7 j (by omega) (by omega) (by omega), e4]; exact hw j hj
  · rw [k 9 j (by omega) (by omega) (by omega), k 10 j (by omega) (by omega) (by omega), k 11 j (by omega) (by omega) (by omega), e3, e4]
    obtain ⟨x1, x2, x3⟩ := hA j hj
    exact ⟨x1, by omega, x3⟩
theorem okY_ward {V : Vy} {a b c : Int} (h : okY V) (hn : ¬ V 0 5 = 5) (ha : 0 ≤ a ∧ a ≤ V 0 3 - 1) (hb2 : 0 ≤ b ∧ b ≤ 99) (hc2 : -1 ≤ c ∧ c ≤ V 0 3 - 1) : okY (addV V 5 [(5, a), (6, b), (7, c)]) := by
  obtain ⟨h0, h1, h2, h3, h4, h5, h6, h7, h8, hb, hc, hw, hA⟩ := h
  have w5 : ∀ j : Nat, addV V 5 [(5, a), (6, b), (7, c)] 5 j = if (j : Int) = V 0 5 then a else V 5 j := fun j => by
    rw [add_s (by decide)]
    simp [asI]
  have w6 : ∀ j : Nat, addV V 5 [(5, a), (6, b), (7, c)] 6 j = if (j : Int) = V 0 5 then b else V 6 j := fun j => by
    rw [add_s (by decide)]
    simp [asI]
  have w7 : ∀ j : Nat, addV V 5 [(5, a), (6, b), (7, c)] 7 j = if (j : Int) = V 0 5 then c else V 7 j := fun j => by
    rw [add_s (by decide)]
    simp [asI]
  have e3 : addV V 5 [(5, a), (6, b), (7, c)] 0 5 = V 0 5 + 1 := rfl
  have e4 : addV V 5 [(5, a), (6, b), (7, c)] 0 3 = V 0 3 := rfl
  have e5 : addV V 5 [(5, a), (6, b), (7, c)] 0 4 = V 0 4 := rfl
  have k : ∀ i j, 1 ≤ i → ¬ i = 5 → ¬ i = 6 → ¬ i = 7 → addV V 5 [(5, a), (6, b), (7, c)] i j = V i j := fun i j hi h3 h4 h5 => add_k (by omega) (by rw [as_1, as_1, as_1, if_neg h3, if_neg h4, if_neg h5]; rfl)
  refine ⟨h0, h1, h2, h3, h4, by rw [e3]; omega, h6, h7, h8, fun j hj => ?_, fun j hj => ?_, fun j hj => ?_, fun j hj => ?_⟩
  · rw [k 1 j (by omega) (by omega) (by omega) (by omega), k 2 j (by omega) (by omega) (by omega) (by omega)]; exact hb j hj
  · rw [k 3 j (by omega) (by omega) (by omega) (by omega), k 4 j (by omega) (by omega) (by omega) (by omega), e4]; exact hc j hj
  · rw [e3] at hj
    rw [w5, w6, w7, e4]
    by_cases e : (j : Int) = V 0 5
    · rw [if_pos e, if_pos e, if_pos e]; exact ⟨by omega, hb2, by omega⟩
    · rw [if_neg e, if_neg e, if_neg e]; exact hw j (by omega)
  · rw [k 9 j (by omega) (by omega) (by omega) (by omega), k 10 j (by omega) (by omega) (by omega) (by omega), k 11 j (by omega) (by omega) (by omega) (by omega), e5, e4]; exact hA j hj
theorem okY_frost {V : Vy} {a : Int} (h : okY V) (hn : ¬ V 0 6 = 4) : okY (frsV V a) := by
  obtain ⟨h0, h1, h2, h3, h4, h5, h6, h7, h8, hb, hc, hw, hA⟩ := h
  have e3 : frsV V a 0 6 = V 0 6 + 1 := rfl
  have k : ∀ i j, 1 ≤ i → ¬ i = 8 → frsV V a i j = V i j := fun i j hi h8 => (if_neg (by omega)).trans (if_neg (fun w => h8 w.1))
  refine ⟨h0, h1, h2, h3, h4, h5, by rw [e3]; omega, h7, h8, fun j hj => ?_, fun j hj => ?_, fun j hj => ?_, fun j hj => ?_⟩
  · rw [k 1 j (by omega) (by omega), k 2 j (by omega) (by omega)]; exact hb j hj
  · rw [k 3 j (by omega) (by omega), k 4 j (by omega) (by omega)]; exact hc j hj
  · rw [k 5 j (by omega) (by omega), k 6 j (by omega) (by omega), k 7 j (by omega) (by omega)]; exact hw j hj
  · rw [k 9 j (by omega) (by omega), k 10 j (by omega) (by omega), k 11 j (by omega) (by omega)]; exact hA j hj
theorem okY_body {T : Nat → Int} {n : Nat} {V : Vy} {x : Ps} {q : Nat} (h : okY V) (he : (bodyS T n V x).2 = .inr q) : okY (bodyS T n V x).1 := by
  unfold bodyS firstS lineS at he ⊢
  split at he
  · rename_i z0
    rw [if_pos z0]
    have a3 := told_ok (w := wOdds) (lo := 0) (hi := 10) he
    obtain ⟨p2, e2⟩ := a3.2
    have a2 := told_ok (w := wFrost) (lo := 1) (hi := 50) e2
    obtain ⟨p1, e1⟩ := a2.2
    have a1 := told_ok (w := wLaw) (lo := 0) (hi := 3) e1
    exact okY_up (okY_up (okY_up h (Or.inl ⟨rfl, a1.1⟩)) (Or.inr (Or.inl ⟨rfl, by have := a2.1.1; show 0 ≤ (told T n wFrost 1 50 (frst1 T n x).2).1; omega, a2.1.2⟩))) (Or.inr (Or.inr (Or.inl ⟨rfl, a3.1⟩)))
  · rename_i z0
    rw [if_neg z0]
    split at he
    · rename_i z1
      rw [if_pos z1]
      split at he
      · exact (fail_no he).elim
      · rename_i y
        rw [if_neg y]
        have a2 := told_ok (w := wToll) (lo := 0) (hi := 9) he
        obtain ⟨p1, e1⟩ := a2.2
        have a1 := told_ok (w := wHolds) (lo := 1) (hi := 300) e1
        exact okY_bridge h y a1.1 a2.1
    · rename_i z1
      rw [if_neg z1]
      split at he
      · rename_i z2
        rw [if_pos z2]
        split at he
        · exact (fail_no he).elim
        · rename_i y
          rw [if_neg y]
          have a2 := told_ok (w := wBy) (lo := 0) (hi := V 0 3 - 1) he
          obtain ⟨p1, e1⟩ := a2.2
          have a1 := num_ok (lo := 1) (hi := 99) e1
          exact okY_cart h y a1.1 a2.1
      · rename_i z2
        rw [if_neg z2]
        split at he
        · rename_i z3
          rw [if_pos z3]
          split at he
          · exact (fail_no he).elim
          · rename_i y
            rw [if_neg y]
            have he : (wardT T n V (nxtS T n x)).2 = .inr q := he
            have key : (-1 ≤ (wardT T n V (nxtS T n x)).1 ∧ (wardT T n V (nxtS T n x)).1 ≤ V 0 3 - 1) ∧ ∃ p, wardX T n V (nxtS T n x) = .inr p := by
              have h3 := h.2.2.2.1
              unfold wardT at he ⊢
              split at he
              · rename_i u
                rw [if_pos u]
                refine ⟨⟨Int.le_refl _, by show (-1 : Int) ≤ V 0 3 - 1; omega⟩, ?_⟩
                cases hx : wardX T n V (nxtS T n x) with
                | inl e => rw [hx] at he; cases he
                | inr p => exact ⟨p, rfl⟩
              · rename_i u
                rw [if_neg u]
                have a3 := num_ok he
                refine ⟨⟨by have := a3.1.1; omega, a3.1.2⟩, ?_⟩
                obtain ⟨p, e⟩ := a3.2
                cases hx : wardX T n V (nxtS T n x) with
                | inl e2 => rw [hx] at e; cases e
                | inr p => exact ⟨p, rfl⟩
            obtain ⟨k1, p2, k2⟩ := key
            obtain ⟨p3, e3⟩ := ask_ok k2
            have a2 := told_ok (w := wOver) (lo := 0) (hi := 99) e3
            obtain ⟨p4, e4⟩ := a2.2
            have a1 := num_ok (lo := 0) (hi := V 0 3 - 1) e4
            exact okY_ward h y a1.1 a2.1 k1
        · rename_i z3
          rw [if_neg z3]
          split at he
          · rename_i z4
            rw [if_pos z4]
            split at he
            · exact (fail_no he).elim
            · rename_i y
              rw [if_neg y]
              exact okY_frost h y
          · exact (fail_no he).elim
/-- what holds all through -/
def rdI (n : Nat) (V : Vy) (x : Ps) : Prop := cntV V ∧ (0 ≤ V 0 8 ∧ V 0 8 ≤ n + 1) ∧ match x with
  | .inl _ => True
  | .inr p => p ≤ n ∧ V 0 8 ≤ p ∧ okY V
theorem rd_0 {n : Nat} : rdI n (fun _ _ => 0) (.inr 0) := ⟨okY_cnt okY_z, ⟨Int.le_refl _, by show (0 : Int) ≤ n + 1; omega⟩, Nat.zero_le _, Int.le_refl _, okY_z⟩
theorem rd_s {T : Nat → Int} {n : Nat} {V : Vy} {p : Nat} (hn : n ≤ 700) (h : rdI n V (.inr p)) : rdI n (lineE T n V (.inr p)).1 (lineE T n V (.inr p)).2 ∧ ∀ q, (lineE T n V (.inr p)).2 = .inr q → p + 1 ≤ q := by
  obtain ⟨h1, h2, h3, h4, h5⟩ := h
  have hl : leS n p (bodyS T n V (.inr p)).2 := le_body ⟨Nat.le_refl _, h3⟩
  have e8 : (lineE T n V (.inr p)).1 0 8 = V 0 8 + 1 := by
    show up2 (bodyS T n V (.inr p)).1 0 8 (V 0 8 + 1) 0 8 = _
    exact up2_s
  refine ⟨⟨?_, by rw [e8]; omega, ?_⟩, fun q he => (end_lt hl he).1⟩
  · exact cnt_body (T := T) (n := n) (x := .inr p) h1
  · cases hx : (lineE T n V (.inr p)).2 with
    | inl e => trivial
    | inr q =>
      have k := end_lt hl hx
      refine ⟨k.2, by rw [e8]; omega, ?_⟩
      have hb : ∃ r, (bodyS T n V (.inr p)).2 = .inr r := by
        cases hy : (bodyS T n V (.inr p)).2 with
        | inl e =>
          have hx : endS T n (bodyS T n V (.inr p)).2 = .inr q := hx
          rw [hy] at hx; cases hx
        | inr r => exact ⟨r, rfl⟩
      obtain ⟨r, hr⟩ := hb
      exact okY_up (okY_body h5 hr) (Or.inr (Or.inr (Or.inr ⟨rfl, by omega, by omega⟩)))
theorem read_inl {T : Nat → Int} {n : Nat} {V : Vy} {e : Int × Int} : ∀ k : Nat, readS T n k V (.inl e) = (V, .inl e) := by
  intro k
  cases k <;> rfl
theorem read_end {T : Nat → Int} {n : Nat} {V : Vy} {p : Nat} (h : (tkP T n p).1 = 0) : ∀ k : Nat, readS T n k V (.inr p) = (V, .inr p) := by
  intro k
  cases k with
  | zero => rfl
  | succ k => exact if_pos h
theorem read_s {T : Nat → Int} {n : Nat} {V : Vy} {p k : Nat} (h : ¬ (tkP T n p).1 = 0) : readS T n (k + 1) V (.inr p) = readS T n k (lineE T n V (.inr p)).1 (lineE T n V (.inr p)).2 := if_neg h
/-! SagMemoryModel: valleys read -/
theorem lex_v {M M1 : Mm} (h : lexK M M1) (s : Nat) : vS s M1 = vS s M := vS_frm h.1 (by decide)
theorem room_use {M M1 M2 : Mm} {w : List Int} {num k most v : Int} (hk : lexK M M1) (hu : okW w) (he : wL w = num) (hb : ∀ x, psR M x → psR M1 x) (hw : 0 ≤ k ∧ k < 8) (R : R7_isRoom (b01 (M1 0 12 = 0 ∧ M1 0 8 = 1 ∧ M1 0 11 = num)) k most M1 v M2) : lexK M M2 ∧ (v = 0 ∨ v = 1) ∧ ∀ x, psR M x → (isI (TM M) (tpN M) w x = 1 → (M 7 (32 + k).toNat = most → v = 0 ∧ psR M2 (failS (TM M) (tpN M) 3 x)) ∧ (¬ M 7 (32 + k).toNat = most → v = 1 ∧ psR M2 (nxtS (TM M) (tpN M) x))) ∧ (¬ isI (TM M) (tpN M) w x = 1 → v = 0 ∧ psR M2 x) := by
  obtain ⟨r1, r2, r3⟩ := R
  have t := lex_T hk
  refine ⟨lex_tr hk r1, r2, fun x hx => ?_⟩
  have hi := is_iff hu (hb x hx)
  rw [he] at hi
  obtain ⟨s1, s2⟩ := r3 x (hb x hx)
  rw [t.1, t.2.1, show M1 7 = M 7 from hk.1 _ (by decide)] at s2
  rw [t.1, t.2.1] at hi
  exact ⟨fun z => s2 (b01_t (hi.mpr z)), fun z => s1 (b01_f (fun y => z (hi.mp y)))⟩
theorem bad_ps {M1 : Mm} {x0 : Ps} (h : psR M1 x0) : (M1 0 12 = 0 → ∃ p, x0 = .inr p) := by
  intro q
  cases x0 with
  | inl e => exact absurd (h.1.symm.trans q) h.2.2
  | inr p => exact ⟨p, rfl⟩
abbrev lnD (M M1 : Mm) : Prop := ¬ M1 0 12 = 0 ∧ ∀ x, psR M x → psR M1 (lineS (TM M) (tpN M) (vS 4 M) x).2 ∧ (lineS (TM M) (tpN M) (vS 4 M) x).1 = vS 4 M
def P7_lineHere (M : Mm) : Prop := lexP M ∧ M 0 12 = 0 ∧ cntV (vS 4 M)
def R7_lineHere (M : Mm) (M1 : Mm) : Prop := keepR M M1 ∧ ∀ x, psR M x → psR M1 (lineS (TM M) (tpN M) (vS 4 M) x).2 ∧ vS 4 M1 = (lineS (TM M) (tpN M) (vS 4 M) x).1
def sp7_lineHere : Spec := spV true [] (fun x M => P7_lineHere M) (fun x M M1 => R7_lineHere M M1)
theorem c7_lineHere {M : Mm} {Q : Option AV → Mm → Prop} : sp7_lineHere [ar 0] M Q = (P7_lineHere M ∧ ∀ (M1 : Mm), R7_lineHere M M1 → Q none M1) := rfl
def cs7_lineHere : List (Nat × Nat × Nat × Spec) := [(174, 1, 2, sp7_is), (229, 1, 4, sp7_isRoom), (233, 1, 1, sp7_bridgeLine), (238, 1, 1, sp7_cartLine), (243, 1, 1, sp7_wardLine), (248, 1, 1, sp7_frostLine), (184, 1, 2, sp7_fails)]
def J7_lineHere_23 (M : Mm) (m : Nat) (M1 : Mm) : Prop := lexK M M1 ∧ (lnD M M1 ∨ (M1 0 12 = 0 ∧ ∀ x, psR M x → psR M1 x ∧ ¬ isI (TM M) (tpN M) wBridge x = 1)) ∧ m = 3
def J7_lineHere_54 (M : Mm) (m : Nat) (M1 : Mm) : Prop := lexK M M1 ∧ (lnD M M1 ∨ (M1 0 12 = 0 ∧ ∀ x, psR M x → psR M1 x ∧ ¬ isI (TM M) (tpN M) wBridge x = 1 ∧ ¬ isI (TM M) (tpN M) wCart x = 1)) ∧ m = 2
def J7_lineHere_84 (M : Mm) (m : Nat) (M1 : Mm) : Prop := lexK M M1 ∧ (lnD M M1 ∨ (M1 0 12 = 0 ∧ ∀ x, psR M x → psR M1 x ∧ ¬ isI (TM M) (tpN M) wBridge x = 1 ∧ ¬ isI (TM M) (tpN M) wCart x = 1 ∧ ¬ isI (TM M) (tpN M) wWard x = 1)) ∧ m = 1
def J7_lineHere_115 (M : Mm) (m : Nat) (M1 : Mm) : Prop := lexK M M1 ∧ (lnD M M1 ∨ (M1 0 12 = 0 ∧ ∀ x, psR M x → psR M1 x ∧ ¬ isI (TM M) (tpN M) wBridge x = 1 ∧ ¬ isI (TM M) (tpN M) wCart x = 1 ∧ ¬ isI (TM M) (tpN M) wWard x = 1 ∧ ¬ isI (TM M) (tpN M) wFrost x = 1)) ∧ m = 0
set_option maxHeartbeats 4000000 in
set_option maxRecDepth 100000 in
theorem in7_lineHere {M : Mm} {Q : Option AV → Mm → Prop} (hM : okM sh7 M) (hP : P7_lineHere M) (hQ : ∀ (M1 : Mm), R7_lineHere M M1 → Q none M1) (I_23 : List AV → Mm → Prop) (hI_23 : ∀ (m_ : Nat) (M2 : Mm), J7_lineHere_23 M m_ M2 → I_23 [ar 0] M2) (I_54 : List AV → Mm → Prop) (hI_54 : ∀ (m_ : Nat) (M2 : Mm), J7_lineHere_54 M m_ M2 → I_54 [ar 0] M2) (I_84 : List AV → Mm → Prop) (hI_84 : ∀ (m_ : Nat) (M2 : Mm), J7_lineHere_84 M m_ M2 → I_84 [ar 0] M2) (I_115 : List AV → Mm → Prop) (hI_115 : ∀ (m_ : Nat) (M2 : Mm), J7_lineHere_115 M m_ M2 → I_115 [ar 0] M2) : wp (tb7 (csL cs7_lineHere)) sh7 1 0 cX7_lineHere [(23, [0], I_23), (54, [0], I_54), (84, [0], I_84), (115, [0], I_115)] Q 400 0 [(0, ar 0)] [] M := by
  obtain ⟨⟨h1, x0, hx0⟩, hbad, hc⟩ := id hP
  have hc : (0 ≤ M 7 35 ∧ M 7 35 ≤ 3) ∧ (0 ≤ M 7 36 ∧ M 7 36 ≤ 7) ∧ (0 ≤ M 7 37 ∧ M 7 37 ≤ 5) ∧ 0 ≤ M 7 38 ∧ M 7 38 ≤ 4 := hc
  have hl : lexK M M := lex_rf
  have hps : ∀ x, psR M x → psR M x := fun _ h => h
  simp only [e_wp dX7_lineHere_0 rfl, e_wp dX7_lineHere_1 rfl, e_wp dX7_lineHere_2 rfl, e_wp dX7_lineHere_5 rfl, e_wp dX7_lineHere_8 rfl, e_wp dX7_lineHere_9 rfl, e_wp dX7_lineHere_10 rfl, e_wp dX7_lineHere_13 rfl, e_wp dX7_lineHere_16 rfl, e_wp dX7_lineHere_17 rfl, e_wp dX7_lineHere_20 rfl, e_wp dX7_lineHere_23 rfl, e_wp dX7_lineHere_24 rfl, e_wp dX7_lineHere_27 rfl, e_wp dX7_lineHere_30 rfl, e_wp dX7_lineHere_31 rfl, e_wp dX7_lineHere_32 rfl, e_wp dX7_lineHere_35 rfl, e_wp dX7_lineHere_38 rfl, e_wp dX7_lineHere_39 rfl, e_wp dX7_lineHere_41 rfl, e_wp dX7_lineHere_44 rfl, e_wp dX7_lineHere_47 rfl, e_wp dX7_lineHere_48 rfl, e_wp dX7_lineHere_51 rfl, e_wp dX7_lineHere_54 rfl, e_wp dX7_lineHere_55 rfl, e_wp dX7_lineHere_58 rfl, e_wp dX7_lineHere_61 rfl, e_wp dX7_lineHere_62 rfl, e_wp dX7_lineHere_63 rfl, e_wp dX7_lineHere_66 rfl, e_wp dX7_lineHere_69 rfl, e_wp dX7_lineHere_70 rfl, e_wp dX7_lineHere_71 rfl, e_wp dX7_lineHere_74 rfl, e_wp dX7_lineHere_77 rfl, e_wp dX7_lineHere_78 rfl, e_wp dX7_lineHere_81 rfl, e_wp dX7_lineHere_84 rfl, e_wp dX7_lineHere_85 rfl, e_wp dX7_lineHere_88 rfl, e_wp dX7_lineHere_91 rfl, e_wp dX7_lineHere_92 rfl, e_wp dX7_lineHere_93 rfl, e_wp dX7_lineHere_96 rfl, e_wp dX7_lineHere_99 rfl, e_wp dX7_lineHere_101 rfl, e_wp dX7_lineHere_102 rfl, e_wp dX7_lineHere_105 rfl, e_wp dX7_lineHere_108 rfl, e_wp dX7_lineHere_109 rfl, e_wp dX7_lineHere_112 rfl, e_wp dX7_lineHere_115 rfl, e_wp dX7_lineHere_116 rfl, e_wp dX7_lineHere_119 rfl, e_wp dX7_lineHere_122 rfl, e_wp dX7_lineHere_123 rfl, e_wp dX7_lineHere_124 rfl, e_wp dX7_lineHere_127 rfl, k7_227, c7_is, P7_is, V7_is, cs7_lineHere, c7_isRoom, c7_bridgeLine, g7_168, k7_236, c7_cartLine, k7_241, c7_wardLine, k7_246, c7_frostLine, c7_fails, e_iconst, e_bipush, e_sipush, e_lconst_0, e_lconst_1, e_iload, e_iload_0, e_iload_1, e_iload_2, e_iload_3, e_lload, e_lload_0, e_lload_1, e_lload_2, e_lload_3, e_aload, e_aload_0, e_aload_1, e_aload_2, e_aload_3, e_istore, e_istore_0, e_istore_1, e_istore_2, e_istore_3, e_astore, e_astore_0, e_astore_1, e_astore_2, e_astore_3, e_lstore, e_lstore_0, e_lstore_1, e_lstore_2, e_lstore_3, e_iinc, e_iadd, e_isub, e_imul, e_ladd, e_lsub, e_lmul, e_idiv, e_irem, e_ldiv, e_lrem, e_ineg, e_lneg, e_iand, e_ior, e_ixor, e_ishl, e_ishr, e_iushr, e_lcmp, e_i2l, e_l2i, e_i2b, e_i2s, e_dup_i, e_dup_r, e_pop_i, e_pop_r, e_dup2_l, e_dup2_ir, e_dup2_ii, e_ifeq, e_ifne, e_iflt, e_ifge, e_ifgt, e_ifle, e_iceq, e_icne, e_iclt, e_icge, e_icgt, e_icle, e_goto, e_switch, e_invokevirtual, e_invokestatic, e_invokespecial, e_ret0, e_ret1, e_ret2, e_ret3, ldI_s, ldL_s, ldR_s, clO_s, ctP_s, ctS_s, mgo_0, mgo_s, pjc_s, pj_0, pj_s, lk_s, rm1_0, rm1_i, rm1_r, rm1_l, rm2_0, rm2_i, rm2_r, rm2_l, csL_s, lc_lt, lc_ge, lc_gt, lc_le, lc_eq, b01_0, b01_1, b01_01, b01_n, up2_o, up2_s, up2_u, ne_eq, reduceCtorEq, Nat.reduceAdd, Nat.reduceEqDiff, Nat.reduceLT, Nat.reduceLeDiff, Int.reduceLE, Int.reduceLT, Int.reduceAdd, Int.reduceNeg, Int.reduceMul, Int.reduceSub, Int.reduceEq, Int.reduceToNat, Int.reduceNatCast, Int.cast_ofNat_Int, ↓reduceIte, and_self, List.drop_succ_cons, List.drop_zero, List.take_succ_cons, List.take_zero, List.length_cons, List.length_nil, List.reverse_cons, List.reverse_nil, List.nil_append, List.cons_append, Option.toList, true_and, and_true, or_false, false_or, or_true, true_or, forall_const, Classical.not_not, not_false_eq_true, not_true_eq_false, false_implies, true_implies, implies_true, imp_self]
  have lx0 : lexP M := lex_x hl h1 (hps x0 hx0)
  have pex : ∀ y : Int, y = 1 → ∃ p, psR M (.inr p) := fun _ _ => by
    obtain ⟨p, e⟩ := bad_ps (hps x0 hx0) hbad
    exact ⟨p, e ▸ hps x0 hx0⟩
  refine ⟨⟨lx0, by decide, by rw [b01_01]; trivial, pex _⟩, fun v M2 R2 => ?_⟩
  obtain ⟨g1, g2, g3⟩ := room_use hl okW_c.2.2.2.2.1 w_nums.2.2.2.2.1 hps (by decide) R2
  have g3 : ∀ x, psR M x → (isI (TM M) (tpN M) wBridge x = 1 → (M 7 35 = 3 → v = 0 ∧ psR M2 (failS (TM M) (tpN M) 3 x)) ∧ (¬ M 7 35 = 3 → v = 1 ∧ psR M2 (nxtS (TM M) (tpN M) x))) ∧ (¬ isI (TM M) (tpN M) wBridge x = 1 → v = 0 ∧ psR M2 x) := g3
  have uni : ∀ x, psR M x → (isI (TM M) (tpN M) wBridge x = 1 ↔ isI (TM M) (tpN M) wBridge x0 = 1) := by
    intro x hx
    have a := is_iff (w := wBridge) okW_c.2.2.2.2.1 hx
    have b := is_iff (w := wBridge) okW_c.2.2.2.2.1 hx0
    exact a.symm.trans b
  refine ⟨fun z => ?_, fun z => ?_⟩
  · by_cases y : isI (TM M) (tpN M) wBridge x0 = 1
    · have full : M 7 35 = 3 := Classical.byContradiction fun w => by
        have := (((g3 x0 hx0).1 y).2 w).1
        omega
      refine hI_23 3 _ ⟨g1, Or.inl ⟨?_, fun x hx => ?_⟩, rfl⟩
      · have := (((g3 x0 hx0).1 y).1 full).2
        intro w
        obtain ⟨p, e⟩ := bad_ps this w
        cases x0 <;> cases e
      · have k := (((g3 x hx).1 ((uni x hx).mpr y)).1 full).2
        unfold lineS
        rw [if_pos ((uni x hx).mpr y), if_pos (show vS 4 M 0 3 = 3 from full)]
        exact ⟨k, rfl⟩
    · refine hI_23 3 _ ⟨g1, ?_, rfl⟩
      have hb2 : M2 0 12 = 0 := by
        have := ((g3 x0 hx0).2 y).2
        obtain ⟨p, e⟩ := bad_ps (hps x0 hx0) hbad
        rw [e] at this
        exact this.1
      exact Or.inr ⟨hb2, fun x hx => ⟨((g3 x hx).2 (fun w => y ((uni x hx).mp w))).2, fun w => y ((uni x hx).mp w)⟩⟩
  · have y : isI (TM M) (tpN M) wBridge x0 = 1 := Classical.byContradiction fun w => z ((g3 x0 hx0).2 w).1
    have full : ¬ M 7 35 = 3 := fun w => z (((g3 x0 hx0).1 y).1 w).1
    have lx : lexP M2 := lex_x g1 h1 (((g3 x0 hx0).1 y).2 full).2
    have e7 : M2 7 = M 7 := g1.1 _ (by decide)
    refine ⟨⟨lx, by rw [e7]; exact hc.1.1, by rw [e7]; omega⟩, fun M3 R3 => hQ _ ?_⟩
    obtain ⟨r1, r2⟩ := R3
    refine ⟨keepR_tr (keepR_lex g1) r1, fun x hx => ?_⟩
    have k := r2 _ (((g3 x hx).1 ((uni x hx).mpr y)).2 full).2
    rw [(lex_T g1).1, (lex_T g1).2.1, lex_v g1 4] at k
    unfold lineS
    rw [if_pos ((uni x hx).mpr y), if_neg (show ¬ vS 4 M 0 3 = 3 from full)]
    exact k
set_option maxHeartbeats 4000000 in
set_option maxRecDepth 100000 in
theorem at7_lineHere_23 {M : Mm} {Q : Option AV → Mm → Prop} (hM : okM sh7 M) (hP : P7_lineHere M) (hQ : ∀ (M1 : Mm), R7_lineHere M M1 → Q none M1) {m : Nat} {M1 : Mm} (hM1 : okM sh7 M1) (hJ : J7_lineHere_23 M m M1) (I_23 : List AV → Mm → Prop) (hI_23 : ∀ (m_ : Nat) (M2 : Mm), m_ < m → J7_lineHere_23 M m_ M2 → I_23 [ar 0] M2) (I_54 : List AV → Mm → Prop) (hI_54 : ∀ (m_ : Nat) (M2 : Mm), m_ < m → J7_lineHere_54 M m_ M2 → I_54 [ar 0] M2) (I_84 : List AV → Mm → Prop) (hI_84 : ∀ (m_ : Nat) (M2 : Mm), m_ < m → J7_lineHere_84 M m_ M2 → I_84 [ar 0] M2) (I_115 : List AV → Mm → Prop) (hI_115 : ∀ (m_ : Nat) (M2 : Mm), m_ < m → J7_lineHere_115 M m_ M2 → I_115 [ar 0] M2) : wp (tb7 (csL cs7_lineHere)) sh7 1 0 cX7_lineHere [(23, [0], I_23), (54, [0], I_54), (84, [0], I_84), (115, [0], I_115)] Q 400 23 [(0, ar 0)] [] M1 := by
  obtain ⟨hl, hd, rfl⟩ := hJ
  obtain ⟨⟨h1, x0, hx0⟩, hbad0, hc⟩ := id hP
  have hc : (0 ≤ M 7 35 ∧ M 7 35 ≤ 3) ∧ (0 ≤ M 7 36 ∧ M 7 36 ≤ 7) ∧ (0 ≤ M 7 37 ∧ M 7 37 ≤ 5) ∧ 0 ≤ M 7 38 ∧ M 7 38 ≤ 4 := hc
  simp only [e_wp dX7_lineHere_0 rfl, e_wp dX7_lineHere_1 rfl, e_wp dX7_lineHere_2 rfl, e_wp dX7_lineHere_5 rfl, e_wp dX7_lineHere_8 rfl, e_wp dX7_lineHere_9 rfl, e_wp dX7_lineHere_10 rfl, e_wp dX7_lineHere_13 rfl, e_wp dX7_lineHere_16 rfl, e_wp dX7_lineHere_17 rfl, e_wp dX7_lineHere_20 rfl, e_wp dX7_lineHere_23 rfl, e_wp dX7_lineHere_24 rfl, e_wp dX7_lineHere_27 rfl, e_wp dX7_lineHere_30 rfl, e_wp dX7_lineHere_31 rfl, e_wp dX7_lineHere_32 rfl, e_wp dX7_lineHere_35 rfl, e_wp dX7_lineHere_38 rfl, e_wp dX7_lineHere_39 rfl, e_wp dX7_lineHere_41 rfl, e_wp dX7_lineHere_44 rfl, e_wp dX7_lineHere_47 rfl, e_wp dX7_lineHere_48 rfl, e_wp dX7_lineHere_51 rfl, e_wp dX7_lineHere_54 rfl, e_wp dX7_lineHere_55 rfl, e_wp dX7_lineHere_58 rfl, e_wp dX7_lineHere_61 rfl, e_wp dX7_lineHere_62 rfl, e_wp dX7_lineHere_63 rfl, e_wp dX7_lineHere_66 rfl, e_wp dX7_lineHere_69 rfl, e_wp dX7_lineHere_70 rfl, e_wp dX7_lineHere_71 rfl, e_wp dX7_lineHere_74 rfl, e_wp dX7_lineHere_77 rfl, e_wp dX7_lineHere_78 rfl, e_wp dX7_lineHere_81 rfl, e_wp dX7_lineHere_84 rfl, e_wp dX7_lineHere_85 rfl, e_wp dX7_lineHere_88 rfl, e_wp dX7_lineHere_91 rfl, e_wp dX7_lineHere_92 rfl, e_wp dX7_lineHere_93 rfl, e_wp dX7_lineHere_96 rfl, e_wp dX7_lineHere_99 rfl, e_wp dX7_lineHere_101 rfl, e_wp dX7_lineHere_102 rfl, e_wp dX7_lineHere_105 rfl, e_wp dX7_lineHere_108 rfl, e_wp dX7_lineHere_109 rfl, e_wp dX7_lineHere_112 rfl, e_wp dX7_lineHere_115 rfl, e_wp dX7_lineHere_116 rfl, e_wp dX7_lineHere_119 rfl, e_wp dX7_lineHere_122 rfl, e_wp dX7_lineHere_123 rfl, e_wp dX7_lineHere_124 rfl, e_wp dX7_lineHere_127 rfl, k7_227, c7_is, P7_is, V7_is, cs7_lineHere, c7_isRoom, c7_bridgeLine, g7_168, k7_236, c7_cartLine, k7_241, c7_wardLine, k7_246, c7_frostLine, c7_fails, e_iconst, e_bipush, e_sipush, e_lconst_0, e_lconst_1, e_iload, e_iload_0, e_iload_1, e_iload_2, e_iload_3, e_lload, e_lload_0, e_lload_1, e_lload_2, e_lload_3, e_aload, e_aload_0, e_aload_1, e_aload_2, e_aload_3, e_istore, e_istore_0, e_istore_1, e_istore_2, e_istore_3, e_astore, e_astore_0, e_astore_1, e_astore_2, e_astore_3, e_lstore, e_lstore_0, e_lstore_1, e_lstore_2, e_lstore_3, e_iinc, e_iadd, e_isub, e_imul, e_ladd, e_lsub, e_lmul, e_idiv, e_irem, e_ldiv, e_lrem, e_ineg, e_lneg, e_iand, e_ior, e_ixor, e_ishl, e_ishr, e_iushr, e_lcmp, e_i2l, e_l2i, e_i2b, e_i2s, e_dup_i, e_dup_r, e_pop_i, e_pop_r, e_dup2_l, e_dup2_ir, e_dup2_ii, e_ifeq, e_ifne, e_iflt, e_ifge, e_ifgt, e_ifle, e_iceq, e_icne, e_iclt, e_icge, e_icgt, e_icle, e_goto, e_switch, e_invokevirtual, e_invokestatic, e_invokespecial, e_ret0, e_ret1, e_ret2, e_ret3, ldI_s, ldL_s, ldR_s, clO_s, ctP_s, ctS_s, mgo_0, mgo_s, pjc_s, pj_0, pj_s, lk_s, rm1_0, rm1_i, rm1_r, rm1_l, rm2_0, rm2_i, rm2_r, rm2_l, csL_s, lc_lt, lc_ge, lc_gt, lc_le, lc_eq, b01_0, b01_1, b01_01, b01_n, up2_o, up2_s, up2_u, ne_eq, reduceCtorEq, Nat.reduceAdd, Nat.reduceEqDiff, Nat.reduceLT, Nat.reduceLeDiff, Int.reduceLE, Int.reduceLT, Int.reduceAdd, Int.reduceNeg, Int.reduceMul, Int.reduceSub, Int.reduceEq, Int.reduceToNat, Int.reduceNatCast, Int.cast_ofNat_Int, ↓reduceIte, and_self, List.drop_succ_cons, List.drop_zero, List.take_succ_cons, List.take_zero, List.length_cons, List.length_nil, List.reverse_cons, List.reverse_nil, List.nil_append, List.cons_append, Option.toList, true_and, and_true, or_false, false_or, or_true, true_or, forall_const, Classical.not_not, not_false_eq_true, not_true_eq_false, false_implies, true_implies, implies_true, imp_self]
  rcases hd with hd | ⟨hbad, hps0⟩
  · refine ⟨fun _ => hI_54 2 _ (by omega) ⟨hl, Or.inl hd, rfl⟩, fun q => absurd q hd.1⟩
  have hps : ∀ x, psR M x → psR M1 x := fun x hx => (hps0 x hx).1
  refine ⟨fun q => absurd hbad q, fun _ => ?_⟩
  have lx0 : lexP M1 := lex_x hl h1 (hps x0 hx0)
  have pex : ∀ y : Int, y = 1 → ∃ p, psR M1 (.inr p) := fun _ _ => by
    obtain ⟨p, e⟩ := bad_ps (hps x0 hx0) hbad
    exact ⟨p, e ▸ hps x0 hx0⟩
  refine ⟨⟨lx0, by decide, by rw [b01_01]; trivial, pex _⟩, fun v M2 R2 => ?_⟩
  obtain ⟨g1, g2, g3⟩ := room_use hl okW_c.2.2.2.2.2.2.2.1 w_nums.2.2.2.2.2.2.2.1 hps (by decide) R2
  have g3 : ∀ x, psR M x → (isI (TM M) (tpN M) wCart x = 1 → (M 7 36 = 7 → v = 0 ∧ psR M2 (failS (TM M) (tpN M) 3 x)) ∧ (¬ M 7 36 = 7 → v = 1 ∧ psR M2 (nxtS (TM M) (tpN M) x))) ∧ (¬ isI (TM M) (tpN M) wCart x = 1 → v = 0 ∧ psR M2 x) := g3
  have uni : ∀ x, psR M x → (isI (TM M) (tpN M) wCart x = 1 ↔ isI (TM M) (tpN M) wCart x0 = 1) := by
    intro x hx
    have a := is_iff (w := wCart) okW_c.2.2.2.2.2.2.2.1 hx
    have b := is_iff (w := wCart) okW_c.2.2.2.2.2.2.2.1 hx0
    exact a.symm.trans b
  refine ⟨fun z => ?_, fun z => ?_⟩
  · by_cases y : isI (TM M) (tpN M) wCart x0 = 1
    · have full : M 7 36 = 7 := Classical.byContradiction fun w => by
        have := (((g3 x0 hx0).1 y).2 w).1
        omega
      refine hI_54 2 _ (by omega) ⟨g1, Or.inl ⟨?_, fun x hx => ?_⟩, rfl⟩
      · have := (((g3 x0 hx0).1 y).1 full).2
        intro w
        obtain ⟨p, e⟩ := bad_ps this w
        cases x0 <;> cases e
      · have k := (((g3 x hx).1 ((uni x hx).mpr y)).1 full).2
        unfold lineS
        rw [if_neg (hps0 x hx).2, if_pos ((uni x hx).mpr y), if_pos (show vS 4 M 0 4 = 7 from full)]
        exact ⟨k, rfl⟩
    · refine hI_54 2 _ (by omega) ⟨g1, ?_, rfl⟩
      have hb2 : M2 0 12 = 0 := by
        have := ((g3 x0 hx0).2 y).2
        obtain ⟨p, e⟩ := bad_ps (hps x0 hx0) hbad
        rw [e] at this
        exact this.1
      exact Or.inr ⟨hb2, fun x hx => ⟨((g3 x hx).2 (fun w => y ((uni x hx).mp w))).2, (hps0 x hx).2, fun w => y ((uni x hx).mp w)⟩⟩
  · have y : isI (TM M) (tpN M) wCart x0 = 1 := Classical.byContradiction fun w => z ((g3 x0 hx0).2 w).1
    have full : ¬ M 7 36 = 7 := fun w => z (((g3 x0 hx0).1 y).1 w).1
    have lx : lexP M2 := lex_x g1 h1 (((g3 x0 hx0).1 y).2 full).2
    have e7 : M2 7 = M 7 := g1.1 _ (by decide)
    refine ⟨⟨lx, ⟨by rw [e7]; exact hc.2.1.1, by rw [e7]; omega⟩, by rw [e7]; exact hc.1.1, by rw [e7]; exact hc.1.2⟩, fun M3 R3 => hQ _ ?_⟩
    obtain ⟨r1, r2⟩ := R3
    refine ⟨keepR_tr (keepR_lex g1) r1, fun x hx => ?_⟩
    have k := r2 _ (((g3 x hx).1 ((uni x hx).mpr y)).2 full).2
    rw [(lex_T g1).1, (lex_T g1).2.1, lex_v g1 4] at k
    unfold lineS
    rw [if_neg (hps0 x hx).2, if_pos ((uni x hx).mpr y), if_neg (show ¬ vS 4 M 0 4 = 7 from full)]
    exact k
set_option maxHeartbeats 4000000 in
set_option maxRecDepth 100000 in
theorem at7_lineHere_54 {M : Mm} {Q : Option AV → Mm → Prop} (hM : okM sh7 M) (hP : P7_lineHere M) (hQ : ∀ (M1 : Mm), R7_lineHere M M1 → Q none M1) {m : Nat} {M1 : Mm} (hM1 : okM sh7 M1) (hJ : J7_lineHere_54 M m M1) (I_23 : List AV → Mm → Prop) (hI_23 : ∀ (m_ : Nat) (M2 : Mm), m_ < m → J7_lineHere_23 M m_ M2 → I_23 [ar 0] M2) (I_54 : List AV → Mm → Prop) (hI_54 : ∀ (m_ : Nat) (M2 : Mm), m_ < m → J7_lineHere_54 M m_ M2 → I_54 [ar 0] M2) (I_84 : List AV → Mm → Prop) (hI_84 : ∀ (m_ : Nat) (M2 : Mm), m_ < m → J7_lineHere_84 M m_ M2 → I_84 [ar 0] M2) (I_115 : List AV → Mm → Prop) (hI_115 : ∀ (m_ : Nat) (M2 : Mm), m_ < m → J7_lineHere_115 M m_ M2 → I_115 [ar 0] M2) : wp (tb7 (csL cs7_lineHere)) sh7 1 0 cX7_lineHere [(23, [0], I_23), (54, [0], I_54), (84, [0], I_84), (115, [0], I_115)] Q 400 54 [(0, ar 0)] [] M1 := by
  obtain ⟨hl, hd, rfl⟩ := hJ
  obtain ⟨⟨h1, x0, hx0⟩, hbad0, hc⟩ := id hP
  have hc : (0 ≤ M 7 35 ∧ M 7 35 ≤ 3) ∧ (0 ≤ M 7 36 ∧ M 7 36 ≤ 7) ∧ (0 ≤ M 7 37 ∧ M 7 37 ≤ 5) ∧ 0 ≤ M 7 38 ∧ M 7 38 ≤ 4 := hc
  simp only [e_wp dX7_lineHere_0 rfl, e_wp dX7_lineHere_1 rfl, e_wp dX7_lineHere_2 rfl, e_wp dX7_lineHere_5 rfl, e_wp dX7_lineHere_8 rfl, e_wp dX7_lineHere_9 rfl, e_wp dX7_lineHere_10 rfl, e_wp dX7_lineHere_13 rfl, e_wp dX7_lineHere_16 rfl, e_wp dX7_lineHere_17 rfl, e_wp dX7_lineHere_20 rfl, e_wp dX7_lineHere_23 rfl, e_wp dX7_lineHere_24 rfl, e_wp dX7_lineHere_27 rfl, e_wp dX7_lineHere_30 rfl, e_wp dX7_lineHere_31 rfl, e_wp dX7_lineHere_32 rfl, e_wp dX7_lineHere_35 rfl, e_wp dX7_lineHere_38 rfl, e_wp dX7_lineHere_39 rfl, e_wp dX7_lineHere_41 rfl, e_wp dX7_lineHere_44 rfl, e_wp dX7_lineHere_47 rfl, e_wp dX7_lineHere_48 rfl, e_wp dX7_lineHere_51 rfl, e_wp dX7_lineHere_54 rfl, e_wp dX7_lineHere_55 rfl, e_wp dX7_lineHere_58 rfl, e_wp dX7_lineHere_61 rfl, e_wp dX7_lineHere_62 rfl, e_wp dX7_lineHere_63 rfl, e_wp dX7_lineHere_66 rfl, e_wp dX7_lineHere_69 rfl, e_wp dX7_lineHere_70 rfl, e_wp dX7_lineHere_71 rfl, e_wp dX7_lineHere_74 rfl, e_wp dX7_lineHere_77 rfl, e_wp dX7_lineHere_78 rfl, e_wp dX7_lineHere_81 rfl, e_wp dX7_lineHere_84 rfl, e_wp dX7_lineHere_85 rfl, e_wp dX7_lineHere_88 rfl, e_wp dX7_lineHere_91 rfl, e_wp dX7_lineHere_92 rfl, e_wp dX7_lineHere_93 rfl, e_wp dX7_lineHere_96 rfl, e_wp dX7_lineHere_99 rfl, e_wp dX7_lineHere_101 rfl, e_wp dX7_lineHere_102 rfl, e_wp dX7_lineHere_105 rfl, e_wp dX7_lineHere_108 rfl, e_wp dX7_lineHere_109 rfl, e_wp dX7_lineHere_112 rfl, e_wp dX7_lineHere_115 rfl, e_wp dX7_lineHere_116 rfl, e_wp dX7_lineHere_119 rfl, e_wp dX7_lineHere_122 rfl, e_wp dX7_lineHere_123 rfl, e_wp dX7_lineHere_124 rfl, e_wp dX7_lineHere_127 rfl, k7_227, c7_is, P7_is, V7_is, cs7_lineHere, c7_isRoom, c7_bridgeLine, g7_168, k7_236, c7_cartLine, k7_241, c7_wardLine, k7_246, c7_frostLine, c7_fails, e_iconst, e_bipush, e_sipush, e_lconst_0, e_lconst_1, e_iload, e_iload_0, e_iload_1, e_iload_2, e_iload_3, e_lload, e_lload_0, e_lload_1, e_lload_2, e_lload_3, e_aload, e_aload_0, e_aload_1, e_aload_2, e_aload_3, e_istore, e_istore_0, e_istore_1, e_istore_2, e_istore_3, e_astore, e_astore_0, e_astore_1, e_astore_2, e_astore_3, e_lstore, e_lstore_0, e_lstore_1, e_lstore_2, e_lstore_3, e_iinc, e_iadd, e_isub, e_imul, e_ladd, e_lsub, e_lmul, e_idiv, e_irem, e_ldiv, e_lrem, e_ineg, e_lneg, e_iand, e_ior, e_ixor, e_ishl, e_ishr, e_iushr, e_lcmp, e_i2l, e_l2i, e_i2b, e_i2s, e_dup_i, e_dup_r, e_pop_i, e_pop_r, e_dup2_l, e_dup2_ir, e_dup2_ii, e_ifeq, e_ifne, e_iflt, e_ifge, e_ifgt, e_ifle, e_iceq, e_icne, e_iclt, e_icge, e_icgt, e_icle, e_goto, e_switch, e_invokevirtual, e_invokestatic, e_invokespecial, e_ret0, e_ret1, e_ret2, e_ret3, ldI_s, ldL_s, ldR_s, clO_s, ctP_s, ctS_s, mgo_0, mgo_s, pjc_s, pj_0, pj_s, lk_s, rm1_0, rm1_i, rm1_r, rm1_l, rm2_0, rm2_i, rm2_r, rm2_l, csL_s, lc_lt, lc_ge, lc_gt, lc_le, lc_eq, b01_0, b01_1, b01_01, b01_n, up2_o, up2_s, up2_u, ne_eq, reduceCtorEq, Nat.reduceAdd, Nat.reduceEqDiff, Nat.reduceLT, Nat.reduceLeDiff, Int.reduceLE, Int.reduceLT, Int.reduceAdd, Int.reduceNeg, Int.reduceMul, Int.reduceSub, Int.reduceEq, Int.reduceToNat, Int.reduceNatCast, Int.cast_ofNat_Int, ↓reduceIte, and_self, List.drop_succ_cons, List.drop_zero, List.take_succ_cons, List.take_zero, List.length_cons, List.length_nil, List.reverse_cons, List.reverse_nil, List.nil_append, List.cons_append, Option.toList, true_and, and_true, or_false, false_or, or_true, true_or, forall_const, Classical.not_not, not_false_eq_true, not_true_eq_false, false_implies, true_implies, implies_true, imp_self]
  rcases hd with hd | ⟨hbad, hps0⟩
  · refine ⟨fun _ => hI_84 1 _ (by omega) ⟨hl, Or.inl hd, rfl⟩, fun q => absurd q hd.1⟩
  have hps : ∀ x, psR M x → psR M1 x := fun x hx => (hps0 x hx).1
  refine ⟨fun q => absurd hbad q, fun _ => ?_⟩
  have lx0 : lexP M1 := lex_x hl h1 (hps x0 hx0)
  have pex : ∀ y : Int, y = 1 → ∃ p, psR M1 (.inr p) := fun _ _ => by
    obtain ⟨p, e⟩ := bad_ps (hps x0 hx0) hbad
    exact ⟨p, e ▸ hps x0 hx0⟩
  refine ⟨⟨lx0, by decide, by rw [b01_01]; trivial, pex _⟩, fun v M2 R2 => ?_⟩
  obtain ⟨g1, g2, g3⟩ := room_use hl okW_c.2.2.2.2.2.2.2.2.2.1 w_nums.2.2.2.2.2.2.2.2.2.1 hps (by decide) R2
  have g3 : ∀ x, psR M x → (isI (TM M) (tpN M) wWard x = 1 → (M 7 37 = 5 → v = 0 ∧ psR M2 (failS (TM M) (tpN M) 3 x)) ∧ (¬ M 7 37 = 5 → v = 1 ∧ psR M2 (nxtS (TM M) (tpN M) x))) ∧ (¬ isI (TM M) (tpN M) wWard x = 1 → v = 0 ∧ psR M2 x) := g3
  have uni : ∀ x, psR M x → (isI (TM M) (tpN M) wWard x = 1 ↔ isI (TM M) (tpN M) wWard x0 = 1) := by
    intro x hx
    have a := is_iff (w := wWard) okW_c.2.2.2.2.2.2.2.2.2.1 hx
    have b := is_iff (w := wWard) okW_c.2.2.2.2.2.2.2.2.2.1 hx0
    exact a.symm.trans b
  refine ⟨fun z => ?_, fun z => ?_⟩
  · by_cases y : isI (TM M) (tpN M) wWard x0 = 1
    · have full : M 7 37 = 5 := Classical.byContradiction fun w => by
        have := (((g3 x0 hx0).1 y).2 w).1
        omega
      refine hI_84 1 _ (by omega) ⟨g1, Or.inl ⟨?_, fun x hx => ?_⟩, rfl⟩
      · have := (((g3 x0 hx0).1 y).1 full).2
        intro w
        obtain ⟨p, e⟩ := bad_ps this w
        cases x0 <;> cases e
      · have k := (((g3 x hx).1 ((uni x hx).mpr y)).1 full).2
        unfold lineS
        rw [if_neg (hps0 x hx).2.1, if_neg (hps0 x hx).2.2, if_pos ((uni x hx).mpr y), if_pos (show vS 4 M 0 5 = 5 from full)]
        exact ⟨k, rfl⟩
    · refine hI_84 1 _ (by omega) ⟨g1, ?_, rfl⟩
      have hb2 : M2 0 12 = 0 := by
        have := ((g3 x0 hx0).2 y).2
        obtain ⟨p, e⟩ := bad_ps (hps x0 hx0) hbad
        rw [e] at this
        exact this.1
      exact Or.inr ⟨hb2, fun x hx => ⟨((g3 x hx).2 (fun w => y ((uni x hx).mp w))).2, (hps0 x hx).2.1, (hps0 x hx).2.2, fun w => y ((uni x hx).mp w)⟩⟩
  · have y : isI (TM M) (tpN M) wWard x0 = 1 := Classical.byContradiction fun w => z ((g3 x0 hx0).2 w).1
    have full : ¬ M 7 37 = 5 := fun w => z (((g3 x0 hx0).1 y).1 w).1
    have lx : lexP M2 := lex_x g1 h1 (((g3 x0 hx0).1 y).2 full).2
    have e7 : M2 7 = M 7 := g1.1 _ (by decide)
    refine ⟨⟨lx, ⟨by rw [e7]; exact hc.2.2.1.1, by rw [e7]; omega⟩, by rw [e7]; exact hc.1.1, by rw [e7]; exact hc.1.2⟩, fun M3 R3 => hQ _ ?_⟩
    obtain ⟨r1, r2⟩ := R3
    refine ⟨keepR_tr (keepR_lex g1) r1, fun x hx => ?_⟩
    have k := r2 _ (((g3 x hx).1 ((uni x hx).mpr y)).2 full).2
    rw [(lex_T g1).1, (lex_T g1).2.1, lex_v g1 4] at k
    unfold lineS
    rw [if_neg (hps0 x hx).2.1, if_neg (hps0 x hx).2.2, if_pos ((uni x hx).mpr y), if_neg (show ¬ vS 4 M 0 5 = 5 from full)]
    exact k
set_option maxHeartbeats 4000000 in
set_option maxRecDepth 100000 in
theorem at7_lineHere_84 {M : Mm} {Q : Option AV → Mm → Prop} (hM : okM sh7 M) (hP : P7_lineHere M) (hQ : ∀ (M1 : Mm), R7_lineHere M M1 → Q none M1) {m : Nat} {M1 : Mm} (hM1 : okM sh7 M1) (hJ : J7_lineHere_84 M m M1) (I_23 : List AV → Mm → Prop) (hI_23 : ∀ (m_ : Nat) (M2 : Mm), m_ < m → J7_lineHere_23 M m_ M2 → I_23 [ar 0] M2) (I_54 : List AV → Mm → Prop) (hI_54 : ∀ (m_ : Nat) (M2 : Mm), m_ < m → J7_lineHere_54 M m_ M2 → I_54 [ar 0] M2) (I_84 : List AV → Mm → Prop) (hI_84 : ∀ (m_ : Nat) (M2 : Mm), m_ < m → J7_lineHere_84 M m_ M2 → I_84 [ar 0] M2) (I_115 : List AV → Mm → Prop) (hI_115 : ∀ (m_ : Nat) (M2 : Mm), m_ < m → J7_lineHere_115 M m_ M2 → I_115 [ar 0] M2) : wp (tb7 (csL cs7_lineHere)) sh7 1 0 cX7_lineHere [(23, [0], I_23), (54, [0], I_54), (84, [0], I_84), (115, [0], I_115)] Q 400 84 [(0, ar 0)] [] M1 := by
  obtain ⟨hl, hd, rfl⟩ := hJ
  obtain ⟨⟨h1, x0, hx0⟩, hbad0, hc⟩ := id hP
  have hc : (0 ≤ M 7 35 ∧ M 7 35 ≤ 3) ∧ (0 ≤ M 7 36 ∧ M 7 36 ≤ 7) ∧ (0 ≤ M 7 37 ∧ M 7 37 ≤ 5) ∧ 0 ≤ M 7 38 ∧ M 7 38 ≤ 4 := hc
  simp only [e_wp dX7_lineHere_0 rfl, e_wp dX7_lineHere_1 rfl, e_wp dX7_lineHere_2 rfl, e_wp dX7_lineHere_5 rfl, e_wp dX7_lineHere_8 rfl, e_wp dX7_lineHere_9 rfl, e_wp dX7_lineHere_10 rfl, e_wp dX7_lineHere_13 rfl, e_wp dX7_lineHere_16 rfl, e_wp dX7_lineHere_17 rfl, e_wp dX7_lineHere_20 rfl, e_wp dX7_lineHere_23 rfl, e_wp dX7_lineHere_24 rfl, e_wp dX7_lineHere_27 rfl, e_wp dX7_lineHere_30 rfl, e_wp dX7_lineHere_31 rfl, e_wp dX7_lineHere_32 rfl, e_wp dX7_lineHere_35 rfl, e_wp dX7_lineHere_38 rfl, e_wp dX7_lineHere_39 rfl, e_wp dX7_lineHere_41 rfl, e_wp dX7_lineHere_44 rfl, e_wp dX7_lineHere_47 rfl, e_wp dX7_lineHere_48 rfl, e_wp dX7_lineHere_51 rfl, e_wp dX7_lineHere_54 rfl, e_wp dX7_lineHere_55 rfl, e_wp dX7_lineHere_58 rfl, e_wp dX7_lineHere_61 rfl, e_wp dX7_lineHere_62 rfl, e_wp dX7_lineHere_63 rfl, e_wp dX7_lineHere_66 rfl, e_wp dX7_lineHere_69 rfl, e_wp dX7_lineHere_70 rfl, e_wp dX7_lineHere_71 rfl, e_wp dX7_lineHere_74 rfl, e_wp dX7_lineHere_77 rfl, e_wp dX7_lineHere_78 rfl, e_wp dX7_lineHere_81 rfl, e_wp dX7_lineHere_84 rfl, e_wp dX7_lineHere_85 rfl, e_wp dX7_lineHere_88 rfl, e_wp dX7_lineHere_91 rfl, e_wp dX7_lineHere_92 rfl, e_wp dX7_lineHere_93 rfl, e_wp dX7_lineHere_96 rfl, e_wp dX7_lineHere_99 rfl, e_wp dX7_lineHere_101 rfl, e_wp dX7_lineHere_102 rfl, e_wp dX7_lineHere_105 rfl, e_wp dX7_lineHere_108 rfl, e_wp dX7_lineHere_109 rfl, e_wp dX7_lineHere_112 rfl, e_wp dX7_lineHere_115 rfl, e_wp dX7_lineHere_116 rfl, e_wp dX7_lineHere_119 rfl, e_wp dX7_lineHere_122 rfl, e_wp dX7_lineHere_123 rfl, e_wp dX7_lineHere_124 rfl, e_wp dX7_lineHere_127 rfl, k7_227, c7_is, P7_is, V7_is, cs7_lineHere, c7_isRoom, c7_bridgeLine, g7_168, k7_236, c7_cartLine, k7_241, c7_wardLine, k7_246, c7_frostLine, c7_fails, e_iconst, e_bipush, e_sipush, e_lconst_0, e_lconst_1, e_iload, e_iload_0, e_iload_1, e_iload_2, e_iload_3, e_lload, e_lload_0, e_lload_1, e_lload_2, e_lload_3, e_aload, e_aload_0, e_aload_1, e_aload_2, e_aload_3, e_istore, e_istore_0, e_istore_1, e_istore_2, e_istore_3, e_astore, e_astore_0, e_astore_1, e_astore_2, e_astore_3, e_lstore, e_lstore_0, e_lstore_1, e_lstore_2, e_lstore_3, e_iinc, e_iadd, e_isub, e_imul, e_ladd, e_lsub, e_lmul, e_idiv, e_irem, e_ldiv, e_lrem, e_ineg, e_lneg, e_iand, e_ior, e_ixor, e_ishl, e_ishr, e_iushr, e_lcmp, e_i2l, e_l2i, e_i2b, e_i2s, e_dup_i, e_dup_r, e_pop_i, e_pop_r, e_dup2_l, e_dup2_ir, e_dup2_ii, e_ifeq, e_ifne, e_iflt, e_ifge, e_ifgt, e_ifle, e_iceq, e_icne, e_iclt, e_icge, e_icgt, e_icle, e_goto, e_switch, e_invokevirtual, e_invokestatic, e_invokespecial, e_ret0, e_ret1, e_ret2, e_ret3, ldI_s, ldL_s, ldR_s, clO_s, ctP_s, ctS_s, mgo_0, mgo_s, pjc_s, pj_0, pj_s, lk_s, rm1_0, rm1_i, rm1_r, rm1_l, rm2_0, rm2_i, rm2_r, rm2_l, csL_s, lc_lt, lc_ge, lc_gt, lc_le, lc_eq, b01_0, b01_1, b01_01, b01_n, up2_o, up2_s, up2_u, ne_eq, reduceCtorEq, Nat.reduceAdd, Nat.reduceEqDiff, Nat.reduceLT, Nat.reduceLeDiff, Int.reduceLE, Int.reduceLT, Int.reduceAdd, Int.reduceNeg, Int.reduceMul, Int.reduceSub, Int.reduceEq, Int.reduceToNat, Int.reduceNatCast, Int.cast_ofNat_Int, ↓reduceIte, and_self, List.drop_succ_cons, List.drop_zero, List.take_succ_cons, List.take_zero, List.length_cons, List.length_nil, List.reverse_cons, List.reverse_nil, List.nil_append, List.cons_append, Option.toList, true_and, and_true, or_false, false_or, or_true, true_or, forall_const, Classical.not_not, not_false_eq_true, not_true_eq_false, false_implies, true_implies, implies_true, imp_self]
  rcases hd with hd | ⟨hbad, hps0⟩
  · refine ⟨fun _ => hI_115 0 _ (by omega) ⟨hl, Or.inl hd, rfl⟩, fun q => absurd q hd.1⟩
  have hps : ∀ x, psR M x → psR M1 x := fun x hx => (hps0 x hx).1
  refine ⟨fun q => absurd hbad q, fun _ => ?_⟩
  have lx0 : lexP M1 := lex_x hl h1 (hps x0 hx0)
  have pex : ∀ y : Int, y = 1 → ∃ p, psR M1 (.inr p) := fun _ _ => by
    obtain ⟨p, e⟩ := bad_ps (hps x0 hx0) hbad
    exact ⟨p, e ▸ hps x0 hx0⟩
  refine ⟨⟨lx0, by decide, by rw [b01_01]; trivial, pex _⟩, fun v M2 R2 => ?_⟩
  obtain ⟨g1, g2, g3⟩ := room_use hl okW_c.2.2.1 w_nums.2.2.1 hps (by decide) R2
  have g3 : ∀ x, psR M x → (isI (TM M) (tpN M) wFrost x = 1 → (M 7 38 = 4 → v = 0 ∧ psR M2 (failS (TM M) (tpN M) 3 x)) ∧ (¬ M 7 38 = 4 → v = 1 ∧ psR M2 (nxtS (TM M) (tpN M) x))) ∧ (¬ isI (TM M) (tpN M) wFrost x = 1 → v = 0 ∧ psR M2 x) := g3
  have uni : ∀ x, psR M x → (isI (TM M) (tpN M) wFrost x = 1 ↔ isI (TM M) (tpN M) wFrost x0 = 1) := by
    intro x hx
    have a := is_iff (w := wFrost) okW_c.2.2.1 hx
    have b := is_iff (w := wFrost) okW_c.2.2.1 hx0
    exact a.symm.trans b
  refine ⟨fun z => ?_, fun z => ?_⟩
  · by_cases y : isI (TM M) (tpN M) wFrost x0 = 1
    · have full : M 7 38 = 4 := Classical.byContradiction fun w => by
        have := (((g3 x0 hx0).1 y).2 w).1
        omega
      refine hI_115 0 _ (by omega) ⟨g1, Or.inl ⟨?_, fun x hx => ?_⟩, rfl⟩
      · have := (((g3 x0 hx0).1 y).1 full).2
        intro w
        obtain ⟨p, e⟩ := bad_ps this w
        cases x0 <;> cases e
      · have k := (((g3 x hx).1 ((uni x hx).mpr y)).1 full).2
        unfold lineS
        rw [if_neg (hps0 x hx).2.1, if_neg (hps0 x hx).2.2.1, if_neg (hps0 x hx).2.2.2, if_pos ((uni x hx).mpr y), if_pos (show vS 4 M 0 6 = 4 from full)]
        exact ⟨k, rfl⟩
    · refine hI_115 0 _ (by omega) ⟨g1, ?_, rfl⟩
      have hb2 : M2 0 12 = 0 := by
        have := ((g3 x0 hx0).2 y).2
        obtain ⟨p, e⟩ := bad_ps (hps x0 hx0) hbad
        rw [e] at this
        exact this.1
      exact Or.inr ⟨hb2, fun x hx => ⟨((g3 x hx).2 (fun w => y ((uni x hx).mp w))).2, (hps0 x hx).2.1, (hps0 x hx).2.2.1, (hps0 x hx).2.2.2, fun w => y ((uni x hx).mp w)⟩⟩
  · have y : isI (TM M) (tpN M) wFrost x0 = 1 := Classical.byContradiction fun w => z ((g3 x0 hx0).2 w).1
    have full : ¬ M 7 38 = 4 := fun w => z (((g3 x0 hx0).1 y).1 w).1
    have lx : lexP M2 := lex_x g1 h1 (((g3 x0 hx0).1 y).2 full).2
    have e7 : M2 7 = M 7 := g1.1 _ (by decide)
    refine ⟨⟨lx, by rw [e7]; exact hc.2.2.2.1, by rw [e7]; omega⟩, fun M3 R3 => hQ _ ?_⟩
    obtain ⟨r1, r2⟩ := R3
    refine ⟨keepR_tr (keepR_lex g1) r1, fun x hx => ?_⟩
    have k := r2 _ (((g3 x hx).1 ((uni x hx).mpr y)).2 full).2
    rw [(lex_T g1).1, (lex_T g1).2.1, lex_v g1 4] at k
    unfold lineS
    rw [if_neg (hps0 x hx).2.1, if_neg (hps0 x hx).2.2.1, if_neg (hps0 x hx).2.2.2, if_pos ((uni x hx).mpr y), if_neg (show ¬ vS 4 M 0 6 = 4 from full)]
    exact k
set_option maxHeartbeats 4000000 in
set_option maxRecDepth 100000 in
theorem at7_lineHere_115 {M : Mm} {Q : Option AV → Mm → Prop} (hM : okM sh7 M) (hP : P7_lineHere M) (hQ : ∀ (M1 : Mm), R7_lineHere M M1 → Q none M1) {m : Nat} {M1 : Mm} (hM1 : okM sh7 M1) (hJ : J7_lineHere_115 M m M1) (I_23 : List AV → Mm → Prop) (hI_23 : ∀ (m_ : Nat) (M2 : Mm), m_ < m → J7_lineHere_23 M m_ M2 → I_23 [ar 0] M2) (I_54 : List AV → Mm → Prop) (hI_54 : ∀ (m_ : Nat) (M2 : Mm), m_ < m → J7_lineHere_54 M m_ M2 → I_54 [ar 0] M2) (I_84 : List AV → Mm → Prop) (hI_84 : ∀ (m_ : Nat) (M2 : Mm), m_ < m → J7_lineHere_84 M m_ M2 → I_84 [ar 0] M2) (I_115 : List AV → Mm → Prop) (hI_115 : ∀ (m_ : Nat) (M2 : Mm), m_ < m → J7_lineHere_115 M m_ M2 → I_115 [ar 0] M2) : wp (tb7 (csL cs7_lineHere)) sh7 1 0 cX7_lineHere [(23, [0], I_23), (54, [0], I_54), (84, [0], I_84), (115, [0], I_115)] Q 400 115 [(0, ar 0)] [] M1 := by
  obtain ⟨hl, hd, rfl⟩ := hJ
  obtain ⟨⟨h1, x0, hx0⟩, hbad0, hc⟩ := id hP
  simp only [e_wp dX7_lineHere_0 rfl, e_wp dX7_lineHere_1 rfl, e_wp dX7_lineHere_2 rfl, e_wp dX7_lineHere_5 rfl, e_wp dX7_lineHere_8 rfl, e_wp dX7_lineHere_9 rfl, e_wp dX7_lineHere_10 rfl, e_wp dX7_lineHere_13 rfl, e_wp dX7_lineHere_16 rfl, e_wp dX7_lineHere_17 rfl, e_wp dX7_lineHere_20 rfl, e_wp dX7_lineHere_23 rfl, e_wp dX7_lineHere_24 rfl, e_wp dX7_lineHere_27 rfl, e_wp dX7_lineHere_30 rfl, e_wp dX7_lineHere_31 rfl, e_wp dX7_lineHere_32 rfl, e_wp dX7_lineHere_35 rfl, e_wp dX7_lineHere_38 rfl, e_wp dX7_lineHere_39 rfl, e_wp dX7_lineHere_41 rfl, e_wp dX7_lineHere_44 rfl, e_wp dX7_lineHere_47 rfl, e_wp dX7_lineHere_48 rfl, e_wp dX7_lineHere_51 rfl, e_wp dX7_lineHere_54 rfl, e_wp dX7_lineHere_55 rfl, e_wp dX7_lineHere_58 rfl, e_wp dX7_lineHere_61 rfl, e_wp dX7_lineHere_62 rfl, e_wp dX7_lineHere_63 rfl, e_wp dX7_lineHere_66 rfl, e_wp dX7_lineHere_69 rfl, e_wp dX7_lineHere_70 rfl, e_wp dX7_lineHere_71 rfl, e_wp dX7_lineHere_74 rfl, e_wp dX7_lineHere_77 rfl, e_wp dX7_lineHere_78 rfl, e_wp dX7_lineHere_81 rfl, e_wp dX7_lineHere_84 rfl, e_wp dX7_lineHere_85 rfl, e_wp dX7_lineHere_88 rfl, e_wp dX7_lineHere_91 rfl, e_wp dX7_lineHere_92 rfl, e_wp dX7_lineHere_93 rfl, e_wp dX7_lineHere_96 rfl, e_wp dX7_lineHere_99 rfl, e_wp dX7_lineHere_101 rfl, e_wp dX7_lineHere_102 rfl, e_wp dX7_lineHere_105 rfl, e_wp dX7_lineHere_108 rfl, e_wp dX7_lineHere_109 rfl, e_wp dX7_lineHere_112 rfl, e_wp dX7_lineHere_115 rfl, e_wp dX7_lineHere_116 rfl, e_wp dX7_lineHere_119 rfl, e_wp dX7_lineHere_122 rfl, e_wp dX7_lineHere_123 rfl, e_wp dX7_lineHere_124 rfl, e_wp dX7_lineHere_127 rfl, k7_227, c7_is, P7_is, V7_is, cs7_lineHere, c7_isRoom, c7_bridgeLine, g7_168, k7_236, c7_cartLine, k7_241, c7_wardLine, k7_246, c7_frostLine, c7_fails, e_iconst, e_bipush, e_sipush, e_lconst_0, e_lconst_1, e_iload, e_iload_0, e_iload_1, e_iload_2, e_iload_3, e_lload, e_lload_0, e_lload_1, e_lload_2, e_lload_3, e_aload, e_aload_0, e_aload_1, e_aload_2, e_aload_3, e_istore, e_istore_0, e_istore_1, e_istore_2, e_istore_3, e_astore, e_astore_0, e_astore_1, e_astore_2, e_astore_3, e_lstore, e_lstore_0, e_lstore_1, e_lstore_2, e_lstore_3, e_iinc, e_iadd, e_isub, e_imul, e_ladd, e_lsub, e_lmul, e_idiv, e_irem, e_ldiv, e_lrem, e_ineg, e_lneg, e_iand, e_ior, e_ixor, e_ishl, e_ishr, e_iushr, e_lcmp, e_i2l, e_l2i, e_i2b, e_i2s, e_dup_i, e_dup_r, e_pop_i, e_pop_r, e_dup2_l, e_dup2_ir, e_dup2_ii, e_ifeq, e_ifne, e_iflt, e_ifge, e_ifgt, e_ifle, e_iceq, e_icne, e_iclt, e_icge, e_icgt, e_icle, e_goto, e_switch, e_invokevirtual, e_invokestatic, e_invokespecial, e_ret0, e_ret1, e_ret2, e_ret3, ldI_s, ldL_s, ldR_s, clO_s, ctP_s, ctS_s, mgo_0, mgo_s, pjc_s, pj_0, pj_s, lk_s, rm1_0, rm1_i, rm1_r, rm1_l, rm2_0, rm2_i, rm2_r, rm2_l, csL_s, lc_lt, lc_ge, lc_gt, lc_le, lc_eq, b01_0, b01_1, b01_01, b01_n, up2_o, up2_s, up2_u, ne_eq, reduceCtorEq, Nat.reduceAdd, Nat.reduceEqDiff, Nat.reduceLT, Nat.reduceLeDiff, Int.reduceLE, Int.reduceLT, Int.reduceAdd, Int.reduceNeg, Int.reduceMul, Int.reduceSub, Int.reduceEq, Int.reduceToNat, Int.reduceNatCast, Int.cast_ofNat_Int, ↓reduceIte, and_self, List.drop_succ_cons, List.drop_zero, List.take_succ_cons, List.take_zero, List.length_cons, List.length_nil, List.reverse_cons, List.reverse_nil, List.nil_append, List.cons_append, Option.toList, true_and, and_true, or_false, false_or, or_true, true_or, forall_const, Classical.not_not, not_false_eq_true, not_true_eq_false, false_implies, true_implies, implies_true, imp_self]
  rcases hd with hd | ⟨hbad, hps0⟩
  · refine ⟨fun _ => hQ _ ⟨keepR_lex hl, fun x hx => ⟨(hd.2 x hx).1, ?_⟩⟩, fun q => absurd q hd.1⟩
    rw [(hd.2 x hx).2, lex_v hl 4]
  refine ⟨fun q => absurd hbad q, fun _ => ⟨by show ¬ (1 : Int) = 0; decide, fun M2 R2 => hQ _ ?_⟩⟩
  obtain ⟨f1, f2⟩ := fail_lex R2
  refine ⟨keepR_tr (keepR_lex hl) (keepR_lex f1), fun x hx => ?_⟩
  obtain ⟨q0, q1, q2, q3, q4⟩ := hps0 x hx
  have k := f2 x q0
  rw [(lex_T hl).1, (lex_T hl).2.1] at k
  unfold lineS
  rw [if_neg q1, if_neg q2, if_neg q3, if_neg q4, lex_v f1 4, lex_v hl 4]
  exact ⟨k, rfl⟩
set_option maxHeartbeats 4000000 in
set_option maxRecDepth 100000 in
theorem m7_lineHere : MOK cl7 sh7 tyl7 [] 6 yX7_lineHere cX7_lineHere 1 none sp7_lineHere := by
  refine mok_of (own := RX7) (tb := tb7 (csL cs7_lineHere)) (rt := 0) (fuel := 400) (fun avs M Q => [(23, [0], fun m_ vs M1 => vs = [ar 0] ∧ J7_lineHere_23 M m_ M1), (54, [0], fun m_ vs M1 => vs = [ar 0] ∧ J7_lineHere_54 M m_ M1), (84, [0], fun m_ vs M1 => vs = [ar 0] ∧ J7_lineHere_84 M m_ M1), (115, [0], fun m_ vs M1 => vs = [ar 0] ∧ J7_lineHere_115 M m_ M1)]) (by decide) rfl nil_nw (tbOK7 _) rfl (csL_all ?_) ?_ ?_ ?_
  · intro q hq
    simp only [cs7_lineHere, List.mem_cons, List.not_mem_nil, or_false] at hq
    rcases hq with rfl | rfl | rfl | rfl | rfl | rfl | rfl
    · exact cg7_is (by decide)
    · exact cg7_isRoom (by decide)
    · exact cg7_bridgeLine (by decide)
    · exact cg7_cartLine (by decide)
    · exact cg7_wardLine (by decide)
    · exact cg7_frostLine (by decide)
    · exact cg7_fails (by decide)
  · intro avs M Q hsp
    obtain ⟨xs, hx⟩ := spV_un _ _ _ hsp
    obtain ⟨e, hl⟩ := unA_mkT hx
    obtain rfl := len0 hl
    have e : avs = [ar 0] := e
    subst e
    simp [szL, isL]
  · intro avs M Q hM hav hsp
    obtain ⟨xs, hx⟩ := spV_un _ _ _ hsp
    obtain ⟨e, hl⟩ := unA_mkT hx
    obtain rfl := len0 hl
    have e : avs = [ar 0] := e
    subst e
    exact in7_lineHere hM hsp.1 hsp.2 _ (fun m_ M2 hJ => ⟨m_, rfl, hJ⟩) _ (fun m_ M2 hJ => ⟨m_, rfl, hJ⟩) _ (fun m_ M2 hJ => ⟨m_, rfl, hJ⟩) _ (fun m_ M2 hJ => ⟨m_, rfl, hJ⟩)
  · intro avs M Q hM hav hsp q hq m_ vs M1 hM1 hv hJ
    obtain ⟨xs, hx⟩ := spV_un _ _ _ hsp
    obtain ⟨e, hl⟩ := unA_mkT hx
    obtain rfl := len0 hl
    have e : avs = [ar 0] := e
    subst e
    simp only [List.mem_cons, List.not_mem_nil, or_false] at hq
    rcases hq with rfl | rfl | rfl | rfl
    · obtain ⟨rfl, hJ⟩ := hJ
      exact at7_lineHere_23 hM hsp.1 hsp.2 hM1 hJ _ (fun m2 M2 hm hJ2 => ⟨m2, hm, rfl, hJ2⟩) _ (fun m2 M2 hm hJ2 => ⟨m2, hm, rfl, hJ2⟩) _ (fun m2 M2 hm hJ2 => ⟨m2, hm, rfl, hJ2⟩) _ (fun m2 M2 hm hJ2 => ⟨m2, hm, rfl, hJ2⟩)
    · obtain ⟨rfl, hJ⟩ := hJ
      exact at7_lineHere_54 hM hsp.1 hsp.2 hM1 hJ _ (fun m2 M2 hm hJ2 => ⟨m2, hm, rfl, hJ2⟩) _ (fun m2 M2 hm hJ2 => ⟨m2, hm, rfl, hJ2⟩) _ (fun m2 M2 hm hJ2 => ⟨m2, hm, rfl, hJ2⟩) _ (fun m2 M2 hm hJ2 => ⟨m2, hm, rfl, hJ2⟩)
    · obtain ⟨rfl, hJ⟩ := hJ
      exact at7_lineHere_84 hM hsp.1 hsp.2 hM1 hJ _ (fun m2 M2 hm hJ2 => ⟨m2, hm, rfl, hJ2⟩) _ (fun m2 M2 hm hJ2 => ⟨m2, hm, rfl, hJ2⟩) _ (fun m2 M2 hm hJ2 => ⟨m2, hm, rfl, hJ2⟩) _ (fun m2 M2 hm hJ2 => ⟨m2, hm, rfl, hJ2⟩)
    · obtain ⟨rfl, hJ⟩ := hJ
      exact at7_lineHere_115 hM hsp.1 hsp.2 hM1 hJ _ (fun m2 M2 hm hJ2 => ⟨m2, hm, rfl, hJ2⟩) _ (fun m2 M2 hm hJ2 => ⟨m2, hm, rfl, hJ2⟩) _ (fun m2 M2 hm hJ2 => ⟨m2, hm, rfl, hJ2⟩) _ (fun m2 M2 hm hJ2 => ⟨m2, hm, rfl, hJ2⟩)
theorem cg7_lineHere {lvl : Nat} (h : 6 < lvl) : CG RX7 cl7 sh7 tyl7 [] lvl 1 267 1 sp7_lineHere := cg_V (sg := []) nil_nw spV_mono spV_un m7_lineHere h rfl (by decide) rfl rfl ⟨rfl, by decide, by decide, rfl⟩ q1758 q1760 qs73 q138 q1761
