/-! The reader: the valley that it reads -/
def vZr (a A4 A5 A6 A7 A8 A9 A10 A11 : Nat → Int) : Vy := fun i j => match i with
  | 0 => if j = 0 then a 0 else if j = 1 then a 1 else if j = 2 then a 2 else if j = 3 then a 4 else if j = 4 then a 5 else if j = 5 then a 6 else if j = 6 then a 8 else if j = 7 then a 9 else if j = 8 then a 3 else 0
  | 1 => if (j : Int) < a 4 then A4 j else 0
  | 2 => if (j : Int) < a 4 then A5 j else 0
  | 3 => if (j : Int) < a 5 then A6 j else 0
  | 4 => if (j : Int) < a 5 then A7 j else 0
  | 5 => if (j : Int) < a 6 then A8 j else 0
  | 6 => if (j : Int) < a 6 then A9 j else 0
  | 7 => if (j : Int) < a 6 then A10 j else 0
  | 8 => if j = 0 then a 7 else 0
  | 9 => if (j : Int) < a 9 then actK (A11 j) else 0
  | 10 => if (j : Int) < a 9 then actC (A11 j) else 0
  | 11 => if (j : Int) < a 9 then actB (A11 j) else 0
  | _ => 0
def vZ (M : Mm) : Vy := vZr (M 1) (M 4) (M 5) (M 6) (M 7) (M 8) (M 9) (M 10) (M 11)
theorem vZ_K {M M1 : Mm} (h : zkK M M1) : vZ M1 = vZ M := by
  unfold vZ
  rw [h.1 1 (by decide), h.1 4 (by decide), h.1 5 (by decide), h.1 6 (by decide), h.1 7 (by decide), h.1 8 (by decide), h.1 9 (by decide), h.1 10 (by decide), h.1 11 (by decide)]
theorem vZr_cases {P : Nat → Prop} (h0 : P 0) (h1 : P 1) (h2 : P 2) (h3 : P 3) (h4 : P 4) (h5 : P 5) (h6 : P 6) (h7 : P 7) (h8 : P 8) (h9 : P 9) (h10 : P 10) (h11 : P 11) (h : ∀ i, 12 ≤ i → P i) : ∀ i, P i := by
  intro i
  rcases (show i = 0 ∨ i = 1 ∨ i = 2 ∨ i = 3 ∨ i = 4 ∨ i = 5 ∨ i = 6 ∨ i = 7 ∨ i = 8 ∨ i = 9 ∨ i = 10 ∨ i = 11 ∨ 12 ≤ i by omega) with rfl | rfl | rfl | rfl | rfl | rfl | rfl | rfl | rfl | rfl | rfl | rfl | q
  all_goals first | assumption | exact h _ q
theorem vZr_o {a A4 A5 A6 A7 A8 A9 A10 A11 : Nat → Int} {i j : Nat} (h : 12 ≤ i) : vZr a A4 A5 A6 A7 A8 A9 A10 A11 i j = 0 := by
  unfold vZr
  split <;> first | (exfalso; omega) | rfl
section
variable {a b A4 A5 A6 A7 A8 A9 A10 A11 B4 B5 B6 B7 B8 B9 B10 : Nat → Int} {n : Nat} {x y z : Int}
theorem vZr_0 {k c : Nat} (hkc : (k = 0 ∧ c = 0) ∨ (k = 1 ∧ c = 1) ∨ (k = 2 ∧ c = 2) ∨ (k = 3 ∧ c = 8)) (hk : b k = x) (ho : ∀ j, ¬ j = k → b j = a j) : vZr b A4 A5 A6 A7 A8 A9 A10 A11 = up2 (vZr a A4 A5 A6 A7 A8 A9 A10 A11) 0 c x := by
  have e4 := ho 4 (by omega)
  have e5 := ho 5 (by omega)
  have e6 := ho 6 (by omega)
  have e7 := ho 7 (by omega)
  have e8 := ho 8 (by omega)
  have e9 := ho 9 (by omega)
  funext i j
  revert i
  refine vZr_cases ?_ ?_ ?_ ?_ ?_ ?_ ?_ ?_ ?_ ?_ ?_ ?_ (fun i hi => by rw [vZr_o hi, up2_o (by omega), vZr_o hi])
  · rw [up2_r]
    rcases hkc with ⟨rfl, rfl⟩ | ⟨rfl, rfl⟩ | ⟨rfl, rfl⟩ | ⟨rfl, rfl⟩
    all_goals
      have h0 := ho 0
      have h1 := ho 1
      have h2 := ho 2
      have h3 := ho 3
      simp only [true_and]
      split
      · rename_i q
        rw [q]
        simp only [vZr, hk, Nat.reduceEqDiff, ↓reduceIte]
      · rename_i q
        simp only [vZr, q, if_false]
        try rw [h0 (by omega)]
        try rw [h1 (by omega)]
        try rw [h2 (by omega)]
        try rw [h3 (by omega)]
        try rw [e4, e5, e6, e8, e9]
  all_goals
    rw [up2_o (by decide)]
    simp only [vZr, e4, e5, e6, e7, e9]
theorem row_add {j n : Nat} {x A : Int} : (if (j : Int) < (n : Int) + 1 then (if j = n then x else A) else 0) = if (j : Int) = (n : Int) then x else (if (j : Int) < (n : Int) then A else 0) := by
  by_cases e : j = n
  · rw [if_pos (by omega), if_pos e, if_pos (by omega)]
  · by_cases q : (j : Int) < (n : Int)
    · rw [if_pos (by omega), if_neg e, if_neg (by omega), if_pos q]
    · rw [if_neg (by omega), if_neg (by omega), if_neg q]
theorem vZr_b (hn : a 4 = n) (h4 : b 4 = (n : Int) + 1) (ho : ∀ j, ¬ j = 4 → b j = a j) (hA : ∀ j, B4 j = if j = n then x else A4 j) (hB : ∀ j, B5 j = if j = n then y else A5 j) : vZr b B4 B5 A6 A7 A8 A9 A10 A11 = addV (vZr a A4 A5 A6 A7 A8 A9 A10 A11) 3 [(1, x), (2, y)] := by
  have e0 := ho 0 (by omega)
  have e1 := ho 1 (by omega)
  have e2 := ho 2 (by omega)
  have e3 := ho 3 (by omega)
  have e5 := ho 5 (by omega)
  have e6 := ho 6 (by omega)
  have e7 := ho 7 (by omega)
  have e8 := ho 8 (by omega)
  have e9 := ho 9 (by omega)
  funext i j
  revert i
  refine vZr_cases ?_ ?_ ?_ ?_ ?_ ?_ ?_ ?_ ?_ ?_ ?_ ?_ (fun i hi => ?_)
  · rw [add_0]
    by_cases q : j = 3
    · rw [if_pos q, q]
      simp only [vZr, h4, hn, Nat.reduceEqDiff, ↓reduceIte]
    · rw [if_neg q]
      simp only [vZr, q, if_false, e0, e1, e2, e3, e5, e6, e7, e8, e9]
  iterate 11
    · rw [add_s (by decide)]
      simp only [vZr, asI, hA, hB, e0, e1, e2, e3, e5, e6, e7, e8, e9, h4, hn, ↓reduceIte, Nat.reduceEqDiff, ite_self]
      try exact row_add
  · rw [add_s (by omega), vZr_o hi]
    simp only [asI, vZr_o hi, show ¬ i = 1 by omega, show ¬ i = 2 by omega, if_false]
    split <;> rfl
theorem vZr_c (hn : a 5 = n) (h4 : b 5 = (n : Int) + 1) (ho : ∀ j, ¬ j = 5 → b j = a j) (hA : ∀ j, B6 j = if j = n then x else A6 j) (hB : ∀ j, B7 j = if j = n then y else A7 j) : vZr b A4 A5 B6 B7 A8 A9 A10 A11 = addV (vZr a A4 A5 A6 A7 A8 A9 A10 A11) 4 [(3, x), (4, y)] := by
  have e0 := ho 0 (by omega)
  have e1 := ho 1 (by omega)
  have e2 := ho 2 (by omega)
  have e3 := ho 3 (by omega)
  have e5 := ho 4 (by omega)
  have e6 := ho 6 (by omega)
  have e7 := ho 7 (by omega)
  have e8 := ho 8 (by omega)
  have e9 := ho 9 (by omega)
  funext i j
  revert i
  refine vZr_cases ?_ ?_ ?_ ?_ ?_ ?_ ?_ ?_ ?_ ?_ ?_ ?_ (fun i hi => ?_)
  · rw [add_0]
    by_cases q : j = 4
    · rw [if_pos q, q]
      simp only [vZr, h4, hn, Nat.reduceEqDiff, ↓reduceIte]
    · rw [if_neg q]
      simp only [vZr, q, if_false, e0, e1, e2, e3, e5, e6, e7, e8, e9]
  iterate 11
    · rw [add_s (by decide)]
      simp only [vZr, asI, hA, hB, e0, e1, e2, e3, e5, e6, e7, e8, e9, h4, hn, ↓reduceIte, Nat.reduceEqDiff, ite_self]
      try exact row_add
  · rw [add_s (by omega), vZr_o hi]
    simp only [asI, vZr_o hi, show ¬ i = 3 by omega, show ¬ i = 4 by omega, if_false]
    split <;> rfl
theorem vZr_w (hn : a 6 = n) (h4 : b 6 = (n : Int) + 1) (ho : ∀ j, ¬ j = 6 → b j = a j) (hA : ∀ j, B8 j = if j = n then x else A8 j) (hB : ∀ j, B9 j = if j = n then y else A9 j) (hC : ∀ j, B10 j = if j = n then z else A10 j) : vZr b A4 A5 A6 A7 B8 B9 B10 A11 = addV (vZr a A4 A5 A6 A7 A8 A9 A10 A11) 5 [(5, x), (6, y), (7, z)] := by
  have e0 := ho 0 (by omega)
  have e1 := ho 1 (by omega)
  have e2 := ho 2 (by omega)
  have e3 := ho 3 (by omega)
  have e5 := ho 4 (by omega)
  have e6 := ho 5 (by omega)
  have e7 := ho 7 (by omega)
  have e8 := ho 8 (by omega)
  have e9 := ho 9 (by omega)
  funext i j
  revert i
  refine vZr_cases ?_ ?_ ?_ ?_ ?_ ?_ ?_ ?_ ?_ ?_ ?_ ?_ (fun i hi => ?_)
  · rw [add_0]
    by_cases q : j = 5
    · rw [if_pos q, q]
      simp only [vZr, h4, hn, Nat.reduceEqDiff, ↓reduceIte]
    · rw [if_neg q]
      simp only [vZr, q, if_false, e0, e1, e2, e3, e5, e6, e7, e8, e9]
  iterate 11
    · rw [add_s (by decide)]
      simp only [vZr, asI, hA, hB, hC, e0, e1, e2, e3, e5, e6, e7, e8, e9, h4, hn, ↓reduceIte, Nat.reduceEqDiff, ite_self]
      try exact row_add
  · rw [add_s (by omega), vZr_o hi]
    simp only [asI, vZr_o hi, show ¬ i = 5 by omega, show ¬ i = 6 by omega, show ¬ i = 7 by omega, if_false]
    split <;> rfl
theorem vZf_8 {j : Nat} {u v : Int} : (if j = 0 then u else 0) = if j = 0 then u else if j = 0 then v else 0 := by
  split <;> rfl
theorem vZr_f (h8 : b 8 = a 8 + 1) (h7 : b 7 = bor (a 7) (bshl 1 x)) (ho : ∀ j, ¬ j = 8 → ¬ j = 7 → b j = a j) : vZr b A4 A5 A6 A7 A8 A9 A10 A11 = frsV (vZr a A4 A5 A6 A7 A8 A9 A10 A11) x := by
  have e0 := ho 0 (by omega) (by omega)
  have e1 := ho 1 (by omega) (by omega)
  have e2 := ho 2 (by omega) (by omega)
  have e3 := ho 3 (by omega) (by omega)
  have e4 := ho 4 (by omega) (by omega)
  have e5 := ho 5 (by omega) (by omega)
  have e6 := ho 6 (by omega) (by omega)
  have e9 := ho 9 (by omega) (by omega)
  funext i j
  revert i
  unfold frsV
  refine vZr_cases ?_ ?_ ?_ ?_ ?_ ?_ ?_ ?_ ?_ ?_ ?_ ?_ (fun i hi => ?_)
  · by_cases q : j = 6
    · rw [q]
      simp only [vZr, h8, Nat.reduceEqDiff, ↓reduceIte]
    · simp only [vZr, q, ↓reduceIte, if_false, e0, e1, e2, e3, e4, e5, e6, e9]
  iterate 11
    · simp only [vZr, e0, e1, e2, e3, e4, e5, e6, e9, h7, ↓reduceIte, Nat.reduceEqDiff, false_and, true_and]
      try exact vZf_8
  · rw [vZr_o hi, vZr_o hi, if_neg (by omega), if_neg (by omega)]
end
