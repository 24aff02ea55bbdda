/-! Lines of a valley, plain (for both) -/
def asI : List (Nat × Int) → Nat → Int → Int
  | [], _, d => d
  | (k, v) :: r, i, d => if i = k then v else asI r i d
/-- one more of a count: what is held of it, by rows -/
def addV (V : Vy) (c : Nat) (l : List (Nat × Int)) : Vy := fun i j => if i = 0 then (if j = c then V 0 c + 1 else V 0 j) else if (j : Int) = V 0 c then asI l i (V i j) else V i j
def frsV (V : Vy) (v : Int) : Vy := fun i j => if i = 0 then (if j = 6 then V 0 6 + 1 else V 0 j) else if i = 8 ∧ j = 0 then bor (V 8 0) (bshl 1 v) else V i j
section
variable (T : Nat → Int) (n : Nat)
def bridgeS (V : Vy) (x : Ps) : Vy × Ps := (addV V 3 [(1, (told T n wHolds 1 300 x).1), (2, (told T n wToll 0 9 (told T n wHolds 1 300 x).2).1)], (told T n wToll 0 9 (told T n wHolds 1 300 x).2).2)
def cartS (V : Vy) (x : Ps) : Vy × Ps := (addV V 4 [(3, (numS T n 1 99 x).1), (4, (told T n wBy 0 (V 0 3 - 1) (numS T n 1 99 x).2).1)], (told T n wBy 0 (V 0 3 - 1) (numS T n 1 99 x).2).2)
/-- a ward that leads to its own bridge is bad -/
def ownS (a : Int) (x : Ps) : Ps := match x with
  | .inl e => .inl e
  | .inr p => if (tkP T n p).1 = 2 ∧ numN T n p = a then failS T n 2 (.inr p) else .inr p
def wardA (V : Vy) (x : Ps) : Int × Ps := numS T n 0 (V 0 3 - 1) x
def wardO (V : Vy) (x : Ps) : Int × Ps := told T n wOver 0 99 (wardA T n V x).2
def wardX (V : Vy) (x : Ps) : Ps := askS T n wTo (wardO T n V x).2
def wardT (V : Vy) (x : Ps) : Int × Ps := if isI T n wHalt (wardX T n V x) = 1 then (-1, takeS T n wHalt (wardX T n V x)) else numS T n 0 (V 0 3 - 1) (ownS T n (wardA T n V x).1 (wardX T n V x))
def wardS (V : Vy) (x : Ps) : Vy × Ps := (addV V 5 [(5, (wardA T n V x).1), (6, (wardO T n V x).1), (7, (wardT T n V x).1)], (wardT T n V x).2)
def frostS (V : Vy) (x : Ps) : Vy × Ps := (frsV V (told T n wAt 0 6 x).1, (told T n wAt 0 6 x).2)
def lineS (V : Vy) (x : Ps) : Vy × Ps :=
  if isI T n wBridge x = 1 then (if V 0 3 = 3 then (V, failS T n 3 x) else bridgeS T n V (nxtS T n x))
  else if isI T n wCart x = 1 then (if V 0 4 = 7 then (V, failS T n 3 x) else cartS T n V (nxtS T n x))
  else if isI T n wWard x = 1 then (if V 0 5 = 5 then (V, failS T n 3 x) else wardS T n V (nxtS T n x))
  else if isI T n wFrost x = 1 then (if V 0 6 = 4 then (V, failS T n 3 x) else frostS T n V (nxtS T n x))
  else (V, failS T n 1 x)
def frst0 (x : Ps) : Ps := askS T n wValley x
def frst1 (x : Ps) : Int × Ps := told T n wLaw 0 3 (frst0 T n x)
def frst2 (x : Ps) : Int × Ps := told T n wFrost 1 50 (frst1 T n x).2
def frst3 (x : Ps) : Int × Ps := told T n wOdds 0 10 (frst2 T n x).2
def firstS (V : Vy) (x : Ps) : Vy × Ps := (up2 (up2 (up2 V 0 0 (frst1 T n x).1) 0 1 (frst2 T n x).1) 0 2 (frst3 T n x).1, (frst3 T n x).2)
def bodyS (V : Vy) (x : Ps) : Vy × Ps := if V 0 8 = 0 then firstS T n V x else lineS T n V x
def lineE (V : Vy) (x : Ps) : Vy × Ps := (up2 (bodyS T n V x).1 0 8 (V 0 8 + 1), endS T n (bodyS T n V x).2)
abbrev moreS (x : Ps) : Prop := match x with
  | .inl _ => False
  | .inr p => ¬ (tkP T n p).1 = 0
/-- lines are read, of at most so many -/
def readS : Nat → Vy → Ps → Vy × Ps
  | 0, V, x => (V, x)
  | k + 1, V, x => match x with
    | .inl e => (V, .inl e)
    | .inr p => if (tkP T n p).1 = 0 then (V, .inr p) else readS k (lineE T n V (.inr p)).1 (lineE T n V (.inr p)).2
abbrev readA : Vy × Ps := readS T n (n + 1) (fun _ _ => 0) (.inr 0)
end
/-! SagMemoryModel: lines -/
theorem okW_c : okW wValley ∧ okW wLaw ∧ okW wFrost ∧ okW wOdds ∧ okW wBridge ∧ okW wHolds ∧ okW wToll ∧ okW wCart ∧ okW wBy ∧ okW wWard ∧ okW wOver ∧ okW wTo ∧ okW wHalt ∧ okW wAt := by
  unfold okW letL
  decide
def lowK (M M1 : Mm) : Prop := ∀ q ∈ vSz, ∀ j : Nat, j < q.2 * 4 → M1 q.1 j = M q.1 j
/-- what stays while a valley is read -/
def keepR (M M1 : Mm) : Prop := frm (0 :: vRows) M M1 ∧ (∀ j, ¬ (7 ≤ j ∧ j ≤ 13) → M1 0 j = M 0 j) ∧ lowK M M1
theorem keepR_rf {M : Mm} : keepR M M := ⟨frm_rf, fun _ _ => rfl, fun _ _ _ _ => rfl⟩
theorem keepR_tr {M M1 M2 : Mm} (h : keepR M M1) (h2 : keepR M1 M2) : keepR M M2 := ⟨frm_tr h.1 h2.1 (fun _ q => q), fun j a => (h2.2.1 j a).trans (h.2.1 j a), fun q hq j hj => (h2.2.2 q hq j hj).trans (h.2.2 q hq j hj)⟩
theorem keepR_lex {M M1 : Mm} (h : lexK M M1) : keepR M M1 := ⟨frm_w h.1 (by decide), h.2, fun q hq j _ => by
  rw [h.1 q.1 (by
    intro z
    simp only [List.mem_cons, List.not_mem_nil, or_false] at hq z
    rcases hq with rfl | rfl | rfl | rfl | rfl | rfl | rfl <;> exact absurd z (by decide))]⟩
theorem keepR_u {M M1 : Mm} {k m i : Nat} {x : Int} (h : keepR M M1) (hk : (k, m) ∈ vSz) (hi : m * 4 ≤ i) : keepR M (up2 M1 k i x) := by
  have hk0 : k ∈ vRows ∧ ¬ k = 0 := by
    simp only [List.mem_cons, List.not_mem_nil, or_false, Prod.mk.injEq] at hk
    rcases hk with ⟨rfl, rfl⟩ | ⟨rfl, rfl⟩ | ⟨rfl, rfl⟩ | ⟨rfl, rfl⟩ | ⟨rfl, rfl⟩ | ⟨rfl, rfl⟩ | ⟨rfl, rfl⟩ <;> decide
  refine ⟨frm_up h.1 (List.mem_cons_of_mem _ hk0.1), fun j hj => ?_, fun q hq j hj => ?_⟩
  · rw [up2_o (fun e => hk0.2 e.symm)]; exact h.2.1 j hj
  · by_cases e : q.1 = k
    · have e2 : q.2 = m := by
        simp only [List.mem_cons, List.not_mem_nil, or_false, Prod.mk.injEq] at hk hq
        rcases hk with ⟨rfl, rfl⟩ | ⟨rfl, rfl⟩ | ⟨rfl, rfl⟩ | ⟨rfl, rfl⟩ | ⟨rfl, rfl⟩ | ⟨rfl, rfl⟩ | ⟨rfl, rfl⟩ <;> rcases hq with rfl | rfl | rfl | rfl | rfl | rfl | rfl <;> first | rfl | exact absurd e (by decide)
      rw [e, up2_n (by omega), ← e]
      exact h.2.2 q hq j hj
    · rw [up2_o e]
      exact h.2.2 q hq j hj
theorem keepR_T {M M1 : Mm} (h : keepR M M1) : TM M1 = TM M ∧ tpN M1 = tpN M ∧ (tpI M → tpI M1) := by
  have h6 := h.2.1 6 (by decide)
  refine ⟨h.1 _ (by decide), ?_, fun q => ?_⟩
  · show (M1 0 6).toNat = (M 0 6).toNat
    rw [h6]
  · show 0 ≤ M1 0 6 ∧ M1 0 6 ≤ 700
    rw [h6]; exact q
theorem ps_u {M : Mm} {k i : Nat} {v : Int} {x : Ps} (hk : ¬ k = 0) (h5 : ¬ k = 5) (h : psR M x) : psR (up2 M k i v) x := by
  cases x with
  | inl e => exact ⟨(up2_o (fun z => hk z.symm)).trans h.1, (up2_o (fun z => hk z.symm)).trans h.2.1, h.2.2⟩
  | inr p => exact ⟨(up2_o (fun z => hk z.symm)).trans h.1, tok_k (up2_ne (fun z => h5 z.symm)) (fun j _ _ => up2_o (fun z => hk z.symm)) h.2⟩
theorem num_use {M M1 : Mm} {w lo hi v : Int} {u : List Int} {x : Ps} (hR : R7_number w lo hi M v M1) (hx : psR M x) (hu : okW u) (he : wL u = w) : psR M1 (told (TM M) (tpN M) u lo hi x).2 ∧ v = (told (TM M) (tpN M) u lo hi x).1 := hR.2 x u hx hu he
theorem numS_b {T : Nat → Int} {n : Nat} {lo hi B : Int} {x : Ps} (h1 : lo ≤ B) (h2 : hi ≤ B) : (numS T n lo hi x).1 ≤ B := by
  cases x with
  | inl e => exact h1
  | inr p =>
    show (if (tkP T n p).1 = 2 then (if lo ≤ numN T n p ∧ numN T n p ≤ hi then (numN T n p, _) else (lo, _)) else (lo, _) : Int × Ps).1 ≤ B
    split
    · split
      · rename_i q
        exact Int.le_trans q.2 h2
      · exact h1
    · exact h1
theorem add_0 {V : Vy} {c j : Nat} {l : List (Nat × Int)} : addV V c l 0 j = if j = c then V 0 c + 1 else V 0 j := rfl
theorem add_s {V : Vy} {c i j : Nat} {l : List (Nat × Int)} (hi : ¬ i = 0) : addV V c l i j = if (j : Int) = V 0 c then asI l i (V i j) else V i j := if_neg hi
theorem add_k {V : Vy} {c i j : Nat} {l : List (Nat × Int)} (hi : ¬ i = 0) (h : asI l i (V i j) = V i j) : addV V c l i j = V i j := by
  rw [add_s hi, h]
  split <;> rfl
theorem vS_bridge {M M1 : Mm} {n : Nat} {a b : Int} (hn : M 7 35 = n) (ho : ∀ k, k ∈ [6, 9, 10, 11, 12] → M1 k = M k) (hh : ∀ j, M1 7 j = if j = 35 then (n : Int) + 1 else M 7 j) (hr : ∀ j, M1 8 j = if j = 2 * (12 + n) then a else if j = 2 * (12 + n) + 1 then b else M 8 j) : vS 4 M1 = addV (vS 4 M) 3 [(1, a), (2, b)] := by
  have e0 : vS 4 M 0 3 = n := hn
  have g : ∀ c, c < 8 → ¬ c = 3 → M1 7 (8 * 4 + c) = M 7 (8 * 4 + c) := fun c hc hne => by rw [hh, if_neg (by omega)]
  have gc : M1 7 (8 * 4 + 3) = (n : Int) + 1 := by rw [hh, if_pos (by decide)]
  have key : ∀ i, ∀ j, vS 4 M1 i j = addV (vS 4 M) 3 [(1, a), (2, b)] i j := by
    refine vS_cases ?_ ?_ ?_ ?_ ?_ ?_ ?_ ?_ ?_ ?_ ?_ ?_ ?_
    · intro j
      rw [add_0, e0, vS_r0 4 M1, vS_r0 4 M j, ho 6 (by decide)]
      by_cases e : j = 3
      · rw [if_pos e, e, if_pos (by decide), gc]
      · rw [if_neg e]
        by_cases z : j < 8
        · rw [if_pos z, if_pos z, g j z e]
        · rw [if_neg z, if_neg z]
    · intro j
      rw [add_s (by decide), vS_r1, vS_r1, e0, gc, hr]
      by_cases e : j = n
      · rw [if_pos (by omega), if_pos (by omega), if_pos (show (j : Int) = (n : Int) by omega)]
        first | rfl | simp [asI]
      · rw [if_neg (show ¬ 2 * (3 * 4 + j) = 2 * (12 + n) by omega), if_neg (show ¬ 2 * (3 * 4 + j) = 2 * (12 + n) + 1 by omega), if_neg (show ¬ (j : Int) = (n : Int) by omega)]
        show _ = if (j : Int) < M 7 (8 * 4 + 3) then _ else _
        rw [show M 7 (8 * 4 + 3) = (n : Int) from hn]
        by_cases z : (j : Int) < n
        · rw [if_pos z, if_pos (by omega)]
        · rw [if_neg z, if_neg (by omega)]
    · intro j
      rw [add_s (by decide), vS_r2, vS_r2, e0, gc, hr]
      by_cases e : j = n
      · rw [if_pos (by omega), if_neg (by omega), if_pos (by omega), if_pos (show (j : Int) = (n : Int) by omega)]
        first | rfl | simp [asI]
      · rw [if_neg (show ¬ 2 * (3 * 4 + j) + 1 = 2 * (12 + n) by omega), if_neg (show ¬ 2 * (3 * 4 + j) + 1 = 2 * (12 + n) + 1 by omega), if_neg (show ¬ (j : Int) = (n : Int) by omega)]
        show _ = if (j : Int) < M 7 (8 * 4 + 3) then _ else _
        rw [show M 7 (8 * 4 + 3) = (n : Int) from hn]
        by_cases z : (j : Int) < n
        · rw [if_pos z, if_pos (by omega)]
        · rw [if_neg z, if_neg (by omega)]
    · intro j
      rw [add_k (by decide) (by simp [asI]), vS_r3, vS_r3, g 4 (by decide) (by decide), ho 9 (by decide)]
    · intro j
      rw [add_k (by decide) (by simp [asI]), vS_r4, vS_r4, g 4 (by decide) (by decide), ho 9 (by decide)]
    · intro j
      rw [add_k (by decide) (by simp [asI]), vS_r5, vS_r5, g 5 (by decide) (by decide), ho 10 (by decide)]
    · intro j
      rw [add_k (by decide) (by simp [asI]), vS_r6, vS_r6, g 5 (by decide) (by decide), ho 10 (by decide)]
    · intro j
      rw [add_k (by decide) (by simp [asI]), vS_r7, vS_r7, g 5 (by decide) (by decide), ho 10 (by decide)]
    · intro j
      rw [add_k (by decide) (by simp [asI]), vS_r8, vS_r8, g 6 (by decide) (by decide), ho 11 (by decide)]
    · intro j
      rw [add_k (by decide) (by simp [asI]), vS_r9, vS_r9, g 7 (by decide) (by decide), ho 12 (by decide)]
    · intro j
      rw [add_k (by decide) (by simp [asI]), vS_r10, vS_r10, g 7 (by decide) (by decide), ho 12 (by decide)]
    · intro j
      rw [add_k (by decide) (by simp [asI]), vS_r11, vS_r11, g 7 (by decide) (by decide), ho 12 (by decide)]
    · intro k j
      rw [add_k (by omega) (by simp [asI]), vS_hi, vS_hi]
  exact funext fun i => funext fun j => key i j
theorem vS_cart {M M1 : Mm} {n : Nat} {a b : Int} (hn : M 7 36 = n) (ho : ∀ k, k ∈ [6, 8, 10, 11, 12] → M1 k = M k) (hh : ∀ j, M1 7 j = if j = 36 then (n : Int) + 1 else M 7 j) (hr : ∀ j, M1 9 j = if j = 2 * (28 + n) then a else if j = 2 * (28 + n) + 1 then b else M 9 j) : vS 4 M1 = addV (vS 4 M) 4 [(3, a), (4, b)] := by
  have e0 : vS 4 M 0 4 = n := hn
  have g : ∀ c, c < 8 → ¬ c = 4 → M1 7 (8 * 4 + c) = M 7 (8 * 4 + c) := fun c hc hne => by rw [hh, if_neg (by omega)]
  have gc : M1 7 (8 * 4 + 4) = (n : Int) + 1 := by rw [hh, if_pos (by decide)]
  have key : ∀ i, ∀ j, vS 4 M1 i j = addV (vS 4 M) 4 [(3, a), (4, b)] i j := by
    refine vS_cases ?_ ?_ ?_ ?_ ?_ ?_ ?_ ?_ ?_ ?_ ?_ ?_ ?_
    · intro j
      rw [add_0, e0, vS_r0 4 M1, vS_r0 4 M j, ho 6 (by decide)]
      by_cases e : j = 4
      · rw [if_pos e, e, if_pos (by decide), gc]
      · rw [if_neg e]
        by_cases z : j < 8
        · rw [if_pos z, if_pos z, g j z e]
        · rw [if_neg z, if_neg z]
    · intro j
      rw [add_k (by decide) (by simp [asI]), vS_r1, vS_r1, g 3 (by decide) (by decide), ho 8 (by decide)]
    · intro j
      rw [add_k (by decide) (by simp [asI]), vS_r2, vS_r2, g 3 (by decide) (by decide), ho 8 (by decide)]
    · intro j
      rw [add_s (by decide), vS_r3, vS_r3, e0, gc, hr]
      by_cases e : j = n
      · rw [if_pos (by omega), if_pos (by omega), if_pos (show (j : Int) = (n : Int) by omega)]
        first | rfl | simp [asI]
      · rw [if_neg (show ¬ 2 * (7 * 4 + j) = 2 * (28 + n) by omega), if_neg (show ¬ 2 * (7 * 4 + j) = 2 * (28 + n) + 1 by omega), if_neg (show ¬ (j : Int) = (n : Int) by omega)]
        show _ = if (j : Int) < M 7 (8 * 4 + 4) then _ else _
        rw [show M 7 (8 * 4 + 4) = (n : Int) from hn]
        by_cases z : (j : Int) < n
        · rw [if_pos z, if_pos (by omega)]
        · rw [if_neg z, if_neg (by omega)]
    · intro j
      rw [add_s (by decide), vS_r4, vS_r4, e0, gc, hr]
      by_cases e : j = n
      · rw [if_pos (by omega), if_neg (by omega), if_pos (by omega), if_pos (show (j : Int) = (n : Int) by omega)]
        first | rfl | simp [asI]
      · rw [if_neg (show ¬ 2 * (7 * 4 + j) + 1 = 2 * (28 + n) by omega), if_neg (show ¬ 2 * (7 * 4 + j) + 1 = 2 * (28 + n) + 1 by omega), if_neg (show ¬ (j : Int) = (n : Int) by omega)]
        show _ = if (j : Int) < M 7 (8 * 4 + 4) then _ else _
        rw [show M 7 (8 * 4 + 4) = (n : Int) from hn]
        by_cases z : (j : Int) < n
        · rw [if_pos z, if_pos (by omega)]
        · rw [if_neg z, if_neg (by omega)]
    · intro j
      rw [add_k (by decide) (by simp [asI]), vS_r5, vS_r5, g 5 (by decide) (by decide), ho 10 (by decide)]
    · intro j
      rw [add_k (by decide) (by simp [asI]), vS_r6, vS_r6, g 5 (by decide) (by decide), ho 10 (by decide)]
    · intro j
      rw [add_k (by decide) (by simp [asI]), vS_r7, vS_r7, g 5 (by decide) (by decide), ho 10 (by decide)]
    · intro j
      rw [add_k (by decide) (by simp [asI]), vS_r8, vS_r8, g 6 (by decide) (by decide), ho 11 (by decide)]
    · intro j
      rw [add_k (by decide) (by simp [asI]), vS_r9, vS_r9, g 7 (by decide) (by decide), ho 12 (by decide)]
    · intro j
      rw [add_k (by decide) (by simp [asI]), vS_r10, vS_r10, g 7 (by decide) (by decide), ho 12 (by decide)]
    · intro j
      rw [add_k (by decide) (by simp [asI]), vS_r11, vS_r11, g 7 (by decide) (by decide), ho 12 (by decide)]
    · intro k j
      rw [add_k (by omega) (by simp [asI]), vS_hi, vS_hi]
  exact funext fun i => funext fun j => key i j
theorem vS_ward {M M1 : Mm} {n : Nat} {a b c : Int} (hn : M 7 37 = n) (ho : ∀ k, k ∈ [6, 8, 9, 11, 12] → M1 k = M k) (hh : ∀ j, M1 7 j = if j = 37 then (n : Int) + 1 else M 7 j) (hr : ∀ j, M1 10 j = if j = 3 * (20 + n) then a else if j = 3 * (20 + n) + 1 then b else if j = 3 * (20 + n) + 2 then c else M 10 j) : vS 4 M1 = addV (vS 4 M) 5 [(5, a), (6, b), (7, c)] := by
  have e0 : vS 4 M 0 5 = n := hn
  have g : ∀ c, c < 8 → ¬ c = 5 → M1 7 (8 * 4 + c) = M 7 (8 * 4 + c) := fun c hc hne => by rw [hh, if_neg (by omega)]
  have gc : M1 7 (8 * 4 + 5) = (n : Int) + 1 := by rw [hh, if_pos (by decide)]
  have key : ∀ i, ∀ j, vS 4 M1 i j = addV (vS 4 M) 5 [(5, a), (6, b), (7, c)] i j := by
    refine vS_cases ?_ ?_ ?_ ?_ ?_ ?_ ?_ ?_ ?_ ?_ ?_ ?_ ?_
    · intro j
      rw [add_0, e0, vS_r0 4 M1, vS_r0 4 M j, ho 6 (by decide)]
      by_cases e : j = 5
      · rw [if_pos e, e, if_pos (by decide), gc]
      · rw [if_neg e]
        by_cases z : j < 8
        · rw [if_pos z, if_pos z, g j z e]
        · rw [if_neg z, if_neg z]
    · intro j
      rw [add_k (by decide) (by simp [asI]), vS_r1, vS_r1, g 3 (by decide) (by decide), ho 8 (by decide)]
    · intro j
      rw [add_k (by decide) (by simp [asI]), vS_r2, vS_r2, g 3 (by decide) (by decide), ho 8 (by decide)]
    · intro j
      rw [add_k (by decide) (by simp [asI]), vS_r3, vS_r3, g 4 (by decide) (by decide), ho 9 (by decide)]
    · intro j
      rw [add_k (by decide) (by simp [asI]), vS_r4, vS_r4, g 4 (by decide) (by decide), ho 9 (by decide)]
    · intro j
      rw [add_s (by decide), vS_r5, vS_r5, e0, gc, hr]
      by_cases e : j = n
      · rw [if_pos (by omega), if_pos (by omega), if_pos (show (j : Int) = (n : Int) by omega)]
        first | rfl | simp [asI]
      · rw [if_neg (show ¬ 3 * (5 * 4 + j) = 3 * (20 + n) by omega), if_neg (show ¬ 3 * (5 * 4 + j) = 3 * (20 + n) + 1 by omega), if_neg (show ¬ 3 * (5 * 4 + j) = 3 * (20 + n) + 2 by omega), if_neg (show ¬ (j : Int) = (n : Int) by omega)]
        show _ = if (j : Int) < M 7 (8 * 4 + 5) then _ else _
        rw [show M 7 (8 * 4 + 5) = (n : Int) from hn]
        by_cases z : (j : Int) < n
        · rw [if_pos z, if_pos (by omega)]
        · rw [if_neg z, if_neg (by omega)]
    · intro j
      rw [add_s (by decide), vS_r6, vS_r6, e0, gc, hr]
      by_cases e : j = n
      · rw [if_pos (by omega), if_neg (by omega), if_pos (by omega), if_pos (show (j : Int) = (n : Int) by omega)]
        first | rfl | simp [asI]
      · rw [if_neg (show ¬ 3 * (5 * 4 + j) + 1 = 3 * (20 + n) by omega), if_neg (show ¬ 3 * (5 * 4 + j) + 1 = 3 * (20 + n) + 1 by omega), if_neg (show ¬ 3 * (5 * 4 + j) + 1 = 3 * (20 + n) + 2 by omega), if_neg (show ¬ (j : Int) = (n : Int) by omega)]
        show _ = if (j : Int) < M 7 (8 * 4 + 5) then _ else _
        rw [show M 7 (8 * 4 + 5) = (n : Int) from hn]
        by_cases z : (j : Int) < n
        · rw [if_pos z, if_pos (by omega)]
        · rw [if_neg z, if_neg (by omega)]
    · intro j
      rw [add_s (by decide), vS_r7, vS_r7, e0, gc, hr]
      by_cases e : j = n
      · rw [if_pos (by omega), if_neg (by omega), if_neg (by omega), if_pos (by omega), if_pos (show (j : Int) = (n : Int) by omega)]
        first | rfl | simp [asI]
      · rw [if_neg (show ¬ 3 * (5 * 4 + j) + 2 = 3 * (20 + n) by omega), if_neg (show ¬ 3 * (5 * 4 + j) + 2 = 3 * (20 + n) + 1 by omega), if_neg (show ¬ 3 * (5 * 4 + j) + 2 = 3 * (20 + n) + 2 by omega), if_neg (show ¬ (j : Int) = (n : Int) by omega)]
        show _ = if (j : Int) < M 7 (8 * 4 + 5) then _ else _
        rw [show M 7 (8 * 4 + 5) = (n : Int) from hn]
        by_cases z : (j : Int) < n
        · rw [if_pos z, if_pos (by omega)]
        · rw [if_neg z, if_neg (by omega)]
    · intro j
      rw [add_k (by decide) (by simp [asI]), vS_r8, vS_r8, g 6 (by decide) (by decide), ho 11 (by decide)]
    · intro j
      rw [add_k (by decide) (by simp [asI]), vS_r9, vS_r9, g 7 (by decide) (by decide), ho 12 (by decide)]
    · intro j
      rw [add_k (by decide) (by simp [asI]), vS_r10, vS_r10, g 7 (by decide) (by decide), ho 12 (by decide)]
    · intro j
      rw [add_k (by decide) (by simp [asI]), vS_r11, vS_r11, g 7 (by decide) (by decide), ho 12 (by decide)]
    · intro k j
      rw [add_k (by omega) (by simp [asI]), vS_hi, vS_hi]
  exact funext fun i => funext fun j => key i j
theorem vS_frost {M M1 : Mm} {n : Nat} {a : Int} (hn : M 7 38 = n) (ho : ∀ k, k ∈ [6, 8, 9, 10, 12] → M1 k = M k) (hh : ∀ j, M1 7 j = if j = 38 then (n : Int) + 1 else M 7 j) (hr : ∀ j, M1 11 j = if j = 16 + n then a else M 11 j) : vS 4 M1 = frsV (vS 4 M) a := by
  have e0 : vS 4 M 0 6 = n := hn
  have g : ∀ c, c < 8 → ¬ c = 6 → M1 7 (8 * 4 + c) = M 7 (8 * 4 + c) := fun c hc hne => by rw [hh, if_neg (by omega)]
  have gc : M1 7 (8 * 4 + 6) = (n : Int) + 1 := by rw [hh, if_pos (by decide)]
  have f0 : ∀ {i j}, ¬ i = 0 → ¬ i = 8 → frsV (vS 4 M) a i j = vS 4 M i j := fun {i j} h1 h2 => (if_neg h1).trans (if_neg (fun w => h2 w.1))
  have key : ∀ i, ∀ j, vS 4 M1 i j = frsV (vS 4 M) a i j := by
    refine vS_cases ?_ ?_ ?_ ?_ ?_ ?_ ?_ ?_ ?_ ?_ ?_ ?_ ?_
    · intro j
      show _ = if j = 6 then vS 4 M 0 6 + 1 else vS 4 M 0 j
      rw [e0, vS_r0 4 M1, vS_r0 4 M j, ho 6 (by decide)]
      by_cases e : j = 6
      · rw [if_pos e, e, if_pos (by decide), gc]
      · rw [if_neg e]
        by_cases z : j < 8
        · rw [if_pos z, if_pos z, g j z e]
        · rw [if_neg z, if_neg z]
    · intro j
      rw [f0 (by decide) (by decide), vS_r1, vS_r1, g 3 (by decide) (by decide), ho 8 (by decide)]
    · intro j
      rw [f0 (by decide) (by decide), vS_r2, vS_r2, g 3 (by decide) (by decide), ho 8 (by decide)]
    · intro j
      rw [f0 (by decide) (by decide), vS_r3, vS_r3, g 4 (by decide) (by decide), ho 9 (by decide)]
    · intro j
      rw [f0 (by decide) (by decide), vS_r4, vS_r4, g 4 (by decide) (by decide), ho 9 (by decide)]
    · intro j
      rw [f0 (by decide) (by decide), vS_r5, vS_r5, g 5 (by decide) (by decide), ho 10 (by decide)]
    · intro j
      rw [f0 (by decide) (by decide), vS_r6, vS_r6, g 5 (by decide) (by decide), ho 10 (by decide)]
    · intro j
      rw [f0 (by decide) (by decide), vS_r7, vS_r7, g 5 (by decide) (by decide), ho 10 (by decide)]
    · intro j
      have r8 : frsV (vS 4 M) a 8 j = if j = 0 then bor (vS 4 M 8 0) (bshl 1 a) else vS 4 M 8 j := by simp [frsV]
      rw [r8, vS_r8 4 M1, gc]
      by_cases e : j = 0
      · rw [if_pos e, if_pos e, vS_r8 4 M 0, if_pos rfl, show M 7 (8 * 4 + 6) = (n : Int) from hn, show ((n : Int) + 1).toNat = n + 1 by omega, Int.toNat_natCast]
        show bor (frB (fun k => M1 11 (4 * 4 + k)) n) (bshl 1 (M1 11 (4 * 4 + n))) = _
        rw [hr (4 * 4 + n), if_pos (by omega), frB_congr (g := fun k => M 11 (4 * 4 + k)) (fun k hk => by rw [hr, if_neg (by omega)])]
      · rw [if_neg e, if_neg e, vS_r8 4 M j, if_neg e]
    · intro j
      rw [f0 (by decide) (by decide), vS_r9, vS_r9, g 7 (by decide) (by decide), ho 12 (by decide)]
    · intro j
      rw [f0 (by decide) (by decide), vS_r10, vS_r10, g 7 (by decide) (by decide), ho 12 (by decide)]
    · intro j
      rw [f0 (by decide) (by decide), vS_r11, vS_r11, g 7 (by decide) (by decide), ho 12 (by decide)]
    · intro k j
      rw [f0 (by omega) (by omega), vS_hi, vS_hi]
  exact funext fun i => funext fun j => key i j
theorem up2_row {M : Mm} {k i j : Nat} {x : Int} : up2 M k i x k j = if j = i then x else M k j := by
  rw [up2_r]
  simp
def P7_bridgeLine (M : Mm) : Prop := lexP M ∧ 0 ≤ M 7 35 ∧ M 7 35 ≤ 2
def R7_bridgeLine (M : Mm) (M1 : Mm) : Prop := keepR M M1 ∧ ∀ x, psR M x → psR M1 (bridgeS (TM M) (tpN M) (vS 4 M) x).2 ∧ vS 4 M1 = (bridgeS (TM M) (tpN M) (vS 4 M) x).1
def sp7_bridgeLine : Spec := spV true [] (fun x M => P7_bridgeLine M) (fun x M M1 => R7_bridgeLine M M1)
theorem c7_bridgeLine {M : Mm} {Q : Option AV → Mm → Prop} : sp7_bridgeLine [ar 0] M Q = (P7_bridgeLine M ∧ ∀ (M1 : Mm), R7_bridgeLine M M1 → Q none M1) := rfl
def cs7_bridgeLine : List (Nat × Nat × Nat × Spec) := [(198, 1, 2, sp7_hasRead), (204, 1, 4, sp7_number), (209, 1, 3, sp7_tells)]
set_option maxHeartbeats 4000000 in
set_option maxRecDepth 100000 in
theorem in7_bridgeLine {M : Mm} {Q : Option AV → Mm → Prop} (hM : okM sh7 M) (hP : P7_bridgeLine M) (hQ : ∀ (M1 : Mm), R7_bridgeLine M M1 → Q none M1) : wp (tb7 (csL cs7_bridgeLine)) sh7 2 0 cX7_bridgeLine [] Q 400 0 [(0, ar 0)] [] M := by
  obtain ⟨⟨h1, x0, hx0⟩, h2, h3⟩ := id hP
  obtain ⟨n, hn⟩ := Int.eq_ofNat_of_zero_le h2
  have i0 : ((2 : Int) * (12 + n)).toNat = 2 * (12 + n) := by omega
  have i1 : ((2 : Int) * (12 + n) + 1).toNat = 2 * (12 + n) + 1 := by omega
  simp only [e_wp dX7_bridgeLine_0 rfl, e_wp dX7_bridgeLine_1 rfl, e_wp dX7_bridgeLine_3 rfl, e_wp dX7_bridgeLine_4 rfl, e_wp dX7_bridgeLine_5 rfl, e_wp dX7_bridgeLine_8 rfl, e_wp dX7_bridgeLine_9 rfl, e_wp dX7_bridgeLine_10 rfl, e_wp dX7_bridgeLine_11 rfl, e_wp dX7_bridgeLine_12 rfl, e_wp dX7_bridgeLine_15 rfl, e_wp dX7_bridgeLine_16 rfl, e_wp dX7_bridgeLine_17 rfl, e_wp dX7_bridgeLine_20 rfl, e_wp dX7_bridgeLine_21 rfl, e_wp dX7_bridgeLine_24 rfl, e_wp dX7_bridgeLine_27 rfl, e_wp dX7_bridgeLine_28 rfl, e_wp dX7_bridgeLine_29 rfl, e_wp dX7_bridgeLine_32 rfl, e_wp dX7_bridgeLine_33 rfl, e_wp dX7_bridgeLine_34 rfl, e_wp dX7_bridgeLine_35 rfl, e_wp dX7_bridgeLine_36 rfl, e_wp dX7_bridgeLine_39 rfl, e_wp dX7_bridgeLine_40 rfl, e_wp dX7_bridgeLine_42 rfl, e_wp dX7_bridgeLine_45 rfl, e_wp dX7_bridgeLine_46 rfl, e_wp dX7_bridgeLine_47 rfl, e_wp dX7_bridgeLine_48 rfl, e_wp dX7_bridgeLine_49 rfl, e_wp dX7_bridgeLine_50 rfl, e_wp dX7_bridgeLine_53 rfl, e_wp dX7_bridgeLine_54 rfl, e_wp dX7_bridgeLine_55 rfl, e_wp dX7_bridgeLine_58 rfl, c7_hasRead, P7_hasRead, V7_hasRead, cs7_bridgeLine, g7_37, k7_202, c7_number, k7_207, c7_tells, a7_1, w7_1, a7_2, w7_2, a7_3, w7_3, a7_4, w7_4, a7_5, w7_5, a7_6, w7_6, a7_7, w7_7, a7_8, w7_8, a7_9, w7_9, a7_10, w7_10, a7_11, w7_11, a7_12, w7_12, a7_13, w7_13, a7_14, w7_14, a7_15, w7_15, a7_16, w7_16, a7_17, w7_17, a7_18, w7_18, a7_19, w7_19, a7_20, w7_20, a7_21, w7_21, a7_22, w7_22, a7_23, w7_23, a7_24, w7_24, a7_25, w7_25, a7_26, w7_26, a7_27, w7_27, a7_28, w7_28, a7_29, w7_29, a7_30, w7_30, a7_31, w7_31, a7_32, w7_32, a7_33, w7_33, e_iconst, e_bipush, e_sipush, e_lconst_0, e_lconst_1, e_iload, e_iload_0, e_iload_1, e_iload_2, e_iload_3, e_lload, e_lload_0, e_lload_1, e_lload_2, e_lload_3, e_aload, e_aload_0, e_aload_1, e_aload_2, e_aload_3, e_istore, e_istore_0, e_istore_1, e_istore_2, e_istore_3, e_astore, e_astore_0, e_astore_1, e_astore_2, e_astore_3, e_lstore, e_lstore_0, e_lstore_1, e_lstore_2, e_lstore_3, e_iinc, e_iadd, e_isub, e_imul, e_ladd, e_lsub, e_lmul, e_idiv, e_irem, e_ldiv, e_lrem, e_ineg, e_lneg, e_iand, e_ior, e_ixor, e_ishl, e_ishr, e_iushr, e_lcmp, e_i2l, e_l2i, e_i2b, e_i2s, e_dup_i, e_dup_r, e_pop_i, e_pop_r, e_dup2_l, e_dup2_ir, e_dup2_ii, e_ifeq, e_ifne, e_iflt, e_ifge, e_ifgt, e_ifle, e_iceq, e_icne, e_iclt, e_icge, e_icgt, e_icle, e_goto, e_switch, e_invokevirtual, e_invokestatic, e_invokespecial, e_ret0, e_ret1, e_ret2, e_ret3, ldI_s, ldL_s, ldR_s, clO_s, ctP_s, ctS_s, mgo_0, mgo_s, pjc_s, pj_0, pj_s, lk_s, rm1_0, rm1_i, rm1_r, rm1_l, rm2_0, rm2_i, rm2_r, rm2_l, csL_s, lc_lt, lc_ge, lc_gt, lc_le, lc_eq, b01_0, b01_1, b01_01, b01_n, up2_o, up2_s, up2_u, ne_eq, reduceCtorEq, Nat.reduceAdd, Nat.reduceEqDiff, Nat.reduceLT, Nat.reduceLeDiff, Int.reduceLE, Int.reduceLT, Int.reduceAdd, Int.reduceNeg, Int.reduceMul, Int.reduceSub, Int.reduceEq, Int.reduceToNat, Int.reduceNatCast, Int.cast_ofNat_Int, ↓reduceIte, and_self, List.drop_succ_cons, List.drop_zero, List.take_succ_cons, List.take_zero, List.length_cons, List.length_nil, List.reverse_cons, List.reverse_nil, List.nil_append, List.cons_append, Option.toList, true_and, and_true, or_false, false_or, or_true, true_or, forall_const, Classical.not_not, not_false_eq_true, not_true_eq_false, false_implies, true_implies, implies_true, imp_self, hn, i0, i1]
  repeat (refine And.intro (by omega) ?_)
  refine ⟨⟨⟨h1, x0, hx0⟩, by decide, wHolds, okW_c.2.2.2.2.2.1, w_nums.2.2.2.2.2.1⟩, fun v M1 R1 => ?_⟩
  have a1 := fun x hx => num_use (x := x) R1 hx okW_c.2.2.2.2.2.1 w_nums.2.2.2.2.2.1
  have k1 := keepR_lex R1.1
  have k2 : keepR M (up2 M1 8 (2 * (12 + n)) v) := keepR_u (m := 6) k1 (by decide) (by omega)
  have t2 := keepR_T k2
  have y1 := fun x hx => ps_u (k := 8) (i := 2 * (12 + n)) (v := v) (by decide) (by decide) (a1 x hx).1
  repeat (refine And.intro (by omega) ?_)
  refine ⟨⟨⟨t2.2.2 h1, _, y1 x0 hx0⟩, by decide, wToll, okW_c.2.2.2.2.2.2.1, w_nums.2.2.2.2.2.2.1⟩, fun v2 M2 R2 => ?_⟩
  have a2 := fun x hx => num_use R2 (y1 x hx) okW_c.2.2.2.2.2.2.1 w_nums.2.2.2.2.2.2.1
  have k3 := keepR_tr k2 (keepR_lex R2.1)
  have k4 : keepR M (up2 M2 8 (2 * (12 + n) + 1) v2) := keepR_u (m := 6) k3 (by decide) (by omega)
  have e7 : M2 7 = M 7 := (R2.1.1 _ (by decide)).trans ((up2_ne (by decide)).trans (R1.1.1 _ (by decide)))
  rw [e7, hn]
  repeat (refine And.intro (by omega) ?_)
  refine ⟨⟨by decide, by decide⟩, fun M3 R3 => ?_⟩
  have R3 : M3 = up2 (up2 M2 8 (2 * (12 + n) + 1) v2) 7 35 ((n : Int) + 1) := R3
  subst R3
  refine hQ _ ⟨keepR_u (m := 8) k4 (by decide) (by decide), fun x hx => ?_⟩
  obtain ⟨b1, b2⟩ := a2 x hx
  obtain ⟨c1, c2⟩ := a1 x hx
  rw [t2.1, t2.2.1] at b1 b2
  refine ⟨ps_u (by decide) (by decide) (ps_u (by decide) (by decide) b1), ?_⟩
  show _ = addV (vS 4 M) 3 [(1, (told (TM M) (tpN M) wHolds 1 300 x).1), (2, (told (TM M) (tpN M) wToll 0 9 (told (TM M) (tpN M) wHolds 1 300 x).2).1)]
  rw [← c2, ← b2]
  refine vS_bridge hn (fun k hk => ?_) (fun j => ?_) (fun j => ?_)
  · have hk2 : k ≠ 7 ∧ k ≠ 8 ∧ k ∉ [0] := by
      simp only [List.mem_cons, List.not_mem_nil, or_false] at hk
      rcases hk with rfl | rfl | rfl | rfl | rfl <;> decide
    rw [up2_ne hk2.1, up2_ne hk2.2.1, R2.1.1 k hk2.2.2, up2_ne hk2.2.1, R1.1.1 k hk2.2.2]
  · rw [up2_row, up2_o (by decide), e7]
  · rw [up2_o (by decide), up2_row, R2.1.1 8 (by decide), up2_row, R1.1.1 8 (by decide)]
    by_cases e : j = 2 * (12 + n) + 1
    · rw [if_pos e, if_neg (by omega), if_pos e]
    · rw [if_neg e, if_neg e]
set_option maxHeartbeats 4000000 in
set_option maxRecDepth 100000 in
theorem m7_bridgeLine : MOK cl7 sh7 tyl7 [] 5 yX7_bridgeLine cX7_bridgeLine 2 none sp7_bridgeLine := by
  refine mok_of (own := RX7) (tb := tb7 (csL cs7_bridgeLine)) (rt := 0) (fuel := 400) (fun avs M Q => []) (by decide) rfl nil_nw (tbOK7 _) rfl (csL_all ?_) ?_ ?_ ?_
  · intro q hq
    simp only [cs7_bridgeLine, List.mem_cons, List.not_mem_nil, or_false] at hq
    rcases hq with rfl | rfl | rfl
    · exact cg7_hasRead (by decide)
    · exact cg7_number (by decide)
    · exact cg7_tells (by decide)
  · intro avs M Q hsp
    obtain ⟨xs, hx⟩ := spV_un _ _ _ hsp
    obtain ⟨e, hl⟩ := unA_mkT hx
    obtain rfl := len0 hl
    have e : avs = [ar 0] := e
    subst e
    simp [szL, isL]
  · intro avs M Q hM hav hsp
    obtain ⟨xs, hx⟩ := spV_un _ _ _ hsp
    obtain ⟨e, hl⟩ := unA_mkT hx
    obtain rfl := len0 hl
    have e : avs = [ar 0] := e
    subst e
    exact in7_bridgeLine hM hsp.1 hsp.2
  · intro avs M Q hM hav hsp q hq m_ vs M1 hM1 hv hJ
    obtain ⟨xs, hx⟩ := spV_un _ _ _ hsp
    obtain ⟨e, hl⟩ := unA_mkT hx
    obtain rfl := len0 hl
    have e : avs = [ar 0] := e
    subst e
    cases hq
theorem cg7_bridgeLine {lvl : Nat} (h : 5 < lvl) : CG RX7 cl7 sh7 tyl7 [] lvl 1 233 1 sp7_bridgeLine := cg_V (sg := []) nil_nw spV_mono spV_un m7_bridgeLine h rfl (by decide) rfl rfl ⟨rfl, by decide, by decide, rfl⟩ q1771 q1773 qs76 q138 q1774
def P7_cartLine (M : Mm) : Prop := lexP M ∧ (0 ≤ M 7 36 ∧ M 7 36 ≤ 6) ∧ 0 ≤ M 7 35 ∧ M 7 35 ≤ 3
def R7_cartLine (M : Mm) (M1 : Mm) : Prop := keepR M M1 ∧ ∀ x, psR M x → psR M1 (cartS (TM M) (tpN M) (vS 4 M) x).2 ∧ vS 4 M1 = (cartS (TM M) (tpN M) (vS 4 M) x).1
def sp7_cartLine : Spec := spV true [] (fun x M => P7_cartLine M) (fun x M M1 => R7_cartLine M M1)
theorem c7_cartLine {M : Mm} {Q : Option AV → Mm → Prop} : sp7_cartLine [ar 0] M Q = (P7_cartLine M ∧ ∀ (M1 : Mm), R7_cartLine M M1 → Q none M1) := rfl
def cs7_cartLine : List (Nat × Nat × Nat × Spec) := [(198, 1, 2, sp7_hasRead), (191, 1, 3, sp7_number_2), (187, 1, 2, sp7_asks), (215, 1, 1, sp7_bridgeHere), (209, 1, 3, sp7_tells)]
set_option maxHeartbeats 4000000 in
set_option maxRecDepth 100000 in
theorem in7_cartLine {M : Mm} {Q : Option AV → Mm → Prop} (hM : okM sh7 M) (hP : P7_cartLine M) (hQ : ∀ (M1 : Mm), R7_cartLine M M1 → Q none M1) : wp (tb7 (csL cs7_cartLine)) sh7 2 0 cX7_cartLine [] Q 400 0 [(0, ar 0)] [] M := by
  obtain ⟨⟨h1, x0, hx0⟩, ⟨h2, h3⟩, h4, h5⟩ := id hP
  obtain ⟨n, hn⟩ := Int.eq_ofNat_of_zero_le h2
  have i0 : ((2 : Int) * (28 + n)).toNat = 2 * (28 + n) := by omega
  have i1 : ((2 : Int) * (28 + n) + 1).toNat = 2 * (28 + n) + 1 := by omega
  simp only [e_wp dX7_cartLine_0 rfl, e_wp dX7_cartLine_1 rfl, e_wp dX7_cartLine_3 rfl, e_wp dX7_cartLine_4 rfl, e_wp dX7_cartLine_5 rfl, e_wp dX7_cartLine_8 rfl, e_wp dX7_cartLine_9 rfl, e_wp dX7_cartLine_10 rfl, e_wp dX7_cartLine_11 rfl, e_wp dX7_cartLine_12 rfl, e_wp dX7_cartLine_15 rfl, e_wp dX7_cartLine_16 rfl, e_wp dX7_cartLine_17 rfl, e_wp dX7_cartLine_18 rfl, e_wp dX7_cartLine_20 rfl, e_wp dX7_cartLine_23 rfl, e_wp dX7_cartLine_24 rfl, e_wp dX7_cartLine_25 rfl, e_wp dX7_cartLine_28 rfl, e_wp dX7_cartLine_31 rfl, e_wp dX7_cartLine_32 rfl, e_wp dX7_cartLine_35 rfl, e_wp dX7_cartLine_36 rfl, e_wp dX7_cartLine_37 rfl, e_wp dX7_cartLine_38 rfl, e_wp dX7_cartLine_39 rfl, e_wp dX7_cartLine_42 rfl, e_wp dX7_cartLine_43 rfl, e_wp dX7_cartLine_44 rfl, e_wp dX7_cartLine_45 rfl, e_wp dX7_cartLine_46 rfl, e_wp dX7_cartLine_47 rfl, e_wp dX7_cartLine_50 rfl, e_wp dX7_cartLine_51 rfl, e_wp dX7_cartLine_52 rfl, e_wp dX7_cartLine_55 rfl, c7_hasRead, P7_hasRead, V7_hasRead, cs7_cartLine, g7_40, c7_number_2, k7_213, c7_asks, c7_bridgeHere, c7_tells, a7_1, w7_1, a7_2, w7_2, a7_3, w7_3, a7_4, w7_4, a7_5, w7_5, a7_6, w7_6, a7_7, w7_7, a7_8, w7_8, a7_9, w7_9, a7_10, w7_10, a7_11, w7_11, a7_12, w7_12, a7_13, w7_13, a7_14, w7_14, a7_15, w7_15, a7_16, w7_16, a7_17, w7_17, a7_18, w7_18, a7_19, w7_19, a7_20, w7_20, a7_21, w7_21, a7_22, w7_22, a7_23, w7_23, a7_24, w7_24, a7_25, w7_25, a7_26, w7_26, a7_27, w7_27, a7_28, w7_28, a7_29, w7_29, a7_30, w7_30, a7_31, w7_31, a7_32, w7_32, a7_33, w7_33, e_iconst, e_bipush, e_sipush, e_lconst_0, e_lconst_1, e_iload, e_iload_0, e_iload_1, e_iload_2, e_iload_3, e_lload, e_lload_0, e_lload_1, e_lload_2, e_lload_3, e_aload, e_aload_0, e_aload_1, e_aload_2, e_aload_3, e_istore, e_istore_0, e_istore_1, e_istore_2, e_istore_3, e_astore, e_astore_0, e_astore_1, e_astore_2, e_astore_3, e_lstore, e_lstore_0, e_lstore_1, e_lstore_2, e_lstore_3, e_iinc, e_iadd, e_isub, e_imul, e_ladd, e_lsub, e_lmul, e_idiv, e_irem, e_ldiv, e_lrem, e_ineg, e_lneg, e_iand, e_ior, e_ixor, e_ishl, e_ishr, e_iushr, e_lcmp, e_i2l, e_l2i, e_i2b, e_i2s, e_dup_i, e_dup_r, e_pop_i, e_pop_r, e_dup2_l, e_dup2_ir, e_dup2_ii, e_ifeq, e_ifne, e_iflt, e_ifge, e_ifgt, e_ifle, e_iceq, e_icne, e_iclt, e_icge, e_icgt, e_icle, e_goto, e_switch, e_invokevirtual, e_invokestatic, e_invokespecial, e_ret0, e_ret1, e_ret2, e_ret3, ldI_s, ldL_s, ldR_s, clO_s, ctP_s, ctS_s, mgo_0, mgo_s, pjc_s, pj_0, pj_s, lk_s, rm1_0, rm1_i, rm1_r, rm1_l, rm2_0, rm2_i, rm2_r, rm2_l, csL_s, lc_lt, lc_ge, lc_gt, lc_le, lc_eq, b01_0, b01_1, b01_01, b01_n, up2_o, up2_s, up2_u, ne_eq, reduceCtorEq, Nat.reduceAdd, Nat.reduceEqDiff, Nat.reduceLT, Nat.reduceLeDiff, Int.reduceLE, Int.reduceLT, Int.reduceAdd, Int.reduceNeg, Int.reduceMul, Int.reduceSub, Int.reduceEq, Int.reduceToNat, Int.reduceNatCast, Int.cast_ofNat_Int, ↓reduceIte, and_self, List.drop_succ_cons, List.drop_zero, List.take_succ_cons, List.take_zero, List.length_cons, List.length_nil, List.reverse_cons, List.reverse_nil, List.nil_append, List.cons_append, Option.toList, true_and, and_true, or_false, false_or, or_true, true_or, forall_const, Classical.not_not, not_false_eq_true, not_true_eq_false, false_implies, true_implies, implies_true, imp_self, hn, i0, i1]
  repeat (refine And.intro (by omega) ?_)
  refine ⟨⟨⟨h1, x0, hx0⟩, by decide⟩, fun v M1 R1 => ?_⟩
  have a1 := R1.2
  have k1 := keepR_lex R1.1
  have k2 : keepR M (up2 M1 9 (2 * (28 + n)) v) := keepR_u (m := 14) k1 (by decide) (by omega)
  have t2 := keepR_T k2
  have y1 := fun x hx => ps_u (k := 9) (i := 2 * (28 + n)) (v := v) (by decide) (by decide) (a1 x hx).1
  repeat (refine And.intro (by omega) ?_)
  refine ⟨⟨⟨t2.2.2 h1, _, y1 x0 hx0⟩, wBy, okW_c.2.2.2.2.2.2.2.2.1, w_nums.2.2.2.2.2.2.2.2.1⟩, fun M2 R2 => ?_⟩
  have a2 := fun x hx => R2.2 _ wBy (y1 x hx) okW_c.2.2.2.2.2.2.2.2.1 w_nums.2.2.2.2.2.2.2.2.1
  have k3 := keepR_tr k2 (keepR_lex R2.1)
  have t3 := keepR_T k3
  have e7 : M2 7 = M 7 := (R2.1.1 _ (by decide)).trans ((up2_ne (by decide)).trans (R1.1.1 _ (by decide)))
  repeat (refine And.intro (by omega) ?_)
  refine ⟨⟨⟨t3.2.2 h1, _, a2 x0 hx0⟩, by rw [e7]; exact h5, by rw [e7]; exact h4⟩, fun v2 M3 R3 => ?_⟩
  have a3 := fun x hx => R3.2 _ (a2 x hx)
  have k4 := keepR_tr k3 (keepR_lex R3.1)
  have k5 : keepR M (up2 M3 9 (2 * (28 + n) + 1) v2) := keepR_u (m := 14) k4 (by decide) (by omega)
  have e7' : M3 7 = M 7 := (R3.1.1 _ (by decide)).trans e7
  rw [e7', hn]
  repeat (refine And.intro (by omega) ?_)
  refine ⟨⟨by decide, by decide⟩, fun M4 R4 => ?_⟩
  have R4 : M4 = up2 (up2 M3 9 (2 * (28 + n) + 1) v2) 7 36 ((n : Int) + 1) := R4
  subst R4
  refine hQ _ ⟨keepR_u (m := 8) k5 (by decide) (by decide), fun x hx => ?_⟩
  obtain ⟨b1, b2⟩ := a3 x hx
  obtain ⟨c1, c2⟩ := a1 x hx
  rw [t3.1, t3.2.1, t2.1, t2.2.1, e7] at b1 b2
  refine ⟨ps_u (by decide) (by decide) (ps_u (by decide) (by decide) b1), ?_⟩
  show _ = addV (vS 4 M) 4 [(3, (numS (TM M) (tpN M) 1 99 x).1), (4, (told (TM M) (tpN M) wBy 0 (M 7 35 - 1) (numS (TM M) (tpN M) 1 99 x).2).1)]
  rw [← c2, show (told (TM M) (tpN M) wBy 0 (M 7 35 - 1) (numS (TM M) (tpN M) 1 99 x).2).1 = v2 from b2.symm]
  refine vS_cart hn (fun k hk => ?_) (fun j => ?_) (fun j => ?_)
  · have hk2 : k ≠ 7 ∧ k ≠ 9 ∧ k ∉ [0] := by
      simp only [List.mem_cons, List.not_mem_nil, or_false] at hk
      rcases hk with rfl | rfl | rfl | rfl | rfl <;> decide
    rw [up2_ne hk2.1, up2_ne hk2.2.1, R3.1.1 k hk2.2.2, R2.1.1 k hk2.2.2, up2_ne hk2.2.1, R1.1.1 k hk2.2.2]
  · rw [up2_row, up2_o (by decide), e7']
  · rw [up2_o (by decide), up2_row, R3.1.1 9 (by decide), R2.1.1 9 (by decide), up2_row, R1.1.1 9 (by decide)]
    by_cases e : j = 2 * (28 + n) + 1
    · rw [if_pos e, if_neg (by omega), if_pos e]
    · rw [if_neg e, if_neg e]
set_option maxHeartbeats 4000000 in
set_option maxRecDepth 100000 in
theorem m7_cartLine : MOK cl7 sh7 tyl7 [] 4 yX7_cartLine cX7_cartLine 2 none sp7_cartLine := by
  refine mok_of (own := RX7) (tb := tb7 (csL cs7_cartLine)) (rt := 0) (fuel := 400) (fun avs M Q => []) (by decide) rfl nil_nw (tbOK7 _) rfl (csL_all ?_) ?_ ?_ ?_
  · intro q hq
    simp only [cs7_cartLine, List.mem_cons, List.not_mem_nil, or_false] at hq
    rcases hq with rfl | rfl | rfl | rfl | rfl
    · exact cg7_hasRead (by decide)
    · exact cg7_number_2 (by decide)
    · exact cg7_asks (by decide)
    · exact cg7_bridgeHere (by decide)
    · exact cg7_tells (by decide)
  · intro avs M Q hsp
    obtain ⟨xs, hx⟩ := spV_un _ _ _ hsp
    obtain ⟨e, hl⟩ := unA_mkT hx
    obtain rfl := len0 hl
    have e : avs = [ar 0] := e
    subst e
    simp [szL, isL]
  · intro avs M Q hM hav hsp
    obtain ⟨xs, hx⟩ := spV_un _ _ _ hsp
    obtain ⟨e, hl⟩ := unA_mkT hx
    obtain rfl := len0 hl
    have e : avs = [ar 0] := e
    subst e
    exact in7_cartLine hM hsp.1 hsp.2
  · intro avs M Q hM hav hsp q hq m_ vs M1 hM1 hv hJ
    obtain ⟨xs, hx⟩ := spV_un _ _ _ hsp
    obtain ⟨e, hl⟩ := unA_mkT hx
    obtain rfl := len0 hl
    have e : avs = [ar 0] := e
    subst e
    cases hq
theorem cg7_cartLine {lvl : Nat} (h : 4 < lvl) : CG RX7 cl7 sh7 tyl7 [] lvl 1 238 1 sp7_cartLine := cg_V (sg := []) nil_nw spV_mono spV_un m7_cartLine h rfl (by decide) rfl rfl ⟨rfl, by decide, by decide, rfl⟩ q1778 q1780 qs77 q138 q1781
def P7_frostLine (M : Mm) : Prop := lexP M ∧ (0 ≤ M 7 38 ∧ M 7 38 ≤ 3)
def R7_frostLine (M : Mm) (M1 : Mm) : Prop := keepR M M1 ∧ ∀ x, psR M x → psR M1 (frostS (TM M) (tpN M) (vS 4 M) x).2 ∧ vS 4 M1 = (frostS (TM M) (tpN M) (vS 4 M) x).1
def sp7_frostLine : Spec := spV true [] (fun x M => P7_frostLine M) (fun x M M1 => R7_frostLine M M1)
theorem c7_frostLine {M : Mm} {Q : Option AV → Mm → Prop} : sp7_frostLine [ar 0] M Q = (P7_frostLine M ∧ ∀ (M1 : Mm), R7_frostLine M M1 → Q none M1) := rfl
def cs7_frostLine : List (Nat × Nat × Nat × Spec) := [(198, 1, 2, sp7_hasRead), (204, 1, 4, sp7_number), (209, 1, 3, sp7_tells)]
set_option maxHeartbeats 4000000 in
set_option maxRecDepth 100000 in
theorem in7_frostLine {M : Mm} {Q : Option AV → Mm → Prop} (hM : okM sh7 M) (hP : P7_frostLine M) (hQ : ∀ (M1 : Mm), R7_frostLine M M1 → Q none M1) : wp (tb7 (csL cs7_frostLine)) sh7 1 0 cX7_frostLine [] Q 400 0 [(0, ar 0)] [] M := by
  obtain ⟨⟨h1, x0, hx0⟩, h2, h3⟩ := id hP
  obtain ⟨n, hn⟩ := Int.eq_ofNat_of_zero_le h2
  have i0 : ((16 : Int) + n).toNat = 16 + n := by omega
  simp only [e_wp dX7_frostLine_0 rfl, e_wp dX7_frostLine_1 rfl, e_wp dX7_frostLine_4 rfl, e_wp dX7_frostLine_6 rfl, e_wp dX7_frostLine_7 rfl, e_wp dX7_frostLine_9 rfl, e_wp dX7_frostLine_12 rfl, e_wp dX7_frostLine_13 rfl, e_wp dX7_frostLine_14 rfl, e_wp dX7_frostLine_17 rfl, e_wp dX7_frostLine_18 rfl, e_wp dX7_frostLine_20 rfl, e_wp dX7_frostLine_23 rfl, e_wp dX7_frostLine_24 rfl, e_wp dX7_frostLine_25 rfl, e_wp dX7_frostLine_27 rfl, e_wp dX7_frostLine_28 rfl, e_wp dX7_frostLine_30 rfl, e_wp dX7_frostLine_33 rfl, e_wp dX7_frostLine_34 rfl, e_wp dX7_frostLine_35 rfl, e_wp dX7_frostLine_38 rfl, g7_46, c7_hasRead, P7_hasRead, V7_hasRead, cs7_frostLine, k7_225, c7_number, c7_tells, a7_1, w7_1, a7_2, w7_2, a7_3, w7_3, a7_4, w7_4, a7_5, w7_5, a7_6, w7_6, a7_7, w7_7, a7_8, w7_8, a7_9, w7_9, a7_10, w7_10, a7_11, w7_11, a7_12, w7_12, a7_13, w7_13, a7_14, w7_14, a7_15, w7_15, a7_16, w7_16, a7_17, w7_17, a7_18, w7_18, a7_19, w7_19, a7_20, w7_20, a7_21, w7_21, a7_22, w7_22, a7_23, w7_23, a7_24, w7_24, a7_25, w7_25, a7_26, w7_26, a7_27, w7_27, a7_28, w7_28, a7_29, w7_29, a7_30, w7_30, a7_31, w7_31, a7_32, w7_32, a7_33, w7_33, e_iconst, e_bipush, e_sipush, e_lconst_0, e_lconst_1, e_iload, e_iload_0, e_iload_1, e_iload_2, e_iload_3, e_lload, e_lload_0, e_lload_1, e_lload_2, e_lload_3, e_aload, e_aload_0, e_aload_1, e_aload_2, e_aload_3, e_istore, e_istore_0, e_istore_1, e_istore_2, e_istore_3, e_astore, e_astore_0, e_astore_1, e_astore_2, e_astore_3, e_lstore, e_lstore_0, e_lstore_1, e_lstore_2, e_lstore_3, e_iinc, e_iadd, e_isub, e_imul, e_ladd, e_lsub, e_lmul, e_idiv, e_irem, e_ldiv, e_lrem, e_ineg, e_lneg, e_iand, e_ior, e_ixor, e_ishl, e_ishr, e_iushr, e_lcmp, e_i2l, e_l2i, e_i2b, e_i2s, e_dup_i, e_dup_r, e_pop_i, e_pop_r, e_dup2_l, e_dup2_ir, e_dup2_ii, e_ifeq, e_ifne, e_iflt, e_ifge, e_ifgt, e_ifle, e_iceq, e_icne, e_iclt, e_icge, e_icgt, e_icle, e_goto, e_switch, e_invokevirtual, e_invokestatic, e_invokespecial, e_ret0, e_ret1, e_ret2, e_ret3, ldI_s, ldL_s, ldR_s, clO_s, ctP_s, ctS_s, mgo_0, mgo_s, pjc_s, pj_0, pj_s, lk_s, rm1_0, rm1_i, rm1_r, rm1_l, rm2_0, rm2_i, rm2_r, rm2_l, csL_s, lc_lt, lc_ge, lc_gt, lc_le, lc_eq, b01_0, b01_1, b01_01, b01_n, up2_o, up2_s, up2_u, ne_eq, reduceCtorEq, Nat.reduceAdd, Nat.reduceEqDiff, Nat.reduceLT, Nat.reduceLeDiff, Int.reduceLE, Int.reduceLT, Int.reduceAdd, Int.reduceNeg, Int.reduceMul, Int.reduceSub, Int.reduceEq, Int.reduceToNat, Int.reduceNatCast, Int.cast_ofNat_Int, ↓reduceIte, and_self, List.drop_succ_cons, List.drop_zero, List.take_succ_cons, List.take_zero, List.length_cons, List.length_nil, List.reverse_cons, List.reverse_nil, List.nil_append, List.cons_append, Option.toList, true_and, and_true, or_false, false_or, or_true, true_or, forall_const, Classical.not_not, not_false_eq_true, not_true_eq_false, false_implies, true_implies, implies_true, imp_self, hn, i0]
  repeat (refine And.intro (by omega) ?_)
  refine ⟨⟨⟨h1, x0, hx0⟩, by decide, wAt, okW_c.2.2.2.2.2.2.2.2.2.2.2.2.2, w_nums.2.2.2.2.2.2.2.2.2.2.2.2.2⟩, fun v M1 R1 => ?_⟩
  have a1 := fun x hx => num_use (x := x) R1 hx okW_c.2.2.2.2.2.2.2.2.2.2.2.2.2 w_nums.2.2.2.2.2.2.2.2.2.2.2.2.2
  have k1 := keepR_lex R1.1
  have k2 : keepR M (up2 M1 11 (16 + n) v) := keepR_u (m := 4) k1 (by decide) (by omega)
  have e7 : M1 7 = M 7 := R1.1.1 _ (by decide)
  rw [e7, hn]
  repeat (refine And.intro (by omega) ?_)
  refine ⟨⟨by decide, by decide⟩, fun M2 R2 => ?_⟩
  have R2 : M2 = up2 (up2 M1 11 (16 + n) v) 7 38 ((n : Int) + 1) := R2
  subst R2
  refine hQ _ ⟨keepR_u (m := 8) k2 (by decide) (by decide), fun x hx => ?_⟩
  obtain ⟨b1, b2⟩ := a1 x hx
  refine ⟨ps_u (by decide) (by decide) (ps_u (by decide) (by decide) b1), ?_⟩
  show _ = frsV (vS 4 M) (told (TM M) (tpN M) wAt 0 6 x).1
  rw [← b2]
  refine vS_frost hn (fun k hk => ?_) (fun j => ?_) (fun j => ?_)
  · have hk2 : k ≠ 7 ∧ k ≠ 11 ∧ k ∉ [0] := by
      simp only [List.mem_cons, List.not_mem_nil, or_false] at hk
      rcases hk with rfl | rfl | rfl | rfl | rfl <;> decide
    rw [up2_ne hk2.1, up2_ne hk2.2.1, R1.1.1 k hk2.2.2]
  · rw [up2_row, up2_o (by decide), e7]
  · rw [up2_o (by decide), up2_row, R1.1.1 11 (by decide)]
set_option maxHeartbeats 4000000 in
set_option maxRecDepth 100000 in
theorem m7_frostLine : MOK cl7 sh7 tyl7 [] 5 yX7_frostLine cX7_frostLine 1 none sp7_frostLine := by
  refine mok_of (own := RX7) (tb := tb7 (csL cs7_frostLine)) (rt := 0) (fuel := 400) (fun avs M Q => []) (by decide) rfl nil_nw (tbOK7 _) rfl (csL_all ?_) ?_ ?_ ?_
  · intro q hq
    simp only [cs7_frostLine, List.mem_cons, List.not_mem_nil, or_false] at hq
    rcases hq with rfl | rfl | rfl
    · exact cg7_hasRead (by decide)
    · exact cg7_number (by decide)
    · exact cg7_tells (by decide)
  · intro avs M Q hsp
    obtain ⟨xs, hx⟩ := spV_un _ _ _ hsp
    obtain ⟨e, hl⟩ := unA_mkT hx
    obtain rfl := len0 hl
    have e : avs = [ar 0] := e
    subst e
    simp [szL, isL]
  · intro avs M Q hM hav hsp
    obtain ⟨xs, hx⟩ := spV_un _ _ _ hsp
    obtain ⟨e, hl⟩ := unA_mkT hx
    obtain rfl := len0 hl
    have e : avs = [ar 0] := e
    subst e
    exact in7_frostLine hM hsp.1 hsp.2
  · intro avs M Q hM hav hsp q hq m_ vs M1 hM1 hv hJ
    obtain ⟨xs, hx⟩ := spV_un _ _ _ hsp
    obtain ⟨e, hl⟩ := unA_mkT hx
    obtain rfl := len0 hl
    have e : avs = [ar 0] := e
    subst e
    cases hq
theorem cg7_frostLine {lvl : Nat} (h : 5 < lvl) : CG RX7 cl7 sh7 tyl7 [] lvl 1 248 1 sp7_frostLine := cg_V (sg := []) nil_nw spV_mono spV_un m7_frostLine h rfl (by decide) rfl rfl ⟨rfl, by decide, by decide, rfl⟩ q1795 q1797 qs80 q138 q1798
/-- a ward's line under way -/
def wdI (M M1 : Mm) (n : Nat) : Prop := keepR M M1 ∧ (∀ k, k ∈ [6, 7, 8, 9, 11, 12] → M1 k = M k) ∧ ∃ a b : Int, (∀ x, psR M x → a = (wardA (TM M) (tpN M) (vS 4 M) x).1 ∧ b = (wardO (TM M) (tpN M) (vS 4 M) x).1) ∧ ∀ j, ¬ j = 3 * (20 + n) + 2 → M1 10 j = if j = 3 * (20 + n) then a else if j = 3 * (20 + n) + 1 then b else M 10 j
theorem wdI_lex {M M1 M2 : Mm} {n : Nat} (h : wdI M M1 n) (h2 : lexK M1 M2) : wdI M M2 n := by
  obtain ⟨k1, k2, a, b, k3, k4⟩ := h
  refine ⟨keepR_tr k1 (keepR_lex h2), fun k hk => ?_, a, b, k3, fun j hj => ?_⟩
  · rw [h2.1 k (by simp only [List.mem_cons, List.not_mem_nil, or_false] at hk; rcases hk with rfl | rfl | rfl | rfl | rfl | rfl <;> decide)]
    exact k2 k hk
  · rw [h2.1 10 (by decide)]; exact k4 j hj
theorem wdI_u {M M1 : Mm} {n : Nat} {x : Int} (h : wdI M M1 n) : wdI M (up2 M1 10 (3 * (20 + n) + 2) x) n := by
  obtain ⟨k1, k2, a, b, k3, k4⟩ := h
  refine ⟨keepR_u (m := 15) k1 (by decide) (by omega), fun k hk => ?_, a, b, k3, fun j hj => ?_⟩
  · rw [up2_ne (by simp only [List.mem_cons, List.not_mem_nil, or_false] at hk; rcases hk with rfl | rfl | rfl | rfl | rfl | rfl <;> decide)]
    exact k2 k hk
  · rw [up2_n hj]; exact k4 j hj
def P7_wardLine (M : Mm) : Prop := lexP M ∧ (0 ≤ M 7 37 ∧ M 7 37 ≤ 4) ∧ 0 ≤ M 7 35 ∧ M 7 35 ≤ 3
def R7_wardLine (M : Mm) (M1 : Mm) : Prop := keepR M M1 ∧ ∀ x, psR M x → psR M1 (wardS (TM M) (tpN M) (vS 4 M) x).2 ∧ vS 4 M1 = (wardS (TM M) (tpN M) (vS 4 M) x).1
def sp7_wardLine : Spec := spV true [] (fun x M => P7_wardLine M) (fun x M M1 => R7_wardLine M M1)
theorem c7_wardLine {M : Mm} {Q : Option AV → Mm → Prop} : sp7_wardLine [ar 0] M Q = (P7_wardLine M ∧ ∀ (M1 : Mm), R7_wardLine M M1 → Q none M1) := rfl
def cs7_wardLine : List (Nat × Nat × Nat × Spec) := [(198, 1, 2, sp7_hasRead), (215, 1, 1, sp7_bridgeHere), (204, 1, 4, sp7_number), (187, 1, 2, sp7_asks), (181, 1, 2, sp7_takes), (184, 1, 2, sp7_fails), (209, 1, 3, sp7_tells)]
def J7_wardLine_75 (M : Mm) (m : Nat) (k : Int) (M1 : Mm) : Prop := ∃ n : Nat, M 7 37 = n ∧ k = 3 * (20 + (n : Int)) ∧ wdI M M1 n ∧ (∀ x, psR M x → psR M1 (wardX (TM M) (tpN M) (vS 4 M) x) ∧ isI (TM M) (tpN M) wHalt (wardX (TM M) (tpN M) (vS 4 M) x) = 0) ∧ m = 2
def J7_wardLine_108 (M : Mm) (m : Nat) (k : Int) (M1 : Mm) : Prop := ∃ n : Nat, M 7 37 = n ∧ k = 3 * (20 + (n : Int)) ∧ wdI M M1 n ∧ (∀ x, psR M x → psR M1 (ownS (TM M) (tpN M) (wardA (TM M) (tpN M) (vS 4 M) x).1 (wardX (TM M) (tpN M) (vS 4 M) x)) ∧ isI (TM M) (tpN M) wHalt (wardX (TM M) (tpN M) (vS 4 M) x) = 0) ∧ m = 1
def J7_wardLine_120 (M : Mm) (m : Nat) (M1 : Mm) : Prop := ∃ n : Nat, M 7 37 = n ∧ wdI M M1 n ∧ (∀ x, psR M x → psR M1 (wardT (TM M) (tpN M) (vS 4 M) x).2 ∧ M1 10 (3 * (20 + n) + 2) = (wardT (TM M) (tpN M) (vS 4 M) x).1) ∧ m = 0
set_option maxHeartbeats 4000000 in
set_option maxRecDepth 100000 in
theorem in7_wardLine {M : Mm} {Q : Option AV → Mm → Prop} (hM : okM sh7 M) (hP : P7_wardLine M) (hQ : ∀ (M1 : Mm), R7_wardLine M M1 → Q none M1) (I_75 : List AV → Mm → Prop) (hI_75 : ∀ (m_ : Nat) (y_k : Int) (M2 : Mm), J7_wardLine_75 M m_ y_k M2 → I_75 [ar 0, ai y_k] M2) (I_108 : List AV → Mm → Prop) (hI_108 : ∀ (m_ : Nat) (y_k : Int) (M2 : Mm), J7_wardLine_108 M m_ y_k M2 → I_108 [ar 0, ai y_k] M2) (I_120 : List AV → Mm → Prop) (hI_120 : ∀ (m_ : Nat) (M2 : Mm), J7_wardLine_120 M m_ M2 → I_120 [ar 0] M2) : wp (tb7 (csL cs7_wardLine)) sh7 2 0 cX7_wardLine [(75, [0, 1], I_75), (108, [0, 1], I_108), (120, [0], I_120)] Q 400 0 [(0, ar 0)] [] M := by
  obtain ⟨⟨h1, x0, hx0⟩, ⟨h2, h3⟩, h4, h5⟩ := id hP
  obtain ⟨n, hn⟩ := Int.eq_ofNat_of_zero_le h2
  have i0 : ((3 : Int) * (20 + n)).toNat = 3 * (20 + n) := by omega
  have i1 : ((3 : Int) * (20 + n) + 1).toNat = 3 * (20 + n) + 1 := by omega
  have i2 : ((3 : Int) * (20 + n) + 2).toNat = 3 * (20 + n) + 2 := by omega
  simp only [e_wp dX7_wardLine_0 rfl, e_wp dX7_wardLine_1 rfl, e_wp dX7_wardLine_3 rfl, e_wp dX7_wardLine_4 rfl, e_wp dX7_wardLine_5 rfl, e_wp dX7_wardLine_8 rfl, e_wp dX7_wardLine_9 rfl, e_wp dX7_wardLine_10 rfl, e_wp dX7_wardLine_11 rfl, e_wp dX7_wardLine_12 rfl, e_wp dX7_wardLine_15 rfl, e_wp dX7_wardLine_16 rfl, e_wp dX7_wardLine_17 rfl, e_wp dX7_wardLine_20 rfl, e_wp dX7_wardLine_21 rfl, e_wp dX7_wardLine_22 rfl, e_wp dX7_wardLine_25 rfl, e_wp dX7_wardLine_26 rfl, e_wp dX7_wardLine_27 rfl, e_wp dX7_wardLine_28 rfl, e_wp dX7_wardLine_29 rfl, e_wp dX7_wardLine_32 rfl, e_wp dX7_wardLine_33 rfl, e_wp dX7_wardLine_35 rfl, e_wp dX7_wardLine_38 rfl, e_wp dX7_wardLine_39 rfl, e_wp dX7_wardLine_40 rfl, e_wp dX7_wardLine_43 rfl, e_wp dX7_wardLine_46 rfl, e_wp dX7_wardLine_47 rfl, e_wp dX7_wardLine_50 rfl, e_wp dX7_wardLine_53 rfl, e_wp dX7_wardLine_54 rfl, e_wp dX7_wardLine_57 rfl, e_wp dX7_wardLine_60 rfl, e_wp dX7_wardLine_63 rfl, e_wp dX7_wardLine_64 rfl, e_wp dX7_wardLine_67 rfl, e_wp dX7_wardLine_68 rfl, e_wp dX7_wardLine_69 rfl, e_wp dX7_wardLine_70 rfl, e_wp dX7_wardLine_71 rfl, e_wp dX7_wardLine_72 rfl, e_wp dX7_wardLine_75 rfl, e_wp dX7_wardLine_76 rfl, e_wp dX7_wardLine_79 rfl, e_wp dX7_wardLine_82 rfl, e_wp dX7_wardLine_83 rfl, e_wp dX7_wardLine_86 rfl, e_wp dX7_wardLine_87 rfl, e_wp dX7_wardLine_90 rfl, e_wp dX7_wardLine_91 rfl, e_wp dX7_wardLine_94 rfl, e_wp dX7_wardLine_95 rfl, e_wp dX7_wardLine_98 rfl, e_wp dX7_wardLine_99 rfl, e_wp dX7_wardLine_100 rfl, e_wp dX7_wardLine_103 rfl, e_wp dX7_wardLine_104 rfl, e_wp dX7_wardLine_105 rfl, e_wp dX7_wardLine_108 rfl, e_wp dX7_wardLine_109 rfl, e_wp dX7_wardLine_112 rfl, e_wp dX7_wardLine_113 rfl, e_wp dX7_wardLine_114 rfl, e_wp dX7_wardLine_115 rfl, e_wp dX7_wardLine_116 rfl, e_wp dX7_wardLine_119 rfl, e_wp dX7_wardLine_120 rfl, e_wp dX7_wardLine_121 rfl, e_wp dX7_wardLine_122 rfl, e_wp dX7_wardLine_123 rfl, e_wp dX7_wardLine_124 rfl, e_wp dX7_wardLine_127 rfl, e_wp dX7_wardLine_128 rfl, e_wp dX7_wardLine_129 rfl, e_wp dX7_wardLine_132 rfl, c7_hasRead, P7_hasRead, V7_hasRead, cs7_wardLine, g7_43, c7_bridgeHere, k7_219, c7_number, k7_221, c7_asks, g7_168, k7_223, c7_takes, g7_157, g7_150, c7_fails, c7_tells, a7_1, w7_1, a7_2, w7_2, a7_3, w7_3, a7_4, w7_4, a7_5, w7_5, a7_6, w7_6, a7_7, w7_7, a7_8, w7_8, a7_9, w7_9, a7_10, w7_10, a7_11, w7_11, a7_12, w7_12, a7_13, w7_13, a7_14, w7_14, a7_15, w7_15, a7_16, w7_16, a7_17, w7_17, a7_18, w7_18, a7_19, w7_19, a7_20, w7_20, a7_21, w7_21, a7_22, w7_22, a7_23, w7_23, a7_24, w7_24, a7_25, w7_25, a7_26, w7_26, a7_27, w7_27, a7_28, w7_28, a7_29, w7_29, a7_30, w7_30, a7_31, w7_31, a7_32, w7_32, a7_33, w7_33, e_iconst, e_bipush, e_sipush, e_lconst_0, e_lconst_1, e_iload, e_iload_0, e_iload_1, e_iload_2, e_iload_3, e_lload, e_lload_0, e_lload_1, e_lload_2, e_lload_3, e_aload, e_aload_0, e_aload_1, e_aload_2, e_aload_3, e_istore, e_istore_0, e_istore_1, e_istore_2, e_istore_3, e_astore, e_astore_0, e_astore_1, e_astore_2, e_astore_3, e_lstore, e_lstore_0, e_lstore_1, e_lstore_2, e_lstore_3, e_iinc, e_iadd, e_isub, e_imul, e_ladd, e_lsub, e_lmul, e_idiv, e_irem, e_ldiv, e_lrem, e_ineg, e_lneg, e_iand, e_ior, e_ixor, e_ishl, e_ishr, e_iushr, e_lcmp, e_i2l, e_l2i, e_i2b, e_i2s, e_dup_i, e_dup_r, e_pop_i, e_pop_r, e_dup2_l, e_dup2_ir, e_dup2_ii, e_ifeq, e_ifne, e_iflt, e_ifge, e_ifgt, e_ifle, e_iceq, e_icne, e_iclt, e_icge, e_icgt, e_icle, e_goto, e_switch, e_invokevirtual, e_invokestatic, e_invokespecial, e_ret0, e_ret1, e_ret2, e_ret3, ldI_s, ldL_s, ldR_s, clO_s, ctP_s, ctS_s, mgo_0, mgo_s, pjc_s, pj_0, pj_s, lk_s, rm1_0, rm1_i, rm1_r, rm1_l, rm2_0, rm2_i, rm2_r, rm2_l, csL_s, lc_lt, lc_ge, lc_gt, lc_le, lc_eq, b01_0, b01_1, b01_01, b01_n, up2_o, up2_s, up2_u, ne_eq, reduceCtorEq, Nat.reduceAdd, Nat.reduceEqDiff, Nat.reduceLT, Nat.reduceLeDiff, Int.reduceLE, Int.reduceLT, Int.reduceAdd, Int.reduceNeg, Int.reduceMul, Int.reduceSub, Int.reduceEq, Int.reduceToNat, Int.reduceNatCast, Int.cast_ofNat_Int, ↓reduceIte, and_self, List.drop_succ_cons, List.drop_zero, List.take_succ_cons, List.take_zero, List.length_cons, List.length_nil, List.reverse_cons, List.reverse_nil, List.nil_append, List.cons_append, Option.toList, true_and, and_true, or_false, false_or, or_true, true_or, forall_const, Classical.not_not, not_false_eq_true, not_true_eq_false, false_implies, true_implies, implies_true, imp_self, hn, i0, i1, i2]
  repeat (refine And.intro (by omega) ?_)
  refine ⟨⟨⟨h1, x0, hx0⟩, h5, h4⟩, fun v M1 R1 => ?_⟩
  have a1 := R1.2
  have k1 := keepR_lex R1.1
  have k2 : keepR M (up2 M1 10 (3 * (20 + n)) v) := keepR_u (m := 15) k1 (by decide) (by omega)
  have t2 := keepR_T k2
  have y1 := fun x hx => ps_u (k := 10) (i := 3 * (20 + n)) (v := v) (by decide) (by decide) (a1 x hx).1
  repeat (refine And.intro (by omega) ?_)
  refine ⟨⟨⟨t2.2.2 h1, _, y1 x0 hx0⟩, by decide, wOver, okW_c.2.2.2.2.2.2.2.2.2.2.1, w_nums.2.2.2.2.2.2.2.2.2.2.1⟩, fun v2 M2 R2 => ?_⟩
  have a2 := fun x hx => num_use R2 (y1 x hx) okW_c.2.2.2.2.2.2.2.2.2.2.1 w_nums.2.2.2.2.2.2.2.2.2.2.1
  have k3 := keepR_tr k2 (keepR_lex R2.1)
  have k4 : keepR M (up2 M2 10 (3 * (20 + n) + 1) v2) := keepR_u (m := 15) k3 (by decide) (by omega)
  have t4 := keepR_T k4
  have y2 := fun x hx => ps_u (k := 10) (i := 3 * (20 + n) + 1) (v := v2) (by decide) (by decide) (a2 x hx).1
  repeat (refine And.intro (by omega) ?_)
  refine ⟨⟨⟨t4.2.2 h1, _, y2 x0 hx0⟩, wTo, okW_c.2.2.2.2.2.2.2.2.2.2.2.1, w_nums.2.2.2.2.2.2.2.2.2.2.2.1⟩, fun M3 R3 => ?_⟩
  have a3 := fun x hx => R3.2 _ wTo (y2 x hx) okW_c.2.2.2.2.2.2.2.2.2.2.2.1 w_nums.2.2.2.2.2.2.2.2.2.2.2.1
  have k5 := keepR_tr k4 (keepR_lex R3.1)
  have t5 := keepR_T k5
  rw [t4.1, t4.2.1, t2.1, t2.2.1] at a3
  rw [t2.1, t2.2.1] at a2
  have hw : wdI M M3 n := by
    refine ⟨k5, fun k hk => ?_, v, v2, fun x hx => ⟨(a1 x hx).2, (a2 x hx).2⟩, fun j hj => ?_⟩
    · have hk2 : k ≠ 10 ∧ k ∉ [0] := by
        simp only [List.mem_cons, List.not_mem_nil, or_false] at hk
        rcases hk with rfl | rfl | rfl | rfl | rfl | rfl <;> decide
      rw [R3.1.1 k hk2.2, up2_ne hk2.1, R2.1.1 k hk2.2, up2_ne hk2.1, R1.1.1 k hk2.2]
    · rw [R3.1.1 10 (by decide), up2_row, R2.1.1 10 (by decide), up2_row, R1.1.1 10 (by decide)]
      by_cases e : j = 3 * (20 + n) + 1
      · rw [if_pos e, if_neg (by omega), if_pos e]
      · rw [if_neg e, if_neg e]
  have a3 : ∀ x, psR M x → psR M3 (wardX (TM M) (tpN M) (vS 4 M) x) := a3
  refine ⟨fun q => ?_, fun q => ⟨⟨t5.2.2 h1, _, a3 x0 hx0⟩, fun v4 M4 R4 => ?_⟩⟩
  · refine hI_75 _ _ _ ⟨n, hn, rfl, hw, fun x hx => ⟨a3 x hx, ?_⟩, rfl⟩
    have := a3 x hx
    revert this
    generalize wardX (TM M) (tpN M) (vS 4 M) x = y
    intro hy
    cases y with
    | inl e => rfl
    | inr p => exact absurd hy.1 q
  · have a4 := fun x hx => R4.2 _ wHalt (a3 x hx) okW_c.2.2.2.2.2.2.2.2.2.2.2.2.1 w_nums.2.2.2.2.2.2.2.2.2.2.2.2.1
    rw [t5.1, t5.2.1] at a4
    have hw4 := wdI_lex hw R4.1
    refine ⟨fun z => ?_, fun z => ?_⟩
    · refine hI_75 _ _ _ ⟨n, hn, rfl, hw4, fun x hx => ?_, rfl⟩
      obtain ⟨b1, b2⟩ := a4 x hx
      have b3 : isI (TM M) (tpN M) wHalt (wardX (TM M) (tpN M) (vS 4 M) x) = 0 := b2.symm.trans z
      refine ⟨?_, b3⟩
      revert b1 b3
      generalize wardX (TM M) (tpN M) (vS 4 M) x = y
      intro b1 b3
      cases y with
      | inl e => exact b1
      | inr p =>
        have hn2 : ¬ isW (TM M) (tpN M) wHalt p := fun w => by
          have := (isS_r _ _).mpr w
          have : isI (TM M) (tpN M) wHalt (.inr p) = 1 := this
          omega
        have b1 : psR M4 (if isW (TM M) (tpN M) wHalt p then (.inr (tkP (TM M) (tpN M) p).2.2) else (.inr p)) := b1
        rw [if_neg hn2] at b1
        exact b1
    · repeat (refine And.intro (by omega) ?_)
      refine hI_120 _ _ ⟨n, hn, wdI_u hw4, fun x hx => ?_, rfl⟩
      obtain ⟨b1, b2⟩ := a4 x hx
      have b3 : isI (TM M) (tpN M) wHalt (wardX (TM M) (tpN M) (vS 4 M) x) = 1 := by
        rcases isI_01 (TM M) (tpN M) (w := wHalt) (x := wardX (TM M) (tpN M) (vS 4 M) x) with e | e
        · exact absurd (b2.trans e) z
        · exact e
      have eT : wardT (TM M) (tpN M) (vS 4 M) x = (-1, takeS (TM M) (tpN M) wHalt (wardX (TM M) (tpN M) (vS 4 M) x)) := if_pos b3
      rw [eT, up2_s]
      exact ⟨ps_u (by decide) (by decide) b1, rfl⟩
set_option maxHeartbeats 4000000 in
set_option maxRecDepth 100000 in
theorem at7_wardLine_75 {M : Mm} {Q : Option AV → Mm → Prop} (hM : okM sh7 M) (hP : P7_wardLine M) (hQ : ∀ (M1 : Mm), R7_wardLine M M1 → Q none M1) {m : Nat} {k : Int} {M1 : Mm} (hM1 : okM sh7 M1) (h_k : i32 k) (hJ : J7_wardLine_75 M m k M1) (I_75 : List AV → Mm → Prop) (hI_75 : ∀ (m_ : Nat) (y_k : Int) (M2 : Mm), m_ < m → J7_wardLine_75 M m_ y_k M2 → I_75 [ar 0, ai y_k] M2) (I_108 : List AV → Mm → Prop) (hI_108 : ∀ (m_ : Nat) (y_k : Int) (M2 : Mm), m_ < m → J7_wardLine_108 M m_ y_k M2 → I_108 [ar 0, ai y_k] M2) (I_120 : List AV → Mm → Prop) (hI_120 : ∀ (m_ : Nat) (M2 : Mm), m_ < m → J7_wardLine_120 M m_ M2 → I_120 [ar 0] M2) : wp (tb7 (csL cs7_wardLine)) sh7 2 0 cX7_wardLine [(75, [0, 1], I_75), (108, [0, 1], I_108), (120, [0], I_120)] Q 400 75 [(0, ar 0), (1, ai k)] [] M1 := by
  obtain ⟨n, hn, rfl, hw, ha, rfl⟩ := hJ
  obtain ⟨⟨h1, x0, hx0⟩, ⟨h2, h3⟩, h4, h5⟩ := id hP
  have i0 : ((3 : Int) * (20 + n)).toNat = 3 * (20 + n) := by omega
  have t1 := keepR_T hw.1
  obtain ⟨a, b, k3, k4⟩ := id hw.2.2
  have ea : M1 10 (3 * (20 + n)) = a := by rw [k4 _ (by omega), if_pos rfl]
  simp only [e_wp dX7_wardLine_0 rfl, e_wp dX7_wardLine_1 rfl, e_wp dX7_wardLine_3 rfl, e_wp dX7_wardLine_4 rfl, e_wp dX7_wardLine_5 rfl, e_wp dX7_wardLine_8 rfl, e_wp dX7_wardLine_9 rfl, e_wp dX7_wardLine_10 rfl, e_wp dX7_wardLine_11 rfl, e_wp dX7_wardLine_12 rfl, e_wp dX7_wardLine_15 rfl, e_wp dX7_wardLine_16 rfl, e_wp dX7_wardLine_17 rfl, e_wp dX7_wardLine_20 rfl, e_wp dX7_wardLine_21 rfl, e_wp dX7_wardLine_22 rfl, e_wp dX7_wardLine_25 rfl, e_wp dX7_wardLine_26 rfl, e_wp dX7_wardLine_27 rfl, e_wp dX7_wardLine_28 rfl, e_wp dX7_wardLine_29 rfl, e_wp dX7_wardLine_32 rfl, e_wp dX7_wardLine_33 rfl, e_wp dX7_wardLine_35 rfl, e_wp dX7_wardLine_38 rfl, e_wp dX7_wardLine_39 rfl, e_wp dX7_wardLine_40 rfl, e_wp dX7_wardLine_43 rfl, e_wp dX7_wardLine_46 rfl, e_wp dX7_wardLine_47 rfl, e_wp dX7_wardLine_50 rfl, e_wp dX7_wardLine_53 rfl, e_wp dX7_wardLine_54 rfl, e_wp dX7_wardLine_57 rfl, e_wp dX7_wardLine_60 rfl, e_wp dX7_wardLine_63 rfl, e_wp dX7_wardLine_64 rfl, e_wp dX7_wardLine_67 rfl, e_wp dX7_wardLine_68 rfl, e_wp dX7_wardLine_69 rfl, e_wp dX7_wardLine_70 rfl, e_wp dX7_wardLine_71 rfl, e_wp dX7_wardLine_72 rfl, e_wp dX7_wardLine_75 rfl, e_wp dX7_wardLine_76 rfl, e_wp dX7_wardLine_79 rfl, e_wp dX7_wardLine_82 rfl, e_wp dX7_wardLine_83 rfl, e_wp dX7_wardLine_86 rfl, e_wp dX7_wardLine_87 rfl, e_wp dX7_wardLine_90 rfl, e_wp dX7_wardLine_91 rfl, e_wp dX7_wardLine_94 rfl, e_wp dX7_wardLine_95 rfl, e_wp dX7_wardLine_98 rfl, e_wp dX7_wardLine_99 rfl, e_wp dX7_wardLine_100 rfl, e_wp dX7_wardLine_103 rfl, e_wp dX7_wardLine_104 rfl, e_wp dX7_wardLine_105 rfl, e_wp dX7_wardLine_108 rfl, e_wp dX7_wardLine_109 rfl, e_wp dX7_wardLine_112 rfl, e_wp dX7_wardLine_113 rfl, e_wp dX7_wardLine_114 rfl, e_wp dX7_wardLine_115 rfl, e_wp dX7_wardLine_116 rfl, e_wp dX7_wardLine_119 rfl, e_wp dX7_wardLine_120 rfl, e_wp dX7_wardLine_121 rfl, e_wp dX7_wardLine_122 rfl, e_wp dX7_wardLine_123 rfl, e_wp dX7_wardLine_124 rfl, e_wp dX7_wardLine_127 rfl, e_wp dX7_wardLine_128 rfl, e_wp dX7_wardLine_129 rfl, e_wp dX7_wardLine_132 rfl, c7_hasRead, P7_hasRead, V7_hasRead, cs7_wardLine, g7_43, c7_bridgeHere, k7_219, c7_number, k7_221, c7_asks, g7_168, k7_223, c7_takes, g7_157, g7_150, c7_fails, c7_tells, a7_1, w7_1, a7_2, w7_2, a7_3, w7_3, a7_4, w7_4, a7_5, w7_5, a7_6, w7_6, a7_7, w7_7, a7_8, w7_8, a7_9, w7_9, a7_10, w7_10, a7_11, w7_11, a7_12, w7_12, a7_13, w7_13, a7_14, w7_14, a7_15, w7_15, a7_16, w7_16, a7_17, w7_17, a7_18, w7_18, a7_19, w7_19, a7_20, w7_20, a7_21, w7_21, a7_22, w7_22, a7_23, w7_23, a7_24, w7_24, a7_25, w7_25, a7_26, w7_26, a7_27, w7_27, a7_28, w7_28, a7_29, w7_29, a7_30, w7_30, a7_31, w7_31, a7_32, w7_32, a7_33, w7_33, e_iconst, e_bipush, e_sipush, e_lconst_0, e_lconst_1, e_iload, e_iload_0, e_iload_1, e_iload_2, e_iload_3, e_lload, e_lload_0, e_lload_1, e_lload_2, e_lload_3, e_aload, e_aload_0, e_aload_1, e_aload_2, e_aload_3, e_istore, e_istore_0, e_istore_1, e_istore_2, e_istore_3, e_astore, e_astore_0, e_astore_1, e_astore_2, e_astore_3, e_lstore, e_lstore_0, e_lstore_1, e_lstore_2, e_lstore_3, e_iinc, e_iadd, e_isub, e_imul, e_ladd, e_lsub, e_lmul, e_idiv, e_irem, e_ldiv, e_lrem, e_ineg, e_lneg, e_iand, e_ior, e_ixor, e_ishl, e_ishr, e_iushr, e_lcmp, e_i2l, e_l2i, e_i2b, e_i2s, e_dup_i, e_dup_r, e_pop_i, e_pop_r, e_dup2_l, e_dup2_ir, e_dup2_ii, e_ifeq, e_ifne, e_iflt, e_ifge, e_ifgt, e_ifle, e_iceq, e_icne, e_iclt, e_icge, e_icgt, e_icle, e_goto, e_switch, e_invokevirtual, e_invokestatic, e_invokespecial, e_ret0, e_ret1, e_ret2, e_ret3, ldI_s, ldL_s, ldR_s, clO_s, ctP_s, ctS_s, mgo_0, mgo_s, pjc_s, pj_0, pj_s, lk_s, rm1_0, rm1_i, rm1_r, rm1_l, rm2_0, rm2_i, rm2_r, rm2_l, csL_s, lc_lt, lc_ge, lc_gt, lc_le, lc_eq, b01_0, b01_1, b01_01, b01_n, up2_o, up2_s, up2_u, ne_eq, reduceCtorEq, Nat.reduceAdd, Nat.reduceEqDiff, Nat.reduceLT, Nat.reduceLeDiff, Int.reduceLE, Int.reduceLT, Int.reduceAdd, Int.reduceNeg, Int.reduceMul, Int.reduceSub, Int.reduceEq, Int.reduceToNat, Int.reduceNatCast, Int.cast_ofNat_Int, ↓reduceIte, and_self, List.drop_succ_cons, List.drop_zero, List.take_succ_cons, List.take_zero, List.length_cons, List.length_nil, List.reverse_cons, List.reverse_nil, List.nil_append, List.cons_append, Option.toList, true_and, and_true, or_false, false_or, or_true, true_or, forall_const, Classical.not_not, not_false_eq_true, not_true_eq_false, false_implies, true_implies, implies_true, imp_self, i0]
  have ab : a ≤ 1000 := by
    rw [(k3 x0 hx0).1]
    exact numS_b (by decide) (by show M 7 35 - 1 ≤ 1000; omega)
  have fin : ∀ M2, wdI M M2 n → (∀ x, psR M x → psR M2 (ownS (TM M) (tpN M) a (wardX (TM M) (tpN M) (vS 4 M) x))) → I_108 [ar 0, ai (3 * (20 + (n : Int)))] M2 := by
    intro M2 g1 g2
    refine hI_108 1 _ _ (by omega) ⟨n, hn, rfl, g1, fun x hx => ⟨?_, (ha x hx).2⟩, rfl⟩
    rw [← (k3 x hx).1]
    exact g2 x hx
  have no : (∀ x p, psR M x → wardX (TM M) (tpN M) (vS 4 M) x = .inr p → ¬ ((tkP (TM M) (tpN M) p).1 = 2 ∧ numN (TM M) (tpN M) p = a)) → I_108 [ar 0, ai (3 * (20 + (n : Int)))] M1 := by
    intro g
    refine fin M1 hw fun x hx => ?_
    have hy := (ha x hx).1
    have g2 := g x
    revert hy g2
    generalize wardX (TM M) (tpN M) (vS 4 M) x = y
    intro hy g2
    cases y with
    | inl e => exact hy
    | inr p =>
      show psR M1 (if (tkP (TM M) (tpN M) p).1 = 2 ∧ numN (TM M) (tpN M) p = a then _ else _)
      rw [if_neg (g2 p hx rfl)]
      exact hy
  have tk : ∀ x p, psR M x → wardX (TM M) (tpN M) (vS 4 M) x = .inr p → M1 0 12 = 0 ∧ M1 0 8 = (tkP (TM M) (tpN M) p).1 ∧ ((tkP (TM M) (tpN M) p).1 = 2 → vR (M1 0 10) (numN (TM M) (tpN M) p)) := by
    intro x p hx e
    have hy := (ha x hx).1
    rw [e] at hy
    obtain ⟨b0, b1, b2, b3, b4, b5, b6, b7⟩ := hy
    have et : tkM M1 p = tkP (TM M) (tpN M) p := by
      show tkP (TM M1) (tpN M1) p = _
      rw [t1.1, t1.2.1]
    rw [et] at b2 b6
    rw [show M1 5 = TM M from t1.1, t1.2.1] at b6
    exact ⟨b0, b2, b6⟩
  refine ⟨fun q => no fun x p hx e => absurd (tk x p hx e).1 q, fun q => ⟨fun z => no fun x p hx e w => z ((tk x p hx e).2.1.trans w.1), fun z => ?_⟩⟩
  rw [ea]
  refine ⟨by omega, fun y => no fun x p hx e w => y ?_, fun y => ⟨by show ¬ (2 : Int) = 0; decide, fun M2 R2 => ?_⟩⟩
  · have h9 := (tk x p hx e).2.2 w.1
    rw [w.2] at h9
    exact vR_eq h9 ab
  · obtain ⟨f1, f2⟩ := fail_lex R2
    refine fin M2 (wdI_lex hw f1) fun x hx => ?_
    have hy := (ha x hx).1
    have tk2 := tk x
    have f3 := f2 _ hy
    rw [t1.1, t1.2.1] at f3
    revert hy tk2 f3
    generalize wardX (TM M) (tpN M) (vS 4 M) x = w
    intro hy tk2 f3
    cases w with
    | inl e => exact f3
    | inr p =>
      obtain ⟨-, u1, u2⟩ := tk2 p hx rfl
      have u3 := u1.symm.trans z
      have u4 : numN (TM M) (tpN M) p = a := by
        rcases u2 u3 with e | ⟨e1, e2⟩
        · rw [← e]; exact y
        · omega
      show psR M2 (if (tkP (TM M) (tpN M) p).1 = 2 ∧ numN (TM M) (tpN M) p = a then _ else _)
      rw [if_pos ⟨u3, u4⟩]
      exact f3
set_option maxHeartbeats 4000000 in
set_option maxRecDepth 100000 in
theorem at7_wardLine_108 {M : Mm} {Q : Option AV → Mm → Prop} (hM : okM sh7 M) (hP : P7_wardLine M) (hQ : ∀ (M1 : Mm), R7_wardLine M M1 → Q none M1) {m : Nat} {k : Int} {M1 : Mm} (hM1 : okM sh7 M1) (h_k : i32 k) (hJ : J7_wardLine_108 M m k M1) (I_75 : List AV → Mm → Prop) (hI_75 : ∀ (m_ : Nat) (y_k : Int) (M2 : Mm), m_ < m → J7_wardLine_75 M m_ y_k M2 → I_75 [ar 0, ai y_k] M2) (I_108 : List AV → Mm → Prop) (hI_108 : ∀ (m_ : Nat) (y_k : Int) (M2 : Mm), m_ < m → J7_wardLine_108 M m_ y_k M2 → I_108 [ar 0, ai y_k] M2) (I_120 : List AV → Mm → Prop) (hI_120 : ∀ (m_ : Nat) (M2 : Mm), m_ < m → J7_wardLine_120 M m_ M2 → I_120 [ar 0] M2) : wp (tb7 (csL cs7_wardLine)) sh7 2 0 cX7_wardLine [(75, [0, 1], I_75), (108, [0, 1], I_108), (120, [0], I_120)] Q 400 108 [(0, ar 0), (1, ai k)] [] M1 := by
  obtain ⟨n, hn, rfl, hw, ha, rfl⟩ := hJ
  obtain ⟨⟨h1, x0, hx0⟩, ⟨h2, h3⟩, h4, h5⟩ := id hP
  have i2 : ((3 : Int) * (20 + n) + 2).toNat = 3 * (20 + n) + 2 := by omega
  have t1 := keepR_T hw.1
  have e7 : M1 7 = M 7 := hw.2.1 _ (by decide)
  simp only [e_wp dX7_wardLine_0 rfl, e_wp dX7_wardLine_1 rfl, e_wp dX7_wardLine_3 rfl, e_wp dX7_wardLine_4 rfl, e_wp dX7_wardLine_5 rfl, e_wp dX7_wardLine_8 rfl, e_wp dX7_wardLine_9 rfl, e_wp dX7_wardLine_10 rfl, e_wp dX7_wardLine_11 rfl, e_wp dX7_wardLine_12 rfl, e_wp dX7_wardLine_15 rfl, e_wp dX7_wardLine_16 rfl, e_wp dX7_wardLine_17 rfl, e_wp dX7_wardLine_20 rfl, e_wp dX7_wardLine_21 rfl, e_wp dX7_wardLine_22 rfl, e_wp dX7_wardLine_25 rfl, e_wp dX7_wardLine_26 rfl, e_wp dX7_wardLine_27 rfl, e_wp dX7_wardLine_28 rfl, e_wp dX7_wardLine_29 rfl, e_wp dX7_wardLine_32 rfl, e_wp dX7_wardLine_33 rfl, e_wp dX7_wardLine_35 rfl, e_wp dX7_wardLine_38 rfl, e_wp dX7_wardLine_39 rfl, e_wp dX7_wardLine_40 rfl, e_wp dX7_wardLine_43 rfl, e_wp dX7_wardLine_46 rfl, e_wp dX7_wardLine_47 rfl, e_wp dX7_wardLine_50 rfl, e_wp dX7_wardLine_53 rfl, e_wp dX7_wardLine_54 rfl, e_wp dX7_wardLine_57 rfl, e_wp dX7_wardLine_60 rfl, e_wp dX7_wardLine_63 rfl, e_wp dX7_wardLine_64 rfl, e_wp dX7_wardLine_67 rfl, e_wp dX7_wardLine_68 rfl, e_wp dX7_wardLine_69 rfl, e_wp dX7_wardLine_70 rfl, e_wp dX7_wardLine_71 rfl, e_wp dX7_wardLine_72 rfl, e_wp dX7_wardLine_75 rfl, e_wp dX7_wardLine_76 rfl, e_wp dX7_wardLine_79 rfl, e_wp dX7_wardLine_82 rfl, e_wp dX7_wardLine_83 rfl, e_wp dX7_wardLine_86 rfl, e_wp dX7_wardLine_87 rfl, e_wp dX7_wardLine_90 rfl, e_wp dX7_wardLine_91 rfl, e_wp dX7_wardLine_94 rfl, e_wp dX7_wardLine_95 rfl, e_wp dX7_wardLine_98 rfl, e_wp dX7_wardLine_99 rfl, e_wp dX7_wardLine_100 rfl, e_wp dX7_wardLine_103 rfl, e_wp dX7_wardLine_104 rfl, e_wp dX7_wardLine_105 rfl, e_wp dX7_wardLine_108 rfl, e_wp dX7_wardLine_109 rfl, e_wp dX7_wardLine_112 rfl, e_wp dX7_wardLine_113 rfl, e_wp dX7_wardLine_114 rfl, e_wp dX7_wardLine_115 rfl, e_wp dX7_wardLine_116 rfl, e_wp dX7_wardLine_119 rfl, e_wp dX7_wardLine_120 rfl, e_wp dX7_wardLine_121 rfl, e_wp dX7_wardLine_122 rfl, e_wp dX7_wardLine_123 rfl, e_wp dX7_wardLine_124 rfl, e_wp dX7_wardLine_127 rfl, e_wp dX7_wardLine_128 rfl, e_wp dX7_wardLine_129 rfl, e_wp dX7_wardLine_132 rfl, c7_hasRead, P7_hasRead, V7_hasRead, cs7_wardLine, g7_43, c7_bridgeHere, k7_219, c7_number, k7_221, c7_asks, g7_168, k7_223, c7_takes, g7_157, g7_150, c7_fails, c7_tells, a7_1, w7_1, a7_2, w7_2, a7_3, w7_3, a7_4, w7_4, a7_5, w7_5, a7_6, w7_6, a7_7, w7_7, a7_8, w7_8, a7_9, w7_9, a7_10, w7_10, a7_11, w7_11, a7_12, w7_12, a7_13, w7_13, a7_14, w7_14, a7_15, w7_15, a7_16, w7_16, a7_17, w7_17, a7_18, w7_18, a7_19, w7_19, a7_20, w7_20, a7_21, w7_21, a7_22, w7_22, a7_23, w7_23, a7_24, w7_24, a7_25, w7_25, a7_26, w7_26, a7_27, w7_27, a7_28, w7_28, a7_29, w7_29, a7_30, w7_30, a7_31, w7_31, a7_32, w7_32, a7_33, w7_33, e_iconst, e_bipush, e_sipush, e_lconst_0, e_lconst_1, e_iload, e_iload_0, e_iload_1, e_iload_2, e_iload_3, e_lload, e_lload_0, e_lload_1, e_lload_2, e_lload_3, e_aload, e_aload_0, e_aload_1, e_aload_2, e_aload_3, e_istore, e_istore_0, e_istore_1, e_istore_2, e_istore_3, e_astore, e_astore_0, e_astore_1, e_astore_2, e_astore_3, e_lstore, e_lstore_0, e_lstore_1, e_lstore_2, e_lstore_3, e_iinc, e_iadd, e_isub, e_imul, e_ladd, e_lsub, e_lmul, e_idiv, e_irem, e_ldiv, e_lrem, e_ineg, e_lneg, e_iand, e_ior, e_ixor, e_ishl, e_ishr, e_iushr, e_lcmp, e_i2l, e_l2i, e_i2b, e_i2s, e_dup_i, e_dup_r, e_pop_i, e_pop_r, e_dup2_l, e_dup2_ir, e_dup2_ii, e_ifeq, e_ifne, e_iflt, e_ifge, e_ifgt, e_ifle, e_iceq, e_icne, e_iclt, e_icge, e_icgt, e_icle, e_goto, e_switch, e_invokevirtual, e_invokestatic, e_invokespecial, e_ret0, e_ret1, e_ret2, e_ret3, ldI_s, ldL_s, ldR_s, clO_s, ctP_s, ctS_s, mgo_0, mgo_s, pjc_s, pj_0, pj_s, lk_s, rm1_0, rm1_i, rm1_r, rm1_l, rm2_0, rm2_i, rm2_r, rm2_l, csL_s, lc_lt, lc_ge, lc_gt, lc_le, lc_eq, b01_0, b01_1, b01_01, b01_n, up2_o, up2_s, up2_u, ne_eq, reduceCtorEq, Nat.reduceAdd, Nat.reduceEqDiff, Nat.reduceLT, Nat.reduceLeDiff, Int.reduceLE, Int.reduceLT, Int.reduceAdd, Int.reduceNeg, Int.reduceMul, Int.reduceSub, Int.reduceEq, Int.reduceToNat, Int.reduceNatCast, Int.cast_ofNat_Int, ↓reduceIte, and_self, List.drop_succ_cons, List.drop_zero, List.take_succ_cons, List.take_zero, List.length_cons, List.length_nil, List.reverse_cons, List.reverse_nil, List.nil_append, List.cons_append, Option.toList, true_and, and_true, or_false, false_or, or_true, true_or, forall_const, Classical.not_not, not_false_eq_true, not_true_eq_false, false_implies, true_implies, implies_true, imp_self, i2]
  repeat (refine And.intro (by omega) ?_)
  refine ⟨⟨⟨t1.2.2 h1, _, (ha x0 hx0).1⟩, by rw [e7]; exact h5, by rw [e7]; exact h4⟩, fun v M2 R2 => ?_⟩
  repeat (refine And.intro (by omega) ?_)
  refine hI_120 0 _ (by omega) ⟨n, hn, wdI_u (wdI_lex hw R2.1), fun x hx => ?_, rfl⟩
  obtain ⟨b1, b2⟩ := R2.2 _ (ha x hx).1
  rw [t1.1, t1.2.1, e7] at b1 b2
  have b3 := (ha x hx).2
  have eT : wardT (TM M) (tpN M) (vS 4 M) x = numS (TM M) (tpN M) 0 (vS 4 M 0 3 - 1) (ownS (TM M) (tpN M) (wardA (TM M) (tpN M) (vS 4 M) x).1 (wardX (TM M) (tpN M) (vS 4 M) x)) := if_neg (by omega)
  rw [eT, up2_s]
  exact ⟨ps_u (by decide) (by decide) b1, b2⟩
set_option maxHeartbeats 4000000 in
set_option maxRecDepth 100000 in
theorem at7_wardLine_120 {M : Mm} {Q : Option AV → Mm → Prop} (hM : okM sh7 M) (hP : P7_wardLine M) (hQ : ∀ (M1 : Mm), R7_wardLine M M1 → Q none M1) {m : Nat} {M1 : Mm} (hM1 : okM sh7 M1) (hJ : J7_wardLine_120 M m M1) (I_75 : List AV → Mm → Prop) (hI_75 : ∀ (m_ : Nat) (y_k : Int) (M2 : Mm), m_ < m → J7_wardLine_75 M m_ y_k M2 → I_75 [ar 0, ai y_k] M2) (I_108 : List AV → Mm → Prop) (hI_108 : ∀ (m_ : Nat) (y_k : Int) (M2 : Mm), m_ < m → J7_wardLine_108 M m_ y_k M2 → I_108 [ar 0, ai y_k] M2) (I_120 : List AV → Mm → Prop) (hI_120 : ∀ (m_ : Nat) (M2 : Mm), m_ < m → J7_wardLine_120 M m_ M2 → I_120 [ar 0] M2) : wp (tb7 (csL cs7_wardLine)) sh7 2 0 cX7_wardLine [(75, [0, 1], I_75), (108, [0, 1], I_108), (120, [0], I_120)] Q 400 120 [(0, ar 0)] [] M1 := by
  obtain ⟨n, hn, hw, ha, rfl⟩ := hJ
  obtain ⟨⟨h1, x0, hx0⟩, ⟨h2, h3⟩, h4, h5⟩ := id hP
  obtain ⟨k1, k2, a, b, k3, k4⟩ := id hw
  have e7 : M1 7 = M 7 := k2 _ (by decide)
  simp only [e_wp dX7_wardLine_0 rfl, e_wp dX7_wardLine_1 rfl, e_wp dX7_wardLine_3 rfl, e_wp dX7_wardLine_4 rfl, e_wp dX7_wardLine_5 rfl, e_wp dX7_wardLine_8 rfl, e_wp dX7_wardLine_9 rfl, e_wp dX7_wardLine_10 rfl, e_wp dX7_wardLine_11 rfl, e_wp dX7_wardLine_12 rfl, e_wp dX7_wardLine_15 rfl, e_wp dX7_wardLine_16 rfl, e_wp dX7_wardLine_17 rfl, e_wp dX7_wardLine_20 rfl, e_wp dX7_wardLine_21 rfl, e_wp dX7_wardLine_22 rfl, e_wp dX7_wardLine_25 rfl, e_wp dX7_wardLine_26 rfl, e_wp dX7_wardLine_27 rfl, e_wp dX7_wardLine_28 rfl, e_wp dX7_wardLine_29 rfl, e_wp dX7_wardLine_32 rfl, e_wp dX7_wardLine_33 rfl, e_wp dX7_wardLine_35 rfl, e_wp dX7_wardLine_38 rfl, e_wp dX7_wardLine_39 rfl, e_wp dX7_wardLine_40 rfl, e_wp dX7_wardLine_43 rfl, e_wp dX7_wardLine_46 rfl, e_wp dX7_wardLine_47 rfl, e_wp dX7_wardLine_50 rfl, e_wp dX7_wardLine_53 rfl, e_wp dX7_wardLine_54 rfl, e_wp dX7_wardLine_57 rfl, e_wp dX7_wardLine_60 rfl, e_wp dX7_wardLine_63 rfl, e_wp dX7_wardLine_64 rfl, e_wp dX7_wardLine_67 rfl, e_wp dX7_wardLine_68 rfl, e_wp dX7_wardLine_69 rfl, e_wp dX7_wardLine_70 rfl, e_wp dX7_wardLine_71 rfl, e_wp dX7_wardLine_72 rfl, e_wp dX7_wardLine_75 rfl, e_wp dX7_wardLine_76 rfl, e_wp dX7_wardLine_79 rfl, e_wp dX7_wardLine_82 rfl, e_wp dX7_wardLine_83 rfl, e_wp dX7_wardLine_86 rfl, e_wp dX7_wardLine_87 rfl, e_wp dX7_wardLine_90 rfl, e_wp dX7_wardLine_91 rfl, e_wp dX7_wardLine_94 rfl, e_wp dX7_wardLine_95 rfl, e_wp dX7_wardLine_98 rfl, e_wp dX7_wardLine_99 rfl, e_wp dX7_wardLine_100 rfl, e_wp dX7_wardLine_103 rfl, e_wp dX7_wardLine_104 rfl, e_wp dX7_wardLine_105 rfl, e_wp dX7_wardLine_108 rfl, e_wp dX7_wardLine_109 rfl, e_wp dX7_wardLine_112 rfl, e_wp dX7_wardLine_113 rfl, e_wp dX7_wardLine_114 rfl, e_wp dX7_wardLine_115 rfl, e_wp dX7_wardLine_116 rfl, e_wp dX7_wardLine_119 rfl, e_wp dX7_wardLine_120 rfl, e_wp dX7_wardLine_121 rfl, e_wp dX7_wardLine_122 rfl, e_wp dX7_wardLine_123 rfl, e_wp dX7_wardLine_124 rfl, e_wp dX7_wardLine_127 rfl, e_wp dX7_wardLine_128 rfl, e_wp dX7_wardLine_129 rfl, e_wp dX7_wardLine_132 rfl, c7_hasRead, P7_hasRead, V7_hasRead, cs7_wardLine, g7_43, c7_bridgeHere, k7_219, c7_number, k7_221, c7_asks, g7_168, k7_223, c7_takes, g7_157, g7_150, c7_fails, c7_tells, a7_1, w7_1, a7_2, w7_2, a7_3, w7_3, a7_4, w7_4, a7_5, w7_5, a7_6, w7_6, a7_7, w7_7, a7_8, w7_8, a7_9, w7_9, a7_10, w7_10, a7_11, w7_11, a7_12, w7_12, a7_13, w7_13, a7_14, w7_14, a7_15, w7_15, a7_16, w7_16, a7_17, w7_17, a7_18, w7_18, a7_19, w7_19, a7_20, w7_20, a7_21, w7_21, a7_22, w7_22, a7_23, w7_23, a7_24, w7_24, a7_25, w7_25, a7_26, w7_26, a7_27, w7_27, a7_28, w7_28, a7_29, w7_29, a7_30, w7_30, a7_31, w7_31, a7_32, w7_32, a7_33, w7_33, e_iconst, e_bipush, e_sipush, e_lconst_0, e_lconst_1, e_iload, e_iload_0, e_iload_1, e_iload_2, e_iload_3, e_lload, e_lload_0, e_lload_1, e_lload_2, e_lload_3, e_aload, e_aload_0, e_aload_1, e_aload_2, e_aload_3, e_istore, e_istore_0, e_istore_1, e_istore_2, e_istore_3, e_astore, e_astore_0, e_astore_1, e_astore_2, e_astore_3, e_lstore, e_lstore_0, e_lstore_1, e_lstore_2, e_lstore_3, e_iinc, e_iadd, e_isub, e_imul, e_ladd, e_lsub, e_lmul, e_idiv, e_irem, e_ldiv, e_lrem, e_ineg, e_lneg, e_iand, e_ior, e_ixor, e_ishl, e_ishr, e_iushr, e_lcmp, e_i2l, e_l2i, e_i2b, e_i2s, e_dup_i, e_dup_r, e_pop_i, e_pop_r, e_dup2_l, e_dup2_ir, e_dup2_ii, e_ifeq, e_ifne, e_iflt, e_ifge, e_ifgt, e_ifle, e_iceq, e_icne, e_iclt, e_icge, e_icgt, e_icle, e_goto, e_switch, e_invokevirtual, e_invokestatic, e_invokespecial, e_ret0, e_ret1, e_ret2, e_ret3, ldI_s, ldL_s, ldR_s, clO_s, ctP_s, ctS_s, mgo_0, mgo_s, pjc_s, pj_0, pj_s, lk_s, rm1_0, rm1_i, rm1_r, rm1_l, rm2_0, rm2_i, rm2_r, rm2_l, csL_s, lc_lt, lc_ge, lc_gt, lc_le, lc_eq, b01_0, b01_1, b01_01, b01_n, up2_o, up2_s, up2_u, ne_eq, reduceCtorEq, Nat.reduceAdd, Nat.reduceEqDiff, Nat.reduceLT, Nat.reduceLeDiff, Int.reduceLE, Int.reduceLT, Int.reduceAdd, Int.reduceNeg, Int.reduceMul, Int.reduceSub, Int.reduceEq, Int.reduceToNat, Int.reduceNatCast, Int.cast_ofNat_Int, ↓reduceIte, and_self, List.drop_succ_cons, List.drop_zero, List.take_succ_cons, List.take_zero, List.length_cons, List.length_nil, List.reverse_cons, List.reverse_nil, List.nil_append, List.cons_append, Option.toList, true_and, and_true, or_false, false_or, or_true, true_or, forall_const, Classical.not_not, not_false_eq_true, not_true_eq_false, false_implies, true_implies, implies_true, imp_self, e7, hn]
  repeat (refine And.intro (by omega) ?_)
  refine ⟨⟨by decide, by decide⟩, fun M2 R2 => ?_⟩
  have R2 : M2 = up2 M1 7 37 ((n : Int) + 1) := R2
  subst R2
  refine hQ _ ⟨keepR_u (m := 8) k1 (by decide) (by decide), fun x hx => ?_⟩
  obtain ⟨b1, b2⟩ := ha x hx
  obtain ⟨c1, c2⟩ := k3 x hx
  refine ⟨ps_u (by decide) (by decide) b1, ?_⟩
  show _ = addV (vS 4 M) 5 [(5, (wardA (TM M) (tpN M) (vS 4 M) x).1), (6, (wardO (TM M) (tpN M) (vS 4 M) x).1), (7, (wardT (TM M) (tpN M) (vS 4 M) x).1)]
  rw [← c1, ← c2, ← b2]
  refine vS_ward hn (fun k hk => ?_) (fun j => ?_) (fun j => ?_)
  · have hk2 : k ≠ 7 := by
      simp only [List.mem_cons, List.not_mem_nil, or_false] at hk
      rcases hk with rfl | rfl | rfl | rfl | rfl <;> decide
    rw [up2_ne hk2]
    exact k2 k (by simp only [List.mem_cons, List.not_mem_nil, or_false] at hk ⊢; omega)
  · rw [up2_row, e7]
  · rw [up2_o (by decide)]
    by_cases e : j = 3 * (20 + n) + 2
    · rw [e, if_neg (by omega), if_neg (by omega), if_pos rfl]
    · rw [k4 j e, if_neg (show ¬ j = 3 * (20 + n) + 2 from e)]
set_option maxHeartbeats 4000000 in
set_option maxRecDepth 100000 in
theorem m7_wardLine : MOK cl7 sh7 tyl7 [] 5 yX7_wardLine cX7_wardLine 2 none sp7_wardLine := by
  refine mok_of (own := RX7) (tb := tb7 (csL cs7_wardLine)) (rt := 0) (fuel := 400) (fun avs M Q => [(75, [0, 1], fun m_ vs M1 => ∃ y_k : Int, vs = [ar 0, ai y_k] ∧ J7_wardLine_75 M m_ y_k M1), (108, [0, 1], fun m_ vs M1 => ∃ y_k : Int, vs = [ar 0, ai y_k] ∧ J7_wardLine_108 M m_ y_k M1), (120, [0], fun m_ vs M1 => vs = [ar 0] ∧ J7_wardLine_120 M m_ M1)]) (by decide) rfl nil_nw (tbOK7 _) rfl (csL_all ?_) ?_ ?_ ?_
  · intro q hq
    simp only [cs7_wardLine, List.mem_cons, List.not_mem_nil, or_false] at hq
    rcases hq with rfl | rfl | rfl | rfl | rfl | rfl | rfl
    · exact cg7_hasRead (by decide)
    · exact cg7_bridgeHere (by decide)
    · exact cg7_number (by decide)
    · exact cg7_asks (by decide)
    · exact cg7_takes (by decide)
    · exact cg7_fails (by decide)
    · exact cg7_tells (by decide)
  · intro avs M Q hsp
    obtain ⟨xs, hx⟩ := spV_un _ _ _ hsp
    obtain ⟨e, hl⟩ := unA_mkT hx
    obtain rfl := len0 hl
    have e : avs = [ar 0] := e
    subst e
    simp [szL, isL]
  · intro avs M Q hM hav hsp
    obtain ⟨xs, hx⟩ := spV_un _ _ _ hsp
    obtain ⟨e, hl⟩ := unA_mkT hx
    obtain rfl := len0 hl
    have e : avs = [ar 0] := e
    subst e
    exact in7_wardLine hM hsp.1 hsp.2 _ (fun m_ y_k M2 hJ => ⟨m_, y_k, rfl, hJ⟩) _ (fun m_ y_k M2 hJ => ⟨m_, y_k, rfl, hJ⟩) _ (fun m_ M2 hJ => ⟨m_, rfl, hJ⟩)
  · intro avs M Q hM hav hsp q hq m_ vs M1 hM1 hv hJ
    obtain ⟨xs, hx⟩ := spV_un _ _ _ hsp
    obtain ⟨e, hl⟩ := unA_mkT hx
    obtain rfl := len0 hl
    have e : avs = [ar 0] := e
    subst e
    simp only [List.mem_cons, List.not_mem_nil, or_false] at hq
    rcases hq with rfl | rfl | rfl
    · obtain ⟨y_k, rfl, hJ⟩ := hJ
      exact at7_wardLine_75 hM hsp.1 hsp.2 hM1 (hv (1, ai y_k) (List.mem_of_getElem? (i := 1) rfl)) hJ _ (fun m2 z_k M2 hm hJ2 => ⟨m2, hm, z_k, rfl, hJ2⟩) _ (fun m2 z_k M2 hm hJ2 => ⟨m2, hm, z_k, rfl, hJ2⟩) _ (fun m2 M2 hm hJ2 => ⟨m2, hm, rfl, hJ2⟩)
    · obtain ⟨y_k, rfl, hJ⟩ := hJ
      exact at7_wardLine_108 hM hsp.1 hsp.2 hM1 (hv (1, ai y_k) (List.mem_of_getElem? (i := 1) rfl)) hJ _ (fun m2 z_k M2 hm hJ2 => ⟨m2, hm, z_k, rfl, hJ2⟩) _ (fun m2 z_k M2 hm hJ2 => ⟨m2, hm, z_k, rfl, hJ2⟩) _ (fun m2 M2 hm hJ2 => ⟨m2, hm, rfl, hJ2⟩)
    · obtain ⟨rfl, hJ⟩ := hJ
      exact at7_wardLine_120 hM hsp.1 hsp.2 hM1 hJ _ (fun m2 z_k M2 hm hJ2 => ⟨m2, hm, z_k, rfl, hJ2⟩) _ (fun m2 z_k M2 hm hJ2 => ⟨m2, hm, z_k, rfl, hJ2⟩) _ (fun m2 M2 hm hJ2 => ⟨m2, hm, rfl, hJ2⟩)
theorem cg7_wardLine {lvl : Nat} (h : 5 < lvl) : CG RX7 cl7 sh7 tyl7 [] lvl 1 243 1 sp7_wardLine := cg_V (sg := []) nil_nw spV_mono spV_un m7_wardLine h rfl (by decide) rfl rfl ⟨rfl, by decide, by decide, rfl⟩ q1788 q1790 qs79 q138 q1791
def P7_isRoom (is : Int) (w : Int) (most : Int) (M : Mm) : Prop := lexP M ∧ (0 ≤ w ∧ w < 8) ∧ (is = 0 ∨ is = 1) ∧ (is = 1 → ∃ p, psR M (.inr p))
def R7_isRoom (is : Int) (w : Int) (most : Int) (M : Mm) (v : Int) (M1 : Mm) : Prop := lexK M M1 ∧ (v = 0 ∨ v = 1) ∧ ∀ x, psR M x → (is = 0 → v = 0 ∧ psR M1 x) ∧ (is = 1 → (M 7 (32 + w).toNat = most → v = 0 ∧ psR M1 (failS (TM M) (tpN M) 3 x)) ∧ (¬ M 7 (32 + w).toNat = most → v = 1 ∧ psR M1 (nxtS (TM M) (tpN M) x)))
def sp7_isRoom : Spec := spR true [0, 0, 0] 1 (fun x M => P7_isRoom (x 0) (x 1) (x 2) M) (fun x M v M1 => R7_isRoom (x 0) (x 1) (x 2) M v M1)
theorem c7_isRoom {is w most : Int} {M : Mm} {Q : Option AV → Mm → Prop} : sp7_isRoom [ar 0, ai is, ai w, ai most] M Q = (P7_isRoom is w most M ∧ ∀ (v : Int) (M1 : Mm), R7_isRoom is w most M v M1 → Q (some (ai v)) M1) := rfl
def cs7_isRoom : List (Nat × Nat × Nat × Spec) := [(198, 1, 2, sp7_hasRead), (184, 1, 2, sp7_fails), (178, 1, 1, sp7_next)]
def J7_isRoom_18 (is : Int) (w : Int) (most : Int) (M : Mm) (m : Nat) (is_ : Int) (M1 : Mm) : Prop := is = is_ ∧ lexK M M1 ∧ (is = 0 → M1 = M) ∧ (is = 1 → (M 7 (32 + w).toNat = most → ∀ x, psR M x → psR M1 (failS (TM M) (tpN M) 3 x)) ∧ (¬ M 7 (32 + w).toNat = most → M1 = M)) ∧ m = 0
set_option maxHeartbeats 4000000 in
set_option maxRecDepth 100000 in
theorem in7_isRoom {is w most : Int} {M : Mm} {Q : Option AV → Mm → Prop} (hM : okM sh7 M) (h_is : i32 is) (h_w : i32 w) (h_most : i32 most) (hP : P7_isRoom is w most M) (hQ : ∀ (v : Int) (M1 : Mm), R7_isRoom is w most M v M1 → Q (some (ai v)) M1) (I_18 : List AV → Mm → Prop) (hI_18 : ∀ (m_ : Nat) (y_is_ : Int) (M2 : Mm), J7_isRoom_18 is w most M m_ y_is_ M2 → I_18 [ar 0, ai y_is_] M2) : wp (tb7 (csL cs7_isRoom)) sh7 4 2 cX7_isRoom [(18, [0, 1], I_18)] Q 400 0 [(0, ar 0), (1, ai is), (2, ai w), (3, ai most)] [] M := by
  obtain ⟨⟨h1, x0, hx0⟩, h2, h3, h4⟩ := id hP
  simp only [e_wp dX7_isRoom_0 rfl, e_wp dX7_isRoom_1 rfl, e_wp dX7_isRoom_4 rfl, e_wp dX7_isRoom_5 rfl, e_wp dX7_isRoom_6 rfl, e_wp dX7_isRoom_9 rfl, e_wp dX7_isRoom_10 rfl, e_wp dX7_isRoom_13 rfl, e_wp dX7_isRoom_14 rfl, e_wp dX7_isRoom_15 rfl, e_wp dX7_isRoom_18 rfl, e_wp dX7_isRoom_19 rfl, e_wp dX7_isRoom_22 rfl, e_wp dX7_isRoom_23 rfl, e_wp dX7_isRoom_26 rfl, e_wp dX7_isRoom_29 rfl, e_wp dX7_isRoom_30 rfl, e_wp dX7_isRoom_33 rfl, e_wp dX7_isRoom_34 rfl, e_wp dX7_isRoom_37 rfl, e_wp dX7_isRoom_38 rfl, e_wp dX7_isRoom_41 rfl, e_wp dX7_isRoom_44 rfl, e_wp dX7_isRoom_45 rfl, e_wp dX7_isRoom_48 rfl, e_wp dX7_isRoom_49 rfl, c7_hasRead, P7_hasRead, V7_hasRead, cs7_isRoom, c7_fails, g7_168, c7_next, e_iconst, e_bipush, e_sipush, e_lconst_0, e_lconst_1, e_iload, e_iload_0, e_iload_1, e_iload_2, e_iload_3, e_lload, e_lload_0, e_lload_1, e_lload_2, e_lload_3, e_aload, e_aload_0, e_aload_1, e_aload_2, e_aload_3, e_istore, e_istore_0, e_istore_1, e_istore_2, e_istore_3, e_astore, e_astore_0, e_astore_1, e_astore_2, e_astore_3, e_lstore, e_lstore_0, e_lstore_1, e_lstore_2, e_lstore_3, e_iinc, e_iadd, e_isub, e_imul, e_ladd, e_lsub, e_lmul, e_idiv, e_irem, e_ldiv, e_lrem, e_ineg, e_lneg, e_iand, e_ior, e_ixor, e_ishl, e_ishr, e_iushr, e_lcmp, e_i2l, e_l2i, e_i2b, e_i2s, e_dup_i, e_dup_r, e_pop_i, e_pop_r, e_dup2_l, e_dup2_ir, e_dup2_ii, e_ifeq, e_ifne, e_iflt, e_ifge, e_ifgt, e_ifle, e_iceq, e_icne, e_iclt, e_icge, e_icgt, e_icle, e_goto, e_switch, e_invokevirtual, e_invokestatic, e_invokespecial, e_ret0, e_ret1, e_ret2, e_ret3, ldI_s, ldL_s, ldR_s, clO_s, ctP_s, ctS_s, mgo_0, mgo_s, pjc_s, pj_0, pj_s, lk_s, rm1_0, rm1_i, rm1_r, rm1_l, rm2_0, rm2_i, rm2_r, rm2_l, csL_s, lc_lt, lc_ge, lc_gt, lc_le, lc_eq, b01_0, b01_1, b01_01, b01_n, up2_o, up2_s, up2_u, ne_eq, reduceCtorEq, Nat.reduceAdd, Nat.reduceEqDiff, Nat.reduceLT, Nat.reduceLeDiff, Int.reduceLE, Int.reduceLT, Int.reduceAdd, Int.reduceNeg, Int.reduceMul, Int.reduceSub, Int.reduceEq, Int.reduceToNat, Int.reduceNatCast, Int.cast_ofNat_Int, ↓reduceIte, and_self, List.drop_succ_cons, List.drop_zero, List.take_succ_cons, List.take_zero, List.length_cons, List.length_nil, List.reverse_cons, List.reverse_nil, List.nil_append, List.cons_append, Option.toList, true_and, and_true, or_false, false_or, or_true, true_or, forall_const, Classical.not_not, not_false_eq_true, not_true_eq_false, false_implies, true_implies, implies_true, imp_self]
  refine ⟨fun q => ?_, fun q => ⟨h2, fun z => ?_, fun z => ⟨by show ¬ (3 : Int) = 0; decide, fun M1 R1 => ?_⟩⟩⟩
  · exact hI_18 0 _ _ ⟨rfl, lex_rf, fun _ => rfl, fun y => absurd (q.symm.trans y) (by decide), rfl⟩
  · exact hI_18 0 _ _ ⟨rfl, lex_rf, fun _ => rfl, fun _ => ⟨fun y => absurd y z, fun _ => rfl⟩, rfl⟩
  · obtain ⟨f1, f2⟩ := fail_lex R1
    exact hI_18 0 _ _ ⟨rfl, f1, fun y => absurd y q, fun _ => ⟨fun _ => f2, fun y => absurd z y⟩, rfl⟩
set_option maxHeartbeats 4000000 in
set_option maxRecDepth 100000 in
theorem at7_isRoom_18 {is w most : Int} {M : Mm} {Q : Option AV → Mm → Prop} (hM : okM sh7 M) (h_is : i32 is) (h_w : i32 w) (h_most : i32 most) (hP : P7_isRoom is w most M) (hQ : ∀ (v : Int) (M1 : Mm), R7_isRoom is w most M v M1 → Q (some (ai v)) M1) {m : Nat} {is_ : Int} {M1 : Mm} (hM1 : okM sh7 M1) (h_is_ : i32 is_) (hJ : J7_isRoom_18 is w most M m is_ M1) (I_18 : List AV → Mm → Prop) (hI_18 : ∀ (m_ : Nat) (y_is_ : Int) (M2 : Mm), m_ < m → J7_isRoom_18 is w most M m_ y_is_ M2 → I_18 [ar 0, ai y_is_] M2) : wp (tb7 (csL cs7_isRoom)) sh7 4 2 cX7_isRoom [(18, [0, 1], I_18)] Q 400 18 [(0, ar 0), (1, ai is_)] [] M1 := by
  obtain ⟨rfl, hk, ha, hb, rfl⟩ := hJ
  obtain ⟨⟨h1, x0, hx0⟩, h2, h3, h4⟩ := id hP
  have t1 := lex_T hk
  simp only [e_wp dX7_isRoom_0 rfl, e_wp dX7_isRoom_1 rfl, e_wp dX7_isRoom_4 rfl, e_wp dX7_isRoom_5 rfl, e_wp dX7_isRoom_6 rfl, e_wp dX7_isRoom_9 rfl, e_wp dX7_isRoom_10 rfl, e_wp dX7_isRoom_13 rfl, e_wp dX7_isRoom_14 rfl, e_wp dX7_isRoom_15 rfl, e_wp dX7_isRoom_18 rfl, e_wp dX7_isRoom_19 rfl, e_wp dX7_isRoom_22 rfl, e_wp dX7_isRoom_23 rfl, e_wp dX7_isRoom_26 rfl, e_wp dX7_isRoom_29 rfl, e_wp dX7_isRoom_30 rfl, e_wp dX7_isRoom_33 rfl, e_wp dX7_isRoom_34 rfl, e_wp dX7_isRoom_37 rfl, e_wp dX7_isRoom_38 rfl, e_wp dX7_isRoom_41 rfl, e_wp dX7_isRoom_44 rfl, e_wp dX7_isRoom_45 rfl, e_wp dX7_isRoom_48 rfl, e_wp dX7_isRoom_49 rfl, c7_hasRead, P7_hasRead, V7_hasRead, cs7_isRoom, c7_fails, g7_168, c7_next, e_iconst, e_bipush, e_sipush, e_lconst_0, e_lconst_1, e_iload, e_iload_0, e_iload_1, e_iload_2, e_iload_3, e_lload, e_lload_0, e_lload_1, e_lload_2, e_lload_3, e_aload, e_aload_0, e_aload_1, e_aload_2, e_aload_3, e_istore, e_istore_0, e_istore_1, e_istore_2, e_istore_3, e_astore, e_astore_0, e_astore_1, e_astore_2, e_astore_3, e_lstore, e_lstore_0, e_lstore_1, e_lstore_2, e_lstore_3, e_iinc, e_iadd, e_isub, e_imul, e_ladd, e_lsub, e_lmul, e_idiv, e_irem, e_ldiv, e_lrem, e_ineg, e_lneg, e_iand, e_ior, e_ixor, e_ishl, e_ishr, e_iushr, e_lcmp, e_i2l, e_l2i, e_i2b, e_i2s, e_dup_i, e_dup_r, e_pop_i, e_pop_r, e_dup2_l, e_dup2_ir, e_dup2_ii, e_ifeq, e_ifne, e_iflt, e_ifge, e_ifgt, e_ifle, e_iceq, e_icne, e_iclt, e_icge, e_icgt, e_icle, e_goto, e_switch, e_invokevirtual, e_invokestatic, e_invokespecial, e_ret0, e_ret1, e_ret2, e_ret3, ldI_s, ldL_s, ldR_s, clO_s, ctP_s, ctS_s, mgo_0, mgo_s, pjc_s, pj_0, pj_s, lk_s, rm1_0, rm1_i, rm1_r, rm1_l, rm2_0, rm2_i, rm2_r, rm2_l, csL_s, lc_lt, lc_ge, lc_gt, lc_le, lc_eq, b01_0, b01_1, b01_01, b01_n, up2_o, up2_s, up2_u, ne_eq, reduceCtorEq, Nat.reduceAdd, Nat.reduceEqDiff, Nat.reduceLT, Nat.reduceLeDiff, Int.reduceLE, Int.reduceLT, Int.reduceAdd, Int.reduceNeg, Int.reduceMul, Int.reduceSub, Int.reduceEq, Int.reduceToNat, Int.reduceNatCast, Int.cast_ofNat_Int, ↓reduceIte, and_self, List.drop_succ_cons, List.drop_zero, List.take_succ_cons, List.take_zero, List.length_cons, List.length_nil, List.reverse_cons, List.reverse_nil, List.nil_append, List.cons_append, Option.toList, true_and, and_true, or_false, false_or, or_true, true_or, forall_const, Classical.not_not, not_false_eq_true, not_true_eq_false, false_implies, true_implies, implies_true, imp_self]
  refine ⟨fun q => ?_, fun q => ?_⟩
  · have e := ha q
    subst e
    have fin : Q (some (ai 0)) M1 := hQ _ _ ⟨hk, Or.inl rfl, fun x hx => ⟨fun _ => ⟨rfl, hx⟩, fun y => absurd (q.symm.trans y) (by decide)⟩⟩
    (repeat' (first | (intro _) | (refine And.intro ?_ ?_))) <;> first | exact fin | (exfalso; omega)
  · have is1 : is = 1 := by omega
    obtain ⟨b1, b2⟩ := hb is1
    obtain ⟨p0, hp0⟩ := h4 is1
    by_cases z : M 7 (32 + w).toNat = most
    · have f := b1 z
      have hbad : ¬ M1 0 12 = 0 := by
        have := f _ hp0
        exact fun y => this.2.2 (this.1.symm.trans y)
      have fin : Q (some (ai 0)) M1 := hQ _ _ ⟨hk, Or.inl rfl, fun x hx => ⟨fun y => absurd y q, fun _ => ⟨fun _ => ⟨rfl, f x hx⟩, fun y => absurd z y⟩⟩⟩
      (repeat' (first | (intro _) | (refine And.intro ?_ ?_))) <;> first | exact fin | (exfalso; omega)
    · have e := b2 z
      subst e
      have hbad : M1 0 12 = 0 := hp0.1
      have fin : P7_next M1 ∧ ∀ M2, R7_next M1 M2 → Q (some (ai 1)) M2 := by
        refine ⟨⟨h1, ps_spot h1 hp0.2⟩, fun M2 R2 => hQ _ _ ⟨(nx_use hbad hp0.2 R2).1, Or.inr rfl, fun x hx => ⟨fun y => absurd y q, fun _ => ⟨fun y => absurd y z, fun _ => ⟨rfl, ?_⟩⟩⟩⟩⟩
        cases x with
        | inl e => exact absurd (hx.1.symm.trans hbad) hx.2.2
        | inr p => exact (nx_use hbad hx.2 R2).2
      have fin2 : ∀ M2, R7_next M1 M2 → M2 0 12 = 0 := fun M2 R2 => (R2.2.1 12 (by decide)).trans hbad
      refine ⟨fun y => absurd hbad y, fun _ => ⟨fin.1, fun M2 R2 => ?_⟩⟩
      have g1 := fin2 M2 R2
      have g2 := fin.2 M2 R2
      (repeat' (first | (intro _) | (refine And.intro ?_ ?_))) <;> first | exact g2 | (exfalso; omega)
set_option maxHeartbeats 4000000 in
set_option maxRecDepth 100000 in
theorem m7_isRoom : MOK cl7 sh7 tyl7 [] 2 yX7_isRoom cX7_isRoom 4 (some .boolean) sp7_isRoom := by
  refine mok_of (own := RX7) (tb := tb7 (csL cs7_isRoom)) (rt := 2) (fuel := 400) (fun avs M Q => [(18, [0, 1], fun m_ vs M1 => ∃ y_is_ : Int, vs = [ar 0, ai y_is_] ∧ J7_isRoom_18 (pa true [0, 0, 0] avs 0) (pa true [0, 0, 0] avs 1) (pa true [0, 0, 0] avs 2) M m_ y_is_ M1)]) (by decide) rfl nil_nw (tbOK7 _) rfl (csL_all ?_) ?_ ?_ ?_
  · intro q hq
    simp only [cs7_isRoom, List.mem_cons, List.not_mem_nil, or_false] at hq
    rcases hq with rfl | rfl | rfl
    · exact cg7_hasRead (by decide)
    · exact cg7_fails (by decide)
    · exact cg7_next (by decide)
  · intro avs M Q hsp
    obtain ⟨xs, hx⟩ := spR_un _ _ _ hsp
    obtain ⟨e, hl⟩ := unA_mkT hx
    obtain ⟨is, w, most, rfl⟩ := len3 hl
    have e : avs = [ar 0, ai is, ai w, ai most] := e
    subst e
    simp [szL, isL]
  · intro avs M Q hM hav hsp
    obtain ⟨xs, hx⟩ := spR_un _ _ _ hsp
    obtain ⟨e, hl⟩ := unA_mkT hx
    obtain ⟨is, w, most, rfl⟩ := len3 hl
    have e : avs = [ar 0, ai is, ai w, ai most] := e
    subst e
    exact in7_isRoom hM (hav (ai is) (by simp)) (hav (ai w) (by simp)) (hav (ai most) (by simp)) hsp.1 hsp.2 _ (fun m_ y_is_ M2 hJ => ⟨m_, y_is_, rfl, hJ⟩)
  · intro avs M Q hM hav hsp q hq m_ vs M1 hM1 hv hJ
    obtain ⟨xs, hx⟩ := spR_un _ _ _ hsp
    obtain ⟨e, hl⟩ := unA_mkT hx
    obtain ⟨is, w, most, rfl⟩ := len3 hl
    have e : avs = [ar 0, ai is, ai w, ai most] := e
    subst e
    simp only [List.mem_cons, List.not_mem_nil, or_false] at hq
    rcases hq with rfl
    · obtain ⟨y_is_, rfl, hJ⟩ := hJ
      exact at7_isRoom_18 hM (hav (ai is) (by simp)) (hav (ai w) (by simp)) (hav (ai most) (by simp)) hsp.1 hsp.2 hM1 (hv (1, ai y_is_) (List.mem_of_getElem? (i := 1) rfl)) hJ _ (fun m2 z_is_ M2 hm hJ2 => ⟨m2, hm, z_is_, rfl, hJ2⟩)
theorem cg7_isRoom {lvl : Nat} (h : 2 < lvl) : CG RX7 cl7 sh7 tyl7 [] lvl 1 229 4 sp7_isRoom := cg_V (sg := [0, 0, 0]) nil_nw spR_mono spR_un m7_isRoom h rfl (by decide) rfl rfl ⟨rfl, by decide, by decide, rfl⟩ q1763 q1765 qs74 q138 q1766
