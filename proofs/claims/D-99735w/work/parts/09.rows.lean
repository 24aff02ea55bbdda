/-! rows for what the walks leave -/
theorem lc_lt {x y : Int} : (lcm3 x y < 0) = (x < y) := by
  unfold lcm3
  repeat' split
  all_goals (apply propext; constructor <;> intro h <;> first | omega | (exfalso; omega))
theorem lc_ge {x y : Int} : (0 ≤ lcm3 x y) = (y ≤ x) := by
  unfold lcm3
  repeat' split
  all_goals (apply propext; constructor <;> intro h <;> first | omega | (exfalso; omega))
theorem lc_gt {x y : Int} : (0 < lcm3 x y) = (y < x) := by
  unfold lcm3
  repeat' split
  all_goals (apply propext; constructor <;> intro h <;> first | omega | (exfalso; omega))
theorem lc_le {x y : Int} : (lcm3 x y ≤ 0) = (x ≤ y) := by
  unfold lcm3
  repeat' split
  all_goals (apply propext; constructor <;> intro h <;> first | omega | (exfalso; omega))
theorem lc_eq {x y : Int} : (lcm3 x y = 0) = (x = y) := by
  unfold lcm3
  repeat' split
  all_goals (apply propext; constructor <;> intro h <;> first | omega | (exfalso; omega))
theorem b01_t {c : Prop} {_ : Decidable c} (h : c) : b01 c = 1 := if_pos h
theorem b01_f {c : Prop} {_ : Decidable c} (h : ¬ c) : b01 c = 0 := if_neg h
theorem b01_0 {c : Prop} {_ : Decidable c} : (b01 c = 0) = ¬ c := by
  unfold b01
  split <;> simp [*]
theorem b01_1 {c : Prop} {_ : Decidable c} : (b01 c = 1) = c := by
  unfold b01
  split <;> simp [*]
theorem b01_01 {c : Prop} {_ : Decidable c} : (b01 c = 0 ∨ b01 c = 1) = True := by
  unfold b01
  split <;> simp
theorem b01_n {c : Prop} {_ : Decidable c} : (0 < b01 c) = c := by
  unfold b01
  split <;> simp [*]
theorem qeq {Q : Option AV → Mm → Prop} {a b : Int} {M : Mm} (h : Q (some (ai a)) M) (e : a = b) : Q (some (ai b)) M := e ▸ h
theorem qel {Q : Option AV → Mm → Prop} {a b : Int} {M : Mm} (h : Q (some (al a)) M) (e : a = b) : Q (some (al b)) M := e ▸ h
theorem b01_c {c d : Prop} {_ : Decidable c} {_ : Decidable d} (h : c ↔ d) : b01 c = b01 d := by
  unfold b01
  by_cases hc : c
  · rw [if_pos hc, if_pos (h.mp hc)]
  · rw [if_neg hc, if_neg (fun q => hc (h.mpr q))]
theorem up2_id (M : Mm) (k j : Nat) : up2 M k j (M k j) = M := by
  funext a b
  unfold up2
  split
  · rename_i h; rw [h.1, h.2]
  · rfl
theorem up2_r {M : Mm} {k j k' j' : Nat} {x : Int} : up2 M k j x k' j' = if k' = k ∧ j' = j then x else M k' j' := rfl
theorem up2_o {M : Mm} {k j k' j' : Nat} {x : Int} (h : k' ≠ k) : up2 M k j x k' j' = M k' j' := by
  rw [up2_r, if_neg (fun q => h q.1)]
theorem up2_s {M : Mm} {k j : Nat} {x : Int} : up2 M k j x k j = x := by
  rw [up2_r, if_pos ⟨rfl, rfl⟩]
theorem up2_n {M : Mm} {k j j' : Nat} {x : Int} (h : j' ≠ j) : up2 M k j x k j' = M k j' := by
  rw [up2_r, if_neg (fun q => h q.2)]
theorem up2_u {M : Mm} {k j : Nat} {x y : Int} : up2 (up2 M k j x) k j y = up2 M k j y := by
  funext a b
  unfold up2
  split <;> rfl
/-- nothing else has changed -/
def frm (rows : List Nat) (M M1 : Mm) : Prop := ∀ k, k ∉ rows → M1 k = M k
theorem frm_rf {rows : List Nat} {M : Mm} : frm rows M M := fun _ _ => rfl
theorem frm_up {rows : List Nat} {M M1 : Mm} {k j : Nat} {x : Int} (h : frm rows M M1) (hk : k ∈ rows) : frm rows M (up2 M1 k j x) := by
  intro k' h'
  rw [up2_ne (fun e => h' (by rw [e]; exact hk))]
  exact h k' h'
theorem frm_tr {rows rows' : List Nat} {M M1 M2 : Mm} (h : frm rows M M1) (h2 : frm rows' M1 M2) (hs : ∀ k ∈ rows', k ∈ rows) : frm rows M M2 := fun k hk => (h2 k (fun q => hk (hs k q))).trans (h k hk)
theorem frm_w {rows rows' : List Nat} {M M1 : Mm} (h : frm rows' M M1) (hs : ∀ k ∈ rows', k ∈ rows) : frm rows M M1 := fun k hk => h k (fun q => hk (hs k q))
