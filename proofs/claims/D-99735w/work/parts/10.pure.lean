/-! THE SYSTEM'S LAW, PLAIN: what bridges remember, turns, runs -/
def stk {α : Type} (f : Nat → α) : Nat → List α
  | 0 => []
  | n + 1 => f n :: stk f n
theorem stk_len {α : Type} (f : Nat → α) : ∀ n, (stk f n).length = n := by
  intro n
  induction n with
  | zero => rfl
  | succ n ih => show (f n :: stk f n).length = _; rw [List.length_cons, ih]
theorem stk_congr {α : Type} {f g : Nat → α} : ∀ {n : Nat}, (∀ k, k < n → f k = g k) → stk f n = stk g n := by
  intro n
  induction n with
  | zero => intro _; rfl
  | succ n ih =>
    intro h
    show f n :: stk f n = g n :: stk g n
    rw [h n (Nat.lt_succ_self n), ih fun k hk => h k (Nat.lt_succ_of_lt hk)]
/-- what a bridge remembers: loads, each with its mark; the last one first -/
abbrev Pr : Type := Int × Int
def lastP : List Pr → Int
  | [] => 0
  | x :: _ => x.1
def sagP : List Pr → Int
  | [] => 0
  | x :: l => sagP l + x.1.tdiv ((l.length : Int) + 1)
def popP (ld : Int) : List Pr → List Pr
  | [] => []
  | x :: l => if x.1 ≤ ld then popP ld l else x :: l
/-- a load goes over: what is remembered then, how many it wipes out -/
def crossP (law ld who : Int) (l : List Pr) : List Pr × Int :=
  if law = 2 ∧ l ≠ [] ∧ 2 * ld ≤ lastP l then (l, 0)
  else if (law = 1 ∨ (law = 3 ∧ ld.tmod 2 = 1)) ∧ l ≠ [] ∧ 2 * ld < lastP l then (l.tail, 1)
  else ((ld, who) :: popP ld l, (l.length : Int) - (popP ld l).length)
def frzP (fr : Int) : List Pr → List Pr
  | [] => []
  | x :: l => if x.1 - fr ≤ 0 then frzP fr l else (x.1 - fr, x.2) :: frzP fr l
/-- a valley: 0: law, frost, odds, bridges, carts, wards, frosts, acts, lines; 1 holds, 2 toll; 3 load, 4 by; 5 at, 6 over, 7 to; 8 frosts' carts; 9 what is done, 10 by which cart, 11 by which bridge -/
abbrev Vy : Type := Nat → Nat → Int
/-- told otherwise: 0: law, colds, absent; 1 load, 2 by, 3 row -/
abbrev Cf : Type := Nat → Nat → Int
def wayR (V : Vy) (b ld : Int) : Nat → Nat → Int
  | 0, _ => b
  | n + 1, w => if V 5 w = b ∧ V 6 w < ld then V 7 w else wayR V b ld n (w + 1)
def wayP (V : Vy) (b ld : Int) : Int := if b = -1 then -1 else wayR V b ld (V 0 5).toNat 0
abbrev bitP (x k : Int) : Prop := band (bshr x k) 1 = 1
/-- a run: what bridges remember, by which cart each broke, at which turn -/
abbrev Sm : Type := (Nat → List Pr) × (Nat → Int) × (Nat → Int)
def sm0 : Sm := (fun _ => [], fun _ => -1, fun _ => 100000)
def frzA (V : Vy) (C : Cf) (S : Sm) (t : Nat) : Sm := if bitP (C 0 1) t then (fun b => frzP (V 0 1) (S.1 b), S.2) else S
/-- to which bridge a cart comes (-1: it halts) -/
def toP (V : Vy) (C : Cf) (c : Nat) : Int := wayP V (C 2 c) (C 1 c)
/-- it goes over -/
abbrev isGo (V : Vy) (C : Cf) (S : Sm) (c : Nat) : Prop := ¬ bitP (C 0 2) c ∧ ¬ toP V C c = -1 ∧ S.2.1 (toP V C c).toNat = -1
def crP (who : Nat → Int) (V : Vy) (C : Cf) (S : Sm) (t : Nat) : List Pr × Int := crossP (C 0 0) (C 1 (C 3 t).toNat) (who t) (S.1 (toP V C (C 3 t).toNat).toNat)
def goS (who : Nat → Int) (V : Vy) (C : Cf) (S : Sm) (t : Nat) : Sm :=
  (fun b => if b = (toP V C (C 3 t).toNat).toNat then (crP who V C S t).1 else S.1 b,
    if V 1 (toP V C (C 3 t).toNat).toNat < sagP (crP who V C S t).1 then (fun b => if b = (toP V C (C 3 t).toNat).toNat then C 3 t else S.2.1 b, fun b => if b = (toP V C (C 3 t).toNat).toNat then (t : Int) else S.2.2 b) else S.2)
def stepP (who : Nat → Int) (V : Vy) (C : Cf) (S : Sm) (t : Nat) : Sm := if isGo V C (frzA V C S t) (C 3 t).toNat then goS who V C (frzA V C S t) t else frzA V C S t
def runP (who : Nat → Int) (V : Vy) (C : Cf) : Nat → Sm
  | 0 => sm0
  | t + 1 => stepP who V C (runP who V C t) t
/-- what a turn answers: over which bridge (-1: none), more sag, creak, wiped -/
def wentS (V : Vy) (C : Cf) (S : Sm) (t : Nat) : Int := if isGo V C S (C 3 t).toNat then toP V C (C 3 t).toNat else -1
def giveS (who : Nat → Int) (V : Vy) (C : Cf) (S : Sm) (t : Nat) : Int := if isGo V C S (C 3 t).toNat then sagP (crP who V C S t).1 - sagP (S.1 (toP V C (C 3 t).toNat).toNat) else 0
def creakS (V : Vy) (C : Cf) (S : Sm) (t : Nat) : Int := if isGo V C S (C 3 t).toNat then (if lastP (S.1 (toP V C (C 3 t).toNat).toNat) < C 1 (C 3 t).toNat then C 1 (C 3 t).toNat - lastP (S.1 (toP V C (C 3 t).toNat).toNat) else 0) else 0
def wipeS (who : Nat → Int) (V : Vy) (C : Cf) (S : Sm) (t : Nat) : Int := if isGo V C S (C 3 t).toNat then (crP who V C S t).2 else 0
/-- the state in which turn t finds the bridges: frost behind it -/
def preP (who : Nat → Int) (V : Vy) (C : Cf) (t : Nat) : Sm := frzA V C (runP who V C t) t
/-! bounds -/
def okL (l : List Pr) : Prop := ∀ x ∈ l, 1 ≤ x.1 ∧ x.1 ≤ 99
theorem okL_0 : okL [] := fun _ h => by cases h
theorem okL_c {x : Pr} {l : List Pr} : okL (x :: l) ↔ (1 ≤ x.1 ∧ x.1 ≤ 99) ∧ okL l := by
  constructor
  · intro h
    exact ⟨h x List.mem_cons_self, fun y hy => h y (List.mem_cons_of_mem _ hy)⟩
  · rintro ⟨h1, h2⟩ y hy
    rcases List.mem_cons.mp hy with e | e
    · rw [e]; exact h1
    · exact h2 y e
theorem tdiv_b {x n : Int} (hx : 0 ≤ x) (hn : 1 ≤ n) : 0 ≤ x.tdiv n ∧ x.tdiv n ≤ x := by
  rw [Int.tdiv_eq_ediv_of_nonneg hx]
  refine ⟨Int.ediv_nonneg hx (by omega), ?_⟩
  exact Int.ediv_le_self n hx
theorem sagP_b {l : List Pr} (h : okL l) : 0 ≤ sagP l ∧ sagP l ≤ 99 * l.length := by
  induction l with
  | nil => exact ⟨Int.le_refl _, Int.le_refl _⟩
  | cons x l ih =>
    obtain ⟨h1, h2⟩ := okL_c.mp h
    have h3 := ih h2
    have h4 := @tdiv_b x.1 ((l.length : Int) + 1) (by omega) (by omega)
    show 0 ≤ sagP l + x.1.tdiv ((l.length : Int) + 1) ∧ sagP l + x.1.tdiv ((l.length : Int) + 1) ≤ 99 * ((l.length + 1 : Nat) : Int)
    omega
theorem okL_pop {ld : Int} {l : List Pr} (h : okL l) : okL (popP ld l) := by
  induction l with
  | nil => exact h
  | cons x l ih =>
    obtain ⟨h1, h2⟩ := okL_c.mp h
    show okL (if x.1 ≤ ld then popP ld l else x :: l)
    split
    · exact ih h2
    · exact h
theorem pop_len (ld : Int) (l : List Pr) : (popP ld l).length ≤ l.length := by
  induction l with
  | nil => exact Nat.le_refl _
  | cons x l ih =>
    show (if x.1 ≤ ld then popP ld l else x :: l).length ≤ _
    split
    · exact Nat.le_succ_of_le ih
    · exact Nat.le_refl _
theorem okL_cross {law ld who : Int} {l : List Pr} (h : okL l) (hl : 1 ≤ ld ∧ ld ≤ 99) : okL (crossP law ld who l).1 := by
  unfold crossP
  split
  · exact h
  · split
    · cases l with
      | nil => exact h
      | cons x l => exact (okL_c.mp h).2
    · exact okL_c.mpr ⟨hl, okL_pop h⟩
theorem cross_len {law ld who : Int} (l : List Pr) : (crossP law ld who l).1.length ≤ l.length + 1 := by
  unfold crossP
  split
  · exact Nat.le_succ _
  · split
    · cases l with
      | nil => exact Nat.zero_le _
      | cons x l => show l.length ≤ _; simp; omega
    · have := pop_len ld l
      show (_ :: popP ld l).length ≤ _
      rw [List.length_cons]
      omega
theorem okL_frz {fr : Int} {l : List Pr} (h : okL l) (hf : 0 ≤ fr) : okL (frzP fr l) := by
  induction l with
  | nil => exact h
  | cons x l ih =>
    obtain ⟨h1, h2⟩ := okL_c.mp h
    show okL (if x.1 - fr ≤ 0 then frzP fr l else (x.1 - fr, x.2) :: frzP fr l)
    split
    · exact ih h2
    · rename_i q
      exact okL_c.mpr ⟨⟨by show 1 ≤ x.1 - fr; omega, by show x.1 - fr ≤ 99; omega⟩, ih h2⟩
theorem frz_len (fr : Int) (l : List Pr) : (frzP fr l).length ≤ l.length := by
  induction l with
  | nil => exact Nat.le_refl _
  | cons x l ih =>
    show (if x.1 - fr ≤ 0 then frzP fr l else (x.1 - fr, x.2) :: frzP fr l).length ≤ _
    split
    · exact Nat.le_succ_of_le ih
    · rw [List.length_cons, List.length_cons]; omega
theorem stk_mem {α : Type} {f : Nat → α} : ∀ {n k : Nat}, k < n → f k ∈ stk f n := by
  intro n
  induction n with
  | zero => intro k h; omega
  | succ n ih =>
    intro k h
    by_cases hk : k = n
    · rw [hk]; exact List.mem_cons_self
    · exact List.mem_cons_of_mem _ (ih (by omega))
theorem stk_okL {f : Nat → Pr} : ∀ {n k : Nat}, okL (stk f n) → k ≤ n → okL (stk f k) := by
  intro n
  induction n with
  | zero =>
    intro k h hk
    obtain rfl : k = 0 := by omega
    exact h
  | succ n ih =>
    intro k h hk
    by_cases e : k = n + 1
    · rw [e]; exact h
    · exact ih (okL_c.mp h).2 (by omega)
