/-! Tokens of a text, plain (for both); states of reading: an error (kind, place), or a place -/
def skP (T : Nat → Int) (n : Nat) : Nat → Nat → Nat
  | 0, p => p
  | k + 1, p => if p < n ∧ (T p = 32 ∨ T p = 10) then skP T n k (p + 1) else p
/-- white signs are gone over -/
def skE (T : Nat → Int) (n p : Nat) : Nat := skP T n (n - p) p
theorem skE_1 {T : Nat → Int} {n p : Nat} (h : p < n) (h2 : T p = 32 ∨ T p = 10) : skE T n p = skE T n (p + 1) := by
  unfold skE
  rw [show n - p = (n - (p + 1)) + 1 by omega]
  exact if_pos ⟨h, h2⟩
theorem skE_0 {T : Nat → Int} {n p : Nat} (h : ¬ (p < n ∧ (T p = 32 ∨ T p = 10))) : skE T n p = p := by
  unfold skE
  generalize n - p = k
  cases k with
  | zero => rfl
  | succ k => exact if_neg h
theorem skP_rg {T : Nat → Int} {n : Nat} : ∀ {k p : Nat}, p ≤ n → p ≤ skP T n k p ∧ skP T n k p ≤ n := by
  intro k
  induction k with
  | zero => intro p h; exact ⟨Nat.le_refl _, h⟩
  | succ k ih =>
    intro p h
    show p ≤ (if p < n ∧ (T p = 32 ∨ T p = 10) then skP T n k (p + 1) else p) ∧ (if p < n ∧ (T p = 32 ∨ T p = 10) then skP T n k (p + 1) else p) ≤ n
    split
    · rename_i q
      have := ih (p := p + 1) (by omega)
      omega
    · omega
theorem skE_rg {T : Nat → Int} {n p : Nat} (h : p ≤ n) : p ≤ skE T n p ∧ skE T n p ≤ n := skP_rg h
def spP (T : Nat → Int) (n : Nat) (lo hi : Int) : Nat → Nat → Nat
  | 0, p => p
  | k + 1, p => if p < n ∧ lo ≤ T p ∧ T p ≤ hi then spP T n lo hi k (p + 1) else p
/-- signs of a kind are gone over -/
def spE (T : Nat → Int) (n : Nat) (lo hi : Int) (p : Nat) : Nat := spP T n lo hi (n - p) p
theorem spE_1 {T : Nat → Int} {n p : Nat} {lo hi : Int} (h : p < n) (h2 : lo ≤ T p ∧ T p ≤ hi) : spE T n lo hi p = spE T n lo hi (p + 1) := by
  unfold spE
  rw [show n - p = (n - (p + 1)) + 1 by omega]
  exact if_pos ⟨h, h2⟩
theorem spE_0 {T : Nat → Int} {n p : Nat} {lo hi : Int} (h : ¬ (p < n ∧ lo ≤ T p ∧ T p ≤ hi)) : spE T n lo hi p = p := by
  unfold spE
  generalize n - p = k
  cases k with
  | zero => rfl
  | succ k => exact if_neg h
theorem spP_rg {T : Nat → Int} {n : Nat} {lo hi : Int} : ∀ {k p : Nat}, p ≤ n → (p ≤ spP T n lo hi k p ∧ spP T n lo hi k p ≤ n) ∧ ∀ j, p ≤ j → j < spP T n lo hi k p → lo ≤ T j ∧ T j ≤ hi := by
  intro k
  induction k with
  | zero => intro p h; exact ⟨⟨Nat.le_refl _, h⟩, fun j a b => absurd b (by show ¬ j < p; omega)⟩
  | succ k ih =>
    intro p h
    show (p ≤ (if p < n ∧ lo ≤ T p ∧ T p ≤ hi then spP T n lo hi k (p + 1) else p) ∧ (if p < n ∧ lo ≤ T p ∧ T p ≤ hi then spP T n lo hi k (p + 1) else p) ≤ n) ∧ ∀ j, p ≤ j → j < (if p < n ∧ lo ≤ T p ∧ T p ≤ hi then spP T n lo hi k (p + 1) else p) → lo ≤ T j ∧ T j ≤ hi
    split
    · rename_i q
      obtain ⟨h1, h2⟩ := ih (p := p + 1) (by omega)
      refine ⟨by omega, fun j a b => ?_⟩
      by_cases e : j = p
      · rw [e]; exact q.2
      · exact h2 j (by omega) b
    · exact ⟨by omega, fun j a b => absurd b (by omega)⟩
theorem spE_rg {T : Nat → Int} {n p : Nat} {lo hi : Int} (h : p ≤ n) : (p ≤ spE T n lo hi p ∧ spE T n lo hi p ≤ n) ∧ ∀ j, p ≤ j → j < spE T n lo hi p → lo ≤ T j ∧ T j ≤ hi := spP_rg h
/-- the token from a place on: its kind (0 the end, 1 a word, 2 a number, 3 the sign, 4 none), its first place, the place behind it -/
def tkP (T : Nat → Int) (n p : Nat) : Int × Nat × Nat :=
  if n ≤ skE T n p then (0, skE T n p, skE T n p) else if 97 ≤ T (skE T n p) ∧ T (skE T n p) ≤ 122 then (1, skE T n p, spE T n 97 122 (skE T n p)) else if 48 ≤ T (skE T n p) ∧ T (skE T n p) ≤ 57 then (2, skE T n p, spE T n 48 57 (skE T n p)) else (if T (skE T n p) = 59 then 3 else 4, skE T n p, skE T n p + 1)
theorem tkP_rg {T : Nat → Int} {n p : Nat} (h : p ≤ n) : p ≤ (tkP T n p).2.1 ∧ (tkP T n p).2.1 ≤ (tkP T n p).2.2 ∧ (tkP T n p).2.2 ≤ n ∧ (0 ≤ (tkP T n p).1 ∧ (tkP T n p).1 ≤ 4) ∧ (¬ (tkP T n p).1 = 0 → (tkP T n p).2.1 < (tkP T n p).2.2) := by
  have h1 := @skE_rg T n p h
  unfold tkP
  split
  · exact ⟨h1.1, Nat.le_refl _, h1.2, ⟨Int.le_refl _, by show (0 : Int) ≤ 4; omega⟩, fun q => absurd rfl q⟩
  · rename_i z
    split
    · rename_i q
      have h2 := (@spE_rg T n (skE T n p) 97 122 h1.2).1
      have h3 := (@spE_rg T n (skE T n p + 1) 97 122 (by omega)).1
      rw [← spE_1 (by omega) q] at h3
      exact ⟨h1.1, h2.1, h2.2, ⟨by show (0 : Int) ≤ 1; omega, by show (1 : Int) ≤ 4; omega⟩, fun _ => by show skE T n p < spE T n 97 122 (skE T n p); omega⟩
    · split
      · rename_i q
        have h2 := (@spE_rg T n (skE T n p) 48 57 h1.2).1
        have h3 := (@spE_rg T n (skE T n p + 1) 48 57 (by omega)).1
        rw [← spE_1 (by omega) q] at h3
        exact ⟨h1.1, h2.1, h2.2, ⟨by show (0 : Int) ≤ 2; omega, by show (2 : Int) ≤ 4; omega⟩, fun _ => by show skE T n p < spE T n 48 57 (skE T n p); omega⟩
      · refine ⟨h1.1, by show skE T n p ≤ skE T n p + 1; omega, by show skE T n p + 1 ≤ n; omega, ?_, fun _ => by show skE T n p < skE T n p + 1; omega⟩
        show 0 ≤ (if T (skE T n p) = 59 then (3 : Int) else 4) ∧ (if T (skE T n p) = 59 then (3 : Int) else 4) ≤ 4
        split <;> omega
/-- the number that digits write -/
def nuP (T : Nat → Int) (q : Nat) : Nat → Int
  | 0 => 0
  | i + 1 => 10 * nuP T q i + T (q + i) - 48
theorem nuP_b {T : Nat → Int} {q : Nat} : ∀ {i : Nat}, (∀ j, j < i → 48 ≤ T (q + j) ∧ T (q + j) ≤ 57) → 0 ≤ nuP T q i := by
  intro i
  induction i with
  | zero => intro _; exact Int.le_refl _
  | succ i ih =>
    intro h
    have h1 := ih fun j hj => h j (by omega)
    have h2 := h i (by omega)
    show 0 ≤ 10 * nuP T q i + T (q + i) - 48
    omega
/-- as a number, but for what is far too great -/
def vR (v N : Int) : Prop := v = N ∨ (1000 < v ∧ 1000 < N)
theorem vR_in {v N lo hi : Int} (h : vR v N) (hh : hi ≤ 1000) : (lo ≤ v ∧ v ≤ hi) ↔ (lo ≤ N ∧ N ≤ hi) := by
  rcases h with rfl | ⟨h1, h2⟩
  · exact Iff.rfl
  · constructor <;> intro q <;> omega
theorem vR_eq {v N : Int} (h : vR v N) (hh : N ≤ 1000) : v = N := by
  rcases h with e | ⟨h1, h2⟩
  · exact e
  · omega
/-- signs as a list, the last one first; what they are as a number of 27 -/
def wL : List Int → Int
  | [] => 0
  | c :: l => 27 * wL l + c - 96
def letL (l : List Int) : Prop := ∀ c ∈ l, 97 ≤ c ∧ c ≤ 122
theorem wL_0 : ∀ {l : List Int}, letL l → 0 ≤ wL l ∧ wL l < ((27 ^ l.length : Nat) : Int) := by
  intro l
  induction l with
  | nil => intro _; exact ⟨Int.le_refl _, by show (0 : Int) < 1; omega⟩
  | cons c l ih =>
    intro h
    have h1 := ih fun x hx => h x (List.mem_cons_of_mem _ hx)
    have h2 := h c List.mem_cons_self
    show 0 ≤ 27 * wL l + c - 96 ∧ 27 * wL l + c - 96 < ((27 ^ (l.length + 1) : Nat) : Int)
    rw [Nat.pow_succ]
    omega
theorem wL_inj : ∀ {l l' : List Int}, letL l → letL l' → wL l = wL l' → l = l' := by
  intro l
  induction l with
  | nil =>
    intro l' _ h2 e
    cases l' with
    | nil => rfl
    | cons c l' =>
      have h3 := (wL_0 (l := l') fun x hx => h2 x (List.mem_cons_of_mem _ hx)).1
      have h4 := h2 c List.mem_cons_self
      have e : (0 : Int) = 27 * wL l' + c - 96 := e
      omega
  | cons c l ih =>
    intro l' h1 h2 e
    have h3 := (wL_0 (l := l) fun x hx => h1 x (List.mem_cons_of_mem _ hx)).1
    have h4 := h1 c List.mem_cons_self
    cases l' with
    | nil =>
      have e : 27 * wL l + c - 96 = 0 := e
      omega
    | cons d l' =>
      have h5 := (wL_0 (l := l') fun x hx => h2 x (List.mem_cons_of_mem _ hx)).1
      have h6 := h2 d List.mem_cons_self
      have e : 27 * wL l + c - 96 = 27 * wL l' + d - 96 := e
      have e1 : wL l = wL l' := by omega
      have e2 : c = d := by omega
      rw [e2, ih (fun x hx => h1 x (List.mem_cons_of_mem _ hx)) (fun x hx => h2 x (List.mem_cons_of_mem _ hx)) e1]
/-- the signs of a token -/
abbrev sgL (T : Nat → Int) (q e : Nat) : List Int := stk (fun k => T (q + k)) (e - q)
theorem stk_let {T : Nat → Int} {q : Nat} : ∀ {i : Nat}, (∀ j, j < i → 97 ≤ T (q + j) ∧ T (q + j) ≤ 122) → letL (stk (fun k => T (q + k)) i) := by
  intro i
  induction i with
  | zero => intro _ c hc; cases hc
  | succ i ih =>
    intro h c hc
    rcases List.mem_cons.mp hc with e | e
    · rw [e]; exact h i (by omega)
    · exact ih (fun j hj => h j (by omega)) c e
/-- words: the last sign first -/
abbrev wValley : List Int := [121, 101, 108, 108, 97, 118]
abbrev wLaw : List Int := [119, 97, 108]
abbrev wFrost : List Int := [116, 115, 111, 114, 102]
abbrev wOdds : List Int := [115, 100, 100, 111]
abbrev wBridge : List Int := [101, 103, 100, 105, 114, 98]
abbrev wHolds : List Int := [115, 100, 108, 111, 104]
abbrev wToll : List Int := [108, 108, 111, 116]
abbrev wCart : List Int := [116, 114, 97, 99]
abbrev wBy : List Int := [121, 98]
abbrev wWard : List Int := [100, 114, 97, 119]
abbrev wOver : List Int := [114, 101, 118, 111]
abbrev wTo : List Int := [111, 116]
abbrev wHalt : List Int := [116, 108, 97, 104]
abbrev wAt : List Int := [116, 97]
theorem w_nums : wL wValley = 316452499 ∧ wL wLaw = 8798 ∧ wL wFrost = 3554408 ∧ wL wOdds = 298288 ∧ wL wBridge = 38444009 ∧ wL wHolds = 4555648 ∧ wL wToll = 404931 ∧ wL wCart = 60284 ∧ wL wBy = 79 ∧ wL wWard = 453928 ∧ wL wOver = 311436 ∧ wL wTo = 555 ∧ wL wHalt = 158537 ∧ wL wAt = 47 := by decide
/-- a state of reading -/
abbrev Ps : Type := (Int × Int) ⊕ Nat
section
variable (T : Nat → Int) (n : Nat)
abbrev isW (w : List Int) (p : Nat) : Prop := (tkP T n p).1 = 1 ∧ sgL T (tkP T n p).2.1 (tkP T n p).2.2 = w
def nxtS : Ps → Ps
  | .inl e => .inl e
  | .inr p => .inr (tkP T n p).2.2
def failS (k : Int) : Ps → Ps
  | .inl e => .inl e
  | .inr p => .inl (k, ((tkP T n p).2.1 : Int))
def isI (w : List Int) (x : Ps) : Int := match x with
  | .inl _ => 0
  | .inr p => b01 (isW T n w p)
abbrev isS (w : List Int) (x : Ps) : Prop := isI T n w x = 1
theorem isS_r {w : List Int} {p : Nat} : isS T n w (.inr p) ↔ isW T n w p := by
  show b01 (isW T n w p) = 1 ↔ isW T n w p
  rw [b01_1]
theorem isS_l {w : List Int} {e : Int × Int} : ¬ isS T n w (.inl e) := by
  intro h
  have h : (0 : Int) = 1 := h
  omega
theorem isI_01 {w : List Int} {x : Ps} : isI T n w x = 0 ∨ isI T n w x = 1 := by
  cases x with
  | inl e => exact Or.inl rfl
  | inr p =>
    show b01 (isW T n w p) = 0 ∨ b01 (isW T n w p) = 1
    unfold b01
    split <;> omega
def takeS (w : List Int) : Ps → Ps
  | .inl e => .inl e
  | .inr p => if isW T n w p then .inr (tkP T n p).2.2 else .inr p
def askS (w : List Int) : Ps → Ps
  | .inl e => .inl e
  | .inr p => if isW T n w p then .inr (tkP T n p).2.2 else .inl (1, ((tkP T n p).2.1 : Int))
abbrev numN (p : Nat) : Int := nuP T (tkP T n p).2.1 ((tkP T n p).2.2 - (tkP T n p).2.1)
/-- a number is read: what it is, the state behind it -/
def numS (lo hi : Int) : Ps → Int × Ps
  | .inl e => (lo, .inl e)
  | .inr p => if (tkP T n p).1 = 2 then (if lo ≤ numN T n p ∧ numN T n p ≤ hi then (numN T n p, .inr (tkP T n p).2.2) else (lo, .inl (2, ((tkP T n p).2.1 : Int)))) else (lo, .inl (1, ((tkP T n p).2.1 : Int)))
abbrev told (w : List Int) (lo hi : Int) (x : Ps) : Int × Ps := numS T n lo hi (askS T n w x)
def endS : Ps → Ps
  | .inl e => .inl e
  | .inr p => if (tkP T n p).1 = 3 then .inr (tkP T n p).2.2 else .inl (1, ((tkP T n p).2.1 : Int))
end
