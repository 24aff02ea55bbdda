/-! Bits, plain -/
theorem i32_k : ∀ k : Fin 32, (Int32.ofInt (k.val : Int) &&& 31) = Int32.ofInt (k.val : Int) ∧ ((Int32.ofInt (k.val : Int) &&& 31).toBitVec.smod 32).toNat = k.val := by decide
theorem bshr_g {x : Int} {k : Nat} (h : k < 32) : (Int32.ofInt (bshr x k)).toBitVec = (Int32.ofInt x).toBitVec.sshiftRight k := by
  unfold bshr
  rw [Int32.ofInt_toInt, Int32.toBitVec_shiftRight]
  show (Int32.ofInt x).toBitVec.sshiftRight ((Int32.ofInt (k : Int) &&& 31).toBitVec.smod 32).toNat = _
  rw [(i32_k ⟨k, h⟩).2]
theorem bit_g {x : Int} {k : Nat} (h : k < 32) : bitP x k ↔ (Int32.ofInt x).toBitVec.getLsbD k = true := by
  unfold bitP band
  have e : (Int32.ofInt (bshr x k) &&& Int32.ofInt 1).toInt = 1 ↔ (Int32.ofInt (bshr x k)).toBitVec.getLsbD 0 = true := by
    generalize Int32.ofInt (bshr x k) = a
    constructor
    · intro h1
      have h2 : (a &&& Int32.ofInt 1) = Int32.ofInt 1 := by
        rw [← Int32.toInt_inj]; exact h1
      have h3 := congrArg (fun z : Int32 => z.toBitVec.getLsbD 0) h2
      simpa using h3
    · intro h1
      have h2 : (a &&& Int32.ofInt 1) = Int32.ofInt 1 := by
        rw [← Int32.toBitVec_inj]
        apply BitVec.eq_of_getLsbD_eq
        intro i hi
        match i with
        | 0 => simpa using h1
        | i + 1 => simp
      rw [h2]; rfl
  rw [e, bshr_g h]
  rw [BitVec.getLsbD_sshiftRight]
  simp [h]
theorem bor_g (x y : Int) (k : Nat) : (Int32.ofInt (bor x y)).toBitVec.getLsbD k = ((Int32.ofInt x).toBitVec.getLsbD k || (Int32.ofInt y).toBitVec.getLsbD k) := by
  unfold bor
  rw [Int32.ofInt_toInt, Int32.toBitVec_or, BitVec.getLsbD_or]
theorem band_g (x y : Int) (k : Nat) : (Int32.ofInt (band x y)).toBitVec.getLsbD k = ((Int32.ofInt x).toBitVec.getLsbD k && (Int32.ofInt y).toBitVec.getLsbD k) := by
  unfold band
  rw [Int32.ofInt_toInt, Int32.toBitVec_and, BitVec.getLsbD_and]
theorem bxor_g (x y : Int) (k : Nat) : (Int32.ofInt (bxor x y)).toBitVec.getLsbD k = ((Int32.ofInt x).toBitVec.getLsbD k ^^ (Int32.ofInt y).toBitVec.getLsbD k) := by
  unfold bxor
  rw [Int32.ofInt_toInt, Int32.toBitVec_xor, BitVec.getLsbD_xor]
theorem bshl1_g : ∀ c k : Fin 8, (Int32.ofInt (bshl 1 (c.val : Int))).toBitVec.getLsbD k.val = decide (k.val = c.val) := by decide
theorem bit_or {u : Int} {c k : Nat} (hc : c < 8) (hk : k < 8) : bitP (bor u (bshl 1 c)) k ↔ bitP u k ∨ k = c := by
  rw [bit_g (by omega), bit_g (by omega), bor_g, bshl1_g ⟨c, hc⟩ ⟨k, hk⟩]
  simp
theorem bit_z (k : Nat) (h : k < 8) : ¬ bitP 0 k := by
  rw [bit_g (by omega)]
  show ¬ (Int32.ofInt 0).toBitVec.getLsbD k = true
  rw [show Int32.ofInt 0 = (0 : Int32) from rfl]
  simp
/-! Rows, plain -/
def catN {α : Type} (f : Nat → List α) : Nat → List α
  | 0 => []
  | n + 1 => catN f n ++ f n
theorem catN_congr {α : Type} {f g : Nat → List α} : ∀ {n : Nat}, (∀ k, k < n → f k = g k) → catN f n = catN g n := by
  intro n
  induction n with
  | zero => intro _; rfl
  | succ n ih =>
    intro h
    show catN f n ++ f n = catN g n ++ g n
    rw [ih fun k hk => h k (by omega), h n (by omega)]
theorem catN_len {α : Type} {f : Nat → List α} {B : Nat} : ∀ {n : Nat}, (∀ k, k < n → (f k).length ≤ B) → (catN f n).length ≤ n * B := by
  intro n
  induction n with
  | zero => intro _; exact Nat.zero_le _
  | succ n ih =>
    intro h
    show (catN f n ++ f n).length ≤ _
    have h1 := ih fun k hk => h k (by omega)
    have h2 := h n (by omega)
    rw [List.length_append, Nat.succ_mul]
    omega
theorem catN_le {α : Type} {f : Nat → List α} {a : Nat} : ∀ {n : Nat}, a ≤ n → (catN f a).length ≤ (catN f n).length := by
  intro n
  induction n with
  | zero => intro h; obtain rfl : a = 0 := by omega
            exact Nat.le_refl _
  | succ n ih =>
    intro h
    by_cases e : a = n + 1
    · rw [e]; exact Nat.le_refl _
    · have := ih (by omega)
      show _ ≤ (catN f n ++ f n).length
      rw [List.length_append]
      omega
/-- all rows from place t on: the carts that are not used, in their order -/
def ordL (V : Vy) : Nat → Cf → Nat → Int → List Cf
  | 0, C, _, _ => [C]
  | n + 1, C, t, u => catN (fun c => if bitP u c then [] else ordL V n (up2 C 3 t c) (t + 1) (bor u (bshl 1 c))) (V 0 4).toNat
abbrev ordB (V : Vy) (n : Nat) (C : Cf) (t : Nat) (u : Int) : Nat → List Cf := fun c => if bitP u c then [] else ordL V n (up2 C 3 t c) (t + 1) (bor u (bshl 1 c))
theorem ordL_s {V : Vy} {n : Nat} {C : Cf} {t : Nat} {u : Int} : ordL V (n + 1) C t u = catN (ordB V n C t u) (V 0 4).toNat := rfl
theorem ordL_congr {V : Vy} : ∀ {n : Nat} {C C' : Cf} {t : Nat} {u : Int}, (∀ i j, ¬ (i = 3 ∧ t ≤ j ∧ j < t + n) → C i j = C' i j) → ordL V n C t u = ordL V n C' t u := by
  intro n
  induction n with
  | zero =>
    intro C C' t u h
    have : C = C' := funext fun i => funext fun j => h i j (by omega)
    rw [this]
  | succ n ih =>
    intro C C' t u h
    rw [ordL_s, ordL_s]
    refine catN_congr fun c _ => ?_
    show (if bitP u c then [] else ordL V n (up2 C 3 t c) (t + 1) (bor u (bshl 1 c))) = (if bitP u c then [] else ordL V n (up2 C' 3 t c) (t + 1) (bor u (bshl 1 c)))
    split
    · rfl
    · refine ih fun i j hij => ?_
      show (if i = 3 ∧ j = t then (c : Int) else C i j) = (if i = 3 ∧ j = t then (c : Int) else C' i j)
      split
      · rfl
      · exact h i j (by omega)
theorem ordL_len {V : Vy} (h : V 0 4 ≤ 7) : ∀ {n : Nat} {C : Cf} {t : Nat} {u : Int}, (ordL V n C t u).length ≤ 7 ^ n := by
  intro n
  induction n with
  | zero => intro C t u; exact Nat.le_refl _
  | succ n ih =>
    intro C t u
    rw [ordL_s]
    have h1 := catN_len (f := ordB V n C t u) (B := 7 ^ n) (n := (V 0 4).toNat) (fun k _ => by
      show (if bitP u k then [] else ordL V n (up2 C 3 t k) (t + 1) (bor u (bshl 1 k))).length ≤ _
      split
      · exact Nat.zero_le _
      · exact ih)
    refine Nat.le_trans h1 ?_
    rw [Nat.pow_succ, Nat.mul_comm]
    exact Nat.mul_le_mul_left _ (by omega)
/-- the least sag, how many have it, the most that go over; the first row with it -/
abbrev Ac : Type := (Int × Int × Int) × (Nat → Int)
def sagF (V : Vy) (C : Cf) : Int := sumN (fun b => sagP ((runP (whoM C) V C (V 0 4).toNat).1 b)) (V 0 3).toNat
/-- over which bridge a cart went, in n turns -/
def gonP (V : Vy) (C : Cf) : Nat → Nat → Int
  | 0, _ => -1
  | t + 1, c => if c = (C 3 t).toNat then wentS V C (preP (whoM C) V C t) t else gonP V C t c
def ovF (V : Vy) (C : Cf) : Int := sumN (fun c => if gonP V C (V 0 4).toNat c = -1 then 0 else 1) (V 0 4).toNat
def keepP (i : Nat) (V : Vy) (a : Ac) (C : Cf) : Ac :=
  ((if sagF V C < a.1.1 then sagF V C else a.1.1, (if sagF V C < a.1.1 then 1 else if sagF V C = a.1.1 then a.1.2.1 + 1 else a.1.2.1), if a.1.2.2 < ovF V C then ovF V C else a.1.2.2), fun k => if sagF V C < a.1.1 then C i k else a.2 k)
def mubA (a : Ac) : Int := if a.1.1 = 100000 then 0 else a.1.2.1
theorem mub_fold {i : Nat} {V : Vy} : ∀ {L : List Cf} {a : Ac}, 0 ≤ mubA a → 0 ≤ mubA (L.foldl (keepP i V) a) ∧ mubA (L.foldl (keepP i V) a) ≤ mubA a + L.length := by
  intro L
  induction L with
  | nil => intro a h; exact ⟨h, by show mubA a ≤ mubA a + 0; omega⟩
  | cons C L ih =>
    intro a h
    have h1 : 0 ≤ mubA (keepP i V a C) ∧ mubA (keepP i V a C) ≤ mubA a + 1 := by
      revert h
      unfold mubA keepP
      dsimp only
      generalize sagF V C = s
      repeat' split
      all_goals omega
    have h2 := ih h1.1
    show 0 ≤ mubA (L.foldl _ (keepP i V a C)) ∧ mubA (L.foldl _ (keepP i V a C)) ≤ mubA a + ((L.length + 1 : Nat) : Int)
    omega
theorem surj_of_inj : ∀ (n : Nat) (f : Nat → Nat), (∀ i, i < n → f i < n) → (∀ i j, i < n → j < n → f i = f j → i = j) → ∀ c, c < n → ∃ i, i < n ∧ f i = c := by
  intro n
  induction n with
  | zero => intro f _ _ c hc; omega
  | succ n ih =>
    intro f h1 h2 c hc
    have key := ih (fun i => if f i = n then f n else f i) (fun i hi => by
      show (if f i = n then f n else f i) < n
      split
      · rename_i e
        have a1 := h1 n (by omega)
        have a2 : f n ≠ n := fun e2 => by
          have := h2 i n (by omega) (by omega) (by omega)
          omega
        omega
      · have := h1 i (by omega)
        omega) (fun i j hi hj e => by
      have e : (if f i = n then f n else f i) = (if f j = n then f n else f j) := e
      by_cases q1 : f i = n <;> by_cases q2 : f j = n
      · exact h2 i j (by omega) (by omega) (by omega)
      · rw [if_pos q1, if_neg q2] at e
        have := h2 n j (by omega) (by omega) e
        omega
      · rw [if_neg q1, if_pos q2] at e
        have := h2 i n (by omega) (by omega) e
        omega
      · rw [if_neg q1, if_neg q2] at e
        exact h2 i j (by omega) (by omega) e)
    by_cases q : c < n
    · obtain ⟨i, hi, e⟩ := key c q
      have e : (if f i = n then f n else f i) = c := e
      by_cases z : f i = n
      · rw [if_pos z] at e
        exact ⟨n, by omega, e⟩
      · rw [if_neg z] at e
        exact ⟨i, by omega, e⟩
    · by_cases z : f n = n
      · exact ⟨n, by omega, by omega⟩
      · obtain ⟨i, hi, e⟩ := key (f n) (by have := h1 n (by omega); omega)
        have e : (if f i = n then f n else f i) = f n := e
        by_cases w : f i = n
        · exact ⟨i, by omega, by omega⟩
        · rw [if_neg w] at e
          have := h2 i n (by omega) (by omega) e
          omega
theorem gon_of {V : Vy} {C : Cf} (hC : okCf V C) (hi : injR V C) {t : Nat} : ∀ {n : Nat}, (n : Int) ≤ V 0 4 → t < n → gonP V C n (C 3 t).toNat = wentS V C (preP (whoM C) V C t) t := by
  intro n
  induction n with
  | zero => intro _ h; omega
  | succ n ih =>
    intro hn h
    show (if (C 3 t).toNat = (C 3 n).toNat then _ else gonP V C n (C 3 t).toNat) = _
    have r1 := (hC.2 t (by omega)).2.2
    have r2 := (hC.2 n (by omega)).2.2
    by_cases e : t = n
    · rw [e, if_pos rfl]
    · rw [if_neg (fun z => e (hi t n (by omega) (by omega) (by omega)))]
      exact ih (by omega) (by omega)
theorem gon_out {V : Vy} {C : Cf} {M1 : Mm} (hC : okCf V C) (hi : injR V C) (hr : ranR V C M1) {c : Nat} (hc : (c : Int) < V 0 4) : M1 22 c = gonP V C (V 0 4).toNat c := by
  obtain ⟨t, ht, e⟩ := surj_of_inj (V 0 4).toNat (fun t => (C 3 t).toNat) (fun t ht => by have := (hC.2 t (by omega)).2.2; show (C 3 t).toNat < _; omega) (fun t t' h1 h2 e => by
    have r1 := (hC.2 t (by omega)).2.2
    have r2 := (hC.2 t' (by omega)).2.2
    have e : (C 3 t).toNat = (C 3 t').toNat := e
    exact hi t t' (by omega) (by omega) (by omega)) c (by omega)
  have e : (C 3 t).toNat = c := e
  rw [← e, gon_of hC hi (by omega) ht]
  exact (hr.2.2.2 hi t (by omega)).1
theorem over_out {V : Vy} {C : Cf} {M1 : Mm} (hC : okCf V C) (hi : injR V C) (hr : ranR V C M1) : sumN (fun c => if M1 22 c = -1 then 0 else 1) (V 0 4).toNat = ovF V C := sumN_congr fun c hc => by rw [gon_out hC hi hr (by omega)]
theorem sag_out {V : Vy} {C : Cf} {M1 : Mm} (hr : ranR V C M1) : sumN (fun b => sagP (mb M1 b)) (V 0 3).toNat = sagF V C := sumN_congr fun b hb => by rw [(hr.2.1 b (by omega)).1]
theorem sagF_b {V : Vy} {C : Cf} (h : okY V) (hC : okCf V C) : 0 ≤ sagF V C ∧ sagF V C ≤ 2376 := by
  have h3 := (okY_n h).1
  have h4 := (okY_n h).2.1
  have := sumN_b (f := fun b => sagP ((runP (whoM C) V C (V 0 4).toNat).1 b)) (B := 792) (n := (V 0 3).toNat) (fun b _ => by
    have x := run_ok (w := whoM C) h hC (V 0 4).toNat (by omega) b
    have y := sagP_b x.1
    show 0 ≤ sagP ((runP (whoM C) V C (V 0 4).toNat).1 b) ∧ sagP ((runP (whoM C) V C (V 0 4).toNat).1 b) ≤ 792
    omega)
  show 0 ≤ sumN _ _ ∧ sumN _ _ ≤ 2376
  omega
