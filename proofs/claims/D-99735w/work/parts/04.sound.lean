/-! SOUNDNESS of the machine of conditions over the kit's W -/
theorem n_of {x : Int} (h : i32 x) : (Int32.ofInt x).toInt = x := by
  obtain ⟨h1, h2⟩ := h
  exact Int32.toInt_ofInt_of_le (by omega) (by omega)
theorem l_of {x : Int} (h : i64 x) : (Int64.ofInt x).toInt = x := by
  obtain ⟨h1, h2⟩ := h
  exact Int64.toInt_ofInt_of_le (by omega) (by omega)
theorem n_rg (x : Int32) : i32 x.toInt := by
  have h1 := Int32.minValue_le_toInt x
  have h2 := Int32.toInt_le x
  have e1 : Int32.minValue.toInt = -2147483648 := rfl
  have e2 : Int32.maxValue.toInt = 2147483647 := rfl
  unfold i32
  omega
theorem l_rg (x : Int64) : i64 x.toInt := by
  have h1 := Int64.minValue_le_toInt x
  have h2 := Int64.toInt_le x
  have e1 : Int64.minValue.toInt = -9223372036854775808 := rfl
  have e2 : Int64.maxValue.toInt = 9223372036854775807 := rfl
  unfold i64
  omega
theorem n_le {x y : Int} (hx : i32 x) (hy : i32 y) : Int32.ofInt x ≤ Int32.ofInt y ↔ x ≤ y := by rw [Int32.le_iff_toInt_le, n_of hx, n_of hy]
theorem n_lt {x y : Int} (hx : i32 x) (hy : i32 y) : Int32.ofInt x < Int32.ofInt y ↔ x < y := by rw [Int32.lt_iff_toInt_lt, n_of hx, n_of hy]
theorem n_eq {x y : Int} (hx : i32 x) (hy : i32 y) : Int32.ofInt x = Int32.ofInt y ↔ x = y := by rw [← Int32.toInt_inj, n_of hx, n_of hy]
theorem l_eq {x y : Int} (hx : i64 x) (hy : i64 y) : Int64.ofInt x = Int64.ofInt y ↔ x = y := by rw [← Int64.toInt_inj, l_of hx, l_of hy]
theorem l_lt {x y : Int} (hx : i64 x) (hy : i64 y) : Int64.ofInt x < Int64.ofInt y ↔ x < y := by rw [Int64.lt_iff_toInt_lt, l_of hx, l_of hy]
theorem n_0 : i32 0 := by unfold i32; omega
theorem n_cl {x : Int} (hx : i32 x) : (Int32.ofInt x).toNatClampNeg = x.toNat := Int32.toNatClampNeg_ofInt_of_le (by have := hx.1; omega) (by have := hx.2; omega)
theorem n_in {x : Int} {n : Nat} (hx : i32 x) (h : 0 ≤ x ∧ x < n) : vp_in (Int32.ofInt x) n := vp_in_iff.mpr (by rw [n_of hx]; exact h)
theorem n_l {x : Int} (hx : i32 x) : (Int32.ofInt x).toInt64 = Int64.ofInt x := by
  rw [← Int64.toInt_inj, Int32.toInt_toInt64, n_of hx, l_of]
  obtain ⟨h1, h2⟩ := hx
  unfold i64
  omega
theorem n_lc {x y : Int} (hx : i64 x) (hy : i64 y) : lg_cmp (Int64.ofInt x) (Int64.ofInt y) = Int32.ofInt (lcm3 x y) := by
  unfold lg_cmp lcm3
  simp only [gt_iff_lt, l_lt hy hx, l_eq hx hy]
  by_cases h1 : y < x
  · rw [if_pos h1, if_neg (by omega), if_neg (by omega)]; rfl
  · rw [if_neg h1]
    by_cases h2 : x = y
    · rw [if_pos h2, if_neg (by omega), if_pos h2]; rfl
    · rw [if_neg h2, if_pos (by omega)]; rfl
theorem n_lcr (x y : Int) : i32 (lcm3 x y) := by
  unfold lcm3 i32
  repeat' split
  all_goals omega
theorem n_bm (x : Int) : i32 (x.bmod 4294967296) := by
  have h1 := @Int.le_bmod x 4294967296 (by omega)
  have h2 := @Int.bmod_lt x 4294967296 (by omega)
  unfold i32
  omega
theorem n_l2i (x : Int) : (Int64.ofInt x).toInt32 = Int32.ofInt (x.bmod 4294967296) := by
  rw [Int64.toInt32_ofInt, ← Int32.toInt_inj, Int32.toInt_ofInt, n_of (n_bm x)]
theorem n_b1 (x : Int) : -128 ≤ x.bmod 256 ∧ x.bmod 256 ≤ 127 := by
  have h1 := @Int.le_bmod x 256 (by omega)
  have h2 := @Int.bmod_lt x 256 (by omega)
  omega
theorem n_b2 (x : Int) : -32768 ≤ x.bmod 65536 ∧ x.bmod 65536 ≤ 32767 := by
  have h1 := @Int.le_bmod x 65536 (by omega)
  have h2 := @Int.bmod_lt x 65536 (by omega)
  omega
theorem n_i2b (x : Int) : (Int32.ofInt x).toInt8.toInt32 = Int32.ofInt (x.bmod 256) := by
  rw [Int32.toInt8_ofInt, ← Int32.toInt_inj, Int8.toInt_toInt32, Int8.toInt_ofInt, n_of]
  have := n_b1 x; unfold i32; omega
theorem n_i2s (x : Int) : (Int32.ofInt x).toInt16.toInt32 = Int32.ofInt (x.bmod 65536) := by
  rw [Int32.toInt16_ofInt, ← Int32.toInt_inj, Int16.toInt_toInt32, Int16.toInt_ofInt, n_of]
  have := n_b2 x; unfold i32; omega
theorem n_8 {n : Int} (h : -128 ≤ n ∧ n ≤ 127) : (Int8.ofInt n).toInt32 = Int32.ofInt n := by
  rw [← Int32.toInt_inj, Int8.toInt_toInt32, Int8.toInt_ofInt_of_le (by omega) (by omega), n_of]
  unfold i32; omega
theorem n_16 {n : Int} (h : -32768 ≤ n ∧ n ≤ 32767) : (Int16.ofInt n).toInt32 = Int32.ofInt n := by
  rw [← Int32.toInt_inj, Int16.toInt_toInt32, Int16.toInt_ofInt_of_le (by omega) (by omega), n_of]
  unfold i32; omega
theorem n_div {x y : Int} (hx : i32 x) (hy : i32 y) (h : i32 (x.tdiv y)) : Int32.ofInt x / Int32.ofInt y = Int32.ofInt (x.tdiv y) := by
  have e1 : Int32.minValue.toInt = -2147483648 := rfl
  have e2 : Int32.maxValue.toInt = 2147483647 := rfl
  exact (Int32.ofInt_tdiv (by rw [e1]; exact hx.1) (by rw [e2]; exact hx.2) (by rw [e1]; exact hy.1) (by rw [e2]; exact hy.2)).symm
theorem l_div {x y : Int} (hx : i64 x) (hy : i64 y) (h : i64 (x.tdiv y)) : Int64.ofInt x / Int64.ofInt y = Int64.ofInt (x.tdiv y) := by
  have e1 : Int64.minValue.toInt = -9223372036854775808 := rfl
  have e2 : Int64.maxValue.toInt = 9223372036854775807 := rfl
  exact (Int64.ofInt_tdiv (by rw [e1]; exact hx.1) (by rw [e2]; exact hx.2) (by rw [e1]; exact hy.1) (by rw [e2]; exact hy.2)).symm
theorem n_rem {x y : Int} (hx : i32 x) (hy : i32 y) (h : i32 (x.tdiv y)) : Int32.ofInt x - Int32.ofInt x / Int32.ofInt y * Int32.ofInt y = Int32.ofInt (x.tmod y) := by
  rw [n_div hx hy h, ← Int32.ofInt_mul, ← Int32.ofInt_sub, Int.tmod_def, Int.mul_comm]
theorem l_rem {x y : Int} (hx : i64 x) (hy : i64 y) (h : i64 (x.tdiv y)) : Int64.ofInt x - Int64.ofInt x / Int64.ofInt y * Int64.ofInt y = Int64.ofInt (x.tmod y) := by
  rw [l_div hx hy h, ← Int64.ofInt_mul, ← Int64.ofInt_sub, Int.tmod_def, Int.mul_comm]
theorem tmod_rg {x y : Int} {lo hi : Int} (h0 : lo ≤ 0) (h1 : 0 ≤ hi) (h : lo ≤ x ∧ x ≤ hi) : lo ≤ x.tmod y ∧ x.tmod y ≤ hi := by
  rcases Int.le_total 0 x with h2 | h2
  · have a := Int.tmod_nonneg y h2
    have b : x.tmod y ≤ x := by
      obtain ⟨n, rfl⟩ := Int.eq_ofNat_of_zero_le h2
      rcases Int.le_total 0 y with h3 | h3
      · obtain ⟨k, rfl⟩ := Int.eq_ofNat_of_zero_le h3
        rw [← Int.ofNat_tmod]
        have := Nat.mod_le n k
        omega
      · obtain ⟨k, hk⟩ := Int.eq_ofNat_of_zero_le (show 0 ≤ -y by omega)
        have e : y = -(k : Int) := by omega
        rw [e, Int.tmod_neg, ← Int.ofNat_tmod]
        have := Nat.mod_le n k
        omega
    omega
  · obtain ⟨n, hn⟩ := Int.eq_ofNat_of_zero_le (show 0 ≤ -x by omega)
    have e0 : x = -(n : Int) := by omega
    rw [e0, Int.neg_tmod]
    have b : 0 ≤ (n : Int).tmod y ∧ (n : Int).tmod y ≤ n := by
      refine ⟨Int.tmod_nonneg y (by omega), ?_⟩
      rcases Int.le_total 0 y with h3 | h3
      · obtain ⟨k, rfl⟩ := Int.eq_ofNat_of_zero_le h3
        rw [← Int.ofNat_tmod]
        have := Nat.mod_le n k
        omega
      · obtain ⟨k, hk⟩ := Int.eq_ofNat_of_zero_le (show 0 ≤ -y by omega)
        have e : y = -(k : Int) := by omega
        rw [e, Int.tmod_neg, ← Int.ofNat_tmod]
        have := Nat.mod_le n k
        omega
    omega
/-! concretization -/
def cz (ad : Nat → Nat) : AV → Value
  | .inl x => .int (Int32.ofInt x)
  | .inr (.inl x) => .long (Int64.ofInt x)
  | .inr (.inr none) => .null
  | .inr (.inr (some k)) => .ref (ad k)
def okV : AV → Prop
  | .inl x => i32 x
  | .inr (.inl x) => i64 x
  | .inr (.inr _) => True
def rfo (ad : Nat → Nat) (x : Int) : Option Nat := if x < 0 then none else some (ad x.toNat)
def wc (ca : Nat → ClassId) (ad : Nat → Nat) (r : Nat → Int) : SC → va_E
  | .inl (ci, fks) => .inr (ci, fks.mapIdx (fun j kd => cz ad (fval kd (r j))))
  | .inr (t, n) => .inl (ca t, n, if t = 1 then .inr (.inl (fun j => Int64.ofInt (r j))) else if 5 ≤ t then .inr (.inr (.inr (.inr (fun j => rfo ad (r j))))) else .inl (fun j => Int32.ofInt (r j)))
def wl (ca : Nat → ClassId) (ad : Nat → Nat) (sh : List SC) (M : Mm) : va_W := sh.mapIdx (fun k c => (ad k, wc ca ad (M k) c))
def okF (kd : Nat) (x : Int) : Prop := match kd with
  | 0 => i32 x
  | 1 => i64 x
  | _ => True
def okA (t : Nat) (x : Int) : Prop := match t with
  | 0 => i32 x
  | 1 => i64 x
  | 2 => -128 ≤ x ∧ x ≤ 127
  | 3 => 0 ≤ x ∧ x ≤ 1
  | 4 => -32768 ≤ x ∧ x ≤ 32767
  | _ => True
def okC (c : SC) (r : Nat → Int) : Prop := match c with
  | .inl (_, fks) => ∀ j kd, fks[j]? = some kd → okF kd (r j)
  | .inr (t, _) => ∀ j, okA t (r j)
def okM (sh : List SC) (M : Mm) : Prop := ∀ k c, sh[k]? = some c → okC c (M k)
theorem wl_get {ca : Nat → ClassId} {ad : Nat → Nat} {sh : List SC} {M : Mm} {k : Nat} {c : SC} (h : sh[k]? = some c) : (wl ca ad sh M)[k]? = some (ad k, wc ca ad (M k) c) := by
  unfold wl
  rw [List.getElem?_mapIdx, h]
  rfl
theorem wl_inv {ca : Nat → ClassId} {ad : Nat → Nat} {sh : List SC} {M : Mm} {k : Nat} {q : Nat × va_E} (h : (wl ca ad sh M)[k]? = some q) : ∃ c, sh[k]? = some c ∧ q = (ad k, wc ca ad (M k) c) := by
  unfold wl at h
  rw [List.getElem?_mapIdx] at h
  cases hc : sh[k]? with
  | none => rw [hc] at h; cases h
  | some c => rw [hc] at h; exact ⟨c, rfl, (Option.some.inj h).symm⟩
def upr (r : Nat → Int) (j : Nat) (x : Int) : Nat → Int := fun j' => if j' = j then x else r j'
theorem up2_self (M : Mm) (k j : Nat) (x : Int) : up2 M k j x k = upr (M k) j x := by
  funext j'
  simp [up2, upr]
theorem up2_ne {M : Mm} {k j k' : Nat} {x : Int} (h : k' ≠ k) : up2 M k j x k' = M k' := by
  funext j'
  simp [up2, h]
theorem wl_up {ca : Nat → ClassId} {ad : Nat → Nat} {sh : List SC} {M : Mm} {k j : Nat} {x : Int} {c : SC} (h : sh[k]? = some c) : wl ca ad sh (up2 M k j x) = (wl ca ad sh M).set k (ad k, wc ca ad (upr (M k) j x) c) := by
  have hl : k < sh.length := (List.getElem?_eq_some_iff.mp h).1
  refine List.ext_getElem? fun i => ?_
  by_cases hi : i = k
  · subst hi
    rw [wl_get h, List.getElem?_set_self (by unfold wl; rw [List.length_mapIdx]; exact hl), up2_self]
  · rw [List.getElem?_set_ne (Ne.symm hi)]
    unfold wl
    rw [List.getElem?_mapIdx, List.getElem?_mapIdx, up2_ne hi]
theorem okM_up {sh : List SC} {M : Mm} {k j : Nat} {x : Int} (h : okM sh M) (h1 : ∀ c, sh[k]? = some c → okC c (upr (M k) j x)) : okM sh (up2 M k j x) := by
  intro k' c hc
  by_cases hk : k' = k
  · subst hk
    rw [up2_self]
    exact h1 c hc
  · rw [up2_ne hk]
    exact h k' c hc
theorem okM_a {sh : List SC} {M : Mm} {k j t n : Nat} {x : Int} (h : okM sh M) (hc : sh[k]? = some (.inr (t, n))) (hx : okA t x) : okM sh (up2 M k j x) := by
  refine okM_up h fun c h1 => ?_
  rw [hc] at h1
  cases h1
  intro j'
  have h2 : okA t (M k j') := h k _ hc j'
  unfold upr
  split
  · exact hx
  · exact h2
theorem okC_b {n : Nat} {r : Nat → Int} (h : okC (.inr (2, n)) r) (j : Nat) : i32 (r j) := by
  have h1 : -128 ≤ r j ∧ r j ≤ 127 := h j
  unfold i32
  omega
theorem okC_z {n : Nat} {r : Nat → Int} (h : okC (.inr (3, n)) r) (j : Nat) : i32 (r j) := by
  have h1 : 0 ≤ r j ∧ r j ≤ 1 := h j
  unfold i32
  omega
theorem okM_f {sh : List SC} {M : Mm} {k j ci kd : Nat} {fks : List Nat} {x : Int} (h : okM sh M) (hc : sh[k]? = some (.inl (ci, fks))) (hk : fks[j]? = some kd) (hx : okF kd x) : okM sh (up2 M k j x) := by
  refine okM_up h fun c h1 => ?_
  rw [hc] at h1
  cases h1
  intro j' kd' hk'
  have h2 : okF kd' (M k j') := h k _ hc j' kd' hk'
  unfold upr
  split
  · rename_i e
    subst e
    rw [hk] at hk'
    cases hk'
    exact hx
  · exact h2
theorem wc_set {ca : Nat → ClassId} {ad : Nat → Nat} {r : Nat → Int} {ci f kd : Nat} {fks : List Nat} {x : Int} (hk : fks[f]? = some kd) : wc ca ad (upr r f x) (.inl (ci, fks)) = .inr (ci, (fks.mapIdx (fun j kd => cz ad (fval kd (r j)))).set f (cz ad (fval kd x))) := by
  have hl : f < fks.length := (List.getElem?_eq_some_iff.mp hk).1
  show Sum.inr (ci, fks.mapIdx (fun j kd => cz ad (fval kd (upr r f x j)))) = _
  congr 2
  refine List.ext_getElem? fun i => ?_
  by_cases hi : i = f
  · subst hi
    rw [List.getElem?_set_self (by rw [List.length_mapIdx]; exact hl), List.getElem?_mapIdx, hk]
    simp [upr]
  · rw [List.getElem?_set_ne (Ne.symm hi), List.getElem?_mapIdx, List.getElem?_mapIdx]
    simp [upr, hi]
theorem cz_cat (ad : Nat → Nat) (v : AV) : (cz ad v).category = if isL v = true then 2 else 1 := by
  rcases v with x | x | x
  · rfl
  · rfl
  · cases x <;> rfl
theorem cz_c1 {ad : Nat → Nat} {v : AV} (h : isL v = false) : (cz ad v).category = 1 := by rw [cz_cat, h]; rfl
theorem cz_c2 {ad : Nat → Nat} {v : AV} (h : isL v = true) : (cz ad v).category = 2 := by rw [cz_cat, h]; rfl
abbrev czl (ad : Nat → Nat) (lv : LV) : List (Nat × Value) := lv.map fun q => (q.1, cz ad q.2)
theorem rm1_f (ad : Nat → Nat) (k : Nat) (lv : LV) : (czl ad lv).filter (fun q => !(q.1 == k) && !(q.1 + 1 == k && q.2.category == 2)) = czl ad (rm1 k lv) := by
  induction lv with
  | nil => rfl
  | cons q r ih =>
    obtain ⟨j, v⟩ := q
    show List.filter _ ((j, cz ad v) :: czl ad r) = _
    rw [List.filter_cons, ih]
    have e : rm1 k ((j, v) :: r) = if j = k ∨ (j + 1 = k ∧ isL v = true) then rm1 k r else (j, v) :: rm1 k r := rfl
    rw [e]
    have hc := cz_cat ad v
    by_cases h1 : j = k
    · simp [h1]
    · by_cases h2 : j + 1 = k
      · cases h3 : isL v
        · rw [h3] at hc
          simp [h1, h2, hc]
        · rw [h3] at hc
          simp [h1, h2, hc]
      · simp [h1, h2]
theorem rm2_f (ad : Nat → Nat) (k : Nat) (lv : LV) : (czl ad lv).filter (fun q => !(q.1 == k) && (!(q.1 == k + 1) && !(q.1 + 1 == k && q.2.category == 2))) = czl ad (rm2 k lv) := by
  induction lv with
  | nil => rfl
  | cons q r ih =>
    obtain ⟨j, v⟩ := q
    show List.filter _ ((j, cz ad v) :: czl ad r) = _
    rw [List.filter_cons, ih]
    have e : rm2 k ((j, v) :: r) = if j = k ∨ j = k + 1 ∨ (j + 1 = k ∧ isL v = true) then rm2 k r else (j, v) :: rm2 k r := rfl
    rw [e]
    have hc := cz_cat ad v
    by_cases h1 : j = k
    · simp [h1]
    · by_cases h0 : j = k + 1
      · simp [h0]
      · by_cases h2 : j + 1 = k
        · cases h3 : isL v
          · rw [h3] at hc
            simp [h1, h0, h2, hc]
          · rw [h3] at hc
            simp [h1, h0, h2, hc]
        · simp [h1, h0, h2]
theorem lk_mem {k : Nat} {v : AV} : ∀ {lv : LV}, lk k lv = some v → (k, v) ∈ lv := by
  intro lv
  induction lv with
  | nil => intro h; cases h
  | cons q r ih =>
    obtain ⟨j, w⟩ := q
    intro h
    have e : lk k ((j, w) :: r) = if j = k then some w else lk k r := rfl
    rw [e] at h
    by_cases hj : j = k
    · rw [if_pos hj] at h
      cases h
      rw [hj]
      exact List.mem_cons_self
    · rw [if_neg hj] at h
      exact List.mem_cons_of_mem _ (ih h)
theorem rm1_m {k : Nat} {q : Nat × AV} : ∀ {lv : LV}, q ∈ rm1 k lv → q ∈ lv := by
  intro lv
  induction lv with
  | nil => intro h; cases h
  | cons p r ih =>
    obtain ⟨j, w⟩ := p
    intro h
    have e : rm1 k ((j, w) :: r) = if j = k ∨ (j + 1 = k ∧ isL w = true) then rm1 k r else (j, w) :: rm1 k r := rfl
    rw [e] at h
    split at h
    · exact List.mem_cons_of_mem _ (ih h)
    · rcases List.mem_cons.mp h with h | h
      · rw [h]; exact List.mem_cons_self
      · exact List.mem_cons_of_mem _ (ih h)
theorem rm2_m {k : Nat} {q : Nat × AV} : ∀ {lv : LV}, q ∈ rm2 k lv → q ∈ lv := by
  intro lv
  induction lv with
  | nil => intro h; cases h
  | cons p r ih =>
    obtain ⟨j, w⟩ := p
    intro h
    have e : rm2 k ((j, w) :: r) = if j = k ∨ j = k + 1 ∨ (j + 1 = k ∧ isL w = true) then rm2 k r else (j, w) :: rm2 k r := rfl
    rw [e] at h
    split at h
    · exact List.mem_cons_of_mem _ (ih h)
    · rcases List.mem_cons.mp h with h | h
      · rw [h]; exact List.mem_cons_self
      · exact List.mem_cons_of_mem _ (ih h)
theorem lv_lk {ad : Nat → Nat} {ls : Array Slot} {nL k : Nat} {lv : LV} {v : AV} (h : lv_has ls nL (czl ad lv)) (hk : lk k lv = some v) : ls[k]? = some (.val (cz ad v)) :=
  h.2.2 (k, cz ad v) (List.mem_map.mpr ⟨(k, v), lk_mem hk, rfl⟩)
theorem l_0 : i64 0 := by unfold i64; omega
theorem i32_64 {x : Int} (h : i32 x) : i64 x := by
  obtain ⟨h1, h2⟩ := h
  unfold i64
  omega
theorem fval_n (y : Nat) : fval 2 (y : Int) = ar y := by
  unfold fval
  rw [if_neg (by omega)]
  rfl
def mono (sp : Spec) : Prop := ∀ (a : List AV) (M : Mm) (Q Q' : Option AV → Mm → Prop), (∀ r M', Q r M' → Q' r M') → sp a M Q → sp a M Q'
theorem br_any {P G : Prop} (h1 : P → G) (h2 : ¬ P → G) : G := by
  by_cases h : P
  · exact h1 h
  · exact h2 h
/-! tables that say what the Statement's tables say -/
def kdT (kd : Nat) (ty : FieldType) : Prop := match kd with
  | 0 => ty = .int
  | 1 => ty = .long
  | 2 => ∃ C, ty = .object C
  | _ => False
def tyT (t : Nat) (ty : FieldType) : Prop := match t with
  | 0 => ty = .int
  | 1 => ty = .long
  | 2 => ty = .byte
  | 3 => ty = .boolean
  | 4 => ty = .short
  | _ => ∃ C, ty = .object C
def lnk (own : String) (Nws : List Cond) (x : Nat) (r : String × String × String × Bool) : Prop := Cond.fieldLink own x r.1 r.2.1 r.2.2.1 ∈ lw_all ∨ ∃ host, Cond.fieldLinkNest own x r.1 r.2.1 r.2.2.1 host ∈ Nws
def tbG (own : String) (Nws : List Cond) (cl : List vw_C) (x ci f : Nat) : Prop := ∃ (C : String) (T : u_T) (N : Nat), cl[ci]? = some (C, T, N) ∧ f < N ∧ (∀ w ∈ u_ws C T N, w ∈ lw_all) ∧ lnk own Nws x (T f)
def tbP (own : String) (Nws : List Cond) (cl : List vw_C) (sh : List SC) (x ci f : Nat) : Prop := ∃ (C : String) (T : u_T) (N : Nat) (ty0 : Nat → FieldType), cl[ci]? = some (C, T, N) ∧ f < N ∧ (∀ w ∈ u_ws C T N, w ∈ lw_all) ∧ lnk own Nws x (T f) ∧ (∀ k, k < N → parseFieldDescriptor (T k).2.2.1 = some (ty0 k)) ∧ (∀ a, a < N → ∀ b, b < N → a ≠ b → (T a).2.1 ≠ (T b).2.1) ∧ (T f).2.2.2 = false ∧ ∀ (k : Nat) (fks : List Nat) (kd : Nat), sh[k]? = some (.inl (ci, fks)) → fks[f]? = some kd → kd < 3 → kdT kd (ty0 f)
def tbOK (own : String) (Nws : List Cond) (cl : List vw_C) (sh : List SC) (tyl : List (Nat × FieldType)) (tb : TB) : Prop :=
  (∀ x ci f, tb.1 x = some (ci, f) → tbG own Nws cl x ci f) ∧ (∀ x ci f, tb.2.1 x = some (ci, f) → tbP own Nws cl sh x ci f) ∧
  (∀ x v, tb.2.2.1 x = some v → i32 v ∧ Cond.constant own x (Int32.ofInt v) ∈ lw_all) ∧ (∀ x v, tb.2.2.2.1 x = some v → i64 v ∧ Cond.constantLong own x (Int64.ofInt v) ∈ lw_all) ∧
  ∀ (k t n : Nat), sh[k]? = some (.inr (t, n)) → ∃ ty, (t, ty) ∈ tyl ∧ tyT t ty
abbrev tys_ (ca : Nat → ClassId) (tyl : List (Nat × FieldType)) : List (ClassId × FieldType) := tyl.map fun q => (ca q.1, q.2)
section SND
variable {p : Program} {l : Launch} {e : Env} {R : Room} {s : State} {m : MethodId} {args : Array Value} {below : List Frame} {meth : Method} {c : Code} {Q : State → Prop}
variable {cc : ByteArray} {D : va_G} {cl : List vw_C} {A : Nat → Prop} {ad : Nat → Nat} {ca : Nat → ClassId} {tyl : List (Nat × FieldType)} {sh : List SC} {own : String} {Nws : List Cond} {nL rt c0 s0 : Nat} {tb : TB}
/-- the machine stands where the abstract one stands -/
def rel (D : va_G) (cl : List vw_C) (A : Nat → Prop) (ad : Nat → Nat) (ca : Nat → ClassId) (sh : List SC) (nL : Nat) (H0 : Heap) (lv : LV) (st : List AV) (M : Mm) (ls : Array Slot) (H : Heap) (locs : List Loc) : Prop :=
  lv_has ls nL (czl ad lv) ∧ va_P D cl (wl ca ad sh M) H ∧ va_D A (wl ca ad sh M) ∧ va_S A H0 H locs ∧ okM sh M ∧ (∀ q ∈ lv, okV q.2) ∧ ∀ v ∈ st, okV v
def fx (p : Program) (s : State) (m : MethodId) (args : Array Value) (c : Code) (cc : ByteArray) (D : va_G) (cl : List vw_C) (ca : Nat → ClassId) (tyl : List (Nat × FieldType)) (own : String) (Nws : List Cond) : Prop :=
  p.tables.exec = Jvm.exec ∧ c.code = cc ∧ s.vm.findClass own = some m.cls ∧ (∀ w ∈ lw_all, w.before args s = true) ∧ (∀ w ∈ Nws, w.before args s = true) ∧ va_K D cl (tys_ ca tyl) s
/-- from here the walk comes to its end -/
def snW (p : Program) (l : Launch) (e : Env) (R : Room) (s : State) (m : MethodId) (args : Array Value) (below : List Frame) (meth : Method) (c : Code) (Q : State → Prop) (D : va_G) (cl : List vw_C) (A : Nat → Prop) (ad : Nat → Nat) (ca : Nat → ClassId) (sh : List SC) (nL c0 s0 : Nat) (pc : Nat) : K0 := fun lv st M =>
  ∀ ls H locs, rel D cl A ad ca sh nL s.heap lv st M ls H locs → W p l e R s m args below meth c H locs c0 s0 Q (F0 m pc ls (st.map (cz ad)))
/-- a call keeps its word -/
def cOK (p : Program) (l : Launch) (e : Env) (R : Room) (s : State) (m : MethodId) (args : Array Value) (below : List Frame) (meth : Method) (c : Code) (Q : State → Prop) (D : va_G) (cl : List vw_C) (A : Nat → Prop) (ad : Nat → Nat) (ca : Nat → ClassId) (sh : List SC) (nL c0 s0 : Nat) (cc : ByteArray) (vt x n : Nat) (sp : Spec) : Prop :=
  ∀ (pc : Nat) (lv : LV) (st : List AV) (M : Mm), decode cc pc = .ok (if vt = 1 then .invokevirtual x else if vt = 0 then .invokestatic x else .invokespecial x, 3) → (st.drop n).length ≤ 4 →
    sp (st.take n).reverse M (fun r M' => snW p l e R s m args below meth c Q D cl A ad ca sh nL c0 s0 (pc + 3) lv (r.toList ++ st.drop n) M') → snW p l e R s m args below meth c Q D cl A ad ca sh nL c0 s0 pc lv st M
theorem rel_st {A : Nat → Prop} {H0 : Heap} {lv : LV} {st st' : List AV} {M : Mm} {ls : Array Slot} {H : Heap} {locs : List Loc} (h : rel D cl A ad ca sh nL H0 lv st M ls H locs) (hv : ∀ v ∈ st', okV v) : rel D cl A ad ca sh nL H0 lv st' M ls H locs := ⟨h.1, h.2.1, h.2.2.1, h.2.2.2.1, h.2.2.2.2.1, h.2.2.2.2.2.1, hv⟩
theorem ok_c {v : AV} {st : List AV} (h : okV v) (hs : ∀ w ∈ st, okV w) : ∀ w ∈ v :: st, okV w := fun w hw => by
  rcases List.mem_cons.mp hw with h1 | h1
  · rw [h1]; exact h
  · exact hs w h1
theorem ok_t {v : AV} {st : List AV} (hs : ∀ w ∈ v :: st, okV w) : ∀ w ∈ st, okV w := fun w hw => hs w (List.mem_cons_of_mem _ hw)
theorem ok_h {v : AV} {st : List AV} (hs : ∀ w ∈ v :: st, okV w) : okV v := hs v List.mem_cons_self
theorem ok_lk {k : Nat} {v : AV} {lv : LV} (h : ∀ q ∈ lv, okV q.2) (hk : lk k lv = some v) : okV v := h _ (lk_mem hk)
theorem rel_s1 {H0 : Heap} {lv : LV} {st : List AV} {M : Mm} {ls ls' : Array Slot} {H : Heap} {locs : List Loc} {k : Nat} {v : AV} (h : rel D cl A ad ca sh nL H0 lv (v :: st) M ls H locs) (h' : lv_has ls' nL ((k, cz ad v) :: (czl ad lv).filter (fun q => !(q.1 == k) && !(q.1 + 1 == k && q.2.category == 2)))) : rel D cl A ad ca sh nL H0 ((k, v) :: rm1 k lv) st M ls' H locs := by
  obtain ⟨h1, h2, h3, h4, h5, h6, h7⟩ := h
  rw [rm1_f] at h'
  refine ⟨h', h2, h3, h4, h5, ?_, ok_t h7⟩
  intro q hq
  rcases List.mem_cons.mp hq with e | e
  · rw [e]; exact ok_h h7
  · exact h6 q (rm1_m e)
theorem rel_s2 {H0 : Heap} {lv : LV} {st : List AV} {M : Mm} {ls ls' : Array Slot} {H : Heap} {locs : List Loc} {k : Nat} {v : AV} (h : rel D cl A ad ca sh nL H0 lv (v :: st) M ls H locs) (h' : lv_has ls' nL ((k, cz ad v) :: (czl ad lv).filter (fun q => !(q.1 == k) && (!(q.1 == k + 1) && !(q.1 + 1 == k && q.2.category == 2))))) : rel D cl A ad ca sh nL H0 ((k, v) :: rm2 k lv) st M ls' H locs := by
  obtain ⟨h1, h2, h3, h4, h5, h6, h7⟩ := h
  rw [rm2_f] at h'
  refine ⟨h', h2, h3, h4, h5, ?_, ok_t h7⟩
  intro q hq
  rcases List.mem_cons.mp hq with e | e
  · rw [e]; exact ok_h h7
  · exact h6 q (rm2_m e)
theorem ty_at {t : Nat} {ty : FieldType} (h : (t, ty) ∈ tyl) : ∃ t0 : Nat, (tys_ ca tyl)[t0]? = some (ca t, ty) := List.getElem?_of_mem (List.mem_map.mpr ⟨(t, ty), h, rfl⟩)
theorem wc_i {r : Nat → Int} {t n : Nat} (h1 : ¬ t = 1) (h5 : ¬ 5 ≤ t) : wc ca ad r (.inr (t, n)) = .inl (ca t, n, .inl (fun j => Int32.ofInt (r j))) := by
  show Sum.inl (ca t, n, if t = 1 then _ else if 5 ≤ t then _ else _) = _
  rw [if_neg h1, if_neg h5]
theorem wc_l {r : Nat → Int} {n : Nat} : wc ca ad r (.inr (1, n)) = .inl (ca 1, n, .inr (.inl (fun j => Int64.ofInt (r j)))) := rfl
theorem wc_q {r : Nat → Int} {t n : Nat} (h5 : 5 ≤ t) : wc ca ad r (.inr (t, n)) = .inl (ca t, n, .inr (.inr (.inr (.inr (fun j => rfo ad (r j)))))) := by
  show Sum.inl (ca t, n, if t = 1 then _ else if 5 ≤ t then _ else _) = _
  rw [if_neg (by omega), if_pos h5]
theorem rf_v (x : Int) : va_rf (rfo ad x) = cz ad (fval 2 x) := by
  unfold rfo
  show va_rf _ = cz ad (if x < 0 then _ else _)
  split <;> rfl
theorem upd_f {r : Nat → Int} {i x : Int} (hi : i32 i) : upd (fun j => Int32.ofInt (r j)) (Int32.ofInt i).toNatClampNeg (Int32.ofInt x) = fun j => Int32.ofInt (upr r i.toNat x j) := by
  rw [n_cl hi]
  funext j
  unfold upd upr
  split <;> rfl
theorem updL_f {r : Nat → Int} {i x : Int} (hi : i32 i) : vp_updL (fun j => Int64.ofInt (r j)) (Int32.ofInt i).toNatClampNeg (Int64.ofInt x) = fun j => Int64.ofInt (upr r i.toNat x j) := by
  rw [n_cl hi]
  funext j
  unfold vp_updL upr
  split <;> rfl
theorem nar_b {x : Int} (h : -128 ≤ x ∧ x ≤ 127) : vp_nar .byte (Int32.ofInt x) = Int32.ofInt x := by
  rw [vp_nar_byte, n_i2b, Int.bmod_eq_of_le (by omega) (by omega)]
theorem nar_z {x : Int} (h : 0 ≤ x ∧ x ≤ 1) : vp_nar .boolean (Int32.ofInt x) = Int32.ofInt x := by
  rcases (show x = 0 ∨ x = 1 by omega) with rfl | rfl <;> rfl
theorem fin_ofNat_n {k : Nat} : (Int32.ofNat k) = Int32.ofInt (k : Int) := by rw [Int32.ofInt_eq_ofNat]
theorem get_snd {x k ci f kd : Nat} {fks : List Nat} {lv : LV} {st : List AV} {M : Mm} {pc : Nat} (F : fx p s m args c cc D cl ca tyl own Nws) (hG : tbG own Nws cl x ci f) (hd : decode cc pc = .ok (.getfield x, 3)) (hs : sh[k]? = some (.inl (ci, fks))) (hk : fks[f]? = some kd)
    (h : snW p l e R s m args below meth c Q D cl A ad ca sh nL c0 s0 (pc + 3) lv (fval kd (M k f) :: st) M) : snW p l e R s m args below meth c Q D cl A ad ca sh nL c0 s0 pc lv (.inr (.inr (some k)) :: st) M := by
  intro ls H locs hr
  obtain ⟨hx, hb, hown, hts, hN, hK⟩ := F
  obtain ⟨C, T, N, hc, hf, hin, hl⟩ := hG
  obtain ⟨h1, h2, h3, h4, h5, h6, h7⟩ := hr
  have hv : okV (fval kd (M k f)) := by
    have h8 : okF kd (M k f) := h5 k _ hs f kd hk
    unfold fval
    split
    · exact h8
    · exact h8
    · split <;> exact True.intro
    · exact True.intro
  have k1 : W p l e R s m args below meth c H locs c0 s0 Q (F0 m (pc + 3) ls (cz ad (fval kd (M k f)) :: st.map (cz ad))) := h ls H locs ⟨h1, h2, h3, h4, h5, h6, ok_c hv (ok_t h7)⟩
  have e1 := wl_get (ca := ca) (ad := ad) (M := M) hs
  have e2 : (fks.mapIdx (fun j kd => cz ad (fval kd (M k j))))[f]? = some (cz ad (fval kd (M k f))) := by rw [List.getElem?_mapIdx, hk]; rfl
  rcases hl with hl | ⟨host, hl⟩
  · exact va_get hx hb hts hin hown hK h2 k e1 hc f hf (hts _ hl) (fun _ h9 => h9) e2 hd k1
  · exact va_getN hx hb hts hin hown hK h2 k e1 hc f hf (hN _ hl) (fun _ h9 => h9) e2 hd k1
theorem put_snd {x k ci f kd : Nat} {fks : List Nat} {lv : LV} {st : List AV} {M : Mm} {pc : Nat} {v : AV} {y : Int} (F : fx p s m args c cc D cl ca tyl own Nws) (hG : tbP own Nws cl sh x ci f) (hd : decode cc pc = .ok (.putfield x, 3)) (hs : sh[k]? = some (.inl (ci, fks))) (hk : fks[f]? = some kd) (hkd : kd < 3)
    (hvy : cz ad v = cz ad (fval kd y)) (hok : okV v → okF kd y) (hn : ∀ ty, kdT kd ty → narrow ty (cz ad v) = cz ad v ∧ fits ty (cz ad v) = true)
    (h : snW p l e R s m args below meth c Q D cl A ad ca sh nL c0 s0 (pc + 3) lv st (up2 M k f y)) : snW p l e R s m args below meth c Q D cl A ad ca sh nL c0 s0 pc lv (v :: .inr (.inr (some k)) :: st) M := by
  intro ls H locs hr
  obtain ⟨hx, hb, hown, hts, hN, hK⟩ := F
  obtain ⟨C, T, N, ty0, hc, hf, hin, hl, hty, hnm, hfin, hkt⟩ := hG
  obtain ⟨h1, h2, h3, h4, h5, h6, h7⟩ := hr
  obtain ⟨n1, n2⟩ := hn _ (hkt k fks kd hs hk hkd)
  have e1 := wl_get (ca := ca) (ad := ad) (M := M) hs
  have hlen : f < (fks.mapIdx (fun j kd => cz ad (fval kd (M k j)))).length := by
    rw [List.length_mapIdx]
    exact (List.getElem?_eq_some_iff.mp hk).1
  have e3 : (wl ca ad sh M).set k (ad k, .inr (ci, (fks.mapIdx (fun j kd => cz ad (fval kd (M k j)))).set f (cz ad v))) = wl ca ad sh (up2 M k f y) := by
    rw [wl_up hs, wc_set hk, hvy]
  have k1 : ∀ (H1 : Heap) (locs1 : List Loc), va_P D cl (wl ca ad sh (up2 M k f y)) H1 → va_D A (wl ca ad sh (up2 M k f y)) → va_S A s.heap H1 locs1 → W p l e R s m args below meth c H1 locs1 c0 s0 Q (F0 m (pc + 3) ls (st.map (cz ad))) := fun H1 locs1 a1 a2 a3 =>
    h ls H1 locs1 ⟨h1, a1, a2, a3, okM_f h5 hs hk (hok (ok_h h7)), h6, ok_t (ok_t h7)⟩
  rw [← e3] at k1
  rcases hl with hl | ⟨host, hl⟩
  · exact va_put hx hb hts hin ty0 hty hnm hown hK h2 h3 h4 k e1 hc f hf (hts _ hl) (fun _ h9 => h9) hfin (hty f hf) n1 n2 hlen hd k1
  · exact va_putN hx hb hts hin ty0 hty hnm hown hK h2 h3 h4 k e1 hc f hf (hN _ hl) (fun _ h9 => h9) hfin (hty f hf) n1 n2 hlen hd k1
theorem allJ_snd {x : Int} {J : Int → Prop} : ∀ (offs : List Int) (lo : Int), allJ x J lo offs → ∀ (n : Nat) (o : Int), offs[n]? = some o → x = lo + n → J o := by
  intro offs
  induction offs with
  | nil => intro lo _ n o h; cases n <;> cases h
  | cons a r ih =>
    intro lo h n o hn hx
    obtain ⟨h1, h2⟩ := h
    cases n with
    | zero =>
      cases hn
      exact h1 (by omega)
    | succ n => exact ih (lo + 1) h2 n o hn (by omega)
end SND
