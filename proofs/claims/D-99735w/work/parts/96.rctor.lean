/-! new Reader() -/
def fsR0 : List Value := [.int 0, .null, .int 0, .int 0, .int 0, .null, .null]
def adR (ad : Nat → Nat) (q q1 : Nat) (f : Nat → Nat) : Nat → Nat := fun k => if k = 0 then q else if k = 1 then q1 else if k = 2 then ad 2 else if k = 3 then ad 3 else if k < 12 then f (k - 4) else ad k
def MR0 (M : Mm) : Mm := fun k => if k = 0 then (fun j => if j = 0 then M 2 2 else if j = 5 then 320 else 0) else if k = 2 then M 2 else if k = 3 then M 3 else fun _ => 0
/-- the cells that it is given: itself, the outer object, the tape -/
def wR0 (ca : Nat → ClassId) (ad : Nat → Nat) (M : Mm) (q : Nat) (fs : List Value) : va_W := [(q, .inr (0, fs)), (ad 2, wc ca ad (M 2) (.inl (2, fkS))), (ad 3, wc ca ad (M 3) (.inr (2, 700)))]
def PRi (D : va_G) (ca : Nat → ClassId) (ad : Nat → Nat) (M : Mm) (q sz : Nat) : State → Prop := fun U => U.heap.size = sz ∧ va_P D clR (wR0 ca ad M q fsR0) U.heap ∧ va_K D clR (tys_ ca tylR) U ∧ va_D (va_A (wR0 ca ad M q fsR0) sz) (wR0 ca ad M q fsR0) ∧ (∀ w ∈ NwsR, va_Nw w U) ∧ exR ad (va_A (wR0 ca ad M q fsR0) sz) U U.heap
/-- the reader stands at its first token -/
def rd0 (ad : Nat → Nat) (M : Mm) (q : Nat) (u : (Nat → Nat) × Mm) : Prop := (u.1 0 = q ∧ ∀ k, (k = 2 ∨ k = 3 ∨ 12 ≤ k) → u.1 k = ad k) ∧ okM shR u.2 ∧ zI u.2 ∧ zdR u.2 0 ∧ vZ u.2 = (fun _ _ => 0) ∧ u.2 2 = M 2 ∧ u.2 3 = M 3 ∧ u.2 0 0 = M 2 2
def QRi (D : va_G) (ca : Nat → ClassId) (ad : Nat → Nat) (M : Mm) (q sz : Nat) : Array Value → State → Outcome → State → Prop := va_Qv (rd0 ad M q) (fun u U => va_P D clR (wl ca u.1 shR u.2) U.heap ∧ va_K D clR (tys_ ca tylR) U ∧ va_D (va_A (wR0 ca ad M q fsR0) sz) (wl ca u.1 shR u.2)) (va_A (wR0 ca ad M q fsR0) sz)
theorem exR_ad {ad ad' : Nat → Nat} {A : Nat → Prop} {U : State} {H : Heap} (h : ∀ k, 300 ≤ k → ad' k = ad k) (hE : exR ad A U H) : exR ad' A U H := by
  obtain ⟨h1, h2, h3, h4⟩ := hE
  refine ⟨fun i hi => ?_, fun j hj => ?_, fun i j hi hj he => h3 i j hi hj ?_, h4⟩
  · rw [h (300 + i) (by omega)]; exact h1 i hi
  · rw [h (320 + j) (by omega)]; exact h2 j hj
  · rw [h (320 + i) (by omega), h (320 + j) (by omega)] at he; exact he
theorem PRi_blind {D : va_G} {ca : Nat → ClassId} {ad : Nat → Nat} {M : Mm} {q sz : Nat} {as : List Value} : FrameBlind (va_Pc as (PRi D ca ad M q sz)) := by
  intro a U g mk h
  obtain ⟨h0, h1, h2, h3, h4, h5, h6⟩ := h
  exact ⟨h0, h1, h2, va_K.moved (u := U) (U := U.calling g mk a) (Vm.Alike.refl U.vm) h3, h4, fun w hw => nw_warm (nwsR_ok w hw) (State.WarmedH.refl U) (h5 w hw), exR_ok ad _ _ U (U.calling g mk a) U.heap U.heap [] h6 va_S.rf (State.WarmedH.refl U) (fun _ z => z)⟩
theorem wl_R0 {ca : Nat → ClassId} {ad : Nat → Nat} {M : Mm} {q q1 : Nat} {f : Nat → Nat} : wl ca (adR ad q q1 f) shR (MR0 M) = (q, .inr (0, [.int (Int32.ofInt (M 2 2)), .ref q1, .int 0, .int 0, .int 0, .ref (ad 320), .ref (ad 2)])) :: valO q1 1 f :: (ad 2, wc ca ad (M 2) (.inl (2, fkS))) :: (ad 3, wc ca ad (M 3) (.inr (2, 700))) :: valA (ca 0) f := rfl
theorem okC_zz {c : SC} : okC c (fun _ => 0) := by
  rcases c with ⟨ci, fks⟩ | ⟨t, n⟩
  · intro j kd _
    show okF kd 0
    unfold okF
    split <;> first | trivial | (unfold i32; omega) | (unfold i64; omega)
  · intro j
    show okA t 0
    unfold okA
    split <;> first | trivial | (unfold i32; omega) | (unfold i64; omega) | omega
theorem MR0_ok {M : Mm} (h2 : okC (.inl (2, fkS)) (M 2)) (h3 : okC (.inr (2, 700)) (M 3)) (ht : 0 ≤ M 2 2 ∧ M 2 2 ≤ 700) : okM shR (MR0 M) := by
  intro k c hc
  by_cases e0 : k = 0
  · subst e0
    cases hc
    intro j kd hj
    show okF kd (if j = 0 then M 2 2 else if j = 5 then 320 else 0)
    by_cases e1 : j = 0
    · rw [if_pos e1]
      unfold okF
      split <;> first | trivial | (unfold i32; omega) | (unfold i64; omega)
    · rw [if_neg e1]
      split <;> (unfold okF; split <;> first | trivial | (unfold i32; omega) | (unfold i64; omega))
  · by_cases e2 : k = 2
    · subst e2
      cases hc
      exact h2
    · by_cases e3 : k = 3
      · subst e3
        cases hc
        exact h3
      · have e : MR0 M k = fun _ => 0 := by
          unfold MR0
          rw [if_neg e0, if_neg e2, if_neg e3]
        rw [e]
        exact okC_zz
theorem mem_P {D : va_G} {cl : List vw_C} {ws ws' : va_W} {H : Heap} (h : va_P D cl ws H) (hm : ∀ q ∈ ws', q ∈ ws) : va_P D cl ws' H := fun k q hk => by
  obtain ⟨i, hi⟩ := List.mem_iff_getElem?.mp (hm q (List.mem_of_getElem? hk))
  exact h i q hi
theorem perm_P {D : va_G} {cl : List vw_C} {a b c d : Nat × va_E} {L : va_W} {H : Heap} (h : va_P D cl (a :: b :: c :: d :: L) H) : va_P D cl (a :: d :: b :: c :: L) H := mem_P h fun q hq => by
  simp only [List.mem_cons] at hq ⊢
  rcases hq with h | h | h | h | h
  · exact Or.inl h
  · exact Or.inr (Or.inr (Or.inr (Or.inl h)))
  · exact Or.inr (Or.inl h)
  · exact Or.inr (Or.inr (Or.inl h))
  · exact Or.inr (Or.inr (Or.inr (Or.inr h)))
theorem perm_D {A : Nat → Prop} {a b c d : Nat × va_E} {L : va_W} (h : va_D A (a :: b :: c :: d :: L)) : va_D A (a :: d :: b :: c :: L) := by
  let g : Nat → Nat := fun i => if i = 1 then 3 else if i = 2 then 1 else if i = 3 then 2 else i
  have hg : ∀ i, (a :: d :: b :: c :: L)[i]? = (a :: b :: c :: d :: L)[g i]? := by
    intro i
    match i with
    | 0 => rfl
    | 1 => rfl
    | 2 => rfl
    | 3 => rfl
    | n + 4 =>
      have : g (n + 4) = n + 4 := by show (if n + 4 = 1 then 3 else if n + 4 = 2 then 1 else if n + 4 = 3 then 2 else n + 4) = n + 4; rw [if_neg (by omega), if_neg (by omega), if_neg (by omega)]
      rw [this]; rfl
  refine ⟨fun i j x y hx hy e => ?_, fun k z hz => h.2 (g k) z (by rw [← hg]; exact hz)⟩
  have h1 := h.1 (g i) (g j) x y (by rw [← hg]; exact hx) (by rw [← hg]; exact hy) e
  have h1 : (if i = 1 then 3 else if i = 2 then 1 else if i = 3 then 2 else i) = (if j = 1 then 3 else if j = 2 then 1 else if j = 3 then 2 else j) := h1
  split at h1 <;> split at h1 <;> (try split at h1) <;> (try split at h1) <;> (try split at h1) <;> (try split at h1) <;> omega
theorem wc_S2 {ca : Nat → ClassId} {ad : Nat → Nat} {r : Nat → Int} : ∃ fs2, wc ca ad r (.inl (2, fkS)) = .inr (2, fs2) ∧ fs2[2]? = some (.int (Int32.ofInt (r 2))) := ⟨_, rfl, by rw [List.getElem?_mapIdx]; rfl⟩
