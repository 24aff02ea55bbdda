/-! SagMemory: its runs are the twin's -/
theorem runP_id {V : Vy} {C : Cf} : ∀ {n : Nat}, (∀ t : Nat, t < n → C 3 t = t) → runP (whoM C) V C n = runP whoX V C n := by
  intro n
  induction n with
  | zero => intro _; rfl
  | succ n ih =>
    intro h
    show stepP _ _ _ _ n = stepP _ _ _ _ n
    rw [ih fun t ht => h t (by omega)]
    exact stepP_w (h n (by omega))
theorem tell_3 {V : Vy} {t : Nat} (h : (t : Int) < V 0 4) : tellP V 3 t = t := if_pos h
theorem rT_x {V : Vy} {n : Nat} (h : (n : Int) ≤ V 0 4) : runP whoX V (tellP V) n = rT V n := (runP_id fun t ht => tell_3 (by omega)).symm
theorem pT_x {V : Vy} {t : Nat} (h : (t : Int) ≤ V 0 4) : preP whoX V (tellP V) t = pT V t := by
  unfold preP
  rw [rT_x h]
  rfl
theorem inj_tell {V : Vy} : injR V (tellP V) := fun t t' h h' e => by
  rw [tell_3 h, tell_3 h'] at e
  omega
theorem crP_w {V : Vy} {C : Cf} {S : Sm} {t : Nat} {w w' : Nat → Int} (h : w t = w' t) : crP w V C S t = crP w' V C S t := by
  unfold crP
  rw [h]
theorem giveS_w {V : Vy} {C : Cf} {S : Sm} {t : Nat} {w w' : Nat → Int} (h : w t = w' t) : giveS w V C S t = giveS w' V C S t := by
  unfold giveS
  rw [crP_w h]
theorem wipeS_w {V : Vy} {C : Cf} {S : Sm} {t : Nat} {w w' : Nat → Int} (h : w t = w' t) : wipeS w V C S t = wipeS w' V C S t := by
  unfold wipeS
  rw [crP_w h]
/-- what a cart's questions read -/
theorem laid_out {V : Vy} {M1 : Mm} (h : laidX V (tellP V) M1) {c : Nat} (hc : (c : Int) < V 0 4) : M1 19 c = wentS V (tellP V) (pT V c) c ∧ M1 20 c = toP V (tellP V) c ∧ M1 21 c = giveS (whoM (tellP V)) V (tellP V) (pT V c) c ∧ M1 22 c = creakS V (tellP V) (pT V c) c ∧ M1 24 c = wipeS (whoM (tellP V)) V (tellP V) (pT V c) c ∧ M1 23 c = paysV V c := by
  have ho := h.2.2.2.2 inj_tell c hc
  rw [pT_x (by omega)] at ho
  have ew : whoX c = whoM (tellP V) c := (tell_3 hc).symm
  unfold outX at ho
  rw [tell_3 hc, Int.toNat_natCast, giveS_w ew, wipeS_w ew] at ho
  obtain ⟨o1, o2, o3, o4, o5, o6⟩ := ho
  refine ⟨o1, o2, o3, o4, o5, ?_⟩
  rw [o6]
  unfold paidS paysV
  rw [giveS_w ew]
/-- what bridges hold at the end -/
theorem laid_end {V : Vy} {M1 : Mm} (h4 : 0 ≤ V 0 4) (h : laidX V (tellP V) M1) {b : Nat} (hb : (b : Int) < V 0 3) : okBX M1 b ∧ mbX M1 b = (rT V (V 0 4).toNat).1 b ∧ M1 25 b = (rT V (V 0 4).toNat).2.1 b := by
  have h1 := h.2.2.1 b hb
  rw [rT_x (by omega)] at h1
  exact ⟨(h.2.1 b hb).1, h1.1, h1.2⟩
/-- what is held of a turn -/
theorem laid_tab {V : Vy} {M1 : Mm} (h : laidX V (tellP V) M1) {t b : Nat} (ht : (t : Int) < V 0 4) (hb : (b : Int) < V 0 3) : ((rT V (t + 1)).1 b).length ≤ 8 ∧ okL ((rT V (t + 1)).1 b) ∧ M1 27 (3 * t + b) = ((rT V (t + 1)).1 b).length ∧ M1 28 (3 * t + b) = sagP ((rT V (t + 1)).1 b) ∧ stk (fun k => M1 26 (8 * (3 * t + b) + k)) ((rT V (t + 1)).1 b).length = ((rT V (t + 1)).1 b).map Prod.fst := by
  have h1 := h.2.2.2.1 t b ht hb
  unfold tabX at h1
  rw [rT_x (by omega)] at h1
  exact h1
/-- by which cart and at which turn a bridge broke: one number, where carts come in their own order -/
theorem broke_at {V : Vy} {C : Cf} {w : Nat → Int} : ∀ {n : Nat}, n ≤ 1000 → (∀ t : Nat, t < n → C 3 t = t) → ∀ b : Nat, ((runP w V C n).2.1 b = -1 ∧ (runP w V C n).2.2 b = 100000) ∨ (0 ≤ (runP w V C n).2.1 b ∧ (runP w V C n).2.1 b < n ∧ (runP w V C n).2.2 b = (runP w V C n).2.1 b) := by
  intro n
  induction n with
  | zero => intro _ _ b; left; exact ⟨rfl, rfl⟩
  | succ n ih =>
    intro hn h b
    have k := ih (by omega) (fun t ht => h t (by omega)) b
    have e : runP w V C (n + 1) = stepP w V C (runP w V C n) n := rfl
    rw [e]
    unfold stepP
    have eb := frz_brk V C (runP w V C n) n
    split
    · unfold goS
      split
      · dsimp only
        by_cases q : b = (toP V C (C 3 n).toNat).toNat
        · rw [if_pos q, if_pos q, h n (by omega)]
          right
          omega
        · rw [if_neg q, if_neg q, eb]
          omega
      · dsimp only
        rw [eb]
        omega
    · rw [eb]
      omega
