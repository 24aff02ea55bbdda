/-! A new valley, the reader's constructor -/
theorem join_new {D : va_G} {cl : List vw_C} {A : Nat → Prop} {ws w1 : va_W} {q : Nat} {H1 H2 : Heap} (hP : va_P D cl ws H1) (hDA : va_D A ws) (hne : ∀ (i : Nat) (z : Nat × va_E), ws[i]? = some z → z.1 ≠ q) (hk : ∀ a : Nat, a < H1.size → ¬ fA q H1.size a → H2[a]? = H1[a]?) (hP1 : va_P D cl w1 H2) (hD1 : va_D (fA q H1.size) w1) (hq : A q) (hA : ∀ a, H1.size ≤ a → A a) : va_P D cl (ws ++ w1) H2 ∧ va_D A (ws ++ w1) := by
  have hold : ∀ (i : Nat) (z : Nat × va_E), ws[i]? = some z → ¬ fA q H1.size z.1 := fun i z hz w => w.elim (hne i z hz) (fun y => by have := (hP i z hz).lt; omega)
  refine ⟨fun k z hz => ?_, fun i j x y hx hy e => ?_, fun k z hz => ?_⟩
  · by_cases h : k < ws.length
    · rw [List.getElem?_append_left h] at hz
      exact (hP.kept fun i y hy => hk _ (hP i y hy).lt (hold i y hy)) k z hz
    · rw [List.getElem?_append_right (Nat.le_of_not_lt h)] at hz
      exact hP1 _ z hz
  · by_cases h1 : i < ws.length <;> by_cases h2 : j < ws.length
    · rw [List.getElem?_append_left h1] at hx
      rw [List.getElem?_append_left h2] at hy
      exact hDA.1 i j x y hx hy e
    · rw [List.getElem?_append_left h1] at hx
      rw [List.getElem?_append_right (Nat.le_of_not_lt h2)] at hy
      exact absurd (e ▸ hD1.2 _ y hy) (hold i x hx)
    · rw [List.getElem?_append_right (Nat.le_of_not_lt h1)] at hx
      rw [List.getElem?_append_left h2] at hy
      exact absurd (e ▸ hD1.2 _ x hx) (hold j y hy)
    · rw [List.getElem?_append_right (Nat.le_of_not_lt h1)] at hx
      rw [List.getElem?_append_right (Nat.le_of_not_lt h2)] at hy
      have := hD1.1 _ _ x y hx hy e
      omega
  · by_cases h : k < ws.length
    · rw [List.getElem?_append_left h] at hz
      exact hDA.2 k z hz
    · rw [List.getElem?_append_right (Nat.le_of_not_lt h)] at hz
      exact (hD1.2 _ z hz).elim (fun w => by rw [w]; exact hq) (hA _)
theorem one_D {q sz : Nat} {x : va_E} : va_D (fA q sz) [(q, x)] := by
  refine ⟨fun i j a b h1 h2 _ => ?_, fun k z hz => ?_⟩
  · cases i with
    | zero => cases j with
      | zero => rfl
      | succ j => cases h2
    | succ i => cases h1
  · cases k with
    | zero => cases hz; exact Or.inl rfl
    | succ k => cases hz
section
variable {p : Program} {l : Launch} {e : Env} {R : Room} {s : State} {m : MethodId} {args : Array Value} {below : List Frame} {meth : Method} {c : Code} {Q : State → Prop} {cc : ByteArray} {D : va_G} {cl : List vw_C} {ca : Nat → ClassId} {tyl : List (Nat × FieldType)} {A : Nat → Prop} {H0 H : Heap} {locs : List Loc} {ls : Array Slot} {rest : List Value} {cells slots pc nL : Nat}
/-- new Valley() -/
theorem unit_val {own : String} {ix1 ix2 ci : Nat} {ws : va_W} (hx : p.tables.exec = Jvm.exec) (hb : c.code = cc) (hml : c.maxLocals = nL) (hts : ∀ w ∈ lw_all, w.before args s = true) (hown : s.vm.findClass own = some m.cls) (hls : ls.size = nL)
    (hK : va_K D cl (tys_ ca tyl) s) (hc : cl[ci]? = some (RX1, TX1, 18)) (hT : (0, .int) ∈ tyl) (hP : va_P D cl ws H) (hD : va_D A ws) (hS : va_S A H0 H locs) (hA : ∀ q, H0.size ≤ q → A q)
    (hcl : (Cond.classLink own ix1 RX1).before args s = true) (hlink : (∃ host, (Cond.methodLinkNest own ix2 yX1_init host).before args s = true) ∨ Cond.methodLink own ix2 yX1_init ∈ lw_all) (hfr : 2 ≤ R.frames) (hlo : 84 ≤ R.locals) (hcells : cells + 9 ≤ R.cells) (hslots : slots + 83 ≤ R.slots) (hrest : (rest.map fun v => v.category).sum ≤ 7)
    (d0 : decode cc pc = .ok (.new ix1, 3)) (d1 : decode cc (pc + 3) = .ok (.dup, 1)) (d2 : decode cc (pc + 4) = .ok (.invokespecial ix2, 3))
    (kk : ∀ (q : Nat) (f : Nat → Nat) (H1 : Heap) (locs1 : List Loc), va_P D cl (ws ++ (valO q ci f :: valA (ca 0) f)) H1 → va_D A (ws ++ (valO q ci f :: valA (ca 0) f)) → va_S A H0 H1 locs1 →
      W p l e R s m args below meth c H1 locs1 (cells + 1 + 8) (slots + 18 + 65) Q (F0 m (pc + 3 + 1 + 3) ls (.ref q :: rest))) : W p l e R s m args below meth c H locs cells slots Q (F0 m pc ls rest) := by
  refine va_new (ci := ci) (fs := z18) (C := RX1) (T := TX1) (N := 18) hx hb hts in_X1 tyX1 tyX1_ok hown hcl (hts _ q170) (hts _ q129) hK hP hD hS hA hc (fun j hj => by rcases (show j = 0 ∨ j = 1 ∨ j = 2 ∨ j = 3 ∨ j = 4 ∨ j = 5 ∨ j = 6 ∨ j = 7 ∨ j = 8 ∨ j = 9 ∨ j = 10 ∨ j = 11 ∨ j = 12 ∨ j = 13 ∨ j = 14 ∨ j = 15 ∨ j = 16 ∨ j = 17 by omega) with rfl | rfl | rfl | rfl | rfl | rfl | rfl | rfl | rfl | rfl | rfl | rfl | rfl | rfl | rfl | rfl | rfl | rfl <;> rfl) (by omega) (by omega) d0 ?_
  intro q H1 hP1 hD1 hS1
  have eq1 : (ws ++ [(q, (Sum.inr (ci, z18) : va_E))])[ws.length]? = some (q, .inr (ci, z18)) := by rw [List.getElem?_append_right (Nat.le_refl _), Nat.sub_self]; rfl
  have hPw : va_P D cl ws H1 := fun k z hz => hP1 k z (by rw [List.getElem?_append_left (List.getElem?_eq_some_iff.mp hz).1]; exact hz)
  have hPq : va_P D cl [(q, .inr (ci, z18))] H1 := fun k z hz => by
    cases k with
    | zero => cases hz; exact hP1 ws.length _ eq1
    | succ k => cases hz
  have hDw : va_D A ws := ⟨fun i j x y h1 h2 e => hD1.1 i j x y (by rw [List.getElem?_append_left (List.getElem?_eq_some_iff.mp h1).1]; exact h1) (by rw [List.getElem?_append_left (List.getElem?_eq_some_iff.mp h2).1]; exact h2) e, fun k z hz => hD1.2 k z (by rw [List.getElem?_append_left (List.getElem?_eq_some_iff.mp hz).1]; exact hz)⟩
  have hne : ∀ (i : Nat) (z : Nat × va_E), ws[i]? = some z → z.1 ≠ q := by
    intro i z hz h
    have hi := (List.getElem?_eq_some_iff.mp hz).1
    have := hD1.1 i ws.length _ _ (by rw [List.getElem?_append_left hi]; exact hz) eq1 h
    omega
  have hq : A q := hD1.2 ws.length _ eq1
  have hA1 : ∀ a, H1.size ≤ a → A a := fun a h => hA a (Nat.le_trans hS1.1 h)
  refine lv_dup hx hb d1 rfl ?_
  have hpre : PreS s H1 (va_Pc [.ref q] (PVa D cl ca tyl q ci z18 H1.size)) (.ref q :: []) := ⟨PVa_blind, fun U hU hW => ⟨rfl, by rw [hU], by rw [hU]; exact hPq, va_K.moved hW.alike hK, one_D⟩⟩
  have hgo : va_Run p l e R s m args below meth c H1 locs (cells + 1) (slots + 18) 8 65 (F0 m (pc + 3 + 1) ls (.ref q :: .ref q :: rest)) (.ref q :: rest) (QVa D cl ca tyl q ci H1.size (Value.ref q :: []).toArray) (fA q H1.size) := by
    rcases hlink with ⟨host, hh⟩ | hh
    · exact va_runIN (As := []) (rest := .ref q :: rest) ⟨hx, hb, hml, hown, hts⟩ (c_valley0 (D := D) (ca := ca) (q := q) (sz := H1.size) l hc hT) ⟨va_cnB 0 hts (lw_meth q173) rfl rfl rfl (nw_of rfl hh) (hts _ q129) ⟨by decide, by decide, rfl⟩ ⟨by show 1 + 1 ≤ R.frames; omega, by show 8 + (1 + 11) + 64 * 1 ≤ R.locals; omega⟩, rfl, hts _ q172⟩ hpre rfl rfl hls rfl (by show 2 * 0 + (1 + (rest.map fun v => v.category).sum) ≤ 8; omega) d2 ⟨by omega, by omega⟩
    · exact va_runI (As := []) (rest := .ref q :: rest) ⟨hx, hb, hml, hown, hts⟩ (c_valley0 (D := D) (ca := ca) (q := q) (sz := H1.size) l hc hT) (cwI 0 hts (lw_meth q173) rfl rfl rfl (hts _ q129) (hts _ hh) (hts _ q172) rfl ⟨by decide, by decide, rfl⟩ ⟨by show 1 + 1 ≤ R.frames; omega, by show 8 + (1 + 11) + 64 * 1 ≤ R.locals; omega⟩) hpre rfl rfl hls rfl (by show 2 * 0 + (1 + (rest.map fun v => v.category).sum) ≤ 8; omega) d2 ⟨by omega, by omega⟩
  refine va_callv (S := Nat → Nat) (A0 := A) (H0 := H0) hgo hS1 (fun a _ h => h.elim (fun w => by rw [w]; exact hq) (hA1 a)) (fun a h => h.elim (fun w => by rw [w]; exact hq) (hA1 a)) ?_
  intro f t H2 locs2 ht hv _ hqq hz hk hS2
  obtain ⟨hP2, -, hD2⟩ := hqq
  rw [ht] at hP2
  obtain ⟨hP3, hD3⟩ := join_new hPw hDw hne hk hP2 hD2 hq hA1
  exact kk q f H2 locs2 hP3 hD3 hS2
end
