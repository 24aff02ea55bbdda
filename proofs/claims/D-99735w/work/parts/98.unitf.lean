/-! Objects' fields by a function: rows laid into final fields, in a constructor -/
def rgV (N : Nat) (g : Nat → Value) : List Value := (List.range N).map g
def upV (g : Nat → Value) (k : Nat) (v : Value) : Nat → Value := fun j => if j = k then v else g j
theorem rgV_len {N : Nat} {g : Nat → Value} : (rgV N g).length = N := by unfold rgV; rw [List.length_map, List.length_range]
theorem rgV_get {N j : Nat} {g : Nat → Value} (h : j < N) : (rgV N g)[j]? = some (g j) := by
  unfold rgV
  rw [List.getElem?_map, List.getElem?_range h]
  rfl
theorem rgV_set {N k : Nat} {g : Nat → Value} {v : Value} : (rgV N g).set k v = rgV N (upV g k v) := by
  refine List.ext_getElem? fun i => ?_
  by_cases h : i < N
  · rw [rgV_get h, List.getElem?_set]
    by_cases e : k = i
    · subst e
      rw [if_pos rfl, if_pos (by rw [rgV_len]; exact h)]
      unfold upV
      rw [if_pos rfl]
    · rw [if_neg e, rgV_get h]
      unfold upV
      rw [if_neg (fun z => e z.symm)]
  · rw [List.getElem?_eq_none (by rw [List.length_set, rgV_len]; omega), List.getElem?_eq_none (by rw [rgV_len]; omega)]
section
variable {p : Program} {l : Launch} {e : Env} {R : Room} {s : State} {m : MethodId} {args : Array Value} {below : List Frame} {meth : Method} {c : Code} {Q : State → Prop} {cc : ByteArray} {D : va_G} {cl : List vw_C} {ca : Nat → ClassId} {tyl : List (Nat × FieldType)} {A : Nat → Prop} {H0 H : Heap} {locs : List Loc} {ls : Array Slot} {rest : List Value} {cells slots pc : Nat}
theorem unit_newg {own : String} {TT : u_T} {N ci index T k a : Nat} {ty0 : Nat → FieldType} {atype : ArrayType} {ty ty2 : FieldType} {g : Nat → Value} {arrs : va_W} {n : Int32} {N' : Nat} {a0 : vp_A}
    (hx : p.tables.exec = Jvm.exec) (hb : c.code = cc) (hts : ∀ w ∈ lw_all, w.before args s = true) (hin : ∀ w ∈ u_ws own TT N, w ∈ lw_all) (hty0 : ∀ k, k < N → parseFieldDescriptor (TT k).2.2.1 = some (ty0 k)) (hnm : ∀ a, a < N → ∀ b, b < N → a ≠ b → (TT a).2.1 ≠ (TT b).2.1) (hown : s.vm.findClass own = some m.cls) (hname : meth.name = "<init>")
    (hK : va_K D cl (tys_ ca tyl) s) (hc : cl[ci]? = some (own, TT, N)) (hT : (T, ty) ∈ tyl) (hprim : ∀ C, ty ≠ .object C) (hat : newarray.typeOf atype = ty) (harr : (Cond.arrayClass (newarray.typeOf atype)).before args s = true)
    (hP : va_P D cl ((a, .inr (ci, rgV N g)) :: arrs) H) (hD : va_D A ((a, .inr (ci, rgV N g)) :: arrs)) (hS : va_S A H0 H locs) (hA : ∀ q, H0.size ≤ q → A q)
    (ha : ∀ cA : ClassId, vp_cell cA a0 = arrV cA N' (fun _ => defaultValue ty)) (hn : ¬ n < 0) (hN : n.toNatClampNeg = N') (hbytes : N' * componentBytes ty ≤ 536870912) (hcells : cells + 1 ≤ R.cells) (hslots : slots + N' ≤ R.slots)
    (hk : k < N) (hlink : (Cond.fieldLink own index own (TT k).2.1 (TT k).2.2.1).before args s = true) (hfin : (TT k).2.2.2 = true) (hdecl : (TT k).1 = own) (hd2 : parseFieldDescriptor (TT k).2.2.1 = some ty2) (hnar : ∀ q : Nat, narrow ty2 (.ref q) = .ref q) (hfit : ∀ q : Nat, fits ty2 (.ref q) = true)
    (d1 : decode cc pc = .ok (.newarray atype, 2)) (d2 : decode cc (pc + 2) = .ok (.putfield index, 3))
    (kk : ∀ (q : Nat) (H1 : Heap) (locs1 : List Loc), va_P D cl ((a, .inr (ci, rgV N (upV g k (.ref q)))) :: (arrs ++ [(q, .inl (ca T, a0))])) H1 → va_D A ((a, .inr (ci, rgV N (upV g k (.ref q)))) :: (arrs ++ [(q, .inl (ca T, a0))])) → va_S A H0 H1 locs1 →
      W p l e R s m args below meth c H1 locs1 (cells + 1) (slots + N') Q (F0 m (pc + 2 + 3) ls rest)) : W p l e R s m args below meth c H locs cells slots Q (F0 m pc ls (.int n :: .ref a :: rest)) :=
  unit_newa hx hb hts hin hty0 hnm hown hname hK hc hT hprim hat harr hP hD hS hA ha hn hN hbytes hcells hslots hk (by rw [rgV_len]; exact hk) hlink hfin hdecl hd2 hnar hfit d1 d2 (fun q H1 locs1 h1 h2 h3 => kk q H1 locs1 (by rw [← rgV_set]; exact h1) (by rw [← rgV_set]; exact h2) h3)
/-- an int laid into a field -/
theorem unit_int {own : String} {TT : u_T} {N ci index k a : Nat} {ty0 : Nat → FieldType} {g : Nat → Value} {arrs : va_W} {v : Int32}
    (hx : p.tables.exec = Jvm.exec) (hb : c.code = cc) (hts : ∀ w ∈ lw_all, w.before args s = true) (hin : ∀ w ∈ u_ws own TT N, w ∈ lw_all) (hty0 : ∀ k, k < N → parseFieldDescriptor (TT k).2.2.1 = some (ty0 k)) (hnm : ∀ a, a < N → ∀ b, b < N → a ≠ b → (TT a).2.1 ≠ (TT b).2.1) (hown : s.vm.findClass own = some m.cls)
    (hK : va_K D cl (tys_ ca tyl) s) (hc : cl[ci]? = some (own, TT, N)) (hP : va_P D cl ((a, .inr (ci, rgV N g)) :: arrs) H) (hD : va_D A ((a, .inr (ci, rgV N g)) :: arrs)) (hS : va_S A H0 H locs)
    (hk : k < N) (hlink : (Cond.fieldLink own index own (TT k).2.1 (TT k).2.2.1).before args s = true) (hfin : (TT k).2.2.2 = false) (hdecl : (TT k).1 = own) (hd2 : parseFieldDescriptor (TT k).2.2.1 = some .int)
    (d2 : decode cc pc = .ok (.putfield index, 3))
    (kk : ∀ (H1 : Heap) (locs1 : List Loc), va_P D cl ((a, .inr (ci, rgV N (upV g k (.int v)))) :: arrs) H1 → va_D A ((a, .inr (ci, rgV N (upV g k (.int v)))) :: arrs) → va_S A H0 H1 locs1 →
      W p l e R s m args below meth c H1 locs1 cells slots Q (F0 m (pc + 3) ls rest)) : W p l e R s m args below meth c H locs cells slots Q (F0 m pc ls (.int v :: .ref a :: rest)) := by
  refine va_put (ci := ci) (v := .int v) (ty := .int) (C := own) (T := TT) (N := N) (ref := own) hx hb hts hin ty0 hty0 hnm hown hK hP hD hS 0 rfl hc k hk hlink (by rw [hdecl]; exact fun _ h => h) hfin hd2 rfl rfl (by rw [rgV_len]; exact hk) d2 ?_
  intro H1 locs1 h1 h2 h3
  exact kk H1 locs1 (by rw [← rgV_set]; exact h1) (by rw [← rgV_set]; exact h2) h3
end
/-- a world, cell by cell -/
theorem wl_cells {ca : Nat → ClassId} {ad : Nat → Nat} {sh : List SC} {M : Mm} {ws : va_W} (hl : ws.length = sh.length) (hc : ∀ (k : Nat) (c : SC), sh[k]? = some c → ws[k]? = some (ad k, wc ca ad (M k) c)) : ws = wl ca ad sh M := List.ext_getElem? fun k => by
  cases hk : sh[k]? with
  | some c => rw [hc k c hk, wl_get hk]
  | none =>
    have h1 : sh.length ≤ k := List.getElem?_eq_none_iff.mp hk
    have h2 : (wl ca ad sh M).length = sh.length := by unfold wl; rw [List.length_mapIdx]
    rw [List.getElem?_eq_none (by omega), List.getElem?_eq_none (by omega)]
/-- an object's fields -/
theorem wc_rgV {ca : Nat → ClassId} {ad : Nat → Nat} {r : Nat → Int} {ci N : Nat} {fks : List Nat} {g : Nat → Value} (hl : fks.length = N) (h : ∀ (j kd : Nat), fks[j]? = some kd → g j = cz ad (fval kd (r j))) : wc ca ad r (.inl (ci, fks)) = .inr (ci, rgV N g) := by
  have e : (fks.mapIdx fun j kd => cz ad (fval kd (r j))) = rgV N g := List.ext_getElem? fun i => by
    rw [List.getElem?_mapIdx]
    cases hk : fks[i]? with
    | some kd =>
      have hi := (List.getElem?_eq_some_iff.mp hk).1
      rw [rgV_get (by omega), h i kd hk]
      rfl
    | none =>
      have h1 : fks.length ≤ i := List.getElem?_eq_none_iff.mp hk
      rw [List.getElem?_eq_none (by rw [rgV_len]; omega)]
      rfl
  show (Sum.inr (ci, fks.mapIdx fun j kd => cz ad (fval kd (r j))) : va_E) = _
  rw [e]
