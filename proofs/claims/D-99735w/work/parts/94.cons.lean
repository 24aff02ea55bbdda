/-! Constructors: rows of numbers that are made and laid into a final field; a new valley -/
theorem ra_inj {s : State} {c1 c2 : ClassId} {ty : FieldType} (hp : ∀ C, ty ≠ .object C) (h1 : va_RA s c1 ty) (h2 : va_RA s c2 ty) : c1 = c2 := by
  cases ty <;> first | exact absurd rfl (hp _) | (have h1 : s.vm.findClass _ = some c1 := h1; have h2 : s.vm.findClass _ = some c2 := h2; exact Option.some.inj (h1.symm.trans h2))
theorem tys_at {ca : Nat → ClassId} {tyl : List (Nat × FieldType)} {T : Nat} {ty : FieldType} (h : (T, ty) ∈ tyl) : ∃ k : Nat, (tys_ ca tyl)[k]? = some (ca T, ty) := by
  obtain ⟨k, hk⟩ := List.mem_iff_getElem?.mp h
  exact ⟨k, by unfold tys_; rw [List.getElem?_map, hk]; rfl⟩
section
variable {p : Program} {l : Launch} {e : Env} {R : Room} {s : State} {m : MethodId} {args : Array Value} {below : List Frame} {meth : Method} {c : Code} {Q : State → Prop} {cc : ByteArray} {D : va_G} {cl : List vw_C} {ca : Nat → ClassId} {tyl : List (Nat × FieldType)} {A : Nat → Prop} {H0 H : Heap} {locs : List Loc} {ls : Array Slot} {rest : List Value} {cells slots pc : Nat}
theorem unit_newa {own : String} {TT : u_T} {N ci index T k a : Nat} {ty0 : Nat → FieldType} {atype : ArrayType} {ty ty2 : FieldType} {fs : List Value} {arrs : va_W} {n : Int32} {N' : Nat} {a0 : vp_A}
    (hx : p.tables.exec = Jvm.exec) (hb : c.code = cc) (hts : ∀ w ∈ lw_all, w.before args s = true) (hin : ∀ w ∈ u_ws own TT N, w ∈ lw_all) (hty0 : ∀ k, k < N → parseFieldDescriptor (TT k).2.2.1 = some (ty0 k)) (hnm : ∀ a, a < N → ∀ b, b < N → a ≠ b → (TT a).2.1 ≠ (TT b).2.1) (hown : s.vm.findClass own = some m.cls) (hname : meth.name = "<init>")
    (hK : va_K D cl (tys_ ca tyl) s) (hc : cl[ci]? = some (own, TT, N)) (hT : (T, ty) ∈ tyl) (hprim : ∀ C, ty ≠ .object C) (hat : newarray.typeOf atype = ty) (harr : (Cond.arrayClass (newarray.typeOf atype)).before args s = true)
    (hP : va_P D cl ((a, .inr (ci, fs)) :: arrs) H) (hD : va_D A ((a, .inr (ci, fs)) :: arrs)) (hS : va_S A H0 H locs) (hA : ∀ q, H0.size ≤ q → A q)
    (ha : ∀ cA : ClassId, vp_cell cA a0 = arrV cA N' (fun _ => defaultValue ty)) (hn : ¬ n < 0) (hN : n.toNatClampNeg = N') (hbytes : N' * componentBytes ty ≤ 536870912) (hcells : cells + 1 ≤ R.cells) (hslots : slots + N' ≤ R.slots)
    (hk : k < N) (hl : k < fs.length) (hlink : (Cond.fieldLink own index own (TT k).2.1 (TT k).2.2.1).before args s = true) (hfin : (TT k).2.2.2 = true) (hdecl : (TT k).1 = own) (hd2 : parseFieldDescriptor (TT k).2.2.1 = some ty2) (hnar : ∀ q : Nat, narrow ty2 (.ref q) = .ref q) (hfit : ∀ q : Nat, fits ty2 (.ref q) = true)
    (d1 : decode cc pc = .ok (.newarray atype, 2)) (d2 : decode cc (pc + 2) = .ok (.putfield index, 3))
    (kk : ∀ (q : Nat) (H1 : Heap) (locs1 : List Loc), va_P D cl ((a, .inr (ci, fs.set k (.ref q))) :: (arrs ++ [(q, .inl (ca T, a0))])) H1 → va_D A ((a, .inr (ci, fs.set k (.ref q))) :: (arrs ++ [(q, .inl (ca T, a0))])) → va_S A H0 H1 locs1 →
      W p l e R s m args below meth c H1 locs1 (cells + 1) (slots + N') Q (F0 m (pc + 2 + 3) ls rest)) : W p l e R s m args below meth c H locs cells slots Q (F0 m pc ls (.int n :: .ref a :: rest)) := by
  refine va_newa hx hb harr hat hK hP hD hS hA ha hn hN hbytes hcells hslots d1 ?_
  intro q cA H1 hK1 hP1 hD1 hS1
  have e : cA = ca T := by
    obtain ⟨i, hi⟩ := tys_at (ca := ca) hT
    have h1 := (hK.2 i _ hi).2
    have h2 := (hK1.2 (tys_ ca tyl).length (cA, ty) (by rw [List.getElem?_append_right (Nat.le_refl _), Nat.sub_self]; rfl)).2
    exact ra_inj hprim h2 h1
  subst e
  have hP1 : va_P D cl ((a, .inr (ci, fs)) :: (arrs ++ [(q, .inl (ca T, a0))])) H1 := hP1
  have hD1 : va_D A ((a, .inr (ci, fs)) :: (arrs ++ [(q, .inl (ca T, a0))])) := hD1
  refine va_putF (ci := ci) (C := own) (T := TT) (N := N) (ref := own) hx hb hts hin ty0 hty0 hnm hown hK hP1 hD1 hS1 0 rfl hc k hk hlink (by rw [hdecl]; exact fun _ h => h) hfin hname hdecl hd2 (hnar q) (hfit q) hl d2 ?_
  intro H2 locs2 hP2 hD2 hS2
  exact kk q H2 locs2 hP2 hD2 hS2
end
/-- a new valley -/
def z18 : List Value := [.int 0, .int 0, .int 0, .int 0, .int 0, .int 0, .int 0, .int 0, .int 0, .int 0, .null, .null, .null, .null, .null, .null, .null, .null]
def valA (cI : ClassId) (f : Nat → Nat) : va_W := [(f 0, .inl (cI, 3, .inl (fun _ => 0))), (f 1, .inl (cI, 3, .inl (fun _ => 0))), (f 2, .inl (cI, 7, .inl (fun _ => 0))), (f 3, .inl (cI, 7, .inl (fun _ => 0))), (f 4, .inl (cI, 5, .inl (fun _ => 0))), (f 5, .inl (cI, 5, .inl (fun _ => 0))), (f 6, .inl (cI, 5, .inl (fun _ => 0))), (f 7, .inl (cI, 30, .inl (fun _ => 0)))]
def valO (q ci : Nat) (f : Nat → Nat) : Nat × va_E := (q, .inr (ci, [.int 0, .int 0, .int 0, .int 0, .int 0, .int 0, .int 0, .int 0, .int 0, .int 0, .ref (f 0), .ref (f 1), .ref (f 2), .ref (f 3), .ref (f 4), .ref (f 5), .ref (f 6), .ref (f 7)]))
def PVa (D : va_G) (cl : List vw_C) (ca : Nat → ClassId) (tyl : List (Nat × FieldType)) (q ci : Nat) (fs : List Value) (sz : Nat) : State → Prop := fun U => U.heap.size = sz ∧ va_P D cl [(q, .inr (ci, fs))] U.heap ∧ va_K D cl (tys_ ca tyl) U ∧ va_D (fA q sz) [(q, .inr (ci, fs))]
def QVa (D : va_G) (cl : List vw_C) (ca : Nat → ClassId) (tyl : List (Nat × FieldType)) (q ci sz : Nat) : Array Value → State → Outcome → State → Prop := va_Qv (fun (_ : Nat → Nat) => True) (fun f U => va_P D cl (valO q ci f :: valA (ca 0) f) U.heap ∧ va_K D cl (tys_ ca tyl) U ∧ va_D (fA q sz) (valO q ci f :: valA (ca 0) f)) (fA q sz)
theorem PVa_blind {D : va_G} {cl : List vw_C} {ca : Nat → ClassId} {tyl : List (Nat × FieldType)} {q ci : Nat} {fs : List Value} {sz : Nat} {as : List Value} : FrameBlind (va_Pc as (PVa D cl ca tyl q ci fs sz)) := by
  intro a U g mk h
  obtain ⟨h0, h1, h2, h3, h4⟩ := h
  exact ⟨h0, h1, h2, va_K.moved (u := U) (U := U.calling g mk a) (Vm.Alike.refl U.vm) h3, h4⟩
set_option maxHeartbeats 4000000 in
set_option maxRecDepth 100000 in
theorem c_valley0 {D : va_G} {cl : List vw_C} {ca : Nat → ClassId} {tyl : List (Nat × FieldType)} {q ci sz : Nat} (l : Launch) (hc : cl[ci]? = some (RX1, TX1, 18)) (hT : (0, .int) ∈ tyl) : Met l yX1_init (ws_ yX1_init cX1_init 1 none) (rmX 1 8 65) (va_Pc [.ref q] (PVa D cl ca tyl q ci z18 sz)) (QVa D cl ca tyl q ci sz) 8 65 (fA q sz) := by
  refine kh_of (by decide) (Nat.le_of_ble_eq_true rfl) ?_
  intro p e s m args below meth c ls hx hb hml ho hts hr hlk hnm hB hl
  obtain ⟨hsz, hP, hK, hD⟩ := hB
  subst hsz
  have hS : va_S (fA q s.heap.size) s.heap s.heap [] := va_S.rf
  have hA : ∀ z, s.heap.size ≤ z → fA q s.heap.size z := fun z h => Or.inr h
  have a0 : ls[0]? = some (.val (.ref q)) := hl.2.2 (0, _) (by simp [lv_args])
  refine lv_aload_n hx hb dX1_init_0 rfl a0 ?_
  refine W.objInit hx hb ho (hts _ q174) (hts _ q167) (hts _ q168) rfl (by rw [hml]; exact hl.1) rfl dX1_init_1 (Nat.le_of_ble_eq_true rfl) (Nat.le_of_ble_eq_true rfl) ?_
  refine lv_aload_n hx hb dX1_init_4 rfl a0 ?_
  refine lv_iconst hx hb dX1_init_5 (v := 3) rfl ?_
  refine unit_newa (own := RX1) (TT := TX1) (N := 18) (ci := ci) (T := 0) (k := 10) (a := q) (atype := .int) (ty := .int) (ty2 := .array .int) (N' := 3) (a0 := (3, .inl (fun _ => 0))) hx hb hts in_X1 tyX1_ok nmX1 ho hnm hK hc hT (fun C h => by cases h) rfl (hts _ q264) hP hD hS hA (fun _ => rfl) (by decide) rfl (by decide) (Nat.le_of_ble_eq_true rfl) (Nat.le_of_ble_eq_true rfl) (by decide) (Nat.le_of_ble_eq_true rfl) (hts _ q204) rfl rfl (by decide +kernel) (fun _ => rfl) (fun _ => rfl) dX1_init_6 dX1_init_8 ?_
  clear hP hD hS
  intro q0 H0 locs0 hP hD hS
  refine lv_aload_n hx hb dX1_init_11 rfl a0 ?_
  refine lv_iconst hx hb dX1_init_12 (v := 3) rfl ?_
  refine unit_newa (own := RX1) (TT := TX1) (N := 18) (ci := ci) (T := 0) (k := 11) (a := q) (atype := .int) (ty := .int) (ty2 := .array .int) (N' := 3) (a0 := (3, .inl (fun _ => 0))) hx hb hts in_X1 tyX1_ok nmX1 ho hnm hK hc hT (fun C h => by cases h) rfl (hts _ q264) hP hD hS hA (fun _ => rfl) (by decide) rfl (by decide) (Nat.le_of_ble_eq_true rfl) (Nat.le_of_ble_eq_true rfl) (by decide) (Nat.le_of_ble_eq_true rfl) (hts _ q207) rfl rfl (by decide +kernel) (fun _ => rfl) (fun _ => rfl) dX1_init_13 dX1_init_15 ?_
  clear hP hD hS
  intro q1 H1 locs1 hP hD hS
  refine lv_aload_n hx hb dX1_init_18 rfl a0 ?_
  refine lv_bipush hx hb dX1_init_19 (v := 7) rfl ?_
  refine unit_newa (own := RX1) (TT := TX1) (N := 18) (ci := ci) (T := 0) (k := 12) (a := q) (atype := .int) (ty := .int) (ty2 := .array .int) (N' := 7) (a0 := (7, .inl (fun _ => 0))) hx hb hts in_X1 tyX1_ok nmX1 ho hnm hK hc hT (fun C h => by cases h) rfl (hts _ q264) hP hD hS hA (fun _ => rfl) (by decide) rfl (by decide) (Nat.le_of_ble_eq_true rfl) (Nat.le_of_ble_eq_true rfl) (by decide) (Nat.le_of_ble_eq_true rfl) (hts _ q210) rfl rfl (by decide +kernel) (fun _ => rfl) (fun _ => rfl) dX1_init_21 dX1_init_23 ?_
  clear hP hD hS
  intro q2 H2 locs2 hP hD hS
  refine lv_aload_n hx hb dX1_init_26 rfl a0 ?_
  refine lv_bipush hx hb dX1_init_27 (v := 7) rfl ?_
  refine unit_newa (own := RX1) (TT := TX1) (N := 18) (ci := ci) (T := 0) (k := 13) (a := q) (atype := .int) (ty := .int) (ty2 := .array .int) (N' := 7) (a0 := (7, .inl (fun _ => 0))) hx hb hts in_X1 tyX1_ok nmX1 ho hnm hK hc hT (fun C h => by cases h) rfl (hts _ q264) hP hD hS hA (fun _ => rfl) (by decide) rfl (by decide) (Nat.le_of_ble_eq_true rfl) (Nat.le_of_ble_eq_true rfl) (by decide) (Nat.le_of_ble_eq_true rfl) (hts _ q213) rfl rfl (by decide +kernel) (fun _ => rfl) (fun _ => rfl) dX1_init_29 dX1_init_31 ?_
  clear hP hD hS
  intro q3 H3 locs3 hP hD hS
  refine lv_aload_n hx hb dX1_init_34 rfl a0 ?_
  refine lv_iconst hx hb dX1_init_35 (v := 5) rfl ?_
  refine unit_newa (own := RX1) (TT := TX1) (N := 18) (ci := ci) (T := 0) (k := 14) (a := q) (atype := .int) (ty := .int) (ty2 := .array .int) (N' := 5) (a0 := (5, .inl (fun _ => 0))) hx hb hts in_X1 tyX1_ok nmX1 ho hnm hK hc hT (fun C h => by cases h) rfl (hts _ q264) hP hD hS hA (fun _ => rfl) (by decide) rfl (by decide) (Nat.le_of_ble_eq_true rfl) (Nat.le_of_ble_eq_true rfl) (by decide) (Nat.le_of_ble_eq_true rfl) (hts _ q216) rfl rfl (by decide +kernel) (fun _ => rfl) (fun _ => rfl) dX1_init_36 dX1_init_38 ?_
  clear hP hD hS
  intro q4 H4 locs4 hP hD hS
  refine lv_aload_n hx hb dX1_init_41 rfl a0 ?_
  refine lv_iconst hx hb dX1_init_42 (v := 5) rfl ?_
  refine unit_newa (own := RX1) (TT := TX1) (N := 18) (ci := ci) (T := 0) (k := 15) (a := q) (atype := .int) (ty := .int) (ty2 := .array .int) (N' := 5) (a0 := (5, .inl (fun _ => 0))) hx hb hts in_X1 tyX1_ok nmX1 ho hnm hK hc hT (fun C h => by cases h) rfl (hts _ q264) hP hD hS hA (fun _ => rfl) (by decide) rfl (by decide) (Nat.le_of_ble_eq_true rfl) (Nat.le_of_ble_eq_true rfl) (by decide) (Nat.le_of_ble_eq_true rfl) (hts _ q219) rfl rfl (by decide +kernel) (fun _ => rfl) (fun _ => rfl) dX1_init_43 dX1_init_45 ?_
  clear hP hD hS
  intro q5 H5 locs5 hP hD hS
  refine lv_aload_n hx hb dX1_init_48 rfl a0 ?_
  refine lv_iconst hx hb dX1_init_49 (v := 5) rfl ?_
  refine unit_newa (own := RX1) (TT := TX1) (N := 18) (ci := ci) (T := 0) (k := 16) (a := q) (atype := .int) (ty := .int) (ty2 := .array .int) (N' := 5) (a0 := (5, .inl (fun _ => 0))) hx hb hts in_X1 tyX1_ok nmX1 ho hnm hK hc hT (fun C h => by cases h) rfl (hts _ q264) hP hD hS hA (fun _ => rfl) (by decide) rfl (by decide) (Nat.le_of_ble_eq_true rfl) (Nat.le_of_ble_eq_true rfl) (by decide) (Nat.le_of_ble_eq_true rfl) (hts _ q222) rfl rfl (by decide +kernel) (fun _ => rfl) (fun _ => rfl) dX1_init_50 dX1_init_52 ?_
  clear hP hD hS
  intro q6 H6 locs6 hP hD hS
  refine lv_aload_n hx hb dX1_init_55 rfl a0 ?_
  refine lv_bipush hx hb dX1_init_56 (v := 30) rfl ?_
  refine unit_newa (own := RX1) (TT := TX1) (N := 18) (ci := ci) (T := 0) (k := 17) (a := q) (atype := .int) (ty := .int) (ty2 := .array .int) (N' := 30) (a0 := (30, .inl (fun _ => 0))) hx hb hts in_X1 tyX1_ok nmX1 ho hnm hK hc hT (fun C h => by cases h) rfl (hts _ q264) hP hD hS hA (fun _ => rfl) (by decide) rfl (by decide) (Nat.le_of_ble_eq_true rfl) (Nat.le_of_ble_eq_true rfl) (by decide) (Nat.le_of_ble_eq_true rfl) (hts _ q225) rfl rfl (by decide +kernel) (fun _ => rfl) (fun _ => rfl) dX1_init_58 dX1_init_60 ?_
  clear hP hD hS
  intro q7 H7 locs7 hP hD hS
  exact W.vret hx hb hr (fun t ht hW => ⟨⟨fun k => [q0, q1, q2, q3, q4, q5, q6, q7].getD k 0, rfl, trivial, by rw [ht]; exact hP, va_K.moved hW.alike hK, hD⟩, hS.F ht⟩) hS.2.2 dX1_init_63 hlk
