/-! The reader's faults: how they are made -/
def fA (q sz : Nat) : Nat → Prop := fun a => a = q ∨ sz ≤ a
def PF (D : va_G) (ca : Nat → ClassId) (q : Nat) (fs : List Value) (sz : Nat) : State → Prop := fun U => U.heap.size = sz ∧ va_P D clR [(q, .inr (3, fs))] U.heap ∧ va_K D clR (tys_ ca tylR) U ∧ va_D (fA q sz) [(q, .inr (3, fs))] ∧ evX (fA q sz) U U.heap
def QF (D : va_G) (ca : Nat → ClassId) (q : Nat) (fs : List Value) (sz : Nat) : Array Value → State → Outcome → State → Prop := va_Qv (fun (_ : Unit) => True) (fun _ U => va_P D clR [(q, .inr (3, fs))] U.heap ∧ va_K D clR (tys_ ca tylR) U ∧ va_D (fA q sz) [(q, .inr (3, fs))]) (fA q sz)
theorem PF_blind {D : va_G} {ca : Nat → ClassId} {q : Nat} {fs : List Value} {sz : Nat} {as : List Value} : FrameBlind (va_Pc as (PF D ca q fs sz)) := by
  intro a U g mk h
  obtain ⟨h0, h1, h2, h3, h4, h5⟩ := h
  exact ⟨h0, h1, h2, va_K.moved (u := U) (U := U.calling g mk a) (Vm.Alike.refl U.vm) h3, h4, evX_of h5 va_S.rf (Vm.Alike.refl U.vm) (fun _ z => z)⟩
/-- a method walked by hand: its contract out of its body -/
theorem kh_of {lvl mc ms : Nat} {y : MethodName} {cc : ByteArray} {nL : Nat} {ret : Option FieldType} {as : List Value} {B : State → Prop} {Qc : Array Value → State → Outcome → State → Prop} {free : Nat → Prop} {l : Launch} (hy : plainFor y = true) (hsz : (lg_sl as).length ≤ nL)
    (body : ∀ (p : Program) (e : Env) (s : State) (m : MethodId) (args : Array Value) (below : List Frame) (meth : Method) (c : Code) (ls : Array Slot), p.tables.exec = Jvm.exec → c.code = cc → c.maxLocals = nL → s.vm.findClass y.cls = some m.cls → (∀ w ∈ lw_all, w.before args s = true) → meth.sig.returnType = ret → meth.locks = false → meth.name = y.name → B s → lv_has ls nL (lv_args 0 as) →
      W p l e (rmX lvl mc ms) s m args below meth c s.heap [] 0 0 (MQ below Qc args s mc ms free) (F0 m 0 ls [])) : Met l y (ws_ y cc nL ret) (rmX lvl mc ms) (va_Pc as B) Qc mc ms free := by
  refine va_MetF (cc := cc) (maxL := nL) (ret := ret) hy rfl ?_
  intro p e s m args below meth c s₁ BB hml hv
  obtain ⟨rfl, hB⟩ := hv
  have hts := atoms_spec (ws := ws_ y cc nL ret) BB.pre
  have hts : ∀ w ∈ lw_all, w.before as.toArray s = true := fun w h => hts w (List.mem_cons_of_mem _ h)
  have hl := lv_entry as (n := nL) hsz
  rw [lg_entry_eq]
  exact body p e s m _ below meth c _ BB.exec BB.bytes hml (findClass_of_methodNamed BB.named) hts BB.returns BB.notSynchronized (name_of_methodNamed BB.named BB.method).1 hB hl
section
variable {D : va_G} {ca : Nat → ClassId} {q sz : Nat}
set_option maxHeartbeats 4000000 in
theorem c_throwable (l : Launch) (v0 v1 v2 v3 v4 v5 v6 v7 : Value) : Met l yJ8_init_2 (ws_ yJ8_init_2 cJ8_init_2 5 none) (rmX 1 0 0) (va_Pc [.ref q, .null, .null, .int 0, .int 0] (PF D ca q [v0, v1, v2, v3, v4, v5, v6, v7] sz)) (QF D ca q [.null, .null, .null, .null, v4, v5, v6, v7] sz) 0 0 (fA q sz) := by
  refine kh_of (by decide) (Nat.le_of_ble_eq_true rfl) ?_
  intro p e s m args below meth c ls hx hb hml ho hts hr hlk hnm hB hl
  obtain ⟨hsz, hP, hK, hD, hE⟩ := hB
  subst hsz
  have hS : va_S (fA q s.heap.size) s.heap s.heap [] := va_S.rf
  have a0 : ls[0]? = some (.val (.ref q)) := hl.2.2 (0, _) (by simp [lv_args])
  have a1 : ls[1]? = some (.val .null) := hl.2.2 (1, _) (by simp [lv_args, Value.category])
  have a2 : ls[2]? = some (.val .null) := hl.2.2 (2, _) (by simp [lv_args, Value.category])
  have a3 : ls[3]? = some (.val (.int 0)) := hl.2.2 (3, _) (by simp [lv_args, Value.category])
  have a4 : ls[4]? = some (.val (.int 0)) := hl.2.2 (4, _) (by simp [lv_args, Value.category])
  refine lv_aload_n hx hb dJ8_init_2_0 rfl a0 ?_
  refine W.objInit hx hb ho (hts _ q664) (hts _ q167) (hts _ q168) rfl (by rw [hml]; exact hl.1) rfl dJ8_init_2_1 (Nat.le_of_ble_eq_true rfl) (Nat.le_of_ble_eq_true rfl) ?_
  refine lv_aload_n hx hb dJ8_init_2_4 rfl a0 ?_
  refine lv_aload_n hx hb dJ8_init_2_5 rfl a0 ?_
  refine va_put (ci := 3) (v := .ref q) (ty := .object "java/lang/Throwable") (C := RX9) (T := TX9) (N := 8) hx hb hts in_X9 tyX9 tyX9_ok nmX9 ho hK hP hD hS 0 rfl rfl 0 (by decide) (hts _ q710) (fun _ h => h) rfl (by decide +kernel) rfl rfl (Nat.le_of_ble_eq_true rfl) dJ8_init_2_6 (fun H locs hP hD hS => ?_)
  refine lv_aload_n hx hb dJ8_init_2_9 rfl a0 ?_
  have fin : ∀ (w2 : Value) (H : Heap) (locs : List Loc), va_P D clR [(q, .inr (3, [.ref q, .null, w2, v3, v4, v5, v6, v7]))] H → va_D (fA q s.heap.size) [(q, .inr (3, [.ref q, .null, w2, v3, v4, v5, v6, v7]))] → va_S (fA q s.heap.size) s.heap H locs → W p l e (rmX 1 0 0) s m args below meth c H locs 0 0 (MQ below (QF D ca q [.null, .null, .null, .null, v4, v5, v6, v7] s.heap.size) args s 0 0 (fA q s.heap.size)) (F0 m 41 ls []) := by
    intro w2 H locs hP hD hS
    refine lv_aload_n hx hb dJ8_init_2_41 rfl a0 ?_
    refine lv_aload_nN hx hb dJ8_init_2_42 rfl a1 ?_
    refine va_put (ci := 3) (v := .null) (ty := .object "java/lang/String") (C := RX9) (T := TX9) (N := 8) hx hb hts in_X9 tyX9 tyX9_ok nmX9 ho hK hP hD hS 0 rfl rfl 3 (by decide) (hts _ q709) (fun _ h => h) rfl (by decide +kernel) rfl rfl (Nat.le_of_ble_eq_true rfl) dJ8_init_2_43 (fun H locs hP hD hS => ?_)
    refine lv_aload_n hx hb dJ8_init_2_46 rfl a0 ?_
    refine lv_aload_nN hx hb dJ8_init_2_47 rfl a2 ?_
    refine va_put (ci := 3) (v := .null) (ty := .object "java/lang/Throwable") (C := RX9) (T := TX9) (N := 8) hx hb hts in_X9 tyX9 tyX9_ok nmX9 ho hK hP hD hS 0 rfl rfl 0 (by decide) (hts _ q710) (fun _ h => h) rfl (by decide +kernel) rfl rfl (Nat.le_of_ble_eq_true rfl) dJ8_init_2_48 (fun H locs hP hD hS => ?_)
    refine lv_iload_n hx hb dJ8_init_2_51 rfl a3 ?_
    refine lv_if_ne hx hb dJ8_init_2_52 (tgt := 60) rfl (fun h => absurd rfl h) (fun _ => ?_)
    refine lv_aload_n hx hb dJ8_init_2_55 rfl a0 ?_
    refine lv_null hx hb dJ8_init_2_56 ?_
    refine va_put (ci := 3) (v := .null) (ty := .object "java/util/List") (C := RX9) (T := TX9) (N := 8) hx hb hts in_X9 tyX9 tyX9_ok nmX9 ho hK hP hD hS 0 rfl rfl 2 (by decide) (hts _ q712) (fun _ h => h) rfl (by decide +kernel) rfl rfl (Nat.le_of_ble_eq_true rfl) dJ8_init_2_57 (fun H locs hP hD hS => ?_)
    exact W.vret hx hb hr (fun t ht hW => ⟨⟨(), rfl, trivial, by rw [ht]; exact hP, va_K.moved hW.alike hK, hD⟩, hS.F ht⟩) hS.2.2 dJ8_init_2_60 hlk
  have mid : ∀ (w1 : Value) (H : Heap) (locs : List Loc), (w1 = .null ∨ ∃ z, w1 = .ref z) → va_P D clR [(q, .inr (3, [.ref q, v1, v2, v3, v4, v5, v6, v7]))] H → va_D (fA q s.heap.size) [(q, .inr (3, [.ref q, v1, v2, v3, v4, v5, v6, v7]))] → va_S (fA q s.heap.size) s.heap H locs → W p l e (rmX 1 0 0) s m args below meth c H locs 0 0 (MQ below (QF D ca q [.null, .null, .null, .null, v4, v5, v6, v7] s.heap.size) args s 0 0 (fA q s.heap.size)) (F0 m 13 ls [w1, .ref q]) := by
    intro w1 H locs hw1 hP hD hS
    refine va_put (ci := 3) (v := w1) (ty := .array (.object "java/lang/StackTraceElement")) (C := RX9) (T := TX9) (N := 8) hx hb hts in_X9 tyX9 tyX9_ok nmX9 ho hK hP hD hS 0 rfl rfl 1 (by decide) (hts _ q711) (fun _ h => h) rfl (by decide +kernel) (by rcases hw1 with rfl | ⟨z, rfl⟩ <;> rfl) (by rcases hw1 with rfl | ⟨z, rfl⟩ <;> rfl) (Nat.le_of_ble_eq_true rfl) dJ8_init_2_13 (fun H locs hP hD hS => ?_)
    refine lv_aload_n hx hb dJ8_init_2_16 rfl a0 ?_
    have go : ∀ w2 : Value, (w2 = .null ∨ ∃ z, w2 = .ref z) → W p l e (rmX 1 0 0) s m args below meth c H locs 0 0 (MQ below (QF D ca q [.null, .null, .null, .null, v4, v5, v6, v7] s.heap.size) args s 0 0 (fA q s.heap.size)) (F0 m 20 ls [w2, .ref q]) := by
      intro w2 hw2
      refine va_put (ci := 3) (v := w2) (ty := .object "java/util/List") (C := RX9) (T := TX9) (N := 8) hx hb hts in_X9 tyX9 tyX9_ok nmX9 ho hK hP hD hS 0 rfl rfl 2 (by decide) (hts _ q712) (fun _ h => h) rfl (by decide +kernel) (by rcases hw2 with rfl | ⟨z, rfl⟩ <;> rfl) (by rcases hw2 with rfl | ⟨z, rfl⟩ <;> rfl) (Nat.le_of_ble_eq_true rfl) dJ8_init_2_20 (fun H locs hP hD hS => ?_)
      refine lv_iload hx hb dJ8_init_2_23 a4 ?_
      refine lv_if_eq hx hb dJ8_init_2_25 (tgt := 36) rfl (fun _ => ?_) (fun h => absurd rfl h)
      refine lv_aload_n hx hb dJ8_init_2_36 rfl a0 ?_
      refine lv_null hx hb dJ8_init_2_37 ?_
      refine va_put (ci := 3) (v := .null) (ty := .array (.object "java/lang/StackTraceElement")) (C := RX9) (T := TX9) (N := 8) hx hb hts in_X9 tyX9 tyX9_ok nmX9 ho hK hP hD hS 0 rfl rfl 1 (by decide) (hts _ q711) (fun _ h => h) rfl (by decide +kernel) rfl rfl (Nat.le_of_ble_eq_true rfl) dJ8_init_2_38 (fun H locs hP hD hS => ?_)
      exact fin w2 H locs hP hD hS
    rcases hE.2.1 with h | ⟨z, h⟩
    · exact va_gets hx hb h hS ho (hts _ q667) (fun _ h => h) dJ8_init_2_17 (go _ (Or.inl rfl))
    · exact va_gets hx hb h hS ho (hts _ q667) (fun _ h => h) dJ8_init_2_17 (go _ (Or.inr ⟨z, rfl⟩))
  rcases hE.1.1 with h | ⟨z, h⟩
  · exact va_gets hx hb h hS ho (hts _ q665) (fun _ h => h) dJ8_init_2_10 (mid _ H locs (Or.inl rfl) hP hD hS)
  · exact va_gets hx hb h hS ho (hts _ q665) (fun _ h => h) dJ8_init_2_10 (mid _ H locs (Or.inr ⟨z, rfl⟩) hP hD hS)
/-- a call of a constructor of the same cell -/
theorem PF_of {s U : State} {H : Heap} {locs : List Loc} {fs : List Value} (hU : U.heap = H) (hW : s.WarmedH U.vm) (hP : va_P D clR [(q, .inr (3, fs))] H) (hK : va_K D clR (tys_ ca tylR) s) (hD : va_D (fA q s.heap.size) [(q, .inr (3, fs))]) (hE : evX (fA q s.heap.size) s s.heap) (hS : va_S (fA q s.heap.size) s.heap H locs) : PF D ca q fs H.size U := by
  refine ⟨by rw [hU], by rw [hU]; exact hP, va_K.moved hW.alike hK, ⟨hD.1, fun k z hz => ?_⟩, ?_⟩
  · cases k with
    | zero => cases hz; exact Or.inl rfl
    | succ k => cases hz
  · rw [hU]
    exact evX_of hE hS hW.alike (fun a h => h.elim Or.inl (fun z => Or.inr (Nat.le_trans hS.1 z)))
theorem fA_up {s0 s1 : Nat} (h : s0 ≤ s1) : ∀ a, fA q s1 a → fA q s0 a := fun a z => z.elim Or.inl (fun y => Or.inr (Nat.le_trans h y))
set_option maxHeartbeats 4000000 in
theorem c_exception (l : Launch) (v0 v1 v2 v3 v4 v5 v6 v7 : Value) : Met l yJ9_init (ws_ yJ9_init cJ9_init 5 none) (rmX 2 0 0) (va_Pc [.ref q, .null, .null, .int 0, .int 0] (PF D ca q [v0, v1, v2, v3, v4, v5, v6, v7] sz)) (QF D ca q [.null, .null, .null, .null, v4, v5, v6, v7] sz) 0 0 (fA q sz) := by
  refine kh_of (by decide) (Nat.le_of_ble_eq_true rfl) ?_
  intro p e s m args below meth c ls hx hb hml ho hts hr hlk hnm hB hl
  obtain ⟨hsz, hP, hK, hD, hE⟩ := hB
  subst hsz
  have hS : va_S (fA q s.heap.size) s.heap s.heap [] := va_S.rf
  have a0 : ls[0]? = some (.val (.ref q)) := hl.2.2 (0, _) (by simp [lv_args])
  have a1 : ls[1]? = some (.val .null) := hl.2.2 (1, _) (by simp [lv_args, Value.category])
  have a2 : ls[2]? = some (.val .null) := hl.2.2 (2, _) (by simp [lv_args, Value.category])
  have a3 : ls[3]? = some (.val (.int 0)) := hl.2.2 (3, _) (by simp [lv_args, Value.category])
  have a4 : ls[4]? = some (.val (.int 0)) := hl.2.2 (4, _) (by simp [lv_args, Value.category])
  refine lv_aload_n hx hb dJ9_init_0 rfl a0 ?_
  refine lv_aload_nN hx hb dJ9_init_1 rfl a1 ?_
  refine lv_aload_nN hx hb dJ9_init_2 rfl a2 ?_
  refine lv_iload_n hx hb dJ9_init_3 rfl a3 ?_
  refine lv_iload hx hb dJ9_init_4 a4 ?_
  refine va_callv (S := Unit) (A0 := fA q s.heap.size) (H0 := s.heap) (va_runI (As := [.null, .null, .int 0, .int 0]) (rest := []) ⟨hx, hb, hml, ho, hts⟩ (c_throwable (q := q) (D := D) (ca := ca) (sz := s.heap.size) l v0 v1 v2 v3 v4 v5 v6 v7) (cwI 4 hts (lw_meth q703) rfl rfl rfl (hts _ q147) (hts _ q701) (hts _ q702) rfl ⟨by decide, by decide, rfl⟩ ⟨by decide, by decide⟩) ⟨PF_blind, fun U hU hW => ⟨rfl, PF_of hU hW hP hK hD hE hS⟩⟩ rfl rfl hl.1 rfl (Nat.le_of_ble_eq_true rfl) dJ9_init_6 ⟨Nat.le_refl _, Nat.le_refl _⟩) hS (fun _ _ h => h) (fun _ h => h) ?_
  intro u t H1 locs1 ht hv _ hq hz hk hS
  obtain ⟨hP, hK1, hD⟩ := hq
  rw [ht] at hP
  exact W.vret hx hb hr (fun t ht hW => ⟨⟨(), rfl, trivial, by rw [ht]; exact hP, va_K.moved hW.alike hK, hD⟩, hS.F ht⟩) hS.2.2 dJ9_init_9 hlk
set_option maxHeartbeats 4000000 in
theorem c_fault (l : Launch) (v0 v1 v2 v3 v4 v5 v6 v7 : Value) (k w : Int32) : Met l yX9_init (ws_ yX9_init cX9_init 3 none) (rmX 3 0 0) (va_Pc [.ref q, .int k, .int w] (PF D ca q [v0, v1, v2, v3, v4, v5, v6, v7] sz)) (QF D ca q [.null, .null, .null, .null, v4, v5, .int k, .int w] sz) 0 0 (fA q sz) := by
  refine kh_of (by decide) (Nat.le_of_ble_eq_true rfl) ?_
  intro p e s m args below meth c ls hx hb hml ho hts hr hlk hnm hB hl
  obtain ⟨hsz, hP, hK, hD, hE⟩ := hB
  subst hsz
  have hS : va_S (fA q s.heap.size) s.heap s.heap [] := va_S.rf
  have a0 : ls[0]? = some (.val (.ref q)) := hl.2.2 (0, _) (by simp [lv_args])
  have a1 : ls[1]? = some (.val (.int k)) := hl.2.2 (1, _) (by simp [lv_args, Value.category])
  have a2 : ls[2]? = some (.val (.int w)) := hl.2.2 (2, _) (by simp [lv_args, Value.category])
  refine lv_aload_n hx hb dX9_init_0 rfl a0 ?_
  refine lv_null hx hb dX9_init_1 ?_
  refine lv_null hx hb dX9_init_2 ?_
  refine lv_iconst hx hb dX9_init_3 rfl ?_
  refine lv_iconst hx hb dX9_init_4 rfl ?_
  refine va_callv (S := Unit) (A0 := fA q s.heap.size) (H0 := s.heap) (va_runI (As := [.null, .null, .int 0, .int 0]) (rest := []) ⟨hx, hb, hml, ho, hts⟩ (c_exception (q := q) (D := D) (ca := ca) (sz := s.heap.size) l v0 v1 v2 v3 v4 v5 v6 v7) (cwI 4 hts (lw_meth q700) rfl rfl rfl (hts _ q148) (hts _ q698) (hts _ q699) rfl ⟨by decide, by decide, rfl⟩ ⟨by decide, by decide⟩) ⟨PF_blind, fun U hU hW => ⟨rfl, PF_of hU hW hP hK hD hE hS⟩⟩ rfl rfl hl.1 rfl (Nat.le_of_ble_eq_true rfl) dX9_init_5 ⟨Nat.le_refl _, Nat.le_refl _⟩) hS (fun _ _ h => h) (fun _ h => h) ?_
  intro u t H1 locs1 ht hv _ hq hz hk hS
  obtain ⟨hP, hK1, hD⟩ := hq
  rw [ht] at hP
  refine lv_aload_n hx hb dX9_init_8 rfl a0 ?_
  refine lv_iload_n hx hb dX9_init_9 rfl a1 ?_
  refine va_putF (ci := 3) (v := .int k) (ty := .int) (C := RX9) (T := TX9) (N := 8) hx hb hts in_X9 tyX9 tyX9_ok nmX9 ho hK hP hD hS 0 rfl rfl 6 (by decide) (hts _ q704) (fun _ h => h) rfl hnm rfl (by decide +kernel) rfl rfl (Nat.le_of_ble_eq_true rfl) dX9_init_10 (fun H locs hP hD hS => ?_)
  refine lv_aload_n hx hb dX9_init_13 rfl a0 ?_
  refine lv_iload_n hx hb dX9_init_14 rfl a2 ?_
  refine va_putF (ci := 3) (v := .int w) (ty := .int) (C := RX9) (T := TX9) (N := 8) hx hb hts in_X9 tyX9 tyX9_ok nmX9 ho hK hP hD hS 0 rfl rfl 7 (by decide) (hts _ q706) (fun _ h => h) rfl hnm rfl (by decide +kernel) rfl rfl (Nat.le_of_ble_eq_true rfl) dX9_init_15 (fun H locs hP hD hS => ?_)
  exact W.vret hx hb hr (fun t ht hW => ⟨⟨(), rfl, trivial, by rw [ht]; exact hP, va_K.moved hW.alike hK, hD⟩, hS.F ht⟩) hS.2.2 dX9_init_18 hlk
end
