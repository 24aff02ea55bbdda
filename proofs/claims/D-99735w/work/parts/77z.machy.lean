/-! METHODS THAT MAY THROW, METHODS THAT MAKE CELLS: contracts and calls; what the caller holds of cells that it doesn't own (ex), what is said of a thrown object (fl) -/
abbrev EXP : Type := (Nat → Nat) → (Nat → Prop) → State → Heap → Prop
abbrev FLP : Type := va_G → Addr → Mm → Heap → Prop
def exOK (ex : EXP) : Prop := ∀ (ad : Nat → Nat) (A B : Nat → Prop) (s U : State) (H0 H : Heap) (locs : List Loc), ex ad A s H0 → va_S A H0 H locs → s.WarmedH U.vm → (∀ q, B q → A q) → ex ad B U H
/-- what was thrown, by its ghost -/
def excN : Nat → String
  | 0 => "java/lang/NullPointerException"
  | 1 => "java/lang/ArrayIndexOutOfBoundsException"
  | 2 => "java/lang/NegativeArraySizeException"
  | 3 => "java/lang/ArrayStoreException"
  | _ => "SagMemory$Fault"
def gh (M : Mm) (x : Int) : Mm := up2 M 0 900000 x
def gh3 (M : Mm) (k w : Int) : Mm := up2 (up2 (up2 M 0 900000 4) 0 900001 k) 0 900002 w
def rmX (lvl mc ms : Nat) : Room := { frames := lvl, cells := mc, slots := ms, locals := 64 * lvl }
/-- an answer that is not nothing -/
def nnA : Option AV → Prop
  | some (.inr (.inr none)) => False
  | _ => True
def retX (Q : Option AV → Mm → Prop) (r : Option AV) (M : Mm) : Prop := nnA r ∧ Q r M
theorem retX_i {Q : Option AV → Mm → Prop} {x : Int} {M : Mm} : retX Q (some (ai x)) M = Q (some (ai x)) M := propext ⟨fun h => h.2, fun h => ⟨trivial, h⟩⟩
theorem retX_l {Q : Option AV → Mm → Prop} {x : Int} {M : Mm} : retX Q (some (al x)) M = Q (some (al x)) M := propext ⟨fun h => h.2, fun h => ⟨trivial, h⟩⟩
theorem retX_r {Q : Option AV → Mm → Prop} {k : Nat} {M : Mm} : retX Q (some (ar k)) M = Q (some (ar k)) M := propext ⟨fun h => h.2, fun h => ⟨trivial, h⟩⟩
theorem retX_v {Q : Option AV → Mm → Prop} {M : Mm} : retX Q none M = Q none M := propext ⟨fun h => h.2, fun h => ⟨trivial, h⟩⟩
theorem xgo1_n {off : Int} {nxt nxa : K0} {jmp : Int → K0} {thx : Mm → Prop} {lv : LV} {rest : List AV} {r : Option AV} {M : Mm} (hn : nnA r) (h : xgo 1 off nxt nxa jmp thx lv rest r M) : nxt lv (r.toList ++ rest) M := by
  cases r with
  | none => exact h
  | some v =>
    rcases v with x | x | x
    · exact h
    · exact h
    · cases x with
      | none => exact hn.elim
      | some k => exact h
/-! the ghosts are no part of a world -/
theorem wl_gh {ca : Nat → ClassId} {ad : Nat → Nat} {sh : List SC} {M : Mm} {x : Int} {j0 ci : Nat} {fks : List Nat} (h0 : sh[0]? = some (.inl (ci, fks))) (hl : fks.length ≤ j0) : wl ca ad sh (up2 M 0 j0 x) = wl ca ad sh M := by
  refine List.ext_getElem? fun k => ?_
  unfold wl
  rw [List.getElem?_mapIdx, List.getElem?_mapIdx]
  cases hk : sh[k]? with
  | none => rfl
  | some q =>
    show some (ad k, wc ca ad (up2 M 0 j0 x k) q) = some (ad k, wc ca ad (M k) q)
    by_cases e : k = 0
    · subst e
      rw [h0] at hk
      cases hk
      have e2 : (fks.mapIdx (fun j kd => cz ad (fval kd (up2 M 0 j0 x 0 j)))) = fks.mapIdx (fun j kd => cz ad (fval kd (M 0 j))) := by
        refine List.ext_getElem? fun j => ?_
        rw [List.getElem?_mapIdx, List.getElem?_mapIdx]
        cases hj : fks[j]? with
        | none => rfl
        | some kd =>
          have hlt : j < fks.length := (List.getElem?_eq_some_iff.mp hj).1
          show some (cz ad (fval kd (up2 M 0 j0 x 0 j))) = some (cz ad (fval kd (M 0 j)))
          rw [up2_n (by omega)]
      show some (ad 0, (Sum.inr (ci, _) : va_E)) = some (ad 0, Sum.inr (ci, _))
      rw [e2]
    · rw [up2_ne e]
theorem okM_gh {sh : List SC} {M : Mm} {x : Int} {j0 ci : Nat} {fks : List Nat} (h0 : sh[0]? = some (.inl (ci, fks))) (hl : fks.length ≤ j0) (h : okM sh M) : okM sh (up2 M 0 j0 x) := by
  intro k q hk
  by_cases e : k = 0
  · subst e
    rw [h0] at hk
    cases hk
    intro j kd hj
    have hlt : j < fks.length := (List.getElem?_eq_some_iff.mp hj).1
    rw [up2_n (by omega)]
    exact h 0 _ h0 j kd hj
  · rw [up2_ne e]
    exact h k q hk
section MACHY
variable {cl : List vw_C} {sh : List SC} {tyl : List (Nat × FieldType)} {own : String} {Nws : List Cond} {ex : EXP} {fl : FLP}
def PBX (D : va_G) (cl : List vw_C) (tyl : List (Nat × FieldType)) (Nws : List Cond) (ex : EXP) (ad : Nat → Nat) (ca : Nat → ClassId) (sh : List SC) (M : Mm) (sz : Nat) : State → Prop := fun U => PB D cl tyl Nws ad ca sh M sz U ∧ ex ad (va_A (wl ca ad sh M) sz) U U.heap
/-- the world behind a throw -/
def xcX (D : va_G) (cl : List vw_C) (tyl : List (Nat × FieldType)) (ad : Nat → Nat) (ca : Nat → ClassId) (sh : List SC) (fl : FLP) (A : Nat → Prop) (Q : Option AV → Mm → Prop) : String → Addr → State → State → Prop := fun E q st t =>
  (∃ M' : Mm, E = excN (M' 0 900000).toNat ∧ Q (some an) M' ∧ okM sh M' ∧ va_P D cl (wl ca ad sh M') t.heap ∧ va_K D cl (tys_ ca tyl) t ∧ va_D A (wl ca ad sh M') ∧ fl D q M' t.heap) ∧ va_F A st t
/-- a method that returns (making no cells) or throws -/
def MOKX (cl : List vw_C) (sh : List SC) (tyl : List (Nat × FieldType)) (Nws : List Cond) (ex : EXP) (fl : FLP) (lvl mc ms : Nat) (y : MethodName) (cc : ByteArray) (nL : Nat) (ret : Option FieldType) (sp : Spec) : Prop :=
  ∀ (l : Launch) (D : va_G) (ca : Nat → ClassId) (ad : Nat → Nat) (sz : Nat) (avs : List AV) (M : Mm) (Q : Option AV → Mm → Prop), l.stackTraces = false → okM sh M → (∀ v ∈ avs, okV v) → sp avs M Q →
    vy_Met l y (ws_ y cc nL ret) (rmX lvl mc ms) (va_Pc (avs.map (cz ad)) (PBX D cl tyl Nws ex ad ca sh M sz)) (vq D cl tyl ad ca sh (va_A (wl ca ad sh M) sz) (retX Q)) (xcX D cl tyl ad ca sh fl (va_A (wl ca ad sh M) sz) Q) mc ms (va_A (wl ca ad sh M) sz)
/-- a method that returns, having made some cells -/
def MOKA (cl : List vw_C) (sh : List SC) (tyl : List (Nat × FieldType)) (Nws : List Cond) (ex : EXP) (lvl mc ms : Nat) (y : MethodName) (ws : List Cond) (sp : Spec) : Prop :=
  ∀ (l : Launch) (D : va_G) (ca : Nat → ClassId) (ad : Nat → Nat) (sz : Nat) (avs : List AV) (M : Mm) (Q : Option AV → Mm → Prop), l.stackTraces = false → okM sh M → (∀ v ∈ avs, okV v) → sp avs M Q →
    Met l y ws (rmX lvl mc ms) (va_Pc (avs.map (cz ad)) (PBX D cl tyl Nws ex ad ca sh M sz)) (vq D cl tyl ad ca sh (va_A (wl ca ad sh M) sz) Q) mc ms (va_A (wl ca ad sh M) sz)
/-- from here a throw comes to the end -/
def thW (p : Program) (l : Launch) (e : Env) (R : Room) (s : State) (m : MethodId) (args : Array Value) (below : List Frame) (meth : Method) (c : Code) (Q : State → Prop) (D : va_G) (cl : List vw_C) (A : Nat → Prop) (ad : Nat → Nat) (ca : Nat → ClassId) (sh : List SC) (fl : FLP) (nL c1 s1 : Nat) (pc : Nat) (M : Mm) : Prop :=
  ∀ (ls : Array Slot) (H : Heap) (locs : List Loc) (rest : List Value) (q : Addr) (ce : Cell), lv_has ls nL [] → va_P D cl (wl ca ad sh M) H → va_D A (wl ca ad sh M) → va_S A s.heap H locs → okM sh M → H[q]? = some ce → ce.vm = .none → s.vm.findClass (excN (M 0 900000).toNat) = some ce.cls → fl D q M H →
    vx_W p l e R s m args below meth c H locs c1 s1 Q (F0 m pc ls rest) q
/-- an entry that may throw, or that makes cells, keeps its word: nc cells of ns slots are made at most -/
def CXE (own : String) (cl : List vw_C) (sh : List SC) (tyl : List (Nat × FieldType)) (Nws : List Cond) (ex : EXP) (fl : FLP) (lvl nc ns : Nat) (key kd n : Nat) (sp : Spec) : Prop :=
  mono sp ∧ ∀ (p : Program) (l : Launch) (e : Env) (R : Room) (s : State) (m : MethodId) (args : Array Value) (below : List Frame) (meth : Method) (c : Code) (Q : State → Prop) (cc : ByteArray) (D : va_G) (A : Nat → Prop) (ad : Nat → Nat) (ca : Nat → ClassId) (nL c0 s0 c1 s1 c9 s9 : Nat) (THX : Nat → Mm → Prop),
    l.stackTraces = false → fx p s m args c cc D cl ca tyl own Nws → c.maxLocals = nL → (∀ q, s.heap.size ≤ q → A q) → lvl ≤ R.frames → 64 * lvl ≤ R.locals → (c0 + nc ≤ c1 ∧ c1 ≤ R.cells) ∧ s0 + ns ≤ s1 ∧ s1 ≤ R.slots → ex ad A s s.heap → meth.locks = false → (kd = 2 ∨ kd = 5 → c9 = c1 ∧ s9 = s1) →
    (∀ pc M, THX pc M → thW p l e R s m args below meth c Q D cl A ad ca sh fl nL c1 s1 pc M) → (kd = 4 → ∀ pc M, THX pc M → thW p l e R s m args below meth c Q D cl A ad ca sh fl nL c1 s1 (pc + 3) M) →
      xOK p l e R s m args below meth c Q D cl A ad ca sh nL c0 s0 c9 s9 cc THX key kd n sp
theorem cxe_up {lvl nc ns nc' ns' key kd n : Nat} {sp : Spec} (h : CXE own cl sh tyl Nws ex fl lvl nc ns key kd n sp) (h1 : nc ≤ nc') (h2 : ns ≤ ns') : CXE own cl sh tyl Nws ex fl lvl nc' ns' key kd n sp :=
  ⟨h.1, fun p l e R s m args below meth c Q cc D A ad ca nL c0 s0 c1 s1 c9 s9 THX a1 a2 a3 a4 a5 a6 a7 a8 a9 b1 b2 b3 => h.2 p l e R s m args below meth c Q cc D A ad ca nL c0 s0 c1 s1 c9 s9 THX a1 a2 a3 a4 a5 a6 ⟨⟨by omega, a7.1.2⟩, by omega, a7.2.2⟩ a8 a9 b1 b2 b3⟩
theorem PBX_blind {D : va_G} {ad : Nat → Nat} {ca : Nat → ClassId} {as : List Value} {M : Mm} {sz : Nat} (hNw : ∀ w ∈ Nws, nwOK w = true) (hex : exOK ex) : FrameBlind (va_Pc as (PBX D cl tyl Nws ex ad ca sh M sz)) := by
  intro a U g mk q
  obtain ⟨q0, q1, q2⟩ := q
  have h := PB_blind (D := D) (cl := cl) (tyl := tyl) (Nws := Nws) (ad := ad) (ca := ca) (sh := sh) (as := as) (M := M) (sz := sz) hNw a U g mk ⟨q0, q1⟩
  exact ⟨q0, h.2, hex ad _ _ U (U.calling g mk a) U.heap U.heap [] q2 va_S.rf (State.WarmedH.refl U) (fun _ z => z)⟩
section
variable {p : Program} {l : Launch} {e : Env} {R : Room} {s : State} {m : MethodId} {args : Array Value} {below : List Frame} {meth : Method} {c : Code}
variable {cc : ByteArray} {D : va_G} {A : Nat → Prop} {ad : Nat → Nat} {ca : Nat → ClassId} {nL rt c0 s0 c1 s1 : Nat}
theorem PBX_of {M : Mm} {H : Heap} {locs : List Loc} {lv : LV} {st : List AV} {ls : Array Slot} (hNw : ∀ w ∈ Nws, nwOK w = true) (hex : exOK ex) (F : fx p s m args c cc D cl ca tyl own Nws) (hA : ∀ q, s.heap.size ≤ q → A q) (hev : ex ad A s s.heap) (hr : rel D cl A ad ca sh nL s.heap lv st M ls H locs) (U : State) (hU : U.heap = H) (hW : s.WarmedH U.vm) : PBX D cl tyl Nws ex ad ca sh M H.size U := by
  refine ⟨PB_of hNw F hr U hU hW, ?_⟩
  rw [hU]
  refine hex ad A _ s U s.heap H locs hev hr.2.2.2.1 hW fun q h => ?_
  rcases h with ⟨k, e, h⟩ | h
  · exact hr.2.2.1.2 k (q, e) h
  · exact hA q (Nat.le_trans hr.2.2.2.1.1 h)
theorem foot_of {M : Mm} {H : Heap} {locs : List Loc} {lv : LV} {st : List AV} {ls : Array Slot} (hA : ∀ q, s.heap.size ≤ q → A q) (hr : rel D cl A ad ca sh nL s.heap lv st M ls H locs) : ∀ q, va_A (wl ca ad sh M) H.size q → A q := by
  intro q h
  rcases h with ⟨k, e, h⟩ | h
  · exact hr.2.2.1.2 k (q, e) h
  · exact hA q (Nat.le_trans hr.2.2.2.1.1 h)
theorem foot_S {M M' : Mm} {H : Heap} {locs L : List Loc} {lv : LV} {st : List AV} {ls : Array Slot} {t T' : State} {st0 : State} (hA : ∀ q, s.heap.size ≤ q → A q) (hr : rel D cl A ad ca sh nL s.heap lv st M ls H locs) (h0 : st0.heap = H) (hF : va_F (va_A (wl ca ad sh M) H.size) st0 t) (e1 : T'.heap = t.heap) (hL : ∀ q ∈ L, va_A (wl ca ad sh M) H.size q.base) : va_S A s.heap T'.heap (locs ++ L) := by
  have r4 := hr.2.2.2.1
  have hf := foot_of hA hr
  obtain ⟨hz, hk⟩ := hF
  rw [h0] at hz hk
  exact ⟨Nat.le_trans r4.1 (by rw [e1]; exact hz), fun q h1 h2 => by rw [e1, hk q (Nat.lt_of_lt_of_le h1 r4.1) (fun z => h2 (hf q z))]; exact r4.2.1 q h1 h2, fun q hq => by
      rcases List.mem_append.mp hq with h | h
      · exact r4.2.2 q h
      · exact hf _ (hL q h)⟩
/-- behind a call that kept the spec, or threw -/
theorem run_snWX {Q : State → Prop} {pc mc ms : Nat} {ls : Array Slot} {lv : LV} {st rest : List AV} {M : Mm} {H : Heap} {locs : List Loc} {Q' : Option AV → Mm → Prop} {a : Array Value}
    (hr : vy_Run p l e R s m args below meth c H locs c0 s0 mc ms (F0 m pc ls (st.map (cz ad))) (rest.map (cz ad)) (vq D cl tyl ad ca sh (va_A (wl ca ad sh M) H.size) (retX Q') a) (xcX D cl tyl ad ca sh fl (va_A (wl ca ad sh M) H.size) Q') (va_A (wl ca ad sh M) H.size))
    (hA : ∀ q, s.heap.size ≤ q → A q) (hrel : rel D cl A ad ca sh nL s.heap lv rest M ls H locs) (hc : c0 + mc ≤ c1) (hs : s0 + ms ≤ s1)
    (k : ∀ r M', nnA r → Q' r M' → snW p l e R s m args below meth c Q D cl A ad ca sh nL c0 s0 (pc + 3) lv (r.toList ++ rest) M')
    (kx : ∀ M', Q' (some an) M' → thW p l e R s m args below meth c Q D cl A ad ca sh fl nL c1 s1 pc M') : W p l e R s m args below meth c H locs c0 s0 Q (F0 m pc ls (st.map (cz ad))) := by
  obtain ⟨r1, r2, r3, r4, r5, r6, r7⟩ := id hrel
  have hf := foot_of hA hrel
  intro T hT X
  rcases hr T hT X with ⟨v, st₀, t, T', L, h0, X', hL, e1, e2, hq, hst⟩ | ⟨q, st₀, t, T', L, E, ce, h0, X', hL, e1, e2, hq, hce, hcv, hcl, hst⟩
  · obtain ⟨⟨r, M', hv, ⟨hnn, hQ'⟩, hrv, hM', hP', hK', hD'⟩, hF⟩ := vq_post hq
    have hS' := foot_S (M' := M') hA hrel h0 hF e1 hL
    have hrel' : rel D cl A ad ca sh nL s.heap lv (r.toList ++ rest) M' ls T'.heap (locs ++ L) := ⟨r1, by rw [e1]; exact hP', hD'.weaken (fun _ q _ h => hf q.1 h), hS', hM', r6, fun v hv => by
      rcases List.mem_append.mp hv with h | h
      · exact hrv v h
      · exact r7 v h⟩
    obtain ⟨t2, a1, b1⟩ := k r M' hnn hQ' ls T'.heap (locs ++ L) hrel' T' rfl X'
    refine ⟨t2, hst t2 ?_, b1⟩
    have e3 : v.toList ++ rest.map (cz ad) = (r.toList ++ rest).map (cz ad) := by
      rw [hv, List.map_append]
      cases r <;> rfl
    rw [e3]
    exact a1
  · obtain ⟨⟨M', hE, hQ', hM', hP', hK', hD', hfl⟩, hF⟩ := hq
    have hS' := foot_S (M' := M') hA hrel h0 hF e1 hL
    obtain ⟨t2, a1, b1⟩ := kx M' hQ' ls T'.heap (locs ++ L) (rest.map (cz ad)) q ce ⟨r1.1, r1.2.1, fun q hq => by cases hq⟩ (by rw [e1]; exact hP') (hD'.weaken (fun _ q _ h => hf q.1 h)) hS' hM' (by rw [e1]; exact hce) hcv (by rw [← hE]; exact hcl) (by rw [e1]; exact hfl) T' rfl (stand_widen X' hc hs)
    exact ⟨t2, hst.trans a1, b1⟩
/-- behind a call that made cells -/
theorem run_snWA {Q : State → Prop} {pc mc ms : Nat} {ls : Array Slot} {lv : LV} {st rest : List AV} {M : Mm} {H : Heap} {locs : List Loc} {Q' : Option AV → Mm → Prop} {a : Array Value}
    (hr : va_Run p l e R s m args below meth c H locs c0 s0 mc ms (F0 m pc ls (st.map (cz ad))) (rest.map (cz ad)) (vq D cl tyl ad ca sh (va_A (wl ca ad sh M) H.size) Q' a) (va_A (wl ca ad sh M) H.size))
    (hA : ∀ q, s.heap.size ≤ q → A q) (hrel : rel D cl A ad ca sh nL s.heap lv rest M ls H locs) (hc : c0 + mc ≤ c1) (hs : s0 + ms ≤ s1)
    (k : ∀ r M', Q' r M' → snW p l e R s m args below meth c Q D cl A ad ca sh nL c1 s1 (pc + 3) lv (r.toList ++ rest) M') : W p l e R s m args below meth c H locs c0 s0 Q (F0 m pc ls (st.map (cz ad))) := by
  obtain ⟨r1, r2, r3, r4, r5, r6, r7⟩ := id hrel
  have hf := foot_of hA hrel
  intro T hT X
  obtain ⟨v, st₀, t, T', L, h0, X', hL, e1, e2, hq, hst⟩ := hr T hT X
  obtain ⟨⟨r, M', hv, hQ', hrv, hM', hP', hK', hD'⟩, hF⟩ := vq_post hq
  have hS' := foot_S (M' := M') hA hrel h0 hF e1 hL
  have hrel' : rel D cl A ad ca sh nL s.heap lv (r.toList ++ rest) M' ls T'.heap (locs ++ L) := ⟨r1, by rw [e1]; exact hP', hD'.weaken (fun _ q _ h => hf q.1 h), hS', hM', r6, fun v hv => by
    rcases List.mem_append.mp hv with h | h
    · exact hrv v h
    · exact r7 v h⟩
  obtain ⟨t2, a1, b1⟩ := k r M' hQ' ls T'.heap (locs ++ L) hrel' T' rfl (stand_widen X' hc hs)
  refine ⟨t2, hst t2 ?_, b1⟩
  have e3 : v.toList ++ rest.map (cz ad) = (r.toList ++ rest).map (cz ad) := by
    rw [hv, List.map_append]
    cases r <;> rfl
  rw [e3]
  exact a1
end
theorem xk_iv {i : Instr} {x : Nat} (h : xk i = 10 * x + 5) : i = .invokevirtual x := by
  unfold xk at h
  split at h <;> first | (exfalso; omega) | skip
  rename_i y
  rw [show y = x by omega]
theorem xk_is {i : Instr} {x : Nat} (h : xk i = 10 * x + 6) : i = .invokestatic x := by
  unfold xk at h
  split at h <;> first | (exfalso; omega) | skip
  rename_i y
  rw [show y = x by omega]
/-- a call of a method that may throw, through an object at place k -/
theorem cxe_VX {n' : Nat} {sp : Spec} {lvl lvl' x maxL n k mc ms : Nat} {y : MethodName} {bytes : ByteArray} {ret : Option FieldType} {ci : Nat} {fks : List Nat} {q : vw_C} (hNw : ∀ w ∈ Nws, nwOK w = true) (hex : exOK ex) (hm : mono sp) (hsp : ∀ avs M Q, sp avs M Q → rcv k n' avs) (hM : MOKX cl sh tyl Nws ex fl lvl' mc ms y bytes maxL ret sp) (hl : lvl' < lvl) (hn : n = n' + 1) (hmx : maxL ≤ 45)
    (hs0 : sh[k]? = some (.inl (ci, fks))) (hc0 : cl[ci]? = some q) (hd : y.cls = q.1 ∧ y.cls ≠ "java/lang/invoke/MethodHandle" ∧ y.cls ≠ "java/lang/invoke/VarHandle" ∧ (parseMethodDescriptor y.desc).map (fun d => d.parameters.length) = some n')
    (h1 : Cond.methodLink own x y ∈ lw_all) (h2 : Cond.instanceMethod y ∈ lw_all) (h3 : Cond.selects q.1 y y ∈ lw_all) (h4 : Cond.initialized q.1 ∈ lw_all) (h5 : Cond.code y bytes maxL ret ∈ lw_all) : CXE own cl sh tyl Nws ex fl lvl mc ms (10 * x + 5) 1 n sp := by
  refine ⟨hm, ?_⟩
  intro p l e R s m args below meth c Q cc D A ad ca nL c0 s0 c1 s1 c9 s9 THX hl0 F hml hA hfr hlo hcs hev hlocks _ hX _ pc len i lv st M hd0 hk hi _ hle hspec ls H locs hr
  obtain rfl := xk_iv hk
  obtain rfl : len = 3 := by simpa [iokx, iok] using hi
  obtain ⟨rs, e1, hlen⟩ := hsp _ _ _ hspec
  have est := take_rev e1
  have hv := hr.2.2.2.2.2.2
  have hvt : ∀ v ∈ st.take n, okV v := fun v h => hv v (List.mem_of_mem_take h)
  have hvd : ∀ v ∈ st.drop n, okV v := fun v h => hv v (List.mem_of_mem_drop h)
  have hav : ∀ v ∈ (st.take n).reverse, okV v := fun v h => hvt v (List.mem_reverse.mp h)
  generalize hQQ : xgo 1 (xoff (Instr.invokevirtual x)) _ _ _ _ lv (st.drop n) = QQ at hspec
  have hM0 := hM l D ca ad H.size (st.take n).reverse M _ hl0 hr.2.2.2.2.1 hav hspec
  have hrel := rel_st hr hvd
  have ew := wl_get (ca := ca) (ad := ad) (M := M) hs0
  have hrecv := va_recv F.2.2.2.2.2 hr.2.1 (ci := ci) (q0 := k) hc0 ew
  rw [e1] at hM0
  have hst : st.map (cz ad) = (rs.map (cz ad)).reverse ++ .ref (ad k) :: (st.drop n).map (cz ad) := by
    conv => lhs; rw [est]
    simp [cz]
  refine run_snWX (tyl := tyl) (fl := fl) (mc := mc) (ms := ms) (rest := st.drop n) (Q' := QQ) (a := (Value.ref (ad k) :: rs.map (cz ad)).toArray) ?_ hA hrel hcs.1.1 hcs.2.1 (fun r M' hn h => by rw [← hQQ] at h; exact xgo1_n hn h) (fun M' h => by rw [← hQQ] at h; exact hX _ _ h)
  exact vy_runV (As := rs.map (cz ad)) (rest := (st.drop n).map (cz ad)) ⟨F.1, F.2.1, hml, F.2.2.1, F.2.2.2.1⟩ hM0 (cwV n' F.2.2.2.1 (lw_V h1 h2 h3 h4 h5) rfl rfl rfl hd ⟨by show lvl' + 1 ≤ R.frames; omega, by show 8 + (maxL + 11) + 64 * lvl' ≤ R.locals; omega⟩)
    ⟨PBX_blind hNw hex, hrecv, fun U hU hW => ⟨rfl, PBX_of hNw hex F hA hev hr U hU hW⟩⟩ rfl (by rw [List.length_map]; exact hlen) hr.1.1 hst (lv_room (room4 hle)) hd0 ⟨by omega, by omega⟩
/-- a call of a method that makes cells, through an object at place k -/
theorem cxe_VA {n' : Nat} {sp : Spec} {lvl lvl' x maxL n k mc ms : Nat} {y : MethodName} {bytes : ByteArray} {ret : Option FieldType} {ci : Nat} {fks : List Nat} {q : vw_C} (hNw : ∀ w ∈ Nws, nwOK w = true) (hex : exOK ex) (hm : mono sp) (hsp : ∀ avs M Q, sp avs M Q → rcv k n' avs) (hM : MOKA cl sh tyl Nws ex lvl' mc ms y (ws_ y bytes maxL ret) sp) (hl : lvl' < lvl) (hn : n = n' + 1) (hmx : maxL ≤ 45)
    (hs0 : sh[k]? = some (.inl (ci, fks))) (hc0 : cl[ci]? = some q) (hd : y.cls = q.1 ∧ y.cls ≠ "java/lang/invoke/MethodHandle" ∧ y.cls ≠ "java/lang/invoke/VarHandle" ∧ (parseMethodDescriptor y.desc).map (fun d => d.parameters.length) = some n')
    (h1 : Cond.methodLink own x y ∈ lw_all) (h2 : Cond.instanceMethod y ∈ lw_all) (h3 : Cond.selects q.1 y y ∈ lw_all) (h4 : Cond.initialized q.1 ∈ lw_all) (h5 : Cond.code y bytes maxL ret ∈ lw_all) : CXE own cl sh tyl Nws ex fl lvl mc ms (10 * x + 5) 2 n sp := by
  refine ⟨hm, ?_⟩
  intro p l e R s m args below meth c Q cc D A ad ca nL c0 s0 c1 s1 c9 s9 THX hl0 F hml hA hfr hlo hcs hev hlocks h9 _ _ pc len i lv st M hd0 hk hi _ hle hspec ls H locs hr
  obtain ⟨rfl, rfl⟩ := h9 (Or.inl rfl)
  obtain rfl := xk_iv hk
  obtain rfl : len = 3 := by simpa [iokx, iok] using hi
  obtain ⟨rs, e1, hlen⟩ := hsp _ _ _ hspec
  have est := take_rev e1
  have hv := hr.2.2.2.2.2.2
  have hvt : ∀ v ∈ st.take n, okV v := fun v h => hv v (List.mem_of_mem_take h)
  have hvd : ∀ v ∈ st.drop n, okV v := fun v h => hv v (List.mem_of_mem_drop h)
  have hav : ∀ v ∈ (st.take n).reverse, okV v := fun v h => hvt v (List.mem_reverse.mp h)
  have hM0 := hM l D ca ad H.size (st.take n).reverse M _ hl0 hr.2.2.2.2.1 hav hspec
  have hrel := rel_st hr hvd
  have ew := wl_get (ca := ca) (ad := ad) (M := M) hs0
  have hrecv := va_recv F.2.2.2.2.2 hr.2.1 (ci := ci) (q0 := k) hc0 ew
  rw [e1] at hM0
  have hst : st.map (cz ad) = (rs.map (cz ad)).reverse ++ .ref (ad k) :: (st.drop n).map (cz ad) := by
    conv => lhs; rw [est]
    simp [cz]
  refine run_snWA (tyl := tyl) (mc := mc) (ms := ms) (rest := st.drop n) (Q' := _) (a := (Value.ref (ad k) :: rs.map (cz ad)).toArray) ?_ hA hrel hcs.1.1 hcs.2.1 (fun r M' h => h)
  exact va_runV (As := rs.map (cz ad)) (rest := (st.drop n).map (cz ad)) ⟨F.1, F.2.1, hml, F.2.2.1, F.2.2.2.1⟩ hM0 (cwV n' F.2.2.2.1 (lw_V h1 h2 h3 h4 h5) rfl rfl rfl hd ⟨by show lvl' + 1 ≤ R.frames; omega, by show 8 + (maxL + 11) + 64 * lvl' ≤ R.locals; omega⟩)
    ⟨PBX_blind hNw hex, hrecv, fun U hU hW => ⟨rfl, PBX_of hNw hex F hA hev hr U hU hW⟩⟩ rfl (by rw [List.length_map]; exact hlen) hr.1.1 hst (lv_room (room4 hle)) hd0 ⟨by omega, by omega⟩
theorem cxe_VAH {n' : Nat} {sp : Spec} {lvl lvl' x maxL n k mc ms : Nat} {y : MethodName} {bytes : ByteArray} {ret : Option FieldType} {hh : List (Nat × Nat × Nat × Nat)} {ci : Nat} {fks : List Nat} {q : vw_C} (hNw : ∀ w ∈ Nws, nwOK w = true) (hex : exOK ex) (hm : mono sp) (hsp : ∀ avs M Q, sp avs M Q → rcv k n' avs) (hM : MOKA cl sh tyl Nws ex lvl' mc ms y (wsW_ y bytes maxL ret hh) sp) (hl : lvl' < lvl) (hn : n = n' + 1) (hmx : maxL ≤ 45)
    (hs0 : sh[k]? = some (.inl (ci, fks))) (hc0 : cl[ci]? = some q) (hd : y.cls = q.1 ∧ y.cls ≠ "java/lang/invoke/MethodHandle" ∧ y.cls ≠ "java/lang/invoke/VarHandle" ∧ (parseMethodDescriptor y.desc).map (fun d => d.parameters.length) = some n')
    (h1 : Cond.methodLink own x y ∈ lw_all) (h2 : Cond.instanceMethod y ∈ lw_all) (h3 : Cond.selects q.1 y y ∈ lw_all) (h4 : Cond.initialized q.1 ∈ lw_all) (h5 : Cond.codeWith y bytes maxL ret hh ∈ lw_all) : CXE own cl sh tyl Nws ex fl lvl mc ms (10 * x + 5) 2 n sp := by
  refine ⟨hm, ?_⟩
  intro p l e R s m args below meth c Q cc D A ad ca nL c0 s0 c1 s1 c9 s9 THX hl0 F hml hA hfr hlo hcs hev hlocks h9 _ _ pc len i lv st M hd0 hk hi _ hle hspec ls H locs hr
  obtain ⟨rfl, rfl⟩ := h9 (Or.inl rfl)
  obtain rfl := xk_iv hk
  obtain rfl : len = 3 := by simpa [iokx, iok] using hi
  obtain ⟨rs, e1, hlen⟩ := hsp _ _ _ hspec
  have est := take_rev e1
  have hv := hr.2.2.2.2.2.2
  have hvt : ∀ v ∈ st.take n, okV v := fun v h => hv v (List.mem_of_mem_take h)
  have hvd : ∀ v ∈ st.drop n, okV v := fun v h => hv v (List.mem_of_mem_drop h)
  have hav : ∀ v ∈ (st.take n).reverse, okV v := fun v h => hvt v (List.mem_reverse.mp h)
  have hM0 := hM l D ca ad H.size (st.take n).reverse M _ hl0 hr.2.2.2.2.1 hav hspec
  have hrel := rel_st hr hvd
  have ew := wl_get (ca := ca) (ad := ad) (M := M) hs0
  have hrecv := va_recv F.2.2.2.2.2 hr.2.1 (ci := ci) (q0 := k) hc0 ew
  rw [e1] at hM0
  have hst : st.map (cz ad) = (rs.map (cz ad)).reverse ++ .ref (ad k) :: (st.drop n).map (cz ad) := by
    conv => lhs; rw [est]
    simp [cz]
  refine run_snWA (tyl := tyl) (mc := mc) (ms := ms) (rest := st.drop n) (Q' := _) (a := (Value.ref (ad k) :: rs.map (cz ad)).toArray) ?_ hA hrel hcs.1.1 hcs.2.1 (fun r M' h => h)
  exact vx_runVW (As := rs.map (cz ad)) (rest := (st.drop n).map (cz ad)) ⟨F.1, F.2.1, hml, F.2.2.1, F.2.2.2.1⟩ hM0 (vx_cwVW n' F.2.2.2.1 (lw_VW h1 h2 h3 h4 h5) rfl rfl rfl hd ⟨by show lvl' + 1 ≤ R.frames; omega, by show 8 + (maxL + 11) + 64 * lvl' ≤ R.locals; omega⟩)
    ⟨PBX_blind hNw hex, hrecv, fun U hU hW => ⟨rfl, PBX_of hNw hex F hA hev hr U hU hW⟩⟩ rfl (by rw [List.length_map]; exact hlen) hr.1.1 hst (lv_room (room4 hle)) hd0 ⟨by omega, by omega⟩
theorem MQ_Y {below : List Frame} {Qc : Array Value → State → Outcome → State → Prop} {XC : String → Addr → State → State → Prop} {a : Array Value} {s : State} {mc ms : Nat} {free : Addr → Prop} {t : State} (h : MQ below Qc a s 0 0 free t) : vy_MQ below Qc XC a s mc ms free t := by
  obtain ⟨o, h1, h2, h3, L, h4, h5⟩ := h
  exact ⟨o, h1, h2, Or.inl ⟨h3, L, h4, h5⟩⟩
theorem MQ_w {below : List Frame} {Qc : Array Value → State → Outcome → State → Prop} {a : Array Value} {s : State} {k n mc ms : Nat} {free : Addr → Prop} {t : State} (hk : k ≤ mc) (hn : n ≤ ms) (h : MQ below Qc a s k n free t) : MQ below Qc a s mc ms free t := by
  obtain ⟨o, h1, h2, h3, L, h4, h5⟩ := h
  exact ⟨o, h1, h2, h3, L, ⟨h4.1, h4.2.1, h4.2.2.mono hk hn⟩, h5⟩
set_option maxHeartbeats 4000000 in
/-- a method that may throw, by the greater machine -/
theorem mokX_of {tb : TB} {xt : XT} {lvl mc ms nL rt fuel : Nat} {y : MethodName} {cc : ByteArray} {ret : Option FieldType} {sp : Spec} (inv : List AV → Mm → (Option AV → Mm → Prop) → INV)
    (hy : plainName y.cls = true) (hown : y.cls = own) (hNw : ∀ w ∈ Nws, nwOK w = true) (hT : tbOK own Nws cl sh tyl tb) (hrt : rtOK rt ret)
    (hc : ∀ x vt n sp, tb.2.2.2.2 x = some (vt, n, sp) → CG own cl sh tyl Nws lvl vt x n sp)
    (hx : ∀ key kd n sp, xt key = some (kd, n, sp) → ((kd = 0 ∨ kd = 3) ∧ CX own cl sh tyl Nws lvl key kd n sp) ∨ (¬ (kd = 2 ∨ kd = 5) ∧ CXE own cl sh tyl Nws ex fl lvl mc ms key kd n sp))
    (hsz : ∀ avs M Q, sp avs M Q → szL avs ≤ nL)
    (hin : ∀ avs M Q, okM sh M → (∀ v ∈ avs, okV v) → sp avs M Q → wpx tb xt sh nL rt cc (cutE (inv avs M Q)) (retX Q) (fun _ M' => Q (some an) M') fuel false 0 (entL 0 avs) [] M)
    (hinv : ∀ avs M Q, okM sh M → (∀ v ∈ avs, okV v) → sp avs M Q → ∀ q ∈ inv avs M Q, ∀ n vs M', okM sh M' → (∀ v ∈ q.2.1.zip vs, okV v.2) → q.2.2 n vs M' → wpx tb xt sh nL rt cc (cutN (inv avs M Q) n) (retX Q) (fun _ M' => Q (some an) M') fuel false q.1 (q.2.1.zip vs) [] M') :
    MOKX cl sh tyl Nws ex fl lvl mc ms y cc nL ret sp := by
  intro l D ca ad sz avs M Q hl0 hM hav hsp
  refine vy_ofW (cc := cc) (maxL := nL) (ret := ret) hy rfl ?_
  intro p e s m args below meth c s₁ B hml hnot hv
  obtain ⟨rfl, ⟨hs, hP, hK, hD0, hN⟩, hev⟩ := hv
  subst hs
  have hts := atoms_spec (ws := ws_ y cc nL ret) B.pre
  have hts : ∀ w ∈ lw_all, w.before (avs.map (cz ad)).toArray s = true := fun w h => hts w (List.mem_cons_of_mem _ h)
  have hownC : s.vm.findClass own = some m.cls := hown ▸ findClass_of_methodNamed B.named
  have hD := hD0.self (sz := s.heap.size)
  have F : fx p s m (avs.map (cz ad)).toArray c cc D cl ca tyl own Nws := ⟨B.exec, B.bytes, hownC, hts, fun w hw => nw_use (hNw w hw) (hN w hw), hK⟩
  have hr : rtOK rt meth.sig.returnType := by rw [B.returns]; exact hrt
  have hA : ∀ q, s.heap.size ≤ q → va_A (wl ca ad sh M) s.heap.size q := fun q h => Or.inr h
  have hcc : ∀ (QQ : State → Prop) (c0 s0 : Nat), c0 ≤ mc → s0 ≤ ms → ∀ x vt n sp, tb.2.2.2.2 x = some (vt, n, sp) → mono sp ∧ cOK p l e (headSpec (ws_ y cc nL ret) (rmX lvl mc ms)).room s m (avs.map (cz ad)).toArray below meth c QQ D cl (va_A (wl ca ad sh M) s.heap.size) ad ca sh nL c0 s0 cc vt x n sp := fun QQ c0 s0 h1 h2 x vt n sp h => ⟨(hc x vt n sp h).1, (hc x vt n sp h).2 _ _ _ _ _ _ _ _ _ _ _ _ _ _ _ _ _ _ _ F hml hA (Nat.le_refl _) (Nat.le_refl _) ⟨h1, h2⟩⟩
  let QQ : State → Prop := vy_MQ below (vq D cl tyl ad ca sh (va_A (wl ca ad sh M) s.heap.size) (retX Q)) (xcX D cl tyl ad ca sh fl (va_A (wl ca ad sh M) s.heap.size) Q) (avs.map (cz ad)).toArray s mc ms (va_A (wl ca ad sh M) s.heap.size)
  let TT : Nat → Mm → Prop := fun _ M' => ∀ pc, thW p l e (headSpec (ws_ y cc nL ret) (rmX lvl mc ms)).room s m (avs.map (cz ad)).toArray below meth c QQ D cl (va_A (wl ca ad sh M) s.heap.size) ad ca sh fl nL mc ms pc M'
  have hth : ∀ pc M', (fun (_ : Nat) (M' : Mm) => Q (some an) M') pc M' → TT pc M' := by
    intro _ M' hq pc ls H locs rest q ce h1 h2 h3 h4 h5 h6 h7 h8 h9
    refine vy_out (fun x hx => (hnot x hx).elim) B.notSynchronized h6 h7 h8 (fun t ht hvm => ?_) h4.2.2 (Nat.le_refl _) (Nat.le_refl _)
    exact ⟨⟨M', rfl, hq, h5, by rw [ht]; exact h2, va_K.moved hvm hK, h3, by rw [ht]; exact h9⟩, h4.F ht⟩
  have hxx : ∀ key kd n sp, xt key = some (kd, n, sp) → mono sp ∧ xOK p l e (headSpec (ws_ y cc nL ret) (rmX lvl mc ms)).room s m (avs.map (cz ad)).toArray below meth c QQ D cl (va_A (wl ca ad sh M) s.heap.size) ad ca sh nL 0 0 0 0 cc TT key kd n sp := by
    intro key kd n sp h
    rcases hx key kd n sp h with ⟨-, h1⟩ | ⟨hkd, h1⟩
    · exact ⟨h1.1, h1.2 _ _ _ _ _ _ _ _ _ _ _ _ _ _ _ _ _ _ _ _ _ _ F hml hA (Nat.le_refl _) (Nat.le_refl _) ⟨Nat.zero_le _, Nat.zero_le _⟩⟩
    · exact ⟨h1.1, h1.2 _ _ _ _ _ _ _ _ _ _ _ _ _ _ _ _ _ _ _ mc ms _ _ _ hl0 F hml hA (Nat.le_refl _) (Nat.le_refl _) ⟨⟨by omega, Nat.le_refl _⟩, by omega, Nat.le_refl _⟩ hev B.notSynchronized (fun z => absurd z hkd) (fun pc M h => h pc) (fun _ pc M h => h (pc + 3))⟩
  have hx1 : ∀ key kd n sp, xt key = some (kd, n, sp) → kd = 0 ∨ kd = 3 → xOK p l e (headSpec (ws_ y cc nL ret) (rmX lvl mc ms)).room s m (avs.map (cz ad)).toArray below meth c QQ D cl (va_A (wl ca ad sh M) s.heap.size) ad ca sh nL 0 0 0 0 cc TT key kd n sp := by
    intro key kd n sp h _
    exact (hxx key kd n sp h).2
  have k := floydx_in (l := l) (e := e) (R := (headSpec (ws_ y cc nL ret) (rmX lvl mc ms)).room) (below := below) (nL := nL) (ad := ad) (c0 := 0) (s0 := 0) (c1 := 0) (s1 := 0) (Q := QQ) (THX := TT) (thx := (fun (_ : Nat) (M' : Mm) => Q (some an) M')) (ret := retX Q) (fun H locs g h T hT X => by
      obtain ⟨t, a1, b1⟩ := h T hT X
      exact ⟨t, a1, MQ_Y b1⟩) (fun H locs g h T hT X => by
      obtain ⟨t, a1, b1⟩ := h T hT X
      exact ⟨t, a1, MQ_Y b1⟩) F hT hr B.notSynchronized hth (hcc _ 0 0 (Nat.zero_le _) (Nat.zero_le _)) (hcc _ 0 0 (Nat.zero_le _) (Nat.zero_le _)) hxx hx1 (hinv avs M Q hM hav hsp) (hin avs M Q hM hav hsp)
  have hl := lv_entry (avs.map (cz ad)) (n := nL) (by rw [szL_sl]; exact hsz avs M Q hsp)
  rw [entL_args] at hl
  rw [lg_entry_eq]
  exact k _ s.heap [] ⟨hl, hP, hD, va_S.rf, hM, entL_ok hav 0, fun v hv => by cases hv⟩
set_option maxHeartbeats 4000000 in
/-- a method that may make cells, by the greater machine -/
theorem mokA_of {tb : TB} {xt : XT} {lvl mc ms nL rt fuel : Nat} {y : MethodName} {cc : ByteArray} {ret : Option FieldType} {sp : Spec} (inv : List AV → Mm → (Option AV → Mm → Prop) → INV)
    (hy : plainName y.cls = true) (hown : y.cls = own) (hNw : ∀ w ∈ Nws, nwOK w = true) (hT : tbOK own Nws cl sh tyl tb) (hrt : rtOK rt ret)
    (hc : ∀ x vt n sp, tb.2.2.2.2 x = some (vt, n, sp) → CG own cl sh tyl Nws lvl vt x n sp)
    (hx : ∀ key kd n sp, xt key = some (kd, n, sp) → ((kd = 0 ∨ kd = 3) ∧ CX own cl sh tyl Nws lvl key kd n sp) ∨ (¬ ((kd = 0 ∨ kd = 3) ∨ kd = 4) ∧ CXE own cl sh tyl Nws ex fl lvl mc ms key kd n sp))
    (hsz : ∀ avs M Q, sp avs M Q → szL avs ≤ nL)
    (hin : ∀ avs M Q, okM sh M → (∀ v ∈ avs, okV v) → sp avs M Q → wpx tb xt sh nL rt cc (cutE (inv avs M Q)) (Q) (fun _ _ => False) fuel false 0 (entL 0 avs) [] M)
    (hinv : ∀ avs M Q, okM sh M → (∀ v ∈ avs, okV v) → sp avs M Q → ∀ q ∈ inv avs M Q, ∀ n vs M', okM sh M' → (∀ v ∈ q.2.1.zip vs, okV v.2) → q.2.2 n vs M' → wpx tb xt sh nL rt cc (cutN (inv avs M Q) n) (Q) (fun _ _ => False) fuel false q.1 (q.2.1.zip vs) [] M') :
    MOKA cl sh tyl Nws ex lvl mc ms y (ws_ y cc nL ret) sp := by
  intro l D ca ad sz avs M Q hl0 hM hav hsp
  refine Met.ofW (cc := cc) (maxL := nL) (ret := ret) hy rfl ?_
  intro p e s m args below meth c s₁ B hml hv
  obtain ⟨rfl, ⟨hs, hP, hK, hD0, hN⟩, hev⟩ := hv
  subst hs
  have hts := atoms_spec (ws := ws_ y cc nL ret) B.pre
  have hts : ∀ w ∈ lw_all, w.before (avs.map (cz ad)).toArray s = true := fun w h => hts w (List.mem_cons_of_mem _ h)
  have hownC : s.vm.findClass own = some m.cls := hown ▸ findClass_of_methodNamed B.named
  have hD := hD0.self (sz := s.heap.size)
  have F : fx p s m (avs.map (cz ad)).toArray c cc D cl ca tyl own Nws := ⟨B.exec, B.bytes, hownC, hts, fun w hw => nw_use (hNw w hw) (hN w hw), hK⟩
  have hr : rtOK rt meth.sig.returnType := by rw [B.returns]; exact hrt
  have hA : ∀ q, s.heap.size ≤ q → va_A (wl ca ad sh M) s.heap.size q := fun q h => Or.inr h
  have hcc : ∀ (QQ : State → Prop) (c0 s0 : Nat), c0 ≤ mc → s0 ≤ ms → ∀ x vt n sp, tb.2.2.2.2 x = some (vt, n, sp) → mono sp ∧ cOK p l e (headSpec (ws_ y cc nL ret) (rmX lvl mc ms)).room s m (avs.map (cz ad)).toArray below meth c QQ D cl (va_A (wl ca ad sh M) s.heap.size) ad ca sh nL c0 s0 cc vt x n sp := fun QQ c0 s0 h1 h2 x vt n sp h => ⟨(hc x vt n sp h).1, (hc x vt n sp h).2 _ _ _ _ _ _ _ _ _ _ _ _ _ _ _ _ _ _ _ F hml hA (Nat.le_refl _) (Nat.le_refl _) ⟨h1, h2⟩⟩
  let QQ : State → Prop := MQ below (vq D cl tyl ad ca sh (va_A (wl ca ad sh M) s.heap.size) Q) (avs.map (cz ad)).toArray s mc ms (va_A (wl ca ad sh M) s.heap.size)
  let TT : Nat → Mm → Prop := thW p l e (headSpec (ws_ y cc nL ret) (rmX lvl mc ms)).room s m (avs.map (cz ad)).toArray below meth c QQ D cl (va_A (wl ca ad sh M) s.heap.size) ad ca sh fl nL mc ms
  have hth : ∀ pc M', (fun (_ : Nat) (_ : Mm) => False) pc M' → TT pc M' := by
    intro pc M' hq; exact hq.elim
  have hxx : ∀ key kd n sp, xt key = some (kd, n, sp) → mono sp ∧ xOK p l e (headSpec (ws_ y cc nL ret) (rmX lvl mc ms)).room s m (avs.map (cz ad)).toArray below meth c QQ D cl (va_A (wl ca ad sh M) s.heap.size) ad ca sh nL 0 0 mc ms cc TT key kd n sp := by
    intro key kd n sp h
    rcases hx key kd n sp h with ⟨-, h1⟩ | ⟨hkd, h1⟩
    · exact ⟨h1.1, h1.2 _ _ _ _ _ _ _ _ _ _ _ _ _ _ _ _ _ _ _ _ _ _ F hml hA (Nat.le_refl _) (Nat.le_refl _) ⟨Nat.zero_le _, Nat.zero_le _⟩⟩
    · exact ⟨h1.1, h1.2 _ _ _ _ _ _ _ _ _ _ _ _ _ _ _ _ _ _ _ mc ms _ _ _ hl0 F hml hA (Nat.le_refl _) (Nat.le_refl _) ⟨⟨by omega, Nat.le_refl _⟩, by omega, Nat.le_refl _⟩ hev B.notSynchronized (fun _ => ⟨rfl, rfl⟩) (fun pc M h => h) (fun z => absurd z (fun z => hkd (Or.inr z)))⟩
  have hx1 : ∀ key kd n sp, xt key = some (kd, n, sp) → kd = 0 ∨ kd = 3 → xOK p l e (headSpec (ws_ y cc nL ret) (rmX lvl mc ms)).room s m (avs.map (cz ad)).toArray below meth c QQ D cl (va_A (wl ca ad sh M) s.heap.size) ad ca sh nL mc ms mc ms cc TT key kd n sp := by
    intro key kd n sp h hk
    rcases hx key kd n sp h with ⟨-, h1⟩ | ⟨hkd, h1⟩
    · exact h1.2 _ _ _ _ _ _ _ _ _ _ _ _ _ _ _ _ _ _ _ _ _ _ F hml hA (Nat.le_refl _) (Nat.le_refl _) ⟨Nat.le_refl _, Nat.le_refl _⟩
    · exact absurd (Or.inl hk) hkd
  have k := floydx_in (l := l) (e := e) (R := (headSpec (ws_ y cc nL ret) (rmX lvl mc ms)).room) (below := below) (nL := nL) (ad := ad) (c0 := 0) (s0 := 0) (c1 := mc) (s1 := ms) (Q := QQ) (THX := TT) (thx := (fun (_ : Nat) (_ : Mm) => False)) (ret := Q) (fun H locs g h T hT X => by
      obtain ⟨t, a1, b1⟩ := h T hT X
      exact ⟨t, a1, MQ_w (Nat.zero_le _) (Nat.zero_le _) b1⟩) (fun H locs g h => h) F hT hr B.notSynchronized hth (hcc _ 0 0 (Nat.zero_le _) (Nat.zero_le _)) (hcc _ mc ms (Nat.le_refl _) (Nat.le_refl _)) hxx hx1 (hinv avs M Q hM hav hsp) (hin avs M Q hM hav hsp)
  have hl := lv_entry (avs.map (cz ad)) (n := nL) (by rw [szL_sl]; exact hsz avs M Q hsp)
  rw [entL_args] at hl
  rw [lg_entry_eq]
  exact k _ s.heap [] ⟨hl, hP, hD, va_S.rf, hM, entL_ok hav 0, fun v hv => by cases hv⟩
set_option maxHeartbeats 4000000 in
/-- a method with handlers that takes all that is thrown -/
theorem mokAH_of {tb : TB} {xt : XT} {lvl mc ms nL rt fuel : Nat} {y : MethodName} {cc : ByteArray} {ret : Option FieldType} {hh : List (Nat × Nat × Nat × Nat)} {thx : (Option AV → Mm → Prop) → Nat → Mm → Prop} {sp : Spec} (inv : List AV → Mm → (Option AV → Mm → Prop) → INV)
    (hy : plainName y.cls = true) (hown : y.cls = own) (hNw : ∀ w ∈ Nws, nwOK w = true) (hT : tbOK own Nws cl sh tyl tb) (hrt : rtOK rt ret)
    (hc : ∀ x vt n sp, tb.2.2.2.2 x = some (vt, n, sp) → CG own cl sh tyl Nws lvl vt x n sp)
    (hx : ∀ key kd n sp, xt key = some (kd, n, sp) → ((kd = 0 ∨ kd = 3) ∧ CX own cl sh tyl Nws lvl key kd n sp) ∨ (¬ ((kd = 0 ∨ kd = 3) ∨ kd = 4) ∧ CXE own cl sh tyl Nws ex fl lvl mc ms key kd n sp))
    (hsz : ∀ avs M Q, sp avs M Q → szL avs ≤ nL)
    (hH : ∀ (p : Program) (l : Launch) (e : Env) (R : Room) (s : State) (m : MethodId) (args : Array Value) (below : List Frame) (meth : Method) (c : Code) (QQ : State → Prop) (D : va_G) (A : Nat → Prop) (ad : Nat → Nat) (ca : Nat → ClassId) (Q : Option AV → Mm → Prop), fx p s m args c cc D cl ca tyl own Nws → c.exceptionTable.toList = tableOf hh → rtOK rt meth.sig.returnType → meth.locks = false → (∀ (H : Heap) (locs : List Loc) (g : JFrame), W p l e R s m args below meth c H locs mc ms (MQ below (vq D cl tyl ad ca sh A Q) args s mc ms A) g → W p l e R s m args below meth c H locs mc ms QQ g) → ∀ pc M', thx Q pc M' → thW p l e R s m args below meth c QQ D cl A ad ca sh fl nL mc ms pc M')
    (hin : ∀ avs M Q, okM sh M → (∀ v ∈ avs, okV v) → sp avs M Q → wpx tb xt sh nL rt cc (cutE (inv avs M Q)) (Q) (thx Q) fuel false 0 (entL 0 avs) [] M)
    (hinv : ∀ avs M Q, okM sh M → (∀ v ∈ avs, okV v) → sp avs M Q → ∀ q ∈ inv avs M Q, ∀ n vs M', okM sh M' → (∀ v ∈ q.2.1.zip vs, okV v.2) → q.2.2 n vs M' → wpx tb xt sh nL rt cc (cutN (inv avs M Q) n) (Q) (thx Q) fuel false q.1 (q.2.1.zip vs) [] M') :
    MOKA cl sh tyl Nws ex lvl mc ms y (wsW_ y cc nL ret hh) sp := by
  intro l D ca ad sz avs M Q hl0 hM hav hsp
  refine Met.ofWH (cc := cc) (maxL := nL) (ret := ret) hy rfl ?_
  intro p e s m args below meth c s₁ B hml hv
  obtain ⟨rfl, ⟨hs, hP, hK, hD0, hN⟩, hev⟩ := hv
  subst hs
  have hts0 := atoms_spec (ws := wsW_ y cc nL ret hh) B.pre
  have hts : ∀ w ∈ lw_all, w.before (avs.map (cz ad)).toArray s = true := fun w h => hts0 w (List.mem_cons_of_mem _ h)
  have hownC : s.vm.findClass own = some m.cls := hown ▸ findClass_of_methodNamed B.named
  have hD := hD0.self (sz := s.heap.size)
  have F : fx p s m (avs.map (cz ad)).toArray c cc D cl ca tyl own Nws := ⟨B.exec, B.bytes, hownC, hts, fun w hw => nw_use (hNw w hw) (hN w hw), hK⟩
  have hr : rtOK rt meth.sig.returnType := by rw [B.returns]; exact hrt
  have hA : ∀ q, s.heap.size ≤ q → va_A (wl ca ad sh M) s.heap.size q := fun q h => Or.inr h
  have hcc : ∀ (QQ : State → Prop) (c0 s0 : Nat), c0 ≤ mc → s0 ≤ ms → ∀ x vt n sp, tb.2.2.2.2 x = some (vt, n, sp) → mono sp ∧ cOK p l e (headSpec (wsW_ y cc nL ret hh) (rmX lvl mc ms)).room s m (avs.map (cz ad)).toArray below meth c QQ D cl (va_A (wl ca ad sh M) s.heap.size) ad ca sh nL c0 s0 cc vt x n sp := fun QQ c0 s0 h1 h2 x vt n sp h => ⟨(hc x vt n sp h).1, (hc x vt n sp h).2 _ _ _ _ _ _ _ _ _ _ _ _ _ _ _ _ _ _ _ F hml hA (Nat.le_refl _) (Nat.le_refl _) ⟨h1, h2⟩⟩
  let QQ : State → Prop := MQ below (vq D cl tyl ad ca sh (va_A (wl ca ad sh M) s.heap.size) Q) (avs.map (cz ad)).toArray s mc ms (va_A (wl ca ad sh M) s.heap.size)
  let TT : Nat → Mm → Prop := thW p l e (headSpec (wsW_ y cc nL ret hh) (rmX lvl mc ms)).room s m (avs.map (cz ad)).toArray below meth c QQ D cl (va_A (wl ca ad sh M) s.heap.size) ad ca sh fl nL mc ms
  have hth : ∀ pc M', (thx Q) pc M' → TT pc M' := by
    exact hH p l e _ s m _ below meth c QQ D _ ad ca Q F (vx_table (x := y) B (hts0 _ List.mem_cons_self)) hr B.notSynchronized (fun H locs g h => h)
  have hxx : ∀ key kd n sp, xt key = some (kd, n, sp) → mono sp ∧ xOK p l e (headSpec (wsW_ y cc nL ret hh) (rmX lvl mc ms)).room s m (avs.map (cz ad)).toArray below meth c QQ D cl (va_A (wl ca ad sh M) s.heap.size) ad ca sh nL 0 0 mc ms cc TT key kd n sp := by
    intro key kd n sp h
    rcases hx key kd n sp h with ⟨-, h1⟩ | ⟨hkd, h1⟩
    · exact ⟨h1.1, h1.2 _ _ _ _ _ _ _ _ _ _ _ _ _ _ _ _ _ _ _ _ _ _ F hml hA (Nat.le_refl _) (Nat.le_refl _) ⟨Nat.zero_le _, Nat.zero_le _⟩⟩
    · exact ⟨h1.1, h1.2 _ _ _ _ _ _ _ _ _ _ _ _ _ _ _ _ _ _ _ mc ms _ _ _ hl0 F hml hA (Nat.le_refl _) (Nat.le_refl _) ⟨⟨by omega, Nat.le_refl _⟩, by omega, Nat.le_refl _⟩ hev B.notSynchronized (fun _ => ⟨rfl, rfl⟩) (fun pc M h => h) (fun z => absurd z (fun z => hkd (Or.inr z)))⟩
  have hx1 : ∀ key kd n sp, xt key = some (kd, n, sp) → kd = 0 ∨ kd = 3 → xOK p l e (headSpec (wsW_ y cc nL ret hh) (rmX lvl mc ms)).room s m (avs.map (cz ad)).toArray below meth c QQ D cl (va_A (wl ca ad sh M) s.heap.size) ad ca sh nL mc ms mc ms cc TT key kd n sp := by
    intro key kd n sp h hk
    rcases hx key kd n sp h with ⟨-, h1⟩ | ⟨hkd, h1⟩
    · exact h1.2 _ _ _ _ _ _ _ _ _ _ _ _ _ _ _ _ _ _ _ _ _ _ F hml hA (Nat.le_refl _) (Nat.le_refl _) ⟨Nat.le_refl _, Nat.le_refl _⟩
    · exact absurd (Or.inl hk) hkd
  have k := floydx_in (l := l) (e := e) (R := (headSpec (wsW_ y cc nL ret hh) (rmX lvl mc ms)).room) (below := below) (nL := nL) (ad := ad) (c0 := 0) (s0 := 0) (c1 := mc) (s1 := ms) (Q := QQ) (THX := TT) (thx := (thx Q)) (ret := Q) (fun H locs g h T hT X => by
      obtain ⟨t, a1, b1⟩ := h T hT X
      exact ⟨t, a1, MQ_w (Nat.zero_le _) (Nat.zero_le _) b1⟩) (fun H locs g h => h) F hT hr B.notSynchronized hth (hcc _ 0 0 (Nat.zero_le _) (Nat.zero_le _)) (hcc _ mc ms (Nat.le_refl _) (Nat.le_refl _)) hxx hx1 (hinv avs M Q hM hav hsp) (hin avs M Q hM hav hsp)
  have hl := lv_entry (avs.map (cz ad)) (n := nL) (by rw [szL_sl]; exact hsz avs M Q hsp)
  rw [entL_args] at hl
  rw [lg_entry_eq]
  exact k _ s.heap [] ⟨hl, hP, hD, va_S.rf, hM, entL_ok hav 0, fun v hv => by cases hv⟩
/-- a handler that answers a number -/
theorem hd_n {p : Program} {l : Launch} {e : Env} {R : Room} {s : State} {m : MethodId} {args : Array Value} {below : List Frame} {meth : Method} {c : Code} {Q : State → Prop} {cc : ByteArray} {D : va_G} {A : Nat → Prop} {ad : Nat → Nat} {ca : Nat → ClassId} {nL c1 s1 : Nat} {ret : Option AV → Mm → Prop} (F : fx p s m args c cc D cl ca tyl own Nws) (hR : ∀ (H : Heap) (locs : List Loc) (g : JFrame), W p l e R s m args below meth c H locs c1 s1 (MQ below (vq D cl tyl ad ca sh A ret) args s c1 s1 A) g → W p l e R s m args below meth c H locs c1 s1 Q g) (hrt : rtOK 1 meth.sig.returnType) (hlocks : meth.locks = false)
    {hp : Nat} {v : Int} (d1 : (∃ k : Fin 4, k.val < nL ∧ decode cc hp = .ok (.astore_n k, 1) ∧ decode cc (hp + 1) = .ok (.bipush v, 2) ∧ decode cc (hp + 3) = .ok (.ireturn, 1)) ∨ (∃ k : Nat, k < nL ∧ decode cc hp = .ok (.astore k, 2) ∧ decode cc (hp + 2) = .ok (.bipush v, 2) ∧ decode cc (hp + 4) = .ok (.ireturn, 1))) (hv : -128 ≤ v ∧ v ≤ 127)
    {M : Mm} (hQ : ret (some (ai v)) M) {ls : Array Slot} {H : Heap} {locs : List Loc} {q : Addr} (hls : lv_has ls nL []) (h2 : va_P D cl (wl ca ad sh M) H) (h3 : va_D A (wl ca ad sh M)) (h4 : va_S A s.heap H locs) (h5 : okM sh M) : W p l e R s m args below meth c H locs c1 s1 Q (F0 m hp ls [.ref q]) := by
  have fin : ∀ (ls' : Array Slot) (pc : Nat), decode cc pc = .ok (.bipush v, 2) → decode cc (pc + 2) = .ok (.ireturn, 1) → W p l e R s m args below meth c H locs c1 s1 Q (F0 m pc ls' []) := by
    intro ls' pc e1 e2
    refine lv_bipush F.1 F.2.1 e1 (n_8 hv) ?_
    refine hR _ _ _ ?_
    exact W.iret F.1 F.2.1 hrt (fun t ht hW => ⟨⟨some (.inl v), M, rfl, hQ, (fun w hw => by rcases List.mem_singleton.mp hw with rfl; show i32 v; unfold i32; omega), h5, by rw [ht]; exact h2, va_K.moved hW.alike F.2.2.2.2.2, h3⟩, h4.F ht⟩) h4.2.2 e2 hlocks
  rcases d1 with ⟨k, hk, e1, e2, e3⟩ | ⟨k, hk, e1, e2, e3⟩
  · exact lv_astore_n F.1 F.2.1 e1 rfl hls hk rfl (fun ls' _ => fin ls' _ e2 e3)
  · exact lv_astore F.1 F.2.1 e1 hls hk rfl (fun ls' _ => fin ls' _ e2 e3)
theorem csY_all {lvl mc ms : Nat} : ∀ {l : List (Nat × Nat × Nat × Spec)}, (∀ q ∈ l, ((q.2.1 = 0 ∨ q.2.1 = 3) ∧ CX own cl sh tyl Nws lvl q.1 q.2.1 q.2.2.1 q.2.2.2) ∨ (¬ (q.2.1 = 2 ∨ q.2.1 = 5) ∧ CXE own cl sh tyl Nws ex fl lvl mc ms q.1 q.2.1 q.2.2.1 q.2.2.2)) → ∀ key kd n sp, csL l key = some (kd, n, sp) → ((kd = 0 ∨ kd = 3) ∧ CX own cl sh tyl Nws lvl key kd n sp) ∨ (¬ (kd = 2 ∨ kd = 5) ∧ CXE own cl sh tyl Nws ex fl lvl mc ms key kd n sp) := by
  intro l
  induction l with
  | nil => intro _ x vt n sp h; cases h
  | cons q t ih =>
    obtain ⟨k, r⟩ := q
    intro hl x vt n sp h
    rw [csL_s] at h
    by_cases hk : x = k
    · rw [if_pos hk] at h
      cases h
      subst hk
      exact hl _ List.mem_cons_self
    · rw [if_neg hk] at h
      exact ih (fun q hq => hl q (List.mem_cons_of_mem _ hq)) x vt n sp h
theorem csA_all {lvl mc ms : Nat} : ∀ {l : List (Nat × Nat × Nat × Spec)}, (∀ q ∈ l, ((q.2.1 = 0 ∨ q.2.1 = 3) ∧ CX own cl sh tyl Nws lvl q.1 q.2.1 q.2.2.1 q.2.2.2) ∨ (¬ ((q.2.1 = 0 ∨ q.2.1 = 3) ∨ q.2.1 = 4) ∧ CXE own cl sh tyl Nws ex fl lvl mc ms q.1 q.2.1 q.2.2.1 q.2.2.2)) → ∀ key kd n sp, csL l key = some (kd, n, sp) → ((kd = 0 ∨ kd = 3) ∧ CX own cl sh tyl Nws lvl key kd n sp) ∨ (¬ ((kd = 0 ∨ kd = 3) ∨ kd = 4) ∧ CXE own cl sh tyl Nws ex fl lvl mc ms key kd n sp) := by
  intro l
  induction l with
  | nil => intro _ x vt n sp h; cases h
  | cons q t ih =>
    obtain ⟨k, r⟩ := q
    intro hl x vt n sp h
    rw [csL_s] at h
    by_cases hk : x = k
    · rw [if_pos hk] at h
      cases h
      subst hk
      exact hl _ List.mem_cons_self
    · rw [if_neg hk] at h
      exact ih (fun q hq => hl q (List.mem_cons_of_mem _ hq)) x vt n sp h
theorem cxe_or {lvl nc ns key kd n : Nat} {sp sp1 sp2 : Spec} (hm : mono sp) (h1 : CXE own cl sh tyl Nws ex fl lvl nc ns key kd n sp1) (h2 : CXE own cl sh tyl Nws ex fl lvl nc ns key kd n sp2) (hw : ∀ avs M Q, sp avs M Q → sp1 avs M Q ∨ sp2 avs M Q) : CXE own cl sh tyl Nws ex fl lvl nc ns key kd n sp := by
  refine ⟨hm, ?_⟩
  intro p l e R s m args below meth c Q cc D A ad ca nL c0 s0 c1 s1 c9 s9 THX a1 a2 a3 a4 a5 a6 a7 a8 a9 b1 b7 b8 pc len i lv st M b2 b3 b4 b5 b6 hsp
  rcases hw _ _ _ hsp with h | h
  · exact h1.2 p l e R s m args below meth c Q cc D A ad ca nL c0 s0 c1 s1 c9 s9 THX a1 a2 a3 a4 a5 a6 a7 a8 a9 b1 b7 b8 pc len i lv st M b2 b3 b4 b5 b6 h
  · exact h2.2 p l e R s m args below meth c Q cc D A ad ca nL c0 s0 c1 s1 c9 s9 THX a1 a2 a3 a4 a5 a6 a7 a8 a9 b1 b7 b8 pc len i lv st M b2 b3 b4 b5 b6 h
theorem mokX_w {lvl mc ms nL : Nat} {y : MethodName} {cc : ByteArray} {ret : Option FieldType} {sp sp' : Spec} (h : MOKX cl sh tyl Nws ex fl lvl mc ms y cc nL ret sp) (hw : ∀ avs M Q, sp' avs M Q → sp avs M Q) : MOKX cl sh tyl Nws ex fl lvl mc ms y cc nL ret sp' := fun l D ca ad sz avs M Q h0 h1 h2 h3 => h l D ca ad sz avs M Q h0 h1 h2 (hw _ _ _ h3)
end MACHY
/-- a spec of a method that may throw (answer an: thrown) -/
def spX (vt : Bool) (sg : List Nat) (pre : (Nat → Int) → Mm → Prop) (post : (Nat → Int) → Mm → Option AV → Mm → Prop) : Spec := fun avs M Q => oS (unA vt sg avs) fun x => pre x M ∧ ∀ r M', post x M r M' → Q r M'
theorem spX_mono {vt : Bool} {sg : List Nat} {pre : (Nat → Int) → Mm → Prop} {post : (Nat → Int) → Mm → Option AV → Mm → Prop} : mono (spX vt sg pre post) := fun _ _ _ _ h h1 => oS_mono (fun _ h2 => ⟨h2.1, fun r M' h3 => h _ _ (h2.2 r M' h3)⟩) h1
theorem spX_un {vt : Bool} {sg : List Nat} {pre : (Nat → Int) → Mm → Prop} {post : (Nat → Int) → Mm → Option AV → Mm → Prop} : ∀ avs M Q, spX vt sg pre post avs M Q → ∃ xs, unA vt sg avs = some xs := by
  intro avs M Q h
  unfold spX at h
  cases hu : unA vt sg avs with
  | none => rw [hu] at h; exact h.elim
  | some xs => exact ⟨xs, rfl⟩
def fl0 : FLP := fun _ _ _ _ => True
