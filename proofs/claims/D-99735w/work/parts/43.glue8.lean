/-! Calls of the component: a receiver at any place, overriding methods, super, private ones of a nest mate; two specs as one -/
theorem lw_U {own : String} {idx : Nat} {C owner : String} {x y : MethodName} {b : ByteArray} {L : Nat} {r : Option FieldType} (h1 : Cond.methodLink own idx x ∈ lw_all) (h2 : Cond.sameMethod x.cls owner x.name x.desc ∈ lw_all) (h0 : Cond.instanceMethod ⟨owner, x.name, x.desc⟩ ∈ lw_all) (h3 : Cond.selects C x y ∈ lw_all) (h6 : Cond.instanceMethod y ∈ lw_all) (h4 : Cond.initialized y.cls ∈ lw_all) (h5 : Cond.code y b L r ∈ lw_all) : GoodIn lw_all (va_wsO own idx C owner x y (ws_ y b L r)) := by
  refine lw_app ?_ (lw_meth h5)
  intro w hw
  simp only [List.mem_cons, List.not_mem_nil, or_false] at hw
  rcases hw with e | e | e | e | e | e
  · rw [e]; exact h1
  · rw [e]; exact h2
  · rw [e]; exact h0
  · rw [e]; exact h3
  · rw [e]; exact h6
  · rw [e]; exact h4
theorem lw_SU {own : String} {idx : Nat} {y : MethodName} {b : ByteArray} {L : Nat} {r : Option FieldType} (h1 : Cond.methodLink own idx y ∈ lw_all) (h2 : Cond.sameMethod y.cls y.cls y.name y.desc ∈ lw_all) (h3 : Cond.superclass own y.cls ∈ lw_all) (h6 : Cond.instanceMethod y ∈ lw_all) (h4 : Cond.initialized y.cls ∈ lw_all) (h5 : Cond.code y b L r ∈ lw_all) : GoodIn lw_all (va_wsSU own idx y (ws_ y b L r)) := by
  refine lw_app ?_ (lw_meth h5)
  intro w hw
  simp only [List.mem_cons, List.not_mem_nil, or_false] at hw
  rcases hw with e | e | e | e | e
  · rw [e]; exact h1
  · rw [e]; exact h2
  · rw [e]; exact h3
  · rw [e]; exact h6
  · rw [e]; exact h4
/-- the first value is the cell k; n behind it -/
def rcv (k n : Nat) (avs : List AV) : Prop := ∃ rs, avs = ar k :: rs ∧ rs.length = n
section CALLS8
variable {cl : List vw_C} {sh : List SC} {tyl : List (Nat × FieldType)} {own : String} {Nws : List Cond}
theorem mok_w {lvl nL : Nat} {y : MethodName} {cc : ByteArray} {ret : Option FieldType} {sp sp' : Spec} (h : MOK cl sh tyl Nws lvl y cc nL ret sp) (hw : ∀ avs M Q, sp' avs M Q → sp avs M Q) : MOK cl sh tyl Nws lvl y cc nL ret sp' := fun l D ca ad sz avs M Q h1 h2 h3 => h l D ca ad sz avs M Q h1 h2 (hw _ _ _ h3)
theorem mok_or {lvl nL : Nat} {y : MethodName} {cc : ByteArray} {ret : Option FieldType} {sp sp1 sp2 : Spec} (h1 : MOK cl sh tyl Nws lvl y cc nL ret sp1) (h2 : MOK cl sh tyl Nws lvl y cc nL ret sp2) (hw : ∀ avs M Q, sp avs M Q → sp1 avs M Q ∨ sp2 avs M Q) : MOK cl sh tyl Nws lvl y cc nL ret sp := fun l D ca ad sz avs M Q k1 k2 k3 => (hw _ _ _ k3).elim (h1 l D ca ad sz avs M Q k1 k2) (h2 l D ca ad sz avs M Q k1 k2)
theorem cg_w {lvl vt x n : Nat} {sp sp' : Spec} (hm : mono sp') (h : CG own cl sh tyl Nws lvl vt x n sp) (hw : ∀ avs M Q, sp' avs M Q → sp avs M Q) : CG own cl sh tyl Nws lvl vt x n sp' := by
  refine ⟨hm, ?_⟩
  intro p l e R s m args below meth c Q cc D A ad ca nL c0 s0 F hml hA hfr hlo hcs pc lv st M hdg hle hspec
  exact h.2 p l e R s m args below meth c Q cc D A ad ca nL c0 s0 F hml hA hfr hlo hcs pc lv st M hdg hle (hw _ _ _ hspec)
theorem cg_or {lvl vt x n : Nat} {sp sp1 sp2 : Spec} (hm : mono sp) (h1 : CG own cl sh tyl Nws lvl vt x n sp1) (h2 : CG own cl sh tyl Nws lvl vt x n sp2) (hw : ∀ avs M Q, sp avs M Q → sp1 avs M Q ∨ sp2 avs M Q) : CG own cl sh tyl Nws lvl vt x n sp := by
  refine ⟨hm, ?_⟩
  intro p l e R s m args below meth c Q cc D A ad ca nL c0 s0 F hml hA hfr hlo hcs pc lv st M hdg hle hspec
  rcases hw _ _ _ hspec with h | h
  · exact h1.2 p l e R s m args below meth c Q cc D A ad ca nL c0 s0 F hml hA hfr hlo hcs pc lv st M hdg hle h
  · exact h2.2 p l e R s m args below meth c Q cc D A ad ca nL c0 s0 F hml hA hfr hlo hcs pc lv st M hdg hle h
/-- a call through an object at place k, of a method of its own class -/
theorem cg_VR {n' : Nat} {sp : Spec} {lvl lvl' x maxL n k : Nat} {y : MethodName} {bytes : ByteArray} {ret : Option FieldType} {ci : Nat} {fks : List Nat} {q : vw_C} (hNw : ∀ w ∈ Nws, nwOK w = true) (hm : mono sp) (hsp : ∀ avs M Q, sp avs M Q → rcv k n' avs) (hM : MOK cl sh tyl Nws lvl' y bytes maxL ret sp) (hl : lvl' < lvl) (hn : n = n' + 1) (hmx : maxL ≤ 45)
    (hs0 : sh[k]? = some (.inl (ci, fks))) (hc0 : cl[ci]? = some q) (hd : y.cls = q.1 ∧ y.cls ≠ "java/lang/invoke/MethodHandle" ∧ y.cls ≠ "java/lang/invoke/VarHandle" ∧ (parseMethodDescriptor y.desc).map (fun d => d.parameters.length) = some n')
    (h1 : Cond.methodLink own x y ∈ lw_all) (h2 : Cond.instanceMethod y ∈ lw_all) (h3 : Cond.selects q.1 y y ∈ lw_all) (h4 : Cond.initialized q.1 ∈ lw_all) (h5 : Cond.code y bytes maxL ret ∈ lw_all) : CG own cl sh tyl Nws lvl 1 x n sp := by
  refine ⟨hm, ?_⟩
  intro p l e R s m args below meth c Q cc D A ad ca nL c0 s0 F hml hA hfr hlo hcs pc lv st M hdg hle hspec ls H locs hr
  obtain ⟨rs, e1, hlen⟩ := hsp _ _ _ hspec
  have est := take_rev e1
  have hv := hr.2.2.2.2.2.2
  have hvt : ∀ v ∈ st.take n, okV v := fun v h => hv v (List.mem_of_mem_take h)
  have hvd : ∀ v ∈ st.drop n, okV v := fun v h => hv v (List.mem_of_mem_drop h)
  have hav : ∀ v ∈ (st.take n).reverse, okV v := fun v h => hvt v (List.mem_reverse.mp h)
  have hM0 := hM l D ca ad H.size (st.take n).reverse M _ hr.2.2.2.2.1 hav hspec
  have hrel := rel_st hr hvd
  have ew := wl_get (ca := ca) (ad := ad) (M := M) hs0
  have hrecv := va_recv F.2.2.2.2.2 hr.2.1 (ci := ci) (q0 := k) hc0 ew
  rw [e1] at hM0
  have hst : st.map (cz ad) = (rs.map (cz ad)).reverse ++ .ref (ad k) :: (st.drop n).map (cz ad) := by
    conv => lhs; rw [est]
    simp [cz]
  refine run_snW (tyl := tyl) (rest := st.drop n) (Q' := _) (a := (Value.ref (ad k) :: rs.map (cz ad)).toArray) ?_ hA hrel (fun r M' h => h)
  exact va_runV (As := rs.map (cz ad)) (rest := (st.drop n).map (cz ad)) ⟨F.1, F.2.1, hml, F.2.2.1, F.2.2.2.1⟩ hM0 (cwV n' F.2.2.2.1 (lw_V h1 h2 h3 h4 h5) rfl rfl rfl hd ⟨by show lvl' + 1 ≤ R.frames; omega, by show 8 + (maxL + 11) + 64 * lvl' ≤ R.locals; omega⟩)
    ⟨PB_blind hNw, hrecv, fun U hU hW => ⟨rfl, PB_of hNw F hr U hU hW⟩⟩ rfl (by rw [List.length_map]; exact hlen) hr.1.1 hst (lv_room (room4 hle)) hdg hcs
/-- a call of a private method of a nest mate, through an object at place k -/
theorem cg_VN {n' : Nat} {sp : Spec} {lvl lvl' x maxL n k : Nat} {y : MethodName} {host : String} {bytes : ByteArray} {ret : Option FieldType} {ci : Nat} {fks : List Nat} {q : vw_C} (hNw : ∀ w ∈ Nws, nwOK w = true) (hm : mono sp) (hsp : ∀ avs M Q, sp avs M Q → rcv k n' avs) (hM : MOK cl sh tyl Nws lvl' y bytes maxL ret sp) (hl : lvl' < lvl) (hn : n = n' + 1) (hmx : maxL ≤ 45)
    (hs0 : sh[k]? = some (.inl (ci, fks))) (hc0 : cl[ci]? = some q) (hd : y.cls = q.1 ∧ y.cls ≠ "java/lang/invoke/MethodHandle" ∧ y.cls ≠ "java/lang/invoke/VarHandle" ∧ (parseMethodDescriptor y.desc).map (fun d => d.parameters.length) = some n')
    (h1 : Cond.methodLinkNest own x y host ∈ Nws) (h2 : Cond.instanceMethod y ∈ lw_all) (h3 : Cond.selects q.1 y y ∈ lw_all) (h4 : Cond.initialized y.cls ∈ lw_all) (h5 : Cond.code y bytes maxL ret ∈ lw_all) : CG own cl sh tyl Nws lvl 1 x n sp := by
  refine ⟨hm, ?_⟩
  intro p l e R s m args below meth c Q cc D A ad ca nL c0 s0 F hml hA hfr hlo hcs pc lv st M hdg hle hspec ls H locs hr
  obtain ⟨rs, e1, hlen⟩ := hsp _ _ _ hspec
  have est := take_rev e1
  have hv := hr.2.2.2.2.2.2
  have hvt : ∀ v ∈ st.take n, okV v := fun v h => hv v (List.mem_of_mem_take h)
  have hvd : ∀ v ∈ st.drop n, okV v := fun v h => hv v (List.mem_of_mem_drop h)
  have hav : ∀ v ∈ (st.take n).reverse, okV v := fun v h => hvt v (List.mem_reverse.mp h)
  have hM0 := hM l D ca ad H.size (st.take n).reverse M _ hr.2.2.2.2.1 hav hspec
  have hrel := rel_st hr hvd
  have ew := wl_get (ca := ca) (ad := ad) (M := M) hs0
  have hrecv := va_recv F.2.2.2.2.2 hr.2.1 (ci := ci) (q0 := k) hc0 ew
  rw [e1] at hM0
  have hst : st.map (cz ad) = (rs.map (cz ad)).reverse ++ .ref (ad k) :: (st.drop n).map (cz ad) := by
    conv => lhs; rw [est]
    simp [cz]
  have hN1 := F.2.2.2.2.1 _ h1
  have hi := F.2.2.2.1 _ h4
  have h2' := F.2.2.2.1 _ h2
  have h3' := F.2.2.2.1 _ h3
  refine run_snW (tyl := tyl) (rest := st.drop n) (Q' := _) (a := (Value.ref (ad k) :: rs.map (cz ad)).toArray) ?_ hA hrel (fun r M' h => h)
  exact va_runVN (As := rs.map (cz ad)) (rest := (st.drop n).map (cz ad)) ⟨F.1, F.2.1, hml, F.2.2.1, F.2.2.2.1⟩ hM0 ⟨va_cnB n' F.2.2.2.1 (lw_meth h5) rfl rfl rfl (nw_of (hNw _ h1) hN1) hi ⟨hd.2.1, hd.2.2.1, hd.2.2.2⟩ ⟨by show lvl' + 1 ≤ R.frames; omega, by show 8 + (maxL + 11) + 64 * lvl' ≤ R.locals; omega⟩, h2', h3'⟩
    ⟨PB_blind hNw, hrecv, fun U hU hW => ⟨rfl, PB_of hNw F hr U hU hW⟩⟩ rfl (by rw [List.length_map]; exact hlen) hr.1.1 hst (lv_room (room4 hle)) hdg hcs
/-- a call through an object at place k whose class overrides the method -/
theorem cg_VU {n' : Nat} {sp : Spec} {lvl lvl' x maxL n k : Nat} {xx y : MethodName} {owner : String} {b0 : ByteArray} {m0 : Nat} {r0 : Option FieldType} {bytes : ByteArray} {ret : Option FieldType} {ci : Nat} {fks : List Nat} {q : vw_C} (hNw : ∀ w ∈ Nws, nwOK w = true) (hm : mono sp) (hsp : ∀ avs M Q, sp avs M Q → rcv k n' avs) (hM : MOK cl sh tyl Nws lvl' y bytes maxL ret sp) (hl : lvl' < lvl) (hn : n = n' + 1) (hmx : maxL ≤ 45)
    (hs0 : sh[k]? = some (.inl (ci, fks))) (hc0 : cl[ci]? = some q) (hd : owner ≠ "java/lang/invoke/MethodHandle" ∧ owner ≠ "java/lang/invoke/VarHandle" ∧ (parseMethodDescriptor xx.desc).map (fun d => d.parameters.length) = some n')
    (h1 : Cond.methodLink own x xx ∈ lw_all) (h2 : Cond.sameMethod xx.cls owner xx.name xx.desc ∈ lw_all) (h0 : Cond.instanceMethod ⟨owner, xx.name, xx.desc⟩ ∈ lw_all) (h3 : Cond.selects q.1 xx y ∈ lw_all) (h6 : Cond.instanceMethod y ∈ lw_all) (h4 : Cond.initialized y.cls ∈ lw_all) (h5 : Cond.code y bytes maxL ret ∈ lw_all) (h7 : Cond.code ⟨owner, xx.name, xx.desc⟩ b0 m0 r0 ∈ lw_all) : CG own cl sh tyl Nws lvl 1 x n sp := by
  refine ⟨hm, ?_⟩
  intro p l e R s m args below meth c Q cc D A ad ca nL c0 s0 F hml hA hfr hlo hcs pc lv st M hdg hle hspec ls H locs hr
  obtain ⟨rs, e1, hlen⟩ := hsp _ _ _ hspec
  have est := take_rev e1
  have hv := hr.2.2.2.2.2.2
  have hvt : ∀ v ∈ st.take n, okV v := fun v h => hv v (List.mem_of_mem_take h)
  have hvd : ∀ v ∈ st.drop n, okV v := fun v h => hv v (List.mem_of_mem_drop h)
  have hav : ∀ v ∈ (st.take n).reverse, okV v := fun v h => hvt v (List.mem_reverse.mp h)
  have hM0 := hM l D ca ad H.size (st.take n).reverse M _ hr.2.2.2.2.1 hav hspec
  have hrel := rel_st hr hvd
  have ew := wl_get (ca := ca) (ad := ad) (M := M) hs0
  have hrecv := va_recv F.2.2.2.2.2 hr.2.1 (ci := ci) (q0 := k) hc0 ew
  rw [e1] at hM0
  have hst : st.map (cz ad) = (rs.map (cz ad)).reverse ++ .ref (ad k) :: (st.drop n).map (cz ad) := by
    conv => lhs; rw [est]
    simp [cz]
  refine run_snW (tyl := tyl) (rest := st.drop n) (Q' := _) (a := (Value.ref (ad k) :: rs.map (cz ad)).toArray) ?_ hA hrel (fun r M' h => h)
  exact va_runU (As := rs.map (cz ad)) (rest := (st.drop n).map (cz ad)) ⟨F.1, F.2.1, hml, F.2.2.1, F.2.2.2.1⟩ hM0 (va_cwO n' F.2.2.2.1 (lw_U h1 h2 h0 h3 h6 h4 h5) rfl rfl rfl h7 hd ⟨by show lvl' + 1 ≤ R.frames; omega, by show 8 + (maxL + 11) + 64 * lvl' ≤ R.locals; omega⟩)
    ⟨PB_blind hNw, hrecv, fun U hU hW => ⟨rfl, PB_of hNw F hr U hU hW⟩⟩ rfl (by rw [List.length_map]; exact hlen) hr.1.1 hst (lv_room (room4 hle)) hdg hcs
/-- a call of the class above, through an object at place k -/
theorem cg_SU {n' : Nat} {sp : Spec} {lvl lvl' x maxL n k : Nat} {y : MethodName} {bytes : ByteArray} {ret : Option FieldType} {ci : Nat} {fks : List Nat} {q : vw_C} (hNw : ∀ w ∈ Nws, nwOK w = true) (hm : mono sp) (hsp : ∀ avs M Q, sp avs M Q → rcv k n' avs) (hM : MOK cl sh tyl Nws lvl' y bytes maxL ret sp) (hl : lvl' < lvl) (hn : n = n' + 1) (hmx : maxL ≤ 45)
    (hs0 : sh[k]? = some (.inl (ci, fks))) (hc0 : cl[ci]? = some q) (hd : y.name ≠ "<init>" ∧ (parseMethodDescriptor y.desc).map (fun d => d.parameters.length) = some n')
    (h1 : Cond.methodLink own x y ∈ lw_all) (h2 : Cond.sameMethod y.cls y.cls y.name y.desc ∈ lw_all) (h3 : Cond.superclass own y.cls ∈ lw_all) (h6 : Cond.instanceMethod y ∈ lw_all) (h4 : Cond.initialized y.cls ∈ lw_all) (h5 : Cond.code y bytes maxL ret ∈ lw_all) : CG own cl sh tyl Nws lvl 2 x n sp := by
  refine ⟨hm, ?_⟩
  intro p l e R s m args below meth c Q cc D A ad ca nL c0 s0 F hml hA hfr hlo hcs pc lv st M hdg hle hspec ls H locs hr
  obtain ⟨rs, e1, hlen⟩ := hsp _ _ _ hspec
  have est := take_rev e1
  have hv := hr.2.2.2.2.2.2
  have hvt : ∀ v ∈ st.take n, okV v := fun v h => hv v (List.mem_of_mem_take h)
  have hvd : ∀ v ∈ st.drop n, okV v := fun v h => hv v (List.mem_of_mem_drop h)
  have hav : ∀ v ∈ (st.take n).reverse, okV v := fun v h => hvt v (List.mem_reverse.mp h)
  have hM0 := hM l D ca ad H.size (st.take n).reverse M _ hr.2.2.2.2.1 hav hspec
  have hrel := rel_st hr hvd
  have ew := wl_get (ca := ca) (ad := ad) (M := M) hs0
  have hrecv := va_recv F.2.2.2.2.2 hr.2.1 (ci := ci) (q0 := k) hc0 ew
  rw [e1] at hM0
  have hst : st.map (cz ad) = (rs.map (cz ad)).reverse ++ .ref (ad k) :: (st.drop n).map (cz ad) := by
    conv => lhs; rw [est]
    simp [cz]
  obtain ⟨hS, hfc, kC, hkC, hkind⟩ := F.2.2.2.2.2.1 ci _ hc0
  refine run_snW (tyl := tyl) (rest := st.drop n) (Q' := _) (a := (Value.ref (ad k) :: rs.map (cz ad)).toArray) ?_ hA hrel (fun r M' h => h)
  exact va_runSU (As := rs.map (cz ad)) (rest := (st.drop n).map (cz ad)) ⟨hfc, kC, hkC, hkind⟩ ⟨F.1, F.2.1, hml, F.2.2.1, F.2.2.2.1⟩ hM0 (va_cwSU n' F.2.2.2.1 (lw_SU h1 h2 h3 h6 h4 h5) rfl rfl rfl hd ⟨by show lvl' + 1 ≤ R.frames; omega, by show 8 + (maxL + 11) + 64 * lvl' ≤ R.locals; omega⟩)
    ⟨PB_blind hNw, hrecv, fun U hU hW => ⟨rfl, PB_of hNw F hr U hU hW⟩⟩ rfl (by rw [List.length_map]; exact hlen) hr.1.1 hst (lv_room (room4 hle)) hdg hcs
end CALLS8
theorem rcvT {sg : List Nat} {avs : List AV} {xs : List Int} (h : unA true sg avs = some xs) : rcv 0 sg.length avs := by
  obtain ⟨rs, e1, e2⟩ := unA_recv h
  exact ⟨rs, e1, (unA_len e2).1⟩
theorem rcvF {k : Nat} {sg : List Nat} {avs : List AV} {xs : List Int} (h : unA false (2 :: sg) avs = some xs) (h0 : gx xs 0 = (k : Int)) : rcv k sg.length avs := by
  obtain ⟨e1, e2⟩ := unA_mk h
  rcases xs with _ | ⟨x, xs⟩
  · cases e2
  · have h1 : x = (k : Int) := h0
    subst h1
    refine ⟨mkF sg xs, by rw [e1]; rfl, ?_⟩
    have h3 := (unA_len h).1
    rw [e1] at h3
    have h4 : (mkF (2 :: sg) ((k : Int) :: xs)).length = (mkF sg xs).length + 1 := rfl
    rw [h4] at h3
    exact Nat.succ.inj h3
