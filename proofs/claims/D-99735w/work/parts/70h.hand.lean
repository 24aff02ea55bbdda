/-! METHODS WITH HANDLERS, where nothing is thrown: their contracts and calls -/
theorem Met.ofWH {l : Launch} {y : MethodName} {ws ws' : List Cond} {rm : Room} {Pc : Array Value → State → Prop} {Qc : Array Value → State → Outcome → State → Prop} {mc ms : Nat} {free : Addr → Prop} {cc : ByteArray} {maxL : Nat} {ret : Option FieldType} {hh : List (Nat × Nat × Nat × Nat)}
    (hy : plainName y.cls = true) (hw : ws = Cond.codeWith y cc maxL ret hh :: ws')
    (body : ∀ p e s m args below meth c s₁, BodyLoose p l y (headSpec ws rm) cc maxL ret e s m args below meth c s₁ → c.maxLocals = maxL → Pc args s →
      W p l e (headSpec ws rm).room s m args below meth c s.heap [] 0 0 (MQ below Qc args s mc ms free) (entryFrame m args maxL)) : Met l y ws rm Pc Qc mc ms free := by
  refine MetFree.of_bodyS (code := cc) (maxLocals := maxL) (ret := ret) hy ?_ ?_
  · intro args s m h hn
    obtain ⟨m9, meth, c, hn9, h1, h2, h3, h4, -, h5, h6, -⟩ := Cond.codeWith_spec (atoms_spec (ws := ws) h _ (by rw [hw]; exact List.mem_cons_self))
    cases hn.symm.trans hn9
    exact ⟨meth, c, h1, h2, h3, h4, h5, h6⟩
  · intro p e s m args below meth c s₁ B hml hP _
    have hh0 : s₁.heap = s.heap := by rw [B.state]; rfl
    obtain ⟨t, a1, o, b1, b2, b3⟩ := body p e s m args below meth c s₁ B hml hP s₁ hh0 (Stand.of_body B)
    exact ⟨t, o, a1, b1, b2, ⟨b3.1, b3.2⟩⟩
def MOKH (cl : List vw_C) (sh : List SC) (tyl : List (Nat × FieldType)) (Nws : List Cond) (lvl : Nat) (y : MethodName) (cc : ByteArray) (nL : Nat) (ret : Option FieldType) (hh : List (Nat × Nat × Nat × Nat)) (sp : Spec) : Prop :=
  ∀ (l : Launch) (D : va_G) (ca : Nat → ClassId) (ad : Nat → Nat) (sz : Nat) (avs : List AV) (M : Mm) (Q : Option AV → Mm → Prop), okM sh M → (∀ v ∈ avs, okV v) → sp avs M Q →
    Met l y (wsW_ y cc nL ret hh) (rmL lvl) (va_Pc (avs.map (cz ad)) (PB D cl tyl Nws ad ca sh M sz)) (vq D cl tyl ad ca sh (va_A (wl ca ad sh M) sz) Q) 0 0 (va_A (wl ca ad sh M) sz)
set_option maxHeartbeats 4000000 in
theorem mokh_of {cl : List vw_C} {sh : List SC} {tyl : List (Nat × FieldType)} {Nws : List Cond} {own : String} {tb : TB} {xt : XT} {lvl nL rt fuel : Nat} {y : MethodName} {cc : ByteArray} {ret : Option FieldType} {hh : List (Nat × Nat × Nat × Nat)} {sp : Spec} (inv : List AV → Mm → (Option AV → Mm → Prop) → INV)
    (hy : plainName y.cls = true) (hown : y.cls = own) (hNw : ∀ w ∈ Nws, nwOK w = true) (hT : tbOK own Nws cl sh tyl tb) (hrt : rtOK rt ret)
    (hc : ∀ x vt n sp, tb.2.2.2.2 x = some (vt, n, sp) → CG own cl sh tyl Nws lvl vt x n sp)
    (hx : ∀ key kd n sp, xt key = some (kd, n, sp) → CX own cl sh tyl Nws lvl key kd n sp)
    (hsz : ∀ avs M Q, sp avs M Q → szL avs ≤ nL)
    (hin : ∀ avs M Q, okM sh M → (∀ v ∈ avs, okV v) → sp avs M Q → wpx tb xt sh nL rt cc (cutE (inv avs M Q)) Q (fun _ _ => False) fuel false 0 (entL 0 avs) [] M)
    (hinv : ∀ avs M Q, okM sh M → (∀ v ∈ avs, okV v) → sp avs M Q → ∀ q ∈ inv avs M Q, ∀ n vs M', okM sh M' → (∀ v ∈ q.2.1.zip vs, okV v.2) → q.2.2 n vs M' → wpx tb xt sh nL rt cc (cutN (inv avs M Q) n) Q (fun _ _ => False) fuel false q.1 (q.2.1.zip vs) [] M') :
    MOKH cl sh tyl Nws lvl y cc nL ret hh sp := by
  intro l D ca ad sz avs M Q hM hav hsp
  refine Met.ofWH (cc := cc) (maxL := nL) (ret := ret) hy rfl ?_
  intro p e s m args below meth c s₁ B hml hv
  obtain ⟨rfl, hs, hP, hK, hD0, hN⟩ := hv
  subst hs
  have hts := atoms_spec (ws := wsW_ y cc nL ret hh) B.pre
  have hts : ∀ w ∈ lw_all, w.before (avs.map (cz ad)).toArray s = true := fun w h => hts w (List.mem_cons_of_mem _ h)
  have hownC : s.vm.findClass own = some m.cls := hown ▸ findClass_of_methodNamed B.named
  have hD := hD0.self (sz := s.heap.size)
  have F : fx p s m (avs.map (cz ad)).toArray c cc D cl ca tyl own Nws := ⟨B.exec, B.bytes, hownC, hts, fun w hw => nw_use (hNw w hw) (hN w hw), hK⟩
  have hr : rtOK rt meth.sig.returnType := by rw [B.returns]; exact hrt
  have hA : ∀ q, s.heap.size ≤ q → va_A (wl ca ad sh M) s.heap.size q := fun q h => Or.inr h
  have hcc : ∀ (QQ : State → Prop) x vt n sp, tb.2.2.2.2 x = some (vt, n, sp) → mono sp ∧ cOK p l e (headSpec (wsW_ y cc nL ret hh) (rmL lvl)).room s m (avs.map (cz ad)).toArray below meth c QQ D cl (va_A (wl ca ad sh M) s.heap.size) ad ca sh nL 0 0 cc vt x n sp := fun QQ x vt n sp h => ⟨(hc x vt n sp h).1, (hc x vt n sp h).2 _ _ _ _ _ _ _ _ _ _ _ _ _ _ _ _ _ _ _ F hml hA (Nat.le_refl _) (Nat.le_refl _) ⟨Nat.zero_le _, Nat.zero_le _⟩⟩
  have hxx : ∀ (QQ : State → Prop) key kd n sp, xt key = some (kd, n, sp) → mono sp ∧ xOK p l e (headSpec (wsW_ y cc nL ret hh) (rmL lvl)).room s m (avs.map (cz ad)).toArray below meth c QQ D cl (va_A (wl ca ad sh M) s.heap.size) ad ca sh nL 0 0 0 0 cc (fun _ _ => False) key kd n sp := fun QQ key kd n sp h => ⟨(hx key kd n sp h).1, (hx key kd n sp h).2 _ _ _ _ _ _ _ _ _ _ _ _ _ _ _ _ _ _ _ _ _ _ F hml hA (Nat.le_refl _) (Nat.le_refl _) ⟨Nat.zero_le _, Nat.zero_le _⟩⟩
  have k := floydx_in (l := l) (e := e) (R := (headSpec (wsW_ y cc nL ret hh) (rmL lvl)).room) (below := below) (nL := nL) (ad := ad) (c0 := 0) (s0 := 0) (c1 := 0) (s1 := 0) (thx := fun _ _ => False) (THX := fun _ _ => False) (fun _ _ _ h => h) (fun _ _ _ h => h) F hT hr B.notSynchronized (fun _ _ h => h) (hcc _) (hcc _) (hxx _) (fun key kd n sp h _ => (hxx _ key kd n sp h).2) (hinv avs M Q hM hav hsp) (hin avs M Q hM hav hsp)
  have hl := lv_entry (avs.map (cz ad)) (n := nL) (by rw [szL_sl]; exact hsz avs M Q hsp)
  rw [entL_args] at hl
  rw [lg_entry_eq]
  exact k _ s.heap [] ⟨hl, hP, hD, va_S.rf, hM, entL_ok hav 0, fun v hv => by cases hv⟩
theorem cg_VH {cl : List vw_C} {sh : List SC} {tyl : List (Nat × FieldType)} {own : String} {Nws : List Cond} {n' : Nat} {sp : Spec} {lvl lvl' x maxL n k : Nat} {y : MethodName} {bytes : ByteArray} {ret : Option FieldType} {hh : List (Nat × Nat × Nat × Nat)} {ci : Nat} {fks : List Nat} {q : vw_C} (hNw : ∀ w ∈ Nws, nwOK w = true) (hm : mono sp) (hsp : ∀ avs M Q, sp avs M Q → rcv k n' avs) (hM : MOKH cl sh tyl Nws lvl' y bytes maxL ret hh sp) (hl : lvl' < lvl) (hn : n = n' + 1) (hmx : maxL ≤ 45)
    (hs0 : sh[k]? = some (.inl (ci, fks))) (hc0 : cl[ci]? = some q) (hd : y.cls = q.1 ∧ y.cls ≠ "java/lang/invoke/MethodHandle" ∧ y.cls ≠ "java/lang/invoke/VarHandle" ∧ (parseMethodDescriptor y.desc).map (fun d => d.parameters.length) = some n')
    (h1 : Cond.methodLink own x y ∈ lw_all) (h2 : Cond.instanceMethod y ∈ lw_all) (h3 : Cond.selects q.1 y y ∈ lw_all) (h4 : Cond.initialized q.1 ∈ lw_all) (h5 : Cond.codeWith y bytes maxL ret hh ∈ lw_all) : CG own cl sh tyl Nws lvl 1 x n sp := by
  refine ⟨hm, ?_⟩
  intro p l e R s m args below meth c Q cc D A ad ca nL c0 s0 F hml hA hfr hlo hcs pc lv st M hdg hle hspec ls H locs hr
  obtain ⟨rs, e1, hlen⟩ := hsp _ _ _ hspec
  have est := take_rev e1
  have hv := hr.2.2.2.2.2.2
  have hvt : ∀ v ∈ st.take n, okV v := fun v h => hv v (List.mem_of_mem_take h)
  have hvd : ∀ v ∈ st.drop n, okV v := fun v h => hv v (List.mem_of_mem_drop h)
  have hav : ∀ v ∈ (st.take n).reverse, okV v := fun v h => hvt v (List.mem_reverse.mp h)
  have hM0 := hM l D ca ad H.size (st.take n).reverse M _ hr.2.2.2.2.1 hav hspec
  have hrel := rel_st hr hvd
  have ew := wl_get (ca := ca) (ad := ad) (M := M) hs0
  have hrecv := va_recv F.2.2.2.2.2 hr.2.1 (ci := ci) (q0 := k) hc0 ew
  rw [e1] at hM0
  have hst : st.map (cz ad) = (rs.map (cz ad)).reverse ++ .ref (ad k) :: (st.drop n).map (cz ad) := by
    conv => lhs; rw [est]
    simp [cz]
  refine run_snW (tyl := tyl) (rest := st.drop n) (Q' := _) (a := (Value.ref (ad k) :: rs.map (cz ad)).toArray) ?_ hA hrel (fun r M' h => h)
  exact vx_runVW (As := rs.map (cz ad)) (rest := (st.drop n).map (cz ad)) ⟨F.1, F.2.1, hml, F.2.2.1, F.2.2.2.1⟩ hM0 (vx_cwVW n' F.2.2.2.1 (lw_VW h1 h2 h3 h4 h5) rfl rfl rfl hd ⟨by show lvl' + 1 ≤ R.frames; omega, by show 8 + (maxL + 11) + 64 * lvl' ≤ R.locals; omega⟩)
    ⟨PB_blind hNw, hrecv, fun U hU hW => ⟨rfl, PB_of hNw F hr U hU hW⟩⟩ rfl (by rw [List.length_map]; exact hlen) hr.1.1 hst (lv_room (room4 hle)) hdg hcs
