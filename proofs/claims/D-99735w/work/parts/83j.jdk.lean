/-! JDK members on texts that are constants: length, charAt. They write nothing and make nothing -/
def NF : Nat → Prop := fun _ => False
abbrev QI (x : Int32) : Array Value → State → Outcome → State → Prop := va_Qi (fun (r : Int32) (_ : Unit) => r = x) (fun _ _ => True) NF
abbrev QV : Array Value → State → Outcome → State → Prop := va_Qv (fun (_ : Unit) => True) (fun _ _ => True) NF
def KM (lvl : Nat) (y : MethodName) (ws : List Cond) (as : List Value) (B : State → Prop) (Qc : Array Value → State → Outcome → State → Prop) : Prop := ∀ l : Launch, Met l y ws (rmL lvl) (va_Pc as B) Qc 0 0 NF
theorem km_of {lvl : Nat} {y : MethodName} {cc : ByteArray} {nL : Nat} {ret : Option FieldType} {as : List Value} {B : State → Prop} {Qc : Array Value → State → Outcome → State → Prop} (hy : plainFor y = true) (hsz : (lg_sl as).length ≤ nL)
    (body : ∀ (p : Program) (l : Launch) (e : Env) (s : State) (m : MethodId) (args : Array Value) (below : List Frame) (meth : Method) (c : Code) (ls : Array Slot), p.tables.exec = Jvm.exec → c.code = cc → c.maxLocals = nL → s.vm.findClass y.cls = some m.cls → (∀ w ∈ lw_all, w.before args s = true) → meth.sig.returnType = ret → meth.locks = false → B s → lv_has ls nL (lv_args 0 as) →
      W p l e (headSpec (ws_ y cc nL ret) (rmL lvl)).room s m args below meth c s.heap [] 0 0 (MQ below Qc args s 0 0 NF) (F0 m 0 ls [])) : KM lvl y (ws_ y cc nL ret) as B Qc := by
  intro l
  refine va_MetF (cc := cc) (maxL := nL) (ret := ret) hy rfl ?_
  intro p e s m args below meth c s₁ BB hml hv
  obtain ⟨rfl, hB⟩ := hv
  have hts := atoms_spec (ws := ws_ y cc nL ret) BB.pre
  have hts : ∀ w ∈ lw_all, w.before as.toArray s = true := fun w h => hts w (List.mem_cons_of_mem _ h)
  have hl := lv_entry as (n := nL) hsz
  rw [lg_entry_eq]
  exact body p l e s m _ below meth c _ BB.exec BB.bytes hml (findClass_of_methodNamed BB.named) hts BB.returns BB.notSynchronized hB hl
/-- a text that is a constant: its bytes lie at v -/
def stF (a v N : Nat) (f : Nat → Value) (A : Nat → Prop) (U : State) (H : Heap) : Prop := va_O "java/lang/String" a A U H ∧ va_OF "java/lang/String" "coder" "B" (.int 0) a A U H ∧ va_OF "java/lang/String" "value" "[B" (.ref v) a A U H ∧ va_T .byte v N f A U H ∧ va_Z "java/lang/String" "COMPACT_STRINGS" "Z" (.int 1) A U H ∧ va_Zq "jdk/internal/util/Preconditions" "SIOOBE_FORMATTER" "Ljava/util/function/BiFunction;" A U H
theorem stF.up {a v N : Nat} {f : Nat → Value} {A B : Nat → Prop} {s U : State} {H0 H : Heap} {locs : List Loc} (h : stF a v N f A s H0) (hS : va_S A H0 H locs) (hv : s.vm.Alike U.vm) (hB : ∀ q, B q → A q) : stF a v N f B U H :=
  ⟨(va_O.moved hv (h.1.kept hS.2.1)).narrow hB, (va_OF.moved hv (h.2.1.kept hS.2.1)).narrow hB, (va_OF.moved hv (h.2.2.1.kept hS.2.1)).narrow hB, (va_T.moved hv (h.2.2.2.1.kept hS.2.1)).narrow hB, (va_Z.moved hv (h.2.2.2.2.1.kept hS.2.1)).narrow hB, (va_Zq.moved hv (h.2.2.2.2.2.kept hS.2.1)).narrow hB⟩
theorem stF.blind {a v N : Nat} {f : Nat → Value} {as : List Value} : FrameBlind (va_Pc as (fun U => stF a v N f NF U U.heap)) := by
  intro x U g mk q
  exact ⟨q.1, stF.up q.2 va_S.rf (Vm.Alike.refl U.vm) (fun _ z => z)⟩
theorem stF.recv {a v N : Nat} {f : Nat → Value} {A : Nat → Prop} {s : State} {H : Heap} {locs : List Loc} (h : stF a v N f A s s.heap) (hS : va_S A s.heap H locs) : ∃ cell : Cell, H[a]? = some cell ∧ cell.vm.isStatics = false ∧ s.vm.findClass "java/lang/String" = some cell.cls := by
  obtain ⟨cell, h1, h2, h3, -⟩ := h.1.kept hS.2.1
  exact ⟨cell, h1, h2, h3⟩
section
variable {a v N : Nat} {f : Nat → Value}
theorem k_coder : KM 0 yJ4_coder (ws_ yJ4_coder cJ4_coder 1 (some .byte)) [.ref a] (fun U => stF a v N f NF U U.heap) (QI 0) := by
  refine km_of (by decide) (Nat.le_of_ble_eq_true rfl) ?_
  intro p l e s m args below meth c ls hx hb hml ho hts hr hlk hB hl
  have h0 : ls[0]? = some (.val (.ref a)) := hl.2.2 (0, _) (by simp [lv_args])
  refine va_gets hx hb hB.2.2.2.2.1 va_S.rf ho (hts _ q597) (fun _ h => h) dJ4_coder_0 ?_
  refine lv_if_eq hx hb dJ4_coder_3 (tgt := 13) rfl (fun h => absurd h (by decide)) (fun _ => ?_)
  refine lv_aload_n hx hb dJ4_coder_6 rfl h0 ?_
  refine vk_getf hx hb hB.2.1 va_S.rf ho (hts _ q2318) (fun _ h => h) dJ4_coder_7 ?_
  refine lv_goto hx hb dJ4_coder_10 (tgt := 14) rfl ?_
  exact W.zret hx hb hr (by decide) (fun t ht _ => ⟨⟨0, (), rfl, rfl, trivial⟩, va_S.rf.F ht⟩) (fun q hq => by cases hq) dJ4_coder_14 hlk
theorem k_latin : KM 0 yJ4_isLatin1 (ws_ yJ4_isLatin1 cJ4_isLatin1 1 (some .boolean)) [.ref a] (fun U => stF a v N f NF U U.heap) (QI 1) := by
  refine km_of (by decide) (Nat.le_of_ble_eq_true rfl) ?_
  intro p l e s m args below meth c ls hx hb hml ho hts hr hlk hB hl
  have h0 : ls[0]? = some (.val (.ref a)) := hl.2.2 (0, _) (by simp [lv_args])
  refine va_gets hx hb hB.2.2.2.2.1 va_S.rf ho (hts _ q597) (fun _ h => h) dJ4_isLatin1_0 ?_
  refine lv_if_eq hx hb dJ4_isLatin1_3 (tgt := 17) rfl (fun h => absurd h (by decide)) (fun _ => ?_)
  refine lv_aload_n hx hb dJ4_isLatin1_6 rfl h0 ?_
  refine vk_getf hx hb hB.2.1 va_S.rf ho (hts _ q2318) (fun _ h => h) dJ4_isLatin1_7 ?_
  refine lv_if_ne hx hb dJ4_isLatin1_10 (tgt := 17) rfl (fun h => absurd rfl h) (fun _ => ?_)
  refine lv_iconst hx hb dJ4_isLatin1_13 rfl ?_
  refine lv_goto hx hb dJ4_isLatin1_14 (tgt := 18) rfl ?_
  exact W.zret hx hb hr (by decide) (fun t ht _ => ⟨⟨1, (), rfl, rfl, trivial⟩, va_S.rf.F ht⟩) (fun q hq => by cases hq) dJ4_isLatin1_18 hlk
theorem k_pci {i n : Int32} {w : Value} (hw : w = .null ∨ ∃ q, w = .ref q) (h1 : ¬ i < 0) (h2 : i < n) : KM 0 yJ6_checkIndex (ws_ yJ6_checkIndex cJ6_checkIndex 3 (some .int)) [.int i, .int n, w] (fun _ => True) (QI i) := by
  refine km_of (by decide) (by rcases hw with rfl | ⟨q, rfl⟩ <;> exact Nat.le_of_ble_eq_true rfl) ?_
  intro p l e s m args below meth c ls hx hb hml ho hts hr hlk hB hl
  have e0 : ls[0]? = some (.val (.int i)) := hl.2.2 (0, _) (by simp [lv_args])
  have e1 : ls[1]? = some (.val (.int n)) := hl.2.2 (1, _) (by simp [lv_args, Value.category])
  refine lv_iload_n hx hb dJ6_checkIndex_0 rfl e0 ?_
  refine lv_if_lt hx hb dJ6_checkIndex_1 (tgt := 9) rfl (fun h => absurd h h1) (fun _ => ?_)
  refine lv_iload_n hx hb dJ6_checkIndex_4 rfl e0 ?_
  refine lv_iload_n hx hb dJ6_checkIndex_5 rfl e1 ?_
  refine lv_icmp_lt hx hb dJ6_checkIndex_6 (tgt := 16) rfl (fun _ => ?_) (fun h => absurd h2 h)
  refine lv_iload_n hx hb dJ6_checkIndex_16 rfl e0 ?_
  exact W.iret hx hb hr (fun t ht _ => ⟨⟨i, (), rfl, rfl, trivial⟩, va_S.rf.F ht⟩) (fun q hq => by cases hq) dJ6_checkIndex_17 hlk
theorem tt_blind {as : List Value} : FrameBlind (va_Pc as (fun _ => True)) := fun _ _ _ _ q => ⟨q.1, trivial⟩
theorem k_sci {i n : Int32} (h1 : ¬ i < 0) (h2 : i < n) : KM 1 yJ4_checkIndex (ws_ yJ4_checkIndex cJ4_checkIndex 2 none) [.int i, .int n] (fun U => stF a v N f NF U U.heap) QV := by
  refine km_of (by decide) (Nat.le_of_ble_eq_true rfl) ?_
  intro p l e s m args below meth c ls hx hb hml ho hts hr hlk hB hl
  have e0 : ls[0]? = some (.val (.int i)) := hl.2.2 (0, _) (by simp [lv_args])
  have e1 : ls[1]? = some (.val (.int n)) := hl.2.2 (1, _) (by simp [lv_args, Value.category])
  refine lv_iload_n hx hb dJ4_checkIndex_0 rfl e0 ?_
  refine lv_iload_n hx hb dJ4_checkIndex_1 rfl e1 ?_
  have go : ∀ w : Value, (w = .null ∨ ∃ q, w = .ref q) → W p l e (headSpec (ws_ yJ4_checkIndex cJ4_checkIndex 2 none) (rmL 1)).room s m args below meth c s.heap [] 0 0 (MQ below QV args s 0 0 NF) (F0 m 5 ls [w, .int n, .int i]) := by
    intro w hw
    refine va_calli (S := Unit) (A0 := NF) (H0 := s.heap) (va_runS (As := [.int i, .int n, w]) (rest := []) ⟨hx, hb, hml, ho, hts⟩ (k_pci hw h1 h2 l) (va_cwS 3 hts (lw_S q615 q616 q145 q617) rfl rfl rfl ⟨by decide, by decide, rfl⟩ ⟨by decide, by decide⟩) ⟨tt_blind, fun U hU hW => ⟨rfl, trivial⟩⟩ rfl rfl hl.1 rfl (Nat.le_of_ble_eq_true rfl) dJ4_checkIndex_5 ⟨Nat.le_refl _, Nat.le_refl _⟩) va_S.rf (fun _ _ h => h) (fun _ h => h) ?_
    intro r u t H1 locs1 ht hv hr1 _ hz hk hS
    refine lv_pop hx hb dJ4_checkIndex_8 rfl ?_
    exact W.vret hx hb hr (fun t ht _ => ⟨⟨(), rfl, trivial, trivial⟩, hS.F ht⟩) hS.2.2 dJ4_checkIndex_9 hlk
  rcases hB.2.2.2.2.2 with h | ⟨t, h⟩
  · exact va_gets hx hb h va_S.rf ho (hts _ q613) (fun _ h => h) dJ4_checkIndex_2 (go _ (Or.inl rfl))
  · exact va_gets hx hb h va_S.rf ho (hts _ q613) (fun _ h => h) dJ4_checkIndex_2 (go _ (Or.inr ⟨t, rfl⟩))
theorem k_lca {i : Int32} (hi : vp_in i N) (hN : N < 65536) {x : Int32} (hx0 : f i.toNatClampNeg = .int x) (hx1 : 0 ≤ x.toInt ∧ x.toInt < 128) : KM 2 yJ5_charAt (ws_ yJ5_charAt cJ5_charAt 2 (some .char)) [.ref v, .int i] (fun U => stF a v N f NF U U.heap) (QI x) := by
  refine km_of (by decide) (Nat.le_of_ble_eq_true rfl) ?_
  intro p l e s m args below meth c ls hx hb hml ho hts hr hlk hB hl
  have e0 : ls[0]? = some (.val (.ref v)) := hl.2.2 (0, _) (by simp [lv_args])
  have e1 : ls[1]? = some (.val (.int i)) := hl.2.2 (1, _) (by simp [lv_args, Value.category])
  have hi2 := vp_in_iff.mp hi
  have hn1 : (Int32.ofNat N).toInt = N := by rw [fin_ofNat_n, n_of (by unfold i32; omega)]
  have q1 : ¬ i < 0 := by
    rw [Int32.lt_iff_toInt_lt]
    have : (0 : Int32).toInt = 0 := rfl
    omega
  have q2 : i < Int32.ofNat N := by
    rw [Int32.lt_iff_toInt_lt, hn1]
    exact hi2.2
  refine lv_iload_n hx hb dJ5_charAt_0 rfl e1 ?_
  refine lv_aload_n hx hb dJ5_charAt_1 rfl e0 ?_
  refine va_tlen hx hb hB.2.2.2.1 va_S.rf rfl dJ5_charAt_2 ?_
  refine va_callv (S := Unit) (A0 := NF) (H0 := s.heap) (va_runS (As := [.int i, .int (Int32.ofNat N)]) (rest := []) ⟨hx, hb, hml, ho, hts⟩ (k_sci (a := a) (v := v) (N := N) (f := f) q1 q2 l) (va_cwS 2 hts (lw_S q610 q611 q143 q612) rfl rfl rfl ⟨by decide, by decide, rfl⟩ ⟨by decide, by decide⟩) ⟨stF.blind, fun U hU hW => ⟨rfl, stF.up hB (by rw [hU]; exact va_S.rf) hW.alike (fun _ z => z)⟩⟩ rfl rfl hl.1 rfl (Nat.le_of_ble_eq_true rfl) dJ5_charAt_3 ⟨Nat.le_refl _, Nat.le_refl _⟩) va_S.rf (fun _ _ h => h) (fun _ h => h) ?_
  intro u t H1 locs1 ht hv _ _ hz hk hS
  refine lv_aload_n hx hb dJ5_charAt_6 rfl e0 ?_
  refine lv_iload_n hx hb dJ5_charAt_7 rfl e1 ?_
  refine va_tb hx hb hB.2.2.2.1 hS hi hx0 dJ5_charAt_8 ?_
  refine lv_sipush hx hb dJ5_charAt_9 rfl ?_
  have ex : x = Int32.ofInt x.toInt := (Int32.ofInt_toInt x).symm
  have key : ∀ z : Fin 128, Int32.ofInt ((z.val : Nat) : Int) &&& 255 = Int32.ofInt ((z.val : Nat) : Int) ∧ ((Int32.ofInt ((z.val : Nat) : Int)).toUInt32 % 65536).toInt32 = Int32.ofInt ((z.val : Nat) : Int) ∧ narrow .char (.int (Int32.ofInt ((z.val : Nat) : Int))) = .int (Int32.ofInt ((z.val : Nat) : Int)) := by decide
  obtain ⟨k, hk2⟩ := Int.eq_ofNat_of_zero_le hx1.1
  have hz2 := key ⟨k, by omega⟩
  have ek : Int32.ofInt ((k : Nat) : Int) = x := by rw [← hk2]; exact ex.symm
  simp only [ek] at hz2
  refine lv_iand hx hb dJ5_charAt_12 ?_
  rw [show (Int16.ofInt 255).toInt32 = 255 from by decide, hz2.1]
  refine lv_i2c hx hb dJ5_charAt_13 hz2.2.1 ?_
  exact W.zret hx hb hr hz2.2.2 (fun t ht _ => ⟨⟨x, (), rfl, rfl, trivial⟩, hS.F ht⟩) hS.2.2 dJ5_charAt_14 hlk
theorem k_len (hN : N < 65536) : KM 1 yJ4_length (ws_ yJ4_length cJ4_length 1 (some .int)) [.ref a] (fun U => stF a v N f NF U U.heap) (QI (Int32.ofNat N)) := by
  refine km_of (by decide) (Nat.le_of_ble_eq_true rfl) ?_
  intro p l e s m args below meth c ls hx hb hml ho hts hr hlk hB hl
  have e0 : ls[0]? = some (.val (.ref a)) := hl.2.2 (0, _) (by simp [lv_args])
  refine lv_aload_n hx hb dJ4_length_0 rfl e0 ?_
  refine vk_getf hx hb hB.2.2.1 va_S.rf ho (hts _ q2317) (fun _ h => h) dJ4_length_1 ?_
  refine va_tlen hx hb hB.2.2.2.1 va_S.rf rfl dJ4_length_4 ?_
  refine lv_aload_n hx hb dJ4_length_5 rfl e0 ?_
  refine va_calli (S := Unit) (A0 := NF) (H0 := s.heap) (va_runV (As := []) (rest := [.int (Int32.ofNat N)]) ⟨hx, hb, hml, ho, hts⟩ (k_coder (a := a) (v := v) (N := N) (f := f) l) (cwV 0 hts (lw_V q593 q594 q595 q143 q596) rfl rfl rfl ⟨rfl, by decide, by decide, rfl⟩ ⟨by decide, by decide⟩) ⟨stF.blind, stF.recv hB va_S.rf, fun U hU hW => ⟨rfl, stF.up hB (by rw [hU]; exact va_S.rf) hW.alike (fun _ z => z)⟩⟩ rfl rfl hl.1 rfl (Nat.le_of_ble_eq_true rfl) dJ4_length_6 ⟨Nat.le_refl _, Nat.le_refl _⟩) va_S.rf (fun _ _ h => h) (fun _ h => h) ?_
  intro r u t H1 locs1 ht hv hr1 _ hz hk hS
  subst hr1
  refine lv_ishr hx hb dJ4_length_9 ?_
  have e9 : Int32.ofNat N >>> ((0 : Int32) &&& 31) = Int32.ofNat N := by
    rw [show (0 : Int32) &&& 31 = 0 by decide]
    exact Int32.shiftRight_zero
  rw [e9]
  exact W.iret hx hb hr (fun t ht _ => ⟨⟨_, (), rfl, rfl, trivial⟩, hS.F ht⟩) hS.2.2 dJ4_length_10 hlk
theorem k_chr {i : Int32} (hi : vp_in i N) (hN : N < 65536) {x : Int32} (hx0 : f i.toNatClampNeg = .int x) (hx1 : 0 ≤ x.toInt ∧ x.toInt < 128) : KM 3 yJ4_charAt (ws_ yJ4_charAt cJ4_charAt 2 (some .char)) [.ref a, .int i] (fun U => stF a v N f NF U U.heap) (QI x) := by
  refine km_of (by decide) (Nat.le_of_ble_eq_true rfl) ?_
  intro p l e s m args below meth c ls hx hb hml ho hts hr hlk hB hl
  have e0 : ls[0]? = some (.val (.ref a)) := hl.2.2 (0, _) (by simp [lv_args])
  have e1 : ls[1]? = some (.val (.int i)) := hl.2.2 (1, _) (by simp [lv_args, Value.category])
  refine lv_aload_n hx hb dJ4_charAt_0 rfl e0 ?_
  refine va_calli (S := Unit) (A0 := NF) (H0 := s.heap) (va_runV (As := []) (rest := []) ⟨hx, hb, hml, ho, hts⟩ (k_latin (a := a) (v := v) (N := N) (f := f) l) (cwV 0 hts (lw_V q603 q604 q605 q143 q606) rfl rfl rfl ⟨rfl, by decide, by decide, rfl⟩ ⟨by decide, by decide⟩) ⟨stF.blind, stF.recv hB va_S.rf, fun U hU hW => ⟨rfl, stF.up hB (by rw [hU]; exact va_S.rf) hW.alike (fun _ z => z)⟩⟩ rfl rfl hl.1 rfl (Nat.le_of_ble_eq_true rfl) dJ4_charAt_1 ⟨Nat.le_refl _, Nat.le_refl _⟩) va_S.rf (fun _ _ h => h) (fun _ h => h) ?_
  intro r u t H1 locs1 ht hv hr1 _ hz hk hS
  subst hr1
  refine lv_if_eq hx hb dJ4_charAt_4 (tgt := 16) rfl (fun h => absurd h (by decide)) (fun _ => ?_)
  refine lv_aload_n hx hb dJ4_charAt_7 rfl e0 ?_
  refine vk_getf hx hb hB.2.2.1 hS ho (hts _ q2317) (fun _ h => h) dJ4_charAt_8 ?_
  refine lv_iload_n hx hb dJ4_charAt_11 rfl e1 ?_
  refine va_calli (S := Unit) (A0 := NF) (H0 := s.heap) (va_runS (As := [.ref v, .int i]) (rest := []) ⟨hx, hb, hml, ho, hts⟩ (k_lca (a := a) (v := v) (N := N) (f := f) hi hN hx0 hx1 l) (va_cwS 2 hts (lw_S q607 q608 q144 q609) rfl rfl rfl ⟨by decide, by decide, rfl⟩ ⟨by decide, by decide⟩) ⟨stF.blind, fun U hU hW => ⟨rfl, stF.up hB (by rw [hU]; exact hS) hW.alike (fun _ z => z)⟩⟩ rfl rfl hl.1 rfl (Nat.le_of_ble_eq_true rfl) dJ4_charAt_12 ⟨Nat.le_refl _, Nat.le_refl _⟩) hS (fun _ _ h => h) (fun _ h => h) ?_
  intro r u t H2 locs2 ht2 hv2 hr2 _ hz2 hk2 hS2
  subst hr2
  have key : ∀ z : Fin 128, narrow .char (.int (Int32.ofInt ((z.val : Nat) : Int))) = .int (Int32.ofInt ((z.val : Nat) : Int)) := by decide
  obtain ⟨k, hk3⟩ := Int.eq_ofNat_of_zero_le hx1.1
  have hz3 := key ⟨k, by omega⟩
  have ek : Int32.ofInt ((k : Nat) : Int) = r := by rw [← hk3]; exact Int32.ofInt_toInt r
  simp only [ek] at hz3
  exact W.zret hx hb hr hz3 (fun t ht _ => ⟨⟨_, (), rfl, rfl, trivial⟩, hS2.F ht⟩) hS2.2.2 dJ4_charAt_15 hlk
end
