/-! SagMemory.Reader: its world and tables, by wip gen/tabR.py -/
def fkR : List Nat := [0, 4, 0, 0, 0, 2, 5]
def fkV : List Nat := [0, 0, 0, 0, 0, 0, 0, 0, 0, 0, 7, 8, 9, 10, 11, 12, 13, 14]
def fkS : List Nat := [103, 6, 0, 0, 0, 108, 109, 110, 0, 112, 113, 114, 115, 116, 117, 118, 119, 120, 121, 122, 123, 124, 125, 126, 0, 0, 129, 0, 0, 0, 133, 0, 0, 0, 0, 0, 139, 140, 0, 0, 1, 1, 1, 146, 147]
def shR : List SC := [.inl (0, fkR), .inl (1, fkV), .inl (2, fkS), .inr (2, 700), .inr (0, 3), .inr (0, 3), .inr (0, 7), .inr (0, 7), .inr (0, 5), .inr (0, 5), .inr (0, 5), .inr (0, 30)]
def clR : List vw_C := [(RX8, TX8, 7), (RX1, TX1, 18), (RX0, TX0, 45), (RX9, TX9, 8)]
def tylR : List (Nat × FieldType) := [(0, .int), (2, .byte)]
def NwsR : List Cond := [(Jvm.Cond.fieldLinkNest "SagMemory$Reader" (121 : Nat) "SagMemory$Valley" "law" "I" "SagMemory"), (Jvm.Cond.fieldLinkNest "SagMemory$Reader" (125 : Nat) "SagMemory$Valley" "frost" "I" "SagMemory"), (Jvm.Cond.fieldLinkNest "SagMemory$Reader" (129 : Nat) "SagMemory$Valley" "odds" "I" "SagMemory"), (Jvm.Cond.fieldLinkNest "SagMemory$Reader" (187 : Nat) "SagMemory$Valley" "lines" "I" "SagMemory"), (Jvm.Cond.fieldLinkNest "SagMemory$Reader" (137 : Nat) "SagMemory$Valley" "bridges" "I" "SagMemory"), (Jvm.Cond.fieldLinkNest "SagMemory$Reader" (165 : Nat) "SagMemory$Valley" "carts" "I" "SagMemory"), (Jvm.Cond.fieldLinkNest "SagMemory$Reader" (131 : Nat) "SagMemory$Valley" "wards" "I" "SagMemory"), (Jvm.Cond.fieldLinkNest "SagMemory$Reader" (183 : Nat) "SagMemory$Valley" "colds" "I" "SagMemory"), (Jvm.Cond.fieldLinkNest "SagMemory$Reader" (180 : Nat) "SagMemory$Valley" "frosts" "I" "SagMemory"), (Jvm.Cond.fieldLinkNest "SagMemory$Reader" (155 : Nat) "SagMemory$Valley" "holds" "[I" "SagMemory"), (Jvm.Cond.fieldLinkNest "SagMemory$Reader" (159 : Nat) "SagMemory$Valley" "toll" "[I" "SagMemory"), (Jvm.Cond.fieldLinkNest "SagMemory$Reader" (168 : Nat) "SagMemory$Valley" "load" "[I" "SagMemory"), (Jvm.Cond.fieldLinkNest "SagMemory$Reader" (171 : Nat) "SagMemory$Valley" "by" "[I" "SagMemory"), (Jvm.Cond.fieldLinkNest "SagMemory$Reader" (134 : Nat) "SagMemory$Valley" "at" "[I" "SagMemory"), (Jvm.Cond.fieldLinkNest "SagMemory$Reader" (140 : Nat) "SagMemory$Valley" "over" "[I" "SagMemory"), (Jvm.Cond.fieldLinkNest "SagMemory$Reader" (146 : Nat) "SagMemory$Valley" "to" "[I" "SagMemory"), (Jvm.Cond.fieldLinkNest "SagMemory$Reader" (44 : Nat) "SagMemory" "tape" "[B" "SagMemory"), (Jvm.Cond.fieldLinkNest "SagMemory$Reader" (15 : Nat) "SagMemory" "taped" "I" "SagMemory"), (Jvm.Cond.methodLinkNest "SagMemory$Reader" (24 : Nat) ({ cls := "SagMemory$Valley", name := "<init>", desc := "()V" } : Jvm.MethodName) "SagMemory"), (Jvm.Cond.methodLinkNest "SagMemory$Reader" (48 : Nat) ({ cls := "SagMemory", name := "isIn", desc := "(JJJ)Z" } : Jvm.MethodName) "SagMemory")]
theorem nwsR_ok : ∀ w ∈ NwsR, nwOK w = true := List.all_eq_true.mp rfl
theorem nwsR_tbl : ∀ w ∈ NwsR, w ∈ lw_tbl := by
  intro w h
  simp only [NwsR, List.mem_cons, List.not_mem_nil, or_false] at h
  rcases h with rfl | rfl | rfl | rfl | rfl | rfl | rfl | rfl | rfl | rfl | rfl | rfl | rfl | rfl | rfl | rfl | rfl | rfl | rfl | rfl
  · exact q176
  · exact q179
  · exact q182
  · exact q186
  · exact q189
  · exact q192
  · exact q194
  · exact q197
  · exact q200
  · exact q205
  · exact q208
  · exact q211
  · exact q214
  · exact q217
  · exact q220
  · exact q223
  · exact q350
  · exact q352
  · exact q522
  · exact q533
theorem nR_q176 : (Jvm.Cond.fieldLinkNest "SagMemory$Reader" (121 : Nat) "SagMemory$Valley" "law" "I" "SagMemory") ∈ NwsR := List.mem_of_getElem? (i := 0) rfl
theorem nR_q179 : (Jvm.Cond.fieldLinkNest "SagMemory$Reader" (125 : Nat) "SagMemory$Valley" "frost" "I" "SagMemory") ∈ NwsR := List.mem_of_getElem? (i := 1) rfl
theorem nR_q182 : (Jvm.Cond.fieldLinkNest "SagMemory$Reader" (129 : Nat) "SagMemory$Valley" "odds" "I" "SagMemory") ∈ NwsR := List.mem_of_getElem? (i := 2) rfl
theorem nR_q186 : (Jvm.Cond.fieldLinkNest "SagMemory$Reader" (187 : Nat) "SagMemory$Valley" "lines" "I" "SagMemory") ∈ NwsR := List.mem_of_getElem? (i := 3) rfl
theorem nR_q189 : (Jvm.Cond.fieldLinkNest "SagMemory$Reader" (137 : Nat) "SagMemory$Valley" "bridges" "I" "SagMemory") ∈ NwsR := List.mem_of_getElem? (i := 4) rfl
theorem nR_q192 : (Jvm.Cond.fieldLinkNest "SagMemory$Reader" (165 : Nat) "SagMemory$Valley" "carts" "I" "SagMemory") ∈ NwsR := List.mem_of_getElem? (i := 5) rfl
theorem nR_q194 : (Jvm.Cond.fieldLinkNest "SagMemory$Reader" (131 : Nat) "SagMemory$Valley" "wards" "I" "SagMemory") ∈ NwsR := List.mem_of_getElem? (i := 6) rfl
theorem nR_q197 : (Jvm.Cond.fieldLinkNest "SagMemory$Reader" (183 : Nat) "SagMemory$Valley" "colds" "I" "SagMemory") ∈ NwsR := List.mem_of_getElem? (i := 7) rfl
theorem nR_q200 : (Jvm.Cond.fieldLinkNest "SagMemory$Reader" (180 : Nat) "SagMemory$Valley" "frosts" "I" "SagMemory") ∈ NwsR := List.mem_of_getElem? (i := 8) rfl
theorem nR_q205 : (Jvm.Cond.fieldLinkNest "SagMemory$Reader" (155 : Nat) "SagMemory$Valley" "holds" "[I" "SagMemory") ∈ NwsR := List.mem_of_getElem? (i := 9) rfl
theorem nR_q208 : (Jvm.Cond.fieldLinkNest "SagMemory$Reader" (159 : Nat) "SagMemory$Valley" "toll" "[I" "SagMemory") ∈ NwsR := List.mem_of_getElem? (i := 10) rfl
theorem nR_q211 : (Jvm.Cond.fieldLinkNest "SagMemory$Reader" (168 : Nat) "SagMemory$Valley" "load" "[I" "SagMemory") ∈ NwsR := List.mem_of_getElem? (i := 11) rfl
theorem nR_q214 : (Jvm.Cond.fieldLinkNest "SagMemory$Reader" (171 : Nat) "SagMemory$Valley" "by" "[I" "SagMemory") ∈ NwsR := List.mem_of_getElem? (i := 12) rfl
theorem nR_q217 : (Jvm.Cond.fieldLinkNest "SagMemory$Reader" (134 : Nat) "SagMemory$Valley" "at" "[I" "SagMemory") ∈ NwsR := List.mem_of_getElem? (i := 13) rfl
theorem nR_q220 : (Jvm.Cond.fieldLinkNest "SagMemory$Reader" (140 : Nat) "SagMemory$Valley" "over" "[I" "SagMemory") ∈ NwsR := List.mem_of_getElem? (i := 14) rfl
theorem nR_q223 : (Jvm.Cond.fieldLinkNest "SagMemory$Reader" (146 : Nat) "SagMemory$Valley" "to" "[I" "SagMemory") ∈ NwsR := List.mem_of_getElem? (i := 15) rfl
theorem nR_q350 : (Jvm.Cond.fieldLinkNest "SagMemory$Reader" (44 : Nat) "SagMemory" "tape" "[B" "SagMemory") ∈ NwsR := List.mem_of_getElem? (i := 16) rfl
theorem nR_q352 : (Jvm.Cond.fieldLinkNest "SagMemory$Reader" (15 : Nat) "SagMemory" "taped" "I" "SagMemory") ∈ NwsR := List.mem_of_getElem? (i := 17) rfl
theorem nR_q522 : (Jvm.Cond.methodLinkNest "SagMemory$Reader" (24 : Nat) ({ cls := "SagMemory$Valley", name := "<init>", desc := "()V" } : Jvm.MethodName) "SagMemory") ∈ NwsR := List.mem_of_getElem? (i := 18) rfl
theorem nR_q533 : (Jvm.Cond.methodLinkNest "SagMemory$Reader" (48 : Nat) ({ cls := "SagMemory", name := "isIn", desc := "(JJJ)Z" } : Jvm.MethodName) "SagMemory") ∈ NwsR := List.mem_of_getElem? (i := 19) rfl
theorem shR_obj {k ci : Nat} {fks : List Nat} (h : shR[k]? = some (.inl (ci, fks))) : (ci, fks) ∈ [(0, fkR), (1, fkV), (2, fkS)] := by
  have h2 := List.mem_of_getElem? h
  have h3 : shR.all (fun c => match c with | .inl q => decide (q ∈ [(0, fkR), (1, fkV), (2, fkS)]) | _ => true) = true := by decide
  exact of_decide_eq_true (List.all_eq_true.mp h3 _ h2)
theorem shR_arr {k t n : Nat} (h : shR[k]? = some (.inr (t, n))) : t = 0 ∨ t = 2 := by
  have h2 := List.mem_of_getElem? h
  have h3 : shR.all (fun c => match c with | .inr q => decide (q.1 = 0 ∨ q.1 = 2) | _ => true) = true := by decide
  exact of_decide_eq_true (List.all_eq_true.mp h3 _ h2)
theorem tyR_ok {k t n : Nat} (h : shR[k]? = some (.inr (t, n))) : ∃ ty, (t, ty) ∈ tylR ∧ tyT t ty := by
  rcases shR_arr h with rfl | rfl
  · exact ⟨.int, by decide, rfl⟩
  · exact ⟨.byte, by decide, rfl⟩
theorem obR_0 {k : Nat} {fks : List Nat} (h : shR[k]? = some (.inl (0, fks))) : fks = fkR := by
  have h1 := shR_obj h
  simp only [List.mem_cons, List.not_mem_nil, or_false, Prod.mk.injEq] at h1
  rcases h1 with ⟨h1, h2⟩ | ⟨h1, h2⟩ | ⟨h1, h2⟩ <;> first | exact h2 | exact absurd h1 (by decide)
theorem obR_1 {k : Nat} {fks : List Nat} (h : shR[k]? = some (.inl (1, fks))) : fks = fkV := by
  have h1 := shR_obj h
  simp only [List.mem_cons, List.not_mem_nil, or_false, Prod.mk.injEq] at h1
  rcases h1 with ⟨h1, h2⟩ | ⟨h1, h2⟩ | ⟨h1, h2⟩ <;> first | exact h2 | exact absurd h1 (by decide)
theorem obR_2 {k : Nat} {fks : List Nat} (h : shR[k]? = some (.inl (2, fks))) : fks = fkS := by
  have h1 := shR_obj h
  simp only [List.mem_cons, List.not_mem_nil, or_false, Prod.mk.injEq] at h1
  rcases h1 with ⟨h1, h2⟩ | ⟨h1, h2⟩ | ⟨h1, h2⟩ <;> first | exact h2 | exact absurd h1 (by decide)
section
variable {tb : TB} {nL rt : Nat} {nxt : K0} {jmp : Int → K0} {ret : Option AV → Mm → Prop} {lv : LV} {st : List AV} {M : Mm}
theorem aR_4 {i : Int} : sem tb shR nL rt .iaload nxt jmp ret lv (ai i :: ar 4 :: st) M = ((0 ≤ i ∧ i < 3) ∧ nxt lv (ai (M 4 i.toNat) :: st) M) := id rfl
theorem wR_4 {i x : Int} : sem tb shR nL rt .iastore nxt jmp ret lv (ai x :: ai i :: ar 4 :: st) M = ((0 ≤ i ∧ i < 3) ∧ nxt lv st (up2 M 4 i.toNat x)) := id rfl
theorem aR_5 {i : Int} : sem tb shR nL rt .iaload nxt jmp ret lv (ai i :: ar 5 :: st) M = ((0 ≤ i ∧ i < 3) ∧ nxt lv (ai (M 5 i.toNat) :: st) M) := id rfl
theorem wR_5 {i x : Int} : sem tb shR nL rt .iastore nxt jmp ret lv (ai x :: ai i :: ar 5 :: st) M = ((0 ≤ i ∧ i < 3) ∧ nxt lv st (up2 M 5 i.toNat x)) := id rfl
theorem aR_6 {i : Int} : sem tb shR nL rt .iaload nxt jmp ret lv (ai i :: ar 6 :: st) M = ((0 ≤ i ∧ i < 7) ∧ nxt lv (ai (M 6 i.toNat) :: st) M) := id rfl
theorem wR_6 {i x : Int} : sem tb shR nL rt .iastore nxt jmp ret lv (ai x :: ai i :: ar 6 :: st) M = ((0 ≤ i ∧ i < 7) ∧ nxt lv st (up2 M 6 i.toNat x)) := id rfl
theorem aR_7 {i : Int} : sem tb shR nL rt .iaload nxt jmp ret lv (ai i :: ar 7 :: st) M = ((0 ≤ i ∧ i < 7) ∧ nxt lv (ai (M 7 i.toNat) :: st) M) := id rfl
theorem wR_7 {i x : Int} : sem tb shR nL rt .iastore nxt jmp ret lv (ai x :: ai i :: ar 7 :: st) M = ((0 ≤ i ∧ i < 7) ∧ nxt lv st (up2 M 7 i.toNat x)) := id rfl
theorem aR_8 {i : Int} : sem tb shR nL rt .iaload nxt jmp ret lv (ai i :: ar 8 :: st) M = ((0 ≤ i ∧ i < 5) ∧ nxt lv (ai (M 8 i.toNat) :: st) M) := id rfl
theorem wR_8 {i x : Int} : sem tb shR nL rt .iastore nxt jmp ret lv (ai x :: ai i :: ar 8 :: st) M = ((0 ≤ i ∧ i < 5) ∧ nxt lv st (up2 M 8 i.toNat x)) := id rfl
theorem aR_9 {i : Int} : sem tb shR nL rt .iaload nxt jmp ret lv (ai i :: ar 9 :: st) M = ((0 ≤ i ∧ i < 5) ∧ nxt lv (ai (M 9 i.toNat) :: st) M) := id rfl
theorem wR_9 {i x : Int} : sem tb shR nL rt .iastore nxt jmp ret lv (ai x :: ai i :: ar 9 :: st) M = ((0 ≤ i ∧ i < 5) ∧ nxt lv st (up2 M 9 i.toNat x)) := id rfl
theorem aR_10 {i : Int} : sem tb shR nL rt .iaload nxt jmp ret lv (ai i :: ar 10 :: st) M = ((0 ≤ i ∧ i < 5) ∧ nxt lv (ai (M 10 i.toNat) :: st) M) := id rfl
theorem wR_10 {i x : Int} : sem tb shR nL rt .iastore nxt jmp ret lv (ai x :: ai i :: ar 10 :: st) M = ((0 ≤ i ∧ i < 5) ∧ nxt lv st (up2 M 10 i.toNat x)) := id rfl
theorem aR_11 {i : Int} : sem tb shR nL rt .iaload nxt jmp ret lv (ai i :: ar 11 :: st) M = ((0 ≤ i ∧ i < 30) ∧ nxt lv (ai (M 11 i.toNat) :: st) M) := id rfl
theorem wR_11 {i x : Int} : sem tb shR nL rt .iastore nxt jmp ret lv (ai x :: ai i :: ar 11 :: st) M = ((0 ≤ i ∧ i < 30) ∧ nxt lv st (up2 M 11 i.toNat x)) := id rfl
theorem aR_3 {i : Int} : sem tb shR nL rt .baload nxt jmp ret lv (ai i :: ar 3 :: st) M = ((0 ≤ i ∧ i < 700) ∧ nxt lv (ai (M 3 i.toNat) :: st) M) := id rfl
end
def gTR_ : Nat → Option (Nat × Nat) := fun x => match x with
  | 19 => some (0, 0)
  | 25 => some (0, 1)
  | 41 => some (0, 2)
  | 52 => some (0, 3)
  | 62 => some (0, 4)
  | 35 => some (0, 5)
  | 3 => some (0, 6)
  | 121 => some (1, 0)
  | 125 => some (1, 1)
  | 129 => some (1, 2)
  | 187 => some (1, 3)
  | 137 => some (1, 4)
  | 165 => some (1, 5)
  | 131 => some (1, 6)
  | 183 => some (1, 7)
  | 180 => some (1, 8)
  | 155 => some (1, 10)
  | 159 => some (1, 11)
  | 168 => some (1, 12)
  | 171 => some (1, 13)
  | 134 => some (1, 14)
  | 140 => some (1, 15)
  | 146 => some (1, 16)
  | 44 => some (2, 1)
  | 15 => some (2, 2)
  | _ => none
def pTR_ : Nat → Option (Nat × Nat) := fun x => match x with
  | 41 => some (0, 2)
  | 52 => some (0, 3)
  | 62 => some (0, 4)
  | 35 => some (0, 5)
  | 121 => some (1, 0)
  | 125 => some (1, 1)
  | 129 => some (1, 2)
  | 187 => some (1, 3)
  | 137 => some (1, 4)
  | 165 => some (1, 5)
  | 131 => some (1, 6)
  | 183 => some (1, 7)
  | 180 => some (1, 8)
  | 15 => some (2, 2)
  | _ => none
def kTR_ : Nat → Option Int := fun x => match x with
  | 65 => some (99999)
  | _ => none
def lTR_ : Nat → Option Int := fun _ => none
abbrev tbR (cs : Nat → Option (Nat × Nat × Spec)) : TB := (gTR_, pTR_, kTR_, lTR_, cs)
section
variable {cs : Nat → Option (Nat × Nat × Spec)} {nL rt : Nat} {nxt : K0} {jmp : Int → K0} {ret : Option AV → Mm → Prop} {lv : LV} {st : List AV} {M : Mm}
theorem gR_19 : sem (tbR cs) shR nL rt (.getfield 19) nxt jmp ret lv (ar 0 :: st) M = nxt lv (ai (M 0 0) :: st) M := id rfl
theorem gR_25 : sem (tbR cs) shR nL rt (.getfield 25) nxt jmp ret lv (ar 0 :: st) M = nxt lv (ar 1 :: st) M := id rfl
theorem gR_41 : sem (tbR cs) shR nL rt (.getfield 41) nxt jmp ret lv (ar 0 :: st) M = nxt lv (ai (M 0 2) :: st) M := id rfl
theorem pR_41 {x : Int} : sem (tbR cs) shR nL rt (.putfield 41) nxt jmp ret lv (ai x :: ar 0 :: st) M = nxt lv st (up2 M 0 2 x) := id rfl
theorem gR_52 : sem (tbR cs) shR nL rt (.getfield 52) nxt jmp ret lv (ar 0 :: st) M = nxt lv (ai (M 0 3) :: st) M := id rfl
theorem pR_52 {x : Int} : sem (tbR cs) shR nL rt (.putfield 52) nxt jmp ret lv (ai x :: ar 0 :: st) M = nxt lv st (up2 M 0 3 x) := id rfl
theorem gR_62 : sem (tbR cs) shR nL rt (.getfield 62) nxt jmp ret lv (ar 0 :: st) M = nxt lv (ai (M 0 4) :: st) M := id rfl
theorem pR_62 {x : Int} : sem (tbR cs) shR nL rt (.putfield 62) nxt jmp ret lv (ai x :: ar 0 :: st) M = nxt lv st (up2 M 0 4 x) := id rfl
theorem gR_35 : sem (tbR cs) shR nL rt (.getfield 35) nxt jmp ret lv (ar 0 :: st) M = nxt lv (fval 2 (M 0 5) :: st) M := id rfl
theorem pR_35 {z : Nat} : sem (tbR cs) shR nL rt (.putfield 35) nxt jmp ret lv (ar z :: ar 0 :: st) M = nxt lv st (up2 M 0 5 (z : Int)) := id rfl
theorem gR_3 : sem (tbR cs) shR nL rt (.getfield 3) nxt jmp ret lv (ar 0 :: st) M = nxt lv (ar 2 :: st) M := id rfl
theorem gR_121 : sem (tbR cs) shR nL rt (.getfield 121) nxt jmp ret lv (ar 1 :: st) M = nxt lv (ai (M 1 0) :: st) M := id rfl
theorem pR_121 {x : Int} : sem (tbR cs) shR nL rt (.putfield 121) nxt jmp ret lv (ai x :: ar 1 :: st) M = nxt lv st (up2 M 1 0 x) := id rfl
theorem gR_125 : sem (tbR cs) shR nL rt (.getfield 125) nxt jmp ret lv (ar 1 :: st) M = nxt lv (ai (M 1 1) :: st) M := id rfl
theorem pR_125 {x : Int} : sem (tbR cs) shR nL rt (.putfield 125) nxt jmp ret lv (ai x :: ar 1 :: st) M = nxt lv st (up2 M 1 1 x) := id rfl
theorem gR_129 : sem (tbR cs) shR nL rt (.getfield 129) nxt jmp ret lv (ar 1 :: st) M = nxt lv (ai (M 1 2) :: st) M := id rfl
theorem pR_129 {x : Int} : sem (tbR cs) shR nL rt (.putfield 129) nxt jmp ret lv (ai x :: ar 1 :: st) M = nxt lv st (up2 M 1 2 x) := id rfl
theorem gR_187 : sem (tbR cs) shR nL rt (.getfield 187) nxt jmp ret lv (ar 1 :: st) M = nxt lv (ai (M 1 3) :: st) M := id rfl
theorem pR_187 {x : Int} : sem (tbR cs) shR nL rt (.putfield 187) nxt jmp ret lv (ai x :: ar 1 :: st) M = nxt lv st (up2 M 1 3 x) := id rfl
theorem gR_137 : sem (tbR cs) shR nL rt (.getfield 137) nxt jmp ret lv (ar 1 :: st) M = nxt lv (ai (M 1 4) :: st) M := id rfl
theorem pR_137 {x : Int} : sem (tbR cs) shR nL rt (.putfield 137) nxt jmp ret lv (ai x :: ar 1 :: st) M = nxt lv st (up2 M 1 4 x) := id rfl
theorem gR_165 : sem (tbR cs) shR nL rt (.getfield 165) nxt jmp ret lv (ar 1 :: st) M = nxt lv (ai (M 1 5) :: st) M := id rfl
theorem pR_165 {x : Int} : sem (tbR cs) shR nL rt (.putfield 165) nxt jmp ret lv (ai x :: ar 1 :: st) M = nxt lv st (up2 M 1 5 x) := id rfl
theorem gR_131 : sem (tbR cs) shR nL rt (.getfield 131) nxt jmp ret lv (ar 1 :: st) M = nxt lv (ai (M 1 6) :: st) M := id rfl
theorem pR_131 {x : Int} : sem (tbR cs) shR nL rt (.putfield 131) nxt jmp ret lv (ai x :: ar 1 :: st) M = nxt lv st (up2 M 1 6 x) := id rfl
theorem gR_183 : sem (tbR cs) shR nL rt (.getfield 183) nxt jmp ret lv (ar 1 :: st) M = nxt lv (ai (M 1 7) :: st) M := id rfl
theorem pR_183 {x : Int} : sem (tbR cs) shR nL rt (.putfield 183) nxt jmp ret lv (ai x :: ar 1 :: st) M = nxt lv st (up2 M 1 7 x) := id rfl
theorem gR_180 : sem (tbR cs) shR nL rt (.getfield 180) nxt jmp ret lv (ar 1 :: st) M = nxt lv (ai (M 1 8) :: st) M := id rfl
theorem pR_180 {x : Int} : sem (tbR cs) shR nL rt (.putfield 180) nxt jmp ret lv (ai x :: ar 1 :: st) M = nxt lv st (up2 M 1 8 x) := id rfl
theorem gR_155 : sem (tbR cs) shR nL rt (.getfield 155) nxt jmp ret lv (ar 1 :: st) M = nxt lv (ar 4 :: st) M := id rfl
theorem gR_159 : sem (tbR cs) shR nL rt (.getfield 159) nxt jmp ret lv (ar 1 :: st) M = nxt lv (ar 5 :: st) M := id rfl
theorem gR_168 : sem (tbR cs) shR nL rt (.getfield 168) nxt jmp ret lv (ar 1 :: st) M = nxt lv (ar 6 :: st) M := id rfl
theorem gR_171 : sem (tbR cs) shR nL rt (.getfield 171) nxt jmp ret lv (ar 1 :: st) M = nxt lv (ar 7 :: st) M := id rfl
theorem gR_134 : sem (tbR cs) shR nL rt (.getfield 134) nxt jmp ret lv (ar 1 :: st) M = nxt lv (ar 8 :: st) M := id rfl
theorem gR_140 : sem (tbR cs) shR nL rt (.getfield 140) nxt jmp ret lv (ar 1 :: st) M = nxt lv (ar 9 :: st) M := id rfl
theorem gR_146 : sem (tbR cs) shR nL rt (.getfield 146) nxt jmp ret lv (ar 1 :: st) M = nxt lv (ar 10 :: st) M := id rfl
theorem gR_44 : sem (tbR cs) shR nL rt (.getfield 44) nxt jmp ret lv (ar 2 :: st) M = nxt lv (ar 3 :: st) M := id rfl
theorem gR_15 : sem (tbR cs) shR nL rt (.getfield 15) nxt jmp ret lv (ar 2 :: st) M = nxt lv (ai (M 2 2) :: st) M := id rfl
theorem pR_15 {x : Int} : sem (tbR cs) shR nL rt (.putfield 15) nxt jmp ret lv (ai x :: ar 2 :: st) M = nxt lv st (up2 M 2 2 x) := id rfl
end
theorem tbGR : ∀ x ci f, gTR_ x = some (ci, f) → tbG RX8 NwsR clR x ci f := by
  intro x ci f h
  unfold gTR_ at h
  split at h
  · cases h; exact ⟨RX8, TX8, 7, rfl, by decide, in_X8, Or.inl q546⟩
  · cases h; exact ⟨RX8, TX8, 7, rfl, by decide, in_X8, Or.inl q547⟩
  · cases h; exact ⟨RX8, TX8, 7, rfl, by decide, in_X8, Or.inl q548⟩
  · cases h; exact ⟨RX8, TX8, 7, rfl, by decide, in_X8, Or.inl q549⟩
  · cases h; exact ⟨RX8, TX8, 7, rfl, by decide, in_X8, Or.inl q550⟩
  · cases h; exact ⟨RX8, TX8, 7, rfl, by decide, in_X8, Or.inl q551⟩
  · cases h; exact ⟨RX8, TX8, 7, rfl, by decide, in_X8, Or.inl q552⟩
  · cases h; exact ⟨RX1, TX1, 18, rfl, by decide, in_X1, Or.inr ⟨_, nR_q176⟩⟩
  · cases h; exact ⟨RX1, TX1, 18, rfl, by decide, in_X1, Or.inr ⟨_, nR_q179⟩⟩
  · cases h; exact ⟨RX1, TX1, 18, rfl, by decide, in_X1, Or.inr ⟨_, nR_q182⟩⟩
  · cases h; exact ⟨RX1, TX1, 18, rfl, by decide, in_X1, Or.inr ⟨_, nR_q186⟩⟩
  · cases h; exact ⟨RX1, TX1, 18, rfl, by decide, in_X1, Or.inr ⟨_, nR_q189⟩⟩
  · cases h; exact ⟨RX1, TX1, 18, rfl, by decide, in_X1, Or.inr ⟨_, nR_q192⟩⟩
  · cases h; exact ⟨RX1, TX1, 18, rfl, by decide, in_X1, Or.inr ⟨_, nR_q194⟩⟩
  · cases h; exact ⟨RX1, TX1, 18, rfl, by decide, in_X1, Or.inr ⟨_, nR_q197⟩⟩
  · cases h; exact ⟨RX1, TX1, 18, rfl, by decide, in_X1, Or.inr ⟨_, nR_q200⟩⟩
  · cases h; exact ⟨RX1, TX1, 18, rfl, by decide, in_X1, Or.inr ⟨_, nR_q205⟩⟩
  · cases h; exact ⟨RX1, TX1, 18, rfl, by decide, in_X1, Or.inr ⟨_, nR_q208⟩⟩
  · cases h; exact ⟨RX1, TX1, 18, rfl, by decide, in_X1, Or.inr ⟨_, nR_q211⟩⟩
  · cases h; exact ⟨RX1, TX1, 18, rfl, by decide, in_X1, Or.inr ⟨_, nR_q214⟩⟩
  · cases h; exact ⟨RX1, TX1, 18, rfl, by decide, in_X1, Or.inr ⟨_, nR_q217⟩⟩
  · cases h; exact ⟨RX1, TX1, 18, rfl, by decide, in_X1, Or.inr ⟨_, nR_q220⟩⟩
  · cases h; exact ⟨RX1, TX1, 18, rfl, by decide, in_X1, Or.inr ⟨_, nR_q223⟩⟩
  · cases h; exact ⟨RX0, TX0, 45, rfl, by decide, in_X0, Or.inr ⟨_, nR_q350⟩⟩
  · cases h; exact ⟨RX0, TX0, 45, rfl, by decide, in_X0, Or.inr ⟨_, nR_q352⟩⟩
  · cases h
theorem tbPR : ∀ x ci f, pTR_ x = some (ci, f) → tbP RX8 NwsR clR shR x ci f := by
  intro x ci f h
  unfold pTR_ at h
  split at h
  · cases h; exact ⟨RX8, TX8, 7, tyX8, rfl, by decide, in_X8, Or.inl q548, tyX8_ok, nmX8, rfl, fun k fks kd h1 h2 _ => by obtain rfl := obR_0 h1; cases h2; exact rfl⟩
  · cases h; exact ⟨RX8, TX8, 7, tyX8, rfl, by decide, in_X8, Or.inl q549, tyX8_ok, nmX8, rfl, fun k fks kd h1 h2 _ => by obtain rfl := obR_0 h1; cases h2; exact rfl⟩
  · cases h; exact ⟨RX8, TX8, 7, tyX8, rfl, by decide, in_X8, Or.inl q550, tyX8_ok, nmX8, rfl, fun k fks kd h1 h2 _ => by obtain rfl := obR_0 h1; cases h2; exact rfl⟩
  · cases h; exact ⟨RX8, TX8, 7, tyX8, rfl, by decide, in_X8, Or.inl q551, tyX8_ok, nmX8, rfl, fun k fks kd h1 h2 _ => by obtain rfl := obR_0 h1; cases h2; exact ⟨_, rfl⟩⟩
  · cases h; exact ⟨RX1, TX1, 18, tyX1, rfl, by decide, in_X1, Or.inr ⟨_, nR_q176⟩, tyX1_ok, nmX1, rfl, fun k fks kd h1 h2 _ => by obtain rfl := obR_1 h1; cases h2; exact rfl⟩
  · cases h; exact ⟨RX1, TX1, 18, tyX1, rfl, by decide, in_X1, Or.inr ⟨_, nR_q179⟩, tyX1_ok, nmX1, rfl, fun k fks kd h1 h2 _ => by obtain rfl := obR_1 h1; cases h2; exact rfl⟩
  · cases h; exact ⟨RX1, TX1, 18, tyX1, rfl, by decide, in_X1, Or.inr ⟨_, nR_q182⟩, tyX1_ok, nmX1, rfl, fun k fks kd h1 h2 _ => by obtain rfl := obR_1 h1; cases h2; exact rfl⟩
  · cases h; exact ⟨RX1, TX1, 18, tyX1, rfl, by decide, in_X1, Or.inr ⟨_, nR_q186⟩, tyX1_ok, nmX1, rfl, fun k fks kd h1 h2 _ => by obtain rfl := obR_1 h1; cases h2; exact rfl⟩
  · cases h; exact ⟨RX1, TX1, 18, tyX1, rfl, by decide, in_X1, Or.inr ⟨_, nR_q189⟩, tyX1_ok, nmX1, rfl, fun k fks kd h1 h2 _ => by obtain rfl := obR_1 h1; cases h2; exact rfl⟩
  · cases h; exact ⟨RX1, TX1, 18, tyX1, rfl, by decide, in_X1, Or.inr ⟨_, nR_q192⟩, tyX1_ok, nmX1, rfl, fun k fks kd h1 h2 _ => by obtain rfl := obR_1 h1; cases h2; exact rfl⟩
  · cases h; exact ⟨RX1, TX1, 18, tyX1, rfl, by decide, in_X1, Or.inr ⟨_, nR_q194⟩, tyX1_ok, nmX1, rfl, fun k fks kd h1 h2 _ => by obtain rfl := obR_1 h1; cases h2; exact rfl⟩
  · cases h; exact ⟨RX1, TX1, 18, tyX1, rfl, by decide, in_X1, Or.inr ⟨_, nR_q197⟩, tyX1_ok, nmX1, rfl, fun k fks kd h1 h2 _ => by obtain rfl := obR_1 h1; cases h2; exact rfl⟩
  · cases h; exact ⟨RX1, TX1, 18, tyX1, rfl, by decide, in_X1, Or.inr ⟨_, nR_q200⟩, tyX1_ok, nmX1, rfl, fun k fks kd h1 h2 _ => by obtain rfl := obR_1 h1; cases h2; exact rfl⟩
  · cases h; exact ⟨RX0, TX0, 45, tyX0, rfl, by decide, in_X0, Or.inr ⟨_, nR_q352⟩, tyX0_ok, nmX0, rfl, fun k fks kd h1 h2 _ => by obtain rfl := obR_2 h1; cases h2; exact rfl⟩
  · cases h
theorem tbKR : ∀ x v, kTR_ x = some v → i32 v ∧ Cond.constant RX8 x (Int32.ofInt v) ∈ lw_all := by
  intro x v h
  unfold kTR_ at h
  split at h
  · cases h; exact ⟨by unfold i32; omega, q536⟩
  · cases h
theorem kR_65 {cs : Nat → Option (Nat × Nat × Spec)} {nL rt : Nat} {nxt : K0} {jmp : Int → K0} {ret : Option AV → Mm → Prop} {lv : LV} {st : List AV} {M : Mm} : sem (tbR cs) shR nL rt (.ldc 65) nxt jmp ret lv st M = nxt lv (ai (99999) :: st) M := id rfl
theorem tbLR : ∀ x v, lTR_ x = some v → i64 v ∧ Cond.constantLong RX8 x (Int64.ofInt v) ∈ lw_all := by
  intro x v h
  cases h
theorem tbOKR (cs : Nat → Option (Nat × Nat × Spec)) : tbOK RX8 NwsR clR shR tylR (tbR cs) := ⟨tbGR, tbPR, tbKR, tbLR, fun k t n h => tyR_ok h⟩
