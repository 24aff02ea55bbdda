/-! SagMemory: its world and its tables, by wip gen/tab8.py -/
def fk0 : List Nat := [4, 15, 0, 0, 0, 16, 17, 18, 0, 9, 2, 19, 20, 21, 22, 23, 24, 25, 26, 27, 28, 29, 30, 31, 0, 0, 32, 0, 0, 0, 33, 0, 0, 0, 0, 0, 34, 35, 0, 0, 1, 1, 1, 10, 203]
def fk1 : List Nat := [0, 0, 0, 0, 0, 0, 0, 0, 0, 0, 36, 37, 38, 39, 40, 41, 42, 43]
def sb8 : List SC := [.inl (0, fk0), .inl (1, fk1), .inl (2, [3]), .inl (3, [3, 3]), .inl (4, [3, 3]), .inl (5, [3, 3, 3]), .inr (5, 4), .inr (6, 4), .inl (6, [2]), .inl (6, [2]), .inl (6, [2]), .inl (6, [2]), .inr (2, 700), .inr (0, 24), .inr (0, 24), .inr (0, 3), .inr (0, 7), .inr (0, 7), .inr (0, 7), .inr (0, 7), .inr (0, 7), .inr (0, 7), .inr (0, 7), .inr (0, 7), .inr (0, 7), .inr (0, 3), .inr (0, 168), .inr (0, 21), .inr (0, 21), .inr (0, 7), .inr (0, 128), .inr (0, 128), .inr (0, 18), .inr (0, 3), .inr (0, 3), .inr (0, 7), .inr (0, 7), .inr (0, 5), .inr (0, 5), .inr (0, 5), .inr (0, 30)]
def wT8 : Nat → Nat
  | 0 => 2
  | 1 => 4
  | 2 => 0
  | _ => 1
def sh8 (rs : List (Nat × Nat)) : List SC := sb8 ++ rs.map (fun q => .inr (wT8 q.1, q.2))
def cl8 : List vw_C := [(RX0, TX0, 45), (RX1, TX1, 18), (RX2, TX2, 1), (RX3, TX3, 2), (RX4, TX4, 2), (RX5, TX5, 3), (RX6, TX6, 1)]
def tyl8 : List (Nat × FieldType) := [(0, .int), (1, .long), (2, .byte), (4, .short), (5, .object "SagMemory$Wiping"), (6, .object "SagMemory$Slot")]
def Nnc8 : List Cond := [(Cond.not (Cond.castable "[S" "[B")), (Cond.not (Cond.castable "[I" "[B")), (Cond.not (Cond.castable "[I" "[S")), (Cond.not (Cond.castable "[J" "[B")), (Cond.not (Cond.castable "[J" "[S")), (Cond.not (Cond.castable "[J" "[I")), (Cond.not (Cond.castable "java/lang/ArrayIndexOutOfBoundsException" "java/lang/NullPointerException")), (Cond.not (Cond.castable "java/lang/ArrayStoreException" "java/lang/NullPointerException")), (Cond.not (Cond.castable "java/lang/ArrayIndexOutOfBoundsException" "java/lang/ArrayStoreException"))]
def Nws8 : List Cond := [(Jvm.Cond.methodLinkNest "SagMemory" (9 : Nat) ({ cls := "SagMemory$Valley", name := "<init>", desc := "()V" } : Jvm.MethodName) "SagMemory"), (Jvm.Cond.fieldLinkNest "SagMemory" (207 : Nat) "SagMemory$Valley" "law" "I" "SagMemory"), (Jvm.Cond.fieldLinkNest "SagMemory" (215 : Nat) "SagMemory$Valley" "frost" "I" "SagMemory"), (Jvm.Cond.fieldLinkNest "SagMemory" (430 : Nat) "SagMemory$Valley" "odds" "I" "SagMemory"), (Jvm.Cond.fieldLinkNest "SagMemory" (142 : Nat) "SagMemory$Valley" "lines" "I" "SagMemory"), (Jvm.Cond.fieldLinkNest "SagMemory" (153 : Nat) "SagMemory$Valley" "bridges" "I" "SagMemory"), (Jvm.Cond.fieldLinkNest "SagMemory" (156 : Nat) "SagMemory$Valley" "carts" "I" "SagMemory"), (Jvm.Cond.fieldLinkNest "SagMemory" (182 : Nat) "SagMemory$Valley" "wards" "I" "SagMemory"), (Jvm.Cond.fieldLinkNest "SagMemory" (200 : Nat) "SagMemory$Valley" "colds" "I" "SagMemory"), (Jvm.Cond.fieldLinkNest "SagMemory" (461 : Nat) "SagMemory$Valley" "frosts" "I" "SagMemory"), (Jvm.Cond.fieldLinkNest "SagMemory" (209 : Nat) "SagMemory$Valley" "acts" "I" "SagMemory"), (Jvm.Cond.fieldLinkNest "SagMemory" (174 : Nat) "SagMemory$Valley" "holds" "[I" "SagMemory"), (Jvm.Cond.fieldLinkNest "SagMemory" (177 : Nat) "SagMemory$Valley" "toll" "[I" "SagMemory"), (Jvm.Cond.fieldLinkNest "SagMemory" (180 : Nat) "SagMemory$Valley" "load" "[I" "SagMemory"), (Jvm.Cond.fieldLinkNest "SagMemory" (181 : Nat) "SagMemory$Valley" "by" "[I" "SagMemory"), (Jvm.Cond.fieldLinkNest "SagMemory" (185 : Nat) "SagMemory$Valley" "at" "[I" "SagMemory"), (Jvm.Cond.fieldLinkNest "SagMemory" (188 : Nat) "SagMemory$Valley" "over" "[I" "SagMemory"), (Jvm.Cond.fieldLinkNest "SagMemory" (191 : Nat) "SagMemory$Valley" "to" "[I" "SagMemory"), (Jvm.Cond.fieldLinkNest "SagMemory" (212 : Nat) "SagMemory$Valley" "act" "[I" "SagMemory"), (Jvm.Cond.methodLinkNest "SagMemory" (36 : Nat) ({ cls := "SagMemory$Wiping", name := "<init>", desc := "(LSagMemory;)V" } : Jvm.MethodName) "SagMemory"), (Jvm.Cond.methodLinkNest "SagMemory" (41 : Nat) ({ cls := "SagMemory$Lighter", name := "<init>", desc := "(LSagMemory;)V" } : Jvm.MethodName) "SagMemory"), (Jvm.Cond.methodLinkNest "SagMemory" (44 : Nat) ({ cls := "SagMemory$Half", name := "<init>", desc := "(LSagMemory;)V" } : Jvm.MethodName) "SagMemory"), (Jvm.Cond.methodLinkNest "SagMemory" (47 : Nat) ({ cls := "SagMemory$Even", name := "<init>", desc := "(LSagMemory;)V" } : Jvm.MethodName) "SagMemory"), (Jvm.Cond.methodLinkNest "SagMemory" (109 : Nat) ({ cls := "SagMemory$Slot", name := "<init>", desc := "()V" } : Jvm.MethodName) "SagMemory"), (Jvm.Cond.fieldLinkNest "SagMemory" (464 : Nat) "SagMemory$Slot" "row" "Ljava/lang/Object;" "SagMemory"), (Jvm.Cond.fieldLinkNest "SagMemory" (147 : Nat) "SagMemory$Fault" "kind" "I" "SagMemory"), (Jvm.Cond.fieldLinkNest "SagMemory" (150 : Nat) "SagMemory$Fault" "place" "I" "SagMemory"), (Jvm.Cond.fieldLinkNest "SagMemory$Wiping" (27 : Nat) "SagMemory" "kept" "[I" "SagMemory"), (Jvm.Cond.fieldLinkNest "SagMemory$Wiping" (30 : Nat) "SagMemory" "from" "[I" "SagMemory"), (Jvm.Cond.fieldLinkNest "SagMemory$Wiping" (15 : Nat) "SagMemory" "many" "[I" "SagMemory"), (Jvm.Cond.fieldLinkNest "SagMemory$Wiping" (23 : Nat) "SagMemory" "wiped" "I" "SagMemory"), (Jvm.Cond.methodLinkNest "SagMemory$Wiping" (19 : Nat) ({ cls := "SagMemory", name := "lastOf", desc := "(I)I" } : Jvm.MethodName) "SagMemory"), (Jvm.Cond.methodLinkNest "SagMemory$Lighter" (7 : Nat) ({ cls := "SagMemory$Wiping", name := "<init>", desc := "(LSagMemory;)V" } : Jvm.MethodName) "SagMemory"), (Jvm.Cond.fieldLinkNest "SagMemory$Lighter" (23 : Nat) "SagMemory" "many" "[I" "SagMemory"), (Jvm.Cond.fieldLinkNest "SagMemory$Lighter" (27 : Nat) "SagMemory" "wiped" "I" "SagMemory"), (Jvm.Cond.methodLinkNest "SagMemory$Lighter" (13 : Nat) ({ cls := "SagMemory", name := "lastOf", desc := "(I)I" } : Jvm.MethodName) "SagMemory"), (Jvm.Cond.methodLinkNest "SagMemory$Half" (7 : Nat) ({ cls := "SagMemory$Wiping", name := "<init>", desc := "(LSagMemory;)V" } : Jvm.MethodName) "SagMemory"), (Jvm.Cond.fieldLinkNest "SagMemory$Half" (13 : Nat) "SagMemory" "many" "[I" "SagMemory"), (Jvm.Cond.methodLinkNest "SagMemory$Half" (19 : Nat) ({ cls := "SagMemory", name := "lastOf", desc := "(I)I" } : Jvm.MethodName) "SagMemory"), (Jvm.Cond.methodLinkNest "SagMemory$Even" (7 : Nat) ({ cls := "SagMemory$Lighter", name := "<init>", desc := "(LSagMemory;)V" } : Jvm.MethodName) "SagMemory"), (Jvm.Cond.fieldLinkNest "SagMemory$Even" (13 : Nat) "SagMemory" "laws" "[LSagMemory$Wiping;" "SagMemory"), (Jvm.Cond.declares ({ cls := "java/lang/RuntimeException", name := "<init>", desc := "()V" } : Jvm.MethodName)), (Jvm.Cond.declares ({ cls := "java/lang/RuntimeException", name := "<init>", desc := "(Ljava/lang/String;)V" } : Jvm.MethodName)), (Jvm.Cond.castable "java/lang/RuntimeException" "java/lang/Throwable"), (Jvm.Cond.castable "java/lang/NullPointerException" "java/lang/NullPointerException"), (Jvm.Cond.castable "java/lang/NegativeArraySizeException" "java/lang/NegativeArraySizeException"), (Jvm.Cond.declares ({ cls := "java/lang/IndexOutOfBoundsException", name := "<init>", desc := "()V" } : Jvm.MethodName)), (Jvm.Cond.declares ({ cls := "java/lang/IndexOutOfBoundsException", name := "<init>", desc := "(Ljava/lang/String;)V" } : Jvm.MethodName)), (Jvm.Cond.castable "java/lang/ArrayIndexOutOfBoundsException" "java/lang/ArrayIndexOutOfBoundsException"), (Jvm.Cond.castable "java/lang/ArrayIndexOutOfBoundsException" "java/lang/IndexOutOfBoundsException"), (Jvm.Cond.castable "java/lang/ArrayStoreException" "java/lang/ArrayStoreException"), (Jvm.Cond.declares ({ cls := "java/lang/Throwable", name := "<init>", desc := "()V" } : Jvm.MethodName)), (Jvm.Cond.declares ({ cls := "java/lang/Throwable", name := "<init>", desc := "(Ljava/lang/String;)V" } : Jvm.MethodName)), (Jvm.Cond.declares ({ cls := "java/lang/Exception", name := "<init>", desc := "()V" } : Jvm.MethodName)), (Jvm.Cond.declares ({ cls := "java/lang/Exception", name := "<init>", desc := "(Ljava/lang/String;)V" } : Jvm.MethodName)), (Jvm.Cond.castable "SagMemory$Fault" "SagMemory$Fault"), (Cond.not (Cond.castable "[S" "[B")), (Cond.not (Cond.castable "[I" "[B")), (Cond.not (Cond.castable "[I" "[S")), (Cond.not (Cond.castable "[J" "[B")), (Cond.not (Cond.castable "[J" "[S")), (Cond.not (Cond.castable "[J" "[I")), (Cond.not (Cond.castable "java/lang/ArrayIndexOutOfBoundsException" "java/lang/NullPointerException")), (Cond.not (Cond.castable "java/lang/ArrayStoreException" "java/lang/NullPointerException")), (Cond.not (Cond.castable "java/lang/ArrayIndexOutOfBoundsException" "java/lang/ArrayStoreException"))]
theorem nws8_ok : ∀ w ∈ Nws8, nwOK w = true := List.all_eq_true.mp rfl
theorem nws8_tbl : ∀ w ∈ Nws8, w ∈ lw_tbl ∨ w ∈ Nnc8 := by
  intro w h
  simp only [Nws8, List.mem_cons, List.not_mem_nil, or_false] at h
  rcases h with rfl | rfl | rfl | rfl | rfl | rfl | rfl | rfl | rfl | rfl | rfl | rfl | rfl | rfl | rfl | rfl | rfl | rfl | rfl | rfl | rfl | rfl | rfl | rfl | rfl | rfl | rfl | rfl | rfl | rfl | rfl | rfl | rfl | rfl | rfl | rfl | rfl | rfl | rfl | rfl | rfl | rfl | rfl | rfl | rfl | rfl | rfl | rfl | rfl | rfl | rfl | rfl | rfl | rfl | rfl | rfl | rfl | rfl | rfl | rfl | rfl | rfl | rfl | rfl | rfl
  · exact .inl q171
  · exact .inl q177
  · exact .inl q180
  · exact .inl q183
  · exact .inl q185
  · exact .inl q188
  · exact .inl q191
  · exact .inl q195
  · exact .inl q198
  · exact .inl q201
  · exact .inl q203
  · exact .inl q206
  · exact .inl q209
  · exact .inl q212
  · exact .inl q215
  · exact .inl q218
  · exact .inl q221
  · exact .inl q224
  · exact .inl q226
  · exact .inl q268
  · exact .inl q279
  · exact .inl q290
  · exact .inl q301
  · exact .inl q314
  · exact .inl q319
  · exact .inl q705
  · exact .inl q707
  · exact .inl q356
  · exact .inl q358
  · exact .inl q360
  · exact .inl q365
  · exact .inl q851
  · exact .inl q282
  · exact .inl q362
  · exact .inl q364
  · exact .inl q854
  · exact .inl q293
  · exact .inl q361
  · exact .inl q848
  · exact .inl q304
  · exact .inl q367
  · exact .inl (lw_at lw_m4 231 rfl)
  · exact .inl (lw_at lw_m4 232 rfl)
  · exact .inl (lw_at lw_m4 234 rfl)
  · exact .inl (lw_at lw_m4 230 rfl)
  · exact .inl (lw_at lw_m6 88 rfl)
  · exact .inl (lw_at lw_m6 121 rfl)
  · exact .inl (lw_at lw_m6 122 rfl)
  · exact .inl (lw_at lw_m6 120 rfl)
  · exact .inl (lw_at lw_m9 237 rfl)
  · exact .inl (lw_at lw_m6 144 rfl)
  · exact .inl (lw_at lw_m3 39 rfl)
  · exact .inl (lw_at lw_m3 40 rfl)
  · exact .inl (lw_at lw_m3 37 rfl)
  · exact .inl (lw_at lw_m3 38 rfl)
  · exact .inl (lw_at lw_m3 36 rfl)
  · exact .inr (List.mem_of_getElem? (i := 0) rfl)
  · exact .inr (List.mem_of_getElem? (i := 1) rfl)
  · exact .inr (List.mem_of_getElem? (i := 2) rfl)
  · exact .inr (List.mem_of_getElem? (i := 3) rfl)
  · exact .inr (List.mem_of_getElem? (i := 4) rfl)
  · exact .inr (List.mem_of_getElem? (i := 5) rfl)
  · exact .inr (List.mem_of_getElem? (i := 6) rfl)
  · exact .inr (List.mem_of_getElem? (i := 7) rfl)
  · exact .inr (List.mem_of_getElem? (i := 8) rfl)
theorem nc_0 : (Cond.not (Cond.castable "[S" "[B")) ∈ Nws8 := List.mem_of_getElem? (i := 56) rfl
theorem nc_1 : (Cond.not (Cond.castable "[I" "[B")) ∈ Nws8 := List.mem_of_getElem? (i := 57) rfl
theorem nc_2 : (Cond.not (Cond.castable "[I" "[S")) ∈ Nws8 := List.mem_of_getElem? (i := 58) rfl
theorem nc_3 : (Cond.not (Cond.castable "[J" "[B")) ∈ Nws8 := List.mem_of_getElem? (i := 59) rfl
theorem nc_4 : (Cond.not (Cond.castable "[J" "[S")) ∈ Nws8 := List.mem_of_getElem? (i := 60) rfl
theorem nc_5 : (Cond.not (Cond.castable "[J" "[I")) ∈ Nws8 := List.mem_of_getElem? (i := 61) rfl
theorem nc_6 : (Cond.not (Cond.castable "java/lang/ArrayIndexOutOfBoundsException" "java/lang/NullPointerException")) ∈ Nws8 := List.mem_of_getElem? (i := 62) rfl
theorem nc_7 : (Cond.not (Cond.castable "java/lang/ArrayStoreException" "java/lang/NullPointerException")) ∈ Nws8 := List.mem_of_getElem? (i := 63) rfl
theorem nc_8 : (Cond.not (Cond.castable "java/lang/ArrayIndexOutOfBoundsException" "java/lang/ArrayStoreException")) ∈ Nws8 := List.mem_of_getElem? (i := 64) rfl
theorem n_q171 : (Jvm.Cond.methodLinkNest "SagMemory" (9 : Nat) ({ cls := "SagMemory$Valley", name := "<init>", desc := "()V" } : Jvm.MethodName) "SagMemory") ∈ Nws8 := List.mem_of_getElem? (i := 0) rfl
theorem n_q177 : (Jvm.Cond.fieldLinkNest "SagMemory" (207 : Nat) "SagMemory$Valley" "law" "I" "SagMemory") ∈ Nws8 := List.mem_of_getElem? (i := 1) rfl
theorem n_q180 : (Jvm.Cond.fieldLinkNest "SagMemory" (215 : Nat) "SagMemory$Valley" "frost" "I" "SagMemory") ∈ Nws8 := List.mem_of_getElem? (i := 2) rfl
theorem n_q183 : (Jvm.Cond.fieldLinkNest "SagMemory" (430 : Nat) "SagMemory$Valley" "odds" "I" "SagMemory") ∈ Nws8 := List.mem_of_getElem? (i := 3) rfl
theorem n_q185 : (Jvm.Cond.fieldLinkNest "SagMemory" (142 : Nat) "SagMemory$Valley" "lines" "I" "SagMemory") ∈ Nws8 := List.mem_of_getElem? (i := 4) rfl
theorem n_q188 : (Jvm.Cond.fieldLinkNest "SagMemory" (153 : Nat) "SagMemory$Valley" "bridges" "I" "SagMemory") ∈ Nws8 := List.mem_of_getElem? (i := 5) rfl
theorem n_q191 : (Jvm.Cond.fieldLinkNest "SagMemory" (156 : Nat) "SagMemory$Valley" "carts" "I" "SagMemory") ∈ Nws8 := List.mem_of_getElem? (i := 6) rfl
theorem n_q195 : (Jvm.Cond.fieldLinkNest "SagMemory" (182 : Nat) "SagMemory$Valley" "wards" "I" "SagMemory") ∈ Nws8 := List.mem_of_getElem? (i := 7) rfl
theorem n_q198 : (Jvm.Cond.fieldLinkNest "SagMemory" (200 : Nat) "SagMemory$Valley" "colds" "I" "SagMemory") ∈ Nws8 := List.mem_of_getElem? (i := 8) rfl
theorem n_q201 : (Jvm.Cond.fieldLinkNest "SagMemory" (461 : Nat) "SagMemory$Valley" "frosts" "I" "SagMemory") ∈ Nws8 := List.mem_of_getElem? (i := 9) rfl
theorem n_q203 : (Jvm.Cond.fieldLinkNest "SagMemory" (209 : Nat) "SagMemory$Valley" "acts" "I" "SagMemory") ∈ Nws8 := List.mem_of_getElem? (i := 10) rfl
theorem n_q206 : (Jvm.Cond.fieldLinkNest "SagMemory" (174 : Nat) "SagMemory$Valley" "holds" "[I" "SagMemory") ∈ Nws8 := List.mem_of_getElem? (i := 11) rfl
theorem n_q209 : (Jvm.Cond.fieldLinkNest "SagMemory" (177 : Nat) "SagMemory$Valley" "toll" "[I" "SagMemory") ∈ Nws8 := List.mem_of_getElem? (i := 12) rfl
theorem n_q212 : (Jvm.Cond.fieldLinkNest "SagMemory" (180 : Nat) "SagMemory$Valley" "load" "[I" "SagMemory") ∈ Nws8 := List.mem_of_getElem? (i := 13) rfl
theorem n_q215 : (Jvm.Cond.fieldLinkNest "SagMemory" (181 : Nat) "SagMemory$Valley" "by" "[I" "SagMemory") ∈ Nws8 := List.mem_of_getElem? (i := 14) rfl
theorem n_q218 : (Jvm.Cond.fieldLinkNest "SagMemory" (185 : Nat) "SagMemory$Valley" "at" "[I" "SagMemory") ∈ Nws8 := List.mem_of_getElem? (i := 15) rfl
theorem n_q221 : (Jvm.Cond.fieldLinkNest "SagMemory" (188 : Nat) "SagMemory$Valley" "over" "[I" "SagMemory") ∈ Nws8 := List.mem_of_getElem? (i := 16) rfl
theorem n_q224 : (Jvm.Cond.fieldLinkNest "SagMemory" (191 : Nat) "SagMemory$Valley" "to" "[I" "SagMemory") ∈ Nws8 := List.mem_of_getElem? (i := 17) rfl
theorem n_q226 : (Jvm.Cond.fieldLinkNest "SagMemory" (212 : Nat) "SagMemory$Valley" "act" "[I" "SagMemory") ∈ Nws8 := List.mem_of_getElem? (i := 18) rfl
theorem n_q268 : (Jvm.Cond.methodLinkNest "SagMemory" (36 : Nat) ({ cls := "SagMemory$Wiping", name := "<init>", desc := "(LSagMemory;)V" } : Jvm.MethodName) "SagMemory") ∈ Nws8 := List.mem_of_getElem? (i := 19) rfl
theorem n_q279 : (Jvm.Cond.methodLinkNest "SagMemory" (41 : Nat) ({ cls := "SagMemory$Lighter", name := "<init>", desc := "(LSagMemory;)V" } : Jvm.MethodName) "SagMemory") ∈ Nws8 := List.mem_of_getElem? (i := 20) rfl
theorem n_q290 : (Jvm.Cond.methodLinkNest "SagMemory" (44 : Nat) ({ cls := "SagMemory$Half", name := "<init>", desc := "(LSagMemory;)V" } : Jvm.MethodName) "SagMemory") ∈ Nws8 := List.mem_of_getElem? (i := 21) rfl
theorem n_q301 : (Jvm.Cond.methodLinkNest "SagMemory" (47 : Nat) ({ cls := "SagMemory$Even", name := "<init>", desc := "(LSagMemory;)V" } : Jvm.MethodName) "SagMemory") ∈ Nws8 := List.mem_of_getElem? (i := 22) rfl
theorem n_q314 : (Jvm.Cond.methodLinkNest "SagMemory" (109 : Nat) ({ cls := "SagMemory$Slot", name := "<init>", desc := "()V" } : Jvm.MethodName) "SagMemory") ∈ Nws8 := List.mem_of_getElem? (i := 23) rfl
theorem n_q319 : (Jvm.Cond.fieldLinkNest "SagMemory" (464 : Nat) "SagMemory$Slot" "row" "Ljava/lang/Object;" "SagMemory") ∈ Nws8 := List.mem_of_getElem? (i := 24) rfl
theorem n_q705 : (Jvm.Cond.fieldLinkNest "SagMemory" (147 : Nat) "SagMemory$Fault" "kind" "I" "SagMemory") ∈ Nws8 := List.mem_of_getElem? (i := 25) rfl
theorem n_q707 : (Jvm.Cond.fieldLinkNest "SagMemory" (150 : Nat) "SagMemory$Fault" "place" "I" "SagMemory") ∈ Nws8 := List.mem_of_getElem? (i := 26) rfl
theorem n_q356 : (Jvm.Cond.fieldLinkNest "SagMemory$Wiping" (27 : Nat) "SagMemory" "kept" "[I" "SagMemory") ∈ Nws8 := List.mem_of_getElem? (i := 27) rfl
theorem n_q358 : (Jvm.Cond.fieldLinkNest "SagMemory$Wiping" (30 : Nat) "SagMemory" "from" "[I" "SagMemory") ∈ Nws8 := List.mem_of_getElem? (i := 28) rfl
theorem n_q360 : (Jvm.Cond.fieldLinkNest "SagMemory$Wiping" (15 : Nat) "SagMemory" "many" "[I" "SagMemory") ∈ Nws8 := List.mem_of_getElem? (i := 29) rfl
theorem n_q365 : (Jvm.Cond.fieldLinkNest "SagMemory$Wiping" (23 : Nat) "SagMemory" "wiped" "I" "SagMemory") ∈ Nws8 := List.mem_of_getElem? (i := 30) rfl
theorem n_q851 : (Jvm.Cond.methodLinkNest "SagMemory$Wiping" (19 : Nat) ({ cls := "SagMemory", name := "lastOf", desc := "(I)I" } : Jvm.MethodName) "SagMemory") ∈ Nws8 := List.mem_of_getElem? (i := 31) rfl
theorem n_q282 : (Jvm.Cond.methodLinkNest "SagMemory$Lighter" (7 : Nat) ({ cls := "SagMemory$Wiping", name := "<init>", desc := "(LSagMemory;)V" } : Jvm.MethodName) "SagMemory") ∈ Nws8 := List.mem_of_getElem? (i := 32) rfl
theorem n_q362 : (Jvm.Cond.fieldLinkNest "SagMemory$Lighter" (23 : Nat) "SagMemory" "many" "[I" "SagMemory") ∈ Nws8 := List.mem_of_getElem? (i := 33) rfl
theorem n_q364 : (Jvm.Cond.fieldLinkNest "SagMemory$Lighter" (27 : Nat) "SagMemory" "wiped" "I" "SagMemory") ∈ Nws8 := List.mem_of_getElem? (i := 34) rfl
theorem n_q854 : (Jvm.Cond.methodLinkNest "SagMemory$Lighter" (13 : Nat) ({ cls := "SagMemory", name := "lastOf", desc := "(I)I" } : Jvm.MethodName) "SagMemory") ∈ Nws8 := List.mem_of_getElem? (i := 35) rfl
theorem n_q293 : (Jvm.Cond.methodLinkNest "SagMemory$Half" (7 : Nat) ({ cls := "SagMemory$Wiping", name := "<init>", desc := "(LSagMemory;)V" } : Jvm.MethodName) "SagMemory") ∈ Nws8 := List.mem_of_getElem? (i := 36) rfl
theorem n_q361 : (Jvm.Cond.fieldLinkNest "SagMemory$Half" (13 : Nat) "SagMemory" "many" "[I" "SagMemory") ∈ Nws8 := List.mem_of_getElem? (i := 37) rfl
theorem n_q848 : (Jvm.Cond.methodLinkNest "SagMemory$Half" (19 : Nat) ({ cls := "SagMemory", name := "lastOf", desc := "(I)I" } : Jvm.MethodName) "SagMemory") ∈ Nws8 := List.mem_of_getElem? (i := 38) rfl
theorem n_q304 : (Jvm.Cond.methodLinkNest "SagMemory$Even" (7 : Nat) ({ cls := "SagMemory$Lighter", name := "<init>", desc := "(LSagMemory;)V" } : Jvm.MethodName) "SagMemory") ∈ Nws8 := List.mem_of_getElem? (i := 39) rfl
theorem n_q367 : (Jvm.Cond.fieldLinkNest "SagMemory$Even" (13 : Nat) "SagMemory" "laws" "[LSagMemory$Wiping;" "SagMemory") ∈ Nws8 := List.mem_of_getElem? (i := 40) rfl
theorem n_q1078 : (Jvm.Cond.declares ({ cls := "java/lang/RuntimeException", name := "<init>", desc := "()V" } : Jvm.MethodName)) ∈ Nws8 := List.mem_of_getElem? (i := 41) rfl
theorem n_q1079 : (Jvm.Cond.declares ({ cls := "java/lang/RuntimeException", name := "<init>", desc := "(Ljava/lang/String;)V" } : Jvm.MethodName)) ∈ Nws8 := List.mem_of_getElem? (i := 42) rfl
theorem n_q1081 : (Jvm.Cond.castable "java/lang/RuntimeException" "java/lang/Throwable") ∈ Nws8 := List.mem_of_getElem? (i := 43) rfl
theorem n_q1077 : (Jvm.Cond.castable "java/lang/NullPointerException" "java/lang/NullPointerException") ∈ Nws8 := List.mem_of_getElem? (i := 44) rfl
theorem n_q1415 : (Jvm.Cond.castable "java/lang/NegativeArraySizeException" "java/lang/NegativeArraySizeException") ∈ Nws8 := List.mem_of_getElem? (i := 45) rfl
theorem n_q1448 : (Jvm.Cond.declares ({ cls := "java/lang/IndexOutOfBoundsException", name := "<init>", desc := "()V" } : Jvm.MethodName)) ∈ Nws8 := List.mem_of_getElem? (i := 46) rfl
theorem n_q1449 : (Jvm.Cond.declares ({ cls := "java/lang/IndexOutOfBoundsException", name := "<init>", desc := "(Ljava/lang/String;)V" } : Jvm.MethodName)) ∈ Nws8 := List.mem_of_getElem? (i := 47) rfl
theorem n_q1447 : (Jvm.Cond.castable "java/lang/ArrayIndexOutOfBoundsException" "java/lang/ArrayIndexOutOfBoundsException") ∈ Nws8 := List.mem_of_getElem? (i := 48) rfl
theorem n_q2284 : (Jvm.Cond.castable "java/lang/ArrayIndexOutOfBoundsException" "java/lang/IndexOutOfBoundsException") ∈ Nws8 := List.mem_of_getElem? (i := 49) rfl
theorem n_q1471 : (Jvm.Cond.castable "java/lang/ArrayStoreException" "java/lang/ArrayStoreException") ∈ Nws8 := List.mem_of_getElem? (i := 50) rfl
theorem n_q646 : (Jvm.Cond.declares ({ cls := "java/lang/Throwable", name := "<init>", desc := "()V" } : Jvm.MethodName)) ∈ Nws8 := List.mem_of_getElem? (i := 51) rfl
theorem n_q647 : (Jvm.Cond.declares ({ cls := "java/lang/Throwable", name := "<init>", desc := "(Ljava/lang/String;)V" } : Jvm.MethodName)) ∈ Nws8 := List.mem_of_getElem? (i := 52) rfl
theorem n_q644 : (Jvm.Cond.declares ({ cls := "java/lang/Exception", name := "<init>", desc := "()V" } : Jvm.MethodName)) ∈ Nws8 := List.mem_of_getElem? (i := 53) rfl
theorem n_q645 : (Jvm.Cond.declares ({ cls := "java/lang/Exception", name := "<init>", desc := "(Ljava/lang/String;)V" } : Jvm.MethodName)) ∈ Nws8 := List.mem_of_getElem? (i := 54) rfl
theorem n_q643 : (Jvm.Cond.castable "SagMemory$Fault" "SagMemory$Fault") ∈ Nws8 := List.mem_of_getElem? (i := 55) rfl
theorem sh8_obj {rs : List (Nat × Nat)} {k ci : Nat} {fks : List Nat} (h : (sh8 rs)[k]? = some (.inl (ci, fks))) : sb8[k]? = some (.inl (ci, fks)) := by
  unfold sh8 at h
  rw [List.getElem?_append] at h
  split at h
  · exact h
  · rw [List.getElem?_map] at h
    cases hr : rs[k - sb8.length]? with
    | none => rw [hr] at h; cases h
    | some q => rw [hr] at h; cases h
theorem sb8_obj {k ci : Nat} {fks : List Nat} (h : sb8[k]? = some (.inl (ci, fks))) : (ci, fks) ∈ [(0, fk0), (1, fk1), (2, [3]), (3, [3, 3]), (4, [3, 3]), (5, [3, 3, 3]), (6, [2])] := by
  have h2 := List.mem_of_getElem? h
  have h3 : sb8.all (fun c => match c with | .inl q => decide (q ∈ [(0, fk0), (1, fk1), (2, [3]), (3, [3, 3]), (4, [3, 3]), (5, [3, 3, 3]), (6, [2])]) | _ => true) = true := by decide
  exact of_decide_eq_true (List.all_eq_true.mp h3 _ h2)
theorem ob8_0 {k : Nat} {fks : List Nat} (h : sb8[k]? = some (.inl (0, fks))) : fks = fk0 := by
  have h1 := sb8_obj h
  simp only [List.mem_cons, List.not_mem_nil, or_false, Prod.mk.injEq] at h1
  rcases h1 with ⟨h1, h2⟩ | ⟨h1, h2⟩ | ⟨h1, h2⟩ | ⟨h1, h2⟩ | ⟨h1, h2⟩ | ⟨h1, h2⟩ | ⟨h1, h2⟩ <;> first | exact h2 | exact absurd h1 (by decide)
theorem ob8_1 {k : Nat} {fks : List Nat} (h : sb8[k]? = some (.inl (1, fks))) : fks = fk1 := by
  have h1 := sb8_obj h
  simp only [List.mem_cons, List.not_mem_nil, or_false, Prod.mk.injEq] at h1
  rcases h1 with ⟨h1, h2⟩ | ⟨h1, h2⟩ | ⟨h1, h2⟩ | ⟨h1, h2⟩ | ⟨h1, h2⟩ | ⟨h1, h2⟩ | ⟨h1, h2⟩ <;> first | exact h2 | exact absurd h1 (by decide)
theorem sb8_arr {k t n : Nat} (h : sb8[k]? = some (.inr (t, n))) : t = 0 ∨ t = 2 ∨ t = 5 ∨ t = 6 := by
  have h2 := List.mem_of_getElem? h
  have h3 : sb8.all (fun c => match c with | .inr q => decide (q.1 = 0 ∨ q.1 = 2 ∨ q.1 = 5 ∨ q.1 = 6) | _ => true) = true := by decide
  exact of_decide_eq_true (List.all_eq_true.mp h3 _ h2)
theorem sh8_arr {rs : List (Nat × Nat)} {k t n : Nat} (h : (sh8 rs)[k]? = some (.inr (t, n))) : t = 0 ∨ t = 1 ∨ t = 2 ∨ t = 4 ∨ t = 5 ∨ t = 6 := by
  unfold sh8 at h
  rw [List.getElem?_append] at h
  split at h
  · have := sb8_arr h; omega
  · rw [List.getElem?_map] at h
    cases hr : rs[k - sb8.length]? with
    | none => rw [hr] at h; cases h
    | some q =>
      rw [hr] at h
      obtain ⟨w, m⟩ := q
      cases h
      rcases w with _ | _ | _ | w
      · right; right; left; rfl
      · right; right; right; left; rfl
      · left; rfl
      · right; left; rfl
theorem ty8_ok {rs : List (Nat × Nat)} {k t n : Nat} (h : (sh8 rs)[k]? = some (.inr (t, n))) : ∃ ty, (t, ty) ∈ tyl8 ∧ tyT t ty := by
  rcases sh8_arr h with rfl | rfl | rfl | rfl | rfl | rfl
  · exact ⟨.int, by decide, rfl⟩
  · exact ⟨.long, by decide, rfl⟩
  · exact ⟨.byte, by decide, rfl⟩
  · exact ⟨.short, by decide, rfl⟩
  · exact ⟨.object "SagMemory$Wiping", by decide, _, rfl⟩
  · exact ⟨.object "SagMemory$Slot", by decide, _, rfl⟩
section
variable {rs : List (Nat × Nat)} {tb : TB} {nL rt : Nat} {nxt : K0} {jmp : Int → K0} {ret : Option AV → Mm → Prop} {lv : LV} {st : List AV} {M : Mm}
theorem a8_13 {i : Int} : sem tb (sh8 rs) nL rt .iaload nxt jmp ret lv (ai i :: ar 13 :: st) M = ((0 ≤ i ∧ i < 24) ∧ nxt lv (ai (M 13 i.toNat) :: st) M) := rfl
theorem w8_13 {i x : Int} : sem tb (sh8 rs) nL rt .iastore nxt jmp ret lv (ai x :: ai i :: ar 13 :: st) M = ((0 ≤ i ∧ i < 24) ∧ nxt lv st (up2 M 13 i.toNat x)) := id rfl
theorem a8_14 {i : Int} : sem tb (sh8 rs) nL rt .iaload nxt jmp ret lv (ai i :: ar 14 :: st) M = ((0 ≤ i ∧ i < 24) ∧ nxt lv (ai (M 14 i.toNat) :: st) M) := rfl
theorem w8_14 {i x : Int} : sem tb (sh8 rs) nL rt .iastore nxt jmp ret lv (ai x :: ai i :: ar 14 :: st) M = ((0 ≤ i ∧ i < 24) ∧ nxt lv st (up2 M 14 i.toNat x)) := id rfl
theorem a8_15 {i : Int} : sem tb (sh8 rs) nL rt .iaload nxt jmp ret lv (ai i :: ar 15 :: st) M = ((0 ≤ i ∧ i < 3) ∧ nxt lv (ai (M 15 i.toNat) :: st) M) := rfl
theorem w8_15 {i x : Int} : sem tb (sh8 rs) nL rt .iastore nxt jmp ret lv (ai x :: ai i :: ar 15 :: st) M = ((0 ≤ i ∧ i < 3) ∧ nxt lv st (up2 M 15 i.toNat x)) := id rfl
theorem a8_16 {i : Int} : sem tb (sh8 rs) nL rt .iaload nxt jmp ret lv (ai i :: ar 16 :: st) M = ((0 ≤ i ∧ i < 7) ∧ nxt lv (ai (M 16 i.toNat) :: st) M) := rfl
theorem w8_16 {i x : Int} : sem tb (sh8 rs) nL rt .iastore nxt jmp ret lv (ai x :: ai i :: ar 16 :: st) M = ((0 ≤ i ∧ i < 7) ∧ nxt lv st (up2 M 16 i.toNat x)) := id rfl
theorem a8_17 {i : Int} : sem tb (sh8 rs) nL rt .iaload nxt jmp ret lv (ai i :: ar 17 :: st) M = ((0 ≤ i ∧ i < 7) ∧ nxt lv (ai (M 17 i.toNat) :: st) M) := rfl
theorem w8_17 {i x : Int} : sem tb (sh8 rs) nL rt .iastore nxt jmp ret lv (ai x :: ai i :: ar 17 :: st) M = ((0 ≤ i ∧ i < 7) ∧ nxt lv st (up2 M 17 i.toNat x)) := id rfl
theorem a8_18 {i : Int} : sem tb (sh8 rs) nL rt .iaload nxt jmp ret lv (ai i :: ar 18 :: st) M = ((0 ≤ i ∧ i < 7) ∧ nxt lv (ai (M 18 i.toNat) :: st) M) := rfl
theorem w8_18 {i x : Int} : sem tb (sh8 rs) nL rt .iastore nxt jmp ret lv (ai x :: ai i :: ar 18 :: st) M = ((0 ≤ i ∧ i < 7) ∧ nxt lv st (up2 M 18 i.toNat x)) := id rfl
theorem a8_19 {i : Int} : sem tb (sh8 rs) nL rt .iaload nxt jmp ret lv (ai i :: ar 19 :: st) M = ((0 ≤ i ∧ i < 7) ∧ nxt lv (ai (M 19 i.toNat) :: st) M) := rfl
theorem w8_19 {i x : Int} : sem tb (sh8 rs) nL rt .iastore nxt jmp ret lv (ai x :: ai i :: ar 19 :: st) M = ((0 ≤ i ∧ i < 7) ∧ nxt lv st (up2 M 19 i.toNat x)) := id rfl
theorem a8_20 {i : Int} : sem tb (sh8 rs) nL rt .iaload nxt jmp ret lv (ai i :: ar 20 :: st) M = ((0 ≤ i ∧ i < 7) ∧ nxt lv (ai (M 20 i.toNat) :: st) M) := rfl
theorem w8_20 {i x : Int} : sem tb (sh8 rs) nL rt .iastore nxt jmp ret lv (ai x :: ai i :: ar 20 :: st) M = ((0 ≤ i ∧ i < 7) ∧ nxt lv st (up2 M 20 i.toNat x)) := id rfl
theorem a8_21 {i : Int} : sem tb (sh8 rs) nL rt .iaload nxt jmp ret lv (ai i :: ar 21 :: st) M = ((0 ≤ i ∧ i < 7) ∧ nxt lv (ai (M 21 i.toNat) :: st) M) := rfl
theorem w8_21 {i x : Int} : sem tb (sh8 rs) nL rt .iastore nxt jmp ret lv (ai x :: ai i :: ar 21 :: st) M = ((0 ≤ i ∧ i < 7) ∧ nxt lv st (up2 M 21 i.toNat x)) := id rfl
theorem a8_22 {i : Int} : sem tb (sh8 rs) nL rt .iaload nxt jmp ret lv (ai i :: ar 22 :: st) M = ((0 ≤ i ∧ i < 7) ∧ nxt lv (ai (M 22 i.toNat) :: st) M) := rfl
theorem w8_22 {i x : Int} : sem tb (sh8 rs) nL rt .iastore nxt jmp ret lv (ai x :: ai i :: ar 22 :: st) M = ((0 ≤ i ∧ i < 7) ∧ nxt lv st (up2 M 22 i.toNat x)) := id rfl
theorem a8_23 {i : Int} : sem tb (sh8 rs) nL rt .iaload nxt jmp ret lv (ai i :: ar 23 :: st) M = ((0 ≤ i ∧ i < 7) ∧ nxt lv (ai (M 23 i.toNat) :: st) M) := rfl
theorem w8_23 {i x : Int} : sem tb (sh8 rs) nL rt .iastore nxt jmp ret lv (ai x :: ai i :: ar 23 :: st) M = ((0 ≤ i ∧ i < 7) ∧ nxt lv st (up2 M 23 i.toNat x)) := id rfl
theorem a8_24 {i : Int} : sem tb (sh8 rs) nL rt .iaload nxt jmp ret lv (ai i :: ar 24 :: st) M = ((0 ≤ i ∧ i < 7) ∧ nxt lv (ai (M 24 i.toNat) :: st) M) := rfl
theorem w8_24 {i x : Int} : sem tb (sh8 rs) nL rt .iastore nxt jmp ret lv (ai x :: ai i :: ar 24 :: st) M = ((0 ≤ i ∧ i < 7) ∧ nxt lv st (up2 M 24 i.toNat x)) := id rfl
theorem a8_25 {i : Int} : sem tb (sh8 rs) nL rt .iaload nxt jmp ret lv (ai i :: ar 25 :: st) M = ((0 ≤ i ∧ i < 3) ∧ nxt lv (ai (M 25 i.toNat) :: st) M) := rfl
theorem w8_25 {i x : Int} : sem tb (sh8 rs) nL rt .iastore nxt jmp ret lv (ai x :: ai i :: ar 25 :: st) M = ((0 ≤ i ∧ i < 3) ∧ nxt lv st (up2 M 25 i.toNat x)) := id rfl
theorem a8_26 {i : Int} : sem tb (sh8 rs) nL rt .iaload nxt jmp ret lv (ai i :: ar 26 :: st) M = ((0 ≤ i ∧ i < 168) ∧ nxt lv (ai (M 26 i.toNat) :: st) M) := rfl
theorem w8_26 {i x : Int} : sem tb (sh8 rs) nL rt .iastore nxt jmp ret lv (ai x :: ai i :: ar 26 :: st) M = ((0 ≤ i ∧ i < 168) ∧ nxt lv st (up2 M 26 i.toNat x)) := id rfl
theorem a8_27 {i : Int} : sem tb (sh8 rs) nL rt .iaload nxt jmp ret lv (ai i :: ar 27 :: st) M = ((0 ≤ i ∧ i < 21) ∧ nxt lv (ai (M 27 i.toNat) :: st) M) := rfl
theorem w8_27 {i x : Int} : sem tb (sh8 rs) nL rt .iastore nxt jmp ret lv (ai x :: ai i :: ar 27 :: st) M = ((0 ≤ i ∧ i < 21) ∧ nxt lv st (up2 M 27 i.toNat x)) := id rfl
theorem a8_28 {i : Int} : sem tb (sh8 rs) nL rt .iaload nxt jmp ret lv (ai i :: ar 28 :: st) M = ((0 ≤ i ∧ i < 21) ∧ nxt lv (ai (M 28 i.toNat) :: st) M) := rfl
theorem w8_28 {i x : Int} : sem tb (sh8 rs) nL rt .iastore nxt jmp ret lv (ai x :: ai i :: ar 28 :: st) M = ((0 ≤ i ∧ i < 21) ∧ nxt lv st (up2 M 28 i.toNat x)) := id rfl
theorem a8_29 {i : Int} : sem tb (sh8 rs) nL rt .iaload nxt jmp ret lv (ai i :: ar 29 :: st) M = ((0 ≤ i ∧ i < 7) ∧ nxt lv (ai (M 29 i.toNat) :: st) M) := rfl
theorem w8_29 {i x : Int} : sem tb (sh8 rs) nL rt .iastore nxt jmp ret lv (ai x :: ai i :: ar 29 :: st) M = ((0 ≤ i ∧ i < 7) ∧ nxt lv st (up2 M 29 i.toNat x)) := id rfl
theorem a8_30 {i : Int} : sem tb (sh8 rs) nL rt .iaload nxt jmp ret lv (ai i :: ar 30 :: st) M = ((0 ≤ i ∧ i < 128) ∧ nxt lv (ai (M 30 i.toNat) :: st) M) := rfl
theorem w8_30 {i x : Int} : sem tb (sh8 rs) nL rt .iastore nxt jmp ret lv (ai x :: ai i :: ar 30 :: st) M = ((0 ≤ i ∧ i < 128) ∧ nxt lv st (up2 M 30 i.toNat x)) := id rfl
theorem a8_31 {i : Int} : sem tb (sh8 rs) nL rt .iaload nxt jmp ret lv (ai i :: ar 31 :: st) M = ((0 ≤ i ∧ i < 128) ∧ nxt lv (ai (M 31 i.toNat) :: st) M) := rfl
theorem w8_31 {i x : Int} : sem tb (sh8 rs) nL rt .iastore nxt jmp ret lv (ai x :: ai i :: ar 31 :: st) M = ((0 ≤ i ∧ i < 128) ∧ nxt lv st (up2 M 31 i.toNat x)) := id rfl
theorem a8_32 {i : Int} : sem tb (sh8 rs) nL rt .iaload nxt jmp ret lv (ai i :: ar 32 :: st) M = ((0 ≤ i ∧ i < 18) ∧ nxt lv (ai (M 32 i.toNat) :: st) M) := rfl
theorem w8_32 {i x : Int} : sem tb (sh8 rs) nL rt .iastore nxt jmp ret lv (ai x :: ai i :: ar 32 :: st) M = ((0 ≤ i ∧ i < 18) ∧ nxt lv st (up2 M 32 i.toNat x)) := id rfl
theorem a8_33 {i : Int} : sem tb (sh8 rs) nL rt .iaload nxt jmp ret lv (ai i :: ar 33 :: st) M = ((0 ≤ i ∧ i < 3) ∧ nxt lv (ai (M 33 i.toNat) :: st) M) := rfl
theorem w8_33 {i x : Int} : sem tb (sh8 rs) nL rt .iastore nxt jmp ret lv (ai x :: ai i :: ar 33 :: st) M = ((0 ≤ i ∧ i < 3) ∧ nxt lv st (up2 M 33 i.toNat x)) := id rfl
theorem a8_34 {i : Int} : sem tb (sh8 rs) nL rt .iaload nxt jmp ret lv (ai i :: ar 34 :: st) M = ((0 ≤ i ∧ i < 3) ∧ nxt lv (ai (M 34 i.toNat) :: st) M) := rfl
theorem w8_34 {i x : Int} : sem tb (sh8 rs) nL rt .iastore nxt jmp ret lv (ai x :: ai i :: ar 34 :: st) M = ((0 ≤ i ∧ i < 3) ∧ nxt lv st (up2 M 34 i.toNat x)) := id rfl
theorem a8_35 {i : Int} : sem tb (sh8 rs) nL rt .iaload nxt jmp ret lv (ai i :: ar 35 :: st) M = ((0 ≤ i ∧ i < 7) ∧ nxt lv (ai (M 35 i.toNat) :: st) M) := rfl
theorem w8_35 {i x : Int} : sem tb (sh8 rs) nL rt .iastore nxt jmp ret lv (ai x :: ai i :: ar 35 :: st) M = ((0 ≤ i ∧ i < 7) ∧ nxt lv st (up2 M 35 i.toNat x)) := id rfl
theorem a8_36 {i : Int} : sem tb (sh8 rs) nL rt .iaload nxt jmp ret lv (ai i :: ar 36 :: st) M = ((0 ≤ i ∧ i < 7) ∧ nxt lv (ai (M 36 i.toNat) :: st) M) := rfl
theorem w8_36 {i x : Int} : sem tb (sh8 rs) nL rt .iastore nxt jmp ret lv (ai x :: ai i :: ar 36 :: st) M = ((0 ≤ i ∧ i < 7) ∧ nxt lv st (up2 M 36 i.toNat x)) := id rfl
theorem a8_37 {i : Int} : sem tb (sh8 rs) nL rt .iaload nxt jmp ret lv (ai i :: ar 37 :: st) M = ((0 ≤ i ∧ i < 5) ∧ nxt lv (ai (M 37 i.toNat) :: st) M) := rfl
theorem w8_37 {i x : Int} : sem tb (sh8 rs) nL rt .iastore nxt jmp ret lv (ai x :: ai i :: ar 37 :: st) M = ((0 ≤ i ∧ i < 5) ∧ nxt lv st (up2 M 37 i.toNat x)) := id rfl
theorem a8_38 {i : Int} : sem tb (sh8 rs) nL rt .iaload nxt jmp ret lv (ai i :: ar 38 :: st) M = ((0 ≤ i ∧ i < 5) ∧ nxt lv (ai (M 38 i.toNat) :: st) M) := rfl
theorem w8_38 {i x : Int} : sem tb (sh8 rs) nL rt .iastore nxt jmp ret lv (ai x :: ai i :: ar 38 :: st) M = ((0 ≤ i ∧ i < 5) ∧ nxt lv st (up2 M 38 i.toNat x)) := id rfl
theorem a8_39 {i : Int} : sem tb (sh8 rs) nL rt .iaload nxt jmp ret lv (ai i :: ar 39 :: st) M = ((0 ≤ i ∧ i < 5) ∧ nxt lv (ai (M 39 i.toNat) :: st) M) := rfl
theorem w8_39 {i x : Int} : sem tb (sh8 rs) nL rt .iastore nxt jmp ret lv (ai x :: ai i :: ar 39 :: st) M = ((0 ≤ i ∧ i < 5) ∧ nxt lv st (up2 M 39 i.toNat x)) := id rfl
theorem a8_40 {i : Int} : sem tb (sh8 rs) nL rt .iaload nxt jmp ret lv (ai i :: ar 40 :: st) M = ((0 ≤ i ∧ i < 30) ∧ nxt lv (ai (M 40 i.toNat) :: st) M) := rfl
theorem w8_40 {i x : Int} : sem tb (sh8 rs) nL rt .iastore nxt jmp ret lv (ai x :: ai i :: ar 40 :: st) M = ((0 ≤ i ∧ i < 30) ∧ nxt lv st (up2 M 40 i.toNat x)) := id rfl
theorem a8_12 {i : Int} : sem tb (sh8 rs) nL rt .baload nxt jmp ret lv (ai i :: ar 12 :: st) M = ((0 ≤ i ∧ i < 700) ∧ nxt lv (ai (M 12 i.toNat) :: st) M) := rfl
theorem w8_12 {i x : Int} : sem tb (sh8 rs) nL rt .bastore nxt jmp ret lv (ai x :: ai i :: ar 12 :: st) M = ((0 ≤ i ∧ i < 700) ∧ (-128 ≤ x ∧ x ≤ 127) ∧ nxt lv st (up2 M 12 i.toNat x)) := id rfl
theorem a8_6 {i : Int} : sem tb (sh8 rs) nL rt .aaload nxt jmp ret lv (ai i :: ar 6 :: st) M = ((0 ≤ i ∧ i < 4) ∧ nxt lv (fval 2 (M 6 i.toNat) :: st) M) := rfl
theorem a8_7 {i : Int} : sem tb (sh8 rs) nL rt .aaload nxt jmp ret lv (ai i :: ar 7 :: st) M = ((0 ≤ i ∧ i < 4) ∧ nxt lv (fval 2 (M 7 i.toNat) :: st) M) := rfl
end
def gT0_ : Nat → Option (Nat × Nat) := fun x => match x with
  | 10 => some (0, 0)
  | 16 => some (0, 1)
  | 121 => some (0, 2)
  | 139 => some (0, 3)
  | 20 => some (0, 4)
  | 24 => some (0, 5)
  | 28 => some (0, 6)
  | 31 => some (0, 7)
  | 231 => some (0, 8)
  | 48 => some (0, 9)
  | 52 => some (0, 10)
  | 56 => some (0, 11)
  | 59 => some (0, 12)
  | 62 => some (0, 13)
  | 65 => some (0, 14)
  | 68 => some (0, 15)
  | 71 => some (0, 16)
  | 74 => some (0, 17)
  | 77 => some (0, 18)
  | 80 => some (0, 19)
  | 83 => some (0, 20)
  | 86 => some (0, 21)
  | 89 => some (0, 22)
  | 92 => some (0, 23)
  | 203 => some (0, 24)
  | 204 => some (0, 25)
  | 95 => some (0, 26)
  | 285 => some (0, 27)
  | 288 => some (0, 28)
  | 291 => some (0, 29)
  | 98 => some (0, 30)
  | 333 => some (0, 31)
  | 350 => some (0, 32)
  | 361 => some (0, 33)
  | 364 => some (0, 34)
  | 367 => some (0, 35)
  | 101 => some (0, 36)
  | 104 => some (0, 37)
  | 408 => some (0, 38)
  | 411 => some (0, 39)
  | 420 => some (0, 40)
  | 424 => some (0, 41)
  | 427 => some (0, 42)
  | 110 => some (0, 43)
  | 117 => some (0, 44)
  | 207 => some (1, 0)
  | 215 => some (1, 1)
  | 430 => some (1, 2)
  | 142 => some (1, 3)
  | 153 => some (1, 4)
  | 156 => some (1, 5)
  | 182 => some (1, 6)
  | 200 => some (1, 7)
  | 461 => some (1, 8)
  | 209 => some (1, 9)
  | 174 => some (1, 10)
  | 177 => some (1, 11)
  | 180 => some (1, 12)
  | 181 => some (1, 13)
  | 185 => some (1, 14)
  | 188 => some (1, 15)
  | 191 => some (1, 16)
  | 212 => some (1, 17)
  | 464 => some (6, 0)
  | _ => none
def pT0_ : Nat → Option (Nat × Nat) := fun x => match x with
  | 121 => some (0, 2)
  | 139 => some (0, 3)
  | 20 => some (0, 4)
  | 231 => some (0, 8)
  | 52 => some (0, 10)
  | 203 => some (0, 24)
  | 204 => some (0, 25)
  | 285 => some (0, 27)
  | 288 => some (0, 28)
  | 291 => some (0, 29)
  | 333 => some (0, 31)
  | 350 => some (0, 32)
  | 361 => some (0, 33)
  | 364 => some (0, 34)
  | 367 => some (0, 35)
  | 408 => some (0, 38)
  | 411 => some (0, 39)
  | 420 => some (0, 40)
  | 424 => some (0, 41)
  | 427 => some (0, 42)
  | 207 => some (1, 0)
  | 215 => some (1, 1)
  | 430 => some (1, 2)
  | 142 => some (1, 3)
  | 153 => some (1, 4)
  | 156 => some (1, 5)
  | 182 => some (1, 6)
  | 200 => some (1, 7)
  | 461 => some (1, 8)
  | 209 => some (1, 9)
  | _ => none
def kT0_ : Nat → Option Int := fun x => match x with
  | 284 => some (1000000000)
  | _ => none
def lT0_ : Nat → Option Int := fun x => match x with
  | 163 => some (3)
  | 356 => some (999)
  | 436 => some (-2)
  | 165 => some (2000000000)
  | 438 => some (1103515245)
  | 440 => some (12345)
  | 442 => some (2147483648)
  | 444 => some (65536)
  | 446 => some (10)
  | 455 => some (20)
  | 459 => some (300)
  | 467 => some (2)
  | _ => none
abbrev tb0 (cs : Nat → Option (Nat × Nat × Spec)) : TB := (gT0_, pT0_, kT0_, lT0_, cs)
section
variable {rs : List (Nat × Nat)} {cs : Nat → Option (Nat × Nat × Spec)} {nL rt : Nat} {nxt : K0} {jmp : Int → K0} {ret : Option AV → Mm → Prop} {lv : LV} {st : List AV} {M : Mm}
theorem g0_10 : sem (tb0 cs) (sh8 rs) nL rt (.getfield 10) nxt jmp ret lv (ar 0 :: st) M = nxt lv (ar 1 :: st) M := rfl
theorem g0_16 : sem (tb0 cs) (sh8 rs) nL rt (.getfield 16) nxt jmp ret lv (ar 0 :: st) M = nxt lv (ar 12 :: st) M := rfl
theorem g0_121 : sem (tb0 cs) (sh8 rs) nL rt (.getfield 121) nxt jmp ret lv (ar 0 :: st) M = nxt lv (ai (M 0 2) :: st) M := rfl
theorem p0_121 {x : Int} : sem (tb0 cs) (sh8 rs) nL rt (.putfield 121) nxt jmp ret lv (ai x :: ar 0 :: st) M = nxt lv st (up2 M 0 2 x) := id rfl
theorem g0_139 : sem (tb0 cs) (sh8 rs) nL rt (.getfield 139) nxt jmp ret lv (ar 0 :: st) M = nxt lv (ai (M 0 3) :: st) M := rfl
theorem p0_139 {x : Int} : sem (tb0 cs) (sh8 rs) nL rt (.putfield 139) nxt jmp ret lv (ai x :: ar 0 :: st) M = nxt lv st (up2 M 0 3 x) := id rfl
theorem g0_20 : sem (tb0 cs) (sh8 rs) nL rt (.getfield 20) nxt jmp ret lv (ar 0 :: st) M = nxt lv (ai (M 0 4) :: st) M := rfl
theorem p0_20 {x : Int} : sem (tb0 cs) (sh8 rs) nL rt (.putfield 20) nxt jmp ret lv (ai x :: ar 0 :: st) M = nxt lv st (up2 M 0 4 x) := id rfl
theorem g0_24 : sem (tb0 cs) (sh8 rs) nL rt (.getfield 24) nxt jmp ret lv (ar 0 :: st) M = nxt lv (ar 13 :: st) M := rfl
theorem g0_28 : sem (tb0 cs) (sh8 rs) nL rt (.getfield 28) nxt jmp ret lv (ar 0 :: st) M = nxt lv (ar 14 :: st) M := rfl
theorem g0_31 : sem (tb0 cs) (sh8 rs) nL rt (.getfield 31) nxt jmp ret lv (ar 0 :: st) M = nxt lv (ar 15 :: st) M := rfl
theorem g0_231 : sem (tb0 cs) (sh8 rs) nL rt (.getfield 231) nxt jmp ret lv (ar 0 :: st) M = nxt lv (ai (M 0 8) :: st) M := rfl
theorem p0_231 {x : Int} : sem (tb0 cs) (sh8 rs) nL rt (.putfield 231) nxt jmp ret lv (ai x :: ar 0 :: st) M = nxt lv st (up2 M 0 8 x) := id rfl
theorem g0_48 : sem (tb0 cs) (sh8 rs) nL rt (.getfield 48) nxt jmp ret lv (ar 0 :: st) M = nxt lv (ar 6 :: st) M := rfl
theorem g0_52 : sem (tb0 cs) (sh8 rs) nL rt (.getfield 52) nxt jmp ret lv (ar 0 :: st) M = nxt lv (fval 2 (M 0 10) :: st) M := rfl
theorem p0_52 {z : Nat} : sem (tb0 cs) (sh8 rs) nL rt (.putfield 52) nxt jmp ret lv (ar z :: ar 0 :: st) M = nxt lv st (up2 M 0 10 (z : Int)) := id rfl
theorem g0_56 : sem (tb0 cs) (sh8 rs) nL rt (.getfield 56) nxt jmp ret lv (ar 0 :: st) M = nxt lv (ar 16 :: st) M := rfl
theorem g0_59 : sem (tb0 cs) (sh8 rs) nL rt (.getfield 59) nxt jmp ret lv (ar 0 :: st) M = nxt lv (ar 17 :: st) M := rfl
theorem g0_62 : sem (tb0 cs) (sh8 rs) nL rt (.getfield 62) nxt jmp ret lv (ar 0 :: st) M = nxt lv (ar 18 :: st) M := rfl
theorem g0_65 : sem (tb0 cs) (sh8 rs) nL rt (.getfield 65) nxt jmp ret lv (ar 0 :: st) M = nxt lv (ar 19 :: st) M := rfl
theorem g0_68 : sem (tb0 cs) (sh8 rs) nL rt (.getfield 68) nxt jmp ret lv (ar 0 :: st) M = nxt lv (ar 20 :: st) M := rfl
theorem g0_71 : sem (tb0 cs) (sh8 rs) nL rt (.getfield 71) nxt jmp ret lv (ar 0 :: st) M = nxt lv (ar 21 :: st) M := rfl
theorem g0_74 : sem (tb0 cs) (sh8 rs) nL rt (.getfield 74) nxt jmp ret lv (ar 0 :: st) M = nxt lv (ar 22 :: st) M := rfl
theorem g0_77 : sem (tb0 cs) (sh8 rs) nL rt (.getfield 77) nxt jmp ret lv (ar 0 :: st) M = nxt lv (ar 23 :: st) M := rfl
theorem g0_80 : sem (tb0 cs) (sh8 rs) nL rt (.getfield 80) nxt jmp ret lv (ar 0 :: st) M = nxt lv (ar 24 :: st) M := rfl
theorem g0_83 : sem (tb0 cs) (sh8 rs) nL rt (.getfield 83) nxt jmp ret lv (ar 0 :: st) M = nxt lv (ar 25 :: st) M := rfl
theorem g0_86 : sem (tb0 cs) (sh8 rs) nL rt (.getfield 86) nxt jmp ret lv (ar 0 :: st) M = nxt lv (ar 26 :: st) M := rfl
theorem g0_89 : sem (tb0 cs) (sh8 rs) nL rt (.getfield 89) nxt jmp ret lv (ar 0 :: st) M = nxt lv (ar 27 :: st) M := rfl
theorem g0_92 : sem (tb0 cs) (sh8 rs) nL rt (.getfield 92) nxt jmp ret lv (ar 0 :: st) M = nxt lv (ar 28 :: st) M := rfl
theorem g0_203 : sem (tb0 cs) (sh8 rs) nL rt (.getfield 203) nxt jmp ret lv (ar 0 :: st) M = nxt lv (ai (M 0 24) :: st) M := rfl
theorem p0_203 {x : Int} : sem (tb0 cs) (sh8 rs) nL rt (.putfield 203) nxt jmp ret lv (ai x :: ar 0 :: st) M = nxt lv st (up2 M 0 24 x) := id rfl
theorem g0_204 : sem (tb0 cs) (sh8 rs) nL rt (.getfield 204) nxt jmp ret lv (ar 0 :: st) M = nxt lv (ai (M 0 25) :: st) M := rfl
theorem p0_204 {x : Int} : sem (tb0 cs) (sh8 rs) nL rt (.putfield 204) nxt jmp ret lv (ai x :: ar 0 :: st) M = nxt lv st (up2 M 0 25 x) := id rfl
theorem g0_95 : sem (tb0 cs) (sh8 rs) nL rt (.getfield 95) nxt jmp ret lv (ar 0 :: st) M = nxt lv (ar 29 :: st) M := rfl
theorem g0_285 : sem (tb0 cs) (sh8 rs) nL rt (.getfield 285) nxt jmp ret lv (ar 0 :: st) M = nxt lv (ai (M 0 27) :: st) M := rfl
theorem p0_285 {x : Int} : sem (tb0 cs) (sh8 rs) nL rt (.putfield 285) nxt jmp ret lv (ai x :: ar 0 :: st) M = nxt lv st (up2 M 0 27 x) := id rfl
theorem g0_288 : sem (tb0 cs) (sh8 rs) nL rt (.getfield 288) nxt jmp ret lv (ar 0 :: st) M = nxt lv (ai (M 0 28) :: st) M := rfl
theorem p0_288 {x : Int} : sem (tb0 cs) (sh8 rs) nL rt (.putfield 288) nxt jmp ret lv (ai x :: ar 0 :: st) M = nxt lv st (up2 M 0 28 x) := id rfl
theorem g0_291 : sem (tb0 cs) (sh8 rs) nL rt (.getfield 291) nxt jmp ret lv (ar 0 :: st) M = nxt lv (ai (M 0 29) :: st) M := rfl
theorem p0_291 {x : Int} : sem (tb0 cs) (sh8 rs) nL rt (.putfield 291) nxt jmp ret lv (ai x :: ar 0 :: st) M = nxt lv st (up2 M 0 29 x) := id rfl
theorem g0_98 : sem (tb0 cs) (sh8 rs) nL rt (.getfield 98) nxt jmp ret lv (ar 0 :: st) M = nxt lv (ar 30 :: st) M := rfl
theorem g0_333 : sem (tb0 cs) (sh8 rs) nL rt (.getfield 333) nxt jmp ret lv (ar 0 :: st) M = nxt lv (ai (M 0 31) :: st) M := rfl
theorem p0_333 {x : Int} : sem (tb0 cs) (sh8 rs) nL rt (.putfield 333) nxt jmp ret lv (ai x :: ar 0 :: st) M = nxt lv st (up2 M 0 31 x) := id rfl
theorem g0_350 : sem (tb0 cs) (sh8 rs) nL rt (.getfield 350) nxt jmp ret lv (ar 0 :: st) M = nxt lv (ai (M 0 32) :: st) M := rfl
theorem p0_350 {x : Int} : sem (tb0 cs) (sh8 rs) nL rt (.putfield 350) nxt jmp ret lv (ai x :: ar 0 :: st) M = nxt lv st (up2 M 0 32 x) := id rfl
theorem g0_361 : sem (tb0 cs) (sh8 rs) nL rt (.getfield 361) nxt jmp ret lv (ar 0 :: st) M = nxt lv (ai (M 0 33) :: st) M := rfl
theorem p0_361 {x : Int} : sem (tb0 cs) (sh8 rs) nL rt (.putfield 361) nxt jmp ret lv (ai x :: ar 0 :: st) M = nxt lv st (up2 M 0 33 x) := id rfl
theorem g0_364 : sem (tb0 cs) (sh8 rs) nL rt (.getfield 364) nxt jmp ret lv (ar 0 :: st) M = nxt lv (ai (M 0 34) :: st) M := rfl
theorem p0_364 {x : Int} : sem (tb0 cs) (sh8 rs) nL rt (.putfield 364) nxt jmp ret lv (ai x :: ar 0 :: st) M = nxt lv st (up2 M 0 34 x) := id rfl
theorem g0_367 : sem (tb0 cs) (sh8 rs) nL rt (.getfield 367) nxt jmp ret lv (ar 0 :: st) M = nxt lv (ai (M 0 35) :: st) M := rfl
theorem p0_367 {x : Int} : sem (tb0 cs) (sh8 rs) nL rt (.putfield 367) nxt jmp ret lv (ai x :: ar 0 :: st) M = nxt lv st (up2 M 0 35 x) := id rfl
theorem g0_101 : sem (tb0 cs) (sh8 rs) nL rt (.getfield 101) nxt jmp ret lv (ar 0 :: st) M = nxt lv (ar 31 :: st) M := rfl
theorem g0_104 : sem (tb0 cs) (sh8 rs) nL rt (.getfield 104) nxt jmp ret lv (ar 0 :: st) M = nxt lv (ar 32 :: st) M := rfl
theorem g0_408 : sem (tb0 cs) (sh8 rs) nL rt (.getfield 408) nxt jmp ret lv (ar 0 :: st) M = nxt lv (ai (M 0 38) :: st) M := rfl
theorem p0_408 {x : Int} : sem (tb0 cs) (sh8 rs) nL rt (.putfield 408) nxt jmp ret lv (ai x :: ar 0 :: st) M = nxt lv st (up2 M 0 38 x) := id rfl
theorem g0_411 : sem (tb0 cs) (sh8 rs) nL rt (.getfield 411) nxt jmp ret lv (ar 0 :: st) M = nxt lv (ai (M 0 39) :: st) M := rfl
theorem p0_411 {x : Int} : sem (tb0 cs) (sh8 rs) nL rt (.putfield 411) nxt jmp ret lv (ai x :: ar 0 :: st) M = nxt lv st (up2 M 0 39 x) := id rfl
theorem g0_420 : sem (tb0 cs) (sh8 rs) nL rt (.getfield 420) nxt jmp ret lv (ar 0 :: st) M = nxt lv (al (M 0 40) :: st) M := rfl
theorem p0_420 {x : Int} : sem (tb0 cs) (sh8 rs) nL rt (.putfield 420) nxt jmp ret lv (al x :: ar 0 :: st) M = nxt lv st (up2 M 0 40 x) := id rfl
theorem g0_424 : sem (tb0 cs) (sh8 rs) nL rt (.getfield 424) nxt jmp ret lv (ar 0 :: st) M = nxt lv (al (M 0 41) :: st) M := rfl
theorem p0_424 {x : Int} : sem (tb0 cs) (sh8 rs) nL rt (.putfield 424) nxt jmp ret lv (al x :: ar 0 :: st) M = nxt lv st (up2 M 0 41 x) := id rfl
theorem g0_427 : sem (tb0 cs) (sh8 rs) nL rt (.getfield 427) nxt jmp ret lv (ar 0 :: st) M = nxt lv (al (M 0 42) :: st) M := rfl
theorem p0_427 {x : Int} : sem (tb0 cs) (sh8 rs) nL rt (.putfield 427) nxt jmp ret lv (al x :: ar 0 :: st) M = nxt lv st (up2 M 0 42 x) := id rfl
theorem g0_110 : sem (tb0 cs) (sh8 rs) nL rt (.getfield 110) nxt jmp ret lv (ar 0 :: st) M = nxt lv (ar 7 :: st) M := rfl
theorem g0_117 : sem (tb0 cs) (sh8 rs) nL rt (.getfield 117) nxt jmp ret lv (ar 0 :: st) M = nxt lv (ar 200 :: st) M := rfl
theorem g0_207 : sem (tb0 cs) (sh8 rs) nL rt (.getfield 207) nxt jmp ret lv (ar 1 :: st) M = nxt lv (ai (M 1 0) :: st) M := rfl
theorem p0_207 {x : Int} : sem (tb0 cs) (sh8 rs) nL rt (.putfield 207) nxt jmp ret lv (ai x :: ar 1 :: st) M = nxt lv st (up2 M 1 0 x) := id rfl
theorem g0_215 : sem (tb0 cs) (sh8 rs) nL rt (.getfield 215) nxt jmp ret lv (ar 1 :: st) M = nxt lv (ai (M 1 1) :: st) M := rfl
theorem p0_215 {x : Int} : sem (tb0 cs) (sh8 rs) nL rt (.putfield 215) nxt jmp ret lv (ai x :: ar 1 :: st) M = nxt lv st (up2 M 1 1 x) := id rfl
theorem g0_430 : sem (tb0 cs) (sh8 rs) nL rt (.getfield 430) nxt jmp ret lv (ar 1 :: st) M = nxt lv (ai (M 1 2) :: st) M := rfl
theorem p0_430 {x : Int} : sem (tb0 cs) (sh8 rs) nL rt (.putfield 430) nxt jmp ret lv (ai x :: ar 1 :: st) M = nxt lv st (up2 M 1 2 x) := id rfl
theorem g0_142 : sem (tb0 cs) (sh8 rs) nL rt (.getfield 142) nxt jmp ret lv (ar 1 :: st) M = nxt lv (ai (M 1 3) :: st) M := rfl
theorem p0_142 {x : Int} : sem (tb0 cs) (sh8 rs) nL rt (.putfield 142) nxt jmp ret lv (ai x :: ar 1 :: st) M = nxt lv st (up2 M 1 3 x) := id rfl
theorem g0_153 : sem (tb0 cs) (sh8 rs) nL rt (.getfield 153) nxt jmp ret lv (ar 1 :: st) M = nxt lv (ai (M 1 4) :: st) M := rfl
theorem p0_153 {x : Int} : sem (tb0 cs) (sh8 rs) nL rt (.putfield 153) nxt jmp ret lv (ai x :: ar 1 :: st) M = nxt lv st (up2 M 1 4 x) := id rfl
theorem g0_156 : sem (tb0 cs) (sh8 rs) nL rt (.getfield 156) nxt jmp ret lv (ar 1 :: st) M = nxt lv (ai (M 1 5) :: st) M := rfl
theorem p0_156 {x : Int} : sem (tb0 cs) (sh8 rs) nL rt (.putfield 156) nxt jmp ret lv (ai x :: ar 1 :: st) M = nxt lv st (up2 M 1 5 x) := id rfl
theorem g0_182 : sem (tb0 cs) (sh8 rs) nL rt (.getfield 182) nxt jmp ret lv (ar 1 :: st) M = nxt lv (ai (M 1 6) :: st) M := rfl
theorem p0_182 {x : Int} : sem (tb0 cs) (sh8 rs) nL rt (.putfield 182) nxt jmp ret lv (ai x :: ar 1 :: st) M = nxt lv st (up2 M 1 6 x) := id rfl
theorem g0_200 : sem (tb0 cs) (sh8 rs) nL rt (.getfield 200) nxt jmp ret lv (ar 1 :: st) M = nxt lv (ai (M 1 7) :: st) M := rfl
theorem p0_200 {x : Int} : sem (tb0 cs) (sh8 rs) nL rt (.putfield 200) nxt jmp ret lv (ai x :: ar 1 :: st) M = nxt lv st (up2 M 1 7 x) := id rfl
theorem g0_461 : sem (tb0 cs) (sh8 rs) nL rt (.getfield 461) nxt jmp ret lv (ar 1 :: st) M = nxt lv (ai (M 1 8) :: st) M := rfl
theorem p0_461 {x : Int} : sem (tb0 cs) (sh8 rs) nL rt (.putfield 461) nxt jmp ret lv (ai x :: ar 1 :: st) M = nxt lv st (up2 M 1 8 x) := id rfl
theorem g0_209 : sem (tb0 cs) (sh8 rs) nL rt (.getfield 209) nxt jmp ret lv (ar 1 :: st) M = nxt lv (ai (M 1 9) :: st) M := rfl
theorem p0_209 {x : Int} : sem (tb0 cs) (sh8 rs) nL rt (.putfield 209) nxt jmp ret lv (ai x :: ar 1 :: st) M = nxt lv st (up2 M 1 9 x) := id rfl
theorem g0_174 : sem (tb0 cs) (sh8 rs) nL rt (.getfield 174) nxt jmp ret lv (ar 1 :: st) M = nxt lv (ar 33 :: st) M := rfl
theorem g0_177 : sem (tb0 cs) (sh8 rs) nL rt (.getfield 177) nxt jmp ret lv (ar 1 :: st) M = nxt lv (ar 34 :: st) M := rfl
theorem g0_180 : sem (tb0 cs) (sh8 rs) nL rt (.getfield 180) nxt jmp ret lv (ar 1 :: st) M = nxt lv (ar 35 :: st) M := rfl
theorem g0_181 : sem (tb0 cs) (sh8 rs) nL rt (.getfield 181) nxt jmp ret lv (ar 1 :: st) M = nxt lv (ar 36 :: st) M := rfl
theorem g0_185 : sem (tb0 cs) (sh8 rs) nL rt (.getfield 185) nxt jmp ret lv (ar 1 :: st) M = nxt lv (ar 37 :: st) M := rfl
theorem g0_188 : sem (tb0 cs) (sh8 rs) nL rt (.getfield 188) nxt jmp ret lv (ar 1 :: st) M = nxt lv (ar 38 :: st) M := rfl
theorem g0_191 : sem (tb0 cs) (sh8 rs) nL rt (.getfield 191) nxt jmp ret lv (ar 1 :: st) M = nxt lv (ar 39 :: st) M := rfl
theorem g0_212 : sem (tb0 cs) (sh8 rs) nL rt (.getfield 212) nxt jmp ret lv (ar 1 :: st) M = nxt lv (ar 40 :: st) M := rfl
theorem g0_4648 : sem (tb0 cs) (sh8 rs) nL rt (.getfield 464) nxt jmp ret lv (ar 8 :: st) M = nxt lv (fval 2 (M 8 0) :: st) M := rfl
theorem g0_4649 : sem (tb0 cs) (sh8 rs) nL rt (.getfield 464) nxt jmp ret lv (ar 9 :: st) M = nxt lv (fval 2 (M 9 0) :: st) M := rfl
theorem g0_46410 : sem (tb0 cs) (sh8 rs) nL rt (.getfield 464) nxt jmp ret lv (ar 10 :: st) M = nxt lv (fval 2 (M 10 0) :: st) M := rfl
theorem g0_46411 : sem (tb0 cs) (sh8 rs) nL rt (.getfield 464) nxt jmp ret lv (ar 11 :: st) M = nxt lv (fval 2 (M 11 0) :: st) M := rfl
theorem k0_284 : sem (tb0 cs) (sh8 rs) nL rt (.ldc_w 284) nxt jmp ret lv st M = nxt lv (ai (1000000000) :: st) M := rfl
theorem k0_163 : sem (tb0 cs) (sh8 rs) nL rt (.ldc2_w 163) nxt jmp ret lv st M = nxt lv (al (3) :: st) M := rfl
theorem k0_356 : sem (tb0 cs) (sh8 rs) nL rt (.ldc2_w 356) nxt jmp ret lv st M = nxt lv (al (999) :: st) M := rfl
theorem k0_436 : sem (tb0 cs) (sh8 rs) nL rt (.ldc2_w 436) nxt jmp ret lv st M = nxt lv (al (-2) :: st) M := rfl
theorem k0_165 : sem (tb0 cs) (sh8 rs) nL rt (.ldc2_w 165) nxt jmp ret lv st M = nxt lv (al (2000000000) :: st) M := rfl
theorem k0_438 : sem (tb0 cs) (sh8 rs) nL rt (.ldc2_w 438) nxt jmp ret lv st M = nxt lv (al (1103515245) :: st) M := rfl
theorem k0_440 : sem (tb0 cs) (sh8 rs) nL rt (.ldc2_w 440) nxt jmp ret lv st M = nxt lv (al (12345) :: st) M := rfl
theorem k0_442 : sem (tb0 cs) (sh8 rs) nL rt (.ldc2_w 442) nxt jmp ret lv st M = nxt lv (al (2147483648) :: st) M := rfl
theorem k0_444 : sem (tb0 cs) (sh8 rs) nL rt (.ldc2_w 444) nxt jmp ret lv st M = nxt lv (al (65536) :: st) M := rfl
theorem k0_446 : sem (tb0 cs) (sh8 rs) nL rt (.ldc2_w 446) nxt jmp ret lv st M = nxt lv (al (10) :: st) M := rfl
theorem k0_455 : sem (tb0 cs) (sh8 rs) nL rt (.ldc2_w 455) nxt jmp ret lv st M = nxt lv (al (20) :: st) M := rfl
theorem k0_459 : sem (tb0 cs) (sh8 rs) nL rt (.ldc2_w 459) nxt jmp ret lv st M = nxt lv (al (300) :: st) M := rfl
theorem k0_467 : sem (tb0 cs) (sh8 rs) nL rt (.ldc2_w 467) nxt jmp ret lv st M = nxt lv (al (2) :: st) M := rfl
end
theorem tbG0 : ∀ x ci f, gT0_ x = some (ci, f) → tbG RX0 Nws8 cl8 x ci f := by
  intro x ci f h
  unfold gT0_ at h
  split at h
  · cases h; exact ⟨RX0, TX0, 45, rfl, by decide, in_X0, Or.inl q349⟩
  · cases h; exact ⟨RX0, TX0, 45, rfl, by decide, in_X0, Or.inl q351⟩
  · cases h; exact ⟨RX0, TX0, 45, rfl, by decide, in_X0, Or.inl q353⟩
  · cases h; exact ⟨RX0, TX0, 45, rfl, by decide, in_X0, Or.inl q354⟩
  · cases h; exact ⟨RX0, TX0, 45, rfl, by decide, in_X0, Or.inl q355⟩
  · cases h; exact ⟨RX0, TX0, 45, rfl, by decide, in_X0, Or.inl q357⟩
  · cases h; exact ⟨RX0, TX0, 45, rfl, by decide, in_X0, Or.inl q359⟩
  · cases h; exact ⟨RX0, TX0, 45, rfl, by decide, in_X0, Or.inl q363⟩
  · cases h; exact ⟨RX0, TX0, 45, rfl, by decide, in_X0, Or.inl q366⟩
  · cases h; exact ⟨RX0, TX0, 45, rfl, by decide, in_X0, Or.inl q368⟩
  · cases h; exact ⟨RX0, TX0, 45, rfl, by decide, in_X0, Or.inl q369⟩
  · cases h; exact ⟨RX0, TX0, 45, rfl, by decide, in_X0, Or.inl q370⟩
  · cases h; exact ⟨RX0, TX0, 45, rfl, by decide, in_X0, Or.inl q371⟩
  · cases h; exact ⟨RX0, TX0, 45, rfl, by decide, in_X0, Or.inl q372⟩
  · cases h; exact ⟨RX0, TX0, 45, rfl, by decide, in_X0, Or.inl q373⟩
  · cases h; exact ⟨RX0, TX0, 45, rfl, by decide, in_X0, Or.inl q374⟩
  · cases h; exact ⟨RX0, TX0, 45, rfl, by decide, in_X0, Or.inl q375⟩
  · cases h; exact ⟨RX0, TX0, 45, rfl, by decide, in_X0, Or.inl q376⟩
  · cases h; exact ⟨RX0, TX0, 45, rfl, by decide, in_X0, Or.inl q377⟩
  · cases h; exact ⟨RX0, TX0, 45, rfl, by decide, in_X0, Or.inl q378⟩
  · cases h; exact ⟨RX0, TX0, 45, rfl, by decide, in_X0, Or.inl q379⟩
  · cases h; exact ⟨RX0, TX0, 45, rfl, by decide, in_X0, Or.inl q380⟩
  · cases h; exact ⟨RX0, TX0, 45, rfl, by decide, in_X0, Or.inl q381⟩
  · cases h; exact ⟨RX0, TX0, 45, rfl, by decide, in_X0, Or.inl q382⟩
  · cases h; exact ⟨RX0, TX0, 45, rfl, by decide, in_X0, Or.inl q383⟩
  · cases h; exact ⟨RX0, TX0, 45, rfl, by decide, in_X0, Or.inl q384⟩
  · cases h; exact ⟨RX0, TX0, 45, rfl, by decide, in_X0, Or.inl q385⟩
  · cases h; exact ⟨RX0, TX0, 45, rfl, by decide, in_X0, Or.inl q386⟩
  · cases h; exact ⟨RX0, TX0, 45, rfl, by decide, in_X0, Or.inl q387⟩
  · cases h; exact ⟨RX0, TX0, 45, rfl, by decide, in_X0, Or.inl q388⟩
  · cases h; exact ⟨RX0, TX0, 45, rfl, by decide, in_X0, Or.inl q389⟩
  · cases h; exact ⟨RX0, TX0, 45, rfl, by decide, in_X0, Or.inl q390⟩
  · cases h; exact ⟨RX0, TX0, 45, rfl, by decide, in_X0, Or.inl q391⟩
  · cases h; exact ⟨RX0, TX0, 45, rfl, by decide, in_X0, Or.inl q392⟩
  · cases h; exact ⟨RX0, TX0, 45, rfl, by decide, in_X0, Or.inl q393⟩
  · cases h; exact ⟨RX0, TX0, 45, rfl, by decide, in_X0, Or.inl q394⟩
  · cases h; exact ⟨RX0, TX0, 45, rfl, by decide, in_X0, Or.inl q395⟩
  · cases h; exact ⟨RX0, TX0, 45, rfl, by decide, in_X0, Or.inl q396⟩
  · cases h; exact ⟨RX0, TX0, 45, rfl, by decide, in_X0, Or.inl q397⟩
  · cases h; exact ⟨RX0, TX0, 45, rfl, by decide, in_X0, Or.inl q398⟩
  · cases h; exact ⟨RX0, TX0, 45, rfl, by decide, in_X0, Or.inl q399⟩
  · cases h; exact ⟨RX0, TX0, 45, rfl, by decide, in_X0, Or.inl q400⟩
  · cases h; exact ⟨RX0, TX0, 45, rfl, by decide, in_X0, Or.inl q401⟩
  · cases h; exact ⟨RX0, TX0, 45, rfl, by decide, in_X0, Or.inl q402⟩
  · cases h; exact ⟨RX0, TX0, 45, rfl, by decide, in_X0, Or.inl q403⟩
  · cases h; exact ⟨RX1, TX1, 18, rfl, by decide, in_X1, Or.inr ⟨_, n_q177⟩⟩
  · cases h; exact ⟨RX1, TX1, 18, rfl, by decide, in_X1, Or.inr ⟨_, n_q180⟩⟩
  · cases h; exact ⟨RX1, TX1, 18, rfl, by decide, in_X1, Or.inr ⟨_, n_q183⟩⟩
  · cases h; exact ⟨RX1, TX1, 18, rfl, by decide, in_X1, Or.inr ⟨_, n_q185⟩⟩
  · cases h; exact ⟨RX1, TX1, 18, rfl, by decide, in_X1, Or.inr ⟨_, n_q188⟩⟩
  · cases h; exact ⟨RX1, TX1, 18, rfl, by decide, in_X1, Or.inr ⟨_, n_q191⟩⟩
  · cases h; exact ⟨RX1, TX1, 18, rfl, by decide, in_X1, Or.inr ⟨_, n_q195⟩⟩
  · cases h; exact ⟨RX1, TX1, 18, rfl, by decide, in_X1, Or.inr ⟨_, n_q198⟩⟩
  · cases h; exact ⟨RX1, TX1, 18, rfl, by decide, in_X1, Or.inr ⟨_, n_q201⟩⟩
  · cases h; exact ⟨RX1, TX1, 18, rfl, by decide, in_X1, Or.inr ⟨_, n_q203⟩⟩
  · cases h; exact ⟨RX1, TX1, 18, rfl, by decide, in_X1, Or.inr ⟨_, n_q206⟩⟩
  · cases h; exact ⟨RX1, TX1, 18, rfl, by decide, in_X1, Or.inr ⟨_, n_q209⟩⟩
  · cases h; exact ⟨RX1, TX1, 18, rfl, by decide, in_X1, Or.inr ⟨_, n_q212⟩⟩
  · cases h; exact ⟨RX1, TX1, 18, rfl, by decide, in_X1, Or.inr ⟨_, n_q215⟩⟩
  · cases h; exact ⟨RX1, TX1, 18, rfl, by decide, in_X1, Or.inr ⟨_, n_q218⟩⟩
  · cases h; exact ⟨RX1, TX1, 18, rfl, by decide, in_X1, Or.inr ⟨_, n_q221⟩⟩
  · cases h; exact ⟨RX1, TX1, 18, rfl, by decide, in_X1, Or.inr ⟨_, n_q224⟩⟩
  · cases h; exact ⟨RX1, TX1, 18, rfl, by decide, in_X1, Or.inr ⟨_, n_q226⟩⟩
  · cases h; exact ⟨RX6, TX6, 1, rfl, by decide, in_X6, Or.inr ⟨_, n_q319⟩⟩
  · cases h
theorem tbP0 {rs : List (Nat × Nat)} : ∀ x ci f, pT0_ x = some (ci, f) → tbP RX0 Nws8 cl8 (sh8 rs) x ci f := by
  intro x ci f h
  unfold pT0_ at h
  split at h
  · cases h; exact ⟨RX0, TX0, 45, tyX0, rfl, by decide, in_X0, Or.inl q353, tyX0_ok, nmX0, rfl, fun k fks kd h1 h2 _ => by obtain rfl := ob8_0 (sh8_obj h1); cases h2; exact rfl⟩
  · cases h; exact ⟨RX0, TX0, 45, tyX0, rfl, by decide, in_X0, Or.inl q354, tyX0_ok, nmX0, rfl, fun k fks kd h1 h2 _ => by obtain rfl := ob8_0 (sh8_obj h1); cases h2; exact rfl⟩
  · cases h; exact ⟨RX0, TX0, 45, tyX0, rfl, by decide, in_X0, Or.inl q355, tyX0_ok, nmX0, rfl, fun k fks kd h1 h2 _ => by obtain rfl := ob8_0 (sh8_obj h1); cases h2; exact rfl⟩
  · cases h; exact ⟨RX0, TX0, 45, tyX0, rfl, by decide, in_X0, Or.inl q366, tyX0_ok, nmX0, rfl, fun k fks kd h1 h2 _ => by obtain rfl := ob8_0 (sh8_obj h1); cases h2; exact rfl⟩
  · cases h; exact ⟨RX0, TX0, 45, tyX0, rfl, by decide, in_X0, Or.inl q369, tyX0_ok, nmX0, rfl, fun k fks kd h1 h2 _ => by obtain rfl := ob8_0 (sh8_obj h1); cases h2; exact ⟨_, rfl⟩⟩
  · cases h; exact ⟨RX0, TX0, 45, tyX0, rfl, by decide, in_X0, Or.inl q383, tyX0_ok, nmX0, rfl, fun k fks kd h1 h2 _ => by obtain rfl := ob8_0 (sh8_obj h1); cases h2; exact rfl⟩
  · cases h; exact ⟨RX0, TX0, 45, tyX0, rfl, by decide, in_X0, Or.inl q384, tyX0_ok, nmX0, rfl, fun k fks kd h1 h2 _ => by obtain rfl := ob8_0 (sh8_obj h1); cases h2; exact rfl⟩
  · cases h; exact ⟨RX0, TX0, 45, tyX0, rfl, by decide, in_X0, Or.inl q386, tyX0_ok, nmX0, rfl, fun k fks kd h1 h2 _ => by obtain rfl := ob8_0 (sh8_obj h1); cases h2; exact rfl⟩
  · cases h; exact ⟨RX0, TX0, 45, tyX0, rfl, by decide, in_X0, Or.inl q387, tyX0_ok, nmX0, rfl, fun k fks kd h1 h2 _ => by obtain rfl := ob8_0 (sh8_obj h1); cases h2; exact rfl⟩
  · cases h; exact ⟨RX0, TX0, 45, tyX0, rfl, by decide, in_X0, Or.inl q388, tyX0_ok, nmX0, rfl, fun k fks kd h1 h2 _ => by obtain rfl := ob8_0 (sh8_obj h1); cases h2; exact rfl⟩
  · cases h; exact ⟨RX0, TX0, 45, tyX0, rfl, by decide, in_X0, Or.inl q390, tyX0_ok, nmX0, rfl, fun k fks kd h1 h2 _ => by obtain rfl := ob8_0 (sh8_obj h1); cases h2; exact rfl⟩
  · cases h; exact ⟨RX0, TX0, 45, tyX0, rfl, by decide, in_X0, Or.inl q391, tyX0_ok, nmX0, rfl, fun k fks kd h1 h2 _ => by obtain rfl := ob8_0 (sh8_obj h1); cases h2; exact rfl⟩
  · cases h; exact ⟨RX0, TX0, 45, tyX0, rfl, by decide, in_X0, Or.inl q392, tyX0_ok, nmX0, rfl, fun k fks kd h1 h2 _ => by obtain rfl := ob8_0 (sh8_obj h1); cases h2; exact rfl⟩
  · cases h; exact ⟨RX0, TX0, 45, tyX0, rfl, by decide, in_X0, Or.inl q393, tyX0_ok, nmX0, rfl, fun k fks kd h1 h2 _ => by obtain rfl := ob8_0 (sh8_obj h1); cases h2; exact rfl⟩
  · cases h; exact ⟨RX0, TX0, 45, tyX0, rfl, by decide, in_X0, Or.inl q394, tyX0_ok, nmX0, rfl, fun k fks kd h1 h2 _ => by obtain rfl := ob8_0 (sh8_obj h1); cases h2; exact rfl⟩
  · cases h; exact ⟨RX0, TX0, 45, tyX0, rfl, by decide, in_X0, Or.inl q397, tyX0_ok, nmX0, rfl, fun k fks kd h1 h2 _ => by obtain rfl := ob8_0 (sh8_obj h1); cases h2; exact rfl⟩
  · cases h; exact ⟨RX0, TX0, 45, tyX0, rfl, by decide, in_X0, Or.inl q398, tyX0_ok, nmX0, rfl, fun k fks kd h1 h2 _ => by obtain rfl := ob8_0 (sh8_obj h1); cases h2; exact rfl⟩
  · cases h; exact ⟨RX0, TX0, 45, tyX0, rfl, by decide, in_X0, Or.inl q399, tyX0_ok, nmX0, rfl, fun k fks kd h1 h2 _ => by obtain rfl := ob8_0 (sh8_obj h1); cases h2; exact rfl⟩
  · cases h; exact ⟨RX0, TX0, 45, tyX0, rfl, by decide, in_X0, Or.inl q400, tyX0_ok, nmX0, rfl, fun k fks kd h1 h2 _ => by obtain rfl := ob8_0 (sh8_obj h1); cases h2; exact rfl⟩
  · cases h; exact ⟨RX0, TX0, 45, tyX0, rfl, by decide, in_X0, Or.inl q401, tyX0_ok, nmX0, rfl, fun k fks kd h1 h2 _ => by obtain rfl := ob8_0 (sh8_obj h1); cases h2; exact rfl⟩
  · cases h; exact ⟨RX1, TX1, 18, tyX1, rfl, by decide, in_X1, Or.inr ⟨_, n_q177⟩, tyX1_ok, nmX1, rfl, fun k fks kd h1 h2 _ => by obtain rfl := ob8_1 (sh8_obj h1); cases h2; exact rfl⟩
  · cases h; exact ⟨RX1, TX1, 18, tyX1, rfl, by decide, in_X1, Or.inr ⟨_, n_q180⟩, tyX1_ok, nmX1, rfl, fun k fks kd h1 h2 _ => by obtain rfl := ob8_1 (sh8_obj h1); cases h2; exact rfl⟩
  · cases h; exact ⟨RX1, TX1, 18, tyX1, rfl, by decide, in_X1, Or.inr ⟨_, n_q183⟩, tyX1_ok, nmX1, rfl, fun k fks kd h1 h2 _ => by obtain rfl := ob8_1 (sh8_obj h1); cases h2; exact rfl⟩
  · cases h; exact ⟨RX1, TX1, 18, tyX1, rfl, by decide, in_X1, Or.inr ⟨_, n_q185⟩, tyX1_ok, nmX1, rfl, fun k fks kd h1 h2 _ => by obtain rfl := ob8_1 (sh8_obj h1); cases h2; exact rfl⟩
  · cases h; exact ⟨RX1, TX1, 18, tyX1, rfl, by decide, in_X1, Or.inr ⟨_, n_q188⟩, tyX1_ok, nmX1, rfl, fun k fks kd h1 h2 _ => by obtain rfl := ob8_1 (sh8_obj h1); cases h2; exact rfl⟩
  · cases h; exact ⟨RX1, TX1, 18, tyX1, rfl, by decide, in_X1, Or.inr ⟨_, n_q191⟩, tyX1_ok, nmX1, rfl, fun k fks kd h1 h2 _ => by obtain rfl := ob8_1 (sh8_obj h1); cases h2; exact rfl⟩
  · cases h; exact ⟨RX1, TX1, 18, tyX1, rfl, by decide, in_X1, Or.inr ⟨_, n_q195⟩, tyX1_ok, nmX1, rfl, fun k fks kd h1 h2 _ => by obtain rfl := ob8_1 (sh8_obj h1); cases h2; exact rfl⟩
  · cases h; exact ⟨RX1, TX1, 18, tyX1, rfl, by decide, in_X1, Or.inr ⟨_, n_q198⟩, tyX1_ok, nmX1, rfl, fun k fks kd h1 h2 _ => by obtain rfl := ob8_1 (sh8_obj h1); cases h2; exact rfl⟩
  · cases h; exact ⟨RX1, TX1, 18, tyX1, rfl, by decide, in_X1, Or.inr ⟨_, n_q201⟩, tyX1_ok, nmX1, rfl, fun k fks kd h1 h2 _ => by obtain rfl := ob8_1 (sh8_obj h1); cases h2; exact rfl⟩
  · cases h; exact ⟨RX1, TX1, 18, tyX1, rfl, by decide, in_X1, Or.inr ⟨_, n_q203⟩, tyX1_ok, nmX1, rfl, fun k fks kd h1 h2 _ => by obtain rfl := ob8_1 (sh8_obj h1); cases h2; exact rfl⟩
  · cases h
theorem tbK0 : ∀ x v, kT0_ x = some v → i32 v ∧ Cond.constant RX0 x (Int32.ofInt v) ∈ lw_all := by
  intro x v h
  unfold kT0_ at h
  split at h
  · cases h; exact ⟨by unfold i32; omega, q979⟩
  · cases h
theorem tbL0 : ∀ x v, lT0_ x = some v → i64 v ∧ Cond.constantLong RX0 x (Int64.ofInt v) ∈ lw_all := by
  intro x v h
  unfold lT0_ at h
  split at h
  · cases h; exact ⟨by unfold i64; omega, q1085⟩
  · cases h; exact ⟨by unfold i64; omega, q1146⟩
  · cases h; exact ⟨by unfold i64; omega, q1242⟩
  · cases h; exact ⟨by unfold i64; omega, q1250⟩
  · cases h; exact ⟨by unfold i64; omega, q1255⟩
  · cases h; exact ⟨by unfold i64; omega, q1256⟩
  · cases h; exact ⟨by unfold i64; omega, q1257⟩
  · cases h; exact ⟨by unfold i64; omega, q1258⟩
  · cases h; exact ⟨by unfold i64; omega, q1259⟩
  · cases h; exact ⟨by unfold i64; omega, q1264⟩
  · cases h; exact ⟨by unfold i64; omega, q1289⟩
  · cases h; exact ⟨by unfold i64; omega, q1298⟩
  · cases h
theorem tbOK0 {rs : List (Nat × Nat)} (cs : Nat → Option (Nat × Nat × Spec)) : tbOK RX0 Nws8 cl8 (sh8 rs) tyl8 (tb0 cs) := ⟨tbG0, tbP0, tbK0, tbL0, fun k t n h => ty8_ok h⟩
def gT2_ : Nat → Option (Nat × Nat) := fun x => match x with
  | 3 => some (2, 0)
  | 27 => some (0, 5)
  | 30 => some (0, 6)
  | 15 => some (0, 7)
  | 23 => some (0, 8)
  | _ => none
def pT2_ : Nat → Option (Nat × Nat) := fun x => match x with
  | 23 => some (0, 8)
  | _ => none
def kT2_ : Nat → Option Int := fun _ => none
def lT2_ : Nat → Option Int := fun _ => none
abbrev tb2 (cs : Nat → Option (Nat × Nat × Spec)) : TB := (gT2_, pT2_, kT2_, lT2_, cs)
section
variable {rs : List (Nat × Nat)} {cs : Nat → Option (Nat × Nat × Spec)} {nL rt : Nat} {nxt : K0} {jmp : Int → K0} {ret : Option AV → Mm → Prop} {lv : LV} {st : List AV} {M : Mm}
theorem g2_3 : sem (tb2 cs) (sh8 rs) nL rt (.getfield 3) nxt jmp ret lv (ar 2 :: st) M = nxt lv (ar 0 :: st) M := rfl
theorem g2_27 : sem (tb2 cs) (sh8 rs) nL rt (.getfield 27) nxt jmp ret lv (ar 0 :: st) M = nxt lv (ar 13 :: st) M := rfl
theorem g2_30 : sem (tb2 cs) (sh8 rs) nL rt (.getfield 30) nxt jmp ret lv (ar 0 :: st) M = nxt lv (ar 14 :: st) M := rfl
theorem g2_15 : sem (tb2 cs) (sh8 rs) nL rt (.getfield 15) nxt jmp ret lv (ar 0 :: st) M = nxt lv (ar 15 :: st) M := rfl
theorem g2_23 : sem (tb2 cs) (sh8 rs) nL rt (.getfield 23) nxt jmp ret lv (ar 0 :: st) M = nxt lv (ai (M 0 8) :: st) M := rfl
theorem p2_23 {x : Int} : sem (tb2 cs) (sh8 rs) nL rt (.putfield 23) nxt jmp ret lv (ai x :: ar 0 :: st) M = nxt lv st (up2 M 0 8 x) := id rfl
end
theorem tbG2 : ∀ x ci f, gT2_ x = some (ci, f) → tbG RX2 Nws8 cl8 x ci f := by
  intro x ci f h
  unfold gT2_ at h
  split at h
  · cases h; exact ⟨RX2, TX2, 1, rfl, by decide, in_X2, Or.inl q272⟩
  · cases h; exact ⟨RX0, TX0, 45, rfl, by decide, in_X0, Or.inr ⟨_, n_q356⟩⟩
  · cases h; exact ⟨RX0, TX0, 45, rfl, by decide, in_X0, Or.inr ⟨_, n_q358⟩⟩
  · cases h; exact ⟨RX0, TX0, 45, rfl, by decide, in_X0, Or.inr ⟨_, n_q360⟩⟩
  · cases h; exact ⟨RX0, TX0, 45, rfl, by decide, in_X0, Or.inr ⟨_, n_q365⟩⟩
  · cases h
theorem tbP2 {rs : List (Nat × Nat)} : ∀ x ci f, pT2_ x = some (ci, f) → tbP RX2 Nws8 cl8 (sh8 rs) x ci f := by
  intro x ci f h
  unfold pT2_ at h
  split at h
  · cases h; exact ⟨RX0, TX0, 45, tyX0, rfl, by decide, in_X0, Or.inr ⟨_, n_q365⟩, tyX0_ok, nmX0, rfl, fun k fks kd h1 h2 _ => by obtain rfl := ob8_0 (sh8_obj h1); cases h2; exact rfl⟩
  · cases h
theorem tbK2 : ∀ x v, kT2_ x = some v → i32 v ∧ Cond.constant RX2 x (Int32.ofInt v) ∈ lw_all := by
  intro x v h
  cases h
theorem tbL2 : ∀ x v, lT2_ x = some v → i64 v ∧ Cond.constantLong RX2 x (Int64.ofInt v) ∈ lw_all := by
  intro x v h
  cases h
theorem tbOK2 {rs : List (Nat × Nat)} (cs : Nat → Option (Nat × Nat × Spec)) : tbOK RX2 Nws8 cl8 (sh8 rs) tyl8 (tb2 cs) := ⟨tbG2, tbP2, tbK2, tbL2, fun k t n h => ty8_ok h⟩
def gT23_ : Nat → Option (Nat × Nat) := fun x => match x with
  | 3 => some (3, 0)
  | 27 => some (0, 5)
  | 30 => some (0, 6)
  | 15 => some (0, 7)
  | 23 => some (0, 8)
  | _ => none
def pT23_ : Nat → Option (Nat × Nat) := fun x => match x with
  | 23 => some (0, 8)
  | _ => none
def kT23_ : Nat → Option Int := fun _ => none
def lT23_ : Nat → Option Int := fun _ => none
abbrev tb23 (cs : Nat → Option (Nat × Nat × Spec)) : TB := (gT23_, pT23_, kT23_, lT23_, cs)
section
variable {rs : List (Nat × Nat)} {cs : Nat → Option (Nat × Nat × Spec)} {nL rt : Nat} {nxt : K0} {jmp : Int → K0} {ret : Option AV → Mm → Prop} {lv : LV} {st : List AV} {M : Mm}
theorem g23_3 : sem (tb23 cs) (sh8 rs) nL rt (.getfield 3) nxt jmp ret lv (ar 3 :: st) M = nxt lv (ar 0 :: st) M := rfl
theorem g23_27 : sem (tb23 cs) (sh8 rs) nL rt (.getfield 27) nxt jmp ret lv (ar 0 :: st) M = nxt lv (ar 13 :: st) M := rfl
theorem g23_30 : sem (tb23 cs) (sh8 rs) nL rt (.getfield 30) nxt jmp ret lv (ar 0 :: st) M = nxt lv (ar 14 :: st) M := rfl
theorem g23_15 : sem (tb23 cs) (sh8 rs) nL rt (.getfield 15) nxt jmp ret lv (ar 0 :: st) M = nxt lv (ar 15 :: st) M := rfl
theorem g23_23 : sem (tb23 cs) (sh8 rs) nL rt (.getfield 23) nxt jmp ret lv (ar 0 :: st) M = nxt lv (ai (M 0 8) :: st) M := rfl
theorem p23_23 {x : Int} : sem (tb23 cs) (sh8 rs) nL rt (.putfield 23) nxt jmp ret lv (ai x :: ar 0 :: st) M = nxt lv st (up2 M 0 8 x) := id rfl
end
theorem tbG23 : ∀ x ci f, gT23_ x = some (ci, f) → tbG RX2 Nws8 cl8 x ci f := by
  intro x ci f h
  unfold gT23_ at h
  split at h
  · cases h; exact ⟨RX3, TX3, 2, rfl, by decide, in_X3, Or.inl q272⟩
  · cases h; exact ⟨RX0, TX0, 45, rfl, by decide, in_X0, Or.inr ⟨_, n_q356⟩⟩
  · cases h; exact ⟨RX0, TX0, 45, rfl, by decide, in_X0, Or.inr ⟨_, n_q358⟩⟩
  · cases h; exact ⟨RX0, TX0, 45, rfl, by decide, in_X0, Or.inr ⟨_, n_q360⟩⟩
  · cases h; exact ⟨RX0, TX0, 45, rfl, by decide, in_X0, Or.inr ⟨_, n_q365⟩⟩
  · cases h
theorem tbP23 {rs : List (Nat × Nat)} : ∀ x ci f, pT23_ x = some (ci, f) → tbP RX2 Nws8 cl8 (sh8 rs) x ci f := by
  intro x ci f h
  unfold pT23_ at h
  split at h
  · cases h; exact ⟨RX0, TX0, 45, tyX0, rfl, by decide, in_X0, Or.inr ⟨_, n_q365⟩, tyX0_ok, nmX0, rfl, fun k fks kd h1 h2 _ => by obtain rfl := ob8_0 (sh8_obj h1); cases h2; exact rfl⟩
  · cases h
theorem tbK23 : ∀ x v, kT23_ x = some v → i32 v ∧ Cond.constant RX2 x (Int32.ofInt v) ∈ lw_all := by
  intro x v h
  cases h
theorem tbL23 : ∀ x v, lT23_ x = some v → i64 v ∧ Cond.constantLong RX2 x (Int64.ofInt v) ∈ lw_all := by
  intro x v h
  cases h
theorem tbOK23 {rs : List (Nat × Nat)} (cs : Nat → Option (Nat × Nat × Spec)) : tbOK RX2 Nws8 cl8 (sh8 rs) tyl8 (tb23 cs) := ⟨tbG23, tbP23, tbK23, tbL23, fun k t n h => ty8_ok h⟩
def gT24_ : Nat → Option (Nat × Nat) := fun x => match x with
  | 3 => some (4, 0)
  | 27 => some (0, 5)
  | 30 => some (0, 6)
  | 15 => some (0, 7)
  | 23 => some (0, 8)
  | _ => none
def pT24_ : Nat → Option (Nat × Nat) := fun x => match x with
  | 23 => some (0, 8)
  | _ => none
def kT24_ : Nat → Option Int := fun _ => none
def lT24_ : Nat → Option Int := fun _ => none
abbrev tb24 (cs : Nat → Option (Nat × Nat × Spec)) : TB := (gT24_, pT24_, kT24_, lT24_, cs)
section
variable {rs : List (Nat × Nat)} {cs : Nat → Option (Nat × Nat × Spec)} {nL rt : Nat} {nxt : K0} {jmp : Int → K0} {ret : Option AV → Mm → Prop} {lv : LV} {st : List AV} {M : Mm}
theorem g24_3 : sem (tb24 cs) (sh8 rs) nL rt (.getfield 3) nxt jmp ret lv (ar 4 :: st) M = nxt lv (ar 0 :: st) M := rfl
theorem g24_27 : sem (tb24 cs) (sh8 rs) nL rt (.getfield 27) nxt jmp ret lv (ar 0 :: st) M = nxt lv (ar 13 :: st) M := rfl
theorem g24_30 : sem (tb24 cs) (sh8 rs) nL rt (.getfield 30) nxt jmp ret lv (ar 0 :: st) M = nxt lv (ar 14 :: st) M := rfl
theorem g24_15 : sem (tb24 cs) (sh8 rs) nL rt (.getfield 15) nxt jmp ret lv (ar 0 :: st) M = nxt lv (ar 15 :: st) M := rfl
theorem g24_23 : sem (tb24 cs) (sh8 rs) nL rt (.getfield 23) nxt jmp ret lv (ar 0 :: st) M = nxt lv (ai (M 0 8) :: st) M := rfl
theorem p24_23 {x : Int} : sem (tb24 cs) (sh8 rs) nL rt (.putfield 23) nxt jmp ret lv (ai x :: ar 0 :: st) M = nxt lv st (up2 M 0 8 x) := id rfl
end
theorem tbG24 : ∀ x ci f, gT24_ x = some (ci, f) → tbG RX2 Nws8 cl8 x ci f := by
  intro x ci f h
  unfold gT24_ at h
  split at h
  · cases h; exact ⟨RX4, TX4, 2, rfl, by decide, in_X4, Or.inl q272⟩
  · cases h; exact ⟨RX0, TX0, 45, rfl, by decide, in_X0, Or.inr ⟨_, n_q356⟩⟩
  · cases h; exact ⟨RX0, TX0, 45, rfl, by decide, in_X0, Or.inr ⟨_, n_q358⟩⟩
  · cases h; exact ⟨RX0, TX0, 45, rfl, by decide, in_X0, Or.inr ⟨_, n_q360⟩⟩
  · cases h; exact ⟨RX0, TX0, 45, rfl, by decide, in_X0, Or.inr ⟨_, n_q365⟩⟩
  · cases h
theorem tbP24 {rs : List (Nat × Nat)} : ∀ x ci f, pT24_ x = some (ci, f) → tbP RX2 Nws8 cl8 (sh8 rs) x ci f := by
  intro x ci f h
  unfold pT24_ at h
  split at h
  · cases h; exact ⟨RX0, TX0, 45, tyX0, rfl, by decide, in_X0, Or.inr ⟨_, n_q365⟩, tyX0_ok, nmX0, rfl, fun k fks kd h1 h2 _ => by obtain rfl := ob8_0 (sh8_obj h1); cases h2; exact rfl⟩
  · cases h
theorem tbK24 : ∀ x v, kT24_ x = some v → i32 v ∧ Cond.constant RX2 x (Int32.ofInt v) ∈ lw_all := by
  intro x v h
  cases h
theorem tbL24 : ∀ x v, lT24_ x = some v → i64 v ∧ Cond.constantLong RX2 x (Int64.ofInt v) ∈ lw_all := by
  intro x v h
  cases h
theorem tbOK24 {rs : List (Nat × Nat)} (cs : Nat → Option (Nat × Nat × Spec)) : tbOK RX2 Nws8 cl8 (sh8 rs) tyl8 (tb24 cs) := ⟨tbG24, tbP24, tbK24, tbL24, fun k t n h => ty8_ok h⟩
def gT25_ : Nat → Option (Nat × Nat) := fun x => match x with
  | 3 => some (5, 0)
  | 27 => some (0, 5)
  | 30 => some (0, 6)
  | 15 => some (0, 7)
  | 23 => some (0, 8)
  | _ => none
def pT25_ : Nat → Option (Nat × Nat) := fun x => match x with
  | 23 => some (0, 8)
  | _ => none
def kT25_ : Nat → Option Int := fun _ => none
def lT25_ : Nat → Option Int := fun _ => none
abbrev tb25 (cs : Nat → Option (Nat × Nat × Spec)) : TB := (gT25_, pT25_, kT25_, lT25_, cs)
section
variable {rs : List (Nat × Nat)} {cs : Nat → Option (Nat × Nat × Spec)} {nL rt : Nat} {nxt : K0} {jmp : Int → K0} {ret : Option AV → Mm → Prop} {lv : LV} {st : List AV} {M : Mm}
theorem g25_3 : sem (tb25 cs) (sh8 rs) nL rt (.getfield 3) nxt jmp ret lv (ar 5 :: st) M = nxt lv (ar 0 :: st) M := rfl
theorem g25_27 : sem (tb25 cs) (sh8 rs) nL rt (.getfield 27) nxt jmp ret lv (ar 0 :: st) M = nxt lv (ar 13 :: st) M := rfl
theorem g25_30 : sem (tb25 cs) (sh8 rs) nL rt (.getfield 30) nxt jmp ret lv (ar 0 :: st) M = nxt lv (ar 14 :: st) M := rfl
theorem g25_15 : sem (tb25 cs) (sh8 rs) nL rt (.getfield 15) nxt jmp ret lv (ar 0 :: st) M = nxt lv (ar 15 :: st) M := rfl
theorem g25_23 : sem (tb25 cs) (sh8 rs) nL rt (.getfield 23) nxt jmp ret lv (ar 0 :: st) M = nxt lv (ai (M 0 8) :: st) M := rfl
theorem p25_23 {x : Int} : sem (tb25 cs) (sh8 rs) nL rt (.putfield 23) nxt jmp ret lv (ai x :: ar 0 :: st) M = nxt lv st (up2 M 0 8 x) := id rfl
end
theorem tbG25 : ∀ x ci f, gT25_ x = some (ci, f) → tbG RX2 Nws8 cl8 x ci f := by
  intro x ci f h
  unfold gT25_ at h
  split at h
  · cases h; exact ⟨RX5, TX5, 3, rfl, by decide, in_X5, Or.inl q272⟩
  · cases h; exact ⟨RX0, TX0, 45, rfl, by decide, in_X0, Or.inr ⟨_, n_q356⟩⟩
  · cases h; exact ⟨RX0, TX0, 45, rfl, by decide, in_X0, Or.inr ⟨_, n_q358⟩⟩
  · cases h; exact ⟨RX0, TX0, 45, rfl, by decide, in_X0, Or.inr ⟨_, n_q360⟩⟩
  · cases h; exact ⟨RX0, TX0, 45, rfl, by decide, in_X0, Or.inr ⟨_, n_q365⟩⟩
  · cases h
theorem tbP25 {rs : List (Nat × Nat)} : ∀ x ci f, pT25_ x = some (ci, f) → tbP RX2 Nws8 cl8 (sh8 rs) x ci f := by
  intro x ci f h
  unfold pT25_ at h
  split at h
  · cases h; exact ⟨RX0, TX0, 45, tyX0, rfl, by decide, in_X0, Or.inr ⟨_, n_q365⟩, tyX0_ok, nmX0, rfl, fun k fks kd h1 h2 _ => by obtain rfl := ob8_0 (sh8_obj h1); cases h2; exact rfl⟩
  · cases h
theorem tbK25 : ∀ x v, kT25_ x = some v → i32 v ∧ Cond.constant RX2 x (Int32.ofInt v) ∈ lw_all := by
  intro x v h
  cases h
theorem tbL25 : ∀ x v, lT25_ x = some v → i64 v ∧ Cond.constantLong RX2 x (Int64.ofInt v) ∈ lw_all := by
  intro x v h
  cases h
theorem tbOK25 {rs : List (Nat × Nat)} (cs : Nat → Option (Nat × Nat × Spec)) : tbOK RX2 Nws8 cl8 (sh8 rs) tyl8 (tb25 cs) := ⟨tbG25, tbP25, tbK25, tbL25, fun k t n h => ty8_ok h⟩
def gT3_ : Nat → Option (Nat × Nat) := fun x => match x with
  | 1 => some (3, 1)
  | 23 => some (0, 7)
  | 27 => some (0, 8)
  | _ => none
def pT3_ : Nat → Option (Nat × Nat) := fun x => match x with
  | 27 => some (0, 8)
  | _ => none
def kT3_ : Nat → Option Int := fun _ => none
def lT3_ : Nat → Option Int := fun _ => none
abbrev tb3 (cs : Nat → Option (Nat × Nat × Spec)) : TB := (gT3_, pT3_, kT3_, lT3_, cs)
section
variable {rs : List (Nat × Nat)} {cs : Nat → Option (Nat × Nat × Spec)} {nL rt : Nat} {nxt : K0} {jmp : Int → K0} {ret : Option AV → Mm → Prop} {lv : LV} {st : List AV} {M : Mm}
theorem g3_1 : sem (tb3 cs) (sh8 rs) nL rt (.getfield 1) nxt jmp ret lv (ar 3 :: st) M = nxt lv (ar 0 :: st) M := rfl
theorem g3_23 : sem (tb3 cs) (sh8 rs) nL rt (.getfield 23) nxt jmp ret lv (ar 0 :: st) M = nxt lv (ar 15 :: st) M := rfl
theorem g3_27 : sem (tb3 cs) (sh8 rs) nL rt (.getfield 27) nxt jmp ret lv (ar 0 :: st) M = nxt lv (ai (M 0 8) :: st) M := rfl
theorem p3_27 {x : Int} : sem (tb3 cs) (sh8 rs) nL rt (.putfield 27) nxt jmp ret lv (ai x :: ar 0 :: st) M = nxt lv st (up2 M 0 8 x) := id rfl
end
theorem tbG3 : ∀ x ci f, gT3_ x = some (ci, f) → tbG RX3 Nws8 cl8 x ci f := by
  intro x ci f h
  unfold gT3_ at h
  split at h
  · cases h; exact ⟨RX3, TX3, 2, rfl, by decide, in_X3, Or.inl q283⟩
  · cases h; exact ⟨RX0, TX0, 45, rfl, by decide, in_X0, Or.inr ⟨_, n_q362⟩⟩
  · cases h; exact ⟨RX0, TX0, 45, rfl, by decide, in_X0, Or.inr ⟨_, n_q364⟩⟩
  · cases h
theorem tbP3 {rs : List (Nat × Nat)} : ∀ x ci f, pT3_ x = some (ci, f) → tbP RX3 Nws8 cl8 (sh8 rs) x ci f := by
  intro x ci f h
  unfold pT3_ at h
  split at h
  · cases h; exact ⟨RX0, TX0, 45, tyX0, rfl, by decide, in_X0, Or.inr ⟨_, n_q364⟩, tyX0_ok, nmX0, rfl, fun k fks kd h1 h2 _ => by obtain rfl := ob8_0 (sh8_obj h1); cases h2; exact rfl⟩
  · cases h
theorem tbK3 : ∀ x v, kT3_ x = some v → i32 v ∧ Cond.constant RX3 x (Int32.ofInt v) ∈ lw_all := by
  intro x v h
  cases h
theorem tbL3 : ∀ x v, lT3_ x = some v → i64 v ∧ Cond.constantLong RX3 x (Int64.ofInt v) ∈ lw_all := by
  intro x v h
  cases h
theorem tbOK3 {rs : List (Nat × Nat)} (cs : Nat → Option (Nat × Nat × Spec)) : tbOK RX3 Nws8 cl8 (sh8 rs) tyl8 (tb3 cs) := ⟨tbG3, tbP3, tbK3, tbL3, fun k t n h => ty8_ok h⟩
def gT35_ : Nat → Option (Nat × Nat) := fun x => match x with
  | 1 => some (5, 1)
  | 23 => some (0, 7)
  | 27 => some (0, 8)
  | _ => none
def pT35_ : Nat → Option (Nat × Nat) := fun x => match x with
  | 27 => some (0, 8)
  | _ => none
def kT35_ : Nat → Option Int := fun _ => none
def lT35_ : Nat → Option Int := fun _ => none
abbrev tb35 (cs : Nat → Option (Nat × Nat × Spec)) : TB := (gT35_, pT35_, kT35_, lT35_, cs)
section
variable {rs : List (Nat × Nat)} {cs : Nat → Option (Nat × Nat × Spec)} {nL rt : Nat} {nxt : K0} {jmp : Int → K0} {ret : Option AV → Mm → Prop} {lv : LV} {st : List AV} {M : Mm}
theorem g35_1 : sem (tb35 cs) (sh8 rs) nL rt (.getfield 1) nxt jmp ret lv (ar 5 :: st) M = nxt lv (ar 0 :: st) M := rfl
theorem g35_23 : sem (tb35 cs) (sh8 rs) nL rt (.getfield 23) nxt jmp ret lv (ar 0 :: st) M = nxt lv (ar 15 :: st) M := rfl
theorem g35_27 : sem (tb35 cs) (sh8 rs) nL rt (.getfield 27) nxt jmp ret lv (ar 0 :: st) M = nxt lv (ai (M 0 8) :: st) M := rfl
theorem p35_27 {x : Int} : sem (tb35 cs) (sh8 rs) nL rt (.putfield 27) nxt jmp ret lv (ai x :: ar 0 :: st) M = nxt lv st (up2 M 0 8 x) := id rfl
end
theorem tbG35 : ∀ x ci f, gT35_ x = some (ci, f) → tbG RX3 Nws8 cl8 x ci f := by
  intro x ci f h
  unfold gT35_ at h
  split at h
  · cases h; exact ⟨RX5, TX5, 3, rfl, by decide, in_X5, Or.inl q283⟩
  · cases h; exact ⟨RX0, TX0, 45, rfl, by decide, in_X0, Or.inr ⟨_, n_q362⟩⟩
  · cases h; exact ⟨RX0, TX0, 45, rfl, by decide, in_X0, Or.inr ⟨_, n_q364⟩⟩
  · cases h
theorem tbP35 {rs : List (Nat × Nat)} : ∀ x ci f, pT35_ x = some (ci, f) → tbP RX3 Nws8 cl8 (sh8 rs) x ci f := by
  intro x ci f h
  unfold pT35_ at h
  split at h
  · cases h; exact ⟨RX0, TX0, 45, tyX0, rfl, by decide, in_X0, Or.inr ⟨_, n_q364⟩, tyX0_ok, nmX0, rfl, fun k fks kd h1 h2 _ => by obtain rfl := ob8_0 (sh8_obj h1); cases h2; exact rfl⟩
  · cases h
theorem tbK35 : ∀ x v, kT35_ x = some v → i32 v ∧ Cond.constant RX3 x (Int32.ofInt v) ∈ lw_all := by
  intro x v h
  cases h
theorem tbL35 : ∀ x v, lT35_ x = some v → i64 v ∧ Cond.constantLong RX3 x (Int64.ofInt v) ∈ lw_all := by
  intro x v h
  cases h
theorem tbOK35 {rs : List (Nat × Nat)} (cs : Nat → Option (Nat × Nat × Spec)) : tbOK RX3 Nws8 cl8 (sh8 rs) tyl8 (tb35 cs) := ⟨tbG35, tbP35, tbK35, tbL35, fun k t n h => ty8_ok h⟩
def gT4_ : Nat → Option (Nat × Nat) := fun x => match x with
  | 1 => some (4, 1)
  | 13 => some (0, 7)
  | _ => none
def pT4_ : Nat → Option (Nat × Nat) := fun x => match x with
  | _ => none
def kT4_ : Nat → Option Int := fun _ => none
def lT4_ : Nat → Option Int := fun _ => none
abbrev tb4 (cs : Nat → Option (Nat × Nat × Spec)) : TB := (gT4_, pT4_, kT4_, lT4_, cs)
section
variable {rs : List (Nat × Nat)} {cs : Nat → Option (Nat × Nat × Spec)} {nL rt : Nat} {nxt : K0} {jmp : Int → K0} {ret : Option AV → Mm → Prop} {lv : LV} {st : List AV} {M : Mm}
theorem g4_1 : sem (tb4 cs) (sh8 rs) nL rt (.getfield 1) nxt jmp ret lv (ar 4 :: st) M = nxt lv (ar 0 :: st) M := rfl
theorem g4_13 : sem (tb4 cs) (sh8 rs) nL rt (.getfield 13) nxt jmp ret lv (ar 0 :: st) M = nxt lv (ar 15 :: st) M := rfl
end
theorem tbG4 : ∀ x ci f, gT4_ x = some (ci, f) → tbG RX4 Nws8 cl8 x ci f := by
  intro x ci f h
  unfold gT4_ at h
  split at h
  · cases h; exact ⟨RX4, TX4, 2, rfl, by decide, in_X4, Or.inl q294⟩
  · cases h; exact ⟨RX0, TX0, 45, rfl, by decide, in_X0, Or.inr ⟨_, n_q361⟩⟩
  · cases h
theorem tbP4 {rs : List (Nat × Nat)} : ∀ x ci f, pT4_ x = some (ci, f) → tbP RX4 Nws8 cl8 (sh8 rs) x ci f := by
  intro x ci f h
  unfold pT4_ at h
  cases h
theorem tbK4 : ∀ x v, kT4_ x = some v → i32 v ∧ Cond.constant RX4 x (Int32.ofInt v) ∈ lw_all := by
  intro x v h
  cases h
theorem tbL4 : ∀ x v, lT4_ x = some v → i64 v ∧ Cond.constantLong RX4 x (Int64.ofInt v) ∈ lw_all := by
  intro x v h
  cases h
theorem tbOK4 {rs : List (Nat × Nat)} (cs : Nat → Option (Nat × Nat × Spec)) : tbOK RX4 Nws8 cl8 (sh8 rs) tyl8 (tb4 cs) := ⟨tbG4, tbP4, tbK4, tbL4, fun k t n h => ty8_ok h⟩
def gT5_ : Nat → Option (Nat × Nat) := fun x => match x with
  | 1 => some (5, 2)
  | 13 => some (0, 9)
  | _ => none
def pT5_ : Nat → Option (Nat × Nat) := fun x => match x with
  | _ => none
def kT5_ : Nat → Option Int := fun _ => none
def lT5_ : Nat → Option Int := fun _ => none
abbrev tb5 (cs : Nat → Option (Nat × Nat × Spec)) : TB := (gT5_, pT5_, kT5_, lT5_, cs)
section
variable {rs : List (Nat × Nat)} {cs : Nat → Option (Nat × Nat × Spec)} {nL rt : Nat} {nxt : K0} {jmp : Int → K0} {ret : Option AV → Mm → Prop} {lv : LV} {st : List AV} {M : Mm}
theorem g5_1 : sem (tb5 cs) (sh8 rs) nL rt (.getfield 1) nxt jmp ret lv (ar 5 :: st) M = nxt lv (ar 0 :: st) M := rfl
theorem g5_13 : sem (tb5 cs) (sh8 rs) nL rt (.getfield 13) nxt jmp ret lv (ar 0 :: st) M = nxt lv (ar 6 :: st) M := rfl
end
theorem tbG5 : ∀ x ci f, gT5_ x = some (ci, f) → tbG RX5 Nws8 cl8 x ci f := by
  intro x ci f h
  unfold gT5_ at h
  split at h
  · cases h; exact ⟨RX5, TX5, 3, rfl, by decide, in_X5, Or.inl q305⟩
  · cases h; exact ⟨RX0, TX0, 45, rfl, by decide, in_X0, Or.inr ⟨_, n_q367⟩⟩
  · cases h
theorem tbP5 {rs : List (Nat × Nat)} : ∀ x ci f, pT5_ x = some (ci, f) → tbP RX5 Nws8 cl8 (sh8 rs) x ci f := by
  intro x ci f h
  unfold pT5_ at h
  cases h
theorem tbK5 : ∀ x v, kT5_ x = some v → i32 v ∧ Cond.constant RX5 x (Int32.ofInt v) ∈ lw_all := by
  intro x v h
  cases h
theorem tbL5 : ∀ x v, lT5_ x = some v → i64 v ∧ Cond.constantLong RX5 x (Int64.ofInt v) ∈ lw_all := by
  intro x v h
  cases h
theorem tbOK5 {rs : List (Nat × Nat)} (cs : Nat → Option (Nat × Nat × Spec)) : tbOK RX5 Nws8 cl8 (sh8 rs) tyl8 (tb5 cs) := ⟨tbG5, tbP5, tbK5, tbL5, fun k t n h => ty8_ok h⟩
def gT6_ : Nat → Option (Nat × Nat) := fun x => match x with
  | 7 => some (6, 0)
  | _ => none
def pT6_ : Nat → Option (Nat × Nat) := fun x => match x with
  | _ => none
def kT6_ : Nat → Option Int := fun _ => none
def lT6_ : Nat → Option Int := fun _ => none
abbrev tb6 (cs : Nat → Option (Nat × Nat × Spec)) : TB := (gT6_, pT6_, kT6_, lT6_, cs)
section
variable {rs : List (Nat × Nat)} {cs : Nat → Option (Nat × Nat × Spec)} {nL rt : Nat} {nxt : K0} {jmp : Int → K0} {ret : Option AV → Mm → Prop} {lv : LV} {st : List AV} {M : Mm}
theorem g6_78 : sem (tb6 cs) (sh8 rs) nL rt (.getfield 7) nxt jmp ret lv (ar 8 :: st) M = nxt lv (fval 2 (M 8 0) :: st) M := rfl
theorem g6_79 : sem (tb6 cs) (sh8 rs) nL rt (.getfield 7) nxt jmp ret lv (ar 9 :: st) M = nxt lv (fval 2 (M 9 0) :: st) M := rfl
theorem g6_710 : sem (tb6 cs) (sh8 rs) nL rt (.getfield 7) nxt jmp ret lv (ar 10 :: st) M = nxt lv (fval 2 (M 10 0) :: st) M := rfl
theorem g6_711 : sem (tb6 cs) (sh8 rs) nL rt (.getfield 7) nxt jmp ret lv (ar 11 :: st) M = nxt lv (fval 2 (M 11 0) :: st) M := rfl
end
theorem tbG6 : ∀ x ci f, gT6_ x = some (ci, f) → tbG RX6 Nws8 cl8 x ci f := by
  intro x ci f h
  unfold gT6_ at h
  split at h
  · cases h; exact ⟨RX6, TX6, 1, rfl, by decide, in_X6, Or.inl q318⟩
  · cases h
theorem tbP6 {rs : List (Nat × Nat)} : ∀ x ci f, pT6_ x = some (ci, f) → tbP RX6 Nws8 cl8 (sh8 rs) x ci f := by
  intro x ci f h
  unfold pT6_ at h
  cases h
theorem tbK6 : ∀ x v, kT6_ x = some v → i32 v ∧ Cond.constant RX6 x (Int32.ofInt v) ∈ lw_all := by
  intro x v h
  cases h
theorem tbL6 : ∀ x v, lT6_ x = some v → i64 v ∧ Cond.constantLong RX6 x (Int64.ofInt v) ∈ lw_all := by
  intro x v h
  cases h
theorem tbOK6 {rs : List (Nat × Nat)} (cs : Nat → Option (Nat × Nat × Spec)) : tbOK RX6 Nws8 cl8 (sh8 rs) tyl8 (tb6 cs) := ⟨tbG6, tbP6, tbK6, tbL6, fun k t n h => ty8_ok h⟩
