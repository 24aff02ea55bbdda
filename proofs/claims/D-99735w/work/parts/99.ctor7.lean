/-! new SagMemoryModel(), by wip gen/x98.py -/
def fs70 : List Value := [.int 0, .null, .null, .null, .null, .null, .int 0, .int 0, .int 0, .int 0, .int 0, .long 0, .int 0, .int 0, .int 0, .int 0, .null, .null, .null, .null, .null, .null, .null, .null, .int 0, .int 0, .int 0, .null, .null, .null, .null, .null, .null, .null, .null, .null, .null, .null, .null, .null, .null, .null, .null, .int 0, .int 0, .int 0, .null, .int 0, .int 0, .int 0, .int 0, .int 0, .int 0, .null, .int 0, .int 0, .int 0, .null, .null]
def fs79 (f : Nat → Nat) : List Value := [.int 0, .ref (f 1), .ref (f 2), .ref (f 3), .ref (f 4), .ref (f 5), .int 0, .int 0, .int 0, .int 0, .int 0, .long 0, .int 0, .int 0, .int 0, .int (-1), .ref (f 6), .ref (f 7), .ref (f 8), .ref (f 9), .ref (f 10), .ref (f 11), .ref (f 12), .ref (f 13), .int 0, .int 0, .int 0, .ref (f 14), .ref (f 15), .ref (f 16), .ref (f 17), .ref (f 18), .ref (f 19), .ref (f 20), .ref (f 21), .ref (f 22), .ref (f 23), .ref (f 24), .ref (f 25), .ref (f 26), .ref (f 27), .ref (f 28), .ref (f 29), .int 0, .int 0, .int 0, .ref (f 30), .int 0, .int 0, .int 0, .int 0, .int 0, .int 0, .ref (f 31), .int 0, .int 0, .int 0, .ref (f 32), .ref (f 33)]
def w79 (ca : Nat → ClassId) (f : Nat → Nat) : va_W := [(f 2, .inl (ca 0, 4, .inl (fun _ => 0))), (f 3, .inl (ca 1, 240, .inr (.inl (fun _ => 0)))), (f 4, .inl (ca 1, 60, .inr (.inl (fun _ => 0)))), (f 5, .inl (ca 2, 700, .inl (fun _ => 0))), (f 6, .inl (ca 0, 5, .inl (fun _ => 0))), (f 7, .inl (ca 0, 40, .inl (fun _ => 0))), (f 8, .inl (ca 0, 30, .inl (fun _ => 0))), (f 9, .inl (ca 0, 70, .inl (fun _ => 0))), (f 10, .inl (ca 0, 75, .inl (fun _ => 0))), (f 11, .inl (ca 0, 20, .inl (fun _ => 0))), (f 12, .inl (ca 0, 450, .inl (fun _ => 0))), (f 13, .inl (ca 3, 3, .inl (fun _ => 0))), (f 14, .inl (ca 0, 7, .inl (fun _ => 0))), (f 15, .inl (ca 0, 7, .inl (fun _ => 0))), (f 16, .inl (ca 0, 7, .inl (fun _ => 0))), (f 17, .inl (ca 0, 24, .inl (fun _ => 0))), (f 18, .inl (ca 0, 24, .inl (fun _ => 0))), (f 19, .inl (ca 0, 3, .inl (fun _ => 0))), (f 20, .inl (ca 0, 3, .inl (fun _ => 0))), (f 21, .inl (ca 0, 3, .inl (fun _ => 0))), (f 22, .inl (ca 0, 7, .inl (fun _ => 0))), (f 23, .inl (ca 0, 7, .inl (fun _ => 0))), (f 24, .inl (ca 0, 7, .inl (fun _ => 0))), (f 25, .inl (ca 0, 7, .inl (fun _ => 0))), (f 26, .inl (ca 0, 7, .inl (fun _ => 0))), (f 27, .inl (ca 0, 21, .inl (fun _ => 0))), (f 28, .inl (ca 0, 21, .inl (fun _ => 0))), (f 29, .inl (ca 0, 168, .inl (fun _ => 0))), (f 30, .inl (ca 0, 7, .inl (fun _ => 0))), (f 31, .inl (ca 0, 7, .inl (fun _ => 0))), (f 32, .inl (ca 0, 9, .inl (fun _ => 0))), (f 33, .inl (ca 0, 9, .inl (fun _ => 0)))]
def M70 : Mm := fun k j => if k = 0 then (if j = 15 then -1 else 0) else if k = 1 then (if j < 4 then -1 else 0) else 0
def ad70 (q : Nat) (f : Nat → Nat) : Nat → Nat := fun k => if k = 0 then q else f k
def g70 : Nat → Value := fun j => fs70.getD j .null
def PC7 (D : va_G) (ca : Nat → ClassId) (q sz : Nat) : State → Prop := fun U => U.heap.size = sz ∧ va_P D cl7 [(q, .inr (0, rgV 59 g70))] U.heap ∧ va_K D cl7 (tys_ ca tyl7) U ∧ va_D (fA q sz) [(q, .inr (0, rgV 59 g70))]
def QC7 (D : va_G) (ca : Nat → ClassId) (q sz : Nat) : Array Value → State → Outcome → State → Prop := va_Qv (fun (_ : Nat → Nat) => True) (fun f U => va_P D cl7 (wl ca (ad70 q f) sh7 M70) U.heap ∧ va_K D cl7 (tys_ ca tyl7) U ∧ va_D (fA q sz) (wl ca (ad70 q f) sh7 M70)) (fA q sz)
theorem PC7_blind {D : va_G} {ca : Nat → ClassId} {q sz : Nat} {as : List Value} : FrameBlind (va_Pc as (PC7 D ca q sz)) := by
  intro a U g mk h
  obtain ⟨h0, h1, h2, h3, h4⟩ := h
  exact ⟨h0, h1, h2, va_K.moved (u := U) (U := U.calling g mk a) (Vm.Alike.refl U.vm) h3, h4⟩
def M7z : Mm := fun k j => if k = 0 then (if j = 15 then -1 else 0) else 0
def f70 (q q1 q2 q3 q4 q5 q6 q7 q8 q9 q10 q11 q12 q13 q14 q15 q16 q17 q18 q19 q20 q21 q22 q23 q24 q25 q26 q27 q28 q29 q30 q31 q32 q33 : Nat) : Nat → Nat := fun k => [q, q1, q2, q3, q4, q5, q6, q7, q8, q9, q10, q11, q12, q13, q14, q15, q16, q17, q18, q19, q20, q21, q22, q23, q24, q25, q26, q27, q28, q29, q30, q31, q32, q33].getD k 0
set_option maxRecDepth 100000 in
set_option maxHeartbeats 2000000 in
theorem fs_70 {q q1 q2 q3 q4 q5 q6 q7 q8 q9 q10 q11 q12 q13 q14 q15 q16 q17 q18 q19 q20 q21 q22 q23 q24 q25 q26 q27 q28 q29 q30 q31 q32 q33 : Nat} : ∀ (j kd : Nat), fk7[j]? = some kd → (upV (upV (upV (upV (upV (upV (upV (upV (upV (upV (upV (upV (upV (upV (upV (upV (upV (upV (upV (upV (upV (upV (upV (upV (upV (upV (upV (upV (upV (upV (upV (upV (upV (upV g70 1 (.ref q1)) 2 (.ref q2)) 3 (.ref q3)) 4 (.ref q4)) 5 (.ref q5)) 15 (.int (-1))) 16 (.ref q6)) 17 (.ref q7)) 18 (.ref q8)) 19 (.ref q9)) 20 (.ref q10)) 21 (.ref q11)) 22 (.ref q12)) 23 (.ref q13)) 27 (.ref q14)) 28 (.ref q15)) 29 (.ref q16)) 30 (.ref q17)) 31 (.ref q18)) 32 (.ref q19)) 33 (.ref q20)) 34 (.ref q21)) 35 (.ref q22)) 36 (.ref q23)) 37 (.ref q24)) 38 (.ref q25)) 39 (.ref q26)) 40 (.ref q27)) 41 (.ref q28)) 42 (.ref q29)) 46 (.ref q30)) 53 (.ref q31)) 57 (.ref q32)) 58 (.ref q33)) j = cz (f70 q q1 q2 q3 q4 q5 q6 q7 q8 q9 q10 q11 q12 q13 q14 q15 q16 q17 q18 q19 q20 q21 q22 q23 q24 q25 q26 q27 q28 q29 q30 q31 q32 q33) (fval kd (M7z 0 j)) := by
  intro j kd h
  match j, h with
  | 0, h => cases h; rfl
  | 1, h => cases h; rfl
  | 2, h => cases h; rfl
  | 3, h => cases h; rfl
  | 4, h => cases h; rfl
  | 5, h => cases h; rfl
  | 6, h => cases h; rfl
  | 7, h => cases h; rfl
  | 8, h => cases h; rfl
  | 9, h => cases h; rfl
  | 10, h => cases h; rfl
  | 11, h => cases h; rfl
  | 12, h => cases h; rfl
  | 13, h => cases h; rfl
  | 14, h => cases h; rfl
  | 15, h => cases h; rfl
  | 16, h => cases h; rfl
  | 17, h => cases h; rfl
  | 18, h => cases h; rfl
  | 19, h => cases h; rfl
  | 20, h => cases h; rfl
  | 21, h => cases h; rfl
  | 22, h => cases h; rfl
  | 23, h => cases h; rfl
  | 24, h => cases h; rfl
  | 25, h => cases h; rfl
  | 26, h => cases h; rfl
  | 27, h => cases h; rfl
  | 28, h => cases h; rfl
  | 29, h => cases h; rfl
  | 30, h => cases h; rfl
  | 31, h => cases h; rfl
  | 32, h => cases h; rfl
  | 33, h => cases h; rfl
  | 34, h => cases h; rfl
  | 35, h => cases h; rfl
  | 36, h => cases h; rfl
  | 37, h => cases h; rfl
  | 38, h => cases h; rfl
  | 39, h => cases h; rfl
  | 40, h => cases h; rfl
  | 41, h => cases h; rfl
  | 42, h => cases h; rfl
  | 43, h => cases h; rfl
  | 44, h => cases h; rfl
  | 45, h => cases h; rfl
  | 46, h => cases h; rfl
  | 47, h => cases h; rfl
  | 48, h => cases h; rfl
  | 49, h => cases h; rfl
  | 50, h => cases h; rfl
  | 51, h => cases h; rfl
  | 52, h => cases h; rfl
  | 53, h => cases h; rfl
  | 54, h => cases h; rfl
  | 55, h => cases h; rfl
  | 56, h => cases h; rfl
  | 57, h => cases h; rfl
  | 58, h => cases h; rfl
  | n + 59, h => cases h
set_option maxRecDepth 100000 in
set_option maxHeartbeats 2000000 in
theorem ws_70 {ca : Nat → ClassId} {q q1 q2 q3 q4 q5 q6 q7 q8 q9 q10 q11 q12 q13 q14 q15 q16 q17 q18 q19 q20 q21 q22 q23 q24 q25 q26 q27 q28 q29 q30 q31 q32 q33 : Nat} : ((q, .inr (0, rgV 59 (upV (upV (upV (upV (upV (upV (upV (upV (upV (upV (upV (upV (upV (upV (upV (upV (upV (upV (upV (upV (upV (upV (upV (upV (upV (upV (upV (upV (upV (upV (upV (upV (upV (upV g70 1 (.ref q1)) 2 (.ref q2)) 3 (.ref q3)) 4 (.ref q4)) 5 (.ref q5)) 15 (.int (-1))) 16 (.ref q6)) 17 (.ref q7)) 18 (.ref q8)) 19 (.ref q9)) 20 (.ref q10)) 21 (.ref q11)) 22 (.ref q12)) 23 (.ref q13)) 27 (.ref q14)) 28 (.ref q15)) 29 (.ref q16)) 30 (.ref q17)) 31 (.ref q18)) 32 (.ref q19)) 33 (.ref q20)) 34 (.ref q21)) 35 (.ref q22)) 36 (.ref q23)) 37 (.ref q24)) 38 (.ref q25)) 39 (.ref q26)) 40 (.ref q27)) 41 (.ref q28)) 42 (.ref q29)) 46 (.ref q30)) 53 (.ref q31)) 57 (.ref q32)) 58 (.ref q33)))) :: [(q1, .inl (ca 0, 4, .inl (fun _ => 0))), (q2, .inl (ca 0, 4, .inl (fun _ => 0))), (q3, .inl (ca 1, 240, .inr (.inl (fun _ => 0)))), (q4, .inl (ca 1, 60, .inr (.inl (fun _ => 0)))), (q5, .inl (ca 2, 700, .inl (fun _ => 0))), (q6, .inl (ca 0, 5, .inl (fun _ => 0))), (q7, .inl (ca 0, 40, .inl (fun _ => 0))), (q8, .inl (ca 0, 30, .inl (fun _ => 0))), (q9, .inl (ca 0, 70, .inl (fun _ => 0))), (q10, .inl (ca 0, 75, .inl (fun _ => 0))), (q11, .inl (ca 0, 20, .inl (fun _ => 0))), (q12, .inl (ca 0, 450, .inl (fun _ => 0))), (q13, .inl (ca 3, 3, .inl (fun _ => 0))), (q14, .inl (ca 0, 7, .inl (fun _ => 0))), (q15, .inl (ca 0, 7, .inl (fun _ => 0))), (q16, .inl (ca 0, 7, .inl (fun _ => 0))), (q17, .inl (ca 0, 24, .inl (fun _ => 0))), (q18, .inl (ca 0, 24, .inl (fun _ => 0))), (q19, .inl (ca 0, 3, .inl (fun _ => 0))), (q20, .inl (ca 0, 3, .inl (fun _ => 0))), (q21, .inl (ca 0, 3, .inl (fun _ => 0))), (q22, .inl (ca 0, 7, .inl (fun _ => 0))), (q23, .inl (ca 0, 7, .inl (fun _ => 0))), (q24, .inl (ca 0, 7, .inl (fun _ => 0))), (q25, .inl (ca 0, 7, .inl (fun _ => 0))), (q26, .inl (ca 0, 7, .inl (fun _ => 0))), (q27, .inl (ca 0, 21, .inl (fun _ => 0))), (q28, .inl (ca 0, 21, .inl (fun _ => 0))), (q29, .inl (ca 0, 168, .inl (fun _ => 0))), (q30, .inl (ca 0, 7, .inl (fun _ => 0))), (q31, .inl (ca 0, 7, .inl (fun _ => 0))), (q32, .inl (ca 0, 9, .inl (fun _ => 0))), (q33, .inl (ca 0, 9, .inl (fun _ => 0)))] : va_W) = wl ca (f70 q q1 q2 q3 q4 q5 q6 q7 q8 q9 q10 q11 q12 q13 q14 q15 q16 q17 q18 q19 q20 q21 q22 q23 q24 q25 q26 q27 q28 q29 q30 q31 q32 q33) sh7 M7z := by
  refine wl_cells rfl ?_
  intro k c h
  match k, h with
  | 0, h =>
    cases h
    rw [wc_rgV (N := 59) rfl fs_70]
    rfl
  | 1, h => cases h; rfl
  | 2, h => cases h; rfl
  | 3, h => cases h; rfl
  | 4, h => cases h; rfl
  | 5, h => cases h; rfl
  | 6, h => cases h; rfl
  | 7, h => cases h; rfl
  | 8, h => cases h; rfl
  | 9, h => cases h; rfl
  | 10, h => cases h; rfl
  | 11, h => cases h; rfl
  | 12, h => cases h; rfl
  | 13, h => cases h; rfl
  | 14, h => cases h; rfl
  | 15, h => cases h; rfl
  | 16, h => cases h; rfl
  | 17, h => cases h; rfl
  | 18, h => cases h; rfl
  | 19, h => cases h; rfl
  | 20, h => cases h; rfl
  | 21, h => cases h; rfl
  | 22, h => cases h; rfl
  | 23, h => cases h; rfl
  | 24, h => cases h; rfl
  | 25, h => cases h; rfl
  | 26, h => cases h; rfl
  | 27, h => cases h; rfl
  | 28, h => cases h; rfl
  | 29, h => cases h; rfl
  | 30, h => cases h; rfl
  | 31, h => cases h; rfl
  | 32, h => cases h; rfl
  | 33, h => cases h; rfl
  | n + 34, h => cases h
set_option maxHeartbeats 4000000 in
set_option maxRecDepth 100000 in
theorem c_twin0 {D : va_G} {ca : Nat → ClassId} {q sz : Nat} (l : Launch) : Met l yX7_init (ws_ yX7_init cX7_init 2 none) (rmX 1 33 2056) (va_Pc [.ref q] (PC7 D ca q sz)) (QC7 D ca q sz) 33 2056 (fA q sz) := by
  refine kh_of (by decide) (Nat.le_of_ble_eq_true rfl) ?_
  intro p e s m args below meth c ls hx hb hml ho hts hr hlk hnm hB hl
  obtain ⟨hsz, hP, hK, hD⟩ := hB
  subst hsz
  have hS : va_S (fA q s.heap.size) s.heap s.heap [] := va_S.rf
  have hA : ∀ z, s.heap.size ≤ z → fA q s.heap.size z := fun z h => Or.inr h
  have a0 : ls[0]? = some (.val (.ref q)) := hl.2.2 (0, _) (by simp [lv_args])
  refine lv_aload_n hx hb dX7_init_0 rfl a0 ?_
  refine W.objInit hx hb ho (hts _ q1479) (hts _ q167) (hts _ q168) rfl (by rw [hml]; exact hl.1) rfl dX7_init_1 (Nat.le_of_ble_eq_true rfl) (Nat.le_of_ble_eq_true rfl) ?_
  refine lv_aload_n hx hb dX7_init_4 rfl a0 ?_
  refine lv_iconst hx hb dX7_init_5 (v := 4) rfl ?_
  refine unit_newg (own := RX7) (TT := TX7) (N := 59) (ci := 0) (T := 0) (k := 1) (a := q) (atype := .int) (ty := .int) (ty2 := .array .int) (N' := 4) (a0 := (4, .inl (fun _ => 0))) hx hb hts in_X7 tyX7_ok nmX7 ho hnm hK rfl (by decide) (fun C h => by cases h) rfl (hts _ q264) hP hD hS hA (fun _ => rfl) (by decide) rfl (Nat.le_of_ble_eq_true rfl) (Nat.le_of_ble_eq_true rfl) (Nat.le_of_ble_eq_true rfl) (by decide) (hts _ q1481) rfl rfl (by decide +kernel) (fun _ => rfl) (fun _ => rfl) dX7_init_6 dX7_init_8 ?_
  clear hP hD hS
  intro q1 H8 locs8 hP hD hS
  refine lv_aload_n hx hb dX7_init_11 rfl a0 ?_
  refine lv_iconst hx hb dX7_init_12 (v := 4) rfl ?_
  refine unit_newg (own := RX7) (TT := TX7) (N := 59) (ci := 0) (T := 0) (k := 2) (a := q) (atype := .int) (ty := .int) (ty2 := .array .int) (N' := 4) (a0 := (4, .inl (fun _ => 0))) hx hb hts in_X7 tyX7_ok nmX7 ho hnm hK rfl (by decide) (fun C h => by cases h) rfl (hts _ q264) hP hD hS hA (fun _ => rfl) (by decide) rfl (Nat.le_of_ble_eq_true rfl) (Nat.le_of_ble_eq_true rfl) (Nat.le_of_ble_eq_true rfl) (by decide) (hts _ q1482) rfl rfl (by decide +kernel) (fun _ => rfl) (fun _ => rfl) dX7_init_13 dX7_init_15 ?_
  clear hP hD hS
  intro q2 H15 locs15 hP hD hS
  refine lv_aload_n hx hb dX7_init_18 rfl a0 ?_
  refine lv_sipush hx hb dX7_init_19 (v := 240) rfl ?_
  refine unit_newg (own := RX7) (TT := TX7) (N := 59) (ci := 0) (T := 1) (k := 3) (a := q) (atype := .long) (ty := .long) (ty2 := .array .long) (N' := 240) (a0 := (240, .inr (.inl (fun _ => 0)))) hx hb hts in_X7 tyX7_ok nmX7 ho hnm hK rfl (by decide) (fun C h => by cases h) rfl (hts _ q1427) hP hD hS hA (fun _ => rfl) (by decide) rfl (Nat.le_of_ble_eq_true rfl) (Nat.le_of_ble_eq_true rfl) (Nat.le_of_ble_eq_true rfl) (by decide) (hts _ q1483) rfl rfl (by decide +kernel) (fun _ => rfl) (fun _ => rfl) dX7_init_22 dX7_init_24 ?_
  clear hP hD hS
  intro q3 H24 locs24 hP hD hS
  refine lv_aload_n hx hb dX7_init_27 rfl a0 ?_
  refine lv_bipush hx hb dX7_init_28 (v := 60) rfl ?_
  refine unit_newg (own := RX7) (TT := TX7) (N := 59) (ci := 0) (T := 1) (k := 4) (a := q) (atype := .long) (ty := .long) (ty2 := .array .long) (N' := 60) (a0 := (60, .inr (.inl (fun _ => 0)))) hx hb hts in_X7 tyX7_ok nmX7 ho hnm hK rfl (by decide) (fun C h => by cases h) rfl (hts _ q1427) hP hD hS hA (fun _ => rfl) (by decide) rfl (Nat.le_of_ble_eq_true rfl) (Nat.le_of_ble_eq_true rfl) (Nat.le_of_ble_eq_true rfl) (by decide) (hts _ q1484) rfl rfl (by decide +kernel) (fun _ => rfl) (fun _ => rfl) dX7_init_30 dX7_init_32 ?_
  clear hP hD hS
  intro q4 H32 locs32 hP hD hS
  refine lv_aload_n hx hb dX7_init_35 rfl a0 ?_
  refine lv_sipush hx hb dX7_init_36 (v := 700) rfl ?_
  refine unit_newg (own := RX7) (TT := TX7) (N := 59) (ci := 0) (T := 2) (k := 5) (a := q) (atype := .byte) (ty := .byte) (ty2 := .array .byte) (N' := 700) (a0 := (700, .inl (fun _ => 0))) hx hb hts in_X7 tyX7_ok nmX7 ho hnm hK rfl (by decide) (fun C h => by cases h) rfl (hts _ q276) hP hD hS hA (fun _ => rfl) (by decide) rfl (Nat.le_of_ble_eq_true rfl) (Nat.le_of_ble_eq_true rfl) (Nat.le_of_ble_eq_true rfl) (by decide) (hts _ q1485) rfl rfl (by decide +kernel) (fun _ => rfl) (fun _ => rfl) dX7_init_39 dX7_init_41 ?_
  clear hP hD hS
  intro q5 H41 locs41 hP hD hS
  refine lv_aload_n hx hb dX7_init_44 rfl a0 ?_
  refine lv_iconst hx hb dX7_init_45 (v := (-1)) rfl ?_
  refine unit_int (own := RX7) (TT := TX7) (N := 59) (ci := 0) (k := 15) (a := q) (v := (-1)) hx hb hts in_X7 tyX7_ok nmX7 ho hK rfl hP hD hS (by decide) (hts _ q1495) rfl rfl (by decide +kernel) dX7_init_46 ?_
  clear hP hD hS
  intro H46 locs46 hP hD hS
  refine lv_aload_n hx hb dX7_init_49 rfl a0 ?_
  refine lv_iconst hx hb dX7_init_50 (v := 5) rfl ?_
  refine unit_newg (own := RX7) (TT := TX7) (N := 59) (ci := 0) (T := 0) (k := 16) (a := q) (atype := .int) (ty := .int) (ty2 := .array .int) (N' := 5) (a0 := (5, .inl (fun _ => 0))) hx hb hts in_X7 tyX7_ok nmX7 ho hnm hK rfl (by decide) (fun C h => by cases h) rfl (hts _ q264) hP hD hS hA (fun _ => rfl) (by decide) rfl (Nat.le_of_ble_eq_true rfl) (Nat.le_of_ble_eq_true rfl) (Nat.le_of_ble_eq_true rfl) (by decide) (hts _ q1496) rfl rfl (by decide +kernel) (fun _ => rfl) (fun _ => rfl) dX7_init_51 dX7_init_53 ?_
  clear hP hD hS
  intro q6 H53 locs53 hP hD hS
  refine lv_aload_n hx hb dX7_init_56 rfl a0 ?_
  refine lv_bipush hx hb dX7_init_57 (v := 40) rfl ?_
  refine unit_newg (own := RX7) (TT := TX7) (N := 59) (ci := 0) (T := 0) (k := 17) (a := q) (atype := .int) (ty := .int) (ty2 := .array .int) (N' := 40) (a0 := (40, .inl (fun _ => 0))) hx hb hts in_X7 tyX7_ok nmX7 ho hnm hK rfl (by decide) (fun C h => by cases h) rfl (hts _ q264) hP hD hS hA (fun _ => rfl) (by decide) rfl (Nat.le_of_ble_eq_true rfl) (Nat.le_of_ble_eq_true rfl) (Nat.le_of_ble_eq_true rfl) (by decide) (hts _ q1497) rfl rfl (by decide +kernel) (fun _ => rfl) (fun _ => rfl) dX7_init_59 dX7_init_61 ?_
  clear hP hD hS
  intro q7 H61 locs61 hP hD hS
  refine lv_aload_n hx hb dX7_init_64 rfl a0 ?_
  refine lv_bipush hx hb dX7_init_65 (v := 30) rfl ?_
  refine unit_newg (own := RX7) (TT := TX7) (N := 59) (ci := 0) (T := 0) (k := 18) (a := q) (atype := .int) (ty := .int) (ty2 := .array .int) (N' := 30) (a0 := (30, .inl (fun _ => 0))) hx hb hts in_X7 tyX7_ok nmX7 ho hnm hK rfl (by decide) (fun C h => by cases h) rfl (hts _ q264) hP hD hS hA (fun _ => rfl) (by decide) rfl (Nat.le_of_ble_eq_true rfl) (Nat.le_of_ble_eq_true rfl) (Nat.le_of_ble_eq_true rfl) (by decide) (hts _ q1498) rfl rfl (by decide +kernel) (fun _ => rfl) (fun _ => rfl) dX7_init_67 dX7_init_69 ?_
  clear hP hD hS
  intro q8 H69 locs69 hP hD hS
  refine lv_aload_n hx hb dX7_init_72 rfl a0 ?_
  refine lv_bipush hx hb dX7_init_73 (v := 70) rfl ?_
  refine unit_newg (own := RX7) (TT := TX7) (N := 59) (ci := 0) (T := 0) (k := 19) (a := q) (atype := .int) (ty := .int) (ty2 := .array .int) (N' := 70) (a0 := (70, .inl (fun _ => 0))) hx hb hts in_X7 tyX7_ok nmX7 ho hnm hK rfl (by decide) (fun C h => by cases h) rfl (hts _ q264) hP hD hS hA (fun _ => rfl) (by decide) rfl (Nat.le_of_ble_eq_true rfl) (Nat.le_of_ble_eq_true rfl) (Nat.le_of_ble_eq_true rfl) (by decide) (hts _ q1499) rfl rfl (by decide +kernel) (fun _ => rfl) (fun _ => rfl) dX7_init_75 dX7_init_77 ?_
  clear hP hD hS
  intro q9 H77 locs77 hP hD hS
  refine lv_aload_n hx hb dX7_init_80 rfl a0 ?_
  refine lv_bipush hx hb dX7_init_81 (v := 75) rfl ?_
  refine unit_newg (own := RX7) (TT := TX7) (N := 59) (ci := 0) (T := 0) (k := 20) (a := q) (atype := .int) (ty := .int) (ty2 := .array .int) (N' := 75) (a0 := (75, .inl (fun _ => 0))) hx hb hts in_X7 tyX7_ok nmX7 ho hnm hK rfl (by decide) (fun C h => by cases h) rfl (hts _ q264) hP hD hS hA (fun _ => rfl) (by decide) rfl (Nat.le_of_ble_eq_true rfl) (Nat.le_of_ble_eq_true rfl) (Nat.le_of_ble_eq_true rfl) (by decide) (hts _ q1500) rfl rfl (by decide +kernel) (fun _ => rfl) (fun _ => rfl) dX7_init_83 dX7_init_85 ?_
  clear hP hD hS
  intro q10 H85 locs85 hP hD hS
  refine lv_aload_n hx hb dX7_init_88 rfl a0 ?_
  refine lv_bipush hx hb dX7_init_89 (v := 20) rfl ?_
  refine unit_newg (own := RX7) (TT := TX7) (N := 59) (ci := 0) (T := 0) (k := 21) (a := q) (atype := .int) (ty := .int) (ty2 := .array .int) (N' := 20) (a0 := (20, .inl (fun _ => 0))) hx hb hts in_X7 tyX7_ok nmX7 ho hnm hK rfl (by decide) (fun C h => by cases h) rfl (hts _ q264) hP hD hS hA (fun _ => rfl) (by decide) rfl (Nat.le_of_ble_eq_true rfl) (Nat.le_of_ble_eq_true rfl) (Nat.le_of_ble_eq_true rfl) (by decide) (hts _ q1501) rfl rfl (by decide +kernel) (fun _ => rfl) (fun _ => rfl) dX7_init_91 dX7_init_93 ?_
  clear hP hD hS
  intro q11 H93 locs93 hP hD hS
  refine lv_aload_n hx hb dX7_init_96 rfl a0 ?_
  refine lv_sipush hx hb dX7_init_97 (v := 450) rfl ?_
  refine unit_newg (own := RX7) (TT := TX7) (N := 59) (ci := 0) (T := 0) (k := 22) (a := q) (atype := .int) (ty := .int) (ty2 := .array .int) (N' := 450) (a0 := (450, .inl (fun _ => 0))) hx hb hts in_X7 tyX7_ok nmX7 ho hnm hK rfl (by decide) (fun C h => by cases h) rfl (hts _ q264) hP hD hS hA (fun _ => rfl) (by decide) rfl (Nat.le_of_ble_eq_true rfl) (Nat.le_of_ble_eq_true rfl) (Nat.le_of_ble_eq_true rfl) (by decide) (hts _ q1502) rfl rfl (by decide +kernel) (fun _ => rfl) (fun _ => rfl) dX7_init_100 dX7_init_102 ?_
  clear hP hD hS
  intro q12 H102 locs102 hP hD hS
  refine lv_aload_n hx hb dX7_init_105 rfl a0 ?_
  refine lv_iconst hx hb dX7_init_106 (v := 3) rfl ?_
  refine unit_newg (own := RX7) (TT := TX7) (N := 59) (ci := 0) (T := 3) (k := 23) (a := q) (atype := .boolean) (ty := .boolean) (ty2 := .array .boolean) (N' := 3) (a0 := (3, .inl (fun _ => 0))) hx hb hts in_X7 tyX7_ok nmX7 ho hnm hK rfl (by decide) (fun C h => by cases h) rfl (hts _ q1658) hP hD hS hA (fun _ => rfl) (by decide) rfl (Nat.le_of_ble_eq_true rfl) (Nat.le_of_ble_eq_true rfl) (Nat.le_of_ble_eq_true rfl) (by decide) (hts _ q1503) rfl rfl (by decide +kernel) (fun _ => rfl) (fun _ => rfl) dX7_init_107 dX7_init_109 ?_
  clear hP hD hS
  intro q13 H109 locs109 hP hD hS
  refine lv_aload_n hx hb dX7_init_112 rfl a0 ?_
  refine lv_bipush hx hb dX7_init_113 (v := 7) rfl ?_
  refine unit_newg (own := RX7) (TT := TX7) (N := 59) (ci := 0) (T := 0) (k := 27) (a := q) (atype := .int) (ty := .int) (ty2 := .array .int) (N' := 7) (a0 := (7, .inl (fun _ => 0))) hx hb hts in_X7 tyX7_ok nmX7 ho hnm hK rfl (by decide) (fun C h => by cases h) rfl (hts _ q264) hP hD hS hA (fun _ => rfl) (by decide) rfl (Nat.le_of_ble_eq_true rfl) (Nat.le_of_ble_eq_true rfl) (Nat.le_of_ble_eq_true rfl) (by decide) (hts _ q1507) rfl rfl (by decide +kernel) (fun _ => rfl) (fun _ => rfl) dX7_init_115 dX7_init_117 ?_
  clear hP hD hS
  intro q14 H117 locs117 hP hD hS
  refine lv_aload_n hx hb dX7_init_120 rfl a0 ?_
  refine lv_bipush hx hb dX7_init_121 (v := 7) rfl ?_
  refine unit_newg (own := RX7) (TT := TX7) (N := 59) (ci := 0) (T := 0) (k := 28) (a := q) (atype := .int) (ty := .int) (ty2 := .array .int) (N' := 7) (a0 := (7, .inl (fun _ => 0))) hx hb hts in_X7 tyX7_ok nmX7 ho hnm hK rfl (by decide) (fun C h => by cases h) rfl (hts _ q264) hP hD hS hA (fun _ => rfl) (by decide) rfl (Nat.le_of_ble_eq_true rfl) (Nat.le_of_ble_eq_true rfl) (Nat.le_of_ble_eq_true rfl) (by decide) (hts _ q1508) rfl rfl (by decide +kernel) (fun _ => rfl) (fun _ => rfl) dX7_init_123 dX7_init_125 ?_
  clear hP hD hS
  intro q15 H125 locs125 hP hD hS
  refine lv_aload_n hx hb dX7_init_128 rfl a0 ?_
  refine lv_bipush hx hb dX7_init_129 (v := 7) rfl ?_
  refine unit_newg (own := RX7) (TT := TX7) (N := 59) (ci := 0) (T := 0) (k := 29) (a := q) (atype := .int) (ty := .int) (ty2 := .array .int) (N' := 7) (a0 := (7, .inl (fun _ => 0))) hx hb hts in_X7 tyX7_ok nmX7 ho hnm hK rfl (by decide) (fun C h => by cases h) rfl (hts _ q264) hP hD hS hA (fun _ => rfl) (by decide) rfl (Nat.le_of_ble_eq_true rfl) (Nat.le_of_ble_eq_true rfl) (Nat.le_of_ble_eq_true rfl) (by decide) (hts _ q1509) rfl rfl (by decide +kernel) (fun _ => rfl) (fun _ => rfl) dX7_init_131 dX7_init_133 ?_
  clear hP hD hS
  intro q16 H133 locs133 hP hD hS
  refine lv_aload_n hx hb dX7_init_136 rfl a0 ?_
  refine lv_bipush hx hb dX7_init_137 (v := 24) rfl ?_
  refine unit_newg (own := RX7) (TT := TX7) (N := 59) (ci := 0) (T := 0) (k := 30) (a := q) (atype := .int) (ty := .int) (ty2 := .array .int) (N' := 24) (a0 := (24, .inl (fun _ => 0))) hx hb hts in_X7 tyX7_ok nmX7 ho hnm hK rfl (by decide) (fun C h => by cases h) rfl (hts _ q264) hP hD hS hA (fun _ => rfl) (by decide) rfl (Nat.le_of_ble_eq_true rfl) (Nat.le_of_ble_eq_true rfl) (Nat.le_of_ble_eq_true rfl) (by decide) (hts _ q1510) rfl rfl (by decide +kernel) (fun _ => rfl) (fun _ => rfl) dX7_init_139 dX7_init_141 ?_
  clear hP hD hS
  intro q17 H141 locs141 hP hD hS
  refine lv_aload_n hx hb dX7_init_144 rfl a0 ?_
  refine lv_bipush hx hb dX7_init_145 (v := 24) rfl ?_
  refine unit_newg (own := RX7) (TT := TX7) (N := 59) (ci := 0) (T := 0) (k := 31) (a := q) (atype := .int) (ty := .int) (ty2 := .array .int) (N' := 24) (a0 := (24, .inl (fun _ => 0))) hx hb hts in_X7 tyX7_ok nmX7 ho hnm hK rfl (by decide) (fun C h => by cases h) rfl (hts _ q264) hP hD hS hA (fun _ => rfl) (by decide) rfl (Nat.le_of_ble_eq_true rfl) (Nat.le_of_ble_eq_true rfl) (Nat.le_of_ble_eq_true rfl) (by decide) (hts _ q1511) rfl rfl (by decide +kernel) (fun _ => rfl) (fun _ => rfl) dX7_init_147 dX7_init_149 ?_
  clear hP hD hS
  intro q18 H149 locs149 hP hD hS
  refine lv_aload_n hx hb dX7_init_152 rfl a0 ?_
  refine lv_iconst hx hb dX7_init_153 (v := 3) rfl ?_
  refine unit_newg (own := RX7) (TT := TX7) (N := 59) (ci := 0) (T := 0) (k := 32) (a := q) (atype := .int) (ty := .int) (ty2 := .array .int) (N' := 3) (a0 := (3, .inl (fun _ => 0))) hx hb hts in_X7 tyX7_ok nmX7 ho hnm hK rfl (by decide) (fun C h => by cases h) rfl (hts _ q264) hP hD hS hA (fun _ => rfl) (by decide) rfl (Nat.le_of_ble_eq_true rfl) (Nat.le_of_ble_eq_true rfl) (Nat.le_of_ble_eq_true rfl) (by decide) (hts _ q1512) rfl rfl (by decide +kernel) (fun _ => rfl) (fun _ => rfl) dX7_init_154 dX7_init_156 ?_
  clear hP hD hS
  intro q19 H156 locs156 hP hD hS
  refine lv_aload_n hx hb dX7_init_159 rfl a0 ?_
  refine lv_iconst hx hb dX7_init_160 (v := 3) rfl ?_
  refine unit_newg (own := RX7) (TT := TX7) (N := 59) (ci := 0) (T := 0) (k := 33) (a := q) (atype := .int) (ty := .int) (ty2 := .array .int) (N' := 3) (a0 := (3, .inl (fun _ => 0))) hx hb hts in_X7 tyX7_ok nmX7 ho hnm hK rfl (by decide) (fun C h => by cases h) rfl (hts _ q264) hP hD hS hA (fun _ => rfl) (by decide) rfl (Nat.le_of_ble_eq_true rfl) (Nat.le_of_ble_eq_true rfl) (Nat.le_of_ble_eq_true rfl) (by decide) (hts _ q1513) rfl rfl (by decide +kernel) (fun _ => rfl) (fun _ => rfl) dX7_init_161 dX7_init_163 ?_
  clear hP hD hS
  intro q20 H163 locs163 hP hD hS
  refine lv_aload_n hx hb dX7_init_166 rfl a0 ?_
  refine lv_iconst hx hb dX7_init_167 (v := 3) rfl ?_
  refine unit_newg (own := RX7) (TT := TX7) (N := 59) (ci := 0) (T := 0) (k := 34) (a := q) (atype := .int) (ty := .int) (ty2 := .array .int) (N' := 3) (a0 := (3, .inl (fun _ => 0))) hx hb hts in_X7 tyX7_ok nmX7 ho hnm hK rfl (by decide) (fun C h => by cases h) rfl (hts _ q264) hP hD hS hA (fun _ => rfl) (by decide) rfl (Nat.le_of_ble_eq_true rfl) (Nat.le_of_ble_eq_true rfl) (Nat.le_of_ble_eq_true rfl) (by decide) (hts _ q1514) rfl rfl (by decide +kernel) (fun _ => rfl) (fun _ => rfl) dX7_init_168 dX7_init_170 ?_
  clear hP hD hS
  intro q21 H170 locs170 hP hD hS
  refine lv_aload_n hx hb dX7_init_173 rfl a0 ?_
  refine lv_bipush hx hb dX7_init_174 (v := 7) rfl ?_
  refine unit_newg (own := RX7) (TT := TX7) (N := 59) (ci := 0) (T := 0) (k := 35) (a := q) (atype := .int) (ty := .int) (ty2 := .array .int) (N' := 7) (a0 := (7, .inl (fun _ => 0))) hx hb hts in_X7 tyX7_ok nmX7 ho hnm hK rfl (by decide) (fun C h => by cases h) rfl (hts _ q264) hP hD hS hA (fun _ => rfl) (by decide) rfl (Nat.le_of_ble_eq_true rfl) (Nat.le_of_ble_eq_true rfl) (Nat.le_of_ble_eq_true rfl) (by decide) (hts _ q1515) rfl rfl (by decide +kernel) (fun _ => rfl) (fun _ => rfl) dX7_init_176 dX7_init_178 ?_
  clear hP hD hS
  intro q22 H178 locs178 hP hD hS
  refine lv_aload_n hx hb dX7_init_181 rfl a0 ?_
  refine lv_bipush hx hb dX7_init_182 (v := 7) rfl ?_
  refine unit_newg (own := RX7) (TT := TX7) (N := 59) (ci := 0) (T := 0) (k := 36) (a := q) (atype := .int) (ty := .int) (ty2 := .array .int) (N' := 7) (a0 := (7, .inl (fun _ => 0))) hx hb hts in_X7 tyX7_ok nmX7 ho hnm hK rfl (by decide) (fun C h => by cases h) rfl (hts _ q264) hP hD hS hA (fun _ => rfl) (by decide) rfl (Nat.le_of_ble_eq_true rfl) (Nat.le_of_ble_eq_true rfl) (Nat.le_of_ble_eq_true rfl) (by decide) (hts _ q1516) rfl rfl (by decide +kernel) (fun _ => rfl) (fun _ => rfl) dX7_init_184 dX7_init_186 ?_
  clear hP hD hS
  intro q23 H186 locs186 hP hD hS
  refine lv_aload_n hx hb dX7_init_189 rfl a0 ?_
  refine lv_bipush hx hb dX7_init_190 (v := 7) rfl ?_
  refine unit_newg (own := RX7) (TT := TX7) (N := 59) (ci := 0) (T := 0) (k := 37) (a := q) (atype := .int) (ty := .int) (ty2 := .array .int) (N' := 7) (a0 := (7, .inl (fun _ => 0))) hx hb hts in_X7 tyX7_ok nmX7 ho hnm hK rfl (by decide) (fun C h => by cases h) rfl (hts _ q264) hP hD hS hA (fun _ => rfl) (by decide) rfl (Nat.le_of_ble_eq_true rfl) (Nat.le_of_ble_eq_true rfl) (Nat.le_of_ble_eq_true rfl) (by decide) (hts _ q1517) rfl rfl (by decide +kernel) (fun _ => rfl) (fun _ => rfl) dX7_init_192 dX7_init_194 ?_
  clear hP hD hS
  intro q24 H194 locs194 hP hD hS
  refine lv_aload_n hx hb dX7_init_197 rfl a0 ?_
  refine lv_bipush hx hb dX7_init_198 (v := 7) rfl ?_
  refine unit_newg (own := RX7) (TT := TX7) (N := 59) (ci := 0) (T := 0) (k := 38) (a := q) (atype := .int) (ty := .int) (ty2 := .array .int) (N' := 7) (a0 := (7, .inl (fun _ => 0))) hx hb hts in_X7 tyX7_ok nmX7 ho hnm hK rfl (by decide) (fun C h => by cases h) rfl (hts _ q264) hP hD hS hA (fun _ => rfl) (by decide) rfl (Nat.le_of_ble_eq_true rfl) (Nat.le_of_ble_eq_true rfl) (Nat.le_of_ble_eq_true rfl) (by decide) (hts _ q1518) rfl rfl (by decide +kernel) (fun _ => rfl) (fun _ => rfl) dX7_init_200 dX7_init_202 ?_
  clear hP hD hS
  intro q25 H202 locs202 hP hD hS
  refine lv_aload_n hx hb dX7_init_205 rfl a0 ?_
  refine lv_bipush hx hb dX7_init_206 (v := 7) rfl ?_
  refine unit_newg (own := RX7) (TT := TX7) (N := 59) (ci := 0) (T := 0) (k := 39) (a := q) (atype := .int) (ty := .int) (ty2 := .array .int) (N' := 7) (a0 := (7, .inl (fun _ => 0))) hx hb hts in_X7 tyX7_ok nmX7 ho hnm hK rfl (by decide) (fun C h => by cases h) rfl (hts _ q264) hP hD hS hA (fun _ => rfl) (by decide) rfl (Nat.le_of_ble_eq_true rfl) (Nat.le_of_ble_eq_true rfl) (Nat.le_of_ble_eq_true rfl) (by decide) (hts _ q1519) rfl rfl (by decide +kernel) (fun _ => rfl) (fun _ => rfl) dX7_init_208 dX7_init_210 ?_
  clear hP hD hS
  intro q26 H210 locs210 hP hD hS
  refine lv_aload_n hx hb dX7_init_213 rfl a0 ?_
  refine lv_bipush hx hb dX7_init_214 (v := 21) rfl ?_
  refine unit_newg (own := RX7) (TT := TX7) (N := 59) (ci := 0) (T := 0) (k := 40) (a := q) (atype := .int) (ty := .int) (ty2 := .array .int) (N' := 21) (a0 := (21, .inl (fun _ => 0))) hx hb hts in_X7 tyX7_ok nmX7 ho hnm hK rfl (by decide) (fun C h => by cases h) rfl (hts _ q264) hP hD hS hA (fun _ => rfl) (by decide) rfl (Nat.le_of_ble_eq_true rfl) (Nat.le_of_ble_eq_true rfl) (Nat.le_of_ble_eq_true rfl) (by decide) (hts _ q1520) rfl rfl (by decide +kernel) (fun _ => rfl) (fun _ => rfl) dX7_init_216 dX7_init_218 ?_
  clear hP hD hS
  intro q27 H218 locs218 hP hD hS
  refine lv_aload_n hx hb dX7_init_221 rfl a0 ?_
  refine lv_bipush hx hb dX7_init_222 (v := 21) rfl ?_
  refine unit_newg (own := RX7) (TT := TX7) (N := 59) (ci := 0) (T := 0) (k := 41) (a := q) (atype := .int) (ty := .int) (ty2 := .array .int) (N' := 21) (a0 := (21, .inl (fun _ => 0))) hx hb hts in_X7 tyX7_ok nmX7 ho hnm hK rfl (by decide) (fun C h => by cases h) rfl (hts _ q264) hP hD hS hA (fun _ => rfl) (by decide) rfl (Nat.le_of_ble_eq_true rfl) (Nat.le_of_ble_eq_true rfl) (Nat.le_of_ble_eq_true rfl) (by decide) (hts _ q1521) rfl rfl (by decide +kernel) (fun _ => rfl) (fun _ => rfl) dX7_init_224 dX7_init_226 ?_
  clear hP hD hS
  intro q28 H226 locs226 hP hD hS
  refine lv_aload_n hx hb dX7_init_229 rfl a0 ?_
  refine lv_sipush hx hb dX7_init_230 (v := 168) rfl ?_
  refine unit_newg (own := RX7) (TT := TX7) (N := 59) (ci := 0) (T := 0) (k := 42) (a := q) (atype := .int) (ty := .int) (ty2 := .array .int) (N' := 168) (a0 := (168, .inl (fun _ => 0))) hx hb hts in_X7 tyX7_ok nmX7 ho hnm hK rfl (by decide) (fun C h => by cases h) rfl (hts _ q264) hP hD hS hA (fun _ => rfl) (by decide) rfl (Nat.le_of_ble_eq_true rfl) (Nat.le_of_ble_eq_true rfl) (Nat.le_of_ble_eq_true rfl) (by decide) (hts _ q1522) rfl rfl (by decide +kernel) (fun _ => rfl) (fun _ => rfl) dX7_init_233 dX7_init_235 ?_
  clear hP hD hS
  intro q29 H235 locs235 hP hD hS
  refine lv_aload_n hx hb dX7_init_238 rfl a0 ?_
  refine lv_bipush hx hb dX7_init_239 (v := 7) rfl ?_
  refine unit_newg (own := RX7) (TT := TX7) (N := 59) (ci := 0) (T := 0) (k := 46) (a := q) (atype := .int) (ty := .int) (ty2 := .array .int) (N' := 7) (a0 := (7, .inl (fun _ => 0))) hx hb hts in_X7 tyX7_ok nmX7 ho hnm hK rfl (by decide) (fun C h => by cases h) rfl (hts _ q264) hP hD hS hA (fun _ => rfl) (by decide) rfl (Nat.le_of_ble_eq_true rfl) (Nat.le_of_ble_eq_true rfl) (Nat.le_of_ble_eq_true rfl) (by decide) (hts _ q1526) rfl rfl (by decide +kernel) (fun _ => rfl) (fun _ => rfl) dX7_init_241 dX7_init_243 ?_
  clear hP hD hS
  intro q30 H243 locs243 hP hD hS
  refine lv_aload_n hx hb dX7_init_246 rfl a0 ?_
  refine lv_bipush hx hb dX7_init_247 (v := 7) rfl ?_
  refine unit_newg (own := RX7) (TT := TX7) (N := 59) (ci := 0) (T := 0) (k := 53) (a := q) (atype := .int) (ty := .int) (ty2 := .array .int) (N' := 7) (a0 := (7, .inl (fun _ => 0))) hx hb hts in_X7 tyX7_ok nmX7 ho hnm hK rfl (by decide) (fun C h => by cases h) rfl (hts _ q264) hP hD hS hA (fun _ => rfl) (by decide) rfl (Nat.le_of_ble_eq_true rfl) (Nat.le_of_ble_eq_true rfl) (Nat.le_of_ble_eq_true rfl) (by decide) (hts _ q1533) rfl rfl (by decide +kernel) (fun _ => rfl) (fun _ => rfl) dX7_init_249 dX7_init_251 ?_
  clear hP hD hS
  intro q31 H251 locs251 hP hD hS
  refine lv_aload_n hx hb dX7_init_254 rfl a0 ?_
  refine lv_bipush hx hb dX7_init_255 (v := 9) rfl ?_
  refine unit_newg (own := RX7) (TT := TX7) (N := 59) (ci := 0) (T := 0) (k := 57) (a := q) (atype := .int) (ty := .int) (ty2 := .array .int) (N' := 9) (a0 := (9, .inl (fun _ => 0))) hx hb hts in_X7 tyX7_ok nmX7 ho hnm hK rfl (by decide) (fun C h => by cases h) rfl (hts _ q264) hP hD hS hA (fun _ => rfl) (by decide) rfl (Nat.le_of_ble_eq_true rfl) (Nat.le_of_ble_eq_true rfl) (Nat.le_of_ble_eq_true rfl) (by decide) (hts _ q1537) rfl rfl (by decide +kernel) (fun _ => rfl) (fun _ => rfl) dX7_init_257 dX7_init_259 ?_
  clear hP hD hS
  intro q32 H259 locs259 hP hD hS
  refine lv_aload_n hx hb dX7_init_262 rfl a0 ?_
  refine lv_bipush hx hb dX7_init_263 (v := 9) rfl ?_
  refine unit_newg (own := RX7) (TT := TX7) (N := 59) (ci := 0) (T := 0) (k := 58) (a := q) (atype := .int) (ty := .int) (ty2 := .array .int) (N' := 9) (a0 := (9, .inl (fun _ => 0))) hx hb hts in_X7 tyX7_ok nmX7 ho hnm hK rfl (by decide) (fun C h => by cases h) rfl (hts _ q264) hP hD hS hA (fun _ => rfl) (by decide) rfl (Nat.le_of_ble_eq_true rfl) (Nat.le_of_ble_eq_true rfl) (Nat.le_of_ble_eq_true rfl) (by decide) (hts _ q1538) rfl rfl (by decide +kernel) (fun _ => rfl) (fun _ => rfl) dX7_init_265 dX7_init_267 ?_
  clear hP hD hS
  intro q33 H267 locs267 hP hD hS
  have hP : va_P D cl7 (wl ca (f70 q q1 q2 q3 q4 q5 q6 q7 q8 q9 q10 q11 q12 q13 q14 q15 q16 q17 q18 q19 q20 q21 q22 q23 q24 q25 q26 q27 q28 q29 q30 q31 q32 q33) sh7 M7z) H267 := by rw [← ws_70]; exact hP
  have hD : va_D (fA q s.heap.size) (wl ca (f70 q q1 q2 q3 q4 q5 q6 q7 q8 q9 q10 q11 q12 q13 q14 q15 q16 q17 q18 q19 q20 q21 q22 q23 q24 q25 q26 q27 q28 q29 q30 q31 q32 q33) sh7 M7z) := by rw [← ws_70]; exact hD
  sorry
