/-! new Reader(): its walk -/
theorem adR_o {ad : Nat → Nat} {q q1 : Nat} {f : Nat → Nat} : ∀ k, (k = 2 ∨ k = 3 ∨ 12 ≤ k) → adR ad q q1 f k = ad k := by
  intro k h
  unfold adR
  rcases h with rfl | rfl | h
  · rfl
  · rfl
  · rw [if_neg (by omega), if_neg (by omega), if_neg (by omega), if_neg (by omega), if_neg (by omega)]
theorem vZ_R0 {M : Mm} : vZ (MR0 M) = fun _ _ => 0 := by
  unfold vZ
  funext i j
  revert i
  refine vZr_cases ?_ ?_ ?_ ?_ ?_ ?_ ?_ ?_ ?_ ?_ ?_ ?_ (fun i hi => vZr_o hi)
  · show (if j = 0 then (0 : Int) else if j = 1 then 0 else if j = 2 then 0 else if j = 3 then 0 else if j = 4 then 0 else if j = 5 then 0 else if j = 6 then 0 else if j = 7 then 0 else if j = 8 then 0 else 0) = 0
    simp only [ite_self]
  · show (if (j : Int) < 0 then (0 : Int) else 0) = 0
    exact ite_self (0 : Int)
  · show (if (j : Int) < 0 then (0 : Int) else 0) = 0
    exact ite_self (0 : Int)
  · show (if (j : Int) < 0 then (0 : Int) else 0) = 0
    exact ite_self (0 : Int)
  · show (if (j : Int) < 0 then (0 : Int) else 0) = 0
    exact ite_self (0 : Int)
  · show (if (j : Int) < 0 then (0 : Int) else 0) = 0
    exact ite_self (0 : Int)
  · show (if (j : Int) < 0 then (0 : Int) else 0) = 0
    exact ite_self (0 : Int)
  · show (if (j : Int) < 0 then (0 : Int) else 0) = 0
    exact ite_self (0 : Int)
  · show (if j = 0 then (0 : Int) else 0) = 0
    exact ite_self (0 : Int)
  · show (if (j : Int) < 0 then actK 0 else (0 : Int)) = 0
    rw [if_neg (by omega)]
  · show (if (j : Int) < 0 then actC 0 else (0 : Int)) = 0
    rw [if_neg (by omega)]
  · show (if (j : Int) < 0 then actB 0 else (0 : Int)) = 0
    rw [if_neg (by omega)]
set_option maxHeartbeats 400000 in
set_option maxRecDepth 100000 in
theorem c_reader {D : va_G} {ca : Nat → ClassId} {ad : Nat → Nat} {M : Mm} {q sz : Nat} (l : Launch) (hl0 : l.stackTraces = false) (h2 : okC (.inl (2, fkS)) (M 2)) (h3 : okC (.inr (2, 700)) (M 3)) (ht : 0 ≤ M 2 2 ∧ M 2 2 ≤ 700) : Met l yX8_init (ws_ yX8_init cX8_init 2 none) (rmX 4 10 91) (va_Pc [.ref q, .ref (ad 2)] (PRi D ca ad M q sz)) (QRi D ca ad M q sz) 10 91 (va_A (wR0 ca ad M q fsR0) sz) := by
  refine kh_of (by decide) (Nat.le_of_ble_eq_true rfl) ?_
  intro p e s m args below meth c ls hx hb hml ho hts hr hlk hnm hB hl
  obtain ⟨hsz, hP, hK, hD, hN, hE⟩ := hB
  subst hsz
  have hS : va_S (va_A (wR0 ca ad M q fsR0) s.heap.size) s.heap s.heap [] := va_S.rf
  have hA : ∀ z, s.heap.size ≤ z → va_A (wR0 ca ad M q fsR0) s.heap.size z := fun z h => Or.inr h
  generalize hAA : va_A (wR0 ca ad M q fsR0) s.heap.size = A at hS hA hD hE ⊢
  have hN2 : ∀ w ∈ NwsR, w.before args s = true := fun w hw => nw_use (nwsR_ok w hw) (hN w hw)
  have a0 : ls[0]? = some (.val (.ref q)) := hl.2.2 (0, _) (by simp [lv_args])
  have a1 : ls[1]? = some (.val (.ref (ad 2))) := hl.2.2 (1, _) (by simp [lv_args, Value.category])
  unfold wR0 at hP hD
  have hwl : ∀ (q1 : Nat) (f : Nat → Nat), wl ca (adR ad q q1 f) shR (MR0 M) = (q, .inr (0, [.int (Int32.ofInt (M 2 2)), .ref q1, .int 0, .int 0, .int 0, .ref (ad 320), .ref (ad 2)])) :: valO q1 1 f :: (ad 2, wc ca ad (M 2) (.inl (2, fkS))) :: (ad 3, wc ca ad (M 3) (.inr (2, 700))) :: valA (ca 0) f := fun q1 f => wl_R0
  obtain ⟨fs2, hf2, hfs⟩ := @wc_S2 ca ad (M 2)
  rw [hf2] at hP hD
  simp only [hf2] at hwl
  generalize wc ca ad (M 3) (.inr (2, 700)) = e3 at hP hD hwl
  refine lv_aload_n hx hb dX8_init_0 rfl a0 ?_
  refine lv_aload_n hx hb dX8_init_1 rfl a1 ?_
  refine va_putF (ci := 0) (v := .ref (ad 2)) (ty := .object "SagMemory") (C := RX8) (T := TX8) (N := 7) (ref := RX8) hx hb hts in_X8 tyX8 tyX8_ok nmX8 ho hK hP hD hS 0 rfl rfl 6 (by decide) (hts _ q552) (fun _ h => h) rfl hnm rfl (by decide +kernel) rfl rfl (Nat.le_of_ble_eq_true rfl) dX8_init_2 ?_
  clear hP hD hS
  intro H1 locs1 hP hD hS
  refine lv_aload_n hx hb dX8_init_5 rfl a0 ?_
  refine W.objInit hx hb ho (hts _ q520) (hts _ q167) (hts _ q168) rfl (by rw [hml]; exact hl.1) rfl dX8_init_6 (Nat.le_of_ble_eq_true rfl) (Nat.le_of_ble_eq_true rfl) ?_
  refine lv_aload_n hx hb dX8_init_9 rfl a0 ?_
  refine lv_aload_n hx hb dX8_init_10 rfl a0 ?_
  refine va_get hx hb hts in_X8 ho hK hP 0 (ci := 0) (C := RX8) (T := TX8) (N := 7) rfl rfl 6 (by decide) (hts _ q552) (fun _ h => h) (v := .ref (ad 2)) rfl dX8_init_11 ?_
  refine va_getN (ci := 2) (C := RX0) (T := TX0) (N := 45) hx hb hts in_X0 ho hK hP 1 rfl rfl 2 (by decide) (hN2 _ nR_q352) (fun _ h => h) (v := .int (Int32.ofInt (M 2 2))) hfs dX8_init_14 ?_
  refine va_putF (ci := 0) (v := .int (Int32.ofInt (M 2 2))) (ty := .int) (C := RX8) (T := TX8) (N := 7) (ref := RX8) hx hb hts in_X8 tyX8 tyX8_ok nmX8 ho hK hP hD hS 0 rfl rfl 0 (by decide) (hts _ q546) (fun _ h => h) rfl hnm rfl (by decide +kernel) rfl rfl (Nat.le_of_ble_eq_true rfl) dX8_init_17 ?_
  clear hP hD hS
  intro H2 locs2 hP hD hS
  refine lv_aload_n hx hb dX8_init_20 rfl a0 ?_
  refine unit_val (ci := 1) (tyl := tylR) (nL := 2) hx hb hml hts ho hl.1 hK rfl (by decide) hP hD hS hA (hts _ q521) (Or.inl ⟨_, hN2 _ nR_q522⟩) (Nat.le_of_ble_eq_true rfl) (Nat.le_of_ble_eq_true rfl) (Nat.le_of_ble_eq_true rfl) (Nat.le_of_ble_eq_true rfl) (Nat.le_of_ble_eq_true rfl) dX8_init_21 dX8_init_24 dX8_init_25 ?_
  clear hP hD hS
  intro q1 f H3 locs3 hP hD hS
  have hw := hwl q1 f
  clear hwl
  generalize valO q1 1 f = vO at hP hD hw
  generalize valA (ca 0) f = vA at hP hD hw
  refine va_putF (ci := 0) (v := .ref q1) (ty := .object "SagMemory$Valley") (C := RX8) (T := TX8) (N := 7) (ref := RX8) hx hb hts in_X8 tyX8 tyX8_ok nmX8 ho hK hP hD hS 0 rfl rfl 1 (by decide) (hts _ q547) (fun _ h => h) rfl hnm rfl (by decide +kernel) rfl rfl (Nat.le_of_ble_eq_true rfl) dX8_init_28 ?_
  clear hP hD hS
  intro H4 locs4 hP hD hS
  refine lv_aload_n hx hb dX8_init_31 rfl a0 ?_
  refine va_gets hx hb (hE.2.1 0 (by decide)) hS ho (hts _ q523) (fun _ h => h) dX8_init_32 ?_
  refine va_put (ci := 0) (v := .ref (ad 320)) (ty := .object "SagMemory$Token") (C := RX8) (T := TX8) (N := 7) hx hb hts in_X8 tyX8 tyX8_ok nmX8 ho hK hP hD hS 0 rfl rfl 5 (by decide) (hts _ q551) (fun _ h => h) rfl (by decide +kernel) rfl rfl (Nat.le_of_ble_eq_true rfl) dX8_init_35 ?_
  clear hP hD hS
  intro H5 locs5 hP hD hS
  have hP : va_P D clR (wl ca (adR ad q q1 f) shR (MR0 M)) H5 := by
    rw [hw]
    exact perm_P hP
  have hD : va_D A (wl ca (adR ad q q1 f) shR (MR0 M)) := by
    rw [hw]
    exact perm_D hD
  have hE : exR (adR ad q q1 f) A s s.heap := exR_ad (fun k hk => by unfold adR; rw [if_neg (by omega), if_neg (by omega), if_neg (by omega), if_neg (by omega), if_neg (by omega)]) hE
  refine lv_aload_n hx hb dX8_init_38 rfl a0 ?_
  have F : fx p s m args c cX8_init D clR ca tylR RX8 NwsR := ⟨hx, hb, ho, hts, hN2, hK⟩
  have hM0 := MR0_ok h2 h3 ht
  refine (cxeR_next (lvl := 4) (by decide)).2 p l e (rmX 4 10 91) s m args below meth c _ cX8_init D A (adR ad q q1 f) ca 2 (0 + 1 + 8) (0 + 18 + 65) 10 91 10 91 (fun _ _ => False) hl0 F hml hA (Nat.le_refl _) (Nat.le_refl _) ⟨⟨Nat.le_of_ble_eq_true rfl, Nat.le_refl _⟩, Nat.le_of_ble_eq_true rfl, Nat.le_refl _⟩ hE hlk (fun _ => ⟨rfl, rfl⟩) (fun _ _ h => h.elim) (fun _ _ _ h => h.elim) 39 3 _ [] [ar 0] (MR0 M) dX8_init_39 rfl rfl (fun h => absurd h (by decide)) (Nat.le_of_ble_eq_true rfl) ?_ ls H5 locs5 ⟨⟨hl.1, hl.2.1, (fun z hz => by cases hz)⟩, hP, hD, hS, hM0, (fun z hz => by cases hz), fun v hv => by rcases List.mem_singleton.mp hv with rfl; trivial⟩
  show spR_next [ar 0] (MR0 M) _
  rw [cR_next]
  refine ⟨⟨ht, ⟨Int.le_refl _, ht.1⟩, Int.le_refl _, by show (0 : Int) ≤ 99999; omega⟩, fun r M1 hR => ?_⟩
  obtain ⟨rfl, hk, hz⟩ := hR
  rw [xgo_1v]
  intro ls6 H6 locs6 hr6
  refine W.widen (k := 10) (n := 91) (Nat.le_of_ble_eq_true rfl) (Nat.le_of_ble_eq_true rfl) ?_
  have hz0 : vZ (MR0 M) = fun _ _ => 0 := vZ_R0
  exact W.vret hx hb hr (fun t ht6 hW => ⟨⟨(adR ad q q1 f, M1), rfl, ⟨⟨rfl, adR_o⟩, hr6.2.2.2.2.1, (zkK_T hk).2.2 ht, hz 0 rfl, (vZ_K hk).trans hz0, hk.1 2 (by decide), hk.1 3 (by decide), hk.2 0 (by decide) (by decide)⟩, by rw [ht6]; exact hr6.2.1, va_K.moved hW.alike hK, by rw [hAA]; exact hr6.2.2.1⟩, by rw [hAA]; exact hr6.2.2.2.1.F ht6⟩) hr6.2.2.2.1.2.2 dX8_init_42 hlk
