/-! The reader: constants (texts, tokens), what it throws, its machine's own entries -/
def strW : List (List Int) := [wValley, wLaw, wFrost, wOdds, wOver, wTo, wHalt, wBridge, wHolds, wToll, wCart, wBy, wWard, wAt]
def sW (i : Nat) : List Int := strW.getD i []
def chW (i k : Nat) : Int := (sW i).getD ((sW i).length - 1 - k) 0
def idxW (i : Nat) : Nat := [114, 115, 123, 127, 143, 144, 148, 150, 158, 162, 163, 174, 175, 186].getD i 0
def txW (i : Nat) : String := ["valley", "law", "frost", "odds", "over", "to", "halt", "bridge", "holds", "toll", "cart", "by", "ward", "at"].getD i ""
def nmK (j : Nat) : String := ["END", "WORD", "NUMBER", "STOP", "NONE"].getD j ""
def exR : EXP := fun ad A U H => (∀ i, i < 14 → vk_R RX8 (idxW i) (txW i) (ad (300 + i)) U ∧ ∃ v, stF (ad (300 + i)) v (sW i).length (fun j => .int (Int32.ofInt (chW i j))) A U H) ∧ (∀ j, j < 5 → va_Z "SagMemory$Token" (nmK j) "LSagMemory$Token;" (.ref (ad (320 + j))) A U H) ∧ (∀ i j, i < 5 → j < 5 → ad (320 + i) = ad (320 + j) → i = j) ∧ evX A U H
theorem exR_ok : exOK exR := fun ad A B s U H0 H locs h hS hW hB => ⟨fun i hi => ⟨(h.1 i hi).1.warm hW, (h.1 i hi).2.elim fun v z => ⟨v, z.up hS hW.alike hB⟩⟩, fun j hj => (va_Z.moved hW.alike ((h.2.1 j hj).kept hS.2.1)).narrow hB, h.2.2.1, evX_of h.2.2.2 hS hW.alike hB⟩
def flR : FLP := fun D q M H => M 0 900000 = 4 → va_P D clR [(q, .inr (3, [.null, .null, .null, .null, .null, .int 0, .int (Int32.ofInt (M 0 900001)), .int (Int32.ofInt (M 0 900002))]))] H
theorem sW_ok : ∀ i : Fin 14, (sW i.val).length ≤ 7 ∧ ∀ k : Fin 7, k.val < (sW i.val).length → 97 ≤ chW i.val k.val ∧ chW i.val k.val ≤ 122 := by decide
theorem sW_rg {i k : Nat} (hi : i < 14) (hk : k < (sW i).length) : (sW i).length ≤ 7 ∧ 97 ≤ chW i k ∧ chW i k ≤ 122 := by
  have h1 := (sW_ok ⟨i, hi⟩).1
  have h1 : (sW i).length ≤ 7 := h1
  exact ⟨h1, (sW_ok ⟨i, hi⟩).2 ⟨k, by omega⟩ hk⟩
section
variable {D : va_G} {ca : Nat → ClassId} {ad : Nat → Nat} {M : Mm} {sz : Nat}
def QWr (D : va_G) (ca : Nat → ClassId) (ad : Nat → Nat) (M : Mm) (k : Int) (A : Nat → Prop) : Array Value → State → Outcome → State → Prop := fun _ st oc t =>
  (∃ q : Nat, oc = .returned (some (.ref q)) ∧ va_P D clR (wl ca ad shR M) t.heap ∧ va_K D clR (tys_ ca tylR) t ∧ va_P D clR [(q, .inr (3, [.null, .null, .null, .null, .null, .int 0, .int (Int32.ofInt k), .int (Int32.ofInt (M 0 3))]))] t.heap) ∧ va_F A st t
set_option maxHeartbeats 4000000 in
set_option maxRecDepth 100000 in
theorem c_wrong (l : Launch) (k : Int) : Met l yX8_wrong (ws_ yX8_wrong cX8_wrong 2 (some (.object "SagMemory$Fault"))) (rmX 4 1 8) (va_Pc [.ref (ad 0), .int (Int32.ofInt k)] (PBX D clR tylR NwsR exR ad ca shR M sz)) (QWr D ca ad M k (va_A (wl ca ad shR M) sz)) 1 8 (va_A (wl ca ad shR M) sz) := by
  refine kh_of (by decide) (Nat.le_of_ble_eq_true rfl) ?_
  intro p e s m args below meth c ls hx hb hml ho hts hr hlk hnm hB hl
  obtain ⟨⟨hsz, hP, hK, hD0, hN⟩, hE⟩ := hB
  subst hsz
  have hD := hD0.self (sz := s.heap.size)
  have hA : ∀ q, s.heap.size ≤ q → va_A (wl ca ad shR M) s.heap.size q := fun q h => Or.inr h
  have hS : va_S (va_A (wl ca ad shR M) s.heap.size) s.heap s.heap [] := va_S.rf
  have a0 : ls[0]? = some (.val (.ref (ad 0))) := hl.2.2 (0, _) (by simp [lv_args])
  have a1 : ls[1]? = some (.val (.int (Int32.ofInt k))) := hl.2.2 (1, _) (by simp [lv_args, Value.category])
  refine va_new (ci := 3) (fs := [.null, .null, .null, .null, .null, .int 0, .int 0, .int 0]) (C := RX9) (T := TX9) (N := 8) hx hb hts in_X9 tyX9 tyX9_ok ho (hts _ q641) (hts _ q642) (hts _ q149) hK hP hD hS hA rfl (fun j hj => by rcases (show j = 0 ∨ j = 1 ∨ j = 2 ∨ j = 3 ∨ j = 4 ∨ j = 5 ∨ j = 6 ∨ j = 7 by omega) with rfl | rfl | rfl | rfl | rfl | rfl | rfl | rfl <;> rfl) (by show 0 + 1 ≤ 1; omega) (by show 0 + 8 ≤ 8; omega) dX8_wrong_0 (fun q H hP2 hD2 hS2 => ?_)
  have hlen : (wl ca ad shR M).length = 12 := by unfold wl; rw [List.length_mapIdx]; rfl
  have e12 : (wl ca ad shR M ++ [(q, (Sum.inr (3, [Value.null, .null, .null, .null, .null, .int 0, .int 0, .int 0]) : va_E))])[12]? = some (q, .inr (3, [.null, .null, .null, .null, .null, .int 0, .int 0, .int 0])) := by
    rw [List.getElem?_append_right (by omega), hlen]; rfl
  have hPw : va_P D clR (wl ca ad shR M) H := fun j z hz => hP2 j z (by rw [List.getElem?_append_left (List.getElem?_eq_some_iff.mp hz).1]; exact hz)
  have hPq : va_P D clR [(q, .inr (3, [.null, .null, .null, .null, .null, .int 0, .int 0, .int 0]))] H := fun j z hz => by
    cases j with
    | zero => cases hz; exact hP2 12 _ e12
    | succ j => cases hz
  have hq : va_A (wl ca ad shR M) s.heap.size q := hD2.2 12 _ e12
  have hne : ∀ (j : Nat) (z : Nat × va_E), (wl ca ad shR M)[j]? = some z → z.1 ≠ q := by
    intro j z hz h
    have hj := (List.getElem?_eq_some_iff.mp hz).1
    have := hD2.1 j 12 _ _ (by rw [List.getElem?_append_left hj]; exact hz) e12 h
    omega
  refine lv_dup hx hb dX8_wrong_3 rfl ?_
  refine lv_iload_n hx hb dX8_wrong_4 rfl a1 ?_
  refine lv_aload_n hx hb dX8_wrong_5 rfl a0 ?_
  refine va_get hx hb hts in_X8 ho hK hPw 0 (ci := 0) (C := RX8) (T := TX8) (N := 7) (wl_get (c := .inl (0, fkR)) rfl) rfl 3 (by decide) (hts _ q549) (fun _ h => h) (v := .int (Int32.ofInt (M 0 3))) (by rw [List.getElem?_mapIdx]; rfl) dX8_wrong_6 ?_
  have hfA : ∀ a, fA q H.size a → va_A (wl ca ad shR M) s.heap.size a := fun a h => h.elim (fun z => by rw [z]; exact hq) (fun z => Or.inr (Nat.le_trans hS2.1 z))
  have hEq : evX (fA q H.size) s H := evX_of hE.2.2.2 hS2 (Vm.Alike.refl s.vm) hfA
  refine va_callv (S := Unit) (A0 := va_A (wl ca ad shR M) s.heap.size) (H0 := s.heap) (va_runI (As := [.int (Int32.ofInt k), .int (Int32.ofInt (M 0 3))]) (rest := [.ref q]) ⟨hx, hb, hml, ho, hts⟩ (c_fault (q := q) (D := D) (ca := ca) (sz := H.size) l .null .null .null .null .null (.int 0) (.int 0) (.int 0) (Int32.ofInt k) (Int32.ofInt (M 0 3))) (cwI 2 hts (lw_meth q697) rfl rfl rfl (hts _ q149) (hts _ q695) (hts _ q696) rfl ⟨by decide, by decide, rfl⟩ ⟨by decide, by decide⟩) ⟨PF_blind, fun U hU hW => ⟨rfl, by rw [hU], by rw [hU]; exact hPq, va_K.moved hW.alike hK, ⟨fun i j p1 p2 h1 h2 _ => ?_, fun j z hz => ?_⟩, ?_⟩⟩ rfl rfl hl.1 rfl (lv_room (Nat.le_of_ble_eq_true rfl)) dX8_wrong_9 ⟨by show 0 + 1 + 0 ≤ 1; omega, by show 0 + 8 + 0 ≤ 8; omega⟩) hS2 (fun a _ h => hfA a h) hfA ?_
  · cases i with
    | zero => cases j with
      | zero => rfl
      | succ j => cases h2
    | succ i => cases h1
  · cases j with
    | zero => cases hz; exact Or.inl rfl
    | succ j => cases hz
  · rw [hU]
    exact evX_of hEq va_S.rf hW.alike (fun _ z => z)
  intro u t H1 locs1 ht hv _ hq2 hz hk hS3
  obtain ⟨hP3, -, -⟩ := hq2
  rw [ht] at hP3
  have hPw1 : va_P D clR (wl ca ad shR M) H1 := hPw.kept fun j z hz => hk z.1 (vx_lt hPw hz) (fun w => w.elim (hne j z hz) (fun y => by have := vx_lt hPw hz; omega))
  exact W.aret hx hb hr (.inl ⟨_, rfl⟩) (.inr ⟨_, rfl⟩) (fun t ht hW => ⟨⟨q, rfl, by rw [ht]; exact hPw1, va_K.moved hW.alike hK, by rw [ht]; exact hP3⟩, hS3.F ht⟩) hS3.2.2 dX8_wrong_12 hlk
end
theorem gh3_world {D : va_G} {ca : Nat → ClassId} {ad : Nat → Nat} {M : Mm} {k w : Int} : wl ca ad shR (gh3 M k w) = wl ca ad shR M := by
  unfold gh3
  rw [wl_gh rfl (Nat.le_of_ble_eq_true rfl), wl_gh rfl (Nat.le_of_ble_eq_true rfl), wl_gh rfl (Nat.le_of_ble_eq_true rfl)]
theorem gh3_ok {M : Mm} {k w : Int} (h : okM shR M) : okM shR (gh3 M k w) := okM_gh rfl (Nat.le_of_ble_eq_true rfl) (okM_gh rfl (Nat.le_of_ble_eq_true rfl) (okM_gh rfl (Nat.le_of_ble_eq_true rfl) h))
theorem gh3_0 {M : Mm} {k w : Int} : gh3 M k w 0 900000 = 4 ∧ gh3 M k w 0 900001 = k ∧ gh3 M k w 0 900002 = w := by
  unfold gh3
  refine ⟨?_, ?_, up2_s⟩
  · rw [up2_n (by decide), up2_n (by decide), up2_s]
  · rw [up2_n (by decide), up2_s]
/-- wrong, and throw -/
def spWrong : Spec := fun avs M Q => match avs with
  | [.inr (.inr (some 0)), .inl k] => Q none (gh3 M k (M 0 3))
  | _ => False
theorem spWrong_mono : mono spWrong := by
  intro a M Q Q' h h1
  unfold spWrong at h1 ⊢
  split at h1
  · exact h _ _ h1
  · exact h1.elim
theorem cWrong {k : Int} {M : Mm} {Q : Option AV → Mm → Prop} : spWrong [ar 0, ai k] M Q = Q none (gh3 M k (M 0 3)) := id rfl
theorem take2 {st : List AV} {u v : AV} (h : (st.take 2).reverse = [u, v]) : ∃ r, st = v :: u :: r ∧ st.drop 2 = r := by
  have e := congrArg List.reverse h
  rw [List.reverse_reverse] at e
  rcases st with _ | ⟨a, _ | ⟨b, r⟩⟩
  · cases e
  · cases e
  · cases e
    exact ⟨r, rfl, rfl⟩
theorem ath_of {ε : Type} {o : Except ε (Instr × Nat)} (h : isAth o = true) : o = .ok (.athrow, 1) := by
  unfold isAth at h
  split at h
  · rfl
  · cases h
set_option maxHeartbeats 4000000 in
theorem cxe_wrong {lvl : Nat} (hlv : 5 ≤ lvl) : CXE RX8 clR shR tylR NwsR exR flR lvl 1 8 1035 4 2 spWrong := by
  refine ⟨spWrong_mono, ?_⟩
  intro p l e R s m args below meth c Q cc D A ad ca nL c0 s0 c1 s1 c9 s9 THX hl0 F hml hA hfr hlo hcs hev hlocks _ _ hX4 pc len i lv st M hd0 hk hi hath hle hsp ls H locs hr
  obtain rfl := xk_iv (x := 103) hk
  obtain rfl : len = 3 := by simpa [iokx, iok] using hi
  unfold spWrong at hsp
  split at hsp
  · rename_i k hav
    obtain ⟨r, rfl, er⟩ := take2 hav
    have hsp : thW p l e R s m args below meth c Q D clR A ad ca shR flR nL c1 s1 (pc + 3) (gh3 M k (M 0 3)) := hX4 rfl _ _ hsp
    obtain ⟨r1, r2, r3, r4, r5, r6, hv⟩ := id hr
    have hrel := rel_st hr (ok_t (ok_t hv))
    have ha := ath_of (hath rfl)
    have ew := wl_get (ca := ca) (ad := ad) (M := M) (sh := shR) (k := 0) (c := .inl (0, fkR)) rfl
    have hrecv := va_recv F.2.2.2.2.2 r2 (ci := 0) (q0 := 0) (q := (RX8, TX8, 7)) rfl ew
    have hrun := va_runV (p := p) (l := l) (e := e) (R := R) (below := below) (meth := meth) (locs := locs) (cells := c0) (slots := s0) (g := F0 m pc ls (.int (Int32.ofInt k) :: .ref (ad 0) :: r.map (cz ad))) (As := [.int (Int32.ofInt k)]) (rest := r.map (cz ad)) (b := ad 0) (index := 103) ⟨F.1, F.2.1, hml, F.2.2.1, F.2.2.2.1⟩ (c_wrong (D := D) (ca := ca) (ad := ad) (M := M) (sz := H.size) l k) (cwV 1 F.2.2.2.1 (lw_V q637 q639 qs7 q139 q640) rfl rfl rfl ⟨rfl, by decide, by decide, rfl⟩ ⟨by show 4 + 1 ≤ R.frames; omega, by show 8 + (2 + 11) + 64 * 4 ≤ R.locals; omega⟩)
      ⟨PBX_blind nwsR_ok exR_ok, hrecv, fun U hU hW => ⟨rfl, PBX_of nwsR_ok exR_ok F hA hev hr U hU hW⟩⟩ rfl rfl r1.1 rfl (lv_room (room4 (by rw [← er]; exact hle))) hd0 ⟨by omega, by omega⟩
    intro T hT X
    obtain ⟨v, st₀, t, T', L, h0, X', hL, e1, e2, hq, hst⟩ := hrun T hT X
    obtain ⟨⟨q, hvq, hP1, hK1, hPq⟩, hF⟩ := hq
    have hvq : v = some (.ref q) := Outcome.returned.inj hvq
    subst hvq
    have hS' := foot_S (M' := M) hA hr h0 hF e1 hL
    obtain ⟨rr, h1, cell, q1, q2, q3, q4⟩ := hPq 0 _ rfl
    obtain rfl : (RX9, TX9, 8) = rr := Option.some.inj h1
    have hfc : s.vm.findClass "SagMemory$Fault" = some cell.cls := by
      obtain ⟨-, hfc, -⟩ := F.2.2.2.2.2.1 3 _ rfl
      rw [q2]; exact hfc
    obtain ⟨g1, g2, g3⟩ := @gh3_0 M k (M 0 3)
    have hth := hsp ls T'.heap (locs ++ L) (r.map (cz ad)) q cell ⟨r1.1, r1.2.1, fun q hq => by cases hq⟩ (by rw [gh3_world (D := D)]; rw [e1]; exact hP1) (by rw [gh3_world (D := D)]; exact r3) hS' (gh3_ok r5) (by rw [e1]; exact q1) q3 (by rw [g1]; exact hfc) (fun _ => by rw [g2, g3, e1]; exact hPq)
    obtain ⟨t2, a1, b1⟩ := vx_athrow F.1 F.2.1 (ls := ls) (rest := r.map (cz ad)) (pc := pc + 3) ha (vx_widen (k := c1) (n := s1) hcs.1.1 hcs.2.1 hth) T' rfl X'
    exact ⟨t2, hst t2 a1, b1⟩
  · exact hsp.elim
