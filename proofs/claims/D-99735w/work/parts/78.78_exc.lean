/-! what the machine's own throws ask: words, two statics; rows that are not there, places out of bounds -/
set_option maxRecDepth 100000 in
theorem atN_tbl : ((vx_atN 8).all fun w => decide (w ∈ lw_tbl)) = true := by decide +kernel
set_option maxRecDepth 100000 in
theorem atN_nw : ((vx_atN 8).all fun w => goodWord w || decide (w ∈ Nws8)) = true := by decide +kernel
theorem atN_ot : ((vx_atN 8).all vx_ot) = true := by decide +kernel
abbrev aioN : String := "java/lang/ArrayIndexOutOfBoundsException"
abbrev aioU : List String := ["java/lang/IndexOutOfBoundsException", "java/lang/RuntimeException", "java/lang/Exception"]
set_option maxRecDepth 100000 in
theorem atI_tbl : ((vx_atM aioN aioU).all fun w => decide (w ∈ lw_tbl)) = true := by decide +kernel
set_option maxRecDepth 100000 in
theorem atI_nw : ((vx_atM aioN aioU).all fun w => goodWord w || decide (w ∈ Nws8)) = true := by decide +kernel
theorem atI_ot : ((vx_atM aioN aioU).all vx_ot) = true := by decide +kernel
theorem exc_words {L : List Cond} (h1 : (L.all fun w => decide (w ∈ lw_tbl)) = true) (h2 : (L.all fun w => goodWord w || decide (w ∈ Nws8)) = true) {p : Program} {s : State} {m : MethodId} {args : Array Value} {c : Code} {cc : ByteArray} {D : va_G} {ca : Nat → ClassId} {own : String} (F : fx p s m args c cc D cl8 ca tyl8 own Nws8) : ∀ w ∈ L, w.before args s = true := by
  intro w hw
  have a := of_decide_eq_true (List.all_eq_true.mp h1 w hw)
  have b := List.all_eq_true.mp h2 w hw
  simp only [Bool.or_eq_true] at b
  rcases b with b | b
  · exact F.2.2.2.1 w (lw_g a b)
  · exact F.2.2.2.2.1 w (of_decide_eq_true b)
/-- the two statics that a throw reads -/
def evX (A : Nat → Prop) (U : State) (H : Heap) : Prop := vx_Zq Bundle.tN "UNASSIGNED_STACK" Bundle.steD A U H ∧ vx_Zq Bundle.tN "SUPPRESSED_SENTINEL" Bundle.listD A U H
theorem evX_of {A B : Nat → Prop} {s U : State} {H0 H : Heap} {locs : List Loc} (h : evX A s H0) (hS : va_S A H0 H locs) (hv : s.vm.Alike U.vm) (hB : ∀ q, B q → A q) : evX B U H :=
  ⟨vx_Zq.narrow (vx_Zq.moved hv (h.1.kept hS.2.1)) hB, vx_Zq.narrow (vx_Zq.moved hv (h.2.kept hS.2.1)) hB⟩
def evE : EXP := fun _ A U H => evX A U H
theorem evE_ok : exOK evE := fun _ _ _ _ _ _ _ _ h hS hW hB => evX_of h hS hW.alike hB
section GO
variable {rs : List (Nat × Nat)} {p : Program} {l : Launch} {e : Env} {R : Room} {s : State} {m : MethodId} {args : Array Value} {below : List Frame} {meth : Method} {c : Code} {Q : State → Prop}
variable {cc : ByteArray} {D : va_G} {A : Nat → Prop} {ad : Nat → Nat} {ca : Nat → ClassId} {own : String} {nL c0 s0 c1 s1 : Nat} {fl : FLP}
theorem gh_world {M : Mm} {x : Int} {H H1 : Heap} (h0 : va_P D cl8 (wl ca ad (sh8 rs) M) H) (hk : ∀ q : Nat, q < H.size → H1[q]? = H[q]?) (hD : va_D A (wl ca ad (sh8 rs) M)) : va_P D cl8 (wl ca ad (sh8 rs) (gh M x)) H1 ∧ va_D A (wl ca ad (sh8 rs) (gh M x)) := by
  have e : wl ca ad (sh8 rs) (gh M x) = wl ca ad (sh8 rs) M := wl_gh rfl (Nat.le_of_ble_eq_true rfl)
  rw [e]
  exact ⟨h0.kept fun k q hq => hk _ (vx_lt h0 hq), hD⟩
theorem npe_go (F : fx p s m args c cc D cl8 ca tyl8 own Nws8) (hl : l.stackTraces = false) (hml : c.maxLocals = nL) (hfr : 8 ≤ R.frames) (hlo : 10248 ≤ R.locals) (hcs : (c0 + 3 ≤ c1 ∧ c1 ≤ R.cells) ∧ s0 + 222 ≤ s1 ∧ s1 ≤ R.slots) (hev : evX A s s.heap) (hlocks : meth.locks = false) {pc : Nat} {lv : LV} {r : List AV} {M : Mm} {ls : Array Slot} {H : Heap} {locs : List Loc}
    (hr : rel D cl8 A ad ca (sh8 rs) nL s.heap lv r M ls H locs) (hle : r.length ≤ 4) (hfl : ∀ q H, fl D q (gh M 0) H) (hsp : thW p l e R s m args below meth c Q D cl8 A ad ca (sh8 rs) fl nL c1 s1 pc (gh M 0)) : vx_NoteN p l e R s m args below meth c H locs c0 s0 Q (F0 m pc ls (r.map (cz ad))) := by
  obtain ⟨r1, r2, r3, r4, r5, r6, r7⟩ := hr
  have hrm := room4 (ad := ad) hle
  refine vx_npe F.1 hl (nb := 8) (A := A) (exc_words atN_tbl atN_nw F) (fun w hw => List.all_eq_true.mp atN_ot w hw) hev.1 hev.2 r4 (r1.1.trans hml.symm) (by omega) (by omega) (by omega) (by omega) hlocks ?_
  intro H1 q9 ce h1 h2 h3 h4 h5 h6
  refine vx_widen (k := c1) (n := s1) (by omega) (by omega) ?_
  obtain ⟨w1, w2⟩ := gh_world (x := 0) r2 h2 r3
  refine hsp ls H1 locs _ q9 ce ⟨r1.1, r1.2.1, fun q hq => by cases hq⟩ w1 w2 h3 (okM_gh rfl (Nat.le_of_ble_eq_true rfl) r5) h4 h5 ?_ (hfl _ _)
  rw [gh, up2_s]
  exact h6
theorem aio_go (F : fx p s m args c cc D cl8 ca tyl8 own Nws8) (hl : l.stackTraces = false) (hml : c.maxLocals = nL) (hfr : 8 ≤ R.frames) (hlo : 10248 ≤ R.locals) (hcs : (c0 + 3 ≤ c1 ∧ c1 ≤ R.cells) ∧ s0 + 222 ≤ s1 ∧ s1 ≤ R.slots) (hev : evX A s s.heap) (hlocks : meth.locks = false) {pc : Nat} {lv : LV} {r : List AV} {M : Mm} {ls : Array Slot} {H : Heap} {locs : List Loc}
    (hr : rel D cl8 A ad ca (sh8 rs) nL s.heap lv r M ls H locs) (hle : r.length ≤ 4) (hfl : ∀ q H, fl D q (gh M 1) H) (hsp : thW p l e R s m args below meth c Q D cl8 A ad ca (sh8 rs) fl nL c1 s1 pc (gh M 1)) {tx : String} (htx : (tx == notModelled) = false) (hnb : (stringBytes (stringToUtf16 tx)).size ≤ 212) : vx_Note p l e R s m args below meth c H locs c0 s0 Q (F0 m pc ls (r.map (cz ad))) "java/lang/ArrayIndexOutOfBoundsException" tx := by
  obtain ⟨r1, r2, r3, r4, r5, r6, r7⟩ := hr
  have hrm := room4 (ad := ad) hle
  refine vx_vm F.1 hl (names := aioU) (nb := 212) (A := A) (by decide) (by decide) rfl rfl (exc_words atI_tbl atI_nw F) (fun w hw => List.all_eq_true.mp atI_ot w hw) hev.1 hev.2 r4 (r1.1.trans hml.symm) htx hnb (by decide) (by show 3 + 4 < R.frames; omega) (by omega) (by decide) (by omega) (by omega) hlocks ?_
  intro H1 q9 ce h1 h2 h3 h4 h5 h6
  refine vx_widen (k := c1) (n := s1) (by omega) (by omega) ?_
  obtain ⟨w1, w2⟩ := gh_world (x := 1) r2 h2 r3
  refine hsp ls H1 locs _ q9 ce ⟨r1.1, r1.2.1, fun q hq => by cases hq⟩ w1 w2 h3 (okM_gh rfl (Nat.le_of_ble_eq_true rfl) r5) h4 h5 ?_ (hfl _ _)
  rw [gh, up2_s]
  exact h6
end GO
theorem xk_len {i : Instr} (h : xk i = 18) : i = .arraylength := by
  unfold xk at h
  split at h <;> first | (exfalso; omega) | rfl | skip
/-- arraylength of nothing -/
def spLenN : Spec := fun avs M Q => match avs with
  | [.inr (.inr none)] => Q (some an) (gh M 0)
  | _ => False
theorem spLenN_mono : mono spLenN := by
  intro a M Q Q' h h1
  unfold spLenN at h1 ⊢
  split at h1
  · exact h _ _ h1
  · exact h1.elim
theorem cLenN {M : Mm} {Q : Option AV → Mm → Prop} : spLenN [an] M Q = Q (some an) (gh M 0) := id rfl
theorem fl0_ok {D : va_G} {M : Mm} {x : Int} : ∀ q H, fl0 D q (gh M x) H := fun _ _ => trivial
theorem cxe_len {rs : List (Nat × Nat)} {own : String} {lvl : Nat} (hlv : 200 ≤ lvl) : CXE own cl8 (sh8 rs) tyl8 Nws8 evE fl0 lvl 3 222 18 1 1 spLenN := by
  refine ⟨spLenN_mono, ?_⟩
  intro p l e R s m args below meth c Q cc D A ad ca nL c0 s0 c1 s1 c9 s9 THX hl F hml hA hfr hlo hcs hev hlocks _ hX _ pc len i lv st M hd hk hi _ hle hsp
  obtain rfl := xk_len hk
  obtain rfl : len = 1 := by simpa [iokx, iok] using hi
  unfold spLenN at hsp
  split at hsp
  · rename_i hav
    obtain ⟨r, rfl, er⟩ := take1 hav
    intro ls H locs hr
    refine vx_arraylengthN F.1 F.2.1 hd ?_
    exact npe_go F hl hml (by omega) (by omega) hcs hev hlocks (rel_st hr (ok_t hr.2.2.2.2.2.2)) (by rw [← er]; exact hle) fl0_ok (hX _ _ hsp)
  · exact hsp.elim
/-! stores into a row, or out of its bounds, or into nothing -/
def stO (o : Option SC) (T : Nat) (i : Int) (kin kout : Prop) : Prop := match o with
  | some (.inr (t, n)) => t = T ∧ n ≤ 65536 ∧ (0 ≤ i ∧ i < n → kin) ∧ (¬ (0 ≤ i ∧ i < n) → kout)
  | _ => False
theorem stO_s {t n T : Nat} {i : Int} {kin kout : Prop} : stO (some (.inr (t, n))) T i kin kout = (t = T ∧ n ≤ 65536 ∧ (0 ≤ i ∧ i < n → kin) ∧ (¬ (0 ≤ i ∧ i < n) → kout)) := id rfl
def spSt (rs : List (Nat × Nat)) (T : Nat) : Spec := fun avs M Q => match avs with
  | [.inr (.inr (some k)), .inl i, .inl x] => T ≠ 1 ∧ okA T x ∧ stO (sh8 rs)[k]? T i (Q none (up2 M k i.toNat x)) (Q (some an) (gh M 1))
  | [.inr (.inr (some k)), .inl i, .inr (.inl x)] => T = 1 ∧ stO (sh8 rs)[k]? 1 i (Q none (up2 M k i.toNat x)) (Q (some an) (gh M 1))
  | [.inr (.inr none), .inl _, .inr (.inl _)] => T = 1 ∧ Q (some an) (gh M 0)
  | _ => False
theorem cSt_i {rs : List (Nat × Nat)} {T k : Nat} {i x : Int} {M : Mm} {Q : Option AV → Mm → Prop} : spSt rs T [ar k, ai i, ai x] M Q = (T ≠ 1 ∧ okA T x ∧ stO (sh8 rs)[k]? T i (Q none (up2 M k i.toNat x)) (Q (some an) (gh M 1))) := id rfl
theorem cSt_l {rs : List (Nat × Nat)} {T k : Nat} {i x : Int} {M : Mm} {Q : Option AV → Mm → Prop} : spSt rs T [ar k, ai i, al x] M Q = (T = 1 ∧ stO (sh8 rs)[k]? 1 i (Q none (up2 M k i.toNat x)) (Q (some an) (gh M 1))) := id rfl
theorem cSt_n {rs : List (Nat × Nat)} {T : Nat} {i x : Int} {M : Mm} {Q : Option AV → Mm → Prop} : spSt rs T [an, ai i, al x] M Q = (T = 1 ∧ Q (some an) (gh M 0)) := id rfl
theorem stO_mono {o : Option SC} {T : Nat} {i : Int} {a b a' b' : Prop} (ha : a → a') (hb : b → b') : stO o T i a b → stO o T i a' b' := by
  intro h
  unfold stO at h ⊢
  split at h
  · exact ⟨h.1, h.2.1, fun q => ha (h.2.2.1 q), fun q => hb (h.2.2.2 q)⟩
  · exact h.elim
theorem spSt_mono {rs : List (Nat × Nat)} {T : Nat} : mono (spSt rs T) := by
  intro a M Q Q' h h1
  unfold spSt at h1 ⊢
  split at h1
  · exact ⟨h1.1, h1.2.1, stO_mono (h _ _) (h _ _) h1.2.2⟩
  · exact ⟨h1.1, stO_mono (h _ _) (h _ _) h1.2⟩
  · exact ⟨h1.1, h _ _ h1.2⟩
  · exact h1.elim
theorem take3 {st : List AV} {u v w : AV} (h : (st.take 3).reverse = [u, v, w]) : ∃ r, st = w :: v :: u :: r ∧ st.drop 3 = r := by
  have e := congrArg List.reverse h
  rw [List.reverse_reverse] at e
  rcases st with _ | ⟨a, _ | ⟨b, _ | ⟨c, r⟩⟩⟩
  · cases e
  · cases e
  · cases e
  · cases e
    exact ⟨r, rfl, rfl⟩
def stK : Nat → Nat
  | 0 => 58
  | 1 => 78
  | 2 => 38
  | _ => 98
def stI : Nat → Instr
  | 0 => .iastore
  | 1 => .lastore
  | 2 => .bastore
  | _ => .sastore
theorem xk_st {i : Instr} {T : Nat} (hT : T = 0 ∨ T = 1 ∨ T = 2 ∨ T = 4) (h : xk i = stK T) : i = stI T := by
  rcases hT with rfl | rfl | rfl | rfl <;> simp only [stK] at h <;> (unfold xk at h; split at h <;> first | (exfalso; omega) | rfl | skip)
theorem aio_tx {i : Int32} {n : Nat} (hn : n ≤ 65536) {tx : String} (h : tx = (toString "Index " ++ toString i ++ toString " out of bounds for length " ++ toString n : String)) : (tx == notModelled) = false ∧ (stringBytes (stringToUtf16 tx)).size ≤ 212 := by
  subst h
  exact ⟨index_text_modelled i n, index_text_bytes i (n := n) (by omega)⟩
set_option maxHeartbeats 4000000 in
theorem cxe_st {rs : List (Nat × Nat)} {own : String} {lvl T : Nat} (hlv : 200 ≤ lvl) (hT : T = 0 ∨ T = 1 ∨ T = 2 ∨ T = 4) : CXE own cl8 (sh8 rs) tyl8 Nws8 evE fl0 lvl 3 222 (stK T) 1 3 (spSt rs T) := by
  refine ⟨spSt_mono, ?_⟩
  intro p l e R s m args below meth c Q cc D A ad ca nL c0 s0 c1 s1 c9 s9 THX hl F hml hA hfr hlo hcs hev hlocks _ hX _ pc len i lv st M hd hk hi _ hle hsp
  obtain rfl := xk_st hT hk
  obtain rfl : len = 1 := by rcases hT with rfl | rfl | rfl | rfl <;> simpa [iokx, iok, stI] using hi
  have hK := F.2.2.2.2.2
  unfold spSt at hsp
  split at hsp
  · rename_i k i x hav
    obtain ⟨r, rfl, er⟩ := take3 hav
    obtain ⟨hT1, hx, hsp⟩ := hsp
    unfold stO at hsp
    split at hsp
    · rename_i t n hs
      obtain ⟨rfl, hn, h1, h2⟩ := hsp
      intro ls H locs hr
      obtain ⟨r1, r2, r3, r4, r5, r6, hv⟩ := id hr
      have oi : i32 i := ok_h (ok_t hv)
      have hr' := rel_st hr (ok_t (ok_t (ok_t hv)))
      have e1 := wl_get (ca := ca) (ad := ad) (M := M) hs
      rw [wc_i hT1 (by omega)] at e1
      have e2 := wl_up (ca := ca) (ad := ad) (M := M) (j := i.toNat) (x := x) hs
      rw [wc_i hT1 (by omega), ← upd_f oi] at e2
      obtain ⟨ty, t1, t2⟩ := ty8_ok hs
      obtain ⟨t0, ht0⟩ := ty_at (ca := ca) t1
      have hi2 : ∀ {n : Nat}, ¬ (0 ≤ i ∧ i < n) → ¬ vp_in (Int32.ofInt i) n := fun h z => h (by have := vp_in_iff.mp z; rwa [n_of oi] at this)
      have kin : (0 ≤ i ∧ i < n) → snW p l e R s m args below meth c Q D cl8 A ad ca (sh8 rs) nL c0 s0 (pc + 1) lv r (up2 M k i.toNat x) := fun q => by
        have h3 := h1 q
        rw [er] at h3
        exact h3
      have kout : ¬ (0 ≤ i ∧ i < n) → ∀ tx : String, tx = (toString "Index " ++ toString (Int32.ofInt i) ++ toString " out of bounds for length " ++ toString n : String) → vx_Note p l e R s m args below meth c H locs c0 s0 Q (F0 m pc ls (r.map (cz ad))) "java/lang/ArrayIndexOutOfBoundsException" tx := fun q tx htx =>
        aio_go F hl hml (by omega) (by omega) hcs hev hlocks hr' (by rw [← er]; exact hle) fl0_ok (hX _ _ (h2 q)) (aio_tx hn htx).1 (aio_tx hn htx).2
      by_cases q : 0 ≤ i ∧ i < n
      · rcases hT with rfl | rfl | rfl | rfl
        · obtain rfl : ty = .int := t2
          refine va_iast F.1 F.2.1 hK r2 r3 r4 k t0 e1 ht0 (n_in oi q) hd (fun H1 locs1 a1 a2 a3 => ?_)
          rw [← e2] at a1 a2
          exact kin q ls H1 locs1 ⟨r1, a1, a2, a3, okM_a r5 hs hx, r6, ok_t (ok_t (ok_t hv))⟩
        · exact absurd rfl hT1
        · obtain rfl : ty = .byte := t2
          rw [← nar_b hx] at e2
          refine va_bast F.1 F.2.1 hK r2 r3 r4 k t0 e1 ht0 (n_in oi q) hd (fun H1 locs1 a1 a2 a3 => ?_)
          rw [← e2] at a1 a2
          exact kin q ls H1 locs1 ⟨r1, a1, a2, a3, okM_a r5 hs hx, r6, ok_t (ok_t (ok_t hv))⟩
        · obtain rfl : ty = .short := t2
          rw [← nar_s hx] at e2
          refine va_sast F.1 F.2.1 hK r2 r3 r4 k t0 e1 ht0 (n_in oi q) hd (fun H1 locs1 a1 a2 a3 => ?_)
          rw [← e2] at a1 a2
          exact kin q ls H1 locs1 ⟨r1, a1, a2, a3, okM_a r5 hs hx, r6, ok_t (ok_t (ok_t hv))⟩
      · rcases hT with rfl | rfl | rfl | rfl
        · obtain rfl : ty = .int := t2
          exact vx_iastZ F.1 F.2.1 hK r2 k t0 e1 ht0 (hi2 q) hd (kout q)
        · exact absurd rfl hT1
        · obtain rfl : ty = .byte := t2
          exact vx_bastZ F.1 F.2.1 hK r2 k t0 e1 ht0 (hi2 q) hd (kout q)
        · obtain rfl : ty = .short := t2
          exact vx_sastZ F.1 F.2.1 hK r2 k t0 e1 ht0 (hi2 q) hd (kout q)
    · exact hsp.elim
  · rename_i k i x hav
    obtain ⟨r, rfl, er⟩ := take3 hav
    obtain ⟨rfl, hsp⟩ := hsp
    unfold stO at hsp
    split at hsp
    · rename_i t n hs
      obtain ⟨rfl, hn, h1, h2⟩ := hsp
      intro ls H locs hr
      obtain ⟨r1, r2, r3, r4, r5, r6, hv⟩ := id hr
      have oi : i32 i := ok_h (ok_t hv)
      have hr' := rel_st hr (ok_t (ok_t (ok_t hv)))
      have e1 := wl_get (ca := ca) (ad := ad) (M := M) hs
      rw [wc_l] at e1
      have e2 := wl_up (ca := ca) (ad := ad) (M := M) (j := i.toNat) (x := x) hs
      rw [wc_l, ← updL_f oi] at e2
      obtain ⟨ty, t1, t2⟩ := ty8_ok hs
      obtain ⟨t0, ht0⟩ := ty_at (ca := ca) t1
      obtain rfl : ty = .long := t2
      by_cases q : 0 ≤ i ∧ i < n
      · have h3 := h1 q
        rw [er] at h3
        refine va_last F.1 F.2.1 hK r2 r3 r4 k t0 e1 ht0 (n_in oi q) hd (fun H1 locs1 a1 a2 a3 => ?_)
        rw [← e2] at a1 a2
        exact h3 ls H1 locs1 ⟨r1, a1, a2, a3, okM_a r5 hs (ok_h hv), r6, ok_t (ok_t (ok_t hv))⟩
      · exact vx_lastZ F.1 F.2.1 hK r2 k t0 e1 ht0 (fun z => q (by have := vp_in_iff.mp z; rwa [n_of oi] at this)) hd (fun tx htx => aio_go F hl hml (by omega) (by omega) hcs hev hlocks hr' (by rw [← er]; exact hle) fl0_ok (hX _ _ (h2 q)) (aio_tx hn htx).1 (aio_tx hn htx).2)
    · exact hsp.elim
  · rename_i i x hav
    obtain ⟨r, rfl, er⟩ := take3 hav
    obtain ⟨rfl, hsp⟩ := hsp
    intro ls H locs hr
    refine vx_lastoreN F.1 F.2.1 hd ?_
    exact npe_go F hl hml (by omega) (by omega) hcs hev hlocks (rel_st hr (ok_t (ok_t (ok_t hr.2.2.2.2.2.2)))) (by rw [← er]; exact hle) fl0_ok (hX _ _ hsp)
  · exact hsp.elim
def P6_sizeN (rs : List (Nat × Nat)) (z : Int) (M : Mm) : Prop := (8 ≤ z ∧ z ≤ 11) ∧ M z.toNat 0 < 0
def R6_sizeN (rs : List (Nat × Nat)) (z : Int) (M : Mm) (r : Option AV) (M1 : Mm) : Prop := r = some an ∧ M1 = gh M 0
def sp6_sizeN (rs : List (Nat × Nat)) : Spec := spX false [2] (fun x M => P6_sizeN rs (x 0) M) (fun x M r M1 => R6_sizeN rs (x 0) M r M1)
theorem c6_sizeN {rs : List (Nat × Nat)} {z : Nat} {M : Mm} {Q : Option AV → Mm → Prop} : sp6_sizeN rs [ar z] M Q = (P6_sizeN rs (z : Int) M ∧ ∀ (r : Option AV) (M1 : Mm), R6_sizeN rs (z : Int) M r M1 → Q r M1) := rfl
def cs6_sizeN (rs : List (Nat × Nat)) : List (Nat × Nat × Nat × Spec) := []
def xs6_sizeN (rs : List (Nat × Nat)) : List (Nat × Nat × Nat × Spec) := [(131, 0, 1, spIns rs 2), (151, 0, 1, spIns rs 4), (171, 0, 1, spIns rs 0), (132, 0, 1, spCst rs 2), (152, 0, 1, spCst rs 4), (172, 0, 1, spCst rs 0), (192, 0, 1, spCst rs 1), (18, 1, 1, spLenN)]
set_option maxHeartbeats 4000000 in
set_option maxRecDepth 100000 in
theorem in6_sizeN {rs : List (Nat × Nat)} {z : Int} {M : Mm} {Q : Option AV → Mm → Prop} (hM : okM (sh8 rs) M) (hP : P6_sizeN rs z M) (hQ : ∀ (r : Option AV) (M1 : Mm), R6_sizeN rs z M r M1 → Q r M1) : wpx (tb6 (csL (cs6_sizeN rs))) (csL (xs6_sizeN rs)) (sh8 rs) 1 1 cX6_size [] (retX Q) (fun _ M1 => Q (some an) M1) 400 false 0 [(0, ar z.toNat)] [] M := by
  obtain ⟨hz, hr⟩ := id hP
  rcases (show z = 8 ∨ z = 9 ∨ z = 10 ∨ z = 11 by omega) with rfl | rfl | rfl | rfl <;>
  (simp only [Int.reduceToNat] at hr ⊢
   simp only [e_wpy (k := 9) dX6_size_0 rfl rfl rfl, e_wpy (k := 9) dX6_size_1 rfl rfl rfl, e_wpy (k := 131) dX6_size_4 rfl rfl rfl, e_wpy (k := 9) dX6_size_7 rfl rfl rfl, e_wpy (k := 9) dX6_size_10 rfl rfl rfl, e_wpy (k := 9) dX6_size_11 rfl rfl rfl, e_wpy (k := 132) dX6_size_14 rfl rfl rfl, e_wpy (k := 18) dX6_size_17 rfl rfl rfl, e_wpy (k := 9) dX6_size_18 rfl rfl rfl, e_wpy (k := 9) dX6_size_21 rfl rfl rfl, e_wpy (k := 9) dX6_size_22 rfl rfl rfl, e_wpy (k := 151) dX6_size_25 rfl rfl rfl, e_wpy (k := 9) dX6_size_28 rfl rfl rfl, e_wpy (k := 9) dX6_size_31 rfl rfl rfl, e_wpy (k := 9) dX6_size_32 rfl rfl rfl, e_wpy (k := 152) dX6_size_35 rfl rfl rfl, e_wpy (k := 18) dX6_size_38 rfl rfl rfl, e_wpy (k := 9) dX6_size_39 rfl rfl rfl, e_wpy (k := 9) dX6_size_42 rfl rfl rfl, e_wpy (k := 9) dX6_size_43 rfl rfl rfl, e_wpy (k := 171) dX6_size_46 rfl rfl rfl, e_wpy (k := 9) dX6_size_49 rfl rfl rfl, e_wpy (k := 9) dX6_size_52 rfl rfl rfl, e_wpy (k := 9) dX6_size_53 rfl rfl rfl, e_wpy (k := 172) dX6_size_56 rfl rfl rfl, e_wpy (k := 18) dX6_size_59 rfl rfl rfl, e_wpy (k := 9) dX6_size_60 rfl rfl rfl, e_wpy (k := 9) dX6_size_63 rfl rfl rfl, e_wpy (k := 9) dX6_size_64 rfl rfl rfl, e_wpy (k := 192) dX6_size_67 rfl rfl rfl, e_wpy (k := 18) dX6_size_70 rfl rfl rfl, e_wpy (k := 9) dX6_size_71 rfl rfl rfl, xoff_a, ex_null_n, ex_null_r, ex_nonn_n, ex_nonn_r, ex_aret, xel_n, xel_s, xgo_0, xgo_1x, xgo_1v, xgo_1i, xgo_1l, xgo_1r, xgo_2, xgo_3, xgo_4, xgo_5x, xgo_5v, xgo_5i, xgo_5l, xgd_5, xgd_0, xgd_1, xgd_2, xgd_3, xgd_4, ath_y, xct_f, xct_t, xna_f, csL_n, Nat.reduceMul, retX_i, retX_l, retX_r, retX_v, cIns_n, cIns_r, insO_22, insO_24, insO_20, insO_21, insO_44, insO_40, insO_41, insO_00, insO_01, cCst_n, cCst_r, cstO_s, cLenN, xs6_sizeN, g6_710, g6_711, g6_78, g6_79, e_iconst, e_bipush, e_sipush, e_lconst_0, e_lconst_1, e_iload, e_iload_0, e_iload_1, e_iload_2, e_iload_3, e_lload, e_lload_0, e_lload_1, e_lload_2, e_lload_3, e_aload, e_aload_0, e_aload_1, e_aload_2, e_aload_3, e_istore, e_istore_0, e_istore_1, e_istore_2, e_istore_3, e_astore, e_astore_0, e_astore_1, e_astore_2, e_astore_3, e_lstore, e_lstore_0, e_lstore_1, e_lstore_2, e_lstore_3, e_iinc, e_iadd, e_isub, e_imul, e_ladd, e_lsub, e_lmul, e_idiv, e_irem, e_ldiv, e_lrem, e_ineg, e_lneg, e_iand, e_ior, e_ixor, e_ishl, e_ishr, e_iushr, e_lcmp, e_i2l, e_l2i, e_i2b, e_i2s, e_dup_i, e_dup_r, e_pop_i, e_pop_r, e_dup2_l, e_dup2_ir, e_dup2_ii, e_ifeq, e_ifne, e_iflt, e_ifge, e_ifgt, e_ifle, e_iceq, e_icne, e_iclt, e_icge, e_icgt, e_icle, e_goto, e_switch, e_invokevirtual, e_invokestatic, e_invokespecial, e_ret0, e_ret1, e_ret2, e_ret3, ldI_s, ldL_s, ldR_s, clO_s, ctP_s, ctS_s, mgo_0, mgo_s, pjc_s, pj_0, pj_s, lk_s, rm1_0, rm1_i, rm1_r, rm1_l, rm2_0, rm2_i, rm2_r, rm2_l, csL_s, lc_lt, lc_ge, lc_gt, lc_le, lc_eq, b01_0, b01_1, b01_01, b01_n, up2_o, up2_s, up2_u, ne_eq, reduceCtorEq, Nat.reduceAdd, Nat.reduceEqDiff, Nat.reduceLT, Nat.reduceLeDiff, Int.reduceLE, Int.reduceLT, Int.reduceAdd, Int.reduceNeg, Int.reduceMul, Int.reduceSub, Int.reduceEq, Int.reduceToNat, Int.reduceNatCast, Int.cast_ofNat_Int, ↓reduceIte, and_self, List.drop_succ_cons, List.drop_zero, List.take_succ_cons, List.take_zero, List.length_cons, List.length_nil, List.reverse_cons, List.reverse_nil, List.nil_append, List.cons_append, Option.toList, true_and, and_true, or_false, false_or, or_true, true_or, forall_const, Classical.not_not, not_false_eq_true, not_true_eq_false, false_implies, true_implies, implies_true, imp_self, fval_m hr]
   exact hQ _ _ ⟨rfl, rfl⟩)
set_option maxHeartbeats 4000000 in
set_option maxRecDepth 100000 in
theorem m6_sizeN {rs : List (Nat × Nat)} : MOKX cl8 (sh8 rs) tyl8 Nws8 evE fl0 200 3 222 yX6_size cX6_size 1 (some .int) (sp6_sizeN rs) := by
  refine mokX_of (own := RX6) (fl := fl0) (tb := tb6 (csL (cs6_sizeN rs))) (xt := csL (xs6_sizeN rs)) (rt := 1) (fuel := 400) (fun avs M Q => []) (by decide) rfl nws8_ok (tbOK6 _) rfl (csL_all ?_) (csY_all ?_) ?_ ?_ ?_
  · intro q hq; cases hq
  · intro q hq
    simp only [xs6_sizeN, List.mem_cons, List.not_mem_nil, or_false] at hq
    rcases hq with rfl | rfl | rfl | rfl | rfl | rfl | rfl | rfl
    · exact Or.inl ⟨(by decide : (0 : Nat) = 0 ∨ (0 : Nat) = 3), cx_ins (x := 13) (T := 2) q1102 (by decide)⟩
    · exact Or.inl ⟨(by decide : (0 : Nat) = 0 ∨ (0 : Nat) = 3), cx_ins (x := 15) (T := 4) q1103 (by decide)⟩
    · exact Or.inl ⟨(by decide : (0 : Nat) = 0 ∨ (0 : Nat) = 3), cx_ins (x := 17) (T := 0) q1104 (by decide)⟩
    · exact Or.inl ⟨(by decide : (0 : Nat) = 0 ∨ (0 : Nat) = 3), cx_cst (x := 13) (T := 2) q1102 (by decide)⟩
    · exact Or.inl ⟨(by decide : (0 : Nat) = 0 ∨ (0 : Nat) = 3), cx_cst (x := 15) (T := 4) q1103 (by decide)⟩
    · exact Or.inl ⟨(by decide : (0 : Nat) = 0 ∨ (0 : Nat) = 3), cx_cst (x := 17) (T := 0) q1104 (by decide)⟩
    · exact Or.inl ⟨(by decide : (0 : Nat) = 0 ∨ (0 : Nat) = 3), cx_cst (x := 19) (T := 1) q1105 (by decide)⟩
    · exact Or.inr ⟨(by decide : ¬ ((1 : Nat) = 2 ∨ (1 : Nat) = 5)), cxe_len (by decide)⟩
  · intro avs M Q hsp
    obtain ⟨xs, hx⟩ := spX_un _ _ _ hsp
    obtain ⟨e, hl⟩ := unA_mk hx
    obtain ⟨z, rfl⟩ := len1 hl
    have e : avs = [ar z.toNat] := e
    subst e
    simp [szL, isL]
  · intro avs M Q hM hav hsp
    obtain ⟨xs, hx⟩ := spX_un _ _ _ hsp
    obtain ⟨e, hl⟩ := unA_mk hx
    obtain ⟨z, rfl⟩ := len1 hl
    have e : avs = [ar z.toNat] := e
    subst e
    exact in6_sizeN (z := ((z.toNat : Nat) : Int)) hM hsp.1 hsp.2
  · intro avs M Q hM hav hsp q hq m_ vs M1 hM1 hv hJ
    obtain ⟨xs, hx⟩ := spX_un _ _ _ hsp
    obtain ⟨e, hl⟩ := unA_mk hx
    obtain ⟨z, rfl⟩ := len1 hl
    have e : avs = [ar z.toNat] := e
    subst e
    cases hq
def P6_putX (rs : List (Nat × Nat)) (z : Int) (i : Int) (v : Int) (M : Mm) : Prop := (8 ≤ z ∧ z ≤ 11) ∧ (M z.toNat 0 < 0 ∨ rowOK rs (M z.toNat 0))
def R6_putX (rs : List (Nat × Nat)) (z : Int) (i : Int) (v : Int) (M : Mm) (r : Option AV) (M1 : Mm) : Prop := (M z.toNat 0 < 0 → r = some an ∧ M1 = gh M 0) ∧ (¬ M z.toNat 0 < 0 → (0 ≤ i ∧ i < rN rs (M z.toNat 0) → r = none ∧ M1 = up2 M (M z.toNat 0).toNat i.toNat (cutP v ((rW rs (M z.toNat 0) : Nat) : Int))) ∧ (¬ (0 ≤ i ∧ i < rN rs (M z.toNat 0)) → r = some an ∧ M1 = gh M 1))
def sp6_putX (rs : List (Nat × Nat)) : Spec := spX false [2, 0, 1] (fun x M => P6_putX rs (x 0) (x 1) (x 2) M) (fun x M r M1 => R6_putX rs (x 0) (x 1) (x 2) M r M1)
theorem c6_putX {rs : List (Nat × Nat)} {z : Nat} {i : Int} {v : Int} {M : Mm} {Q : Option AV → Mm → Prop} : sp6_putX rs [ar z, ai i, al v] M Q = (P6_putX rs (z : Int) i v M ∧ ∀ (r : Option AV) (M1 : Mm), R6_putX rs (z : Int) i v M r M1 → Q r M1) := rfl
def cs6_putX (rs : List (Nat × Nat)) : List (Nat × Nat × Nat × Spec) := []
def xs6_putX (rs : List (Nat × Nat)) : List (Nat × Nat × Nat × Spec) := [(131, 0, 1, spIns rs 2), (151, 0, 1, spIns rs 4), (171, 0, 1, spIns rs 0), (132, 0, 1, spCst rs 2), (152, 0, 1, spCst rs 4), (172, 0, 1, spCst rs 0), (192, 0, 1, spCst rs 1), (38, 1, 3, spSt rs 2), (98, 1, 3, spSt rs 4), (58, 1, 3, spSt rs 0), (78, 1, 3, spSt rs 1)]
set_option maxHeartbeats 4000000 in
set_option maxRecDepth 100000 in
theorem in6_putX {rs : List (Nat × Nat)} {z i v : Int} {M : Mm} {Q : Option AV → Mm → Prop} (hM : okM (sh8 rs) M) (h_i : i32 i) (h_v : i64 v) (hP : P6_putX rs z i v M) (hQ : ∀ (r : Option AV) (M1 : Mm), R6_putX rs z i v M r M1 → Q r M1) : wpx (tb6 (csL (cs6_putX rs))) (csL (xs6_putX rs)) (sh8 rs) 4 0 cX6_put [] (retX Q) (fun _ M1 => Q (some an) M1) 400 false 0 [(0, ar z.toNat), (1, ai i), (2, al v)] [] M := by
  obtain ⟨hz, hr⟩ := id hP
  rcases (show z = 8 ∨ z = 9 ∨ z = 10 ∨ z = 11 by omega) with rfl | rfl | rfl | rfl <;>
  (simp only [R6_putX, Int.reduceToNat] at hr hQ ⊢
   rcases hr with hr | hr
   · simp only [e_wpy (k := 9) dX6_put_0 rfl rfl rfl, e_wpy (k := 9) dX6_put_1 rfl rfl rfl, e_wpy (k := 131) dX6_put_4 rfl rfl rfl, e_wpy (k := 9) dX6_put_7 rfl rfl rfl, e_wpy (k := 9) dX6_put_10 rfl rfl rfl, e_wpy (k := 9) dX6_put_11 rfl rfl rfl, e_wpy (k := 132) dX6_put_14 rfl rfl rfl, e_wpy (k := 9) dX6_put_17 rfl rfl rfl, e_wpy (k := 9) dX6_put_18 rfl rfl rfl, e_wpy (k := 9) dX6_put_19 rfl rfl rfl, e_wpy (k := 9) dX6_put_20 rfl rfl rfl, e_wpy (k := 38) dX6_put_21 rfl rfl rfl, e_wpy (k := 9) dX6_put_22 rfl rfl rfl, e_wpy (k := 9) dX6_put_25 rfl rfl rfl, e_wpy (k := 9) dX6_put_26 rfl rfl rfl, e_wpy (k := 151) dX6_put_29 rfl rfl rfl, e_wpy (k := 9) dX6_put_32 rfl rfl rfl, e_wpy (k := 9) dX6_put_35 rfl rfl rfl, e_wpy (k := 9) dX6_put_36 rfl rfl rfl, e_wpy (k := 152) dX6_put_39 rfl rfl rfl, e_wpy (k := 9) dX6_put_42 rfl rfl rfl, e_wpy (k := 9) dX6_put_43 rfl rfl rfl, e_wpy (k := 9) dX6_put_44 rfl rfl rfl, e_wpy (k := 9) dX6_put_45 rfl rfl rfl, e_wpx dX6_put_46 rfl, e_wpy (k := 9) dX6_put_47 rfl rfl rfl, e_wpy (k := 9) dX6_put_50 rfl rfl rfl, e_wpy (k := 9) dX6_put_51 rfl rfl rfl, e_wpy (k := 171) dX6_put_54 rfl rfl rfl, e_wpy (k := 9) dX6_put_57 rfl rfl rfl, e_wpy (k := 9) dX6_put_60 rfl rfl rfl, e_wpy (k := 9) dX6_put_61 rfl rfl rfl, e_wpy (k := 172) dX6_put_64 rfl rfl rfl, e_wpy (k := 9) dX6_put_67 rfl rfl rfl, e_wpy (k := 9) dX6_put_68 rfl rfl rfl, e_wpy (k := 9) dX6_put_69 rfl rfl rfl, e_wpy (k := 58) dX6_put_70 rfl rfl rfl, e_wpy (k := 9) dX6_put_71 rfl rfl rfl, e_wpy (k := 9) dX6_put_74 rfl rfl rfl, e_wpy (k := 9) dX6_put_75 rfl rfl rfl, e_wpy (k := 192) dX6_put_78 rfl rfl rfl, e_wpy (k := 9) dX6_put_81 rfl rfl rfl, e_wpy (k := 9) dX6_put_82 rfl rfl rfl, e_wpy (k := 78) dX6_put_83 rfl rfl rfl, e_wpy (k := 9) dX6_put_84 rfl rfl rfl, xoff_a, ex_null_n, ex_null_r, ex_nonn_n, ex_nonn_r, ex_aret, xel_n, xel_s, xgo_0, xgo_1x, xgo_1v, xgo_1i, xgo_1l, xgo_1r, xgo_2, xgo_3, xgo_4, xgo_5x, xgo_5v, xgo_5i, xgo_5l, xgd_5, xgd_0, xgd_1, xgd_2, xgd_3, xgd_4, ath_y, xct_f, xct_t, xna_f, csL_n, Nat.reduceMul, retX_i, retX_l, retX_r, retX_v, cIns_n, cIns_r, insO_22, insO_24, insO_20, insO_21, insO_44, insO_40, insO_41, insO_00, insO_01, cCst_n, cCst_r, cstO_s, cSt_i, cSt_l, cSt_n, stO_s, xs6_putX, g6_710, g6_711, g6_78, g6_79, a8_13, w8_13, a8_14, w8_14, a8_15, w8_15, a8_16, w8_16, a8_17, w8_17, a8_18, w8_18, a8_19, w8_19, a8_20, w8_20, a8_21, w8_21, a8_22, w8_22, a8_23, w8_23, a8_24, w8_24, a8_25, w8_25, a8_26, w8_26, a8_27, w8_27, a8_28, w8_28, a8_29, w8_29, a8_30, w8_30, a8_31, w8_31, a8_32, w8_32, a8_33, w8_33, a8_34, w8_34, a8_35, w8_35, a8_36, w8_36, a8_37, w8_37, a8_38, w8_38, a8_39, w8_39, a8_40, w8_40, a8_12, w8_12, a8_6, a8_7, e_iconst, e_bipush, e_sipush, e_lconst_0, e_lconst_1, e_iload, e_iload_0, e_iload_1, e_iload_2, e_iload_3, e_lload, e_lload_0, e_lload_1, e_lload_2, e_lload_3, e_aload, e_aload_0, e_aload_1, e_aload_2, e_aload_3, e_istore, e_istore_0, e_istore_1, e_istore_2, e_istore_3, e_astore, e_astore_0, e_astore_1, e_astore_2, e_astore_3, e_lstore, e_lstore_0, e_lstore_1, e_lstore_2, e_lstore_3, e_iinc, e_iadd, e_isub, e_imul, e_ladd, e_lsub, e_lmul, e_idiv, e_irem, e_ldiv, e_lrem, e_ineg, e_lneg, e_iand, e_ior, e_ixor, e_ishl, e_ishr, e_iushr, e_lcmp, e_i2l, e_l2i, e_i2b, e_i2s, e_dup_i, e_dup_r, e_pop_i, e_pop_r, e_dup2_l, e_dup2_ir, e_dup2_ii, e_ifeq, e_ifne, e_iflt, e_ifge, e_ifgt, e_ifle, e_iceq, e_icne, e_iclt, e_icge, e_icgt, e_icle, e_goto, e_switch, e_invokevirtual, e_invokestatic, e_invokespecial, e_ret0, e_ret1, e_ret2, e_ret3, ldI_s, ldL_s, ldR_s, clO_s, ctP_s, ctS_s, mgo_0, mgo_s, pjc_s, pj_0, pj_s, lk_s, rm1_0, rm1_i, rm1_r, rm1_l, rm2_0, rm2_i, rm2_r, rm2_l, csL_s, lc_lt, lc_ge, lc_gt, lc_le, lc_eq, b01_0, b01_1, b01_01, b01_n, up2_o, up2_s, up2_u, ne_eq, reduceCtorEq, Nat.reduceAdd, Nat.reduceEqDiff, Nat.reduceLT, Nat.reduceLeDiff, Int.reduceLE, Int.reduceLT, Int.reduceAdd, Int.reduceNeg, Int.reduceMul, Int.reduceSub, Int.reduceEq, Int.reduceToNat, Int.reduceNatCast, Int.cast_ofNat_Int, ↓reduceIte, and_self, List.drop_succ_cons, List.drop_zero, List.take_succ_cons, List.take_zero, List.length_cons, List.length_nil, List.reverse_cons, List.reverse_nil, List.nil_append, List.cons_append, Option.toList, true_and, and_true, or_false, false_or, or_true, true_or, forall_const, Classical.not_not, not_false_eq_true, not_true_eq_false, false_implies, true_implies, implies_true, imp_self, fval_m hr]
     exact hQ _ _ ⟨fun _ => ⟨rfl, rfl⟩, fun q => absurd hr q⟩
   · obtain ⟨hr0, hn, hc⟩ := row4 hr
     rcases hc with ⟨hw, hc⟩ | ⟨hw, hc⟩ | ⟨hw, hc⟩ | ⟨hw, hc⟩
     · have b1 := n_b1 (v.bmod 4294967296)
       simp only [e_wpy (k := 9) dX6_put_0 rfl rfl rfl, e_wpy (k := 9) dX6_put_1 rfl rfl rfl, e_wpy (k := 131) dX6_put_4 rfl rfl rfl, e_wpy (k := 9) dX6_put_7 rfl rfl rfl, e_wpy (k := 9) dX6_put_10 rfl rfl rfl, e_wpy (k := 9) dX6_put_11 rfl rfl rfl, e_wpy (k := 132) dX6_put_14 rfl rfl rfl, e_wpy (k := 9) dX6_put_17 rfl rfl rfl, e_wpy (k := 9) dX6_put_18 rfl rfl rfl, e_wpy (k := 9) dX6_put_19 rfl rfl rfl, e_wpy (k := 9) dX6_put_20 rfl rfl rfl, e_wpy (k := 38) dX6_put_21 rfl rfl rfl, e_wpy (k := 9) dX6_put_22 rfl rfl rfl, e_wpy (k := 9) dX6_put_25 rfl rfl rfl, e_wpy (k := 9) dX6_put_26 rfl rfl rfl, e_wpy (k := 151) dX6_put_29 rfl rfl rfl, e_wpy (k := 9) dX6_put_32 rfl rfl rfl, e_wpy (k := 9) dX6_put_35 rfl rfl rfl, e_wpy (k := 9) dX6_put_36 rfl rfl rfl, e_wpy (k := 152) dX6_put_39 rfl rfl rfl, e_wpy (k := 9) dX6_put_42 rfl rfl rfl, e_wpy (k := 9) dX6_put_43 rfl rfl rfl, e_wpy (k := 9) dX6_put_44 rfl rfl rfl, e_wpy (k := 9) dX6_put_45 rfl rfl rfl, e_wpx dX6_put_46 rfl, e_wpy (k := 9) dX6_put_47 rfl rfl rfl, e_wpy (k := 9) dX6_put_50 rfl rfl rfl, e_wpy (k := 9) dX6_put_51 rfl rfl rfl, e_wpy (k := 171) dX6_put_54 rfl rfl rfl, e_wpy (k := 9) dX6_put_57 rfl rfl rfl, e_wpy (k := 9) dX6_put_60 rfl rfl rfl, e_wpy (k := 9) dX6_put_61 rfl rfl rfl, e_wpy (k := 172) dX6_put_64 rfl rfl rfl, e_wpy (k := 9) dX6_put_67 rfl rfl rfl, e_wpy (k := 9) dX6_put_68 rfl rfl rfl, e_wpy (k := 9) dX6_put_69 rfl rfl rfl, e_wpy (k := 58) dX6_put_70 rfl rfl rfl, e_wpy (k := 9) dX6_put_71 rfl rfl rfl, e_wpy (k := 9) dX6_put_74 rfl rfl rfl, e_wpy (k := 9) dX6_put_75 rfl rfl rfl, e_wpy (k := 192) dX6_put_78 rfl rfl rfl, e_wpy (k := 9) dX6_put_81 rfl rfl rfl, e_wpy (k := 9) dX6_put_82 rfl rfl rfl, e_wpy (k := 78) dX6_put_83 rfl rfl rfl, e_wpy (k := 9) dX6_put_84 rfl rfl rfl, xoff_a, ex_null_n, ex_null_r, ex_nonn_n, ex_nonn_r, ex_aret, xel_n, xel_s, xgo_0, xgo_1x, xgo_1v, xgo_1i, xgo_1l, xgo_1r, xgo_2, xgo_3, xgo_4, xgo_5x, xgo_5v, xgo_5i, xgo_5l, xgd_5, xgd_0, xgd_1, xgd_2, xgd_3, xgd_4, ath_y, xct_f, xct_t, xna_f, csL_n, Nat.reduceMul, retX_i, retX_l, retX_r, retX_v, cIns_n, cIns_r, insO_22, insO_24, insO_20, insO_21, insO_44, insO_40, insO_41, insO_00, insO_01, cCst_n, cCst_r, cstO_s, cSt_i, cSt_l, cSt_n, stO_s, xs6_putX, g6_710, g6_711, g6_78, g6_79, a8_13, w8_13, a8_14, w8_14, a8_15, w8_15, a8_16, w8_16, a8_17, w8_17, a8_18, w8_18, a8_19, w8_19, a8_20, w8_20, a8_21, w8_21, a8_22, w8_22, a8_23, w8_23, a8_24, w8_24, a8_25, w8_25, a8_26, w8_26, a8_27, w8_27, a8_28, w8_28, a8_29, w8_29, a8_30, w8_30, a8_31, w8_31, a8_32, w8_32, a8_33, w8_33, a8_34, w8_34, a8_35, w8_35, a8_36, w8_36, a8_37, w8_37, a8_38, w8_38, a8_39, w8_39, a8_40, w8_40, a8_12, w8_12, a8_6, a8_7, e_iconst, e_bipush, e_sipush, e_lconst_0, e_lconst_1, e_iload, e_iload_0, e_iload_1, e_iload_2, e_iload_3, e_lload, e_lload_0, e_lload_1, e_lload_2, e_lload_3, e_aload, e_aload_0, e_aload_1, e_aload_2, e_aload_3, e_istore, e_istore_0, e_istore_1, e_istore_2, e_istore_3, e_astore, e_astore_0, e_astore_1, e_astore_2, e_astore_3, e_lstore, e_lstore_0, e_lstore_1, e_lstore_2, e_lstore_3, e_iinc, e_iadd, e_isub, e_imul, e_ladd, e_lsub, e_lmul, e_idiv, e_irem, e_ldiv, e_lrem, e_ineg, e_lneg, e_iand, e_ior, e_ixor, e_ishl, e_ishr, e_iushr, e_lcmp, e_i2l, e_l2i, e_i2b, e_i2s, e_dup_i, e_dup_r, e_pop_i, e_pop_r, e_dup2_l, e_dup2_ir, e_dup2_ii, e_ifeq, e_ifne, e_iflt, e_ifge, e_ifgt, e_ifle, e_iceq, e_icne, e_iclt, e_icge, e_icgt, e_icle, e_goto, e_switch, e_invokevirtual, e_invokestatic, e_invokespecial, e_ret0, e_ret1, e_ret2, e_ret3, ldI_s, ldL_s, ldR_s, clO_s, ctP_s, ctS_s, mgo_0, mgo_s, pjc_s, pj_0, pj_s, lk_s, rm1_0, rm1_i, rm1_r, rm1_l, rm2_0, rm2_i, rm2_r, rm2_l, csL_s, lc_lt, lc_ge, lc_gt, lc_le, lc_eq, b01_0, b01_1, b01_01, b01_n, up2_o, up2_s, up2_u, ne_eq, reduceCtorEq, Nat.reduceAdd, Nat.reduceEqDiff, Nat.reduceLT, Nat.reduceLeDiff, Int.reduceLE, Int.reduceLT, Int.reduceAdd, Int.reduceNeg, Int.reduceMul, Int.reduceSub, Int.reduceEq, Int.reduceToNat, Int.reduceNatCast, Int.cast_ofNat_Int, ↓reduceIte, and_self, List.drop_succ_cons, List.drop_zero, List.take_succ_cons, List.take_zero, List.length_cons, List.length_nil, List.reverse_cons, List.reverse_nil, List.nil_append, List.cons_append, Option.toList, true_and, and_true, or_false, false_or, or_true, true_or, forall_const, Classical.not_not, not_false_eq_true, not_true_eq_false, false_implies, true_implies, implies_true, imp_self, fval_p hr0, hc]
       exact ⟨b1, by omega, fun q => hQ _ _ ⟨fun z => by omega, fun _ => ⟨fun _ => ⟨rfl, by rw [hw, cut_0]⟩, fun z => absurd q z⟩⟩, fun q => hQ _ _ ⟨fun z => by omega, fun _ => ⟨fun z => absurd z q, fun _ => ⟨rfl, rfl⟩⟩⟩⟩
     · have b1 := n_b2 (v.bmod 4294967296)
       simp only [e_wpy (k := 9) dX6_put_0 rfl rfl rfl, e_wpy (k := 9) dX6_put_1 rfl rfl rfl, e_wpy (k := 131) dX6_put_4 rfl rfl rfl, e_wpy (k := 9) dX6_put_7 rfl rfl rfl, e_wpy (k := 9) dX6_put_10 rfl rfl rfl, e_wpy (k := 9) dX6_put_11 rfl rfl rfl, e_wpy (k := 132) dX6_put_14 rfl rfl rfl, e_wpy (k := 9) dX6_put_17 rfl rfl rfl, e_wpy (k := 9) dX6_put_18 rfl rfl rfl, e_wpy (k := 9) dX6_put_19 rfl rfl rfl, e_wpy (k := 9) dX6_put_20 rfl rfl rfl, e_wpy (k := 38) dX6_put_21 rfl rfl rfl, e_wpy (k := 9) dX6_put_22 rfl rfl rfl, e_wpy (k := 9) dX6_put_25 rfl rfl rfl, e_wpy (k := 9) dX6_put_26 rfl rfl rfl, e_wpy (k := 151) dX6_put_29 rfl rfl rfl, e_wpy (k := 9) dX6_put_32 rfl rfl rfl, e_wpy (k := 9) dX6_put_35 rfl rfl rfl, e_wpy (k := 9) dX6_put_36 rfl rfl rfl, e_wpy (k := 152) dX6_put_39 rfl rfl rfl, e_wpy (k := 9) dX6_put_42 rfl rfl rfl, e_wpy (k := 9) dX6_put_43 rfl rfl rfl, e_wpy (k := 9) dX6_put_44 rfl rfl rfl, e_wpy (k := 9) dX6_put_45 rfl rfl rfl, e_wpx dX6_put_46 rfl, e_wpy (k := 9) dX6_put_47 rfl rfl rfl, e_wpy (k := 9) dX6_put_50 rfl rfl rfl, e_wpy (k := 9) dX6_put_51 rfl rfl rfl, e_wpy (k := 171) dX6_put_54 rfl rfl rfl, e_wpy (k := 9) dX6_put_57 rfl rfl rfl, e_wpy (k := 9) dX6_put_60 rfl rfl rfl, e_wpy (k := 9) dX6_put_61 rfl rfl rfl, e_wpy (k := 172) dX6_put_64 rfl rfl rfl, e_wpy (k := 9) dX6_put_67 rfl rfl rfl, e_wpy (k := 9) dX6_put_68 rfl rfl rfl, e_wpy (k := 9) dX6_put_69 rfl rfl rfl, e_wpy (k := 58) dX6_put_70 rfl rfl rfl, e_wpy (k := 9) dX6_put_71 rfl rfl rfl, e_wpy (k := 9) dX6_put_74 rfl rfl rfl, e_wpy (k := 9) dX6_put_75 rfl rfl rfl, e_wpy (k := 192) dX6_put_78 rfl rfl rfl, e_wpy (k := 9) dX6_put_81 rfl rfl rfl, e_wpy (k := 9) dX6_put_82 rfl rfl rfl, e_wpy (k := 78) dX6_put_83 rfl rfl rfl, e_wpy (k := 9) dX6_put_84 rfl rfl rfl, xoff_a, ex_null_n, ex_null_r, ex_nonn_n, ex_nonn_r, ex_aret, xel_n, xel_s, xgo_0, xgo_1x, xgo_1v, xgo_1i, xgo_1l, xgo_1r, xgo_2, xgo_3, xgo_4, xgo_5x, xgo_5v, xgo_5i, xgo_5l, xgd_5, xgd_0, xgd_1, xgd_2, xgd_3, xgd_4, ath_y, xct_f, xct_t, xna_f, csL_n, Nat.reduceMul, retX_i, retX_l, retX_r, retX_v, cIns_n, cIns_r, insO_22, insO_24, insO_20, insO_21, insO_44, insO_40, insO_41, insO_00, insO_01, cCst_n, cCst_r, cstO_s, cSt_i, cSt_l, cSt_n, stO_s, xs6_putX, g6_710, g6_711, g6_78, g6_79, a8_13, w8_13, a8_14, w8_14, a8_15, w8_15, a8_16, w8_16, a8_17, w8_17, a8_18, w8_18, a8_19, w8_19, a8_20, w8_20, a8_21, w8_21, a8_22, w8_22, a8_23, w8_23, a8_24, w8_24, a8_25, w8_25, a8_26, w8_26, a8_27, w8_27, a8_28, w8_28, a8_29, w8_29, a8_30, w8_30, a8_31, w8_31, a8_32, w8_32, a8_33, w8_33, a8_34, w8_34, a8_35, w8_35, a8_36, w8_36, a8_37, w8_37, a8_38, w8_38, a8_39, w8_39, a8_40, w8_40, a8_12, w8_12, a8_6, a8_7, e_iconst, e_bipush, e_sipush, e_lconst_0, e_lconst_1, e_iload, e_iload_0, e_iload_1, e_iload_2, e_iload_3, e_lload, e_lload_0, e_lload_1, e_lload_2, e_lload_3, e_aload, e_aload_0, e_aload_1, e_aload_2, e_aload_3, e_istore, e_istore_0, e_istore_1, e_istore_2, e_istore_3, e_astore, e_astore_0, e_astore_1, e_astore_2, e_astore_3, e_lstore, e_lstore_0, e_lstore_1, e_lstore_2, e_lstore_3, e_iinc, e_iadd, e_isub, e_imul, e_ladd, e_lsub, e_lmul, e_idiv, e_irem, e_ldiv, e_lrem, e_ineg, e_lneg, e_iand, e_ior, e_ixor, e_ishl, e_ishr, e_iushr, e_lcmp, e_i2l, e_l2i, e_i2b, e_i2s, e_dup_i, e_dup_r, e_pop_i, e_pop_r, e_dup2_l, e_dup2_ir, e_dup2_ii, e_ifeq, e_ifne, e_iflt, e_ifge, e_ifgt, e_ifle, e_iceq, e_icne, e_iclt, e_icge, e_icgt, e_icle, e_goto, e_switch, e_invokevirtual, e_invokestatic, e_invokespecial, e_ret0, e_ret1, e_ret2, e_ret3, ldI_s, ldL_s, ldR_s, clO_s, ctP_s, ctS_s, mgo_0, mgo_s, pjc_s, pj_0, pj_s, lk_s, rm1_0, rm1_i, rm1_r, rm1_l, rm2_0, rm2_i, rm2_r, rm2_l, csL_s, lc_lt, lc_ge, lc_gt, lc_le, lc_eq, b01_0, b01_1, b01_01, b01_n, up2_o, up2_s, up2_u, ne_eq, reduceCtorEq, Nat.reduceAdd, Nat.reduceEqDiff, Nat.reduceLT, Nat.reduceLeDiff, Int.reduceLE, Int.reduceLT, Int.reduceAdd, Int.reduceNeg, Int.reduceMul, Int.reduceSub, Int.reduceEq, Int.reduceToNat, Int.reduceNatCast, Int.cast_ofNat_Int, ↓reduceIte, and_self, List.drop_succ_cons, List.drop_zero, List.take_succ_cons, List.take_zero, List.length_cons, List.length_nil, List.reverse_cons, List.reverse_nil, List.nil_append, List.cons_append, Option.toList, true_and, and_true, or_false, false_or, or_true, true_or, forall_const, Classical.not_not, not_false_eq_true, not_true_eq_false, false_implies, true_implies, implies_true, imp_self, fval_p hr0, hc]
       rw [ex_sastX (q := (1, 3, spSt rs 4)) rfl]
       simp only [e_wpy (k := 9) dX6_put_0 rfl rfl rfl, e_wpy (k := 9) dX6_put_1 rfl rfl rfl, e_wpy (k := 131) dX6_put_4 rfl rfl rfl, e_wpy (k := 9) dX6_put_7 rfl rfl rfl, e_wpy (k := 9) dX6_put_10 rfl rfl rfl, e_wpy (k := 9) dX6_put_11 rfl rfl rfl, e_wpy (k := 132) dX6_put_14 rfl rfl rfl, e_wpy (k := 9) dX6_put_17 rfl rfl rfl, e_wpy (k := 9) dX6_put_18 rfl rfl rfl, e_wpy (k := 9) dX6_put_19 rfl rfl rfl, e_wpy (k := 9) dX6_put_20 rfl rfl rfl, e_wpy (k := 38) dX6_put_21 rfl rfl rfl, e_wpy (k := 9) dX6_put_22 rfl rfl rfl, e_wpy (k := 9) dX6_put_25 rfl rfl rfl, e_wpy (k := 9) dX6_put_26 rfl rfl rfl, e_wpy (k := 151) dX6_put_29 rfl rfl rfl, e_wpy (k := 9) dX6_put_32 rfl rfl rfl, e_wpy (k := 9) dX6_put_35 rfl rfl rfl, e_wpy (k := 9) dX6_put_36 rfl rfl rfl, e_wpy (k := 152) dX6_put_39 rfl rfl rfl, e_wpy (k := 9) dX6_put_42 rfl rfl rfl, e_wpy (k := 9) dX6_put_43 rfl rfl rfl, e_wpy (k := 9) dX6_put_44 rfl rfl rfl, e_wpy (k := 9) dX6_put_45 rfl rfl rfl, e_wpx dX6_put_46 rfl, e_wpy (k := 9) dX6_put_47 rfl rfl rfl, e_wpy (k := 9) dX6_put_50 rfl rfl rfl, e_wpy (k := 9) dX6_put_51 rfl rfl rfl, e_wpy (k := 171) dX6_put_54 rfl rfl rfl, e_wpy (k := 9) dX6_put_57 rfl rfl rfl, e_wpy (k := 9) dX6_put_60 rfl rfl rfl, e_wpy (k := 9) dX6_put_61 rfl rfl rfl, e_wpy (k := 172) dX6_put_64 rfl rfl rfl, e_wpy (k := 9) dX6_put_67 rfl rfl rfl, e_wpy (k := 9) dX6_put_68 rfl rfl rfl, e_wpy (k := 9) dX6_put_69 rfl rfl rfl, e_wpy (k := 58) dX6_put_70 rfl rfl rfl, e_wpy (k := 9) dX6_put_71 rfl rfl rfl, e_wpy (k := 9) dX6_put_74 rfl rfl rfl, e_wpy (k := 9) dX6_put_75 rfl rfl rfl, e_wpy (k := 192) dX6_put_78 rfl rfl rfl, e_wpy (k := 9) dX6_put_81 rfl rfl rfl, e_wpy (k := 9) dX6_put_82 rfl rfl rfl, e_wpy (k := 78) dX6_put_83 rfl rfl rfl, e_wpy (k := 9) dX6_put_84 rfl rfl rfl, xoff_a, ex_null_n, ex_null_r, ex_nonn_n, ex_nonn_r, ex_aret, xel_n, xel_s, xgo_0, xgo_1x, xgo_1v, xgo_1i, xgo_1l, xgo_1r, xgo_2, xgo_3, xgo_4, xgo_5x, xgo_5v, xgo_5i, xgo_5l, xgd_5, xgd_0, xgd_1, xgd_2, xgd_3, xgd_4, ath_y, xct_f, xct_t, xna_f, csL_n, Nat.reduceMul, retX_i, retX_l, retX_r, retX_v, cIns_n, cIns_r, insO_22, insO_24, insO_20, insO_21, insO_44, insO_40, insO_41, insO_00, insO_01, cCst_n, cCst_r, cstO_s, cSt_i, cSt_l, cSt_n, stO_s, xs6_putX, g6_710, g6_711, g6_78, g6_79, a8_13, w8_13, a8_14, w8_14, a8_15, w8_15, a8_16, w8_16, a8_17, w8_17, a8_18, w8_18, a8_19, w8_19, a8_20, w8_20, a8_21, w8_21, a8_22, w8_22, a8_23, w8_23, a8_24, w8_24, a8_25, w8_25, a8_26, w8_26, a8_27, w8_27, a8_28, w8_28, a8_29, w8_29, a8_30, w8_30, a8_31, w8_31, a8_32, w8_32, a8_33, w8_33, a8_34, w8_34, a8_35, w8_35, a8_36, w8_36, a8_37, w8_37, a8_38, w8_38, a8_39, w8_39, a8_40, w8_40, a8_12, w8_12, a8_6, a8_7, e_iconst, e_bipush, e_sipush, e_lconst_0, e_lconst_1, e_iload, e_iload_0, e_iload_1, e_iload_2, e_iload_3, e_lload, e_lload_0, e_lload_1, e_lload_2, e_lload_3, e_aload, e_aload_0, e_aload_1, e_aload_2, e_aload_3, e_istore, e_istore_0, e_istore_1, e_istore_2, e_istore_3, e_astore, e_astore_0, e_astore_1, e_astore_2, e_astore_3, e_lstore, e_lstore_0, e_lstore_1, e_lstore_2, e_lstore_3, e_iinc, e_iadd, e_isub, e_imul, e_ladd, e_lsub, e_lmul, e_idiv, e_irem, e_ldiv, e_lrem, e_ineg, e_lneg, e_iand, e_ior, e_ixor, e_ishl, e_ishr, e_iushr, e_lcmp, e_i2l, e_l2i, e_i2b, e_i2s, e_dup_i, e_dup_r, e_pop_i, e_pop_r, e_dup2_l, e_dup2_ir, e_dup2_ii, e_ifeq, e_ifne, e_iflt, e_ifge, e_ifgt, e_ifle, e_iceq, e_icne, e_iclt, e_icge, e_icgt, e_icle, e_goto, e_switch, e_invokevirtual, e_invokestatic, e_invokespecial, e_ret0, e_ret1, e_ret2, e_ret3, ldI_s, ldL_s, ldR_s, clO_s, ctP_s, ctS_s, mgo_0, mgo_s, pjc_s, pj_0, pj_s, lk_s, rm1_0, rm1_i, rm1_r, rm1_l, rm2_0, rm2_i, rm2_r, rm2_l, csL_s, lc_lt, lc_ge, lc_gt, lc_le, lc_eq, b01_0, b01_1, b01_01, b01_n, up2_o, up2_s, up2_u, ne_eq, reduceCtorEq, Nat.reduceAdd, Nat.reduceEqDiff, Nat.reduceLT, Nat.reduceLeDiff, Int.reduceLE, Int.reduceLT, Int.reduceAdd, Int.reduceNeg, Int.reduceMul, Int.reduceSub, Int.reduceEq, Int.reduceToNat, Int.reduceNatCast, Int.cast_ofNat_Int, ↓reduceIte, and_self, List.drop_succ_cons, List.drop_zero, List.take_succ_cons, List.take_zero, List.length_cons, List.length_nil, List.reverse_cons, List.reverse_nil, List.nil_append, List.cons_append, Option.toList, true_and, and_true, or_false, false_or, or_true, true_or, forall_const, Classical.not_not, not_false_eq_true, not_true_eq_false, false_implies, true_implies, implies_true, imp_self, fval_p hr0, hc]
       exact ⟨b1, by omega, fun q => hQ _ _ ⟨fun z => by omega, fun _ => ⟨fun _ => ⟨rfl, by rw [hw, cut_1]⟩, fun z => absurd q z⟩⟩, fun q => hQ _ _ ⟨fun z => by omega, fun _ => ⟨fun z => absurd z q, fun _ => ⟨rfl, rfl⟩⟩⟩⟩
     · have b1 := n_bm v
       simp only [e_wpy (k := 9) dX6_put_0 rfl rfl rfl, e_wpy (k := 9) dX6_put_1 rfl rfl rfl, e_wpy (k := 131) dX6_put_4 rfl rfl rfl, e_wpy (k := 9) dX6_put_7 rfl rfl rfl, e_wpy (k := 9) dX6_put_10 rfl rfl rfl, e_wpy (k := 9) dX6_put_11 rfl rfl rfl, e_wpy (k := 132) dX6_put_14 rfl rfl rfl, e_wpy (k := 9) dX6_put_17 rfl rfl rfl, e_wpy (k := 9) dX6_put_18 rfl rfl rfl, e_wpy (k := 9) dX6_put_19 rfl rfl rfl, e_wpy (k := 9) dX6_put_20 rfl rfl rfl, e_wpy (k := 38) dX6_put_21 rfl rfl rfl, e_wpy (k := 9) dX6_put_22 rfl rfl rfl, e_wpy (k := 9) dX6_put_25 rfl rfl rfl, e_wpy (k := 9) dX6_put_26 rfl rfl rfl, e_wpy (k := 151) dX6_put_29 rfl rfl rfl, e_wpy (k := 9) dX6_put_32 rfl rfl rfl, e_wpy (k := 9) dX6_put_35 rfl rfl rfl, e_wpy (k := 9) dX6_put_36 rfl rfl rfl, e_wpy (k := 152) dX6_put_39 rfl rfl rfl, e_wpy (k := 9) dX6_put_42 rfl rfl rfl, e_wpy (k := 9) dX6_put_43 rfl rfl rfl, e_wpy (k := 9) dX6_put_44 rfl rfl rfl, e_wpy (k := 9) dX6_put_45 rfl rfl rfl, e_wpx dX6_put_46 rfl, e_wpy (k := 9) dX6_put_47 rfl rfl rfl, e_wpy (k := 9) dX6_put_50 rfl rfl rfl, e_wpy (k := 9) dX6_put_51 rfl rfl rfl, e_wpy (k := 171) dX6_put_54 rfl rfl rfl, e_wpy (k := 9) dX6_put_57 rfl rfl rfl, e_wpy (k := 9) dX6_put_60 rfl rfl rfl, e_wpy (k := 9) dX6_put_61 rfl rfl rfl, e_wpy (k := 172) dX6_put_64 rfl rfl rfl, e_wpy (k := 9) dX6_put_67 rfl rfl rfl, e_wpy (k := 9) dX6_put_68 rfl rfl rfl, e_wpy (k := 9) dX6_put_69 rfl rfl rfl, e_wpy (k := 58) dX6_put_70 rfl rfl rfl, e_wpy (k := 9) dX6_put_71 rfl rfl rfl, e_wpy (k := 9) dX6_put_74 rfl rfl rfl, e_wpy (k := 9) dX6_put_75 rfl rfl rfl, e_wpy (k := 192) dX6_put_78 rfl rfl rfl, e_wpy (k := 9) dX6_put_81 rfl rfl rfl, e_wpy (k := 9) dX6_put_82 rfl rfl rfl, e_wpy (k := 78) dX6_put_83 rfl rfl rfl, e_wpy (k := 9) dX6_put_84 rfl rfl rfl, xoff_a, ex_null_n, ex_null_r, ex_nonn_n, ex_nonn_r, ex_aret, xel_n, xel_s, xgo_0, xgo_1x, xgo_1v, xgo_1i, xgo_1l, xgo_1r, xgo_2, xgo_3, xgo_4, xgo_5x, xgo_5v, xgo_5i, xgo_5l, xgd_5, xgd_0, xgd_1, xgd_2, xgd_3, xgd_4, ath_y, xct_f, xct_t, xna_f, csL_n, Nat.reduceMul, retX_i, retX_l, retX_r, retX_v, cIns_n, cIns_r, insO_22, insO_24, insO_20, insO_21, insO_44, insO_40, insO_41, insO_00, insO_01, cCst_n, cCst_r, cstO_s, cSt_i, cSt_l, cSt_n, stO_s, xs6_putX, g6_710, g6_711, g6_78, g6_79, a8_13, w8_13, a8_14, w8_14, a8_15, w8_15, a8_16, w8_16, a8_17, w8_17, a8_18, w8_18, a8_19, w8_19, a8_20, w8_20, a8_21, w8_21, a8_22, w8_22, a8_23, w8_23, a8_24, w8_24, a8_25, w8_25, a8_26, w8_26, a8_27, w8_27, a8_28, w8_28, a8_29, w8_29, a8_30, w8_30, a8_31, w8_31, a8_32, w8_32, a8_33, w8_33, a8_34, w8_34, a8_35, w8_35, a8_36, w8_36, a8_37, w8_37, a8_38, w8_38, a8_39, w8_39, a8_40, w8_40, a8_12, w8_12, a8_6, a8_7, e_iconst, e_bipush, e_sipush, e_lconst_0, e_lconst_1, e_iload, e_iload_0, e_iload_1, e_iload_2, e_iload_3, e_lload, e_lload_0, e_lload_1, e_lload_2, e_lload_3, e_aload, e_aload_0, e_aload_1, e_aload_2, e_aload_3, e_istore, e_istore_0, e_istore_1, e_istore_2, e_istore_3, e_astore, e_astore_0, e_astore_1, e_astore_2, e_astore_3, e_lstore, e_lstore_0, e_lstore_1, e_lstore_2, e_lstore_3, e_iinc, e_iadd, e_isub, e_imul, e_ladd, e_lsub, e_lmul, e_idiv, e_irem, e_ldiv, e_lrem, e_ineg, e_lneg, e_iand, e_ior, e_ixor, e_ishl, e_ishr, e_iushr, e_lcmp, e_i2l, e_l2i, e_i2b, e_i2s, e_dup_i, e_dup_r, e_pop_i, e_pop_r, e_dup2_l, e_dup2_ir, e_dup2_ii, e_ifeq, e_ifne, e_iflt, e_ifge, e_ifgt, e_ifle, e_iceq, e_icne, e_iclt, e_icge, e_icgt, e_icle, e_goto, e_switch, e_invokevirtual, e_invokestatic, e_invokespecial, e_ret0, e_ret1, e_ret2, e_ret3, ldI_s, ldL_s, ldR_s, clO_s, ctP_s, ctS_s, mgo_0, mgo_s, pjc_s, pj_0, pj_s, lk_s, rm1_0, rm1_i, rm1_r, rm1_l, rm2_0, rm2_i, rm2_r, rm2_l, csL_s, lc_lt, lc_ge, lc_gt, lc_le, lc_eq, b01_0, b01_1, b01_01, b01_n, up2_o, up2_s, up2_u, ne_eq, reduceCtorEq, Nat.reduceAdd, Nat.reduceEqDiff, Nat.reduceLT, Nat.reduceLeDiff, Int.reduceLE, Int.reduceLT, Int.reduceAdd, Int.reduceNeg, Int.reduceMul, Int.reduceSub, Int.reduceEq, Int.reduceToNat, Int.reduceNatCast, Int.cast_ofNat_Int, ↓reduceIte, and_self, List.drop_succ_cons, List.drop_zero, List.take_succ_cons, List.take_zero, List.length_cons, List.length_nil, List.reverse_cons, List.reverse_nil, List.nil_append, List.cons_append, Option.toList, true_and, and_true, or_false, false_or, or_true, true_or, forall_const, Classical.not_not, not_false_eq_true, not_true_eq_false, false_implies, true_implies, implies_true, imp_self, fval_p hr0, hc]
       exact ⟨b1, by omega, fun q => hQ _ _ ⟨fun z => by omega, fun _ => ⟨fun _ => ⟨rfl, by rw [hw, cut_2]⟩, fun z => absurd q z⟩⟩, fun q => hQ _ _ ⟨fun z => by omega, fun _ => ⟨fun z => absurd z q, fun _ => ⟨rfl, rfl⟩⟩⟩⟩
     · simp only [e_wpy (k := 9) dX6_put_0 rfl rfl rfl, e_wpy (k := 9) dX6_put_1 rfl rfl rfl, e_wpy (k := 131) dX6_put_4 rfl rfl rfl, e_wpy (k := 9) dX6_put_7 rfl rfl rfl, e_wpy (k := 9) dX6_put_10 rfl rfl rfl, e_wpy (k := 9) dX6_put_11 rfl rfl rfl, e_wpy (k := 132) dX6_put_14 rfl rfl rfl, e_wpy (k := 9) dX6_put_17 rfl rfl rfl, e_wpy (k := 9) dX6_put_18 rfl rfl rfl, e_wpy (k := 9) dX6_put_19 rfl rfl rfl, e_wpy (k := 9) dX6_put_20 rfl rfl rfl, e_wpy (k := 38) dX6_put_21 rfl rfl rfl, e_wpy (k := 9) dX6_put_22 rfl rfl rfl, e_wpy (k := 9) dX6_put_25 rfl rfl rfl, e_wpy (k := 9) dX6_put_26 rfl rfl rfl, e_wpy (k := 151) dX6_put_29 rfl rfl rfl, e_wpy (k := 9) dX6_put_32 rfl rfl rfl, e_wpy (k := 9) dX6_put_35 rfl rfl rfl, e_wpy (k := 9) dX6_put_36 rfl rfl rfl, e_wpy (k := 152) dX6_put_39 rfl rfl rfl, e_wpy (k := 9) dX6_put_42 rfl rfl rfl, e_wpy (k := 9) dX6_put_43 rfl rfl rfl, e_wpy (k := 9) dX6_put_44 rfl rfl rfl, e_wpy (k := 9) dX6_put_45 rfl rfl rfl, e_wpx dX6_put_46 rfl, e_wpy (k := 9) dX6_put_47 rfl rfl rfl, e_wpy (k := 9) dX6_put_50 rfl rfl rfl, e_wpy (k := 9) dX6_put_51 rfl rfl rfl, e_wpy (k := 171) dX6_put_54 rfl rfl rfl, e_wpy (k := 9) dX6_put_57 rfl rfl rfl, e_wpy (k := 9) dX6_put_60 rfl rfl rfl, e_wpy (k := 9) dX6_put_61 rfl rfl rfl, e_wpy (k := 172) dX6_put_64 rfl rfl rfl, e_wpy (k := 9) dX6_put_67 rfl rfl rfl, e_wpy (k := 9) dX6_put_68 rfl rfl rfl, e_wpy (k := 9) dX6_put_69 rfl rfl rfl, e_wpy (k := 58) dX6_put_70 rfl rfl rfl, e_wpy (k := 9) dX6_put_71 rfl rfl rfl, e_wpy (k := 9) dX6_put_74 rfl rfl rfl, e_wpy (k := 9) dX6_put_75 rfl rfl rfl, e_wpy (k := 192) dX6_put_78 rfl rfl rfl, e_wpy (k := 9) dX6_put_81 rfl rfl rfl, e_wpy (k := 9) dX6_put_82 rfl rfl rfl, e_wpy (k := 78) dX6_put_83 rfl rfl rfl, e_wpy (k := 9) dX6_put_84 rfl rfl rfl, xoff_a, ex_null_n, ex_null_r, ex_nonn_n, ex_nonn_r, ex_aret, xel_n, xel_s, xgo_0, xgo_1x, xgo_1v, xgo_1i, xgo_1l, xgo_1r, xgo_2, xgo_3, xgo_4, xgo_5x, xgo_5v, xgo_5i, xgo_5l, xgd_5, xgd_0, xgd_1, xgd_2, xgd_3, xgd_4, ath_y, xct_f, xct_t, xna_f, csL_n, Nat.reduceMul, retX_i, retX_l, retX_r, retX_v, cIns_n, cIns_r, insO_22, insO_24, insO_20, insO_21, insO_44, insO_40, insO_41, insO_00, insO_01, cCst_n, cCst_r, cstO_s, cSt_i, cSt_l, cSt_n, stO_s, xs6_putX, g6_710, g6_711, g6_78, g6_79, a8_13, w8_13, a8_14, w8_14, a8_15, w8_15, a8_16, w8_16, a8_17, w8_17, a8_18, w8_18, a8_19, w8_19, a8_20, w8_20, a8_21, w8_21, a8_22, w8_22, a8_23, w8_23, a8_24, w8_24, a8_25, w8_25, a8_26, w8_26, a8_27, w8_27, a8_28, w8_28, a8_29, w8_29, a8_30, w8_30, a8_31, w8_31, a8_32, w8_32, a8_33, w8_33, a8_34, w8_34, a8_35, w8_35, a8_36, w8_36, a8_37, w8_37, a8_38, w8_38, a8_39, w8_39, a8_40, w8_40, a8_12, w8_12, a8_6, a8_7, e_iconst, e_bipush, e_sipush, e_lconst_0, e_lconst_1, e_iload, e_iload_0, e_iload_1, e_iload_2, e_iload_3, e_lload, e_lload_0, e_lload_1, e_lload_2, e_lload_3, e_aload, e_aload_0, e_aload_1, e_aload_2, e_aload_3, e_istore, e_istore_0, e_istore_1, e_istore_2, e_istore_3, e_astore, e_astore_0, e_astore_1, e_astore_2, e_astore_3, e_lstore, e_lstore_0, e_lstore_1, e_lstore_2, e_lstore_3, e_iinc, e_iadd, e_isub, e_imul, e_ladd, e_lsub, e_lmul, e_idiv, e_irem, e_ldiv, e_lrem, e_ineg, e_lneg, e_iand, e_ior, e_ixor, e_ishl, e_ishr, e_iushr, e_lcmp, e_i2l, e_l2i, e_i2b, e_i2s, e_dup_i, e_dup_r, e_pop_i, e_pop_r, e_dup2_l, e_dup2_ir, e_dup2_ii, e_ifeq, e_ifne, e_iflt, e_ifge, e_ifgt, e_ifle, e_iceq, e_icne, e_iclt, e_icge, e_icgt, e_icle, e_goto, e_switch, e_invokevirtual, e_invokestatic, e_invokespecial, e_ret0, e_ret1, e_ret2, e_ret3, ldI_s, ldL_s, ldR_s, clO_s, ctP_s, ctS_s, mgo_0, mgo_s, pjc_s, pj_0, pj_s, lk_s, rm1_0, rm1_i, rm1_r, rm1_l, rm2_0, rm2_i, rm2_r, rm2_l, csL_s, lc_lt, lc_ge, lc_gt, lc_le, lc_eq, b01_0, b01_1, b01_01, b01_n, up2_o, up2_s, up2_u, ne_eq, reduceCtorEq, Nat.reduceAdd, Nat.reduceEqDiff, Nat.reduceLT, Nat.reduceLeDiff, Int.reduceLE, Int.reduceLT, Int.reduceAdd, Int.reduceNeg, Int.reduceMul, Int.reduceSub, Int.reduceEq, Int.reduceToNat, Int.reduceNatCast, Int.cast_ofNat_Int, ↓reduceIte, and_self, List.drop_succ_cons, List.drop_zero, List.take_succ_cons, List.take_zero, List.length_cons, List.length_nil, List.reverse_cons, List.reverse_nil, List.nil_append, List.cons_append, Option.toList, true_and, and_true, or_false, false_or, or_true, true_or, forall_const, Classical.not_not, not_false_eq_true, not_true_eq_false, false_implies, true_implies, implies_true, imp_self, fval_p hr0, hc]
       exact ⟨by omega, fun q => hQ _ _ ⟨fun z => by omega, fun _ => ⟨fun _ => ⟨rfl, by rw [hw, cut_3]⟩, fun z => absurd q z⟩⟩, fun q => hQ _ _ ⟨fun z => by omega, fun _ => ⟨fun z => absurd z q, fun _ => ⟨rfl, rfl⟩⟩⟩⟩)
set_option maxHeartbeats 4000000 in
set_option maxRecDepth 100000 in
theorem m6_putX {rs : List (Nat × Nat)} : MOKX cl8 (sh8 rs) tyl8 Nws8 evE fl0 200 3 222 yX6_put cX6_put 4 none (sp6_putX rs) := by
  refine mokX_of (own := RX6) (fl := fl0) (tb := tb6 (csL (cs6_putX rs))) (xt := csL (xs6_putX rs)) (rt := 0) (fuel := 400) (fun avs M Q => []) (by decide) rfl nws8_ok (tbOK6 _) rfl (csL_all ?_) (csY_all ?_) ?_ ?_ ?_
  · intro q hq; cases hq
  · intro q hq
    simp only [xs6_putX, List.mem_cons, List.not_mem_nil, or_false] at hq
    rcases hq with rfl | rfl | rfl | rfl | rfl | rfl | rfl | rfl | rfl | rfl | rfl
    · exact Or.inl ⟨(by decide : (0 : Nat) = 0 ∨ (0 : Nat) = 3), cx_ins (x := 13) (T := 2) q1102 (by decide)⟩
    · exact Or.inl ⟨(by decide : (0 : Nat) = 0 ∨ (0 : Nat) = 3), cx_ins (x := 15) (T := 4) q1103 (by decide)⟩
    · exact Or.inl ⟨(by decide : (0 : Nat) = 0 ∨ (0 : Nat) = 3), cx_ins (x := 17) (T := 0) q1104 (by decide)⟩
    · exact Or.inl ⟨(by decide : (0 : Nat) = 0 ∨ (0 : Nat) = 3), cx_cst (x := 13) (T := 2) q1102 (by decide)⟩
    · exact Or.inl ⟨(by decide : (0 : Nat) = 0 ∨ (0 : Nat) = 3), cx_cst (x := 15) (T := 4) q1103 (by decide)⟩
    · exact Or.inl ⟨(by decide : (0 : Nat) = 0 ∨ (0 : Nat) = 3), cx_cst (x := 17) (T := 0) q1104 (by decide)⟩
    · exact Or.inl ⟨(by decide : (0 : Nat) = 0 ∨ (0 : Nat) = 3), cx_cst (x := 19) (T := 1) q1105 (by decide)⟩
    · exact Or.inr ⟨(by decide : ¬ ((1 : Nat) = 2 ∨ (1 : Nat) = 5)), cxe_st (T := 2) (by decide) (by decide)⟩
    · exact Or.inr ⟨(by decide : ¬ ((1 : Nat) = 2 ∨ (1 : Nat) = 5)), cxe_st (T := 4) (by decide) (by decide)⟩
    · exact Or.inr ⟨(by decide : ¬ ((1 : Nat) = 2 ∨ (1 : Nat) = 5)), cxe_st (T := 0) (by decide) (by decide)⟩
    · exact Or.inr ⟨(by decide : ¬ ((1 : Nat) = 2 ∨ (1 : Nat) = 5)), cxe_st (T := 1) (by decide) (by decide)⟩
  · intro avs M Q hsp
    obtain ⟨xs, hx⟩ := spX_un _ _ _ hsp
    obtain ⟨e, hl⟩ := unA_mk hx
    obtain ⟨z, i, v, rfl⟩ := len3 hl
    have e : avs = [ar z.toNat, ai i, al v] := e
    subst e
    simp [szL, isL]
  · intro avs M Q hM hav hsp
    obtain ⟨xs, hx⟩ := spX_un _ _ _ hsp
    obtain ⟨e, hl⟩ := unA_mk hx
    obtain ⟨z, i, v, rfl⟩ := len3 hl
    have e : avs = [ar z.toNat, ai i, al v] := e
    subst e
    exact in6_putX (z := ((z.toNat : Nat) : Int)) hM (hav (ai i) (by simp)) (hav (al v) (by simp)) hsp.1 hsp.2
  · intro avs M Q hM hav hsp q hq m_ vs M1 hM1 hv hJ
    obtain ⟨xs, hx⟩ := spX_un _ _ _ hsp
    obtain ⟨e, hl⟩ := unA_mk hx
    obtain ⟨z, i, v, rfl⟩ := len3 hl
    have e : avs = [ar z.toNat, ai i, al v] := e
    subst e
    cases hq
section SLOTX
variable {rs : List (Nat × Nat)}
theorem cxe_slot {n' : Nat} {sp : Spec} {lvl lvl' x maxL n : Nat} {y : MethodName} {bytes : ByteArray} {ret : Option FieldType} (hm : mono sp) (hsp : ∀ avs M Q, sp avs M Q → rcv 8 n' avs ∨ rcv 9 n' avs ∨ rcv 10 n' avs ∨ rcv 11 n' avs) (hM : MOKX cl8 (sh8 rs) tyl8 Nws8 evE fl0 lvl' 3 222 y bytes maxL ret sp) (hl : lvl' < lvl) (hn : n = n' + 1) (hmx : maxL ≤ 45)
    (hd : y.cls = RX6 ∧ y.cls ≠ "java/lang/invoke/MethodHandle" ∧ y.cls ≠ "java/lang/invoke/VarHandle" ∧ (parseMethodDescriptor y.desc).map (fun d => d.parameters.length) = some n')
    (h1 : Cond.methodLink RX0 x y ∈ lw_all) (h2 : Cond.instanceMethod y ∈ lw_all) (h3 : Cond.selects RX6 y y ∈ lw_all) (h5 : Cond.code y bytes maxL ret ∈ lw_all) : CXE RX0 cl8 (sh8 rs) tyl8 Nws8 evE fl0 lvl 3 222 (10 * x + 5) 1 n sp := by
  have one : ∀ k : Nat, (sh8 rs)[k]? = some (.inl (6, [2])) → CXE RX0 cl8 (sh8 rs) tyl8 Nws8 evE fl0 lvl 3 222 (10 * x + 5) 1 n (fun avs M Q => rcv k n' avs ∧ sp avs M Q) := fun k hk =>
    cxe_VX (k := k) (ci := 6) (q := (RX6, TX6, 1)) nws8_ok evE_ok (fun avs M Q Q' hQ h => ⟨h.1, hm _ _ _ _ hQ h.2⟩) (fun avs M Q h => h.1) (mokX_w hM (fun avs M Q h => h.2)) hl hn hmx hk rfl hd h1 h2 h3 q134 h5
  have m2 : ∀ a b : Nat, mono (fun avs M Q => (rcv a n' avs ∨ rcv b n' avs) ∧ sp avs M Q) := fun a b avs M Q Q' hQ h => ⟨h.1, hm _ _ _ _ hQ h.2⟩
  refine cxe_or hm (cxe_or (m2 8 9) (one 8 rfl) (one 9 rfl) fun avs M Q h => h.1.elim (fun z => Or.inl ⟨z, h.2⟩) (fun z => Or.inr ⟨z, h.2⟩)) (cxe_or (m2 10 11) (one 10 rfl) (one 11 rfl) fun avs M Q h => h.1.elim (fun z => Or.inl ⟨z, h.2⟩) (fun z => Or.inr ⟨z, h.2⟩)) ?_
  intro avs M Q h
  rcases hsp avs M Q h with q | q | q | q
  · exact Or.inl ⟨Or.inl q, h⟩
  · exact Or.inl ⟨Or.inr q, h⟩
  · exact Or.inr ⟨Or.inl q, h⟩
  · exact Or.inr ⟨Or.inr q, h⟩
theorem cxe6_sizeN {lvl : Nat} (h : 200 < lvl) : CXE RX0 cl8 (sh8 rs) tyl8 Nws8 evE fl0 lvl 3 222 3245 1 1 (sp6_sizeN rs) := by
  refine cxe_slot (n' := 0) (x := 324) spX_mono (fun avs M Q hs => ?_) m6_sizeN h rfl (by decide) ⟨rfl, by decide, by decide, rfl⟩ q1098 q1099 q1100 q1101
  obtain ⟨xs, h1⟩ := spX_un _ _ _ hs
  unfold sp6_sizeN spX at hs
  rw [h1, oS_s] at hs
  exact rcv4 h1 hs.1.1
theorem cxe6_putX {lvl : Nat} (h : 200 < lvl) : CXE RX0 cl8 (sh8 rs) tyl8 Nws8 evE fl0 lvl 3 222 4935 1 3 (sp6_putX rs) := by
  refine cxe_slot (n' := 2) (x := 493) spX_mono (fun avs M Q hs => ?_) m6_putX h rfl (by decide) ⟨rfl, by decide, by decide, rfl⟩ q1451 q1452 q1453 q1454
  obtain ⟨xs, h1⟩ := spX_un _ _ _ hs
  unfold sp6_putX spX at hs
  rw [h1, oS_s] at hs
  exact rcv4 h1 hs.1.1
end SLOTX
/-! SagMemory: where a slot's row isn't there -/
theorem bit_0 {c : Nat} (h : c < 8) : ¬ bitP 0 (c : Int) := by
  have k : ∀ n : Fin 8, ¬ bitP 0 ((n.val : Nat) : Int) := by decide
  exact k ⟨c, h⟩
theorem band_0 (t : Int) : band 0 t = 0 := by
  unfold band
  have : Int32.ofInt 0 &&& Int32.ofInt t = 0 := by
    apply Int32.toBitVec_inj.mp
    rw [Int32.toBitVec_and]
    refine BitVec.eq_of_getLsbD_eq fun i hi => ?_
    rw [BitVec.getLsbD_and]
    have h0 : (Int32.ofInt 0).toBitVec.getLsbD i = false := by
      have : (Int32.ofInt 0).toBitVec = 0#32 := rfl
      rw [this, BitVec.getLsbD_zero]
    have h1 : (0 : Int32).toBitVec.getLsbD i = false := by
      have : (0 : Int32).toBitVec = 0#32 := rfl
      rw [this, BitVec.getLsbD_zero]
    rw [h0, h1]
    rfl
  rw [this]
  rfl
def P0_isLeftN (rs : List (Nat × Nat)) (s : Int) (x : Int) (M : Mm) : Prop := okX M ∧ (0 ≤ s ∧ s ≤ 3) ∧ M (8 + s.toNat) 0 < 0 ∧ x = 0
def R0_isLeftN (rs : List (Nat × Nat)) (s : Int) (x : Int) (M : Mm) (r : Option AV) (M1 : Mm) : Prop := r = some an ∧ ∃ M2, frm [15] M M2 ∧ M1 = gh M2 0
def sp0_isLeftN (rs : List (Nat × Nat)) : Spec := spX true [0, 0] (fun x M => P0_isLeftN rs (x 0) (x 1) M) (fun x M r M1 => R0_isLeftN rs (x 0) (x 1) M r M1)
theorem c0_isLeftN {rs : List (Nat × Nat)} {s x : Int} {M : Mm} {Q : Option AV → Mm → Prop} : sp0_isLeftN rs [ar 0, ai s, ai x] M Q = (P0_isLeftN rs s x M ∧ ∀ (r : Option AV) (M1 : Mm), R0_isLeftN rs s x M r M1 → Q r M1) := rfl
def cs0_isLeftN (rs : List (Nat × Nat)) : List (Nat × Nat × Nat × Spec) := [(238, 0, 2, (sp0_isOf rs)), (234, 1, 4, (sp0_wgoes rs)), (327, 1, 2, (sp6_at rs))]
def xs0_isLeftN (rs : List (Nat × Nat)) : List (Nat × Nat × Nat × Spec) := [(3245, 1, 1, sp6_sizeN rs)]
def J0_isLeftN_9 (rs : List (Nat × Nat)) (s : Int) (x : Int) (M : Mm) (m : Nat) (s_ : Int) (x_ : Int) (c : Int) (M1 : Mm) : Prop := s = s_ ∧ x = x_ ∧ ∃ a : Nat, c = a ∧ (a : Int) ≤ M 1 5 ∧ frm [15] M M1 ∧ m = 7 - a
def J0_isLeftN_74 (rs : List (Nat × Nat)) (s : Int) (x : Int) (M : Mm) (m : Nat) (s_ : Int) (k : Int) (M1 : Mm) : Prop := False
set_option maxHeartbeats 4000000 in
set_option maxRecDepth 100000 in
theorem in0_isLeftN {rs : List (Nat × Nat)} {s x : Int} {M : Mm} {Q : Option AV → Mm → Prop} (hM : okM (sh8 rs) M) (h_s : i32 s) (h_x : i32 x) (hP : P0_isLeftN rs s x M) (hQ : ∀ (r : Option AV) (M1 : Mm), R0_isLeftN rs s x M r M1 → Q r M1) (I_9 : List AV → Mm → Prop) (hI_9 : ∀ (m_ : Nat) (y_s_ : Int) (y_x_ : Int) (y_c : Int) (M2 : Mm), J0_isLeftN_9 rs s x M m_ y_s_ y_x_ y_c M2 → I_9 [ar 0, ai y_s_, ai y_x_, ai y_c] M2) (I_74 : List AV → Mm → Prop) (hI_74 : ∀ (m_ : Nat) (y_s_ : Int) (y_k : Int) (M2 : Mm), J0_isLeftN_74 rs s x M m_ y_s_ y_k M2 → I_74 [ar 0, ai y_s_, ai y_k] M2) : wpx (tb0 (csL (cs0_isLeftN rs))) (csL (xs0_isLeftN rs)) (sh8 rs) 4 2 cX0_isLeft [(9, [0, 1, 2, 3], I_9), (74, [0, 1, 3], I_74)] (retX Q) (fun _ M1 => Q (some an) M1) 400 false 0 [(0, ar 0), (1, ai s), (2, ai x)] [] M := by
  obtain ⟨⟨hY, hB⟩, hs, hn, hx⟩ := id hP
  have h4 : 0 ≤ M 1 5 ∧ M 1 5 ≤ 7 := (okY_n hY).2.1
  simp only [e_wpy (k := 9) dX0_isLeft_0 rfl rfl rfl, e_wpy (k := 9) dX0_isLeft_1 rfl rfl rfl, e_wpy (k := 9) dX0_isLeft_4 rfl rfl rfl, e_wpy (k := 9) dX0_isLeft_5 rfl rfl rfl, e_wpy (k := 58) dX0_isLeft_6 rfl rfl rfl, e_wpy (k := 9) dX0_isLeft_7 rfl rfl rfl, e_wpy (k := 9) dX0_isLeft_8 rfl rfl rfl, e_wpy (k := 9) dX0_isLeft_9 rfl rfl rfl, e_wpy (k := 9) dX0_isLeft_10 rfl rfl rfl, e_wpy (k := 9) dX0_isLeft_11 rfl rfl rfl, e_wpy (k := 9) dX0_isLeft_14 rfl rfl rfl, e_wpy (k := 9) dX0_isLeft_17 rfl rfl rfl, e_wpy (k := 9) dX0_isLeft_20 rfl rfl rfl, e_wpy (k := 9) dX0_isLeft_21 rfl rfl rfl, e_wpy (k := 2386) dX0_isLeft_22 rfl rfl rfl, e_wpy (k := 9) dX0_isLeft_25 rfl rfl rfl, e_wpy (k := 9) dX0_isLeft_28 rfl rfl rfl, e_wpy (k := 9) dX0_isLeft_29 rfl rfl rfl, e_wpy (k := 9) dX0_isLeft_32 rfl rfl rfl, e_wpy (k := 9) dX0_isLeft_33 rfl rfl rfl, e_wpy (k := 9) dX0_isLeft_34 rfl rfl rfl, e_wpy (k := 9) dX0_isLeft_37 rfl rfl rfl, e_wpy (k := 9) dX0_isLeft_40 rfl rfl rfl, e_wpy (k := 48) dX0_isLeft_41 rfl rfl rfl, e_wpy (k := 9) dX0_isLeft_42 rfl rfl rfl, e_wpy (k := 2345) dX0_isLeft_43 rfl rfl rfl, e_wpy (k := 9) dX0_isLeft_46 rfl rfl rfl, e_wpy (k := 9) dX0_isLeft_49 rfl rfl rfl, e_wpy (k := 9) dX0_isLeft_52 rfl rfl rfl, e_wpy (k := 9) dX0_isLeft_53 rfl rfl rfl, e_wpy (k := 9) dX0_isLeft_56 rfl rfl rfl, e_wpy (k := 48) dX0_isLeft_57 rfl rfl rfl, e_wpy (k := 9) dX0_isLeft_58 rfl rfl rfl, e_wpy (k := 9) dX0_isLeft_59 rfl rfl rfl, e_wpy (k := 9) dX0_isLeft_62 rfl rfl rfl, e_wpy (k := 9) dX0_isLeft_63 rfl rfl rfl, e_wpy (k := 3245) dX0_isLeft_64 rfl rfl rfl, e_wpy (k := 9) dX0_isLeft_67 rfl rfl rfl, e_wpy (k := 9) dX0_isLeft_70 rfl rfl rfl, e_wpy (k := 9) dX0_isLeft_71 rfl rfl rfl, e_wpy (k := 9) dX0_isLeft_72 rfl rfl rfl, e_wpy (k := 9) dX0_isLeft_73 rfl rfl rfl, e_wpy (k := 9) dX0_isLeft_74 rfl rfl rfl, e_wpy (k := 9) dX0_isLeft_75 rfl rfl rfl, e_wpy (k := 9) dX0_isLeft_76 rfl rfl rfl, e_wpy (k := 9) dX0_isLeft_79 rfl rfl rfl, e_wpy (k := 48) dX0_isLeft_80 rfl rfl rfl, e_wpy (k := 9) dX0_isLeft_81 rfl rfl rfl, e_wpy (k := 9) dX0_isLeft_84 rfl rfl rfl, e_wpy (k := 9) dX0_isLeft_85 rfl rfl rfl, e_wpy (k := 9) dX0_isLeft_88 rfl rfl rfl, e_wpy (k := 48) dX0_isLeft_89 rfl rfl rfl, e_wpy (k := 9) dX0_isLeft_90 rfl rfl rfl, e_wpy (k := 9) dX0_isLeft_91 rfl rfl rfl, e_wpy (k := 9) dX0_isLeft_92 rfl rfl rfl, e_wpy (k := 9) dX0_isLeft_95 rfl rfl rfl, e_wpy (k := 9) dX0_isLeft_96 rfl rfl rfl, e_wpy (k := 9) dX0_isLeft_97 rfl rfl rfl, e_wpy (k := 3275) dX0_isLeft_98 rfl rfl rfl, e_wpy (k := 9) dX0_isLeft_101 rfl rfl rfl, e_wpy (k := 9) dX0_isLeft_102 rfl rfl rfl, e_wpy (k := 9) dX0_isLeft_105 rfl rfl rfl, e_wpy (k := 9) dX0_isLeft_106 rfl rfl rfl, e_wpy (k := 9) dX0_isLeft_107 rfl rfl rfl, e_wpy (k := 9) dX0_isLeft_110 rfl rfl rfl, e_wpy (k := 9) dX0_isLeft_113 rfl rfl rfl, e_wpy (k := 9) dX0_isLeft_114 rfl rfl rfl, xoff_a, ex_null_n, ex_null_r, ex_nonn_n, ex_nonn_r, ex_aret, xel_n, xel_s, xgo_0, xgo_1x, xgo_1v, xgo_1i, xgo_1l, xgo_1r, xgo_2, xgo_3, xgo_4, xgo_5x, xgo_5v, xgo_5i, xgo_5l, xgd_5, xgd_0, xgd_1, xgd_2, xgd_3, xgd_4, ath_y, xct_f, xct_t, xna_f, csL_n, Nat.reduceMul, retX_i, retX_l, retX_r, retX_v, c6_sizeN, P6_sizeN, xs0_isLeftN, g0_31, g0_10, g0_156, c0_isOf, P0_isOf, V0_isOf, cs0_isLeftN, g0_52, g0_180, c0_wgoes, g0_110, g0_24, c6_at, P6_at, V6_at, a8_13, w8_13, a8_14, w8_14, a8_15, w8_15, a8_16, w8_16, a8_17, w8_17, a8_18, w8_18, a8_19, w8_19, a8_20, w8_20, a8_21, w8_21, a8_22, w8_22, a8_23, w8_23, a8_24, w8_24, a8_25, w8_25, a8_26, w8_26, a8_27, w8_27, a8_28, w8_28, a8_29, w8_29, a8_30, w8_30, a8_31, w8_31, a8_32, w8_32, a8_33, w8_33, a8_34, w8_34, a8_35, w8_35, a8_36, w8_36, a8_37, w8_37, a8_38, w8_38, a8_39, w8_39, a8_40, w8_40, a8_12, w8_12, a8_6, a8_7, e_iconst, e_bipush, e_sipush, e_lconst_0, e_lconst_1, e_iload, e_iload_0, e_iload_1, e_iload_2, e_iload_3, e_lload, e_lload_0, e_lload_1, e_lload_2, e_lload_3, e_aload, e_aload_0, e_aload_1, e_aload_2, e_aload_3, e_istore, e_istore_0, e_istore_1, e_istore_2, e_istore_3, e_astore, e_astore_0, e_astore_1, e_astore_2, e_astore_3, e_lstore, e_lstore_0, e_lstore_1, e_lstore_2, e_lstore_3, e_iinc, e_iadd, e_isub, e_imul, e_ladd, e_lsub, e_lmul, e_idiv, e_irem, e_ldiv, e_lrem, e_ineg, e_lneg, e_iand, e_ior, e_ixor, e_ishl, e_ishr, e_iushr, e_lcmp, e_i2l, e_l2i, e_i2b, e_i2s, e_dup_i, e_dup_r, e_pop_i, e_pop_r, e_dup2_l, e_dup2_ir, e_dup2_ii, e_ifeq, e_ifne, e_iflt, e_ifge, e_ifgt, e_ifle, e_iceq, e_icne, e_iclt, e_icge, e_icgt, e_icle, e_goto, e_switch, e_invokevirtual, e_invokestatic, e_invokespecial, e_ret0, e_ret1, e_ret2, e_ret3, ldI_s, ldL_s, ldR_s, clO_s, ctP_s, ctS_s, mgo_0, mgo_s, pjc_s, pj_0, pj_s, lk_s, rm1_0, rm1_i, rm1_r, rm1_l, rm2_0, rm2_i, rm2_r, rm2_l, csL_s, lc_lt, lc_ge, lc_gt, lc_le, lc_eq, b01_0, b01_1, b01_01, b01_n, up2_o, up2_s, up2_u, ne_eq, reduceCtorEq, Nat.reduceAdd, Nat.reduceEqDiff, Nat.reduceLT, Nat.reduceLeDiff, Int.reduceLE, Int.reduceLT, Int.reduceAdd, Int.reduceNeg, Int.reduceMul, Int.reduceSub, Int.reduceEq, Int.reduceToNat, Int.reduceNatCast, Int.cast_ofNat_Int, ↓reduceIte, and_self, List.drop_succ_cons, List.drop_zero, List.take_succ_cons, List.take_zero, List.length_cons, List.length_nil, List.reverse_cons, List.reverse_nil, List.nil_append, List.cons_append, Option.toList, true_and, and_true, or_false, false_or, or_true, true_or, forall_const, Classical.not_not, not_false_eq_true, not_true_eq_false, false_implies, true_implies, implies_true, imp_self]
  exact hI_9 7 _ _ _ _ ⟨rfl, rfl, 0, rfl, by omega, frm_up frm_rf (by decide), rfl⟩
set_option maxHeartbeats 4000000 in
set_option maxRecDepth 100000 in
theorem at0_isLeftN_9 {rs : List (Nat × Nat)} {s x : Int} {M : Mm} {Q : Option AV → Mm → Prop} (hM : okM (sh8 rs) M) (h_s : i32 s) (h_x : i32 x) (hP : P0_isLeftN rs s x M) (hQ : ∀ (r : Option AV) (M1 : Mm), R0_isLeftN rs s x M r M1 → Q r M1) {m : Nat} {s_ x_ c : Int} {M1 : Mm} (hM1 : okM (sh8 rs) M1) (h_s_ : i32 s_) (h_x_ : i32 x_) (h_c : i32 c) (hJ : J0_isLeftN_9 rs s x M m s_ x_ c M1) (I_9 : List AV → Mm → Prop) (hI_9 : ∀ (m_ : Nat) (y_s_ : Int) (y_x_ : Int) (y_c : Int) (M2 : Mm), m_ < m → J0_isLeftN_9 rs s x M m_ y_s_ y_x_ y_c M2 → I_9 [ar 0, ai y_s_, ai y_x_, ai y_c] M2) (I_74 : List AV → Mm → Prop) (hI_74 : ∀ (m_ : Nat) (y_s_ : Int) (y_k : Int) (M2 : Mm), m_ < m → J0_isLeftN_74 rs s x M m_ y_s_ y_k M2 → I_74 [ar 0, ai y_s_, ai y_k] M2) : wpx (tb0 (csL (cs0_isLeftN rs))) (csL (xs0_isLeftN rs)) (sh8 rs) 4 2 cX0_isLeft [(9, [0, 1, 2, 3], I_9), (74, [0, 1, 3], I_74)] (retX Q) (fun _ M1 => Q (some an) M1) 400 false 9 [(0, ar 0), (1, ai s_), (2, ai x_), (3, ai c)] [] M1 := by
  obtain ⟨rfl, rfl, a, rfl, ha, hz, rfl⟩ := hJ
  obtain ⟨⟨hY, hB⟩, hs, hn, rfl⟩ := id hP
  have h4 : 0 ≤ M 1 5 ∧ M 1 5 ≤ 7 := (okY_n hY).2.1
  have e1 : M1 1 = M 1 := hz _ (by decide)
  have hB1 : baseI M1 := base_f hz (by decide) (by decide) hB
  have hf := fval_s hB1 hs
  have e8 : M1 (8 + s.toNat) = M (8 + s.toNat) := hz _ (by simp only [List.mem_cons, List.not_mem_nil, or_false]; omega)
  have e80 := congrFun e8 0
  have hb := @bit_0 a (by omega)
  simp only [e_wpy (k := 9) dX0_isLeft_0 rfl rfl rfl, e_wpy (k := 9) dX0_isLeft_1 rfl rfl rfl, e_wpy (k := 9) dX0_isLeft_4 rfl rfl rfl, e_wpy (k := 9) dX0_isLeft_5 rfl rfl rfl, e_wpy (k := 58) dX0_isLeft_6 rfl rfl rfl, e_wpy (k := 9) dX0_isLeft_7 rfl rfl rfl, e_wpy (k := 9) dX0_isLeft_8 rfl rfl rfl, e_wpy (k := 9) dX0_isLeft_9 rfl rfl rfl, e_wpy (k := 9) dX0_isLeft_10 rfl rfl rfl, e_wpy (k := 9) dX0_isLeft_11 rfl rfl rfl, e_wpy (k := 9) dX0_isLeft_14 rfl rfl rfl, e_wpy (k := 9) dX0_isLeft_17 rfl rfl rfl, e_wpy (k := 9) dX0_isLeft_20 rfl rfl rfl, e_wpy (k := 9) dX0_isLeft_21 rfl rfl rfl, e_wpy (k := 2386) dX0_isLeft_22 rfl rfl rfl, e_wpy (k := 9) dX0_isLeft_25 rfl rfl rfl, e_wpy (k := 9) dX0_isLeft_28 rfl rfl rfl, e_wpy (k := 9) dX0_isLeft_29 rfl rfl rfl, e_wpy (k := 9) dX0_isLeft_32 rfl rfl rfl, e_wpy (k := 9) dX0_isLeft_33 rfl rfl rfl, e_wpy (k := 9) dX0_isLeft_34 rfl rfl rfl, e_wpy (k := 9) dX0_isLeft_37 rfl rfl rfl, e_wpy (k := 9) dX0_isLeft_40 rfl rfl rfl, e_wpy (k := 48) dX0_isLeft_41 rfl rfl rfl, e_wpy (k := 9) dX0_isLeft_42 rfl rfl rfl, e_wpy (k := 2345) dX0_isLeft_43 rfl rfl rfl, e_wpy (k := 9) dX0_isLeft_46 rfl rfl rfl, e_wpy (k := 9) dX0_isLeft_49 rfl rfl rfl, e_wpy (k := 9) dX0_isLeft_52 rfl rfl rfl, e_wpy (k := 9) dX0_isLeft_53 rfl rfl rfl, e_wpy (k := 9) dX0_isLeft_56 rfl rfl rfl, e_wpy (k := 48) dX0_isLeft_57 rfl rfl rfl, e_wpy (k := 9) dX0_isLeft_58 rfl rfl rfl, e_wpy (k := 9) dX0_isLeft_59 rfl rfl rfl, e_wpy (k := 9) dX0_isLeft_62 rfl rfl rfl, e_wpy (k := 9) dX0_isLeft_63 rfl rfl rfl, e_wpy (k := 3245) dX0_isLeft_64 rfl rfl rfl, e_wpy (k := 9) dX0_isLeft_67 rfl rfl rfl, e_wpy (k := 9) dX0_isLeft_70 rfl rfl rfl, e_wpy (k := 9) dX0_isLeft_71 rfl rfl rfl, e_wpy (k := 9) dX0_isLeft_72 rfl rfl rfl, e_wpy (k := 9) dX0_isLeft_73 rfl rfl rfl, e_wpy (k := 9) dX0_isLeft_74 rfl rfl rfl, e_wpy (k := 9) dX0_isLeft_75 rfl rfl rfl, e_wpy (k := 9) dX0_isLeft_76 rfl rfl rfl, e_wpy (k := 9) dX0_isLeft_79 rfl rfl rfl, e_wpy (k := 48) dX0_isLeft_80 rfl rfl rfl, e_wpy (k := 9) dX0_isLeft_81 rfl rfl rfl, e_wpy (k := 9) dX0_isLeft_84 rfl rfl rfl, e_wpy (k := 9) dX0_isLeft_85 rfl rfl rfl, e_wpy (k := 9) dX0_isLeft_88 rfl rfl rfl, e_wpy (k := 48) dX0_isLeft_89 rfl rfl rfl, e_wpy (k := 9) dX0_isLeft_90 rfl rfl rfl, e_wpy (k := 9) dX0_isLeft_91 rfl rfl rfl, e_wpy (k := 9) dX0_isLeft_92 rfl rfl rfl, e_wpy (k := 9) dX0_isLeft_95 rfl rfl rfl, e_wpy (k := 9) dX0_isLeft_96 rfl rfl rfl, e_wpy (k := 9) dX0_isLeft_97 rfl rfl rfl, e_wpy (k := 3275) dX0_isLeft_98 rfl rfl rfl, e_wpy (k := 9) dX0_isLeft_101 rfl rfl rfl, e_wpy (k := 9) dX0_isLeft_102 rfl rfl rfl, e_wpy (k := 9) dX0_isLeft_105 rfl rfl rfl, e_wpy (k := 9) dX0_isLeft_106 rfl rfl rfl, e_wpy (k := 9) dX0_isLeft_107 rfl rfl rfl, e_wpy (k := 9) dX0_isLeft_110 rfl rfl rfl, e_wpy (k := 9) dX0_isLeft_113 rfl rfl rfl, e_wpy (k := 9) dX0_isLeft_114 rfl rfl rfl, xoff_a, ex_null_n, ex_null_r, ex_nonn_n, ex_nonn_r, ex_aret, xel_n, xel_s, xgo_0, xgo_1x, xgo_1v, xgo_1i, xgo_1l, xgo_1r, xgo_2, xgo_3, xgo_4, xgo_5x, xgo_5v, xgo_5i, xgo_5l, xgd_5, xgd_0, xgd_1, xgd_2, xgd_3, xgd_4, ath_y, xct_f, xct_t, xna_f, csL_n, Nat.reduceMul, retX_i, retX_l, retX_r, retX_v, c6_sizeN, P6_sizeN, xs0_isLeftN, g0_31, g0_10, g0_156, c0_isOf, P0_isOf, V0_isOf, cs0_isLeftN, g0_52, g0_180, c0_wgoes, g0_110, g0_24, c6_at, P6_at, V6_at, a8_13, w8_13, a8_14, w8_14, a8_15, w8_15, a8_16, w8_16, a8_17, w8_17, a8_18, w8_18, a8_19, w8_19, a8_20, w8_20, a8_21, w8_21, a8_22, w8_22, a8_23, w8_23, a8_24, w8_24, a8_25, w8_25, a8_26, w8_26, a8_27, w8_27, a8_28, w8_28, a8_29, w8_29, a8_30, w8_30, a8_31, w8_31, a8_32, w8_32, a8_33, w8_33, a8_34, w8_34, a8_35, w8_35, a8_36, w8_36, a8_37, w8_37, a8_38, w8_38, a8_39, w8_39, a8_40, w8_40, a8_12, w8_12, a8_6, a8_7, e_iconst, e_bipush, e_sipush, e_lconst_0, e_lconst_1, e_iload, e_iload_0, e_iload_1, e_iload_2, e_iload_3, e_lload, e_lload_0, e_lload_1, e_lload_2, e_lload_3, e_aload, e_aload_0, e_aload_1, e_aload_2, e_aload_3, e_istore, e_istore_0, e_istore_1, e_istore_2, e_istore_3, e_astore, e_astore_0, e_astore_1, e_astore_2, e_astore_3, e_lstore, e_lstore_0, e_lstore_1, e_lstore_2, e_lstore_3, e_iinc, e_iadd, e_isub, e_imul, e_ladd, e_lsub, e_lmul, e_idiv, e_irem, e_ldiv, e_lrem, e_ineg, e_lneg, e_iand, e_ior, e_ixor, e_ishl, e_ishr, e_iushr, e_lcmp, e_i2l, e_l2i, e_i2b, e_i2s, e_dup_i, e_dup_r, e_pop_i, e_pop_r, e_dup2_l, e_dup2_ir, e_dup2_ii, e_ifeq, e_ifne, e_iflt, e_ifge, e_ifgt, e_ifle, e_iceq, e_icne, e_iclt, e_icge, e_icgt, e_icle, e_goto, e_switch, e_invokevirtual, e_invokestatic, e_invokespecial, e_ret0, e_ret1, e_ret2, e_ret3, ldI_s, ldL_s, ldR_s, clO_s, ctP_s, ctS_s, mgo_0, mgo_s, pjc_s, pj_0, pj_s, lk_s, rm1_0, rm1_i, rm1_r, rm1_l, rm2_0, rm2_i, rm2_r, rm2_l, csL_s, lc_lt, lc_ge, lc_gt, lc_le, lc_eq, b01_0, b01_1, b01_01, b01_n, up2_o, up2_s, up2_u, ne_eq, reduceCtorEq, Nat.reduceAdd, Nat.reduceEqDiff, Nat.reduceLT, Nat.reduceLeDiff, Int.reduceLE, Int.reduceLT, Int.reduceAdd, Int.reduceNeg, Int.reduceMul, Int.reduceSub, Int.reduceEq, Int.reduceToNat, Int.reduceNatCast, Int.cast_ofNat_Int, ↓reduceIte, and_self, List.drop_succ_cons, List.drop_zero, List.take_succ_cons, List.take_zero, List.length_cons, List.length_nil, List.reverse_cons, List.reverse_nil, List.nil_append, List.cons_append, Option.toList, true_and, and_true, or_false, false_or, or_true, true_or, forall_const, Classical.not_not, not_false_eq_true, not_true_eq_false, false_implies, true_implies, implies_true, imp_self, e1, hf, Int.toNat_natCast]
  rw [e80]
  refine ⟨fun q => ⟨by omega, ⟨by omega, hn⟩, fun r M2 hR => ?_⟩, fun q => ⟨fun z => ?_, fun z => absurd z hb⟩⟩
  · obtain ⟨rfl, rfl⟩ := hR
    simp only [xgo_1x]
    exact hQ _ _ ⟨rfl, M1, hz, rfl⟩
  · exact ⟨by omega, hI_9 (7 - (a + 1)) _ _ _ _ (by omega) ⟨rfl, rfl, a + 1, by omega, by omega, hz, rfl⟩⟩
set_option maxHeartbeats 4000000 in
set_option maxRecDepth 100000 in
theorem at0_isLeftN_74 {rs : List (Nat × Nat)} {s x : Int} {M : Mm} {Q : Option AV → Mm → Prop} (hM : okM (sh8 rs) M) (h_s : i32 s) (h_x : i32 x) (hP : P0_isLeftN rs s x M) (hQ : ∀ (r : Option AV) (M1 : Mm), R0_isLeftN rs s x M r M1 → Q r M1) {m : Nat} {s_ k : Int} {M1 : Mm} (hM1 : okM (sh8 rs) M1) (h_s_ : i32 s_) (h_k : i32 k) (hJ : J0_isLeftN_74 rs s x M m s_ k M1) (I_9 : List AV → Mm → Prop) (hI_9 : ∀ (m_ : Nat) (y_s_ : Int) (y_x_ : Int) (y_c : Int) (M2 : Mm), m_ < m → J0_isLeftN_9 rs s x M m_ y_s_ y_x_ y_c M2 → I_9 [ar 0, ai y_s_, ai y_x_, ai y_c] M2) (I_74 : List AV → Mm → Prop) (hI_74 : ∀ (m_ : Nat) (y_s_ : Int) (y_k : Int) (M2 : Mm), m_ < m → J0_isLeftN_74 rs s x M m_ y_s_ y_k M2 → I_74 [ar 0, ai y_s_, ai y_k] M2) : wpx (tb0 (csL (cs0_isLeftN rs))) (csL (xs0_isLeftN rs)) (sh8 rs) 4 2 cX0_isLeft [(9, [0, 1, 2, 3], I_9), (74, [0, 1, 3], I_74)] (retX Q) (fun _ M1 => Q (some an) M1) 400 false 74 [(0, ar 0), (1, ai s_), (3, ai k)] [] M1 := by
  exact hJ.elim
set_option maxHeartbeats 4000000 in
set_option maxRecDepth 100000 in
theorem m0_isLeftN {rs : List (Nat × Nat)} : MOKX cl8 (sh8 rs) tyl8 Nws8 evE fl0 201 3 222 yX0_isLeft cX0_isLeft 4 (some .boolean) (sp0_isLeftN rs) := by
  refine mokX_of (own := RX0) (fl := fl0) (tb := tb0 (csL (cs0_isLeftN rs))) (xt := csL (xs0_isLeftN rs)) (rt := 2) (fuel := 400) (fun avs M Q => [(9, [0, 1, 2, 3], fun m_ vs M1 => ∃ y_s_ : Int, ∃ y_x_ : Int, ∃ y_c : Int, vs = [ar 0, ai y_s_, ai y_x_, ai y_c] ∧ J0_isLeftN_9 rs (pa true [0, 0] avs 0) (pa true [0, 0] avs 1) M m_ y_s_ y_x_ y_c M1), (74, [0, 1, 3], fun m_ vs M1 => ∃ y_s_ : Int, ∃ y_k : Int, vs = [ar 0, ai y_s_, ai y_k] ∧ J0_isLeftN_74 rs (pa true [0, 0] avs 0) (pa true [0, 0] avs 1) M m_ y_s_ y_k M1)]) (by decide) rfl nws8_ok (tbOK0 _) rfl (csL_all ?_) (csY_all ?_) ?_ ?_ ?_
  · intro q hq
    simp only [cs0_isLeftN, List.mem_cons, List.not_mem_nil, or_false] at hq
    rcases hq with rfl | rfl | rfl
    · exact cg0_isOf (by decide)
    · exact cg0_wgoes (by decide)
    · exact cg6_at (by decide)
  · intro q hq
    simp only [xs0_isLeftN, List.mem_cons, List.not_mem_nil, or_false] at hq
    rcases hq with rfl
    · exact Or.inr ⟨(by decide : ¬ ((1 : Nat) = 2 ∨ (1 : Nat) = 5)), cxe6_sizeN (by decide)⟩
  · intro avs M Q hsp
    obtain ⟨xs, hx⟩ := spX_un _ _ _ hsp
    obtain ⟨e, hl⟩ := unA_mkT hx
    obtain ⟨s, x, rfl⟩ := len2 hl
    have e : avs = [ar 0, ai s, ai x] := e
    subst e
    simp [szL, isL]
  · intro avs M Q hM hav hsp
    obtain ⟨xs, hx⟩ := spX_un _ _ _ hsp
    obtain ⟨e, hl⟩ := unA_mkT hx
    obtain ⟨s, x, rfl⟩ := len2 hl
    have e : avs = [ar 0, ai s, ai x] := e
    subst e
    exact in0_isLeftN hM (hav (ai s) (by simp)) (hav (ai x) (by simp)) hsp.1 hsp.2 _ (fun m_ y_s_ y_x_ y_c M2 hJ => ⟨m_, y_s_, y_x_, y_c, rfl, hJ⟩) _ (fun m_ y_s_ y_k M2 hJ => ⟨m_, y_s_, y_k, rfl, hJ⟩)
  · intro avs M Q hM hav hsp q hq m_ vs M1 hM1 hv hJ
    obtain ⟨xs, hx⟩ := spX_un _ _ _ hsp
    obtain ⟨e, hl⟩ := unA_mkT hx
    obtain ⟨s, x, rfl⟩ := len2 hl
    have e : avs = [ar 0, ai s, ai x] := e
    subst e
    simp only [List.mem_cons, List.not_mem_nil, or_false] at hq
    rcases hq with rfl | rfl
    · obtain ⟨y_s_, y_x_, y_c, rfl, hJ⟩ := hJ
      exact at0_isLeftN_9 hM (hav (ai s) (by simp)) (hav (ai x) (by simp)) hsp.1 hsp.2 hM1 (hv (1, ai y_s_) (List.mem_of_getElem? (i := 1) rfl)) (hv (2, ai y_x_) (List.mem_of_getElem? (i := 2) rfl)) (hv (3, ai y_c) (List.mem_of_getElem? (i := 3) rfl)) hJ _ (fun m2 z_s_ z_x_ z_c M2 hm hJ2 => ⟨m2, hm, z_s_, z_x_, z_c, rfl, hJ2⟩) _ (fun m2 z_s_ z_k M2 hm hJ2 => ⟨m2, hm, z_s_, z_k, rfl, hJ2⟩)
    · obtain ⟨y_s_, y_k, rfl, hJ⟩ := hJ
      exact at0_isLeftN_74 hM (hav (ai s) (by simp)) (hav (ai x) (by simp)) hsp.1 hsp.2 hM1 (hv (1, ai y_s_) (List.mem_of_getElem? (i := 1) rfl)) (hv (3, ai y_k) (List.mem_of_getElem? (i := 2) rfl)) hJ _ (fun m2 z_s_ z_x_ z_c M2 hm hJ2 => ⟨m2, hm, z_s_, z_x_, z_c, rfl, hJ2⟩) _ (fun m2 z_s_ z_k M2 hm hJ2 => ⟨m2, hm, z_s_, z_k, rfl, hJ2⟩)
theorem cxe0_isLeftN {rs : List (Nat × Nat)} {lvl : Nat} (h : 201 < lvl) : CXE RX0 cl8 (sh8 rs) tyl8 Nws8 evE fl0 lvl 3 222 3425 1 3 (sp0_isLeftN rs) := cxe_VX (k := 0) (n' := 2) nws8_ok evE_ok spX_mono (fun avs M Q h => (spX_un _ _ _ h).elim fun xs hx => rcvT (sg := [0, 0]) hx) m0_isLeftN h rfl (by decide) rfl rfl ⟨rfl, by decide, by decide, rfl⟩ q1094 q1096 qs42 q128 q1097
