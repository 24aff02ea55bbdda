/-! Slots: a row's size, its numbers; instanceof and checkcast of rows -/
/-- a row of a slot lies at this place -/
def rowOK (rs : List (Nat × Nat)) (r : Int) : Prop := 41 ≤ r ∧ ∃ w n : Nat, rs[(r - 41).toNat]? = some (w, n) ∧ w ≤ 3 ∧ n ≤ 60
def rW (rs : List (Nat × Nat)) (r : Int) : Nat := (rs.getD (r - 41).toNat (0, 0)).1
def rN (rs : List (Nat × Nat)) (r : Int) : Nat := (rs.getD (r - 41).toNat (0, 0)).2
theorem sh8_row {rs : List (Nat × Nat)} {r : Int} (h : rowOK rs r) : (sh8 rs)[r.toNat]? = some (.inr (wT8 (rW rs r), rN rs r)) ∧ rW rs r ≤ 3 ∧ rN rs r ≤ 60 := by
  obtain ⟨h1, w, n, h2, h3, h4⟩ := h
  have e : rs.getD (r - 41).toNat (0, 0) = (w, n) := by rw [List.getD_eq_getElem?_getD, h2]; rfl
  have e1 : rW rs r = w := congrArg Prod.fst e
  have e2 : rN rs r = n := congrArg Prod.snd e
  rw [e1, e2]
  refine ⟨?_, h3, h4⟩
  unfold sh8
  rw [List.getElem?_append_right (by show 41 ≤ r.toNat; omega), List.getElem?_map, show r.toNat - sb8.length = (r - 41).toNat by show r.toNat - 41 = _; omega, h2]
  rfl
def insN (T t : Nat) : Bool := decide ((T, t) ∈ [(2, 4), (2, 0), (2, 1), (4, 0), (4, 1), (0, 1)])
def insO (o : Option SC) (T : Nat) (f : Int → Prop) : Prop := match o with
  | some (.inr (t, _)) => if t = T then f 1 else if insN T t = true then f 0 else False
  | _ => False
def spIns (rs : List (Nat × Nat)) (T : Nat) : Spec := fun avs M Q => match avs with
  | [.inr (.inr none)] => Q (some (ai 0)) M
  | [.inr (.inr (some k))] => insO (sh8 rs)[k]? T (fun b => Q (some (ai b)) M)
  | _ => False
theorem cIns_n {rs : List (Nat × Nat)} {T : Nat} {M : Mm} {Q : Option AV → Mm → Prop} : spIns rs T [an] M Q = Q (some (ai 0)) M := rfl
theorem cIns_r {rs : List (Nat × Nat)} {T k : Nat} {M : Mm} {Q : Option AV → Mm → Prop} : spIns rs T [ar k] M Q = insO (sh8 rs)[k]? T (fun b => Q (some (ai b)) M) := rfl
theorem insO_22 {n : Nat} {f : Int → Prop} : insO (some (.inr (2, n))) 2 f = f 1 := rfl
theorem insO_24 {n : Nat} {f : Int → Prop} : insO (some (.inr (4, n))) 2 f = f 0 := rfl
theorem insO_20 {n : Nat} {f : Int → Prop} : insO (some (.inr (0, n))) 2 f = f 0 := rfl
theorem insO_21 {n : Nat} {f : Int → Prop} : insO (some (.inr (1, n))) 2 f = f 0 := rfl
theorem insO_44 {n : Nat} {f : Int → Prop} : insO (some (.inr (4, n))) 4 f = f 1 := rfl
theorem insO_40 {n : Nat} {f : Int → Prop} : insO (some (.inr (0, n))) 4 f = f 0 := rfl
theorem insO_41 {n : Nat} {f : Int → Prop} : insO (some (.inr (1, n))) 4 f = f 0 := rfl
theorem insO_00 {n : Nat} {f : Int → Prop} : insO (some (.inr (0, n))) 0 f = f 1 := rfl
theorem insO_01 {n : Nat} {f : Int → Prop} : insO (some (.inr (1, n))) 0 f = f 0 := rfl
theorem insO_mono {o : Option SC} {T : Nat} {f g : Int → Prop} (h : ∀ b, f b → g b) : insO o T f → insO o T g := by
  intro h1
  unfold insO at h1 ⊢
  split at h1
  · rename_i t n
    by_cases q : t = T
    · rw [if_pos q] at h1 ⊢; exact h _ h1
    · rw [if_neg q] at h1 ⊢
      by_cases q2 : insN T t = true
      · rw [if_pos q2] at h1 ⊢; exact h _ h1
      · rw [if_neg q2] at h1; exact h1.elim
  · exact h1.elim
theorem spIns_mono {rs : List (Nat × Nat)} {T : Nat} : mono (spIns rs T) := by
  intro a M Q Q' h h1
  unfold spIns at h1 ⊢
  split at h1
  · exact h _ _ h1
  · exact insO_mono (fun b => h _ _) h1
  · exact h1.elim
def cstO (o : Option SC) (T : Nat) (k : Prop) : Prop := match o with
  | some (.inr (t, _)) => t = T ∧ k
  | _ => False
def spCst (rs : List (Nat × Nat)) (T : Nat) : Spec := fun avs M Q => match avs with
  | [.inr (.inr none)] => Q (some an) M
  | [.inr (.inr (some k))] => cstO (sh8 rs)[k]? T (Q (some (ar k)) M)
  | _ => False
theorem cCst_n {rs : List (Nat × Nat)} {T : Nat} {M : Mm} {Q : Option AV → Mm → Prop} : spCst rs T [an] M Q = Q (some an) M := rfl
theorem cCst_r {rs : List (Nat × Nat)} {T k : Nat} {M : Mm} {Q : Option AV → Mm → Prop} : spCst rs T [ar k] M Q = cstO (sh8 rs)[k]? T (Q (some (ar k)) M) := rfl
theorem cstO_s {t n T : Nat} {k : Prop} : cstO (some (.inr (t, n))) T k = (t = T ∧ k) := rfl
theorem spCst_mono {rs : List (Nat × Nat)} {T : Nat} : mono (spCst rs T) := by
  intro a M Q Q' h h1
  unfold spCst at h1 ⊢
  split at h1
  · exact h _ _ h1
  · unfold cstO at h1 ⊢
    split at h1
    · exact ⟨h1.1, h _ _ h1.2⟩
    · exact h1.elim
  · exact h1.elim
theorem xk_ins {i : Instr} {x : Nat} (h : xk i = 10 * x + 1) : i = .instanceof x := by
  unfold xk at h
  split at h <;> first | (exfalso; omega) | skip
  rename_i y
  rw [show y = x by omega]
theorem xk_cst {i : Instr} {x : Nat} (h : xk i = 10 * x + 2) : i = .checkcast x := by
  unfold xk at h
  split at h <;> first | (exfalso; omega) | skip
  rename_i y
  rw [show y = x by omega]
/-- a class of rows by its type's place -/
def nmT : Nat → String
  | 0 => "[I"
  | 1 => "[J"
  | 2 => "[B"
  | _ => "[S"
section ROWS6
variable {p : Program} {l : Launch} {e : Env} {R : Room} {s : State} {m : MethodId} {args : Array Value} {below : List Frame} {meth : Method} {c : Code} {Q : State → Prop}
variable {cc : ByteArray} {D : va_G} {A : Nat → Prop} {ad : Nat → Nat} {ca : Nat → ClassId} {own : String} {nL : Nat}
theorem row_cell {rs : List (Nat × Nat)} {k t n : Nat} {M : Mm} {H : Heap} (F : fx p s m args c cc D cl8 ca tyl8 own Nws8) (hs : (sh8 rs)[k]? = some (.inr (t, n))) (ht : t = 0 ∨ t = 1 ∨ t = 2 ∨ t = 4) (hP : va_P D cl8 (wl ca ad (sh8 rs) M) H) : ∃ cell : Cell, H[ad k]? = some cell ∧ cell.vm.isStatics = false ∧ s.vm.findClass (nmT t) = some cell.cls := by
  have hK := F.2.2.2.2.2.2
  have e1 := wl_get (ca := ca) (ad := ad) (M := M) hs
  have h1 := hP _ _ e1
  rcases ht with rfl | rfl | rfl | rfl
  · rw [wc_i (by decide) (by decide)] at h1
    exact ⟨_, h1, rfl, va_nm_int (hK 0 _ rfl).2⟩
  · rw [wc_l] at h1
    exact ⟨_, h1, rfl, va_nm_long (hK 1 _ rfl).2⟩
  · rw [wc_i (by decide) (by decide)] at h1
    exact ⟨_, h1, rfl, va_nm_byte (hK 2 _ rfl).2⟩
  · rw [wc_i (by decide) (by decide)] at h1
    exact ⟨_, h1, rfl, va_nm_short (hK 3 _ rfl).2⟩
theorem nc_of {T t : Nat} (F : fx p s m args c cc D cl8 ca tyl8 own Nws8) (h : insN T t = true) : va_Nc (nmT t) (nmT T) s := by
  have hN := F.2.2.2.2.1
  have h := of_decide_eq_true h
  simp only [List.mem_cons, List.not_mem_nil, or_false, Prod.mk.injEq] at h
  rcases h with ⟨rfl, rfl⟩ | ⟨rfl, rfl⟩ | ⟨rfl, rfl⟩ | ⟨rfl, rfl⟩ | ⟨rfl, rfl⟩ | ⟨rfl, rfl⟩
  · exact va_Nc.of (hN _ nc_0)
  · exact va_Nc.of (hN _ nc_1)
  · exact va_Nc.of (hN _ nc_3)
  · exact va_Nc.of (hN _ nc_2)
  · exact va_Nc.of (hN _ nc_4)
  · exact va_Nc.of (hN _ nc_5)
end ROWS6
theorem insN_t {T t : Nat} (h : insN T t = true) : t = 0 ∨ t = 1 ∨ t = 2 ∨ t = 4 := by
  have h := of_decide_eq_true h
  simp only [List.mem_cons, List.not_mem_nil, or_false, Prod.mk.injEq] at h
  omega
theorem take1 {st : List AV} {v : AV} (h : (st.take 1).reverse = [v]) : ∃ r, st = v :: r ∧ st.drop 1 = r := by
  cases st with
  | nil => cases h
  | cons w r => cases h; exact ⟨r, rfl, rfl⟩
theorem cx_ins {rs : List (Nat × Nat)} {own : String} {lvl x T : Nat} (hl : Cond.classLink own x (nmT T) ∈ lw_all) (hT : T = 0 ∨ T = 1 ∨ T = 2 ∨ T = 4) : CX own cl8 (sh8 rs) tyl8 Nws8 lvl (10 * x + 1) 0 1 (spIns rs T) := by
  refine ⟨spIns_mono, ?_⟩
  intro p l e R s m args below meth c Q cc D A ad ca nL c0 s0 c1 s1 THX F hml hA hfr hlo hcs pc len i lv st M hd hk hi _ hle hsp
  obtain rfl := xk_ins hk
  obtain rfl : len = 3 := by simpa [iokx] using hi
  unfold spIns at hsp
  split at hsp
  · rename_i hav
    obtain ⟨r, rfl, er⟩ := take1 hav
    intro ls H locs hr
    refine lv_instN F.1 F.2.1 hd ?_
    exact hsp ls H locs (rel_st hr (ok_c n_0 (ok_t hr.2.2.2.2.2.2)))
  · rename_i k hav
    obtain ⟨r, rfl, er⟩ := take1 hav
    intro ls H locs hr
    unfold insO at hsp
    split at hsp
    · rename_i t n hs
      split at hsp
      · rename_i ht
        subst ht
        exact va_instE F.1 F.2.1 F.2.2.1 (F.2.2.2.1 _ hl) (row_cell F hs hT hr.2.1) hd (hsp ls H locs (rel_st hr (ok_c (show i32 1 by unfold i32; omega) (ok_t hr.2.2.2.2.2.2))))
      · split at hsp
        · rename_i hn
          exact va_instNo F.1 F.2.1 F.2.2.1 (F.2.2.2.1 _ hl) (nc_of F hn) (row_cell F hs (insN_t hn) hr.2.1) hd (hsp ls H locs (rel_st hr (ok_c n_0 (ok_t hr.2.2.2.2.2.2))))
        · exact hsp.elim
    · exact hsp.elim
  · exact hsp.elim
theorem cx_cst {rs : List (Nat × Nat)} {own : String} {lvl x T : Nat} (hl : Cond.classLink own x (nmT T) ∈ lw_all) (hT : T = 0 ∨ T = 1 ∨ T = 2 ∨ T = 4) : CX own cl8 (sh8 rs) tyl8 Nws8 lvl (10 * x + 2) 0 1 (spCst rs T) := by
  refine ⟨spCst_mono, ?_⟩
  intro p l e R s m args below meth c Q cc D A ad ca nL c0 s0 c1 s1 THX F hml hA hfr hlo hcs pc len i lv st M hd hk hi _ hle hsp
  obtain rfl := xk_cst hk
  obtain rfl : len = 3 := by simpa [iokx] using hi
  unfold spCst at hsp
  split at hsp
  · rename_i hav
    obtain ⟨r, rfl, er⟩ := take1 hav
    intro ls H locs hr
    refine lv_castN F.1 F.2.1 hd ?_
    exact hsp ls H locs (rel_st hr hr.2.2.2.2.2.2)
  · rename_i k hav
    obtain ⟨r, rfl, er⟩ := take1 hav
    intro ls H locs hr
    unfold cstO at hsp
    split at hsp
    · rename_i t n hs
      obtain ⟨rfl, hsp⟩ := hsp
      exact va_castE F.1 F.2.1 F.2.2.1 (F.2.2.2.1 _ hl) (row_cell F hs hT hr.2.1) hd (hsp ls H locs (rel_st hr hr.2.2.2.2.2.2))
    · exact hsp.elim
  · exact hsp.elim
/-! rows at a place that is not written out -/
section ROWN
variable {tb : TB} {sh : List SC} {nL rt : Nat} {nxt nxa : K0} {jmp : Int → K0} {ret : Option AV → Mm → Prop} {thx : Mm → Prop} {xt : XT} {gd : Nat → Prop} {lv : LV} {st : List AV} {M : Mm} {k n : Nat}
theorem fval_p {x : Int} (h : 0 ≤ x) : fval 2 x = ar x.toNat := if_neg (by omega)
theorem fval_m {x : Int} (h : x < 0) : fval 2 x = an := if_pos h
theorem rw_len {t : Nat} (h : sh[k]? = some (.inr (t, n))) (hn : n ≤ 65536) : sem tb sh nL rt .arraylength nxt jmp ret lv (ar k :: st) M = nxt lv (ai (n : Int) :: st) M := by
  simp only [sem, h, if_pos hn]
theorem rw_bald {i : Int} (h : sh[k]? = some (.inr (2, n))) : sem tb sh nL rt .baload nxt jmp ret lv (ai i :: ar k :: st) M = ((0 ≤ i ∧ i < n) ∧ nxt lv (ai (M k i.toNat) :: st) M) := by
  simp only [sem, h]
theorem rw_iald {i : Int} (h : sh[k]? = some (.inr (0, n))) : sem tb sh nL rt .iaload nxt jmp ret lv (ai i :: ar k :: st) M = ((0 ≤ i ∧ i < n) ∧ nxt lv (ai (M k i.toNat) :: st) M) := by
  simp only [sem, aread, h, if_true]
theorem rw_lald {i : Int} (h : sh[k]? = some (.inr (1, n))) : sem tb sh nL rt .laload nxt jmp ret lv (ai i :: ar k :: st) M = ((0 ≤ i ∧ i < n) ∧ nxt lv (al (M k i.toNat) :: st) M) := by
  simp only [sem, aread, h, if_true]
theorem rw_sald {i : Int} (h : sh[k]? = some (.inr (4, n))) (h9 : xt 88 = none) : semx tb xt sh nL rt gd .saload nxt nxa jmp ret thx lv (ai i :: ar k :: st) M = ((0 ≤ i ∧ i < n) ∧ nxt lv (ai (M k i.toNat) :: st) M) := by
  rw [ex_sald h9]; simp only [aread, h, if_true]
theorem rw_bast {i x : Int} (h : sh[k]? = some (.inr (2, n))) : sem tb sh nL rt .bastore nxt jmp ret lv (ai x :: ai i :: ar k :: st) M = ((0 ≤ i ∧ i < n) ∧ (-128 ≤ x ∧ x ≤ 127) ∧ nxt lv st (up2 M k i.toNat x)) := by
  simp only [sem, h]
theorem rw_iast {i x : Int} (h : sh[k]? = some (.inr (0, n))) : sem tb sh nL rt .iastore nxt jmp ret lv (ai x :: ai i :: ar k :: st) M = ((0 ≤ i ∧ i < n) ∧ nxt lv st (up2 M k i.toNat x)) := by
  simp only [sem, aread, h, if_true]
theorem rw_last {i x : Int} (h : sh[k]? = some (.inr (1, n))) : sem tb sh nL rt .lastore nxt jmp ret lv (al x :: ai i :: ar k :: st) M = ((0 ≤ i ∧ i < n) ∧ nxt lv st (up2 M k i.toNat x)) := by
  simp only [sem, aread, h, if_true]
theorem rw_sast {i x : Int} (h : sh[k]? = some (.inr (4, n))) (h9 : xt 98 = none) : semx tb xt sh nL rt gd .sastore nxt nxa jmp ret thx lv (ai x :: ai i :: ar k :: st) M = ((0 ≤ i ∧ i < n) ∧ (-32768 ≤ x ∧ x ≤ 32767) ∧ nxt lv st (up2 M k i.toNat x)) := by
  rw [ex_sast h9]; simp only [aread, h, if_true]
end ROWN
/-- a slot that has a row -/
abbrev slP (rs : List (Nat × Nat)) (z : Int) (M : Mm) : Prop := (8 ≤ z ∧ z ≤ 11) ∧ rowOK rs (M z.toNat 0)
theorem row4 {rs : List (Nat × Nat)} {r : Int} (h : rowOK rs r) : 0 ≤ r ∧ rN rs r ≤ 60 ∧ ((rW rs r = 0 ∧ (sh8 rs)[r.toNat]? = some (.inr (2, rN rs r))) ∨ (rW rs r = 1 ∧ (sh8 rs)[r.toNat]? = some (.inr (4, rN rs r))) ∨ (rW rs r = 2 ∧ (sh8 rs)[r.toNat]? = some (.inr (0, rN rs r))) ∨ (rW rs r = 3 ∧ (sh8 rs)[r.toNat]? = some (.inr (1, rN rs r)))) := by
  obtain ⟨h1, h2, h3⟩ := sh8_row h
  refine ⟨by have := h.1; omega, h3, ?_⟩
  rcases (show rW rs r = 0 ∨ rW rs r = 1 ∨ rW rs r = 2 ∨ rW rs r = 3 by omega) with e | e | e | e
  · rw [e] at h1; exact Or.inl ⟨e, h1⟩
  · rw [e] at h1; exact Or.inr (Or.inl ⟨e, h1⟩)
  · rw [e] at h1; exact Or.inr (Or.inr (Or.inl ⟨e, h1⟩))
  · rw [e] at h1; exact Or.inr (Or.inr (Or.inr ⟨e, h1⟩))
def P6_size (rs : List (Nat × Nat)) (z : Int) (M : Mm) : Prop := slP rs z M
def V6_size (rs : List (Nat × Nat)) (z : Int) (M : Mm) : Int := rN rs (M z.toNat 0)
def sp6_size (rs : List (Nat × Nat)) : Spec := spF false [2] 1 (fun x M => P6_size rs (x 0) M) (fun x M => V6_size rs (x 0) M)
theorem c6_size {rs : List (Nat × Nat)} {z : Nat} {M : Mm} {Q : Option AV → Mm → Prop} : sp6_size rs [ar z] M Q = (P6_size rs (z : Int) M ∧ Q (some (ai (V6_size rs (z : Int) M))) M) := rfl
def cs6_size (rs : List (Nat × Nat)) : List (Nat × Nat × Nat × Spec) := []
def xs6_size (rs : List (Nat × Nat)) : List (Nat × Nat × Nat × Spec) := [(131, 0, 1, spIns rs 2), (151, 0, 1, spIns rs 4), (171, 0, 1, spIns rs 0), (132, 0, 1, spCst rs 2), (152, 0, 1, spCst rs 4), (172, 0, 1, spCst rs 0), (192, 0, 1, spCst rs 1)]
set_option maxHeartbeats 4000000 in
set_option maxRecDepth 100000 in
theorem in6_size {rs : List (Nat × Nat)} {z : Int} {M : Mm} {Q : Option AV → Mm → Prop} (hM : okM (sh8 rs) M) (hP : P6_size rs z M) (hQ : Q (some (ai (V6_size rs z M))) M) : wpx (tb6 (csL (cs6_size rs))) (csL (xs6_size rs)) (sh8 rs) 1 1 cX6_size [] Q (fun _ _ => False) 400 false 0 [(0, ar z.toNat)] [] M := by
  obtain ⟨hz, hr⟩ := id hP
  have hV : V6_size rs z M = rN rs (M z.toNat 0) := rfl
  rw [hV] at hQ
  rcases (show z = 8 ∨ z = 9 ∨ z = 10 ∨ z = 11 by omega) with rfl | rfl | rfl | rfl <;>
  (simp only [Int.reduceToNat] at hr hQ ⊢
   obtain ⟨hr0, hn, hc⟩ := row4 hr
   rcases hc with ⟨-, hc⟩ | ⟨-, hc⟩ | ⟨-, hc⟩ | ⟨-, hc⟩ <;>
   (simp only [e_wpy (k := 9) dX6_size_0 rfl rfl rfl, e_wpy (k := 9) dX6_size_1 rfl rfl rfl, e_wpy (k := 131) dX6_size_4 rfl rfl rfl, e_wpy (k := 9) dX6_size_7 rfl rfl rfl, e_wpy (k := 9) dX6_size_10 rfl rfl rfl, e_wpy (k := 9) dX6_size_11 rfl rfl rfl, e_wpy (k := 132) dX6_size_14 rfl rfl rfl, e_wpy (k := 18) dX6_size_17 rfl rfl rfl, e_wpy (k := 9) dX6_size_18 rfl rfl rfl, e_wpy (k := 9) dX6_size_21 rfl rfl rfl, e_wpy (k := 9) dX6_size_22 rfl rfl rfl, e_wpy (k := 151) dX6_size_25 rfl rfl rfl, e_wpy (k := 9) dX6_size_28 rfl rfl rfl, e_wpy (k := 9) dX6_size_31 rfl rfl rfl, e_wpy (k := 9) dX6_size_32 rfl rfl rfl, e_wpy (k := 152) dX6_size_35 rfl rfl rfl, e_wpy (k := 18) dX6_size_38 rfl rfl rfl, e_wpy (k := 9) dX6_size_39 rfl rfl rfl, e_wpy (k := 9) dX6_size_42 rfl rfl rfl, e_wpy (k := 9) dX6_size_43 rfl rfl rfl, e_wpy (k := 171) dX6_size_46 rfl rfl rfl, e_wpy (k := 9) dX6_size_49 rfl rfl rfl, e_wpy (k := 9) dX6_size_52 rfl rfl rfl, e_wpy (k := 9) dX6_size_53 rfl rfl rfl, e_wpy (k := 172) dX6_size_56 rfl rfl rfl, e_wpy (k := 18) dX6_size_59 rfl rfl rfl, e_wpy (k := 9) dX6_size_60 rfl rfl rfl, e_wpy (k := 9) dX6_size_63 rfl rfl rfl, e_wpy (k := 9) dX6_size_64 rfl rfl rfl, e_wpy (k := 192) dX6_size_67 rfl rfl rfl, e_wpy (k := 18) dX6_size_70 rfl rfl rfl, e_wpy (k := 9) dX6_size_71 rfl rfl rfl, xoff_a, ex_null_n, ex_null_r, ex_nonn_n, ex_nonn_r, ex_aret, xel_n, xel_s, xgo_0, xgo_1x, xgo_1v, xgo_1i, xgo_1l, xgo_1r, xgo_2, xgo_3, xgo_4, xgo_5x, xgo_5v, xgo_5i, xgo_5l, xgd_5, xgd_0, xgd_1, xgd_2, xgd_3, xgd_4, ath_y, xct_f, xct_t, xna_f, csL_n, Nat.reduceMul, cIns_n, cIns_r, insO_22, insO_24, insO_20, insO_21, insO_44, insO_40, insO_41, insO_00, insO_01, cCst_n, cCst_r, cstO_s, xs6_size, g6_710, g6_711, g6_78, g6_79, e_iconst, e_bipush, e_sipush, e_lconst_0, e_lconst_1, e_iload, e_iload_0, e_iload_1, e_iload_2, e_iload_3, e_lload, e_lload_0, e_lload_1, e_lload_2, e_lload_3, e_aload, e_aload_0, e_aload_1, e_aload_2, e_aload_3, e_istore, e_istore_0, e_istore_1, e_istore_2, e_istore_3, e_astore, e_astore_0, e_astore_1, e_astore_2, e_astore_3, e_lstore, e_lstore_0, e_lstore_1, e_lstore_2, e_lstore_3, e_iinc, e_iadd, e_isub, e_imul, e_ladd, e_lsub, e_lmul, e_idiv, e_irem, e_ldiv, e_lrem, e_ineg, e_lneg, e_iand, e_ior, e_ixor, e_ishl, e_ishr, e_iushr, e_lcmp, e_i2l, e_l2i, e_i2b, e_i2s, e_dup_i, e_dup_r, e_pop_i, e_pop_r, e_dup2_l, e_dup2_ir, e_dup2_ii, e_ifeq, e_ifne, e_iflt, e_ifge, e_ifgt, e_ifle, e_iceq, e_icne, e_iclt, e_icge, e_icgt, e_icle, e_goto, e_switch, e_invokevirtual, e_invokestatic, e_invokespecial, e_ret0, e_ret1, e_ret2, e_ret3, ldI_s, ldL_s, ldR_s, clO_s, ctP_s, ctS_s, mgo_0, mgo_s, pjc_s, pj_0, pj_s, lk_s, rm1_0, rm1_i, rm1_r, rm1_l, rm2_0, rm2_i, rm2_r, rm2_l, csL_s, lc_lt, lc_ge, lc_gt, lc_le, lc_eq, b01_0, b01_1, b01_01, b01_n, up2_o, up2_s, up2_u, ne_eq, reduceCtorEq, Nat.reduceAdd, Nat.reduceEqDiff, Nat.reduceLT, Nat.reduceLeDiff, Int.reduceLE, Int.reduceLT, Int.reduceAdd, Int.reduceNeg, Int.reduceMul, Int.reduceSub, Int.reduceEq, Int.reduceToNat, Int.reduceNatCast, Int.cast_ofNat_Int, ↓reduceIte, and_self, List.drop_succ_cons, List.drop_zero, List.take_succ_cons, List.take_zero, List.length_cons, List.length_nil, List.reverse_cons, List.reverse_nil, List.nil_append, List.cons_append, Option.toList, true_and, and_true, or_false, false_or, or_true, true_or, forall_const, Classical.not_not, not_false_eq_true, not_true_eq_false, false_implies, true_implies, implies_true, imp_self, g6_78, g6_79, g6_710, g6_711, fval_p hr0, hc, rw_len hc (Nat.le_trans hn (by decide))]
    exact hQ))
set_option maxHeartbeats 4000000 in
set_option maxRecDepth 100000 in
theorem m6_size {rs : List (Nat × Nat)} : MOK cl8 (sh8 rs) tyl8 Nws8 0 yX6_size cX6_size 1 (some .int) (sp6_size rs) := by
  refine mokx_of (own := RX6) (tb := tb6 (csL (cs6_size rs))) (xt := csL (xs6_size rs)) (rt := 1) (fuel := 400) (fun avs M Q => []) (by decide) rfl nws8_ok (tbOK6 _) rfl (csL_all ?_) (csX_all ?_) ?_ ?_ ?_
  · intro q hq; cases hq
  · intro q hq
    simp only [xs6_size, List.mem_cons, List.not_mem_nil, or_false] at hq
    rcases hq with rfl | rfl | rfl | rfl | rfl | rfl | rfl
    · exact cx_ins (x := 13) (T := 2) q1102 (by decide)
    · exact cx_ins (x := 15) (T := 4) q1103 (by decide)
    · exact cx_ins (x := 17) (T := 0) q1104 (by decide)
    · exact cx_cst (x := 13) (T := 2) q1102 (by decide)
    · exact cx_cst (x := 15) (T := 4) q1103 (by decide)
    · exact cx_cst (x := 17) (T := 0) q1104 (by decide)
    · exact cx_cst (x := 19) (T := 1) q1105 (by decide)
  · intro avs M Q hsp
    obtain ⟨xs, hx⟩ := spF_un _ _ _ hsp
    obtain ⟨e, hl⟩ := unA_mk hx
    obtain ⟨z, rfl⟩ := len1 hl
    have e : avs = [ar z.toNat] := e
    subst e
    simp [szL, isL]
  · intro avs M Q hM hav hsp
    obtain ⟨xs, hx⟩ := spF_un _ _ _ hsp
    obtain ⟨e, hl⟩ := unA_mk hx
    obtain ⟨z, rfl⟩ := len1 hl
    have e : avs = [ar z.toNat] := e
    subst e
    exact in6_size (z := ((z.toNat : Nat) : Int)) hM hsp.1 hsp.2
  · intro avs M Q hM hav hsp q hq m_ vs M1 hM1 hv hJ
    obtain ⟨xs, hx⟩ := spF_un _ _ _ hsp
    obtain ⟨e, hl⟩ := unA_mk hx
    obtain ⟨z, rfl⟩ := len1 hl
    have e : avs = [ar z.toNat] := e
    subst e
    cases hq
def P6_at (rs : List (Nat × Nat)) (z : Int) (i : Int) (M : Mm) : Prop := slP rs z M ∧ 0 ≤ i ∧ i < rN rs (M z.toNat 0)
def V6_at (rs : List (Nat × Nat)) (z : Int) (i : Int) (M : Mm) : Int := M (M z.toNat 0).toNat i.toNat
def sp6_at (rs : List (Nat × Nat)) : Spec := spF false [2, 0] 2 (fun x M => P6_at rs (x 0) (x 1) M) (fun x M => V6_at rs (x 0) (x 1) M)
theorem c6_at {rs : List (Nat × Nat)} {z : Nat} {i : Int} {M : Mm} {Q : Option AV → Mm → Prop} : sp6_at rs [ar z, ai i] M Q = (P6_at rs (z : Int) i M ∧ Q (some (al (V6_at rs (z : Int) i M))) M) := rfl
def cs6_at (rs : List (Nat × Nat)) : List (Nat × Nat × Nat × Spec) := []
def xs6_at (rs : List (Nat × Nat)) : List (Nat × Nat × Nat × Spec) := [(131, 0, 1, spIns rs 2), (151, 0, 1, spIns rs 4), (171, 0, 1, spIns rs 0), (132, 0, 1, spCst rs 2), (152, 0, 1, spCst rs 4), (172, 0, 1, spCst rs 0), (192, 0, 1, spCst rs 1)]
set_option maxHeartbeats 4000000 in
set_option maxRecDepth 100000 in
theorem in6_at {rs : List (Nat × Nat)} {z i : Int} {M : Mm} {Q : Option AV → Mm → Prop} (hM : okM (sh8 rs) M) (h_i : i32 i) (hP : P6_at rs z i M) (hQ : Q (some (al (V6_at rs z i M))) M) : wpx (tb6 (csL (cs6_at rs))) (csL (xs6_at rs)) (sh8 rs) 2 3 cX6_at [] Q (fun _ _ => False) 400 false 0 [(0, ar z.toNat), (1, ai i)] [] M := by
  obtain ⟨⟨hz, hr⟩, hi⟩ := id hP
  have hV : V6_at rs z i M = M (M z.toNat 0).toNat i.toNat := rfl
  rw [hV] at hQ
  rcases (show z = 8 ∨ z = 9 ∨ z = 10 ∨ z = 11 by omega) with rfl | rfl | rfl | rfl <;>
  (simp only [Int.reduceToNat] at hr hQ hi ⊢
   obtain ⟨hr0, hn, hc⟩ := row4 hr
   rcases hc with ⟨-, hc⟩ | ⟨-, hc⟩ | ⟨-, hc⟩ | ⟨-, hc⟩
   · simp only [e_wpy (k := 9) dX6_at_0 rfl rfl rfl, e_wpy (k := 9) dX6_at_1 rfl rfl rfl, e_wpy (k := 131) dX6_at_4 rfl rfl rfl, e_wpy (k := 9) dX6_at_7 rfl rfl rfl, e_wpy (k := 9) dX6_at_10 rfl rfl rfl, e_wpy (k := 9) dX6_at_11 rfl rfl rfl, e_wpy (k := 132) dX6_at_14 rfl rfl rfl, e_wpy (k := 9) dX6_at_17 rfl rfl rfl, e_wpy (k := 28) dX6_at_18 rfl rfl rfl, e_wpy (k := 9) dX6_at_19 rfl rfl rfl, e_wpy (k := 9) dX6_at_20 rfl rfl rfl, e_wpy (k := 9) dX6_at_23 rfl rfl rfl, e_wpy (k := 9) dX6_at_24 rfl rfl rfl, e_wpy (k := 151) dX6_at_27 rfl rfl rfl, e_wpy (k := 9) dX6_at_30 rfl rfl rfl, e_wpy (k := 9) dX6_at_33 rfl rfl rfl, e_wpy (k := 9) dX6_at_34 rfl rfl rfl, e_wpy (k := 152) dX6_at_37 rfl rfl rfl, e_wpy (k := 9) dX6_at_40 rfl rfl rfl, e_wpx dX6_at_41 rfl, e_wpy (k := 9) dX6_at_42 rfl rfl rfl, e_wpy (k := 9) dX6_at_43 rfl rfl rfl, e_wpy (k := 9) dX6_at_46 rfl rfl rfl, e_wpy (k := 9) dX6_at_47 rfl rfl rfl, e_wpy (k := 171) dX6_at_50 rfl rfl rfl, e_wpy (k := 9) dX6_at_53 rfl rfl rfl, e_wpy (k := 9) dX6_at_56 rfl rfl rfl, e_wpy (k := 9) dX6_at_57 rfl rfl rfl, e_wpy (k := 172) dX6_at_60 rfl rfl rfl, e_wpy (k := 9) dX6_at_63 rfl rfl rfl, e_wpy (k := 48) dX6_at_64 rfl rfl rfl, e_wpy (k := 9) dX6_at_65 rfl rfl rfl, e_wpy (k := 9) dX6_at_66 rfl rfl rfl, e_wpy (k := 9) dX6_at_69 rfl rfl rfl, e_wpy (k := 9) dX6_at_70 rfl rfl rfl, e_wpy (k := 192) dX6_at_73 rfl rfl rfl, e_wpy (k := 9) dX6_at_76 rfl rfl rfl, e_wpy (k := 68) dX6_at_77 rfl rfl rfl, e_wpy (k := 9) dX6_at_78 rfl rfl rfl, xoff_a, ex_null_n, ex_null_r, ex_nonn_n, ex_nonn_r, ex_aret, xel_n, xel_s, xgo_0, xgo_1x, xgo_1v, xgo_1i, xgo_1l, xgo_1r, xgo_2, xgo_3, xgo_4, xgo_5x, xgo_5v, xgo_5i, xgo_5l, xgd_5, xgd_0, xgd_1, xgd_2, xgd_3, xgd_4, ath_y, xct_f, xct_t, xna_f, csL_n, Nat.reduceMul, cIns_n, cIns_r, insO_22, insO_24, insO_20, insO_21, insO_44, insO_40, insO_41, insO_00, insO_01, cCst_n, cCst_r, cstO_s, xs6_at, g6_710, g6_711, g6_78, g6_79, a8_13, w8_13, a8_14, w8_14, a8_15, w8_15, a8_16, w8_16, a8_17, w8_17, a8_18, w8_18, a8_19, w8_19, a8_20, w8_20, a8_21, w8_21, a8_22, w8_22, a8_23, w8_23, a8_24, w8_24, a8_25, w8_25, a8_26, w8_26, a8_27, w8_27, a8_28, w8_28, a8_29, w8_29, a8_30, w8_30, a8_31, w8_31, a8_32, w8_32, a8_33, w8_33, a8_34, w8_34, a8_35, w8_35, a8_36, w8_36, a8_37, w8_37, a8_38, w8_38, a8_39, w8_39, a8_40, w8_40, a8_12, w8_12, a8_6, a8_7, e_iconst, e_bipush, e_sipush, e_lconst_0, e_lconst_1, e_iload, e_iload_0, e_iload_1, e_iload_2, e_iload_3, e_lload, e_lload_0, e_lload_1, e_lload_2, e_lload_3, e_aload, e_aload_0, e_aload_1, e_aload_2, e_aload_3, e_istore, e_istore_0, e_istore_1, e_istore_2, e_istore_3, e_astore, e_astore_0, e_astore_1, e_astore_2, e_astore_3, e_lstore, e_lstore_0, e_lstore_1, e_lstore_2, e_lstore_3, e_iinc, e_iadd, e_isub, e_imul, e_ladd, e_lsub, e_lmul, e_idiv, e_irem, e_ldiv, e_lrem, e_ineg, e_lneg, e_iand, e_ior, e_ixor, e_ishl, e_ishr, e_iushr, e_lcmp, e_i2l, e_l2i, e_i2b, e_i2s, e_dup_i, e_dup_r, e_pop_i, e_pop_r, e_dup2_l, e_dup2_ir, e_dup2_ii, e_ifeq, e_ifne, e_iflt, e_ifge, e_ifgt, e_ifle, e_iceq, e_icne, e_iclt, e_icge, e_icgt, e_icle, e_goto, e_switch, e_invokevirtual, e_invokestatic, e_invokespecial, e_ret0, e_ret1, e_ret2, e_ret3, ldI_s, ldL_s, ldR_s, clO_s, ctP_s, ctS_s, mgo_0, mgo_s, pjc_s, pj_0, pj_s, lk_s, rm1_0, rm1_i, rm1_r, rm1_l, rm2_0, rm2_i, rm2_r, rm2_l, csL_s, lc_lt, lc_ge, lc_gt, lc_le, lc_eq, b01_0, b01_1, b01_01, b01_n, up2_o, up2_s, up2_u, ne_eq, reduceCtorEq, Nat.reduceAdd, Nat.reduceEqDiff, Nat.reduceLT, Nat.reduceLeDiff, Int.reduceLE, Int.reduceLT, Int.reduceAdd, Int.reduceNeg, Int.reduceMul, Int.reduceSub, Int.reduceEq, Int.reduceToNat, Int.reduceNatCast, Int.cast_ofNat_Int, ↓reduceIte, and_self, List.drop_succ_cons, List.drop_zero, List.take_succ_cons, List.take_zero, List.length_cons, List.length_nil, List.reverse_cons, List.reverse_nil, List.nil_append, List.cons_append, Option.toList, true_and, and_true, or_false, false_or, or_true, true_or, forall_const, Classical.not_not, not_false_eq_true, not_true_eq_false, false_implies, true_implies, implies_true, imp_self, fval_p hr0, hc, rw_bald hc]
     exact ⟨hi, hQ⟩
   · simp only [e_wpy (k := 9) dX6_at_0 rfl rfl rfl, e_wpy (k := 9) dX6_at_1 rfl rfl rfl, e_wpy (k := 131) dX6_at_4 rfl rfl rfl, e_wpy (k := 9) dX6_at_7 rfl rfl rfl, e_wpy (k := 9) dX6_at_10 rfl rfl rfl, e_wpy (k := 9) dX6_at_11 rfl rfl rfl, e_wpy (k := 132) dX6_at_14 rfl rfl rfl, e_wpy (k := 9) dX6_at_17 rfl rfl rfl, e_wpy (k := 28) dX6_at_18 rfl rfl rfl, e_wpy (k := 9) dX6_at_19 rfl rfl rfl, e_wpy (k := 9) dX6_at_20 rfl rfl rfl, e_wpy (k := 9) dX6_at_23 rfl rfl rfl, e_wpy (k := 9) dX6_at_24 rfl rfl rfl, e_wpy (k := 151) dX6_at_27 rfl rfl rfl, e_wpy (k := 9) dX6_at_30 rfl rfl rfl, e_wpy (k := 9) dX6_at_33 rfl rfl rfl, e_wpy (k := 9) dX6_at_34 rfl rfl rfl, e_wpy (k := 152) dX6_at_37 rfl rfl rfl, e_wpy (k := 9) dX6_at_40 rfl rfl rfl, e_wpx dX6_at_41 rfl, e_wpy (k := 9) dX6_at_42 rfl rfl rfl, e_wpy (k := 9) dX6_at_43 rfl rfl rfl, e_wpy (k := 9) dX6_at_46 rfl rfl rfl, e_wpy (k := 9) dX6_at_47 rfl rfl rfl, e_wpy (k := 171) dX6_at_50 rfl rfl rfl, e_wpy (k := 9) dX6_at_53 rfl rfl rfl, e_wpy (k := 9) dX6_at_56 rfl rfl rfl, e_wpy (k := 9) dX6_at_57 rfl rfl rfl, e_wpy (k := 172) dX6_at_60 rfl rfl rfl, e_wpy (k := 9) dX6_at_63 rfl rfl rfl, e_wpy (k := 48) dX6_at_64 rfl rfl rfl, e_wpy (k := 9) dX6_at_65 rfl rfl rfl, e_wpy (k := 9) dX6_at_66 rfl rfl rfl, e_wpy (k := 9) dX6_at_69 rfl rfl rfl, e_wpy (k := 9) dX6_at_70 rfl rfl rfl, e_wpy (k := 192) dX6_at_73 rfl rfl rfl, e_wpy (k := 9) dX6_at_76 rfl rfl rfl, e_wpy (k := 68) dX6_at_77 rfl rfl rfl, e_wpy (k := 9) dX6_at_78 rfl rfl rfl, xoff_a, ex_null_n, ex_null_r, ex_nonn_n, ex_nonn_r, ex_aret, xel_n, xel_s, xgo_0, xgo_1x, xgo_1v, xgo_1i, xgo_1l, xgo_1r, xgo_2, xgo_3, xgo_4, xgo_5x, xgo_5v, xgo_5i, xgo_5l, xgd_5, xgd_0, xgd_1, xgd_2, xgd_3, xgd_4, ath_y, xct_f, xct_t, xna_f, csL_n, Nat.reduceMul, cIns_n, cIns_r, insO_22, insO_24, insO_20, insO_21, insO_44, insO_40, insO_41, insO_00, insO_01, cCst_n, cCst_r, cstO_s, xs6_at, g6_710, g6_711, g6_78, g6_79, a8_13, w8_13, a8_14, w8_14, a8_15, w8_15, a8_16, w8_16, a8_17, w8_17, a8_18, w8_18, a8_19, w8_19, a8_20, w8_20, a8_21, w8_21, a8_22, w8_22, a8_23, w8_23, a8_24, w8_24, a8_25, w8_25, a8_26, w8_26, a8_27, w8_27, a8_28, w8_28, a8_29, w8_29, a8_30, w8_30, a8_31, w8_31, a8_32, w8_32, a8_33, w8_33, a8_34, w8_34, a8_35, w8_35, a8_36, w8_36, a8_37, w8_37, a8_38, w8_38, a8_39, w8_39, a8_40, w8_40, a8_12, w8_12, a8_6, a8_7, e_iconst, e_bipush, e_sipush, e_lconst_0, e_lconst_1, e_iload, e_iload_0, e_iload_1, e_iload_2, e_iload_3, e_lload, e_lload_0, e_lload_1, e_lload_2, e_lload_3, e_aload, e_aload_0, e_aload_1, e_aload_2, e_aload_3, e_istore, e_istore_0, e_istore_1, e_istore_2, e_istore_3, e_astore, e_astore_0, e_astore_1, e_astore_2, e_astore_3, e_lstore, e_lstore_0, e_lstore_1, e_lstore_2, e_lstore_3, e_iinc, e_iadd, e_isub, e_imul, e_ladd, e_lsub, e_lmul, e_idiv, e_irem, e_ldiv, e_lrem, e_ineg, e_lneg, e_iand, e_ior, e_ixor, e_ishl, e_ishr, e_iushr, e_lcmp, e_i2l, e_l2i, e_i2b, e_i2s, e_dup_i, e_dup_r, e_pop_i, e_pop_r, e_dup2_l, e_dup2_ir, e_dup2_ii, e_ifeq, e_ifne, e_iflt, e_ifge, e_ifgt, e_ifle, e_iceq, e_icne, e_iclt, e_icge, e_icgt, e_icle, e_goto, e_switch, e_invokevirtual, e_invokestatic, e_invokespecial, e_ret0, e_ret1, e_ret2, e_ret3, ldI_s, ldL_s, ldR_s, clO_s, ctP_s, ctS_s, mgo_0, mgo_s, pjc_s, pj_0, pj_s, lk_s, rm1_0, rm1_i, rm1_r, rm1_l, rm2_0, rm2_i, rm2_r, rm2_l, csL_s, lc_lt, lc_ge, lc_gt, lc_le, lc_eq, b01_0, b01_1, b01_01, b01_n, up2_o, up2_s, up2_u, ne_eq, reduceCtorEq, Nat.reduceAdd, Nat.reduceEqDiff, Nat.reduceLT, Nat.reduceLeDiff, Int.reduceLE, Int.reduceLT, Int.reduceAdd, Int.reduceNeg, Int.reduceMul, Int.reduceSub, Int.reduceEq, Int.reduceToNat, Int.reduceNatCast, Int.cast_ofNat_Int, ↓reduceIte, and_self, List.drop_succ_cons, List.drop_zero, List.take_succ_cons, List.take_zero, List.length_cons, List.length_nil, List.reverse_cons, List.reverse_nil, List.nil_append, List.cons_append, Option.toList, true_and, and_true, or_false, false_or, or_true, true_or, forall_const, Classical.not_not, not_false_eq_true, not_true_eq_false, false_implies, true_implies, implies_true, imp_self, fval_p hr0, hc, rw_sald hc]
     exact ⟨hi, hQ⟩
   · simp only [e_wpy (k := 9) dX6_at_0 rfl rfl rfl, e_wpy (k := 9) dX6_at_1 rfl rfl rfl, e_wpy (k := 131) dX6_at_4 rfl rfl rfl, e_wpy (k := 9) dX6_at_7 rfl rfl rfl, e_wpy (k := 9) dX6_at_10 rfl rfl rfl, e_wpy (k := 9) dX6_at_11 rfl rfl rfl, e_wpy (k := 132) dX6_at_14 rfl rfl rfl, e_wpy (k := 9) dX6_at_17 rfl rfl rfl, e_wpy (k := 28) dX6_at_18 rfl rfl rfl, e_wpy (k := 9) dX6_at_19 rfl rfl rfl, e_wpy (k := 9) dX6_at_20 rfl rfl rfl, e_wpy (k := 9) dX6_at_23 rfl rfl rfl, e_wpy (k := 9) dX6_at_24 rfl rfl rfl, e_wpy (k := 151) dX6_at_27 rfl rfl rfl, e_wpy (k := 9) dX6_at_30 rfl rfl rfl, e_wpy (k := 9) dX6_at_33 rfl rfl rfl, e_wpy (k := 9) dX6_at_34 rfl rfl rfl, e_wpy (k := 152) dX6_at_37 rfl rfl rfl, e_wpy (k := 9) dX6_at_40 rfl rfl rfl, e_wpx dX6_at_41 rfl, e_wpy (k := 9) dX6_at_42 rfl rfl rfl, e_wpy (k := 9) dX6_at_43 rfl rfl rfl, e_wpy (k := 9) dX6_at_46 rfl rfl rfl, e_wpy (k := 9) dX6_at_47 rfl rfl rfl, e_wpy (k := 171) dX6_at_50 rfl rfl rfl, e_wpy (k := 9) dX6_at_53 rfl rfl rfl, e_wpy (k := 9) dX6_at_56 rfl rfl rfl, e_wpy (k := 9) dX6_at_57 rfl rfl rfl, e_wpy (k := 172) dX6_at_60 rfl rfl rfl, e_wpy (k := 9) dX6_at_63 rfl rfl rfl, e_wpy (k := 48) dX6_at_64 rfl rfl rfl, e_wpy (k := 9) dX6_at_65 rfl rfl rfl, e_wpy (k := 9) dX6_at_66 rfl rfl rfl, e_wpy (k := 9) dX6_at_69 rfl rfl rfl, e_wpy (k := 9) dX6_at_70 rfl rfl rfl, e_wpy (k := 192) dX6_at_73 rfl rfl rfl, e_wpy (k := 9) dX6_at_76 rfl rfl rfl, e_wpy (k := 68) dX6_at_77 rfl rfl rfl, e_wpy (k := 9) dX6_at_78 rfl rfl rfl, xoff_a, ex_null_n, ex_null_r, ex_nonn_n, ex_nonn_r, ex_aret, xel_n, xel_s, xgo_0, xgo_1x, xgo_1v, xgo_1i, xgo_1l, xgo_1r, xgo_2, xgo_3, xgo_4, xgo_5x, xgo_5v, xgo_5i, xgo_5l, xgd_5, xgd_0, xgd_1, xgd_2, xgd_3, xgd_4, ath_y, xct_f, xct_t, xna_f, csL_n, Nat.reduceMul, cIns_n, cIns_r, insO_22, insO_24, insO_20, insO_21, insO_44, insO_40, insO_41, insO_00, insO_01, cCst_n, cCst_r, cstO_s, xs6_at, g6_710, g6_711, g6_78, g6_79, a8_13, w8_13, a8_14, w8_14, a8_15, w8_15, a8_16, w8_16, a8_17, w8_17, a8_18, w8_18, a8_19, w8_19, a8_20, w8_20, a8_21, w8_21, a8_22, w8_22, a8_23, w8_23, a8_24, w8_24, a8_25, w8_25, a8_26, w8_26, a8_27, w8_27, a8_28, w8_28, a8_29, w8_29, a8_30, w8_30, a8_31, w8_31, a8_32, w8_32, a8_33, w8_33, a8_34, w8_34, a8_35, w8_35, a8_36, w8_36, a8_37, w8_37, a8_38, w8_38, a8_39, w8_39, a8_40, w8_40, a8_12, w8_12, a8_6, a8_7, e_iconst, e_bipush, e_sipush, e_lconst_0, e_lconst_1, e_iload, e_iload_0, e_iload_1, e_iload_2, e_iload_3, e_lload, e_lload_0, e_lload_1, e_lload_2, e_lload_3, e_aload, e_aload_0, e_aload_1, e_aload_2, e_aload_3, e_istore, e_istore_0, e_istore_1, e_istore_2, e_istore_3, e_astore, e_astore_0, e_astore_1, e_astore_2, e_astore_3, e_lstore, e_lstore_0, e_lstore_1, e_lstore_2, e_lstore_3, e_iinc, e_iadd, e_isub, e_imul, e_ladd, e_lsub, e_lmul, e_idiv, e_irem, e_ldiv, e_lrem, e_ineg, e_lneg, e_iand, e_ior, e_ixor, e_ishl, e_ishr, e_iushr, e_lcmp, e_i2l, e_l2i, e_i2b, e_i2s, e_dup_i, e_dup_r, e_pop_i, e_pop_r, e_dup2_l, e_dup2_ir, e_dup2_ii, e_ifeq, e_ifne, e_iflt, e_ifge, e_ifgt, e_ifle, e_iceq, e_icne, e_iclt, e_icge, e_icgt, e_icle, e_goto, e_switch, e_invokevirtual, e_invokestatic, e_invokespecial, e_ret0, e_ret1, e_ret2, e_ret3, ldI_s, ldL_s, ldR_s, clO_s, ctP_s, ctS_s, mgo_0, mgo_s, pjc_s, pj_0, pj_s, lk_s, rm1_0, rm1_i, rm1_r, rm1_l, rm2_0, rm2_i, rm2_r, rm2_l, csL_s, lc_lt, lc_ge, lc_gt, lc_le, lc_eq, b01_0, b01_1, b01_01, b01_n, up2_o, up2_s, up2_u, ne_eq, reduceCtorEq, Nat.reduceAdd, Nat.reduceEqDiff, Nat.reduceLT, Nat.reduceLeDiff, Int.reduceLE, Int.reduceLT, Int.reduceAdd, Int.reduceNeg, Int.reduceMul, Int.reduceSub, Int.reduceEq, Int.reduceToNat, Int.reduceNatCast, Int.cast_ofNat_Int, ↓reduceIte, and_self, List.drop_succ_cons, List.drop_zero, List.take_succ_cons, List.take_zero, List.length_cons, List.length_nil, List.reverse_cons, List.reverse_nil, List.nil_append, List.cons_append, Option.toList, true_and, and_true, or_false, false_or, or_true, true_or, forall_const, Classical.not_not, not_false_eq_true, not_true_eq_false, false_implies, true_implies, implies_true, imp_self, fval_p hr0, hc, rw_iald hc]
     exact ⟨hi, hQ⟩
   · simp only [e_wpy (k := 9) dX6_at_0 rfl rfl rfl, e_wpy (k := 9) dX6_at_1 rfl rfl rfl, e_wpy (k := 131) dX6_at_4 rfl rfl rfl, e_wpy (k := 9) dX6_at_7 rfl rfl rfl, e_wpy (k := 9) dX6_at_10 rfl rfl rfl, e_wpy (k := 9) dX6_at_11 rfl rfl rfl, e_wpy (k := 132) dX6_at_14 rfl rfl rfl, e_wpy (k := 9) dX6_at_17 rfl rfl rfl, e_wpy (k := 28) dX6_at_18 rfl rfl rfl, e_wpy (k := 9) dX6_at_19 rfl rfl rfl, e_wpy (k := 9) dX6_at_20 rfl rfl rfl, e_wpy (k := 9) dX6_at_23 rfl rfl rfl, e_wpy (k := 9) dX6_at_24 rfl rfl rfl, e_wpy (k := 151) dX6_at_27 rfl rfl rfl, e_wpy (k := 9) dX6_at_30 rfl rfl rfl, e_wpy (k := 9) dX6_at_33 rfl rfl rfl, e_wpy (k := 9) dX6_at_34 rfl rfl rfl, e_wpy (k := 152) dX6_at_37 rfl rfl rfl, e_wpy (k := 9) dX6_at_40 rfl rfl rfl, e_wpx dX6_at_41 rfl, e_wpy (k := 9) dX6_at_42 rfl rfl rfl, e_wpy (k := 9) dX6_at_43 rfl rfl rfl, e_wpy (k := 9) dX6_at_46 rfl rfl rfl, e_wpy (k := 9) dX6_at_47 rfl rfl rfl, e_wpy (k := 171) dX6_at_50 rfl rfl rfl, e_wpy (k := 9) dX6_at_53 rfl rfl rfl, e_wpy (k := 9) dX6_at_56 rfl rfl rfl, e_wpy (k := 9) dX6_at_57 rfl rfl rfl, e_wpy (k := 172) dX6_at_60 rfl rfl rfl, e_wpy (k := 9) dX6_at_63 rfl rfl rfl, e_wpy (k := 48) dX6_at_64 rfl rfl rfl, e_wpy (k := 9) dX6_at_65 rfl rfl rfl, e_wpy (k := 9) dX6_at_66 rfl rfl rfl, e_wpy (k := 9) dX6_at_69 rfl rfl rfl, e_wpy (k := 9) dX6_at_70 rfl rfl rfl, e_wpy (k := 192) dX6_at_73 rfl rfl rfl, e_wpy (k := 9) dX6_at_76 rfl rfl rfl, e_wpy (k := 68) dX6_at_77 rfl rfl rfl, e_wpy (k := 9) dX6_at_78 rfl rfl rfl, xoff_a, ex_null_n, ex_null_r, ex_nonn_n, ex_nonn_r, ex_aret, xel_n, xel_s, xgo_0, xgo_1x, xgo_1v, xgo_1i, xgo_1l, xgo_1r, xgo_2, xgo_3, xgo_4, xgo_5x, xgo_5v, xgo_5i, xgo_5l, xgd_5, xgd_0, xgd_1, xgd_2, xgd_3, xgd_4, ath_y, xct_f, xct_t, xna_f, csL_n, Nat.reduceMul, cIns_n, cIns_r, insO_22, insO_24, insO_20, insO_21, insO_44, insO_40, insO_41, insO_00, insO_01, cCst_n, cCst_r, cstO_s, xs6_at, g6_710, g6_711, g6_78, g6_79, a8_13, w8_13, a8_14, w8_14, a8_15, w8_15, a8_16, w8_16, a8_17, w8_17, a8_18, w8_18, a8_19, w8_19, a8_20, w8_20, a8_21, w8_21, a8_22, w8_22, a8_23, w8_23, a8_24, w8_24, a8_25, w8_25, a8_26, w8_26, a8_27, w8_27, a8_28, w8_28, a8_29, w8_29, a8_30, w8_30, a8_31, w8_31, a8_32, w8_32, a8_33, w8_33, a8_34, w8_34, a8_35, w8_35, a8_36, w8_36, a8_37, w8_37, a8_38, w8_38, a8_39, w8_39, a8_40, w8_40, a8_12, w8_12, a8_6, a8_7, e_iconst, e_bipush, e_sipush, e_lconst_0, e_lconst_1, e_iload, e_iload_0, e_iload_1, e_iload_2, e_iload_3, e_lload, e_lload_0, e_lload_1, e_lload_2, e_lload_3, e_aload, e_aload_0, e_aload_1, e_aload_2, e_aload_3, e_istore, e_istore_0, e_istore_1, e_istore_2, e_istore_3, e_astore, e_astore_0, e_astore_1, e_astore_2, e_astore_3, e_lstore, e_lstore_0, e_lstore_1, e_lstore_2, e_lstore_3, e_iinc, e_iadd, e_isub, e_imul, e_ladd, e_lsub, e_lmul, e_idiv, e_irem, e_ldiv, e_lrem, e_ineg, e_lneg, e_iand, e_ior, e_ixor, e_ishl, e_ishr, e_iushr, e_lcmp, e_i2l, e_l2i, e_i2b, e_i2s, e_dup_i, e_dup_r, e_pop_i, e_pop_r, e_dup2_l, e_dup2_ir, e_dup2_ii, e_ifeq, e_ifne, e_iflt, e_ifge, e_ifgt, e_ifle, e_iceq, e_icne, e_iclt, e_icge, e_icgt, e_icle, e_goto, e_switch, e_invokevirtual, e_invokestatic, e_invokespecial, e_ret0, e_ret1, e_ret2, e_ret3, ldI_s, ldL_s, ldR_s, clO_s, ctP_s, ctS_s, mgo_0, mgo_s, pjc_s, pj_0, pj_s, lk_s, rm1_0, rm1_i, rm1_r, rm1_l, rm2_0, rm2_i, rm2_r, rm2_l, csL_s, lc_lt, lc_ge, lc_gt, lc_le, lc_eq, b01_0, b01_1, b01_01, b01_n, up2_o, up2_s, up2_u, ne_eq, reduceCtorEq, Nat.reduceAdd, Nat.reduceEqDiff, Nat.reduceLT, Nat.reduceLeDiff, Int.reduceLE, Int.reduceLT, Int.reduceAdd, Int.reduceNeg, Int.reduceMul, Int.reduceSub, Int.reduceEq, Int.reduceToNat, Int.reduceNatCast, Int.cast_ofNat_Int, ↓reduceIte, and_self, List.drop_succ_cons, List.drop_zero, List.take_succ_cons, List.take_zero, List.length_cons, List.length_nil, List.reverse_cons, List.reverse_nil, List.nil_append, List.cons_append, Option.toList, true_and, and_true, or_false, false_or, or_true, true_or, forall_const, Classical.not_not, not_false_eq_true, not_true_eq_false, false_implies, true_implies, implies_true, imp_self, fval_p hr0, hc, rw_lald hc]
     exact ⟨hi, hQ⟩)
set_option maxHeartbeats 4000000 in
set_option maxRecDepth 100000 in
theorem m6_at {rs : List (Nat × Nat)} : MOK cl8 (sh8 rs) tyl8 Nws8 0 yX6_at cX6_at 2 (some .long) (sp6_at rs) := by
  refine mokx_of (own := RX6) (tb := tb6 (csL (cs6_at rs))) (xt := csL (xs6_at rs)) (rt := 3) (fuel := 400) (fun avs M Q => []) (by decide) rfl nws8_ok (tbOK6 _) rfl (csL_all ?_) (csX_all ?_) ?_ ?_ ?_
  · intro q hq; cases hq
  · intro q hq
    simp only [xs6_at, List.mem_cons, List.not_mem_nil, or_false] at hq
    rcases hq with rfl | rfl | rfl | rfl | rfl | rfl | rfl
    · exact cx_ins (x := 13) (T := 2) q1102 (by decide)
    · exact cx_ins (x := 15) (T := 4) q1103 (by decide)
    · exact cx_ins (x := 17) (T := 0) q1104 (by decide)
    · exact cx_cst (x := 13) (T := 2) q1102 (by decide)
    · exact cx_cst (x := 15) (T := 4) q1103 (by decide)
    · exact cx_cst (x := 17) (T := 0) q1104 (by decide)
    · exact cx_cst (x := 19) (T := 1) q1105 (by decide)
  · intro avs M Q hsp
    obtain ⟨xs, hx⟩ := spF_un _ _ _ hsp
    obtain ⟨e, hl⟩ := unA_mk hx
    obtain ⟨z, i, rfl⟩ := len2 hl
    have e : avs = [ar z.toNat, ai i] := e
    subst e
    simp [szL, isL]
  · intro avs M Q hM hav hsp
    obtain ⟨xs, hx⟩ := spF_un _ _ _ hsp
    obtain ⟨e, hl⟩ := unA_mk hx
    obtain ⟨z, i, rfl⟩ := len2 hl
    have e : avs = [ar z.toNat, ai i] := e
    subst e
    exact in6_at (z := ((z.toNat : Nat) : Int)) hM (hav (ai i) (by simp)) hsp.1 hsp.2
  · intro avs M Q hM hav hsp q hq m_ vs M1 hM1 hv hJ
    obtain ⟨xs, hx⟩ := spF_un _ _ _ hsp
    obtain ⟨e, hl⟩ := unA_mk hx
    obtain ⟨z, i, rfl⟩ := len2 hl
    have e : avs = [ar z.toNat, ai i] := e
    subst e
    cases hq
