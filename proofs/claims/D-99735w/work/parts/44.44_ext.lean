/-! What the component calls of the JDK: Math.max, min, abs, Integer.bitCount, System.arraycopy -/
def kTI10_ : Nat → Option Int := fun x => match x with
  | 265 => some 1431655765
  | 266 => some 858993459
  | 267 => some 252645135
  | _ => none
abbrev tbI10 (cs : Nat → Option (Nat × Nat × Spec)) : TB := (fun _ => none, fun _ => none, kTI10_, fun _ => none, cs)
theorem tbOKI10 {rs : List (Nat × Nat)} (cs : Nat → Option (Nat × Nat × Spec)) : tbOK RJ10 Nws8 cl8 (sh8 rs) tyl8 (tbI10 cs) := ⟨fun _ _ _ h => (by cases h), fun _ _ _ h => (by cases h), fun x v h => (by
    unfold tbI10 kTI10_ at h
    dsimp only at h
    split at h
    · cases h; exact ⟨by unfold i32; omega, q1000⟩
    · cases h; exact ⟨by unfold i32; omega, q1001⟩
    · cases h; exact ⟨by unfold i32; omega, q1002⟩
    · cases h), fun _ _ h => (by cases h), fun _ _ _ h => ty8_ok h⟩
section
variable {rs : List (Nat × Nat)} {cs : Nat → Option (Nat × Nat × Spec)} {nL rt : Nat} {nxt : K0} {jmp : Int → K0} {ret : Option AV → Mm → Prop} {lv : LV} {st : List AV} {M : Mm}
theorem kI10_265 : sem (tbI10 cs) (sh8 rs) nL rt (.ldc_w 265) nxt jmp ret lv st M = nxt lv (ai 1431655765 :: st) M := rfl
theorem kI10_266 : sem (tbI10 cs) (sh8 rs) nL rt (.ldc_w 266) nxt jmp ret lv st M = nxt lv (ai 858993459 :: st) M := rfl
theorem kI10_267 : sem (tbI10 cs) (sh8 rs) nL rt (.ldc_w 267) nxt jmp ret lv st M = nxt lv (ai 252645135 :: st) M := rfl
end
/-- bitCount's steps -/
def bc1 (x : Int) : Int := x - band (bushr x 1) 1431655765
def bc2 (x : Int) : Int := band (bc1 x) 858993459 + band (bushr (bc1 x) 2) 858993459
def bc3 (x : Int) : Int := band (bc2 x + bushr (bc2 x) 4) 252645135
def bc4 (x : Int) : Int := bc3 x + bushr (bc3 x) 8
def bc5 (x : Int) : Int := bc4 x + bushr (bc4 x) 16
abbrev s32 (x : Int) : Bool := decide (-2147483648 ≤ x ∧ x ≤ 2147483647)
theorem bc_dec : ∀ v : Fin 128, (s32 (bc1 (v.val : Int)) && s32 (bc2 (v.val : Int)) && s32 (bc2 (v.val : Int) + bushr (bc2 (v.val : Int)) 4) && s32 (bc4 (v.val : Int)) && s32 (bc5 (v.val : Int)) && (band (bc5 (v.val : Int)) 63 == szP (v.val : Int))) = true := by decide +kernel
theorem bc_ok {x : Int} (h : 0 ≤ x ∧ x < 128) : i32 (bc1 x) ∧ i32 (bc2 x) ∧ i32 (bc2 x + bushr (bc2 x) 4) ∧ i32 (bc4 x) ∧ i32 (bc5 x) ∧ band (bc5 x) 63 = szP x := by
  have h1 := bc_dec ⟨x.toNat, by omega⟩
  simp only [Bool.and_eq_true, decide_eq_true_eq, beq_iff_eq] at h1
  rw [show ((x.toNat : Nat) : Int) = x by omega] at h1
  obtain ⟨⟨⟨⟨⟨a, b⟩, c⟩, d⟩, e⟩, f⟩ := h1
  exact ⟨a, b, c, d, e, f⟩
def PI10_bitCount (rs : List (Nat × Nat)) (x : Int) (M : Mm) : Prop := 0 ≤ x ∧ x < 128
def VI10_bitCount (rs : List (Nat × Nat)) (x : Int) (M : Mm) : Int := szP x
def spI10_bitCount (rs : List (Nat × Nat)) : Spec := spF false [0] 1 (fun x M => PI10_bitCount rs (x 0) M) (fun x M => VI10_bitCount rs (x 0) M)
theorem cI10_bitCount {rs : List (Nat × Nat)} {x : Int} {M : Mm} {Q : Option AV → Mm → Prop} : spI10_bitCount rs [ai x] M Q = (PI10_bitCount rs x M ∧ Q (some (ai (VI10_bitCount rs x M))) M) := rfl
def csI10_bitCount (rs : List (Nat × Nat)) : List (Nat × Nat × Nat × Spec) := []
set_option maxHeartbeats 4000000 in
set_option maxRecDepth 100000 in
theorem inI10_bitCount {rs : List (Nat × Nat)} {x : Int} {M : Mm} {Q : Option AV → Mm → Prop} (hM : okM (sh8 rs) M) (h_x : i32 x) (hP : PI10_bitCount rs x M) (hQ : Q (some (ai (VI10_bitCount rs x M))) M) : wp (tbI10 (csL (csI10_bitCount rs))) (sh8 rs) 1 1 cJ10_bitCount [] Q 400 0 [(0, ai x)] [] M := by
  obtain ⟨b1, b2, b3, b4, b5, b6⟩ := bc_ok hP
  simp only [e_wp dJ10_bitCount_0 rfl, e_wp dJ10_bitCount_1 rfl, e_wp dJ10_bitCount_2 rfl, e_wp dJ10_bitCount_3 rfl, e_wp dJ10_bitCount_4 rfl, e_wp dJ10_bitCount_7 rfl, e_wp dJ10_bitCount_8 rfl, e_wp dJ10_bitCount_9 rfl, e_wp dJ10_bitCount_10 rfl, e_wp dJ10_bitCount_11 rfl, e_wp dJ10_bitCount_14 rfl, e_wp dJ10_bitCount_15 rfl, e_wp dJ10_bitCount_16 rfl, e_wp dJ10_bitCount_17 rfl, e_wp dJ10_bitCount_18 rfl, e_wp dJ10_bitCount_21 rfl, e_wp dJ10_bitCount_22 rfl, e_wp dJ10_bitCount_23 rfl, e_wp dJ10_bitCount_24 rfl, e_wp dJ10_bitCount_25 rfl, e_wp dJ10_bitCount_26 rfl, e_wp dJ10_bitCount_27 rfl, e_wp dJ10_bitCount_28 rfl, e_wp dJ10_bitCount_29 rfl, e_wp dJ10_bitCount_32 rfl, e_wp dJ10_bitCount_33 rfl, e_wp dJ10_bitCount_34 rfl, e_wp dJ10_bitCount_35 rfl, e_wp dJ10_bitCount_36 rfl, e_wp dJ10_bitCount_38 rfl, e_wp dJ10_bitCount_39 rfl, e_wp dJ10_bitCount_40 rfl, e_wp dJ10_bitCount_41 rfl, e_wp dJ10_bitCount_42 rfl, e_wp dJ10_bitCount_43 rfl, e_wp dJ10_bitCount_45 rfl, e_wp dJ10_bitCount_46 rfl, e_wp dJ10_bitCount_47 rfl, e_wp dJ10_bitCount_48 rfl, e_wp dJ10_bitCount_49 rfl, e_wp dJ10_bitCount_51 rfl, e_wp dJ10_bitCount_52 rfl, kI10_265, kI10_266, kI10_267, e_iconst, e_bipush, e_sipush, e_lconst_0, e_lconst_1, e_iload, e_iload_0, e_iload_1, e_iload_2, e_iload_3, e_lload, e_lload_0, e_lload_1, e_lload_2, e_lload_3, e_aload, e_aload_0, e_aload_1, e_aload_2, e_aload_3, e_istore, e_istore_0, e_istore_1, e_istore_2, e_istore_3, e_astore, e_astore_0, e_astore_1, e_astore_2, e_astore_3, e_lstore, e_lstore_0, e_lstore_1, e_lstore_2, e_lstore_3, e_iinc, e_iadd, e_isub, e_imul, e_ladd, e_lsub, e_lmul, e_idiv, e_irem, e_ldiv, e_lrem, e_ineg, e_lneg, e_iand, e_ior, e_ixor, e_ishl, e_ishr, e_iushr, e_lcmp, e_i2l, e_l2i, e_i2b, e_i2s, e_dup_i, e_dup_r, e_pop_i, e_pop_r, e_dup2_l, e_dup2_ir, e_dup2_ii, e_ifeq, e_ifne, e_iflt, e_ifge, e_ifgt, e_ifle, e_iceq, e_icne, e_iclt, e_icge, e_icgt, e_icle, e_goto, e_switch, e_invokevirtual, e_invokestatic, e_invokespecial, e_ret0, e_ret1, e_ret2, e_ret3, ldI_s, ldL_s, ldR_s, clO_s, ctP_s, ctS_s, mgo_0, mgo_s, pjc_s, pj_0, pj_s, lk_s, rm1_0, rm1_i, rm1_r, rm1_l, rm2_0, rm2_i, rm2_r, rm2_l, csL_s, lc_lt, lc_ge, lc_gt, lc_le, lc_eq, b01_0, b01_1, b01_01, b01_n, up2_o, up2_s, up2_u, ne_eq, reduceCtorEq, Nat.reduceAdd, Nat.reduceEqDiff, Nat.reduceLT, Nat.reduceLeDiff, Int.reduceLE, Int.reduceLT, Int.reduceAdd, Int.reduceNeg, Int.reduceMul, Int.reduceSub, Int.reduceEq, Int.reduceToNat, Int.reduceNatCast, Int.cast_ofNat_Int, ↓reduceIte, and_self, List.drop_succ_cons, List.drop_zero, List.take_succ_cons, List.take_zero, List.length_cons, List.length_nil, List.reverse_cons, List.reverse_nil, List.nil_append, List.cons_append, Option.toList, true_and, and_true, or_false, false_or, or_true, true_or, forall_const, Classical.not_not, not_false_eq_true, not_true_eq_false, false_implies, true_implies, implies_true, imp_self]
  exact ⟨b1, b2, b3, b4, b5, qeq hQ b6.symm⟩
set_option maxHeartbeats 4000000 in
set_option maxRecDepth 100000 in
theorem mI10_bitCount {rs : List (Nat × Nat)} : MOK cl8 (sh8 rs) tyl8 Nws8 0 yJ10_bitCount cJ10_bitCount 1 (some .int) (spI10_bitCount rs) := by
  refine mok_of (own := RJ10) (tb := tbI10 (csL (csI10_bitCount rs))) (rt := 1) (fuel := 400) (fun avs M Q => []) (by decide) rfl nws8_ok (tbOKI10 _) rfl (csL_all ?_) ?_ ?_ ?_
  · intro q hq; cases hq
  · intro avs M Q hsp
    obtain ⟨xs, hx⟩ := spF_un _ _ _ hsp
    obtain ⟨e, hl⟩ := unA_mk hx
    obtain ⟨x, rfl⟩ := len1 hl
    have e : avs = [ai x] := e
    subst e
    simp [szL, isL]
  · intro avs M Q hM hav hsp
    obtain ⟨xs, hx⟩ := spF_un _ _ _ hsp
    obtain ⟨e, hl⟩ := unA_mk hx
    obtain ⟨x, rfl⟩ := len1 hl
    have e : avs = [ai x] := e
    subst e
    exact inI10_bitCount hM (hav (ai x) (by simp)) hsp.1 hsp.2
  · intro avs M Q hM hav hsp q hq m_ vs M1 hM1 hv hJ
    obtain ⟨xs, hx⟩ := spF_un _ _ _ hsp
    obtain ⟨e, hl⟩ := unA_mk hx
    obtain ⟨x, rfl⟩ := len1 hl
    have e : avs = [ai x] := e
    subst e
    cases hq
abbrev P0_mmax (rs : List (Nat × Nat)) (x y : Int) (M : Mm) : Prop := True
abbrev V0_mmax (rs : List (Nat × Nat)) (x y : Int) (M : Mm) : Int := if x < y then y else x
def sp0_mmax (rs : List (Nat × Nat)) : Spec := spF false [0, 0] 1 (fun x M => P0_mmax rs (x 0) (x 1) M) (fun x M => V0_mmax rs (x 0) (x 1) M)
theorem c0_mmax {rs : List (Nat × Nat)} {x y : Int} {M : Mm} {Q : Option AV → Mm → Prop} : sp0_mmax rs [ai x, ai y] M Q = (P0_mmax rs x y M ∧ Q (some (ai (V0_mmax rs x y M))) M) := rfl
theorem cg0_mmax {rs : List (Nat × Nat)} {lvl : Nat} (h : 0 < lvl) : CG RX0 cl8 (sh8 rs) tyl8 Nws8 lvl 0 225 2 (sp0_mmax rs) := by
  refine ⟨spF_mono, ?_⟩
  intro p l e R s m args below meth c Q cc D A ad ca nL c0 s0 F hml hA hfr hlo hcs pc lv st M hdg hle hspec ls H locs hr
  obtain ⟨xs, e2⟩ := spF_un _ _ _ hspec
  obtain ⟨e3, hl5⟩ := unA_mk e2
  obtain ⟨x, y, rfl⟩ := len2 hl5
  have est := take_rev e3
  have hsp : sp0_mmax rs [ai x, ai y] M _ := e3 ▸ hspec
  rw [c0_mmax] at hsp
  obtain ⟨-, k⟩ := hsp
  have hst : st = ai y :: ai x :: st.drop 2 := est
  have hv := hr.2.2.2.2.2.2
  rw [hst] at hv
  have hy : i32 y := ok_h hv
  have hx : i32 x := ok_h (ok_t hv)
  have e5 : st.map (cz ad) = .int (Int32.ofInt y) :: .int (Int32.ofInt x) :: (st.drop 2).map (cz ad) := by
    conv => lhs; rw [hst]
    rfl
  rw [e5]
  have e6 : (if Int32.ofInt x < Int32.ofInt y then Int32.ofInt y else Int32.ofInt x) = Int32.ofInt (V0_mmax rs x y M) := by
    show _ = Int32.ofInt (if x < y then y else x)
    by_cases q : x < y
    · rw [if_pos ((n_lt hx hy).mpr q), if_pos q]
    · rw [if_neg (fun z => q ((n_lt hx hy).mp z)), if_neg q]
  have hrm := room4 (ad := ad) hle
  refine va_mmax F.1 F.2.1 (hml.trans hr.1.1.symm) F.2.2.1 (F.2.2.2.1 _ q835) (F.2.2.2.1 _ q836) (F.2.2.2.1 _ q142) (F.2.2.2.1 _ q837) (by omega) (by omega) hcs.1 hcs.2 hdg ?_
  rw [e6]
  refine k ls H locs (rel_st hr (ok_c ?_ (ok_t (ok_t hv))))
  show i32 (if x < y then y else x)
  split <;> assumption
abbrev P0_mmin (rs : List (Nat × Nat)) (x y : Int) (M : Mm) : Prop := True
abbrev V0_mmin (rs : List (Nat × Nat)) (x y : Int) (M : Mm) : Int := if y < x then y else x
def sp0_mmin (rs : List (Nat × Nat)) : Spec := spF false [0, 0] 1 (fun x M => P0_mmin rs (x 0) (x 1) M) (fun x M => V0_mmin rs (x 0) (x 1) M)
theorem c0_mmin {rs : List (Nat × Nat)} {x y : Int} {M : Mm} {Q : Option AV → Mm → Prop} : sp0_mmin rs [ai x, ai y] M Q = (P0_mmin rs x y M ∧ Q (some (ai (V0_mmin rs x y M))) M) := rfl
theorem cg0_mmin {rs : List (Nat × Nat)} {lvl : Nat} (h : 0 < lvl) : CG RX0 cl8 (sh8 rs) tyl8 Nws8 lvl 0 297 2 (sp0_mmin rs) := by
  refine ⟨spF_mono, ?_⟩
  intro p l e R s m args below meth c Q cc D A ad ca nL c0 s0 F hml hA hfr hlo hcs pc lv st M hdg hle hspec ls H locs hr
  obtain ⟨xs, e2⟩ := spF_un _ _ _ hspec
  obtain ⟨e3, hl5⟩ := unA_mk e2
  obtain ⟨x, y, rfl⟩ := len2 hl5
  have est := take_rev e3
  have hsp : sp0_mmin rs [ai x, ai y] M _ := e3 ▸ hspec
  rw [c0_mmin] at hsp
  obtain ⟨-, k⟩ := hsp
  have hst : st = ai y :: ai x :: st.drop 2 := est
  have hv := hr.2.2.2.2.2.2
  rw [hst] at hv
  have hy : i32 y := ok_h hv
  have hx : i32 x := ok_h (ok_t hv)
  have e5 : st.map (cz ad) = .int (Int32.ofInt y) :: .int (Int32.ofInt x) :: (st.drop 2).map (cz ad) := by
    conv => lhs; rw [hst]
    rfl
  rw [e5]
  have e6 : (if Int32.ofInt y < Int32.ofInt x then Int32.ofInt y else Int32.ofInt x) = Int32.ofInt (V0_mmin rs x y M) := by
    show _ = Int32.ofInt (if y < x then y else x)
    by_cases q : y < x
    · rw [if_pos ((n_lt hy hx).mpr q), if_pos q]
    · rw [if_neg (fun z => q ((n_lt hy hx).mp z)), if_neg q]
  have hrm := room4 (ad := ad) hle
  refine va_mmin F.1 F.2.1 (hml.trans hr.1.1.symm) F.2.2.1 (F.2.2.2.1 _ q996) (F.2.2.2.1 _ q538) (F.2.2.2.1 _ q142) (F.2.2.2.1 _ q539) (by omega) (by omega) hcs.1 hcs.2 hdg ?_
  rw [e6]
  refine k ls H locs (rel_st hr (ok_c ?_ (ok_t (ok_t hv))))
  show i32 (if y < x then y else x)
  split <;> assumption
abbrev P0_mabs (rs : List (Nat × Nat)) (x : Int) (M : Mm) : Prop := -9223372036854775808 < x
abbrev V0_mabs (rs : List (Nat × Nat)) (x : Int) (M : Mm) : Int := if 0 < x then x else -x
def sp0_mabs (rs : List (Nat × Nat)) : Spec := spF false [1] 2 (fun x M => P0_mabs rs (x 0) M) (fun x M => V0_mabs rs (x 0) M)
theorem c0_mabs {rs : List (Nat × Nat)} {x : Int} {M : Mm} {Q : Option AV → Mm → Prop} : sp0_mabs rs [al x] M Q = (P0_mabs rs x M ∧ Q (some (al (V0_mabs rs x M))) M) := rfl
theorem cg0_mabs {rs : List (Nat × Nat)} {lvl : Nat} (h : 0 < lvl) : CG RX0 cl8 (sh8 rs) tyl8 Nws8 lvl 0 387 1 (sp0_mabs rs) := by
  refine ⟨spF_mono, ?_⟩
  intro p l e R s m args below meth c Q cc D A ad ca nL c0 s0 F hml hA hfr hlo hcs pc lv st M hdg hle hspec ls H locs hr
  obtain ⟨xs, e2⟩ := spF_un _ _ _ hspec
  obtain ⟨e3, hl5⟩ := unA_mk e2
  obtain ⟨x, rfl⟩ := len1 hl5
  have est := take_rev e3
  have hsp : sp0_mabs rs [al x] M _ := e3 ▸ hspec
  rw [c0_mabs] at hsp
  obtain ⟨hx0, k⟩ := hsp
  have hx0 : -9223372036854775808 < x := hx0
  have hst : st = al x :: st.drop 1 := est
  have hv := hr.2.2.2.2.2.2
  rw [hst] at hv
  have hx : i64 x := ok_h hv
  have e5 : st.map (cz ad) = .long (Int64.ofInt x) :: (st.drop 1).map (cz ad) := by
    conv => lhs; rw [hst]
    rfl
  rw [e5]
  have e6 : (if 0 < Int64.ofInt x then Int64.ofInt x else -Int64.ofInt x) = Int64.ofInt (V0_mabs rs x M) := by
    show _ = Int64.ofInt (if 0 < x then x else -x)
    have e0 : (0 : Int64) = Int64.ofInt 0 := rfl
    by_cases q : 0 < x
    · rw [if_pos (by rw [e0]; exact (l_lt l_0 hx).mpr q), if_pos q]
    · rw [if_neg (fun z => q ((l_lt l_0 hx).mp (by rw [e0] at z; exact z))), if_neg q, Int64.ofInt_neg]
  have hrm := room4 (ad := ad) hle
  refine va_mabs_long F.1 F.2.1 (hml.trans hr.1.1.symm) F.2.2.1 (F.2.2.2.1 _ q1203) (F.2.2.2.1 _ q1204) (F.2.2.2.1 _ q142) (F.2.2.2.1 _ q1205) (by omega) (by omega) hcs.1 hcs.2 hdg ?_
  rw [e6]
  refine k ls H locs (rel_st hr (ok_c ?_ (ok_t hv)))
  show i64 (if 0 < x then x else -x)
  unfold i64 at *
  split <;> omega
abbrev P0_bits (rs : List (Nat × Nat)) (x : Int) (M : Mm) : Prop := 0 ≤ x ∧ x < 128
abbrev V0_bits (rs : List (Nat × Nat)) (x : Int) (M : Mm) : Int := szP x
abbrev sp0_bits (rs : List (Nat × Nat)) : Spec := spI10_bitCount rs
theorem c0_bits {rs : List (Nat × Nat)} {x : Int} {M : Mm} {Q : Option AV → Mm → Prop} : sp0_bits rs [ai x] M Q = (P0_bits rs x M ∧ Q (some (ai (V0_bits rs x M))) M) := rfl
theorem cg0_bits {rs : List (Nat × Nat)} {lvl : Nat} (h : 0 < lvl) : CG RX0 cl8 (sh8 rs) tyl8 Nws8 lvl 0 300 1 (sp0_bits rs) := cg_S (sg := [0]) nws8_ok spF_mono spF_un mI10_bitCount h rfl (by decide) ⟨by decide, by decide, rfl⟩ q997 q998 q151 q999
/-! arraycopy between rows of ints -/
def cpM (M : Mm) (s sp d dp n : Nat) : Mm := fun k j => if k = d ∧ dp ≤ j ∧ j < dp + n then M s (sp + (j - dp)) else M k j
theorem wl_cp {ca : Nat → ClassId} {ad : Nat → Nat} {sh : List SC} {M : Mm} {s sp d dp n : Nat} {t n1 : Nat} (h : sh[d]? = some (.inr (t, n1))) (ht : ¬ t = 1) (ht5 : ¬ 5 ≤ t) : wl ca ad sh (cpM M s sp d dp n) = (wl ca ad sh M).set d (ad d, .inl (ca t, n1, .inl (va_cpy (fun j => Int32.ofInt (M s j)) (fun j => Int32.ofInt (M d j)) sp dp n))) := by
  have hl : d < sh.length := (List.getElem?_eq_some_iff.mp h).1
  refine List.ext_getElem? fun i => ?_
  by_cases hi : i = d
  · subst hi
    rw [wl_get h, List.getElem?_set_self (by unfold wl; rw [List.length_mapIdx]; exact hl), wc_i ht ht5]
    have e : (fun j => Int32.ofInt (cpM M s sp i dp n i j)) = va_cpy (fun j => Int32.ofInt (M s j)) (fun j => Int32.ofInt (M i j)) sp dp n := by
      funext j
      unfold va_cpy cpM
      by_cases hj : dp ≤ j ∧ j < dp + n
      · simp [hj]
      · simp [hj]
    rw [e]
  · rw [List.getElem?_set_ne (Ne.symm hi)]
    unfold wl
    rw [List.getElem?_mapIdx, List.getElem?_mapIdx]
    have e : cpM M s sp d dp n i = M i := by
      funext j
      unfold cpM
      simp [hi]
    rw [e]
def alen (sh : List SC) (k : Nat) : Int := match sh[k]? with
  | some (.inr (0, n)) => n
  | _ => -1
theorem alen_a {sh : List SC} {k : Nat} (h : 0 ≤ alen sh k) : ∃ n : Nat, sh[k]? = some (.inr (0, n)) ∧ alen sh k = n := by
  unfold alen at h ⊢
  split at h
  · rename_i n e; exact ⟨n, e, rfl⟩
  · omega
def P0_copy (rs : List (Nat × Nat)) (s sp d dp n : Int) (M : Mm) : Prop := (0 ≤ sp ∧ 0 ≤ dp ∧ 0 ≤ n ∧ sp + n ≤ alen (sh8 rs) s.toNat) ∧ dp + n ≤ alen (sh8 rs) d.toNat
def R0_copy (rs : List (Nat × Nat)) (s sp d dp n : Int) (M M1 : Mm) : Prop := M1 = cpM M s.toNat sp.toNat d.toNat dp.toNat n.toNat
def sp0_copy (rs : List (Nat × Nat)) : Spec := spV false [2, 0, 2, 0, 0] (fun x M => P0_copy rs (x 0) (x 1) (x 2) (x 3) (x 4) M) (fun x M M1 => R0_copy rs (x 0) (x 1) (x 2) (x 3) (x 4) M M1)
theorem c0_copy {rs : List (Nat × Nat)} {s d : Nat} {sp dp n : Int} {M : Mm} {Q : Option AV → Mm → Prop} : sp0_copy rs [ar s, ai sp, ar d, ai dp, ai n] M Q = (P0_copy rs (s : Int) sp (d : Int) dp n M ∧ ∀ M1, R0_copy rs (s : Int) sp (d : Int) dp n M M1 → Q none M1) := rfl
theorem cg_cp {own : String} {cl : List vw_C} {rs : List (Nat × Nat)} {tyl : List (Nat × FieldType)} {Nws : List Cond} {lvl x : Nat} (h : 0 < lvl) (hT : (0, FieldType.int) ∈ tyl) (hl : Cond.methodLink own x arraycopyName ∈ lw_all) : CG own cl (sh8 rs) tyl Nws lvl 0 x 5 (sp0_copy rs) := by
  refine ⟨spV_mono, ?_⟩
  intro p l e R s m args below meth c Q cc D A ad ca nL c0 s0 F hml hA hfr hlo hcs pc lv st M hdg hle hspec ls H locs hr
  obtain ⟨xs, e2⟩ := spV_un _ _ _ hspec
  obtain ⟨e3, hl5⟩ := unA_mk e2
  obtain ⟨a0, a1, a2, a3, a4, rfl⟩ := len5 hl5
  have est := take_rev e3
  have hsp : sp0_copy rs [ar a0.toNat, ai a1, ar a2.toNat, ai a3, ai a4] M _ := e3 ▸ hspec
  rw [c0_copy] at hsp
  obtain ⟨⟨⟨p1, p2, p3, p4⟩, p5⟩, k⟩ := hsp
  rw [Int.toNat_natCast] at p4 p5
  obtain ⟨n0, s0, f0⟩ := alen_a (show 0 ≤ alen (sh8 rs) a0.toNat by omega)
  obtain ⟨n1, s1, f1⟩ := alen_a (show 0 ≤ alen (sh8 rs) a2.toNat by omega)
  rw [f0] at p4
  rw [f1] at p5
  have hst : st = ai a4 :: ai a3 :: ar a2.toNat :: ai a1 :: ar a0.toNat :: st.drop 5 := est
  have hv := hr.2.2.2.2.2.2
  rw [hst] at hv
  have hv4 : i32 a4 := ok_h hv
  have hv3 : i32 a3 := ok_h (ok_t hv)
  have hv1 : i32 a1 := ok_h (ok_t (ok_t (ok_t hv)))
  have hvd : ∀ v ∈ st.drop 5, okV v := ok_t (ok_t (ok_t (ok_t (ok_t hv))))
  obtain ⟨t0, ht0⟩ := ty_at (ca := ca) hT
  have w0 := wl_get (ca := ca) (ad := ad) (M := M) s0
  have w1 := wl_get (ca := ca) (ad := ad) (M := M) s1
  rw [wc_i (by decide) (by decide)] at w0 w1
  obtain ⟨hx, hb, hown, hts, hN, hK⟩ := F
  have neg : ∀ z : Int, i32 z → 0 ≤ z → ¬ Int32.ofInt z < 0 := by
    intro z hz h0 hc
    have := (n_lt hz n_0).mp hc
    omega
  have e5 : st.map (cz ad) = .int (Int32.ofInt a4) :: .int (Int32.ofInt a3) :: .ref (ad a2.toNat) :: .int (Int32.ofInt a1) :: .ref (ad a0.toNat) :: (st.drop 5).map (cz ad) := by
    conv => lhs; rw [hst]
    rfl
  rw [e5]
  obtain ⟨r1, r2, r3, r4, r5, r6, r7⟩ := hr
  refine va_copyi hx hb (hml.trans r1.1.symm) hown (hts _ hl) (hts _ q795) (hts _ q794) (hts _ q150) hK r2 r3 r4 a0.toNat a2.toNat t0 t0 w0 w1 ht0 ht0 rfl (neg _ hv1 p1) (neg _ hv3 p2) (neg _ hv4 p3) (by rw [n_cl hv1, n_cl hv4]; omega) (by rw [n_cl hv3, n_cl hv4]; omega) (fun _ _ => rfl) (by omega) ?_ hdg ?_
  · have := room4 (ad := ad) hle
    have e6 : nativeFrameWords "java/lang/System" "arraycopy" 5 + 11 ≤ 56 := by decide
    omega
  · intro H1 locs1 b1 b2 b3
    rw [n_cl hv1, n_cl hv3, n_cl hv4, ← wl_cp s1 (by decide) (by decide)] at b1 b2
    have hk := k _ rfl
    rw [Int.toNat_natCast, Int.toNat_natCast] at hk
    refine hk ls H1 locs1 ⟨r1, b1, b2, b3, ?_, r6, hvd⟩
    intro kk cc2 hc2
    by_cases hkk : kk = a2.toNat
    · subst hkk
      rw [s1] at hc2
      cases hc2
      intro j
      show i32 (cpM M a0.toNat a1.toNat a2.toNat a3.toNat a4.toNat a2.toNat j)
      unfold cpM
      split
      · exact r5 _ _ s0 _
      · exact r5 _ _ s1 j
    · have e7 : cpM M a0.toNat a1.toNat a2.toNat a3.toNat a4.toNat kk = M kk := by
        funext j
        unfold cpM
        simp [hkk]
      rw [e7]
      exact r5 _ _ hc2
theorem cg0_copy {rs : List (Nat × Nat)} {lvl : Nat} (h : 0 < lvl) : CG RX0 cl8 (sh8 rs) tyl8 Nws8 lvl 0 194 5 (sp0_copy rs) := cg_cp h (by decide) q793
