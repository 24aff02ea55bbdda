def vq (D : va_G) (cl : List vw_C) (tyl : List (Nat × FieldType)) (ad : Nat → Nat) (ca : Nat → ClassId) (sh : List SC) (A : Nat → Prop) (ret : Option AV → Mm → Prop) : Array Value → State → Outcome → State → Prop := fun _ st oc t =>
  (∃ (r : Option AV) (M' : Mm), oc = .returned (r.map (cz ad)) ∧ ret r M' ∧ (∀ v ∈ r.toList, okV v) ∧ okM sh M' ∧ va_P D cl (wl ca ad sh M') t.heap ∧ va_K D cl (tys_ ca tyl) t ∧ va_D A (wl ca ad sh M')) ∧ va_F A st t
def rtOK (rt : Nat) (ty : Option FieldType) : Prop := match rt with
  | 0 => ty = none
  | 1 => ty = some .int
  | 2 => ty = some .boolean
  | 3 => ty = some .long
  | 4 => ∃ C, ty = some (.object C)
  | _ => False
section STEP
variable {p : Program} {l : Launch} {e : Env} {R : Room} {s : State} {m : MethodId} {args : Array Value} {below : List Frame} {meth : Method} {c : Code}
variable {cc : ByteArray} {D : va_G} {cl : List vw_C} {A : Nat → Prop} {ad : Nat → Nat} {ca : Nat → ClassId} {tyl : List (Nat × FieldType)} {sh : List SC} {own : String} {Nws : List Cond} {nL rt c0 s0 : Nat} {tb : TB}
theorem z32 : (0 : Int32) = Int32.ofInt 0 := rfl
set_option maxHeartbeats 4000000 in
theorem step_snd {pc len : Nat} {i : Instr} {nxt : K0} {jmp : Int → K0} {ret : Option AV → Mm → Prop} {Q : State → Prop} (hR : ∀ (H : Heap) (locs : List Loc) (g : JFrame), W p l e R s m args below meth c H locs c0 s0 (MQ below (vq D cl tyl ad ca sh A ret) args s c0 s0 A) g → W p l e R s m args below meth c H locs c0 s0 Q g) (F : fx p s m args c cc D cl ca tyl own Nws) (hT : tbOK own Nws cl sh tyl tb) (hrt : rtOK rt meth.sig.returnType) (hlocks : meth.locks = false)
    (hd : decode cc pc = .ok (i, len)) (hi : iok pc i len = true)
    (hn : ∀ lv st M, nxt lv st M → snW p l e R s m args below meth c Q D cl A ad ca sh nL c0 s0 (pc + len) lv st M)
    (hj : ∀ off lv st M, jmp off lv st M → snW p l e R s m args below meth c Q D cl A ad ca sh nL c0 s0 ((pc : Int) + off).toNat lv st M)
    (hc : ∀ x vt n sp, tb.2.2.2.2 x = some (vt, n, sp) → mono sp ∧ cOK p l e R s m args below meth c Q D cl A ad ca sh nL c0 s0 cc vt x n sp)
    (lv : LV) (st : List AV) (M : Mm) (h : sem tb sh nL rt i nxt jmp ret lv st M) : snW p l e R s m args below meth c Q D cl A ad ca sh nL c0 s0 pc lv st M := by
  have hx := F.1
  have hb := F.2.1
  have hown := F.2.2.1
  have hts := F.2.2.2.1
  have hK := F.2.2.2.2.2
  unfold sem at h
  split at h
  · rename_i n
    obtain rfl : len = 1 := by simpa [iok] using hi
    by_cases q : -128 ≤ n ∧ n ≤ 127
    · rw [if_pos q] at h
      intro ls H locs hr
      exact lv_iconst hx hb hd rfl (hn _ _ _ h ls H locs (rel_st hr (ok_c (show i32 n by unfold i32; omega) hr.2.2.2.2.2.2)))
    · rw [if_neg q] at h; exact h.elim
  · rename_i n
    obtain rfl : len = 2 := by simpa [iok] using hi
    by_cases q : -128 ≤ n ∧ n ≤ 127
    · rw [if_pos q] at h
      intro ls H locs hr
      exact lv_bipush hx hb hd (n_8 q) (hn _ _ _ h ls H locs (rel_st hr (ok_c (show i32 n by unfold i32; omega) hr.2.2.2.2.2.2)))
    · rw [if_neg q] at h; exact h.elim
  · rename_i n
    obtain rfl : len = 3 := by simpa [iok] using hi
    by_cases q : -32768 ≤ n ∧ n ≤ 32767
    · rw [if_pos q] at h
      intro ls H locs hr
      exact lv_sipush hx hb hd (n_16 q) (hn _ _ _ h ls H locs (rel_st hr (ok_c (show i32 n by unfold i32; omega) hr.2.2.2.2.2.2)))
    · rw [if_neg q] at h; exact h.elim
  · rename_i n
    obtain rfl : len = 1 := by simpa [iok] using hi
    intro ls H locs hr
    exact lv_lconst hx hb hd (by rw [← Int64.ofInt_eq_ofNat]) (hn _ _ _ h ls H locs (rel_st hr (ok_c (show i64 (n.val : Int) by unfold i64; omega) hr.2.2.2.2.2.2)))
  · rename_i x
    obtain rfl : len = 2 := by simpa [iok] using hi
    split at h
    · rename_i v heq
      obtain ⟨h1, h2⟩ := hT.2.2.1 x v heq
      intro ls H locs hr
      exact lv_ldc hx hb hown (hts _ h2) hd (hn _ _ _ h ls H locs (rel_st hr (ok_c h1 hr.2.2.2.2.2.2)))
    · exact h.elim
  · rename_i x
    obtain rfl : len = 3 := by simpa [iok] using hi
    split at h
    · rename_i v heq
      obtain ⟨h1, h2⟩ := hT.2.2.1 x v heq
      intro ls H locs hr
      exact lv_ldcw hx hb hown (hts _ h2) hd (hn _ _ _ h ls H locs (rel_st hr (ok_c h1 hr.2.2.2.2.2.2)))
    · exact h.elim
  · rename_i x
    obtain rfl : len = 3 := by simpa [iok] using hi
    split at h
    · rename_i v heq
      obtain ⟨h1, h2⟩ := hT.2.2.2.1 x v heq
      intro ls H locs hr
      exact lv_ldc2 hx hb hown (hts _ h2) hd (hn _ _ _ h ls H locs (rel_st hr (ok_c h1 hr.2.2.2.2.2.2)))
    · exact h.elim
  · rename_i k
    obtain rfl : len = 1 := by simpa [iok] using hi
    split at h
    · rename_i x heq
      intro ls H locs hr
      exact lv_iload_n hx hb hd rfl (lv_lk hr.1 heq) (hn _ _ _ h ls H locs (rel_st hr (ok_c (ok_lk hr.2.2.2.2.2.1 heq) hr.2.2.2.2.2.2)))
    · exact h.elim
  · rename_i k
    obtain rfl : len = 2 := by simpa [iok] using hi
    split at h
    · rename_i x heq
      intro ls H locs hr
      exact lv_iload hx hb hd (lv_lk hr.1 heq) (hn _ _ _ h ls H locs (rel_st hr (ok_c (ok_lk hr.2.2.2.2.2.1 heq) hr.2.2.2.2.2.2)))
    · exact h.elim
  · rename_i k
    obtain rfl : len = 1 := by simpa [iok] using hi
    split at h
    · rename_i x heq
      intro ls H locs hr
      exact lv_lload_n hx hb hd rfl (lv_lk hr.1 heq) (hn _ _ _ h ls H locs (rel_st hr (ok_c (ok_lk hr.2.2.2.2.2.1 heq) hr.2.2.2.2.2.2)))
    · exact h.elim
  · rename_i k
    obtain rfl : len = 2 := by simpa [iok] using hi
    split at h
    · rename_i x heq
      intro ls H locs hr
      exact lv_lload hx hb hd (lv_lk hr.1 heq) (hn _ _ _ h ls H locs (rel_st hr (ok_c (ok_lk hr.2.2.2.2.2.1 heq) hr.2.2.2.2.2.2)))
    · exact h.elim
  · rename_i k
    obtain rfl : len = 1 := by simpa [iok] using hi
    split at h
    · rename_i x heq
      intro ls H locs hr
      exact lv_aload_n hx hb hd rfl (lv_lk hr.1 heq) (hn _ _ _ h ls H locs (rel_st hr (ok_c (ok_lk hr.2.2.2.2.2.1 heq) hr.2.2.2.2.2.2)))
    · exact h.elim
  · rename_i k
    obtain rfl : len = 2 := by simpa [iok] using hi
    split at h
    · rename_i x heq
      intro ls H locs hr
      exact lv_aload hx hb hd (lv_lk hr.1 heq) (hn _ _ _ h ls H locs (rel_st hr (ok_c (ok_lk hr.2.2.2.2.2.1 heq) hr.2.2.2.2.2.2)))
    · exact h.elim
  · rename_i k x st
    obtain rfl : len = 1 := by simpa [iok] using hi
    by_cases q : k.val < nL
    · rw [if_pos q] at h
      intro ls H locs hr
      exact lv_istore_n hx hb hd rfl hr.1 q rfl (fun ls' h' => hn _ _ _ h ls' H locs (rel_s1 hr h'))
    · rw [if_neg q] at h; exact h.elim
  · rename_i k x st
    obtain rfl : len = 2 := by simpa [iok] using hi
    by_cases q : k < nL
    · rw [if_pos q] at h
      intro ls H locs hr
      exact lv_istore hx hb hd hr.1 q rfl (fun ls' h' => hn _ _ _ h ls' H locs (rel_s1 hr h'))
    · rw [if_neg q] at h; exact h.elim
  · rename_i k x st
    obtain rfl : len = 1 := by simpa [iok] using hi
    by_cases q : k.val < nL
    · rw [if_pos q] at h
      intro ls H locs hr
      exact lv_astore_n hx hb hd rfl hr.1 q rfl (fun ls' h' => hn _ _ _ h ls' H locs (rel_s1 hr h'))
    · rw [if_neg q] at h; exact h.elim
  · rename_i k x st
    obtain rfl : len = 2 := by simpa [iok] using hi
    by_cases q : k < nL
    · rw [if_pos q] at h
      intro ls H locs hr
      exact lv_astore hx hb hd hr.1 q rfl (fun ls' h' => hn _ _ _ h ls' H locs (rel_s1 hr h'))
    · rw [if_neg q] at h; exact h.elim
  · rename_i k x st
    obtain rfl : len = 1 := by simpa [iok] using hi
    by_cases q : k.val + 1 < nL
    · rw [if_pos q] at h
      intro ls H locs hr
      exact lv_lstore_n hx hb hd rfl hr.1 q rfl (fun ls' h' => hn _ _ _ h ls' H locs (rel_s2 hr h'))
    · rw [if_neg q] at h; exact h.elim
  · rename_i k x st
    obtain rfl : len = 2 := by simpa [iok] using hi
    by_cases q : k + 1 < nL
    · rw [if_pos q] at h
      intro ls H locs hr
      exact lv_lstore hx hb hd hr.1 q rfl (fun ls' h' => hn _ _ _ h ls' H locs (rel_s2 hr h'))
    · rw [if_neg q] at h; exact h.elim
  · rename_i k n
    obtain rfl : len = 3 := by simpa [iok] using hi
    split at h
    · rename_i x heq
      by_cases q : k < nL
      · rw [if_pos q] at h
        obtain ⟨h1, h⟩ := h
        intro ls H locs hr
        obtain ⟨j, hj0⟩ := List.getElem?_of_mem (List.mem_map.mpr ⟨(k, .inl x), lk_mem heq, rfl⟩ : (k, cz ad (.inl x)) ∈ czl ad lv)
        exact lv_iinc hx hb hd hr.1 hj0 (v := Int32.ofInt (x + n)) (Int32.ofInt_add x n).symm q rfl (fun ls' h' => hn _ _ _ h ls' H locs (rel_s1 (v := .inl (x + n)) (rel_st hr (ok_c (show okV (.inl (x + n)) from h1) hr.2.2.2.2.2.2)) h'))
      · rw [if_neg q] at h; exact h.elim
    · exact h.elim
  · rename_i y x st
    obtain rfl : len = 1 := by simpa [iok] using hi
    obtain ⟨h1, h⟩ := h
    intro ls H locs hr
    have hv := hr.2.2.2.2.2.2
    refine lv_iadd hx hb hd ?_
    rw [← Int32.ofInt_add]
    exact hn _ _ _ h ls H locs (rel_st hr (ok_c h1 (ok_t (ok_t hv))))
  · rename_i y x st
    obtain rfl : len = 1 := by simpa [iok] using hi
    obtain ⟨h1, h⟩ := h
    intro ls H locs hr
    have hv := hr.2.2.2.2.2.2
    refine lv_isub hx hb hd ?_
    rw [← Int32.ofInt_sub]
    exact hn _ _ _ h ls H locs (rel_st hr (ok_c h1 (ok_t (ok_t hv))))
  · rename_i y x st
    obtain rfl : len = 1 := by simpa [iok] using hi
    obtain ⟨h1, h⟩ := h
    intro ls H locs hr
    have hv := hr.2.2.2.2.2.2
    refine lv_imul hx hb hd ?_
    rw [← Int32.ofInt_mul]
    exact hn _ _ _ h ls H locs (rel_st hr (ok_c h1 (ok_t (ok_t hv))))
  · rename_i y x st
    obtain rfl : len = 1 := by simpa [iok] using hi
    obtain ⟨⟨h1, h2⟩, h⟩ := h
    intro ls H locs hr
    have hv := hr.2.2.2.2.2.2
    refine lv_idiv hx hb hd (fun q => h1 ((n_eq (ok_h hv) n_0).mp (q.trans (show (0 : Int32) = Int32.ofInt 0 from rfl)))) ?_
    rw [n_div (ok_h (ok_t hv)) (ok_h hv) h2]
    exact hn _ _ _ h ls H locs (rel_st hr (ok_c (show okV _ from h2) (ok_t (ok_t hv))))
  · rename_i y x st
    obtain rfl : len = 1 := by simpa [iok] using hi
    obtain ⟨⟨h1, h2⟩, h⟩ := h
    intro ls H locs hr
    have hv := hr.2.2.2.2.2.2
    refine lv_irem hx hb hd (fun q => h1 ((n_eq (ok_h hv) n_0).mp (q.trans (show (0 : Int32) = Int32.ofInt 0 from rfl)))) ?_
    rw [n_rem (ok_h (ok_t hv)) (ok_h hv) h2]
    exact hn _ _ _ h ls H locs (rel_st hr (ok_c (show okV _ from (tmod_rg (by omega) (by omega) (ok_h (ok_t hv)))) (ok_t (ok_t hv))))
  · rename_i x st
    obtain rfl : len = 1 := by simpa [iok] using hi
    obtain ⟨h1, h⟩ := h
    intro ls H locs hr
    have hv := hr.2.2.2.2.2.2
    refine lv_ineg hx hb hd ?_
    rw [← Int32.ofInt_neg]
    exact hn _ _ _ h ls H locs (rel_st hr (ok_c h1 (ok_t hv)))
  · rename_i y x st
    obtain rfl : len = 1 := by simpa [iok] using hi
    intro ls H locs hr
    have hv := hr.2.2.2.2.2.2
    refine lv_iand hx hb hd ?_
    rw [← Int32.ofInt_toInt (Int32.ofInt x &&& Int32.ofInt y)]
    exact hn _ _ _ h ls H locs (rel_st hr (ok_c (n_rg _) (ok_t (ok_t hv))))
  · rename_i y x st
    obtain rfl : len = 1 := by simpa [iok] using hi
    intro ls H locs hr
    have hv := hr.2.2.2.2.2.2
    refine lv_ior hx hb hd ?_
    rw [← Int32.ofInt_toInt (Int32.ofInt x ||| Int32.ofInt y)]
    exact hn _ _ _ h ls H locs (rel_st hr (ok_c (n_rg _) (ok_t (ok_t hv))))
  · rename_i y x st
    obtain rfl : len = 1 := by simpa [iok] using hi
    intro ls H locs hr
    have hv := hr.2.2.2.2.2.2
    refine lv_ixor hx hb hd ?_
    rw [← Int32.ofInt_toInt (Int32.ofInt x ^^^ Int32.ofInt y)]
    exact hn _ _ _ h ls H locs (rel_st hr (ok_c (n_rg _) (ok_t (ok_t hv))))
  · rename_i y x st
    obtain rfl : len = 1 := by simpa [iok] using hi
    intro ls H locs hr
    have hv := hr.2.2.2.2.2.2
    refine lv_ishl hx hb hd ?_
    rw [← Int32.ofInt_toInt (Int32.ofInt x <<< (Int32.ofInt y &&& 31))]
    exact hn _ _ _ h ls H locs (rel_st hr (ok_c (n_rg _) (ok_t (ok_t hv))))
  · rename_i y x st
    obtain rfl : len = 1 := by simpa [iok] using hi
    intro ls H locs hr
    have hv := hr.2.2.2.2.2.2
    refine lv_ishr hx hb hd ?_
    rw [← Int32.ofInt_toInt (Int32.ofInt x >>> (Int32.ofInt y &&& 31))]
    exact hn _ _ _ h ls H locs (rel_st hr (ok_c (n_rg _) (ok_t (ok_t hv))))
  · rename_i y x st
    obtain rfl : len = 1 := by simpa [iok] using hi
    intro ls H locs hr
    have hv := hr.2.2.2.2.2.2
    refine lv_iushr hx hb (v := Int32.ofInt (bushr x y)) hd (Int32.ofInt_toInt _).symm ?_
    exact hn _ _ _ h ls H locs (rel_st hr (ok_c (n_rg _) (ok_t (ok_t hv))))
  · rename_i y x st
    obtain rfl : len = 1 := by simpa [iok] using hi
    obtain ⟨h1, h⟩ := h
    intro ls H locs hr
    have hv := hr.2.2.2.2.2.2
    refine lv_ladd hx hb hd ?_
    rw [← Int64.ofInt_add]
    exact hn _ _ _ h ls H locs (rel_st hr (ok_c h1 (ok_t (ok_t hv))))
  · rename_i y x st
    obtain rfl : len = 1 := by simpa [iok] using hi
    obtain ⟨h1, h⟩ := h
    intro ls H locs hr
    have hv := hr.2.2.2.2.2.2
    refine lv_lsub hx hb hd ?_
    rw [← Int64.ofInt_sub]
    exact hn _ _ _ h ls H locs (rel_st hr (ok_c h1 (ok_t (ok_t hv))))
  · rename_i y x st
    obtain rfl : len = 1 := by simpa [iok] using hi
    obtain ⟨h1, h⟩ := h
    intro ls H locs hr
    have hv := hr.2.2.2.2.2.2
    refine lv_lmul hx hb hd ?_
    rw [← Int64.ofInt_mul]
    exact hn _ _ _ h ls H locs (rel_st hr (ok_c h1 (ok_t (ok_t hv))))
  · rename_i y x st
    obtain rfl : len = 1 := by simpa [iok] using hi
    obtain ⟨⟨h1, h2⟩, h⟩ := h
    intro ls H locs hr
    have hv := hr.2.2.2.2.2.2
    refine lv_ldiv hx hb hd (fun q => h1 ((l_eq (ok_h hv) l_0).mp (q.trans (show (0 : Int64) = Int64.ofInt 0 from rfl)))) ?_
    rw [l_div (ok_h (ok_t hv)) (ok_h hv) h2]
    exact hn _ _ _ h ls H locs (rel_st hr (ok_c (show okV _ from h2) (ok_t (ok_t hv))))
  · rename_i y x st
    obtain rfl : len = 1 := by simpa [iok] using hi
    obtain ⟨⟨h1, h2⟩, h⟩ := h
    intro ls H locs hr
    have hv := hr.2.2.2.2.2.2
    refine lv_lrem hx hb hd (fun q => h1 ((l_eq (ok_h hv) l_0).mp (q.trans (show (0 : Int64) = Int64.ofInt 0 from rfl)))) ?_
    rw [l_rem (ok_h (ok_t hv)) (ok_h hv) h2]
    exact hn _ _ _ h ls H locs (rel_st hr (ok_c (show okV _ from (tmod_rg (by omega) (by omega) (ok_h (ok_t hv)))) (ok_t (ok_t hv))))
  · rename_i x st
    obtain rfl : len = 1 := by simpa [iok] using hi
    obtain ⟨h1, h⟩ := h
    intro ls H locs hr
    have hv := hr.2.2.2.2.2.2
    refine lv_lneg hx hb hd ?_
    rw [← Int64.ofInt_neg]
    exact hn _ _ _ h ls H locs (rel_st hr (ok_c h1 (ok_t hv)))
  · rename_i y x st
    obtain rfl : len = 1 := by simpa [iok] using hi
    intro ls H locs hr
    have hv := hr.2.2.2.2.2.2
    refine W.lcmp hx hb hd ?_
    rw [n_lc (ok_h (ok_t hv)) (ok_h hv)]
    exact hn _ _ _ h ls H locs (rel_st hr (ok_c (n_lcr _ _) (ok_t (ok_t hv))))
  · rename_i x st
    obtain rfl : len = 1 := by simpa [iok] using hi
    intro ls H locs hr
    have hv := hr.2.2.2.2.2.2
    exact lv_i2l hx hb hd (n_l (ok_h hv)) (hn _ _ _ h ls H locs (rel_st hr (ok_c (show i64 x from i32_64 (ok_h hv)) (ok_t hv))))
  · rename_i x st
    obtain rfl : len = 1 := by simpa [iok] using hi
    intro ls H locs hr
    have hv := hr.2.2.2.2.2.2
    exact lv_l2i hx hb hd (n_l2i x) (hn _ _ _ h ls H locs (rel_st hr (ok_c (n_bm x) (ok_t hv))))
  · rename_i x st
    obtain rfl : len = 1 := by simpa [iok] using hi
    intro ls H locs hr
    have hv := hr.2.2.2.2.2.2
    exact lv_i2b hx hb hd (n_i2b x) (hn _ _ _ h ls H locs (rel_st hr (ok_c (show i32 _ by have := n_b1 x; unfold i32; omega) (ok_t hv))))
  · rename_i x st
    obtain rfl : len = 1 := by simpa [iok] using hi
    intro ls H locs hr
    have hv := hr.2.2.2.2.2.2
    exact lv_i2s hx hb hd (n_i2s x) (hn _ _ _ h ls H locs (rel_st hr (ok_c (show i32 _ by have := n_b2 x; unfold i32; omega) (ok_t hv))))
  · rename_i v st
    obtain rfl : len = 1 := by simpa [iok] using hi
    by_cases q : isL v = false
    · rw [if_pos q] at h
      intro ls H locs hr
      have hv := hr.2.2.2.2.2.2
      exact lv_dup hx hb hd (cz_c1 q) (hn _ _ _ h ls H locs (rel_st hr (ok_c (ok_h hv) hv)))
    · rw [if_neg q] at h; exact h.elim
  · rename_i v st
    obtain rfl : len = 1 := by simpa [iok] using hi
    by_cases q : isL v = false
    · rw [if_pos q] at h
      intro ls H locs hr
      have hv := hr.2.2.2.2.2.2
      exact lv_pop hx hb hd (cz_c1 q) (hn _ _ _ h ls H locs (rel_st hr (ok_t hv)))
    · rw [if_neg q] at h; exact h.elim
  · rename_i v st
    obtain rfl : len = 1 := by simpa [iok] using hi
    by_cases q : isL v = true
    · rw [if_pos q] at h
      intro ls H locs hr
      have hv := hr.2.2.2.2.2.2
      exact lv_dup2_2 hx hb hd (cz_c2 q) (hn _ _ _ h ls H locs (rel_st hr (ok_c (ok_h hv) hv)))
    · rw [if_neg q] at h
      split at h
      · rename_i w st
        by_cases q2 : isL w = false
        · rw [if_pos q2] at h
          intro ls H locs hr
          have hv := hr.2.2.2.2.2.2
          exact lv_dup2_11 hx hb hd (cz_c1 (by simpa using q)) (cz_c1 q2) (hn _ _ _ h ls H locs (rel_st hr (ok_c (ok_h hv) (ok_c (ok_h (ok_t hv)) hv))))
        · rw [if_neg q2] at h; exact h.elim
      · exact h.elim
  · rename_i cd off x st
    obtain ⟨rfl, ht0⟩ : len = 3 ∧ 0 ≤ (pc : Int) + off := by simpa [iok] using hi
    have ht : (pc : Int) + off = (((pc : Int) + off).toNat : Int) := (Int.toNat_of_nonneg ht0).symm
    obtain ⟨h1, h2⟩ := h
    intro ls H locs hr
    have hv := hr.2.2.2.2.2.2
    have ox : i32 x := ok_h hv
    cases cd
    · have eqv := (n_eq ox n_0)
      rw [← z32] at eqv
      exact lv_if_eq hx hb hd ht (fun z => hj _ _ _ _ (h1 (eqv.mp z)) ls H locs (rel_st hr (ok_t hv))) (fun z => hn _ _ _ (h2 (fun w => z (eqv.mpr w))) ls H locs (rel_st hr (ok_t hv)))
    · have eqv := (n_eq ox n_0)
      rw [← z32] at eqv
      exact lv_if_ne hx hb hd ht (fun z => hj _ _ _ _ (h1 (fun w => z (eqv.mpr w))) ls H locs (rel_st hr (ok_t hv))) (fun z => hn _ _ _ (h2 (fun w => w (eqv.mp z))) ls H locs (rel_st hr (ok_t hv)))
    · have eqv := (n_lt ox n_0)
      rw [← z32] at eqv
      exact lv_if_lt hx hb hd ht (fun z => hj _ _ _ _ (h1 (eqv.mp z)) ls H locs (rel_st hr (ok_t hv))) (fun z => hn _ _ _ (h2 (fun w => z (eqv.mpr w))) ls H locs (rel_st hr (ok_t hv)))
    · have eqv := (n_le n_0 ox)
      rw [← z32] at eqv
      exact lv_if_ge hx hb hd ht (fun z => hj _ _ _ _ (h1 (eqv.mp z)) ls H locs (rel_st hr (ok_t hv))) (fun z => hn _ _ _ (h2 (fun w => z (eqv.mpr w))) ls H locs (rel_st hr (ok_t hv)))
    · have eqv := (n_lt n_0 ox)
      rw [← z32] at eqv
      exact lv_if_gt hx hb hd ht (fun z => hj _ _ _ _ (h1 (eqv.mp z)) ls H locs (rel_st hr (ok_t hv))) (fun z => hn _ _ _ (h2 (fun w => z (eqv.mpr w))) ls H locs (rel_st hr (ok_t hv)))
    · have eqv := (n_le ox n_0)
      rw [← z32] at eqv
      exact lv_if_le hx hb hd ht (fun z => hj _ _ _ _ (h1 (eqv.mp z)) ls H locs (rel_st hr (ok_t hv))) (fun z => hn _ _ _ (h2 (fun w => z (eqv.mpr w))) ls H locs (rel_st hr (ok_t hv)))
  · rename_i cd off y x st
    obtain ⟨rfl, ht0⟩ : len = 3 ∧ 0 ≤ (pc : Int) + off := by simpa [iok] using hi
    have ht : (pc : Int) + off = (((pc : Int) + off).toNat : Int) := (Int.toNat_of_nonneg ht0).symm
    obtain ⟨h1, h2⟩ := h
    intro ls H locs hr
    have hv := hr.2.2.2.2.2.2
    have oy : i32 y := ok_h hv
    have ox : i32 x := ok_h (ok_t hv)
    cases cd
    · have eqv := (n_eq ox oy)
      exact lv_icmp_eq hx hb hd ht (fun z => hj _ _ _ _ (h1 (eqv.mp z)) ls H locs (rel_st hr (ok_t (ok_t hv)))) (fun z => hn _ _ _ (h2 (fun w => z (eqv.mpr w))) ls H locs (rel_st hr (ok_t (ok_t hv))))
    · have eqv := (n_eq ox oy)
      exact lv_icmp_ne hx hb hd ht (fun z => hj _ _ _ _ (h1 (fun w => z (eqv.mpr w))) ls H locs (rel_st hr (ok_t (ok_t hv)))) (fun z => hn _ _ _ (h2 (fun w => w (eqv.mp z))) ls H locs (rel_st hr (ok_t (ok_t hv))))
    · have eqv := (n_lt ox oy)
      exact lv_icmp_lt hx hb hd ht (fun z => hj _ _ _ _ (h1 (eqv.mp z)) ls H locs (rel_st hr (ok_t (ok_t hv)))) (fun z => hn _ _ _ (h2 (fun w => z (eqv.mpr w))) ls H locs (rel_st hr (ok_t (ok_t hv))))
    · have eqv := (n_le oy ox)
      exact lv_icmp_ge hx hb hd ht (fun z => hj _ _ _ _ (h1 (eqv.mp z)) ls H locs (rel_st hr (ok_t (ok_t hv)))) (fun z => hn _ _ _ (h2 (fun w => z (eqv.mpr w))) ls H locs (rel_st hr (ok_t (ok_t hv))))
    · have eqv := (n_lt oy ox)
      exact lv_icmp_gt hx hb hd ht (fun z => hj _ _ _ _ (h1 (eqv.mp z)) ls H locs (rel_st hr (ok_t (ok_t hv)))) (fun z => hn _ _ _ (h2 (fun w => z (eqv.mpr w))) ls H locs (rel_st hr (ok_t (ok_t hv))))
    · have eqv := (n_le ox oy)
      exact lv_icmp_le hx hb hd ht (fun z => hj _ _ _ _ (h1 (eqv.mp z)) ls H locs (rel_st hr (ok_t (ok_t hv)))) (fun z => hn _ _ _ (h2 (fun w => z (eqv.mpr w))) ls H locs (rel_st hr (ok_t (ok_t hv))))
  · rename_i off
    obtain ⟨rfl, ht0⟩ : len = 3 ∧ 0 ≤ (pc : Int) + off := by simpa [iok] using hi
    intro ls H locs hr
    exact lv_goto hx hb hd (Int.toNat_of_nonneg ht0).symm (hj _ _ _ _ h ls H locs hr)
  · rename_i d lo hi0 offs x st
    obtain ⟨hsz, hd0, hall⟩ : (offs.size : Int) = hi0 - lo + 1 ∧ 0 ≤ (pc : Int) + d ∧ ∀ o ∈ offs.toList, 0 ≤ (pc : Int) + o := by simp only [iok, Bool.and_eq_true, decide_eq_true_eq, List.all_eq_true] at hi; exact hi
    obtain ⟨h1, h2⟩ := h
    intro ls H locs hr
    have hv := hr.2.2.2.2.2.2
    have ox : i32 x := ok_h hv
    have ex := n_of ox
    by_cases q : x < lo ∨ hi0 < x
    · exact lv_tableOut hx hb hd (by rw [ex]; exact q) (Int.toNat_of_nonneg hd0).symm (hj _ _ _ _ (h1 q) ls H locs (rel_st hr (ok_t hv)))
    · have hlt : (x - lo).toNat < offs.size := by omega
      obtain ⟨o, ho⟩ : ∃ o, offs[(x - lo).toNat]? = some o := ⟨_, Array.getElem?_eq_getElem hlt⟩
      have k := hj o _ _ _ (allJ_snd (J := fun o => jmp o lv st M) offs.toList lo h2 (x - lo).toNat o (by rw [Array.getElem?_toList]; exact ho) (by omega))
      exact lv_tableIn hx hb hd (by rw [ex]; omega) (by rw [ex]; omega) (by rw [ex]; exact ho) (Int.toNat_of_nonneg (hall o (Array.mem_toList_iff.mpr (Array.mem_of_getElem? ho)))).symm (k ls H locs (rel_st hr (ok_t hv)))
  · rename_i x k st
    obtain rfl : len = 3 := by simpa [iok] using hi
    split at h
    · rename_i ci f ci' fks heq1 heq2
      by_cases q : ci' = ci
      · rw [if_pos q] at h
        subst q
        split at h
        · rename_i kd hk
          exact get_snd F (hT.1 _ _ _ heq1) hd heq2 hk (hn _ _ _ h)
        · exact h.elim
      · rw [if_neg q] at h; exact h.elim
    · exact h.elim
  · rename_i x v k st
    obtain rfl : len = 3 := by simpa [iok] using hi
    split at h
    · rename_i ci f ci' fks heq1 heq2
      by_cases q : ci' = ci
      · rw [if_pos q] at h
        subst q
        split at h
        · rename_i y hk
          exact put_snd F (hT.2.1 _ _ _ heq1) hd heq2 hk (by omega) (y := y) rfl (fun z => z) (fun ty e => by obtain rfl : ty = .int := e; exact ⟨rfl, rfl⟩) (hn _ _ _ h)
        · rename_i y hk
          exact put_snd F (hT.2.1 _ _ _ heq1) hd heq2 hk (by omega) (y := y) rfl (fun z => z) (fun ty e => by obtain rfl : ty = .long := e; exact ⟨rfl, rfl⟩) (hn _ _ _ h)
        · rename_i y hk
          exact put_snd F (hT.2.1 _ _ _ heq1) hd heq2 hk (by omega) (y := (y : Int)) (by rw [fval_n]) (fun z => trivial) (fun ty e => by obtain ⟨C, rfl⟩ := e; exact ⟨rfl, rfl⟩) (hn _ _ _ h)
        · exact h.elim
      · rw [if_neg q] at h; exact h.elim
    · exact h.elim
  · rename_i i k st
    obtain rfl : len = 1 := by simpa [iok] using hi
    unfold aread at h
    split at h
    · rename_i t' n heq
      by_cases q : t' = 0
      · rw [if_pos q] at h
        subst q
        obtain ⟨h1, h⟩ := h
        intro ls H locs hr
        have hv := hr.2.2.2.2.2.2
        have oi : i32 i := ok_h hv
        obtain ⟨ty, t1, t2⟩ := hT.2.2.2.2 _ _ _ heq
        obtain rfl : ty = .int := t2
        obtain ⟨t0, ht0⟩ := ty_at (ca := ca) t1
        have e1 := wl_get (ca := ca) (ad := ad) (M := M) heq
        rw [wc_i (by omega) (by omega)] at e1
        have k1 := hn _ _ _ h ls H locs (rel_st hr (ok_c (hr.2.2.2.2.1 k _ heq i.toNat) (ok_t (ok_t hv))))
        rw [← n_cl oi] at k1
        exact va_iald hx hb hK hr.2.1 k t0 e1 ht0 (n_in oi h1) hd k1
      · rw [if_neg q] at h; exact h.elim
    · exact h.elim
  · rename_i i k st
    obtain rfl : len = 1 := by simpa [iok] using hi
    unfold aread at h
    split at h
    · rename_i t' n heq
      by_cases q : t' = 1
      · rw [if_pos q] at h
        subst q
        obtain ⟨h1, h⟩ := h
        intro ls H locs hr
        have hv := hr.2.2.2.2.2.2
        have oi : i32 i := ok_h hv
        obtain ⟨ty, t1, t2⟩ := hT.2.2.2.2 _ _ _ heq
        obtain rfl : ty = .long := t2
        obtain ⟨t0, ht0⟩ := ty_at (ca := ca) t1
        have e1 := wl_get (ca := ca) (ad := ad) (M := M) heq
        rw [wc_l] at e1
        have k1 := hn _ _ _ h ls H locs (rel_st hr (ok_c (hr.2.2.2.2.1 k _ heq i.toNat) (ok_t (ok_t hv))))
        rw [← n_cl oi] at k1
        exact va_lald hx hb hK hr.2.1 k t0 e1 ht0 (n_in oi h1) hd k1
      · rw [if_neg q] at h; exact h.elim
    · exact h.elim
  · rename_i i k st
    obtain rfl : len = 1 := by simpa [iok] using hi
    split at h
    · rename_i n heq
      obtain ⟨h1, h⟩ := h
      intro ls H locs hr
      have hv := hr.2.2.2.2.2.2
      have oi : i32 i := ok_h hv
      obtain ⟨ty, t1, t2⟩ := hT.2.2.2.2 _ _ _ heq
      obtain rfl : ty = .byte := t2
      obtain ⟨t0, ht0⟩ := ty_at (ca := ca) t1
      have e1 := wl_get (ca := ca) (ad := ad) (M := M) heq
      rw [wc_i (by omega) (by omega)] at e1
      have k1 := hn _ _ _ h ls H locs (rel_st hr (ok_c (okC_b (hr.2.2.2.2.1 k _ heq) i.toNat) (ok_t (ok_t hv))))
      rw [← n_cl oi] at k1
      exact va_bald hx hb hK hr.2.1 k t0 e1 ht0 (n_in oi h1) hd k1
    · rename_i n heq
      obtain ⟨h1, h⟩ := h
      intro ls H locs hr
      have hv := hr.2.2.2.2.2.2
      have oi : i32 i := ok_h hv
      obtain ⟨ty, t1, t2⟩ := hT.2.2.2.2 _ _ _ heq
      obtain rfl : ty = .boolean := t2
      obtain ⟨t0, ht0⟩ := ty_at (ca := ca) t1
      have e1 := wl_get (ca := ca) (ad := ad) (M := M) heq
      rw [wc_i (by omega) (by omega)] at e1
      have k1 := hn _ _ _ h ls H locs (rel_st hr (ok_c (okC_z (hr.2.2.2.2.1 k _ heq) i.toNat) (ok_t (ok_t hv))))
      rw [← n_cl oi] at k1
      exact va_zald hx hb hK hr.2.1 k t0 e1 ht0 (n_in oi h1) hd k1
    · exact h.elim
  · rename_i i k st
    obtain rfl : len = 1 := by simpa [iok] using hi
    split at h
    · rename_i t n heq
      obtain ⟨h1, h⟩ := h
      intro ls H locs hr
      have hv := hr.2.2.2.2.2.2
      have oi : i32 i := ok_h hv
      obtain ⟨ty, t1, t2⟩ := hT.2.2.2.2 _ _ _ heq
      obtain ⟨C, rfl⟩ : ∃ C, ty = .object C := t2
      obtain ⟨t0, ht0⟩ := ty_at (ca := ca) t1
      have e1 := wl_get (ca := ca) (ad := ad) (M := M) heq
      rw [wc_q (by omega)] at e1
      have ov : okV (fval 2 (M k i.toNat)) := by show okV (if M k i.toNat < 0 then _ else _); split <;> trivial
      have k1 : W p l e R s m args below meth c H locs c0 s0 Q (F0 m (pc + 1) ls (cz ad (fval 2 (M k i.toNat)) :: st.map (cz ad))) := hn _ _ _ h ls H locs (rel_st hr (ok_c ov (ok_t (ok_t hv))))
      rw [← rf_v, ← n_cl oi] at k1
      exact va_aldq hx hb hK hr.2.1 k t0 e1 ht0 (n_in oi h1) hd k1
    · exact h.elim
  · rename_i x i k st
    obtain rfl : len = 1 := by simpa [iok] using hi
    unfold aread at h
    split at h
    · rename_i t' n heq
      by_cases q : t' = 0
      · rw [if_pos q] at h
        subst q
        obtain ⟨h1, h⟩ := h
        intro ls H locs hr
        obtain ⟨r1, r2, r3, r4, r5, r6, hv⟩ := hr
        have oi : i32 i := ok_h (ok_t hv)
        obtain ⟨ty, t1, t2⟩ := hT.2.2.2.2 _ _ _ heq
        obtain rfl : ty = .int := t2
        obtain ⟨t0, ht0⟩ := ty_at (ca := ca) t1
        have e1 := wl_get (ca := ca) (ad := ad) (M := M) heq
        rw [wc_i (by omega) (by omega)] at e1
        have e2 := wl_up (ca := ca) (ad := ad) (M := M) (j := i.toNat) (x := x) heq
        rw [wc_i (by omega) (by omega), ← upd_f oi] at e2
        refine va_iast hx hb hK r2 r3 r4 k t0 e1 ht0 (n_in oi h1) hd (fun H1 locs1 a1 a2 a3 => ?_)
        rw [← e2] at a1 a2
        exact hn _ _ _ h ls H1 locs1 ⟨r1, a1, a2, a3, okM_a r5 heq (ok_h hv), r6, ok_t (ok_t (ok_t hv))⟩
      · rw [if_neg q] at h; exact h.elim
    · exact h.elim
  · rename_i x i k st
    obtain rfl : len = 1 := by simpa [iok] using hi
    unfold aread at h
    split at h
    · rename_i t' n heq
      by_cases q : t' = 1
      · rw [if_pos q] at h
        subst q
        obtain ⟨h1, h⟩ := h
        intro ls H locs hr
        obtain ⟨r1, r2, r3, r4, r5, r6, hv⟩ := hr
        have oi : i32 i := ok_h (ok_t hv)
        obtain ⟨ty, t1, t2⟩ := hT.2.2.2.2 _ _ _ heq
        obtain rfl : ty = .long := t2
        obtain ⟨t0, ht0⟩ := ty_at (ca := ca) t1
        have e1 := wl_get (ca := ca) (ad := ad) (M := M) heq
        rw [wc_l] at e1
        have e2 := wl_up (ca := ca) (ad := ad) (M := M) (j := i.toNat) (x := x) heq
        rw [wc_l, ← updL_f oi] at e2
        refine va_last hx hb hK r2 r3 r4 k t0 e1 ht0 (n_in oi h1) hd (fun H1 locs1 a1 a2 a3 => ?_)
        rw [← e2] at a1 a2
        exact hn _ _ _ h ls H1 locs1 ⟨r1, a1, a2, a3, okM_a r5 heq (ok_h hv), r6, ok_t (ok_t (ok_t hv))⟩
      · rw [if_neg q] at h; exact h.elim
    · exact h.elim
  · rename_i x i k st
    obtain rfl : len = 1 := by simpa [iok] using hi
    split at h
    · rename_i n heq
      obtain ⟨h1, h2, h⟩ := h
      intro ls H locs hr
      obtain ⟨r1, r2, r3, r4, r5, r6, hv⟩ := hr
      have oi : i32 i := ok_h (ok_t hv)
      obtain ⟨ty, t1, t2⟩ := hT.2.2.2.2 _ _ _ heq
      obtain rfl : ty = .byte := t2
      obtain ⟨t0, ht0⟩ := ty_at (ca := ca) t1
      have e1 := wl_get (ca := ca) (ad := ad) (M := M) heq
      rw [wc_i (by omega) (by omega)] at e1
      have e2 := wl_up (ca := ca) (ad := ad) (M := M) (j := i.toNat) (x := x) heq
      rw [wc_i (by omega) (by omega), ← upd_f oi, ← nar_b h2] at e2
      refine va_bast hx hb hK r2 r3 r4 k t0 e1 ht0 (n_in oi h1) hd (fun H1 locs1 a1 a2 a3 => ?_)
      rw [← e2] at a1 a2
      exact hn _ _ _ h ls H1 locs1 ⟨r1, a1, a2, a3, okM_a r5 heq h2, r6, ok_t (ok_t (ok_t hv))⟩
    · rename_i n heq
      obtain ⟨h1, h2, h⟩ := h
      intro ls H locs hr
      obtain ⟨r1, r2, r3, r4, r5, r6, hv⟩ := hr
      have oi : i32 i := ok_h (ok_t hv)
      obtain ⟨ty, t1, t2⟩ := hT.2.2.2.2 _ _ _ heq
      obtain rfl : ty = .boolean := t2
      obtain ⟨t0, ht0⟩ := ty_at (ca := ca) t1
      have e1 := wl_get (ca := ca) (ad := ad) (M := M) heq
      rw [wc_i (by omega) (by omega)] at e1
      have e2 := wl_up (ca := ca) (ad := ad) (M := M) (j := i.toNat) (x := x) heq
      rw [wc_i (by omega) (by omega), ← upd_f oi, ← nar_z h2] at e2
      refine va_zast hx hb hK r2 r3 r4 k t0 e1 ht0 (n_in oi h1) hd (fun H1 locs1 a1 a2 a3 => ?_)
      rw [← e2] at a1 a2
      exact hn _ _ _ h ls H1 locs1 ⟨r1, a1, a2, a3, okM_a r5 heq h2, r6, ok_t (ok_t (ok_t hv))⟩
    · exact h.elim
  · rename_i k st
    obtain rfl : len = 1 := by simpa [iok] using hi
    split at h
    · rename_i t n heq
      by_cases q : n ≤ 65536
      · rw [if_pos q] at h
        intro ls H locs hr
        have hv := hr.2.2.2.2.2.2
        obtain ⟨ty, t1, t2⟩ := hT.2.2.2.2 _ _ _ heq
        obtain ⟨t0, ht0⟩ := ty_at (ca := ca) t1
        have e1 := wl_get (ca := ca) (ad := ad) (M := M) heq
        exact va_alen (v := Int32.ofInt (n : Int)) hx hb hK hr.2.1 k t0 e1 ht0 fin_ofNat_n hd (hn _ _ _ h ls H locs (rel_st hr (ok_c (show i32 (n : Int) by unfold i32; omega) (ok_t hv))))
      · rw [if_neg q] at h; exact h.elim
    · exact h.elim
  · rename_i x
    obtain rfl : len = 3 := by simpa [iok] using hi
    split at h
    · rename_i vt n sp heq
      by_cases q0 : vt = 1
      · rw [if_pos q0] at h
        subst q0
        by_cases q : (st.drop n).length ≤ 4
        · rw [if_pos q] at h
          exact (hc x _ n sp heq).2 pc lv st M hd q ((hc x _ n sp heq).1 _ _ _ _ (fun r M' => hn _ _ _) h)
        · rw [if_neg q] at h; exact h.elim
      · rw [if_neg q0] at h; exact h.elim
    · exact h.elim
  · rename_i x
    obtain rfl : len = 3 := by simpa [iok] using hi
    split at h
    · rename_i vt n sp heq
      by_cases q0 : vt = 0
      · rw [if_pos q0] at h
        subst q0
        by_cases q : (st.drop n).length ≤ 4
        · rw [if_pos q] at h
          exact (hc x _ n sp heq).2 pc lv st M hd q ((hc x _ n sp heq).1 _ _ _ _ (fun r M' => hn _ _ _) h)
        · rw [if_neg q] at h; exact h.elim
      · rw [if_neg q0] at h; exact h.elim
    · exact h.elim
  · rename_i x
    obtain rfl : len = 3 := by simpa [iok] using hi
    split at h
    · rename_i vt n sp heq
      by_cases q0 : vt = 2
      · rw [if_pos q0] at h
        subst q0
        by_cases q : (st.drop n).length ≤ 4
        · rw [if_pos q] at h
          exact (hc x _ n sp heq).2 pc lv st M hd q ((hc x _ n sp heq).1 _ _ _ _ (fun r M' => hn _ _ _) h)
        · rw [if_neg q] at h; exact h.elim
      · rw [if_neg q0] at h; exact h.elim
    · exact h.elim
  · rename_i x
    obtain rfl : len = 1 := by simpa [iok] using hi
    split at h
    · intro ls H locs hr
      obtain ⟨r1, r2, r3, r4, r5, r6, hv⟩ := hr
      refine hR _ _ _ ?_
      exact W.iret hx hb hrt (fun t ht hW => ⟨⟨some (.inl x), M, rfl, h, (fun v hv0 => by rcases List.mem_singleton.mp hv0 with rfl; exact ok_h hv), r5, by rw [ht]; exact r2, va_K.moved hW.alike hK, r3⟩, r4.F ht⟩) r4.2.2 hd hlocks
    · obtain ⟨h1, h⟩ := h
      intro ls H locs hr
      obtain ⟨r1, r2, r3, r4, r5, r6, hv⟩ := hr
      refine hR _ _ _ ?_
      exact W.zret (ty := .boolean) hx hb hrt (by rcases h1 with rfl | rfl <;> rfl) (fun t ht hW => ⟨⟨some (.inl x), M, rfl, h, (fun v hv0 => by rcases List.mem_singleton.mp hv0 with rfl; exact ok_h hv), r5, by rw [ht]; exact r2, va_K.moved hW.alike hK, r3⟩, r4.F ht⟩) r4.2.2 hd hlocks
    · exact h.elim
  · rename_i x
    obtain rfl : len = 1 := by simpa [iok] using hi
    by_cases q : rt = 3
    · rw [if_pos q] at h
      subst q
      intro ls H locs hr
      obtain ⟨r1, r2, r3, r4, r5, r6, hv⟩ := hr
      refine hR _ _ _ ?_
      exact W.lret hx hb hrt (fun t ht hW => ⟨⟨some (.inr (.inl x)), M, rfl, h, (fun v hv0 => by rcases List.mem_singleton.mp hv0 with rfl; exact ok_h hv), r5, by rw [ht]; exact r2, va_K.moved hW.alike hK, r3⟩, r4.F ht⟩) r4.2.2 hd hlocks
    · rw [if_neg q] at h; exact h.elim
  · obtain rfl : len = 1 := by simpa [iok] using hi
    by_cases q : rt = 0
    · rw [if_pos q] at h
      subst q
      intro ls H locs hr
      obtain ⟨r1, r2, r3, r4, r5, r6, hv⟩ := hr
      refine hR _ _ _ ?_
      exact W.vret hx hb hrt (fun t ht hW => ⟨⟨none, M, rfl, h, (fun v hv0 => by cases hv0), r5, by rw [ht]; exact r2, va_K.moved hW.alike hK, r3⟩, r4.F ht⟩) r4.2.2 hd hlocks
    · rw [if_neg q] at h; exact h.elim
  · exact h.elim
end STEP
