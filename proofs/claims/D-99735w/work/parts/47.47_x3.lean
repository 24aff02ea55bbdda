/-! SagMemory: a load goes over by the law that holds; its valley, what is told otherwise -/
theorem cg_of4 {cl : List vw_C} {sh : List SC} {tyl : List (Nat × FieldType)} {own : String} {Nws : List Cond} {lvl vt x n : Nat} {sp s1 s2 s3 s4 : Spec} (hm : mono sp) (h1 : CG own cl sh tyl Nws lvl vt x n s1) (h2 : CG own cl sh tyl Nws lvl vt x n s2) (h3 : CG own cl sh tyl Nws lvl vt x n s3) (h4 : CG own cl sh tyl Nws lvl vt x n s4) (hw : ∀ avs M Q, sp avs M Q → s1 avs M Q ∨ s2 avs M Q ∨ s3 avs M Q ∨ s4 avs M Q) : CG own cl sh tyl Nws lvl vt x n sp := by
  refine ⟨hm, ?_⟩
  intro p l e R s m args below meth c Q cc D A ad ca nL c0 s0 F hml hA hfr hlo hcs pc lv st M hdg hle hspec
  rcases hw _ _ _ hspec with h | h | h | h
  · exact h1.2 p l e R s m args below meth c Q cc D A ad ca nL c0 s0 F hml hA hfr hlo hcs pc lv st M hdg hle h
  · exact h2.2 p l e R s m args below meth c Q cc D A ad ca nL c0 s0 F hml hA hfr hlo hcs pc lv st M hdg hle h
  · exact h3.2 p l e R s m args below meth c Q cc D A ad ca nL c0 s0 F hml hA hfr hlo hcs pc lv st M hdg hle h
  · exact h4.2 p l e R s m args below meth c Q cc D A ad ca nL c0 s0 F hml hA hfr hlo hcs pc lv st M hdg hle h
theorem cg0_g2 {rs : List (Nat × Nat)} {lvl : Nat} (h : 3 < lvl) : CG RX0 cl8 (sh8 rs) tyl8 Nws8 lvl 1 234 4 (sp2_goes rs) := cg_VR nws8_ok spV_mono (fun avs M Q h => rcv_g h (fun x M h1 => h1.1)) m2_goes (Nat.lt_trans (by decide) h) rfl (by decide) (k := 2) rfl rfl ⟨rfl, by decide, by decide, rfl⟩ q838 q839 q840 q130 q850
theorem cg0_g3 {rs : List (Nat × Nat)} {lvl : Nat} (h : 3 < lvl) : CG RX0 cl8 (sh8 rs) tyl8 Nws8 lvl 1 234 4 (sp3_goes rs) := cg_VU (owner := RX2) (xx := yX2_goes) nws8_ok spV_mono (fun avs M Q h => rcv_g h (fun x M h1 => h1.1)) m3_goes (Nat.lt_trans (by decide) h) rfl (by decide) (k := 3) rfl rfl ⟨by decide, by decide, rfl⟩ q838 q841 q839 q858 q852 q131 q853 q850
theorem cg0_g4 {rs : List (Nat × Nat)} {lvl : Nat} (h : 3 < lvl) : CG RX0 cl8 (sh8 rs) tyl8 Nws8 lvl 1 234 4 (sp4_goes rs) := cg_VU (owner := RX2) (xx := yX2_goes) nws8_ok spV_mono (fun avs M Q h => rcv_g h (fun x M h1 => h1.1)) m4_goes (Nat.lt_trans (by decide) h) rfl (by decide) (k := 4) rfl rfl ⟨by decide, by decide, rfl⟩ q838 q841 q839 q857 q846 q132 q847 q850
theorem cg0_g5 {rs : List (Nat × Nat)} {lvl : Nat} (h : 3 < lvl) : CG RX0 cl8 (sh8 rs) tyl8 Nws8 lvl 1 234 4 (sp5_goes rs) := cg_VU (owner := RX2) (xx := yX2_goes) nws8_ok spV_mono (fun avs M Q h => rcv_g h (fun x M h1 => h1.1)) m5_goes h rfl (by decide) (k := 5) rfl rfl ⟨by decide, by decide, rfl⟩ q838 q841 q839 q842 q843 q133 q844 q850
def P0_wgoes (rs : List (Nat × Nat)) (o b load turn : Int) (M : Mm) : Prop := (2 ≤ o ∧ o ≤ 5) ∧ goP b load M ∧ M 6 0 = 2
def R0_wgoes (rs : List (Nat × Nat)) (o b load turn : Int) (M M1 : Mm) : Prop := goR (o - 2) b load turn M M1
def sp0_wgoes (rs : List (Nat × Nat)) : Spec := spV false [2, 0, 0, 0] (fun x M => P0_wgoes rs (x 0) (x 1) (x 2) (x 3) M) (fun x M M1 => R0_wgoes rs (x 0) (x 1) (x 2) (x 3) M M1)
theorem c0_wgoes {rs : List (Nat × Nat)} {o : Nat} {b load turn : Int} {M : Mm} {Q : Option AV → Mm → Prop} : sp0_wgoes rs [ar o, ai b, ai load, ai turn] M Q = (P0_wgoes rs (o : Int) b load turn M ∧ ∀ M1, R0_wgoes rs (o : Int) b load turn M M1 → Q none M1) := rfl
theorem cg0_wgoes {rs : List (Nat × Nat)} {lvl : Nat} (h : 3 < lvl) : CG RX0 cl8 (sh8 rs) tyl8 Nws8 lvl 1 234 4 (sp0_wgoes rs) := by
  refine cg_of4 spV_mono (cg0_g2 h) (cg0_g3 h) (cg0_g4 h) (cg0_g5 h) ?_
  intro avs M Q hs
  obtain ⟨xs, h1⟩ := spV_un _ _ _ hs
  unfold sp0_wgoes spV at hs
  rw [h1, oS_s] at hs
  obtain ⟨⟨ho, hG, hL⟩, k⟩ := hs
  have e : ∀ z : Int, gx xs 0 = z → ∀ M1, goR (z - 2) (gx xs 1) (gx xs 2) (gx xs 3) M M1 → Q none M1 := by
    intro z hz M1 hR
    refine k M1 ?_
    show goR (gx xs 0 - 2) (gx xs 1) (gx xs 2) (gx xs 3) M M1
    rw [hz]
    exact hR
  rcases (show gx xs 0 = 2 ∨ gx xs 0 = 3 ∨ gx xs 0 = 4 ∨ gx xs 0 = 5 by omega) with q | q | q | q
  · left
    unfold sp2_goes spV
    rw [h1, oS_s]
    exact ⟨⟨q, hG⟩, e _ q⟩
  · right; left
    unfold sp3_goes spV
    rw [h1, oS_s]
    exact ⟨⟨q, hG⟩, e _ q⟩
  · right; right; left
    unfold sp4_goes spV
    rw [h1, oS_s]
    exact ⟨⟨q, hG⟩, e _ q⟩
  · right; right; right
    unfold sp5_goes spV
    rw [h1, oS_s]
    exact ⟨⟨q, hG, hL⟩, e _ q⟩
/-- an act: sent (its cart, its bridge), on, off -/
def actK (a : Int) : Int := if a < 1000 then 0 else if a % 2 = 1 then 1 else 2
def actC (a : Int) : Int := if a < 1000 then a / 100 else (a - 1000) / 2
def actB (a : Int) : Int := if a < 1000 then a % 100 - 1 else 0
/-- the valley that holds -/
def vX (M : Mm) : Vy := fun i j => match i with
  | 0 => if j = 0 then M 1 0 else if j = 1 then M 1 1 else if j = 2 then M 1 2 else if j = 3 then M 1 4 else if j = 4 then M 1 5 else if j = 5 then M 1 6 else if j = 6 then M 1 8 else if j = 7 then M 1 9 else if j = 8 then M 1 3 else 0
  | 1 => if (j : Int) < M 1 4 then M 33 j else 0
  | 2 => if (j : Int) < M 1 4 then M 34 j else 0
  | 3 => if (j : Int) < M 1 5 then M 35 j else 0
  | 4 => if (j : Int) < M 1 5 then M 36 j else 0
  | 5 => if (j : Int) < M 1 6 then M 37 j else 0
  | 6 => if (j : Int) < M 1 6 then M 38 j else 0
  | 7 => if (j : Int) < M 1 6 then M 39 j else 0
  | 8 => if j = 0 then M 1 7 else 0
  | 9 => if (j : Int) < M 1 9 then actK (M 40 j) else 0
  | 10 => if (j : Int) < M 1 9 then actC (M 40 j) else 0
  | 11 => if (j : Int) < M 1 9 then actB (M 40 j) else 0
  | _ => 0
/-- told otherwise -/
def cX (M : Mm) : Cf := fun i j => match i with
  | 0 => if j = 0 then M 0 10 - 2 else if j = 1 then M 0 24 else M 0 25
  | 1 => M 16 j
  | 2 => M 17 j
  | 3 => M 18 j
  | _ => 0
abbrev xRows : List Nat := [1, 33, 34, 35, 36, 37, 38, 39, 40]
theorem vX_eq {M M1 : Mm} (h : ∀ k ∈ xRows, M1 k = M k) : vX M1 = vX M := by
  have h1 := h 1 (by decide)
  have h2 := h 33 (by decide)
  have h3 := h 34 (by decide)
  have h4 := h 35 (by decide)
  have h5 := h 36 (by decide)
  have h6 := h 37 (by decide)
  have h7 := h 38 (by decide)
  have h8 := h 39 (by decide)
  have h9 := h 40 (by decide)
  funext i j
  unfold vX
  simp only [h1, h2, h3, h4, h5, h6, h7, h8, h9]
theorem vX_frm {rows : List Nat} {M M1 : Mm} (h : frm rows M M1) (hd : ∀ k ∈ xRows, k ∉ rows) : vX M1 = vX M := vX_eq fun k hk => h k (hd k hk)
theorem cX_eq {M M1 : Mm} (h0 : M1 0 = M 0) (h1 : M1 16 = M 16) (h2 : M1 17 = M 17) (h3 : M1 18 = M 18) : cX M1 = cX M := by
  funext i j
  unfold cX
  rw [h0, h1, h2, h3]
theorem cX_frm {rows : List Nat} {M M1 : Mm} (h : frm rows M M1) (hd : ∀ k ∈ [0, 16, 17, 18], k ∉ rows) : cX M1 = cX M := cX_eq (h _ (hd _ (by decide))) (h _ (hd _ (by decide))) (h _ (hd _ (by decide))) (h _ (hd _ (by decide)))
theorem vX_n (M : Mm) : vX M 0 3 = M 1 4 ∧ vX M 0 4 = M 1 5 ∧ vX M 0 5 = M 1 6 ∧ vX M 0 1 = M 1 1 ∧ vX M 0 7 = M 1 9 ∧ vX M 0 8 = M 1 3 ∧ vX M 0 0 = M 1 0 := ⟨rfl, rfl, rfl, rfl, rfl, rfl, rfl⟩
theorem vX_w (M : Mm) {w : Nat} (h : (w : Int) < M 1 6) : vX M 5 w = M 37 w ∧ vX M 6 w = M 38 w ∧ vX M 7 w = M 39 w := ⟨if_pos h, if_pos h, if_pos h⟩
theorem vX_b (M : Mm) {b : Nat} (h : (b : Int) < M 1 4) : vX M 1 b = M 33 b ∧ vX M 2 b = M 34 b := ⟨if_pos h, if_pos h⟩
theorem vX_c (M : Mm) {c : Nat} (h : (c : Int) < M 1 5) : vX M 3 c = M 35 c ∧ vX M 4 c = M 36 c := ⟨if_pos h, if_pos h⟩
theorem vX_a (M : Mm) {k : Nat} (h : (k : Int) < M 1 9) : vX M 9 k = actK (M 40 k) ∧ vX M 10 k = actC (M 40 k) ∧ vX M 11 k = actB (M 40 k) := ⟨if_pos h, if_pos h, if_pos h⟩
theorem act_dec {a n b : Int} (h1 : 0 ≤ actC a ∧ actC a < n) (hn : n ≤ 7) (h2 : actK a = 0 → -1 ≤ actB a ∧ actB a < b) (hb : b ≤ 3) : 0 ≤ a ∧ (a < 1000 → a < 700 ∧ a.tdiv 100 = actC a ∧ a.tmod 100 - 1 = actB a) ∧ (¬ a < 1000 → a < 1014 ∧ (a - 1000).tdiv 2 = actC a ∧ (actK a = 1 ↔ a.tmod 2 = 1) ∧ ¬ actK a = 0) := by
  unfold actC actK actB at *
  by_cases q : a < 1000
  · simp only [q, if_true, not_true_eq_false, false_implies, and_true, true_implies] at *
    have h0 : 0 ≤ a := by omega
    rw [Int.tdiv_eq_ediv_of_nonneg h0, Int.tmod_eq_emod_of_nonneg h0]
    omega
  · simp only [q, if_false, not_false_eq_true, true_implies, false_implies, true_and] at *
    rw [Int.tdiv_eq_ediv_of_nonneg (by omega), Int.tmod_eq_emod_of_nonneg (by omega)]
    split <;> omega
