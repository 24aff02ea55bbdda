/-! A method by its conditions -/
section WPS
variable {p : Program} {l : Launch} {e : Env} {R : Room} {s : State} {m : MethodId} {args : Array Value} {below : List Frame} {meth : Method} {c : Code}
variable {cc : ByteArray} {D : va_G} {cl : List vw_C} {A : Nat → Prop} {ad : Nat → Nat} {ca : Nat → ClassId} {tyl : List (Nat × FieldType)} {sh : List SC} {own : String} {Nws : List Cond} {nL rt c0 s0 : Nat} {tb : TB}
theorem pj_zip {lv : LV} : ∀ {ks : List Nat} {vs : List AV}, pj ks lv = some vs → ∀ q ∈ ks.zip vs, q ∈ lv := by
  intro ks
  induction ks with
  | nil => intro vs h q hq; cases vs <;> cases hq
  | cons k ks ih =>
    intro vs h q hq
    rw [pj_s] at h
    cases h1 : lk k lv with
    | none => rw [h1] at h; unfold pjc at h; cases h
    | some v =>
      cases h2 : pj ks lv with
      | none => rw [h1, h2] at h; unfold pjc at h; cases h
      | some ws =>
        rw [h1, h2, pjc_s] at h
        cases h
        rw [List.zip_cons_cons] at hq
        rcases List.mem_cons.mp hq with e1 | e1
        · rw [e1]; exact lk_mem h1
        · exact ih h2 q e1
theorem rel_weak {H0 : Heap} {lv lv' : LV} {st : List AV} {M : Mm} {ls : Array Slot} {H : Heap} {locs : List Loc} (h : rel D cl A ad ca sh nL H0 lv st M ls H locs) (hs : ∀ q ∈ lv', q ∈ lv) : rel D cl A ad ca sh nL H0 lv' st M ls H locs := by
  obtain ⟨h1, h2, h3, h4, h5, h6, h7⟩ := h
  refine ⟨⟨h1.1, h1.2.1, fun q hq => ?_⟩, h2, h3, h4, h5, fun q hq => h6 q (hs q hq), h7⟩
  obtain ⟨z, hz, e1⟩ := List.mem_map.mp hq
  exact h1.2.2 q (List.mem_map.mpr ⟨z, hs z hz, e1⟩)
theorem mgo_snd {Q : State → Prop} {w : Nat → K0} {pc : Nat} {lv : LV} {st : List AV} {M : Mm} (hw : w pc lv st M → snW p l e R s m args below meth c Q D cl A ad ca sh nL c0 s0 pc lv st M) : ∀ {cut : CUT},
    (∀ q ∈ cut, ∀ vs M, q.2.2 vs M → snW p l e R s m args below meth c Q D cl A ad ca sh nL c0 s0 q.1 (q.2.1.zip vs) [] M) → mgo cut w pc lv st M → snW p l e R s m args below meth c Q D cl A ad ca sh nL c0 s0 pc lv st M := by
  intro cut
  induction cut with
  | nil => intro _ h; exact hw h
  | cons q r ih =>
    obtain ⟨k, ks, I⟩ := q
    intro hc h
    rw [mgo_s] at h
    by_cases hk : pc = k
    · rw [if_pos hk] at h
      subst hk
      cases st with
      | cons v st => exact h.elim
      | nil =>
        rw [ctS_s] at h
        cases hp : pj ks lv with
        | none => rw [hp] at h; exact h.elim
        | some vs =>
          rw [hp, ctP_s] at h
          intro ls H locs hr
          exact hc _ List.mem_cons_self vs M h ls H locs (rel_weak hr (pj_zip hp))
    · rw [if_neg hk] at h
      exact ih (fun q hq => hc q (List.mem_cons_of_mem _ hq)) h
theorem wp_snd {ret : Option AV → Mm → Prop} {Q : State → Prop} {cut : CUT} (hR : ∀ (H : Heap) (locs : List Loc) (g : JFrame), W p l e R s m args below meth c H locs c0 s0 (MQ below (vq D cl tyl ad ca sh A ret) args s c0 s0 A) g → W p l e R s m args below meth c H locs c0 s0 Q g) (F : fx p s m args c cc D cl ca tyl own Nws) (hT : tbOK own Nws cl sh tyl tb) (hrt : rtOK rt meth.sig.returnType) (hlocks : meth.locks = false)
    (hc : ∀ x vt n sp, tb.2.2.2.2 x = some (vt, n, sp) → mono sp ∧ cOK p l e R s m args below meth c Q D cl A ad ca sh nL c0 s0 cc vt x n sp)
    (hcut : ∀ q ∈ cut, ∀ vs M, q.2.2 vs M → snW p l e R s m args below meth c Q D cl A ad ca sh nL c0 s0 q.1 (q.2.1.zip vs) [] M) :
    ∀ (n pc : Nat) (lv : LV) (st : List AV) (M : Mm), wp tb sh nL rt cc cut ret n pc lv st M → snW p l e R s m args below meth c Q D cl A ad ca sh nL c0 s0 pc lv st M := by
  intro n
  induction n with
  | zero => intro pc lv st M h; exact h.elim
  | succ n ih =>
    intro pc lv st M h
    cases hd : decode cc pc with
    | error x => simp only [wp, hd] at h
    | ok r =>
      obtain ⟨i, len⟩ := r
      by_cases hi : iok pc i len = true
      · rw [e_wp hd hi] at h
        exact step_snd hR F hT hrt hlocks hd hi (fun lv st M h => mgo_snd (ih _ _ _ _) hcut h) (fun off lv st M h => mgo_snd (ih _ _ _ _) hcut h) hc lv st M h
      · simp only [wp, hd, hi, if_false, Bool.false_eq_true] at h
/-- invariants by a number that falls -/
abbrev INV : Type := List (Nat × List Nat × (Nat → List AV → Mm → Prop))
def cutE (inv : INV) : CUT := inv.map fun r => (r.1, r.2.1, fun vs M => ∃ n, r.2.2 n vs M)
def cutN (inv : INV) (n : Nat) : CUT := inv.map fun r => (r.1, r.2.1, fun vs M => ∃ n', n' < n ∧ r.2.2 n' vs M)
theorem floyd {ret : Option AV → Mm → Prop} {Q : State → Prop} {inv : INV} {fuel : Nat} (hR : ∀ (H : Heap) (locs : List Loc) (g : JFrame), W p l e R s m args below meth c H locs c0 s0 (MQ below (vq D cl tyl ad ca sh A ret) args s c0 s0 A) g → W p l e R s m args below meth c H locs c0 s0 Q g) (F : fx p s m args c cc D cl ca tyl own Nws) (hT : tbOK own Nws cl sh tyl tb) (hrt : rtOK rt meth.sig.returnType) (hlocks : meth.locks = false)
    (hc : ∀ x vt n sp, tb.2.2.2.2 x = some (vt, n, sp) → mono sp ∧ cOK p l e R s m args below meth c Q D cl A ad ca sh nL c0 s0 cc vt x n sp)
    (hinv : ∀ q ∈ inv, ∀ n vs M, okM sh M → (∀ v ∈ q.2.1.zip vs, okV v.2) → q.2.2 n vs M → wp tb sh nL rt cc (cutN inv n) ret fuel q.1 (q.2.1.zip vs) [] M) :
    ∀ (n : Nat), ∀ q ∈ inv, ∀ vs M, q.2.2 n vs M → snW p l e R s m args below meth c Q D cl A ad ca sh nL c0 s0 q.1 (q.2.1.zip vs) [] M := by
  intro n
  induction n using Nat.strongRecOn with
  | ind n ih =>
    intro q hq vs M h ls H locs hr
    refine wp_snd hR F hT hrt hlocks hc ?_ fuel q.1 _ [] M (hinv q hq n vs M hr.2.2.2.2.1 hr.2.2.2.2.2.1 h) ls H locs hr
    intro z hz vs' M' hi
    obtain ⟨r, hr1, rfl⟩ := List.mem_map.mp hz
    obtain ⟨n', h1, h2⟩ := hi
    exact ih n' h1 r hr1 vs' M' h2
theorem floyd_in {ret : Option AV → Mm → Prop} {Q : State → Prop} {inv : INV} {fuel : Nat} (hR : ∀ (H : Heap) (locs : List Loc) (g : JFrame), W p l e R s m args below meth c H locs c0 s0 (MQ below (vq D cl tyl ad ca sh A ret) args s c0 s0 A) g → W p l e R s m args below meth c H locs c0 s0 Q g) (F : fx p s m args c cc D cl ca tyl own Nws) (hT : tbOK own Nws cl sh tyl tb) (hrt : rtOK rt meth.sig.returnType) (hlocks : meth.locks = false)
    (hc : ∀ x vt n sp, tb.2.2.2.2 x = some (vt, n, sp) → mono sp ∧ cOK p l e R s m args below meth c Q D cl A ad ca sh nL c0 s0 cc vt x n sp)
    (hinv : ∀ q ∈ inv, ∀ n vs M, okM sh M → (∀ v ∈ q.2.1.zip vs, okV v.2) → q.2.2 n vs M → wp tb sh nL rt cc (cutN inv n) ret fuel q.1 (q.2.1.zip vs) [] M)
    {lv : LV} {M : Mm} (h : wp tb sh nL rt cc (cutE inv) ret fuel 0 lv [] M) : snW p l e R s m args below meth c Q D cl A ad ca sh nL c0 s0 0 lv [] M := by
  refine wp_snd hR F hT hrt hlocks hc ?_ fuel 0 _ [] M h
  intro z hz vs' M' hi
  obtain ⟨r, hr1, rfl⟩ := List.mem_map.mp hz
  obtain ⟨n', h2⟩ := hi
  exact floyd hR F hT hrt hlocks hc hinv n' r hr1 vs' M' h2
end WPS
/-- the locals with which a method begins -/
def entL : Nat → List AV → LV
  | _, [] => []
  | k, v :: r => (k, v) :: entL (if isL v = true then k + 2 else k + 1) r
theorem entL_args (ad : Nat → Nat) : ∀ (avs : List AV) (k : Nat), lv_args k (avs.map (cz ad)) = czl ad (entL k avs) := by
  intro avs
  induction avs with
  | nil => intro k; rfl
  | cons v r ih =>
    intro k
    show (k, cz ad v) :: lv_args (if (cz ad v).category = 2 then k + 2 else k + 1) (r.map (cz ad)) = (k, cz ad v) :: czl ad (entL (if isL v = true then k + 2 else k + 1) r)
    rw [ih, cz_cat]
    cases isL v <;> rfl
theorem entL_ok {avs : List AV} (h : ∀ v ∈ avs, okV v) : ∀ (k : Nat), ∀ q ∈ entL k avs, okV q.2 := by
  induction avs with
  | nil => intro k q hq; cases hq
  | cons v r ih =>
    intro k q hq
    rcases List.mem_cons.mp hq with e1 | e1
    · rw [e1]; exact h v List.mem_cons_self
    · exact ih (fun w hw => h w (List.mem_cons_of_mem _ hw)) _ q e1
def szL : List AV → Nat
  | [] => 0
  | v :: r => (if isL v = true then 2 else 1) + szL r
theorem szL_sl (ad : Nat → Nat) : ∀ (avs : List AV), (lg_sl (avs.map (cz ad))).length = szL avs := by
  intro avs
  induction avs with
  | nil => rfl
  | cons v r ih =>
    unfold szL
    rw [← ih]
    have hc := cz_cat ad v
    unfold lg_sl
    rw [List.map_cons, List.flatMap_cons, List.length_append]
    cases h : isL v <;> rw [h] at hc <;> simp [hc]
def rmL (n : Nat) : Room := { frames := n, cells := 0, slots := 0, locals := 64 * n }
def PB (D : va_G) (cl : List vw_C) (tyl : List (Nat × FieldType)) (Nws : List Cond) (ad : Nat → Nat) (ca : Nat → ClassId) (sh : List SC) (M : Mm) (sz : Nat) : State → Prop := fun U =>
  U.heap.size = sz ∧ va_P D cl (wl ca ad sh M) U.heap ∧ va_K D cl (tys_ ca tyl) U ∧ va_D (fun _ => True) (wl ca ad sh M) ∧ ∀ w ∈ Nws, va_Nw w U
/-- a method keeps its spec: its contract, for any world of the shape -/
def MOK (cl : List vw_C) (sh : List SC) (tyl : List (Nat × FieldType)) (Nws : List Cond) (lvl : Nat) (y : MethodName) (cc : ByteArray) (nL : Nat) (ret : Option FieldType) (sp : Spec) : Prop :=
  ∀ (l : Launch) (D : va_G) (ca : Nat → ClassId) (ad : Nat → Nat) (sz : Nat) (avs : List AV) (M : Mm) (Q : Option AV → Mm → Prop), okM sh M → (∀ v ∈ avs, okV v) → sp avs M Q →
    Met l y (ws_ y cc nL ret) (rmL lvl) (va_Pc (avs.map (cz ad)) (PB D cl tyl Nws ad ca sh M sz)) (vq D cl tyl ad ca sh (va_A (wl ca ad sh M) sz) Q) 0 0 (va_A (wl ca ad sh M) sz)
/-- a call by pool index keeps its spec, from any method of the class at this level -/
def CG (own : String) (cl : List vw_C) (sh : List SC) (tyl : List (Nat × FieldType)) (Nws : List Cond) (lvl : Nat) (vt x n : Nat) (sp : Spec) : Prop :=
  mono sp ∧ ∀ (p : Program) (l : Launch) (e : Env) (R : Room) (s : State) (m : MethodId) (args : Array Value) (below : List Frame) (meth : Method) (c : Code) (Q : State → Prop) (cc : ByteArray) (D : va_G) (A : Nat → Prop) (ad : Nat → Nat) (ca : Nat → ClassId) (nL c0 s0 : Nat),
    fx p s m args c cc D cl ca tyl own Nws → c.maxLocals = nL → (∀ q, s.heap.size ≤ q → A q) → lvl ≤ R.frames → 64 * lvl ≤ R.locals → c0 ≤ R.cells ∧ s0 ≤ R.slots → cOK p l e R s m args below meth c Q D cl A ad ca sh nL c0 s0 cc vt x n sp
def nwOK (w : Cond) : Bool := match w with
  | .fieldLinkNest _ _ _ _ _ _ => true
  | .methodLinkNest _ _ _ _ => true
  | .castable _ _ => true
  | .declares _ => true
  | .not (.castable _ _) => true
  | _ => false
/-- such a word is the tables' alone -/
theorem nw_tab {w : Cond} (h : nwOK w = true) {A A' : Array Value} {u U : State} (hv : u.vm = U.vm) (hw : w.before A u = true) : w.before A' U = true := by
  unfold nwOK at h
  split at h
  · exact va_tabs rfl hv hw
  · exact va_tabs rfl hv hw
  · exact va_tabs rfl hv hw
  · exact va_tabs rfl hv hw
  · simp only [Cond.before, Cond.holds, Cond.value] at hw ⊢
    rw [← hv]
    exact hw
  · cases h
theorem nw_same {w : Cond} (h : nwOK w = true) {u U : State} (hv : u.vm = U.vm) (hw : va_Nw w u) : va_Nw w U := nw_tab h hv hw
theorem nw_of {w : Cond} (h : nwOK w = true) {A : Array Value} {U : State} (hw : w.before A U = true) : va_Nw w U := nw_tab h rfl hw
theorem nw_use {w : Cond} (h : nwOK w = true) {A : Array Value} {U : State} (hw : va_Nw w U) : w.before A U = true := nw_tab h rfl hw
theorem nw_nc {C T : String} {U : State} (h : va_Nc C T U) : va_Nw (.not (.castable C T)) U := by
  obtain ⟨c, t, h1, h2, h3⟩ := h
  show (Cond.not (.castable C T)).before #[] U = true
  simp [Cond.before, Cond.holds, Cond.value, h1, h2, h3]
theorem nw_warm {w : Cond} (h : nwOK w = true) {s U : State} (hW : s.WarmedH U.vm) (hw : va_Nw w s) : va_Nw w U := by
  unfold nwOK at h
  split at h
  · exact va_Nw.warmF hW hw
  · exact va_Nw.warmM hW hw
  · exact va_Nw.warmC hW hw
  · exact va_Nw.warmD hW hw
  · exact nw_nc (va_Nc.moved hW.alike (va_Nc.of hw))
  · cases h
set_option maxHeartbeats 4000000 in
theorem mok_of {cl : List vw_C} {sh : List SC} {tyl : List (Nat × FieldType)} {Nws : List Cond} {own : String} {tb : TB} {lvl nL rt fuel : Nat} {y : MethodName} {cc : ByteArray} {ret : Option FieldType} {sp : Spec} (inv : List AV → Mm → (Option AV → Mm → Prop) → INV)
    (hy : plainName y.cls = true) (hown : y.cls = own) (hNw : ∀ w ∈ Nws, nwOK w = true) (hT : tbOK own Nws cl sh tyl tb) (hrt : rtOK rt ret)
    (hc : ∀ x vt n sp, tb.2.2.2.2 x = some (vt, n, sp) → CG own cl sh tyl Nws lvl vt x n sp)
    (hsz : ∀ avs M Q, sp avs M Q → szL avs ≤ nL)
    (hin : ∀ avs M Q, okM sh M → (∀ v ∈ avs, okV v) → sp avs M Q → wp tb sh nL rt cc (cutE (inv avs M Q)) Q fuel 0 (entL 0 avs) [] M)
    (hinv : ∀ avs M Q, okM sh M → (∀ v ∈ avs, okV v) → sp avs M Q → ∀ q ∈ inv avs M Q, ∀ n vs M', okM sh M' → (∀ v ∈ q.2.1.zip vs, okV v.2) → q.2.2 n vs M' → wp tb sh nL rt cc (cutN (inv avs M Q) n) Q fuel q.1 (q.2.1.zip vs) [] M') :
    MOK cl sh tyl Nws lvl y cc nL ret sp := by
  intro l D ca ad sz avs M Q hM hav hsp
  refine Met.ofW (cc := cc) (maxL := nL) (ret := ret) hy rfl ?_
  intro p e s m args below meth c s₁ B hml hv
  obtain ⟨rfl, hs, hP, hK, hD0, hN⟩ := hv
  subst hs
  have hts := atoms_spec (ws := ws_ y cc nL ret) B.pre
  have hts : ∀ w ∈ lw_all, w.before (avs.map (cz ad)).toArray s = true := fun w h => hts w (List.mem_cons_of_mem _ h)
  have hownC : s.vm.findClass own = some m.cls := hown ▸ findClass_of_methodNamed B.named
  have hD := hD0.self (sz := s.heap.size)
  have F : fx p s m (avs.map (cz ad)).toArray c cc D cl ca tyl own Nws := ⟨B.exec, B.bytes, hownC, hts, fun w hw => nw_use (hNw w hw) (hN w hw), hK⟩
  have hr : rtOK rt meth.sig.returnType := by rw [B.returns]; exact hrt
  have hA : ∀ q, s.heap.size ≤ q → va_A (wl ca ad sh M) s.heap.size q := fun q h => Or.inr h
  have k := floyd_in (l := l) (e := e) (R := (headSpec (ws_ y cc nL ret) (rmL lvl)).room) (below := below) (nL := nL) (ad := ad) (c0 := 0) (s0 := 0) (fun _ _ _ h => h) F hT hr B.notSynchronized (fun x vt n sp h => ⟨(hc x vt n sp h).1, (hc x vt n sp h).2 _ _ _ _ _ _ _ _ _ _ _ _ _ _ _ _ _ _ _ F hml hA (Nat.le_refl _) (Nat.le_refl _) ⟨Nat.zero_le _, Nat.zero_le _⟩⟩) (hinv avs M Q hM hav hsp) (hin avs M Q hM hav hsp)
  have hl := lv_entry (avs.map (cz ad)) (n := nL) (by rw [szL_sl]; exact hsz avs M Q hsp)
  rw [entL_args] at hl
  rw [lg_entry_eq]
  exact k _ s.heap [] ⟨hl, hP, hD, va_S.rf, hM, entL_ok hav 0, fun v hv => by cases hv⟩
/-! specs: a function of arguments and memory; or a relation -/
def unA : Bool → List Nat → List AV → Option (List Int)
  | true, sg, .inr (.inr (some 0)) :: r => unA false sg r
  | false, 0 :: sg, .inl x :: r => (unA false sg r).map (x :: ·)
  | false, 1 :: sg, .inr (.inl x) :: r => (unA false sg r).map (x :: ·)
  | false, 2 :: sg, .inr (.inr (some k)) :: r => (unA false sg r).map ((k : Int) :: ·)
  | false, [], [] => some []
  | _, _, _ => none
/-- the values by their kinds -/
def mkF : List Nat → List Int → List AV
  | 0 :: sg, x :: xs => .inl x :: mkF sg xs
  | 1 :: sg, x :: xs => .inr (.inl x) :: mkF sg xs
  | _ :: sg, x :: xs => .inr (.inr (some x.toNat)) :: mkF sg xs
  | _, _ => []
def mkA (vt : Bool) (sg : List Nat) (xs : List Int) : List AV := if vt = true then .inr (.inr (some 0)) :: mkF sg xs else mkF sg xs
def gx (xs : List Int) (i : Nat) : Int := xs.getD i 0
def mkr : Nat → Int → Option AV
  | 0, _ => none
  | 1, v => some (.inl v)
  | _, v => some (.inr (.inl v))
def oS (o : Option (List Int)) (f : (Nat → Int) → Prop) : Prop := match o with
  | some xs => f (gx xs)
  | none => False
theorem oS_s {xs : List Int} {f : (Nat → Int) → Prop} : oS (some xs) f = f (gx xs) := rfl
def spF (vt : Bool) (sg : List Nat) (rk : Nat) (pre : (Nat → Int) → Mm → Prop) (f : (Nat → Int) → Mm → Int) : Spec := fun avs M Q => oS (unA vt sg avs) fun x => pre x M ∧ Q (mkr rk (f x M)) M
def spR (vt : Bool) (sg : List Nat) (rk : Nat) (pre : (Nat → Int) → Mm → Prop) (post : (Nat → Int) → Mm → Int → Mm → Prop) : Spec := fun avs M Q => oS (unA vt sg avs) fun x => pre x M ∧ ∀ v M', post x M v M' → Q (mkr rk v) M'
def spV (vt : Bool) (sg : List Nat) (pre : (Nat → Int) → Mm → Prop) (post : (Nat → Int) → Mm → Mm → Prop) : Spec := fun avs M Q => oS (unA vt sg avs) fun x => pre x M ∧ ∀ M', post x M M' → Q none M'
theorem oS_mono {o : Option (List Int)} {f g : (Nat → Int) → Prop} (h : ∀ x, f x → g x) : oS o f → oS o g := by
  intro h1
  cases o with
  | none => exact h1
  | some xs => exact h _ h1
theorem spF_mono {vt : Bool} {sg : List Nat} {rk : Nat} {pre : (Nat → Int) → Mm → Prop} {f : (Nat → Int) → Mm → Int} : mono (spF vt sg rk pre f) := fun _ _ _ _ h h1 => oS_mono (fun _ h2 => ⟨h2.1, h _ _ h2.2⟩) h1
theorem spR_mono {vt : Bool} {sg : List Nat} {rk : Nat} {pre : (Nat → Int) → Mm → Prop} {post : (Nat → Int) → Mm → Int → Mm → Prop} : mono (spR vt sg rk pre post) := fun _ _ _ _ h h1 => oS_mono (fun _ h2 => ⟨h2.1, fun v M' h3 => h _ _ (h2.2 v M' h3)⟩) h1
theorem spV_mono {vt : Bool} {sg : List Nat} {pre : (Nat → Int) → Mm → Prop} {post : (Nat → Int) → Mm → Mm → Prop} : mono (spV vt sg pre post) := fun _ _ _ _ h h1 => oS_mono (fun _ h2 => ⟨h2.1, fun M' h3 => h _ _ (h2.2 M' h3)⟩) h1
theorem unA_mk : ∀ {sg : List Nat} {avs : List AV} {xs : List Int}, unA false sg avs = some xs → avs = mkF sg xs ∧ xs.length = sg.length := by
  intro sg
  induction sg with
  | nil =>
    intro avs xs h
    cases avs with
    | nil => cases h; exact ⟨rfl, rfl⟩
    | cons v r => rcases v with x | x | _ | x <;> cases h
  | cons k sg ih =>
    intro avs xs h
    cases avs with
    | nil => rcases k with _ | _ | _ | k <;> cases h
    | cons v r =>
      have key : ∀ (z : Int), (unA false sg r).map (z :: ·) = some xs → ∃ ys, xs = z :: ys ∧ r = mkF sg ys ∧ ys.length = sg.length := by
        intro z h
        cases h1 : unA false sg r with
        | none => rw [h1] at h; cases h
        | some ys =>
          rw [h1] at h
          cases h
          obtain ⟨a, b⟩ := ih h1
          exact ⟨ys, rfl, a, b⟩
      rcases v with x | x | _ | x
      · rcases k with _ | _ | _ | k
        · obtain ⟨ys, rfl, e, hl⟩ := key x h
          exact ⟨by rw [e]; rfl, by rw [List.length_cons, List.length_cons, hl]⟩
        · cases h
        · cases h
        · cases h
      · rcases k with _ | _ | _ | k
        · cases h
        · obtain ⟨ys, rfl, e, hl⟩ := key x h
          exact ⟨by rw [e]; rfl, by rw [List.length_cons, List.length_cons, hl]⟩
        · cases h
        · cases h
      · rcases k with _ | _ | _ | k <;> cases h
      · rcases k with _ | _ | _ | k
        · cases h
        · cases h
        · obtain ⟨ys, rfl, e, hl⟩ := key x h
          exact ⟨by rw [e]; rfl, by rw [List.length_cons, List.length_cons, hl]⟩
        · cases h
theorem mkA_len : ∀ {sg : List Nat} {xs : List Int}, xs.length = sg.length → (mkF sg xs).length = sg.length := by
  intro sg
  induction sg with
  | nil => intro xs h; cases xs <;> first | rfl | cases h
  | cons k sg ih =>
    intro xs h
    cases xs with
    | nil => cases h
    | cons x xs =>
      have h1 := ih (xs := xs) (by simpa using h)
      rcases k with _ | _ | _ | k <;> (show (_ :: mkF sg xs).length = _; rw [List.length_cons, List.length_cons, h1])
theorem unA_len {sg : List Nat} {avs : List AV} {xs : List Int} (h : unA false sg avs = some xs) : avs.length = sg.length ∧ xs.length = sg.length := by
  obtain ⟨e, hl⟩ := unA_mk h
  exact ⟨by rw [e]; exact mkA_len hl, hl⟩
theorem unA_recv {sg : List Nat} {avs : List AV} {xs : List Int} (h : unA true sg avs = some xs) : ∃ r, avs = ar 0 :: r ∧ unA false sg r = some xs := by
  cases avs with
  | nil => rcases sg with _ | ⟨k, sg⟩ <;> cases h
  | cons v r =>
    rcases v with x | x | x
    · rcases sg with _ | ⟨k, sg⟩ <;> cases h
    · rcases sg with _ | ⟨k, sg⟩ <;> cases h
    · rcases x with _ | _ | x
      · rcases sg with _ | ⟨k, sg⟩ <;> cases h
      · refine ⟨r, rfl, ?_⟩
        rcases sg with _ | ⟨k, sg⟩ <;> exact h
      · rcases sg with _ | ⟨k, sg⟩ <;> cases h
theorem unA_mkT {sg : List Nat} {avs : List AV} {xs : List Int} (h : unA true sg avs = some xs) : avs = mkA true sg xs ∧ xs.length = sg.length := by
  obtain ⟨r, e1, e2⟩ := unA_recv h
  obtain ⟨e3, hl⟩ := unA_mk e2
  exact ⟨by rw [e1, e3]; rfl, hl⟩
theorem len0 {xs : List Int} (h : xs.length = 0) : xs = [] := List.length_eq_zero_iff.mp h
theorem len1 {xs : List Int} (h : xs.length = 1) : ∃ a, xs = [a] := by
  rcases xs with _ | ⟨a, _ | ⟨b, xs⟩⟩
  · cases h
  · exact ⟨a, rfl⟩
  · simp at h
theorem lenS {xs : List Int} {n : Nat} (h : xs.length = n + 1) : ∃ a ys, xs = a :: ys ∧ ys.length = n := by
  rcases xs with _ | ⟨a, ys⟩
  · cases h
  · exact ⟨a, ys, rfl, by simpa using h⟩
theorem len2 {xs : List Int} (h : xs.length = 2) : ∃ a b, xs = [a, b] := by
  obtain ⟨a, ys, rfl, h1⟩ := lenS h
  obtain ⟨b, rfl⟩ := len1 h1
  exact ⟨a, b, rfl⟩
theorem len3 {xs : List Int} (h : xs.length = 3) : ∃ a b c, xs = [a, b, c] := by
  obtain ⟨a, ys, rfl, h1⟩ := lenS h
  obtain ⟨b, c, rfl⟩ := len2 h1
  exact ⟨a, b, c, rfl⟩
theorem len4 {xs : List Int} (h : xs.length = 4) : ∃ a b c d, xs = [a, b, c, d] := by
  obtain ⟨a, ys, rfl, h1⟩ := lenS h
  obtain ⟨b, c, d, rfl⟩ := len3 h1
  exact ⟨a, b, c, d, rfl⟩
theorem len5 {xs : List Int} (h : xs.length = 5) : ∃ a b c d e, xs = [a, b, c, d, e] := by
  obtain ⟨a, ys, rfl, h1⟩ := lenS h
  obtain ⟨b, c, d, e, rfl⟩ := len4 h1
  exact ⟨a, b, c, d, e, rfl⟩
theorem vq_post {D : va_G} {cl : List vw_C} {tyl : List (Nat × FieldType)} {ad : Nat → Nat} {ca : Nat → ClassId} {sh : List SC} {A : Nat → Prop} {Q : Option AV → Mm → Prop} {a : Array Value} {st t : State} {v : Option Value} (h : vq D cl tyl ad ca sh A Q a st (.returned v) t) :
    (∃ (r : Option AV) (M' : Mm), v = r.map (cz ad) ∧ Q r M' ∧ (∀ v ∈ r.toList, okV v) ∧ okM sh M' ∧ va_P D cl (wl ca ad sh M') t.heap ∧ va_K D cl (tys_ ca tyl) t ∧ va_D A (wl ca ad sh M')) ∧ va_F A st t := by
  obtain ⟨⟨r, M', h1, h2⟩, h3⟩ := h
  exact ⟨⟨r, M', Outcome.returned.inj h1, h2⟩, h3⟩
section CALLS
variable {p : Program} {l : Launch} {e : Env} {R : Room} {s : State} {m : MethodId} {args : Array Value} {below : List Frame} {meth : Method} {c : Code}
variable {cc : ByteArray} {D : va_G} {cl : List vw_C} {A : Nat → Prop} {ad : Nat → Nat} {ca : Nat → ClassId} {tyl : List (Nat × FieldType)} {sh : List SC} {own : String} {Nws : List Cond} {nL rt c0 s0 : Nat} {tb : TB}
/-- behind a call that kept the spec -/
theorem run_snW {Q : State → Prop} {pc : Nat} {ls : Array Slot} {lv : LV} {st rest : List AV} {M : Mm} {H : Heap} {locs : List Loc} {Q' : Option AV → Mm → Prop} {a : Array Value}
    (hr : va_Run p l e R s m args below meth c H locs c0 s0 0 0 (F0 m pc ls (st.map (cz ad))) (rest.map (cz ad)) (vq D cl tyl ad ca sh (va_A (wl ca ad sh M) H.size) Q' a) (va_A (wl ca ad sh M) H.size))
    (hA : ∀ q, s.heap.size ≤ q → A q) (hrel : rel D cl A ad ca sh nL s.heap lv rest M ls H locs)
    (k : ∀ r M', Q' r M' → snW p l e R s m args below meth c Q D cl A ad ca sh nL c0 s0 (pc + 3) lv (r.toList ++ rest) M') : W p l e R s m args below meth c H locs c0 s0 Q (F0 m pc ls (st.map (cz ad))) := by
  obtain ⟨r1, r2, r3, r4, r5, r6, r7⟩ := hrel
  have hf : ∀ q, va_A (wl ca ad sh M) H.size q → A q := by
    intro q h
    rcases h with ⟨k, e, h⟩ | h
    · exact r3.2 k (q, e) h
    · exact hA q (Nat.le_trans r4.1 h)
  intro T hT X
  obtain ⟨v, st₀, t, T', L, h0, X', hL, e1, e2, hq, hst⟩ := hr T hT X
  obtain ⟨⟨r, M', hv, hQ', hrv, hM', hP', hK', hD'⟩, hz, hk⟩ := vq_post hq
  rw [h0] at hz hk
  have hS' : va_S A s.heap T'.heap (locs ++ L) := ⟨Nat.le_trans r4.1 (by rw [e1]; exact hz), fun q h1 h2 => by rw [e1, hk q (Nat.lt_of_lt_of_le h1 r4.1) (fun z => h2 (hf q z))]; exact r4.2.1 q h1 h2, fun q hq => by
      rcases List.mem_append.mp hq with h | h
      · exact r4.2.2 q h
      · exact hf _ (hL q h)⟩
  have hrel' : rel D cl A ad ca sh nL s.heap lv (r.toList ++ rest) M' ls T'.heap (locs ++ L) := ⟨r1, by rw [e1]; exact hP', hD'.weaken (fun _ q _ h => hf q.1 h), hS', hM', r6, fun v hv => by
    rcases List.mem_append.mp hv with h | h
    · exact hrv v h
    · exact r7 v h⟩
  obtain ⟨t2, a1, b1⟩ := k r M' hQ' ls T'.heap (locs ++ L) hrel' T' rfl X'
  refine ⟨t2, hst t2 ?_, b1⟩
  have e3 : v.toList ++ rest.map (cz ad) = (r.toList ++ rest).map (cz ad) := by
    rw [hv, List.map_append]
    cases r <;> rfl
  rw [e3]
  exact a1
theorem PB_blind {as : List Value} {M : Mm} {sz : Nat} (hNw : ∀ w ∈ Nws, nwOK w = true) : FrameBlind (va_Pc as (PB D cl tyl Nws ad ca sh M sz)) := by
  intro a U g mk q
  obtain ⟨q0, q1, qP, qK, qD, qN⟩ := q
  exact ⟨q0, q1, qP, va_K.moved (u := U) (U := U.calling g mk a) (Vm.Alike.refl U.vm) qK, qD, fun w hw => nw_same (u := U) (U := U.calling g mk a) (hNw w hw) rfl (qN w hw)⟩
theorem PB_of {M : Mm} {H : Heap} {locs : List Loc} {lv : LV} {st : List AV} {ls : Array Slot} (hNw : ∀ w ∈ Nws, nwOK w = true) (F : fx p s m args c cc D cl ca tyl own Nws) (hr : rel D cl A ad ca sh nL s.heap lv st M ls H locs) (U : State) (hU : U.heap = H) (hW : s.WarmedH U.vm) : PB D cl tyl Nws ad ca sh M H.size U :=
  ⟨by rw [hU], by rw [hU]; exact hr.2.1, va_K.moved hW.alike F.2.2.2.2.2, hr.2.2.1.weaken (fun _ _ _ _ => trivial), fun w hw => nw_warm (hNw w hw) hW (nw_of (hNw w hw) (F.2.2.2.2.1 w hw))⟩
theorem room4 {st : List AV} (h : st.length ≤ 4) : ((st.map (cz ad)).map fun v => v.category).sum ≤ 8 := by
  have key : ∀ (l : List AV), ((l.map (cz ad)).map fun v => v.category).sum ≤ 2 * l.length := by
    intro l
    induction l with
    | nil => exact Nat.le_refl _
    | cons v r ih =>
      rw [List.map_cons, List.map_cons, List.sum_cons, List.length_cons]
      have := cz_cat ad v
      cases hv : isL v <;> rw [hv] at this <;> simp at this <;> omega
  have := key st
  omega
theorem take_rev {st : List AV} {n : Nat} {r : List AV} (h : (st.take n).reverse = r) : st = r.reverse ++ st.drop n := by
  rw [← h, List.reverse_reverse, List.take_append_drop]
/-- a call through the object -/
theorem cg_V {sg : List Nat} {sp : Spec} {lvl lvl' x maxL n : Nat} {y : MethodName} {bytes : ByteArray} {ret : Option FieldType} {ci : Nat} {fks : List Nat} {q : vw_C} (hNw : ∀ w ∈ Nws, nwOK w = true) (hm : mono sp) (hsp : ∀ avs M Q, sp avs M Q → ∃ xs, unA true sg avs = some xs) (hM : MOK cl sh tyl Nws lvl' y bytes maxL ret sp) (hl : lvl' < lvl) (hn : n = sg.length + 1) (hmx : maxL ≤ 45)
    (hs0 : sh[0]? = some (.inl (ci, fks))) (hc0 : cl[ci]? = some q) (hd : y.cls = q.1 ∧ y.cls ≠ "java/lang/invoke/MethodHandle" ∧ y.cls ≠ "java/lang/invoke/VarHandle" ∧ (parseMethodDescriptor y.desc).map (fun d => d.parameters.length) = some sg.length)
    (h1 : Cond.methodLink own x y ∈ lw_all) (h2 : Cond.instanceMethod y ∈ lw_all) (h3 : Cond.selects q.1 y y ∈ lw_all) (h4 : Cond.initialized q.1 ∈ lw_all) (h5 : Cond.code y bytes maxL ret ∈ lw_all) : CG own cl sh tyl Nws lvl 1 x n sp := by
  refine ⟨hm, ?_⟩
  intro p l e R s m args below meth c Q cc D A ad ca nL c0 s0 F hml hA hfr hlo hcs pc lv st M hdg hle hspec ls H locs hr
  obtain ⟨xs, hxs⟩ := hsp _ _ _ hspec
  obtain ⟨rs, e1, e2⟩ := unA_recv hxs
  have hlen := (unA_len e2).1
  have est := take_rev e1
  have hv := hr.2.2.2.2.2.2
  have hvt : ∀ v ∈ st.take n, okV v := fun v h => hv v (List.mem_of_mem_take h)
  have hvd : ∀ v ∈ st.drop n, okV v := fun v h => hv v (List.mem_of_mem_drop h)
  have hav : ∀ v ∈ (st.take n).reverse, okV v := fun v h => hvt v (List.mem_reverse.mp h)
  have hM0 := hM l D ca ad H.size (st.take n).reverse M _ hr.2.2.2.2.1 hav hspec
  have hrel := rel_st hr hvd
  have ew := wl_get (ca := ca) (ad := ad) (M := M) hs0
  have hrecv := va_recv F.2.2.2.2.2 hr.2.1 (ci := ci) (q0 := 0) hc0 ew
  rw [e1] at hM0
  have hst : st.map (cz ad) = (rs.map (cz ad)).reverse ++ .ref (ad 0) :: (st.drop n).map (cz ad) := by
    conv => lhs; rw [est]
    simp [cz]
  refine run_snW (tyl := tyl) (rest := st.drop n) (Q' := _) (a := (Value.ref (ad 0) :: rs.map (cz ad)).toArray) ?_ hA hrel (fun r M' h => h)
  exact va_runV (As := rs.map (cz ad)) (rest := (st.drop n).map (cz ad)) ⟨F.1, F.2.1, hml, F.2.2.1, F.2.2.2.1⟩ hM0 (cwV sg.length F.2.2.2.1 (lw_V h1 h2 h3 h4 h5) rfl rfl rfl hd ⟨by show lvl' + 1 ≤ R.frames; omega, by show 8 + (maxL + 11) + 64 * lvl' ≤ R.locals; omega⟩)
    ⟨PB_blind hNw, hrecv, fun U hU hW => ⟨rfl, PB_of hNw F hr U hU hW⟩⟩ rfl (by rw [List.length_map]; exact hlen) hr.1.1 hst (lv_room (room4 hle)) hdg hcs
/-- a static call -/
theorem cg_S {sg : List Nat} {sp : Spec} {lvl lvl' x maxL n : Nat} {y : MethodName} {bytes : ByteArray} {ret : Option FieldType} (hNw : ∀ w ∈ Nws, nwOK w = true) (hm : mono sp) (hsp : ∀ avs M Q, sp avs M Q → ∃ xs, unA false sg avs = some xs) (hM : MOK cl sh tyl Nws lvl' y bytes maxL ret sp) (hl : lvl' < lvl) (hn : n = sg.length) (hmx : maxL ≤ 45)
    (hd : y.cls ≠ "java/lang/invoke/MethodHandle" ∧ y.cls ≠ "java/lang/invoke/VarHandle" ∧ (parseMethodDescriptor y.desc).map (fun d => d.parameters.length) = some sg.length)
    (h1 : Cond.methodLink own x y ∈ lw_all) (h2 : Cond.static y ∈ lw_all) (h3 : Cond.initialized y.cls ∈ lw_all) (h4 : Cond.code y bytes maxL ret ∈ lw_all) : CG own cl sh tyl Nws lvl 0 x n sp := by
  refine ⟨hm, ?_⟩
  intro p l e R s m args below meth c Q cc D A ad ca nL c0 s0 F hml hA hfr hlo hcs pc lv st M hdg hle hspec ls H locs hr
  obtain ⟨xs, e2⟩ := hsp _ _ _ hspec
  have hlen := (unA_len e2).1
  have est := take_rev (rfl : (st.take n).reverse = (st.take n).reverse)
  have hv := hr.2.2.2.2.2.2
  have hvt : ∀ v ∈ st.take n, okV v := fun v h => hv v (List.mem_of_mem_take h)
  have hvd : ∀ v ∈ st.drop n, okV v := fun v h => hv v (List.mem_of_mem_drop h)
  have hav : ∀ v ∈ (st.take n).reverse, okV v := fun v h => hvt v (List.mem_reverse.mp h)
  have hM0 := hM l D ca ad H.size (st.take n).reverse M _ hr.2.2.2.2.1 hav hspec
  have hrel := rel_st hr hvd
  have hst : st.map (cz ad) = ((st.take n).reverse.map (cz ad)).reverse ++ (st.drop n).map (cz ad) := by
    conv => lhs; rw [est]
    simp
  refine run_snW (tyl := tyl) (rest := st.drop n) (Q' := _) (a := ((st.take n).reverse.map (cz ad)).toArray) ?_ hA hrel (fun r M' h => h)
  exact va_runS (As := (st.take n).reverse.map (cz ad)) (rest := (st.drop n).map (cz ad)) ⟨F.1, F.2.1, hml, F.2.2.1, F.2.2.2.1⟩ hM0 (va_cwS sg.length F.2.2.2.1 (lw_S h1 h2 h3 h4) rfl rfl rfl hd ⟨by show lvl' + 1 ≤ R.frames; omega, by show 8 + (maxL + 11) + 64 * lvl' ≤ R.locals; omega⟩)
    ⟨PB_blind hNw, fun U hU hW => ⟨rfl, PB_of hNw F hr U hU hW⟩⟩ rfl (by rw [List.length_map]; exact hlen) hr.1.1 hst (lv_room (room4 hle)) hdg hcs
theorem spF_un {vt : Bool} {sg : List Nat} {rk : Nat} {pre : (Nat → Int) → Mm → Prop} {f : (Nat → Int) → Mm → Int} : ∀ avs M Q, spF vt sg rk pre f avs M Q → ∃ xs, unA vt sg avs = some xs := by
  intro avs M Q h
  unfold spF at h
  cases hu : unA vt sg avs with
  | none => rw [hu] at h; exact h.elim
  | some xs => exact ⟨xs, rfl⟩
theorem spR_un {vt : Bool} {sg : List Nat} {rk : Nat} {pre : (Nat → Int) → Mm → Prop} {post : (Nat → Int) → Mm → Int → Mm → Prop} : ∀ avs M Q, spR vt sg rk pre post avs M Q → ∃ xs, unA vt sg avs = some xs := by
  intro avs M Q h
  unfold spR at h
  cases hu : unA vt sg avs with
  | none => rw [hu] at h; exact h.elim
  | some xs => exact ⟨xs, rfl⟩
theorem spV_un {vt : Bool} {sg : List Nat} {pre : (Nat → Int) → Mm → Prop} {post : (Nat → Int) → Mm → Mm → Prop} : ∀ avs M Q, spV vt sg pre post avs M Q → ∃ xs, unA vt sg avs = some xs := by
  intro avs M Q h
  unfold spV at h
  cases hu : unA vt sg avs with
  | none => rw [hu] at h; exact h.elim
  | some xs => exact ⟨xs, rfl⟩
end CALLS
/-- calls as a list -/
def csL (l : List (Nat × Nat × Nat × Spec)) : Nat → Option (Nat × Nat × Spec) := fun x => match l with
  | [] => none
  | (k, r) :: t => if x = k then some r else csL t x
theorem csL_s {k x : Nat} {r : Nat × Nat × Spec} {t : List (Nat × Nat × Nat × Spec)} : csL ((k, r) :: t) x = if x = k then some r else csL t x := rfl
theorem csL_all {own : String} {cl : List vw_C} {sh : List SC} {tyl : List (Nat × FieldType)} {Nws : List Cond} {lvl : Nat} : ∀ {l : List (Nat × Nat × Nat × Spec)}, (∀ q ∈ l, CG own cl sh tyl Nws lvl q.2.1 q.1 q.2.2.1 q.2.2.2) → ∀ x vt n sp, csL l x = some (vt, n, sp) → CG own cl sh tyl Nws lvl vt x n sp := by
  intro l
  induction l with
  | nil => intro _ x vt n sp h; cases h
  | cons q t ih =>
    obtain ⟨k, r⟩ := q
    intro hl x vt n sp h
    rw [csL_s] at h
    by_cases hk : x = k
    · rw [if_pos hk] at h
      cases h
      subst hk
      exact hl _ List.mem_cons_self
    · rw [if_neg hk] at h
      exact ih (fun q hq => hl q (List.mem_cons_of_mem _ hq)) x vt n sp h
theorem nil_nw : ∀ w ∈ ([] : List Cond), nwOK w = true := fun _ h => by cases h
/-- an argument by its place -/
def pa (vt : Bool) (sg : List Nat) (avs : List AV) (i : Nat) : Int := gx ((unA vt sg avs).getD []) i
def b01 (c : Prop) [Decidable c] : Int := if c then 1 else 0
