/-! THE CORE: a world is a partial map from object numbers to contents; numbers below 1000 are kept for what lies outside (script, literals). -/
set_option maxRecDepth 100000
/-- contents: an array (its type's place in gTys, length, entries) or an object (its class's place in gCl, its fields); references are numbers -/
abbrev gE : Type := (Nat × vp_A) ⊕ (Nat × (Nat → Value))
abbrev gWM : Type := Nat → Option gE
def gTys (dA : Nat → ClassId) : List (ClassId × FieldType) := [(dA 0, .int), (dA 1, .byte), (dA 2, .char), (dA 3, .long), (dA 4, .object "SaltedGate$Load"), (dA 5, .object "SaltedGate$Means"), (dA 6, .object "SaltedGate$Traveller"), (dA 7, .object "SaltedGate$Gate"), (dA 8, .object "SaltedGate$Good"), (dA 9, .object "SaltedGate$Crossing")]
def gN (ci : Nat) : Nat := ((gCl[ci]?).map (fun q => q.2.2)).getD 0
def gmv (ad : Nat → Nat) (v : Value) : Value := match v with
  | .ref n => .ref (ad n)
  | v => v
def gma (ad : Nat → Nat) (x : vp_A) : vp_A := (x.1, match x.2 with
  | .inl f => .inl f
  | .inr (.inl f) => .inr (.inl f)
  | .inr (.inr (.inl f)) => .inr (.inr (.inl f))
  | .inr (.inr (.inr (.inl f))) => .inr (.inr (.inr (.inl f)))
  | .inr (.inr (.inr (.inr f))) => .inr (.inr (.inr (.inr (fun i => (f i).map ad)))))
def gme (dA : Nat → ClassId) (ad : Nat → Nat) (e : gE) : va_E := match e with
  | .inl a => .inl (dA a.1, gma ad a.2)
  | .inr o => .inr (o.1, (List.range (gN o.1)).map (fun k => gmv ad (o.2 k)))
def gup (g : gWM) (k : Nat) (e : gE) : gWM := fun j => if j = k then some e else g j
theorem gup_s {g : gWM} {k : Nat} {e : gE} : gup g k e k = some e := if_pos rfl
theorem gup_n {g : gWM} {k j : Nat} {e : gE} (h : j ≠ k) : gup g k e j = g j := if_neg h
theorem gup_dom {g : gWM} {k n : Nat} {e : gE} (h : g n ≠ none) : gup g k e n ≠ none := by
  unfold gup
  split
  · exact fun q => by cases q
  · exact h
/-- closed: no reference to what isn't there -/
def gok (g : gWM) (n : Nat) : Prop := n < 1000 ∨ g n ≠ none
def gcv (g : gWM) (v : Value) : Prop := match v with
  | .ref n => gok g n
  | _ => True
def gcL (g : gWM) : List Value → Prop
  | [] => True
  | v :: t => gcv g v ∧ gcL g t
def gcO (g : gWM) : List (Option Value) → Prop
  | [] => True
  | none :: t => gcO g t
  | some v :: t => gcv g v ∧ gcO g t
def gce (g : gWM) (e : gE) : Prop := match e with
  | .inl a => (match a.2.2 with
    | .inr (.inr (.inr (.inr f))) => ∀ i n, f i = some n → gok g n
    | _ => True)
  | .inr o => ∀ k, gcv g (o.2 k)
theorem gok_mono {g g' : gWM} (h : ∀ k, g k ≠ none → g' k ≠ none) {n : Nat} (hn : gok g n) : gok g' n := hn.imp id (h n)
theorem gcv_mono {g g' : gWM} (h : ∀ k, g k ≠ none → g' k ≠ none) {v : Value} (hv : gcv g v) : gcv g' v := by
  cases v <;> first | trivial | exact gok_mono h hv
theorem gcL_mono {g g' : gWM} (h : ∀ k, g k ≠ none → g' k ≠ none) {l : List Value} (hl : gcL g l) : gcL g' l := by
  induction l with
  | nil => trivial
  | cons v t ih => exact ⟨gcv_mono h hl.1, ih hl.2⟩
theorem gcO_mono {g g' : gWM} (h : ∀ k, g k ≠ none → g' k ≠ none) {l : List (Option Value)} (hl : gcO g l) : gcO g' l := by
  induction l with
  | nil => trivial
  | cons v t ih =>
    cases v with
    | none => exact ih hl
    | some v => exact ⟨gcv_mono h hl.1, ih hl.2⟩
theorem gce_mono {g g' : gWM} (h : ∀ k, g k ≠ none → g' k ≠ none) {e : gE} (he : gce g e) : gce g' e := by
  cases e with
  | inr o => exact fun k => gcv_mono h (he k)
  | inl a =>
    obtain ⟨t, n, x⟩ := a
    rcases x with f | f | f | f | f
    · trivial
    · trivial
    · trivial
    · trivial
    · exact fun i n q => gok_mono h (he i n q)
theorem gcL_mem {g : gWM} {l : List Value} (h : gcL g l) {v : Value} (hv : v ∈ l) : gcv g v := by
  induction l with
  | nil => cases hv
  | cons w t ih =>
    rcases List.mem_cons.mp hv with e | e
    · rw [e]; exact h.1
    · exact ih h.2 e
theorem gcL_app {g : gWM} {l1 l2 : List Value} (h1 : gcL g l1) (h2 : gcL g l2) : gcL g (l1 ++ l2) := by
  induction l1 with
  | nil => exact h2
  | cons w t ih => exact ⟨h1.1, ih h1.2⟩
theorem gcL_of {g : gWM} {l : List Value} (h : ∀ v ∈ l, gcv g v) : gcL g l := by
  induction l with
  | nil => trivial
  | cons w t ih => exact ⟨h w List.mem_cons_self, ih (fun v hv => h v (List.mem_cons_of_mem _ hv))⟩
theorem gcO_at {g : gWM} {l : List (Option Value)} (h : gcO g l) {i : Nat} {v : Value} (hv : l[i]? = some (some v)) : gcv g v := by
  induction l generalizing i with
  | nil => cases hv
  | cons w t ih =>
    cases i with
    | zero =>
      cases hv
      exact h.1
    | succ i =>
      have hv : t[i]? = some (some v) := by simpa using hv
      cases w with
      | none => exact ih h hv
      | some w => exact ih h.2 hv
theorem gcO_of {g : gWM} {l : List (Option Value)} (h : ∀ (i : Nat) (v : Value), l[i]? = some (some v) → gcv g v) : gcO g l := by
  induction l with
  | nil => trivial
  | cons w t ih =>
    have ht : gcO g t := ih (fun i v hv => h (i + 1) v (by simpa using hv))
    cases w with
    | none => exact ht
    | some w => exact ⟨h 0 w rfl, ht⟩
theorem gcO_set {g : gWM} {l : List (Option Value)} (h : gcO g l) {i : Nat} {x : Option Value} (hx : ∀ v, x = some v → gcv g v) : gcO g (l.set i x) := by
  refine gcO_of fun j v hv => ?_
  by_cases hj : i = j
  · subst hj
    rw [List.getElem?_set] at hv
    simp only [if_true] at hv
    split at hv
    · exact hx v (Option.some.inj hv)
    · cases hv
  · rw [List.getElem?_set_ne hj] at hv
    exact gcO_at h hv
/-- two addressings that agree on what is known give a value the same meaning -/
theorem gmv_ext {g : gWM} {ad ad' : Nat → Nat} (h : ∀ n, gok g n → ad' n = ad n) {v : Value} (hv : gcv g v) : gmv ad' v = gmv ad v := by
  cases v with
  | ref n => exact congrArg Value.ref (h n hv)
  | _ => rfl
theorem gmvL_ext {g : gWM} {ad ad' : Nat → Nat} (h : ∀ n, gok g n → ad' n = ad n) {l : List Value} (hl : gcL g l) : l.map (gmv ad') = l.map (gmv ad) := by
  induction l with
  | nil => rfl
  | cons v t ih =>
    simp only [List.map_cons]
    rw [gmv_ext h hl.1, ih hl.2]
theorem gma_ext {g : gWM} {ad ad' : Nat → Nat} (h : ∀ n, gok g n → ad' n = ad n) {t : Nat} {a : vp_A} (ha : gce g (.inl (t, a))) : gma ad' a = gma ad a := by
  obtain ⟨n, x⟩ := a
  rcases x with f | f | f | f | f
  · rfl
  · rfl
  · rfl
  · rfl
  · have e : (fun i => (f i).map ad') = (fun i => (f i).map ad) := by
      funext i
      cases hi : f i with
      | none => rfl
      | some q => exact congrArg some (h q (ha i q hi))
    show ((n, _) : vp_A) = (n, _)
    exact congrArg (fun z => ((n, .inr (.inr (.inr (.inr z)))) : vp_A)) e
theorem gme_ext {g : gWM} {ad ad' : Nat → Nat} {dA : Nat → ClassId} (h : ∀ n, gok g n → ad' n = ad n) {e : gE} (he : gce g e) : gme dA ad' e = gme dA ad e := by
  cases e with
  | inl a =>
    obtain ⟨t, a⟩ := a
    show (Sum.inl (dA t, gma ad' a) : va_E) = .inl (dA t, gma ad a)
    rw [gma_ext h he]
  | inr o =>
    obtain ⟨ci, F⟩ := o
    have e : (List.range (gN ci)).map (fun k => gmv ad' (F k)) = (List.range (gN ci)).map (fun k => gmv ad (F k)) := List.map_congr_left (fun k _ => gmv_ext h (he k))
    show (Sum.inr (ci, _) : va_E) = .inr (ci, _)
    exact congrArg (fun z => (Sum.inr (ci, z) : va_E)) e
theorem gmv_cat (ad : Nat → Nat) (v : Value) : (gmv ad v).category = v.category := by cases v <;> rfl
theorem gmv_rf (ad : Nat → Nat) (r : Option Nat) : gmv ad (va_rf r) = va_rf (r.map ad) := by cases r <;> rfl
/-! locals: by places; 'none' is a place of which nothing is said -/
def gLH (ls : Array Slot) (nL : Nat) (ad : Nat → Nat) (lo : List (Option Value)) : Prop := ls.size = nL ∧ lv_wf ls ∧ ∀ (i : Nat) (v : Value), lo[i]? = some (some v) → ls[i]? = some (.val (gmv ad v))
def gpr (ad : Nat → Nat) (lo : List (Option Value)) : List (Nat × Value) := (List.range lo.length).filterMap (fun i => match lo[i]? with
  | some (some v) => some (i, gmv ad v)
  | _ => none)
theorem gpr_mem {ad : Nat → Nat} {lo : List (Option Value)} {i : Nat} {w : Value} : (i, w) ∈ gpr ad lo ↔ ∃ v, lo[i]? = some (some v) ∧ w = gmv ad v := by
  unfold gpr
  rw [List.mem_filterMap]
  constructor
  · rintro ⟨j, hj, h⟩
    split at h
    · rename_i v hv
      cases h
      exact ⟨v, hv, rfl⟩
    · cases h
  · rintro ⟨v, hv, rfl⟩
    refine ⟨i, List.mem_range.mpr ?_, by rw [hv]⟩
    exact (List.getElem?_eq_some_iff.mp hv).1
theorem gLH.has {ls : Array Slot} {nL : Nat} {ad : Nat → Nat} {lo : List (Option Value)} (h : gLH ls nL ad lo) : lv_has ls nL (gpr ad lo) := by
  refine ⟨h.1, h.2.1, fun q hq => ?_⟩
  obtain ⟨i, w⟩ := q
  obtain ⟨v, hv, rfl⟩ := gpr_mem.mp hq
  exact h.2.2 i v hv
theorem gLH.of {ls : Array Slot} {nL : Nat} {ad : Nat → Nat} {lo : List (Option Value)} {l : List (Nat × Value)} (h : lv_has ls nL l) (hl : ∀ (i : Nat) (v : Value), lo[i]? = some (some v) → (i, gmv ad v) ∈ l) : gLH ls nL ad lo :=
  ⟨h.1, h.2.1, fun i v hv => h.2.2 _ (hl i v hv)⟩
theorem gLH.ext {ls : Array Slot} {nL : Nat} {ad ad' : Nat → Nat} {lo : List (Option Value)} {g : gWM} (h : gLH ls nL ad lo) (hc : gcO g lo) (ha : ∀ n, gok g n → ad' n = ad n) : gLH ls nL ad' lo :=
  ⟨h.1, h.2.1, fun i v hv => by rw [gmv_ext ha (gcO_at hc hv)]; exact h.2.2 i v hv⟩
/-- the place before i holds no long -/
def gno2 (lo : List (Option Value)) (i : Nat) : Bool := match i with
  | 0 => true
  | j + 1 => match lo[j]? with
    | some (some v) => !(v.category == 2)
    | _ => true
theorem gno2_spec {lo : List (Option Value)} {i j : Nat} {v : Value} (h : gno2 lo i = true) (hj : j + 1 = i) (hv : lo[j]? = some (some v)) : ¬ v.category = 2 := by
  subst hj
  simp only [gno2, hv] at h
  intro q
  rw [q] at h
  exact absurd h (by decide)
/-- what stands behind a store of a value of one word -/
theorem gst1 {ls' : Array Slot} {nL i : Nat} {ad : Nat → Nat} {lo : List (Option Value)} {x : Value} (h : lv_has ls' nL ((i, gmv ad x) :: (gpr ad lo).filter (fun q => !(q.1 == i) && !(q.1 + 1 == i && q.2.category == 2)))) (h2 : gno2 lo i = true) : gLH ls' nL ad (lo.set i (some x)) := by
  refine gLH.of h fun j v hv => ?_
  by_cases hj : i = j
  · subst hj
    rw [List.getElem?_set] at hv
    simp only [if_true] at hv
    split at hv
    · cases hv
      exact List.mem_cons_self
    · cases hv
  · rw [List.getElem?_set_ne hj] at hv
    refine List.mem_cons_of_mem _ (List.mem_filter.mpr ⟨gpr_mem.mpr ⟨v, hv, rfl⟩, ?_⟩)
    have h3 : ¬ j = i := fun q => hj q.symm
    by_cases h4 : j + 1 = i
    · have h5 := gno2_spec h2 h4 hv
      simp [h3, h4, gmv_cat, h5]
    · simp [h3, h4]
/-- .. of a long -/
theorem gst2 {ls' : Array Slot} {nL i : Nat} {ad : Nat → Nat} {lo : List (Option Value)} {x : Value} (h : lv_has ls' nL ((i, gmv ad x) :: (gpr ad lo).filter (fun q => !(q.1 == i) && (!(q.1 == i + 1) && !(q.1 + 1 == i && q.2.category == 2))))) (h2 : gno2 lo i = true) : gLH ls' nL ad ((lo.set i (some x)).set (i + 1) none) := by
  refine gLH.of h fun j v hv => ?_
  by_cases hk : i + 1 = j
  · subst hk
    rw [List.getElem?_set] at hv
    simp only [if_true] at hv
    split at hv <;> cases hv
  · rw [List.getElem?_set_ne hk] at hv
    by_cases hj : i = j
    · subst hj
      rw [List.getElem?_set] at hv
      simp only [if_true] at hv
      split at hv
      · cases hv
        exact List.mem_cons_self
      · cases hv
    · rw [List.getElem?_set_ne hj] at hv
      refine List.mem_cons_of_mem _ (List.mem_filter.mpr ⟨gpr_mem.mpr ⟨v, hv, rfl⟩, ?_⟩)
      have h3 : ¬ j = i := fun q => hj q.symm
      have h6 : ¬ j = i + 1 := fun q => hk q.symm
      by_cases h4 : j + 1 = i
      · have h5 := gno2_spec h2 h4 hv
        simp [h3, h4, h6, gmv_cat, h5]
      · simp [h3, h4, h6]
/-- the locals at a method's start -/
def glo : List Value → List (Option Value)
  | [] => []
  | v :: t => if v.category = 2 then some v :: none :: glo t else some v :: glo t
theorem glo_args (ad : Nat → Nat) (vs : List Value) : ∀ (i0 i : Nat) (v : Value), (glo vs)[i]? = some (some v) → (i0 + i, gmv ad v) ∈ lv_args i0 (vs.map (gmv ad)) := by
  induction vs with
  | nil => intro i0 i v h; cases h
  | cons w t ih =>
    intro i0 i v h
    simp only [List.map_cons, lv_args, gmv_cat]
    unfold glo at h
    split at h
    · rename_i hw
      rw [if_pos hw]
      match i, h with
      | 0, h =>
        cases h
        exact List.mem_cons_self
      | 1, h => cases h
      | i + 2, h =>
        refine List.mem_cons_of_mem _ ?_
        have := ih (i0 + 2) i v (by simpa using h)
        rw [show i0 + (i + 2) = i0 + 2 + i by omega]
        exact this
    · rename_i hw
      rw [if_neg hw]
      match i, h with
      | 0, h =>
        cases h
        exact List.mem_cons_self
      | i + 1, h =>
        refine List.mem_cons_of_mem _ ?_
        have := ih (i0 + 1) i v (by simpa using h)
        rw [show i0 + (i + 1) = i0 + 1 + i by omega]
        exact this
theorem glo_sub {lo : List (Option Value)} {vs : List Value} {n : Nat} (h : lo = glo vs ++ List.replicate n none) {i : Nat} {v : Value} (hv : lo[i]? = some (some v)) : (glo vs)[i]? = some (some v) := by
  subst h
  by_cases hi : i < (glo vs).length
  · rwa [List.getElem?_append_left hi] at hv
  · rw [List.getElem?_append_right (by omega), List.getElem?_replicate] at hv
    split at hv <;> cases hv
theorem glo_closed {g : gWM} {vs : List Value} (h : gcL g vs) {lo : List (Option Value)} {n : Nat} (hlo : lo = glo vs ++ List.replicate n none) : gcO g lo := by
  refine gcO_of fun i v hv => ?_
  have h1 := glo_args (fun x => x) vs 0 i v (glo_sub hlo hv)
  have h2 : ∀ (vs : List Value) (i0 : Nat) (q : Nat × Value), q ∈ lv_args i0 vs → q.2 ∈ vs := by
    intro vs
    induction vs with
    | nil => intro i0 q hq; cases hq
    | cons w t ih =>
      intro i0 q hq
      simp only [lv_args] at hq
      rcases List.mem_cons.mp hq with e | e
      · rw [e]; exact List.mem_cons_self
      · exact List.mem_cons_of_mem _ (ih _ _ e)
  have h3 := h2 _ _ _ h1
  obtain ⟨w, hw, he⟩ := List.mem_map.mp h3
  have h4 : ∀ u : Value, gmv (fun x => x) u = u := fun u => by cases u <;> rfl
  rw [h4] at he
  have he : w = v := by simpa [h4] using he
  rw [← he]
  exact gcL_mem h hw
