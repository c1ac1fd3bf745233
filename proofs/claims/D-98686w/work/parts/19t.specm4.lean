/-! THE MODEL, plain laws: what is undone, what is kept -/
set_option maxRecDepth 100000
/-- rows, one behind another -/
def pHi (g : gWM) (k sz : Nat) (B : gBar) (U : zHi) (um : Nat) : Prop := ∃ f, g k = some (.inl (0, sz, .inl f)) ∧ ∀ a, a < um → (∀ i, zRel B i → f (18 * a + i) = (U a).1 i) ∧ f (18 * a + 17) = (U a).2
theorem pHi.fr {g g1 : gWM} {k sz : Nat} {B : gBar} {U : zHi} {um : Nat} (h : pHi g k sz B U um) (hf : ∀ j, k ≤ j → j < k + 1 → g1 j = g j) : pHi g1 k sz B U um := by
  obtain ⟨f, h1, h2⟩ := h
  exact ⟨f, (hf _ (by omega) (by omega)).trans h1, h2⟩
theorem pHi.less {g : gWM} {k sz : Nat} {B : gBar} {U : zHi} {um n : Nat} (h : pHi g k sz B U um) (hn : n ≤ um) : pHi g k sz B U n := by
  obtain ⟨f, h1, h2⟩ := h
  exact ⟨f, h1, fun a ha => h2 a (by omega)⟩
theorem pHi.row {g : gWM} {k sz : Nat} {B : gBar} {U : zHi} {um a : Nat} {f e : Nat → Int32} (h2 : ∀ a, a < um → (∀ i, zRel B i → f (18 * a + i) = (U a).1 i) ∧ f (18 * a + 17) = (U a).2) (ha : a < um) (he : ∀ i, i < 18 → e i = f (18 * a + i)) (hw : wfB B) : (∀ i, zRel B i → e i = (U a).1 i) ∧ e 17 = (U a).2 :=
  ⟨fun i hi => (he i (by have := hi.lt hw; omega)).trans ((h2 a ha).1 i hi), (he 17 (by decide)).trans (h2 a ha).2⟩
theorem pHi.put {f1 f2 v R : Nat → Int32} {B : gBar} {U : zHi} {d : Int32} {a0 sz : Nat} (hw : wfB B) (h0 : ∀ a, a < a0 → (∀ i, zRel B i → f1 (18 * a + i) = (U a).1 i) ∧ f1 (18 * a + 17) = (U a).2) (hv : (∀ i, zRel B i → v i = R i) ∧ v 17 = d) (h2 : ∀ i, i < sz → f2 i = if 18 * a0 ≤ i ∧ i < 18 * a0 + 18 then v (i - 18 * a0) else f1 i) (hs : 18 * (a0 + 1) ≤ sz) : ∀ a, a < a0 + 1 → (∀ i, zRel B i → f2 (18 * a + i) = ((if a = a0 then (R, d) else U a) : (Nat → Int32) × Int32).1 i) ∧ f2 (18 * a + 17) = ((if a = a0 then (R, d) else U a) : (Nat → Int32) × Int32).2 := by
  intro a ha
  by_cases h9 : a = a0
  · subst h9
    simp only [if_true]
    refine ⟨fun i hi => ?_, ?_⟩
    · have := hi.lt hw
      rw [h2 _ (by omega), if_pos (by omega), show 18 * a + i - 18 * a = i by omega]
      exact hv.1 i hi
    · rw [h2 _ (by omega), if_pos (by omega), show 18 * a + 17 - 18 * a = 17 by omega]
      exact hv.2
  · simp only [h9, if_false]
    refine ⟨fun i hi => ?_, ?_⟩
    · have := hi.lt hw
      rw [h2 _ (by omega), if_neg (by omega)]
      exact (h0 a (by omega)).1 i hi
    · rw [h2 _ (by omega), if_neg (by omega)]
      exact (h0 a (by omega)).2
/-- copied so far: k entries of v from the place b on -/
def zCpd (f1 v : Nat → Int32) (b k i : Nat) : Int32 := if b ≤ i ∧ i < b + k then v (i - b) else f1 i
theorem zCpd_0 {f1 v : Nat → Int32} {b i : Nat} : f1 i = zCpd f1 v b 0 i := by
  unfold zCpd
  rw [if_neg (by omega)]
theorem zCpd_s {f f1 v : Nat → Int32} {b k sz : Nat} (h : ∀ i, i < sz → f i = zCpd f1 v b k i) : ∀ i, i < sz → upd f (b + k) (v k) i = zCpd f1 v b (k + 1) i := by
  intro i hi
  unfold upd
  split
  · rename_i h9
    subst h9
    unfold zCpd
    rw [if_pos (by omega), show b + k - b = k by omega]
  · rename_i h9
    rw [h i hi]
    unfold zCpd
    by_cases h8 : b ≤ i ∧ i < b + k
    · rw [if_pos h8, if_pos (by omega)]
    · rw [if_neg h8, if_neg (by omega)]
/-- moved so far -/
def zMvd (f : Nat → Int32) (k i : Nat) : Int32 := if i < k then f (i + 18) else f i
theorem zMvd_0 {f : Nat → Int32} {i : Nat} : f i = zMvd f 0 i := by
  unfold zMvd
  rw [if_neg (by omega)]
theorem zMvd_k {f f0 : Nat → Int32} {k sz : Nat} (h : ∀ i, i < sz → f i = zMvd f0 k i) (hk : k + 18 < sz) : f (k + 18) = f0 (k + 18) := by
  rw [h _ hk]
  unfold zMvd
  rw [if_neg (by omega)]
theorem zMvd_s {f f0 : Nat → Int32} {k sz : Nat} (h : ∀ i, i < sz → f i = zMvd f0 k i) : ∀ i, i < sz → upd f k (f0 (k + 18)) i = zMvd f0 (k + 1) i := by
  intro i hi
  unfold upd
  split
  · rename_i h9
    subst h9
    unfold zMvd
    rw [if_pos (by omega)]
  · rename_i h9
    rw [h i hi]
    unfold zMvd
    by_cases h8 : i < k
    · rw [if_pos h8, if_pos (by omega)]
    · rw [if_neg h8, if_neg (by omega)]
theorem zMvd_h {f f0 : Nat → Int32} {B : gBar} {U : zHi} (hw : wfB B) (h : ∀ i, i < 288 → f i = zMvd f0 270 i) (h0 : ∀ a, a < 16 → (∀ i, zRel B i → f0 (18 * a + i) = (U a).1 i) ∧ f0 (18 * a + 17) = (U a).2) : ∀ a, a < 15 → (∀ i, zRel B i → f (18 * a + i) = (U (a + 1)).1 i) ∧ f (18 * a + 17) = (U (a + 1)).2 := by
  intro a ha
  refine ⟨fun i hi => ?_, ?_⟩
  · have := hi.lt hw
    rw [h _ (by omega)]
    unfold zMvd
    rw [if_pos (by omega), show 18 * a + i + 18 = 18 * (a + 1) + i by omega]
    exact (h0 (a + 1) (by omega)).1 i hi
  · rw [h _ (by omega)]
    unfold zMvd
    rw [if_pos (by omega), show 18 * a + 17 + 18 = 18 * (a + 1) + 17 by omega]
    exact (h0 (a + 1) (by omega)).2
/-- an act was tried -/
def pAm (g : gWM) (mb : Nat) (B : gBar) (tp : Nat) (fa : Int32) (mk : Nat) (tr : Int32) (R : Nat → Int32) (d : Int32) (um : Nat) (U : zHi) (R1 : Nat → Int32) (d1 : Int32) : Prop :=
  pMq g (.ref mb) 0 tr (-1) tp fa (if tr = 0 then zUm um else um) mk [] ∧ pRw g 2002 B (if tr = 0 then R1 else R) (if tr = 0 then d1 else d) ∧ pHi g 2004 288 B (if tr = 0 then zUh um U R d else U) (if tr = 0 then zUm um else um)
theorem pAm.no {g : gWM} {mb : Nat} {B : gBar} {tp : Nat} {fa : Int32} {mk : Nat} {tr : Int32} {R R1 : Nat → Int32} {d d1 : Int32} {um : Nat} {U : zHi} (h : tr ≠ 0) (h1 : pMq g (.ref mb) 0 tr (-1) tp fa um mk []) (h2 : pRw g 2002 B R d) (h4 : pHi g 2004 288 B U um) : pAm g mb B tp fa mk tr R d um U R1 d1 := by
  unfold pAm
  rw [if_neg h, if_neg h, if_neg h, if_neg h]
  exact ⟨h1, h2, h4⟩
theorem pAm.yes {g : gWM} {mb : Nat} {B : gBar} {tp : Nat} {fa : Int32} {mk : Nat} {R R1 : Nat → Int32} {d d1 : Int32} {um : Nat} {U : zHi} (h1 : pMq g (.ref mb) 0 0 (-1) tp fa (zUm um) mk []) (h2 : pRw g 2002 B R1 d1) (h4 : pHi g 2004 288 B (zUh um U R d) (zUm um)) : pAm g mb B tp fa mk 0 R d um U R1 d1 := by
  unfold pAm
  rw [if_pos rfl, if_pos rfl, if_pos rfl, if_pos rfl]
  exact ⟨h1, h2, h4⟩
/-- gone back to a mark, or not -/
def pBm (g : gWM) (mb : Nat) (B : gBar) (tp : Nat) (fa : Int32) (mk um : Nat) (M : zHi) (R : Nat → Int32) (d p : Int32) : Prop := match qI mk p with
  | none => pMq g (.ref mb) 0 1 (-1) tp fa um mk [] ∧ pRw g 2002 B R d
  | some m => pMq g (.ref mb) 0 0 (-1) tp fa 0 mk [] ∧ pRw g 2002 B (M m).1 (M m).2
