/-! THE PLAIN SIDE, first: a barrier as a table of numbers; goods, loads, what is found and asked -/
set_option maxRecDepth 100000
/-- a barrier: table and place. 0: counts (0 means, 1 people, 2 gates, 3 goods, 4 crossings, 5 prices, 6 crumbs, 7 fee, 8 interest); means: 1 rate, 2 other, 3 keeps, 4 here, 5 there, 6 priced; people: 7 allow, 8 hunger; gates: 9 nose, 10 opens, 11 shuts; goods: 12 kind, 13 by, 14 whose, 15 old, 16 weighs, 17 worth, 18 hidden; crossings: 19 who, 20 gate, 21 day, 22 hour; crumbs: 23 means, 24 day -/
abbrev gBar : Type := Nat → Nat → Nat
/-- what holds of a barrier being told -/
def wfB (B : gBar) : Prop :=
  (B 0 0 ≤ 4 ∧ B 0 1 ≤ 4 ∧ B 0 2 ≤ 3 ∧ B 0 3 ≤ 8 ∧ B 0 4 ≤ 6 ∧ B 0 6 ≤ 5 ∧ B 0 7 ≤ 9 ∧ B 0 8 ≤ 50) ∧
  (∀ k, k < B 0 0 → B 1 k ≤ 9 ∧ B 2 k ≤ 9 ∧ B 3 k ≤ 300 ∧ B 4 k ≤ 99 ∧ B 5 k ≤ 99 ∧ B 6 k ≤ 1 ∧ (B 6 k = 0 → B 4 k = 0 ∧ B 5 k = 0)) ∧
  (∀ t, t < B 0 1 → B 7 t ≤ 99 ∧ B 8 t ≤ 3) ∧
  (∀ k, k < B 0 2 → 1 ≤ B 9 k ∧ B 9 k ≤ 99 ∧ B 10 k ≤ 23 ∧ B 11 k ≤ 23) ∧
  (∀ j, j < B 0 3 → B 12 j ≤ 4 ∧ (B 12 j ≠ 0 → B 13 j < B 0 0) ∧ B 14 j < B 0 1 ∧ B 15 j ≤ 300 ∧ B 16 j ≤ 9 ∧ B 17 j ≤ 99 ∧ B 18 j ≤ 1) ∧
  (∀ c, c < B 0 4 → B 19 c < B 0 1 ∧ B 20 c < B 0 2 ∧ B 21 c ≤ 60 ∧ B 22 c ≤ 23) ∧
  (∀ c, c < B 0 6 → B 23 c < B 0 0 ∧ B 24 c ≤ 60)
theorem wfB.goods {B : gBar} (h : wfB B) {j : Nat} (hj : j < B 0 3) : B 12 j ≤ 4 ∧ (B 12 j ≠ 0 → B 13 j < B 0 0) ∧ B 14 j < B 0 1 ∧ B 15 j ≤ 300 ∧ B 16 j ≤ 9 ∧ B 17 j ≤ 99 ∧ B 18 j ≤ 1 := h.2.2.2.2.1 j hj
def zAge (B : gBar) (j : Nat) (d : Int32) : Int32 := nI (B 15 j) + d
def zTur (B : gBar) (j : Nat) (d : Int32) : Bool := if B 12 j = 4 then false else if B 12 j = 0 then decide ((3 : Int32) < zAge B j d) else decide (nI (B 3 (B 13 j)) < zAge B j d)
def zWor (B : gBar) (j : Nat) (d : Int32) : Int32 := if zTur B j d then 0 else if B 12 j = 2 then nI (B 17 j) + zAge B j d / 10 else nI (B 17 j)
/-- by the law r: 1 the one, 2 the other -/
def zDut (B : gBar) (r j : Nat) (d : Int32) : Int32 := if B 12 j = 0 then 0 else if zTur B j d then 0 else nI (B 16 j) * nI (B r (B 13 j)) * (zAge B j d / 10)
def zGai (B : gBar) (j : Nat) (d : Int32) : Int32 := if B 12 j = 0 then 0 else if zTur B j d then (-nI (B 16 j)) * nI (B 4 (B 13 j)) else nI (B 16 j) * (nI (B 5 (B 13 j)) - nI (B 4 (B 13 j))) - zDut B 1 j d
def zSmb (B : gBar) (j : Nat) (d : Int32) : Int32 := if B 12 j = 3 then 2 * (nI (B 16 j) + zAge B j d / 10) else nI (B 16 j) + zAge B j d / 10
/-- does k cover j? -/
def zCov (B : gBar) (R : Nat → Int32) (j : Nat) (d : Int32) (k : Nat) : Bool := decide (k ≠ j) && (decide (B 14 k = B 14 j) && (decide (R k = 0) && (decide (B 12 k = 0) && !zTur B k d)))
def zFre (B : gBar) (R : Nat → Int32) (j : Nat) (d : Int32) (n : Nat) : Int32 := sumTo (fun k => if zCov B R j d k then 1 else 0) n
def zPos (x : Int32) : Int32 := if 0 < x then x else 0
def zSme (B : gBar) (R : Nat → Int32) (j : Nat) (d more : Int32) : Int32 := zPos (zSmb B j d - 2 * (zFre B R j d (B 0 3) + more))
def zBit (s : Int32) (k : Nat) : Bool := decide ((s >>> (nI k &&& 31)) &&& 1 = 1)
def zHp (B : gBar) (R : Nat → Int32) (t j : Nat) : Bool := decide (B 14 j = t) && decide (R j = 0)
def zHas (B : gBar) (R : Nat → Int32) (t : Nat) : Int32 := orTo (zHp B R t) (B 0 3)
def zAll (B : gBar) (R : Nat → Int32) (c : Int32) : Int32 := orTo (fun j => decide (R j = c)) (B 0 3)
def zFp (B : gBar) (R : Nat → Int32) (t k : Nat) (d more : Int32) (j : Nat) : Bool := zHp B R t j && zBit (R 16) j && !decide (zSme B R j d more < nI (B 9 k))
/-- what is found at the gate k -/
def zFou (B : gBar) (R : Nat → Int32) (t k : Nat) (d more : Int32) : Int32 := orTo (zFp B R t k d more) (B 0 3)
def zOpn (B : gBar) (R : Nat → Int32) (t r : Nat) (d : Int32) (j : Nat) : Int32 := if zHp B R t j && !zBit (R 16) j then zDut B r j d else 0
def zFin (B : gBar) (f : Int32) (r : Nat) (d : Int32) (j : Nat) : Int32 := if zBit f j then 3 * zDut B r j d else 0
def zAsk (B : gBar) (R : Nat → Int32) (t : Nat) (f : Int32) (r : Nat) (d : Int32) : Int32 := zPos (sumTo (zOpn B R t r d) (B 0 3) - nI (B 7 t)) + sumTo (zFin B f r d) (B 0 3)
/-- a crossing, done for the first k goods -/
def zCr (B : gBar) (R : Nat → Int32) (t : Nat) (f : Int32) (k : Nat) : Nat → Int32 := fun i => if decide (i < k) && zHp B R t i then (if zBit f i then 3 else 2) else R i
/-- a crossing -/
def zCro (B : gBar) (R : Nat → Int32) (t : Nat) (f a : Int32) : Nat → Int32 := upd (zCr B R t f (B 0 3)) (12 + t) (R (12 + t) + a)
def zHid (B : gBar) : Int32 := orTo (fun j => decide (B 18 j = 1)) (B 0 3)
/-- how all begins -/
def zR0 (B : gBar) : Nat → Int32 := fun i => if i < 8 then 0 else if i < 12 then nI (B 8 (i - 8)) else if i = 16 then zHid B else 0
theorem zFre_t {B : gBar} {R : Nat → Int32} {j k : Nat} {d a : Int32} (h : zCov B R j d k = true) : a - 2 * zFre B R j d k + Int32.ofInt (-2) = a - 2 * zFre B R j d (k + 1) := by
  have h1 : zFre B R j d (k + 1) = zFre B R j d k + 1 := by
    show zFre B R j d k + (if zCov B R j d k then (1 : Int32) else 0) = _
    rw [if_pos h]
  rw [h1, show Int32.ofInt (-2) = -2 from rfl]
  grind
theorem zFre_f {B : gBar} {R : Nat → Int32} {j k : Nat} {d : Int32} (h : zCov B R j d k = false) : zFre B R j d (k + 1) = zFre B R j d k := by
  show zFre B R j d k + (if zCov B R j d k then (1 : Int32) else 0) = _
  rw [if_neg (by rw [h]; exact Bool.false_ne_true), Int32.add_zero]
theorem zCr_0 {B : gBar} {R : Nat → Int32} {t : Nat} {f : Int32} : zCr B R t f 0 = R := by
  funext i
  simp [zCr]
theorem zCr_t {B : gBar} {R : Nat → Int32} {t k : Nat} {f : Int32} (h : zHp B R t k = true) : zCr B R t f (k + 1) = upd (zCr B R t f k) k (if zBit f k then 3 else 2) := by
  funext i
  unfold zCr upd
  by_cases hi : i = k
  · subst hi
    simp [h]
  · have : (i < k + 1) ↔ i < k := by omega
    simp [this, hi]
theorem zCr_f {B : gBar} {R : Nat → Int32} {t k : Nat} {f : Int32} (h : zHp B R t k = false) : zCr B R t f (k + 1) = zCr B R t f k := by
  funext i
  unfold zCr
  by_cases hi : i = k
  · subst hi
    simp [h]
  · have : (i < k + 1) ↔ i < k := by omega
    simp [this]
theorem zCr_hp {B : gBar} {R : Nat → Int32} {t k : Nat} {f : Int32} : zCr B R t f k k = R k := by
  unfold zCr
  simp
/-! pictures of the system's cells -/
def pLd (g : gWM) (ld : Nat) (bar : Value) (B : gBar) (R : Nat → Int32) (d : Int32) : Prop :=
  (∃ F, g ld = some (.inr (3, F)) ∧ F 0 = .ref (ld + 1) ∧ F 1 = .ref (ld + 2) ∧ F 2 = .ref (ld + 3) ∧ F 3 = bar ∧ F 4 = .int (R 16) ∧ F 5 = .int d) ∧
  (∃ f, g (ld + 1) = some (.inl (0, 8, .inl f)) ∧ ∀ k, k < B 0 3 → f k = R k) ∧
  (∃ f, g (ld + 2) = some (.inl (0, 4, .inl f)) ∧ ∀ t, t < B 0 1 → nI (B 8 t) - f t = R (8 + t)) ∧
  (∃ f, g (ld + 3) = some (.inl (0, 4, .inl f)) ∧ ∀ t, t < B 0 1 → f t = R (12 + t))
theorem pLd.fr {g g1 : gWM} {ld : Nat} {bar : Value} {B : gBar} {R : Nat → Int32} {d : Int32} (h : pLd g ld bar B R d) (hf : ∀ j, ld ≤ j → j < ld + 4 → g1 j = g j) : pLd g1 ld bar B R d := by
  obtain ⟨⟨F, h1, h2⟩, ⟨f1, h3, h4⟩, ⟨f2, h5, h6⟩, f3, h7, h8⟩ := h
  exact ⟨⟨F, (hf _ (by omega) (by omega)).trans h1, h2⟩, ⟨f1, (hf _ (by omega) (by omega)).trans h3, h4⟩, ⟨f2, (hf _ (by omega) (by omega)).trans h5, h6⟩, f3, (hf _ (by omega) (by omega)).trans h7, h8⟩
/-- a load's cells, whatever they hold -/
def pLs (g : gWM) (ld : Nat) : Prop :=
  (∃ F, g ld = some (.inr (3, F)) ∧ F 0 = .ref (ld + 1) ∧ F 1 = .ref (ld + 2) ∧ F 2 = .ref (ld + 3)) ∧ (∃ f, g (ld + 1) = some (.inl (0, 8, .inl f))) ∧ (∃ f, g (ld + 2) = some (.inl (0, 4, .inl f))) ∧ ∃ f, g (ld + 3) = some (.inl (0, 4, .inl f))
theorem pLs.fr {g g1 : gWM} {ld : Nat} (h : pLs g ld) (hf : ∀ j, ld ≤ j → j < ld + 4 → g1 j = g j) : pLs g1 ld := by
  obtain ⟨⟨F, h1, h2⟩, ⟨f1, h3⟩, ⟨f2, h5⟩, f3, h7⟩ := h
  exact ⟨⟨F, (hf _ (by omega) (by omega)).trans h1, h2⟩, ⟨f1, (hf _ (by omega) (by omega)).trans h3⟩, ⟨f2, (hf _ (by omega) (by omega)).trans h5⟩, f3, (hf _ (by omega) (by omega)).trans h7⟩
theorem pLd.ls {g : gWM} {ld : Nat} {bar : Value} {B : gBar} {R : Nat → Int32} {d : Int32} (h : pLd g ld bar B R d) : pLs g ld := by
  obtain ⟨⟨F, h1, h2, h3, h4, -⟩, ⟨f1, h5, -⟩, ⟨f2, h6, -⟩, f3, h7, -⟩ := h
  exact ⟨⟨F, h1, h2, h3, h4⟩, ⟨f1, h5⟩, ⟨f2, h6⟩, f3, h7⟩
/-- one good's state is written -/
theorem pLd.st {g g1 : gWM} {ld : Nat} {bar : Value} {B : gBar} {R : Nat → Int32} {d v : Int32} {f : Nat → Int32} {k : Nat} (h : pLd g ld bar B R d) (hk : k < 8) (hf : g (ld + 1) = some (.inl (0, 8, .inl f))) (h1 : g1 (ld + 1) = some (.inl (0, 8, .inl (upd f k v)))) (h2 : ∀ j, j ≠ ld + 1 → g1 j = g j) (hn : B 0 3 ≤ 8) : pLd g1 ld bar B (upd R k v) d := by
  obtain ⟨⟨F, a1, a2, a3, a4, a5, a6, a7⟩, ⟨f1, b1, b2⟩, ⟨f2, c1, c2⟩, f3, d1, d2⟩ := h
  have hf1 : f1 = f := by
    rw [hf] at b1
    injection b1 with b1
    injection b1 with b1
    injection b1 with _ b1
    injection b1 with _ b1
    injection b1 with b1
    exact b1.symm
  subst hf1
  have e : ∀ i, i ≠ k → upd R k v i = R i := fun i hi => if_neg hi
  refine ⟨⟨F, (h2 _ (by omega)).trans a1, a2, a3, a4, a5, by rw [e 16 (by omega)]; exact a6, a7⟩, ⟨_, h1, fun i hi => ?_⟩, ⟨f2, (h2 _ (by omega)).trans c1, fun t ht => by rw [e _ (by omega)]; exact c2 t ht⟩, f3, (h2 _ (by omega)).trans d1, fun t ht => by rw [e _ (by omega)]; exact d2 t ht⟩
  unfold upd
  split
  · rfl
  · exact b2 i hi
/-- what one has paid is written -/
theorem pLd.pd {g g1 : gWM} {ld : Nat} {bar : Value} {B : gBar} {R : Nat → Int32} {d v : Int32} {f : Nat → Int32} {k : Nat} (h : pLd g ld bar B R d) (hk : k < 4) (hf : g (ld + 3) = some (.inl (0, 4, .inl f))) (h1 : g1 (ld + 3) = some (.inl (0, 4, .inl (upd f k v)))) (h2 : ∀ j, j ≠ ld + 3 → g1 j = g j) (hn : B 0 3 ≤ 8) (hp : B 0 1 ≤ 4) : pLd g1 ld bar B (upd R (12 + k) v) d := by
  obtain ⟨⟨F, a1, a2, a3, a4, a5, a6, a7⟩, ⟨f1, b1, b2⟩, ⟨f2, c1, c2⟩, f3, d1, d2⟩ := h
  have hf1 : f3 = f := by
    rw [hf] at d1
    injection d1 with d1
    injection d1 with d1
    injection d1 with _ d1
    injection d1 with _ d1
    injection d1 with d1
    exact d1.symm
  subst hf1
  have e : ∀ i, i ≠ 12 + k → upd R (12 + k) v i = R i := fun i hi => if_neg hi
  refine ⟨⟨F, (h2 _ (by omega)).trans a1, a2, a3, a4, a5, by rw [e 16 (by omega)]; exact a6, a7⟩, ⟨f1, (h2 _ (by omega)).trans b1, fun i hi => by rw [e i (by omega)]; exact b2 i hi⟩, ⟨f2, (h2 _ (by omega)).trans c1, fun t ht => by rw [e _ (by omega)]; exact c2 t ht⟩, _, h1, fun t ht => ?_⟩
  by_cases h9 : t = k
  · subst h9
    unfold upd
    simp
  · rw [e _ (by omega)]
    unfold upd
    rw [if_neg h9]
    exact d2 t ht
theorem zCr_hi {B : gBar} {R : Nat → Int32} {t k i : Nat} {f : Int32} (h : k ≤ i) : zCr B R t f k i = R i := by
  unfold zCr
  have : ¬ i < k := by omega
  simp [this]
/-- a load being begun: the first ns states, the first ne of eaten and paid are 0 -/
def pLx (g : gWM) (ld : Nat) (bar : Value) (hid day : Int32) (ns ne : Nat) : Prop :=
  (∃ F, g ld = some (.inr (3, F)) ∧ F 0 = .ref (ld + 1) ∧ F 1 = .ref (ld + 2) ∧ F 2 = .ref (ld + 3) ∧ F 3 = bar ∧ F 4 = .int hid ∧ F 5 = .int day) ∧
  (∃ f, g (ld + 1) = some (.inl (0, 8, .inl f)) ∧ ∀ k, k < ns → f k = 0) ∧
  (∃ f, g (ld + 2) = some (.inl (0, 4, .inl f)) ∧ ∀ t, t < ne → f t = 0) ∧
  (∃ f, g (ld + 3) = some (.inl (0, 4, .inl f)) ∧ ∀ t, t < ne → f t = 0)
theorem upd0 {f : Nat → Int32} {k : Nat} (h : ∀ i, i < k → f i = 0) : ∀ i, i < k + 1 → upd f k 0 i = 0 := by
  intro i hi
  unfold upd
  split
  · rfl
  · exact h i (by omega)
theorem pLx.ld {g : gWM} {ld : Nat} {bar : Value} {B : gBar} (hw : wfB B) (h : pLx g ld bar (zHid B) 0 (B 0 3) 4) : pLd g ld bar B (zR0 B) 0 := by
  obtain ⟨⟨F, a1, a2, a3, a4, a5, a6, a7⟩, ⟨f1, b1, b2⟩, ⟨f2, c1, c2⟩, f3, d1, d2⟩ := h
  have hn := hw.1
  refine ⟨⟨F, a1, a2, a3, a4, a5, a6, a7⟩, ⟨f1, b1, fun k hk => ?_⟩, ⟨f2, c1, fun t ht => ?_⟩, f3, d1, fun t ht => ?_⟩
  · rw [b2 k hk]
    unfold zR0
    rw [if_pos (by omega)]
  · rw [c2 t (by omega)]
    unfold zR0
    rw [if_neg (by omega), if_pos (by omega), show 8 + t - 8 = t by omega, Int32.sub_zero]
  · rw [d2 t (by omega)]
    unfold zR0
    rw [if_neg (by omega), if_neg (by omega), if_neg (by omega)]
/-- good j at the number k -/
def pGd (g : gWM) (bb k : Nat) (B : gBar) (j : Nat) : Prop :=
  ∃ F, g k = some (.inr (15 + B 12 j, F)) ∧ F 0 = .int (nI (B 14 j)) ∧ F 1 = .int (nI (B 15 j)) ∧ F 2 = .int (nI (B 16 j)) ∧ F 3 = .int (nI (B 17 j)) ∧ F 4 = .int (nI (B 18 j)) ∧ (B 12 j ≠ 0 → F 7 = .ref (bb + 10 + B 13 j))
def pMe (g : gWM) (k : Nat) (B : gBar) (i : Nat) : Prop :=
  ∃ F, g k = some (.inr (12, F)) ∧ F 1 = .int (nI i) ∧ F 2 = .int (nI (B 1 i)) ∧ F 3 = .int (nI (B 2 i)) ∧ F 4 = .int (nI (B 3 i)) ∧ F 5 = .int (nI (B 4 i)) ∧ F 6 = .int (nI (B 5 i)) ∧ F 7 = .int (nI (B 6 i))
def pBr (g : gWM) (bb : Nat) (B : gBar) : Prop :=
  (∃ F, g bb = some (.inr (11, F)) ∧ F 0 = .ref (bb + 1) ∧ F 1 = .ref (bb + 2) ∧ F 2 = .ref (bb + 3) ∧ F 3 = .ref (bb + 4) ∧ F 4 = .ref (bb + 5) ∧ F 5 = .ref (bb + 6) ∧ F 6 = .ref (bb + 7) ∧ F 7 = .int (nI (B 0 7)) ∧ F 8 = .int (nI (B 0 8)) ∧ F 9 = .int (nI (B 0 0)) ∧ F 10 = .int (nI (B 0 1)) ∧ F 11 = .int (nI (B 0 2)) ∧ F 12 = .int (nI (B 0 3)) ∧ F 13 = .int (nI (B 0 4)) ∧ F 14 = .int (nI (B 0 5)) ∧ F 15 = .int (nI (B 0 6))) ∧
  (∃ f, g (bb + 1) = some (.inl (5, 4, .inr (.inr (.inr (.inr f))))) ∧ ∀ k, k < B 0 0 → f k = some (bb + 10 + k)) ∧
  (∃ f, g (bb + 2) = some (.inl (6, 4, .inr (.inr (.inr (.inr f))))) ∧ ∀ k, k < B 0 1 → f k = some (bb + 20 + k)) ∧
  (∃ f, g (bb + 3) = some (.inl (7, 3, .inr (.inr (.inr (.inr f))))) ∧ ∀ k, k < B 0 2 → f k = some (bb + 30 + k)) ∧
  (∃ f, g (bb + 4) = some (.inl (8, 8, .inr (.inr (.inr (.inr f))))) ∧ ∀ k, k < B 0 3 → f k = some (bb + 40 + k)) ∧
  (∃ f, g (bb + 5) = some (.inl (9, 6, .inr (.inr (.inr (.inr f))))) ∧ ∀ k, k < B 0 4 → f k = some (bb + 50 + k)) ∧
  (∃ f, g (bb + 6) = some (.inl (0, 5, .inl f)) ∧ ∀ k, k < B 0 6 → f k = nI (B 23 k)) ∧
  (∃ f, g (bb + 7) = some (.inl (0, 5, .inl f)) ∧ ∀ k, k < B 0 6 → f k = nI (B 24 k)) ∧
  (∀ k, k < B 0 0 → pMe g (bb + 10 + k) B k) ∧
  (∀ k, k < B 0 1 → ∃ F, g (bb + 20 + k) = some (.inr (13, F)) ∧ F 1 = .int (nI k) ∧ F 2 = .int (nI (B 7 k)) ∧ F 3 = .int (nI (B 8 k))) ∧
  (∀ k, k < B 0 2 → ∃ F, g (bb + 30 + k) = some (.inr (14, F)) ∧ F 1 = .int (nI k) ∧ F 2 = .int (nI (B 9 k)) ∧ F 3 = .int (nI (B 10 k)) ∧ F 4 = .int (nI (B 11 k))) ∧
  (∀ k, k < B 0 3 → pGd g bb (bb + 40 + k) B k) ∧
  (∀ k, k < B 0 4 → ∃ F, g (bb + 50 + k) = some (.inr (20, F)) ∧ F 0 = .int (nI (B 19 k)) ∧ F 1 = .int (nI (B 20 k)) ∧ F 2 = .int (nI (B 21 k)) ∧ F 3 = .int (nI (B 22 k)))
theorem pBr.fr {g g1 : gWM} {bb : Nat} {B : gBar} (hw : wfB B) (h : pBr g bb B) (hf : ∀ j, bb ≤ j → j < bb + 100 → g1 j = g j) : pBr g1 bb B := by
  obtain ⟨⟨F, h1, h2⟩, ⟨f1, a1, b1⟩, ⟨f2, a2, b2⟩, ⟨f3, a3, b3⟩, ⟨f4, a4, b4⟩, ⟨f5, a5, b5⟩, ⟨f6, a6, b6⟩, ⟨f7, a7, b7⟩, c1, c2, c3, c4, c5⟩ := h
  have hn := hw.1
  refine ⟨⟨F, (hf _ (by omega) (by omega)).trans h1, h2⟩, ⟨f1, (hf _ (by omega) (by omega)).trans a1, b1⟩, ⟨f2, (hf _ (by omega) (by omega)).trans a2, b2⟩, ⟨f3, (hf _ (by omega) (by omega)).trans a3, b3⟩, ⟨f4, (hf _ (by omega) (by omega)).trans a4, b4⟩, ⟨f5, (hf _ (by omega) (by omega)).trans a5, b5⟩, ⟨f6, (hf _ (by omega) (by omega)).trans a6, b6⟩, ⟨f7, (hf _ (by omega) (by omega)).trans a7, b7⟩, fun k hk => ?_, fun k hk => ?_, fun k hk => ?_, fun k hk => ?_, fun k hk => ?_⟩
  · obtain ⟨F, e1, e2⟩ := c1 k hk
    exact ⟨F, (hf _ (by omega) (by omega)).trans e1, e2⟩
  · obtain ⟨F, e1, e2⟩ := c2 k hk
    exact ⟨F, (hf _ (by omega) (by omega)).trans e1, e2⟩
  · obtain ⟨F, e1, e2⟩ := c3 k hk
    exact ⟨F, (hf _ (by omega) (by omega)).trans e1, e2⟩
  · obtain ⟨F, e1, e2⟩ := c4 k hk
    exact ⟨F, (hf _ (by omega) (by omega)).trans e1, e2⟩
  · obtain ⟨F, e1, e2⟩ := c5 k hk
    exact ⟨F, (hf _ (by omega) (by omega)).trans e1, e2⟩
/-- good j with its means -/
def pGo (g : gWM) (bb k : Nat) (B : gBar) (j : Nat) : Prop := pGd g bb k B j ∧ (B 12 j ≠ 0 → pMe g (bb + 10 + B 13 j) B (B 13 j)) ∧ B 12 j ≤ 4
theorem pBr.good {g : gWM} {bb : Nat} {B : gBar} (h : pBr g bb B) (hw : wfB B) {j : Nat} (hj : j < B 0 3) : pGo g bb (bb + 40 + j) B j := by
  obtain ⟨-, -, -, -, -, -, -, -, c1, -, -, c4, -⟩ := h
  have h1 := hw.goods hj
  exact ⟨c4 j hj, fun h => c1 _ (h1.2.1 h), h1.1⟩
/-- a law: 1 the one rate, 2 the other -/
def pLw (g : gWM) (lw r : Nat) : Prop := (r = 1 ∧ ∃ F, g lw = some (.inr (4, F))) ∨ (r = 2 ∧ ∃ F, g lw = some (.inr (5, F)))
theorem pLw.fr {g g1 : gWM} {lw r : Nat} (h : pLw g lw r) (hf : ∀ j, lw ≤ j → j < lw + 1 → g1 j = g j) : pLw g1 lw r := by
  have h1 := hf lw (by omega) (by omega)
  rcases h with ⟨h2, F, h3⟩ | ⟨h2, F, h3⟩
  · exact .inl ⟨h2, F, h1.trans h3⟩
  · exact .inr ⟨h2, F, h1.trans h3⟩
theorem pBr.means {g : gWM} {bb : Nat} {B : gBar} (h : pBr g bb B) (k : Nat) (hk : k < B 0 0) : pMe g (bb + 10 + k) B k := h.2.2.2.2.2.2.2.2.1 k hk
theorem pBr.people {g : gWM} {bb : Nat} {B : gBar} (h : pBr g bb B) (k : Nat) (hk : k < B 0 1) : ∃ F, g (bb + 20 + k) = some (.inr (13, F)) ∧ F 1 = .int (nI k) ∧ F 2 = .int (nI (B 7 k)) ∧ F 3 = .int (nI (B 8 k)) := h.2.2.2.2.2.2.2.2.2.1 k hk
theorem pBr.gates {g : gWM} {bb : Nat} {B : gBar} (h : pBr g bb B) (k : Nat) (hk : k < B 0 2) : ∃ F, g (bb + 30 + k) = some (.inr (14, F)) ∧ F 1 = .int (nI k) ∧ F 2 = .int (nI (B 9 k)) ∧ F 3 = .int (nI (B 10 k)) ∧ F 4 = .int (nI (B 11 k)) := h.2.2.2.2.2.2.2.2.2.2.1 k hk
theorem pBr.cross {g : gWM} {bb : Nat} {B : gBar} (h : pBr g bb B) (k : Nat) (hk : k < B 0 4) : ∃ F, g (bb + 50 + k) = some (.inr (20, F)) ∧ F 0 = .int (nI (B 19 k)) ∧ F 1 = .int (nI (B 20 k)) ∧ F 2 = .int (nI (B 21 k)) ∧ F 3 = .int (nI (B 22 k)) := h.2.2.2.2.2.2.2.2.2.2.2.2 k hk
