/-! THE PLAIN SIDE, sixth: acts, what is undone, marks -/
set_option maxRecDepth 100000
theorem inj_arr {g : gWM} {k t n : Nat} {f f1 : Nat → Int32} (h1 : g k = some (.inl (t, n, .inl f))) (h2 : g k = some (.inl (t, n, .inl f1))) : f = f1 := by
  rw [h1] at h2
  injection h2 with b1
  injection b1 with b1
  injection b1 with _ b1
  injection b1 with _ b1
  injection b1 with b1
theorem inj_obj {g : gWM} {k c : Nat} {F F1 : Nat → Value} (h1 : g k = some (.inr (c, F))) (h2 : g k = some (.inr (c, F1))) : F = F1 := by
  rw [h1] at h2
  injection h2 with b1
  injection b1 with b1
  injection b1 with _ b1
/-- one ate once more -/
theorem pLd.ea {g g1 : gWM} {ld : Nat} {bar : Value} {B : gBar} {R : Nat → Int32} {d : Int32} {f : Nat → Int32} {k : Nat} (h : pLd g ld bar B R d) (hk : k < B 0 1) (hf : g (ld + 2) = some (.inl (0, 4, .inl f))) (h1 : g1 (ld + 2) = some (.inl (0, 4, .inl (upd f k (f k + 1))))) (h2 : ∀ j, j ≠ ld + 2 → g1 j = g j) (hn : B 0 3 ≤ 8) (hp : B 0 1 ≤ 4) : pLd g1 ld bar B (upd R (8 + k) (R (8 + k) - 1)) d := by
  obtain ⟨⟨F, a1, a2, a3, a4, a5, a6, a7⟩, ⟨f1, b1, b2⟩, ⟨f2, c1, c2⟩, f3, d1, d2⟩ := h
  obtain rfl := inj_arr hf c1
  have e : ∀ i, i ≠ 8 + k → upd R (8 + k) (R (8 + k) - 1) i = R i := fun i hi => if_neg hi
  refine ⟨⟨F, (h2 _ (by omega)).trans a1, a2, a3, a4, a5, by rw [e 16 (by omega)]; exact a6, a7⟩, ⟨f1, (h2 _ (by omega)).trans b1, fun i hi => by rw [e i (by omega)]; exact b2 i hi⟩, ⟨_, h1, fun t ht => ?_⟩, f3, (h2 _ (by omega)).trans d1, fun t ht => by rw [e _ (by omega)]; exact d2 t ht⟩
  by_cases h9 : t = k
  · subst h9
    have := c2 t hk
    unfold upd
    rw [if_pos rfl, if_pos rfl, ← this]
    grind
  · rw [e _ (by omega)]
    unfold upd
    rw [if_neg h9]
    exact c2 t ht
/-- what is hidden is written -/
theorem pLd.hi {g g1 : gWM} {ld : Nat} {bar : Value} {B : gBar} {R : Nat → Int32} {d v : Int32} {F : Nat → Value} (h : pLd g ld bar B R d) (hf : g ld = some (.inr (3, F))) (h1 : g1 ld = some (.inr (3, va_up F 4 (.int v)))) (h2 : ∀ j, j ≠ ld → g1 j = g j) (hn : B 0 3 ≤ 8) (hp : B 0 1 ≤ 4) : pLd g1 ld bar B (upd R 16 v) d := by
  obtain ⟨⟨F1, a1, a2, a3, a4, a5, a6, a7⟩, ⟨f1, b1, b2⟩, ⟨f2, c1, c2⟩, f3, d1, d2⟩ := h
  obtain rfl := inj_obj hf a1
  have e : ∀ i, i ≠ 16 → upd R 16 v i = R i := fun i hi => if_neg hi
  exact ⟨⟨_, h1, a2, a3, a4, a5, rfl, a7⟩, ⟨f1, (h2 _ (by omega)).trans b1, fun i hi => by rw [e i (by omega)]; exact b2 i hi⟩, ⟨f2, (h2 _ (by omega)).trans c1, fun t ht => by rw [e _ (by omega)]; exact c2 t ht⟩, f3, (h2 _ (by omega)).trans d1, fun t ht => by rw [e _ (by omega)]; exact d2 t ht⟩
theorem pLd.dy {g g1 : gWM} {ld : Nat} {bar : Value} {B : gBar} {R : Nat → Int32} {d v : Int32} {F : Nat → Value} (h : pLd g ld bar B R d) (hf : g ld = some (.inr (3, F))) (h1 : g1 ld = some (.inr (3, va_up F 5 (.int v)))) (h2 : ∀ j, j ≠ ld → g1 j = g j) : pLd g1 ld bar B R v := by
  obtain ⟨⟨F1, a1, a2, a3, a4, a5, a6, a7⟩, ⟨f1, b1, b2⟩, ⟨f2, c1, c2⟩, f3, d1, d2⟩ := h
  obtain rfl := inj_obj hf a1
  exact ⟨⟨_, h1, a2, a3, a4, a5, a6, rfl⟩, ⟨f1, (h2 _ (by omega)).trans b1, b2⟩, ⟨f2, (h2 _ (by omega)).trans c1, c2⟩, f3, (h2 _ (by omega)).trans d1, d2⟩
/-! what is undone: a ring of 16 loads -/
abbrev zHi : Type := Nat → (Nat → Int32) × Int32
def zUm (um : Nat) : Nat := if um = 16 then 16 else um + 1
def zUs (um s : Nat) : Nat := if um = 16 then s + 1 else s
def zUh (um : Nat) (U : zHi) (R : Nat → Int32) (d : Int32) : zHi := if um = 16 then fun k => if k = 15 then (R, d) else U (k + 1) else fun k => if k = um then (R, d) else U k
def pUn (g : gWM) (s bb : Nat) (B : gBar) (U : zHi) (um : Nat) : Prop :=
  (∃ f, g 1070 = some (.inl (4, 16, .inr (.inr (.inr (.inr f))))) ∧ ∀ i, i < 16 → f i = some (1100 + 4 * ((i + s) % 16))) ∧ (∀ i, i < 16 → pLs g (1100 + 4 * i)) ∧ (∀ k, k < um → k < 16 → pLd g (1100 + 4 * ((k + s) % 16)) (.ref bb) B (U k).1 (U k).2)
theorem pUn.fr {g g1 : gWM} {s bb : Nat} {B : gBar} {U : zHi} {um : Nat} (h : pUn g s bb B U um) (hf : ∀ j, (j = 1070 ∨ 1100 ≤ j) → j < 1164 → g1 j = g j) : pUn g1 s bb B U um := by
  obtain ⟨⟨f, a, b⟩, c, d⟩ := h
  exact ⟨⟨f, (hf _ (by omega) (by omega)).trans a, b⟩, fun i hi => (c i hi).fr (fun j _ _ => hf j (by omega) (by omega)), fun k hk hk2 => (d k hk hk2).fr (fun j _ _ => hf j (by omega) (by omega))⟩
theorem pUn.rot {g g1 : gWM} {s bb : Nat} {B : gBar} {U : zHi} {um : Nat} {f : Nat → Option Nat} (h : pUn g s bb B U um) (hu : um = 16) (hb : ∀ i, i < 16 → f i = some (1100 + 4 * (((if i < 15 then i + 1 else i) + s) % 16))) (h1 : g1 1070 = some (.inl (4, 16, .inr (.inr (.inr (.inr (va_up f 15 (some (1100 + 4 * ((0 + s) % 16))))))))))  (hf : ∀ j, j ≠ 1070 → g1 j = g j) : pUn g1 (s + 1) bb B (fun k => U (k + 1)) 15 := by
  obtain ⟨-, c, d⟩ := h
  refine ⟨⟨_, h1, fun i hi => ?_⟩, fun i hi => (c i hi).fr (fun j _ _ => hf j (by omega)), fun k hk hk2 => ?_⟩
  · unfold va_up
    split
    · rw [show (i + (s + 1)) % 16 = (0 + s) % 16 by omega]
    · rw [hb i hi, if_pos (by omega), show i + 1 + s = i + (s + 1) by omega]
  · have h9 := (d (k + 1) (by omega) (by omega)).fr (g1 := g1) (fun j _ _ => hf j (by omega))
    rw [show k + 1 + s = k + (s + 1) by omega] at h9
    exact h9
theorem pUn.put {g g1 : gWM} {s bb : Nat} {B : gBar} {U : zHi} {um : Nat} {R : Nat → Int32} {d : Int32} (h : pUn g s bb B U um) (hu : um < 16) (hx : pLd g1 (1100 + 4 * ((um + s) % 16)) (.ref bb) B R d) (hf : ∀ j, j < 1164 → (j < 1100 + 4 * ((um + s) % 16) ∨ 1100 + 4 * ((um + s) % 16) + 4 ≤ j) → j ≠ 1000 → g1 j = g j) : pUn g1 s bb B (fun k => if k = um then (R, d) else U k) (um + 1) := by
  obtain ⟨⟨f, a, b⟩, c, e⟩ := h
  refine ⟨⟨f, (hf _ (by omega) (by omega) (by omega)).trans a, b⟩, fun i hi => ?_, fun k hk hk2 => ?_⟩
  · by_cases h9 : i = (um + s) % 16
    · rw [h9]
      exact hx.ls
    · exact (c i hi).fr (fun j _ _ => hf j (by omega) (by omega) (by omega))
  · by_cases h9 : k = um
    · subst h9
      simpa using hx
    · simp only [h9, if_false]
      exact (e k (by omega) hk2).fr (fun j _ _ => hf j (by omega) (by omega) (by omega))
/-- the array while it is turned -/
def pMv (g : gWM) (s k : Nat) : Prop := ∃ f, g 1070 = some (.inl (4, 16, .inr (.inr (.inr (.inr f))))) ∧ ∀ i, i < 16 → f i = some (1100 + 4 * (((if i < k then i + 1 else i) + s) % 16))
theorem pMv.fr {g g1 : gWM} {s k : Nat} (h : pMv g s k) (hf : ∀ j, 1070 ≤ j → j < 1071 → g1 j = g j) : pMv g1 s k := by
  obtain ⟨f, a, b⟩ := h
  exact ⟨f, (hf _ (by omega) (by omega)).trans a, b⟩
theorem pMv.up {g1 : gWM} {s k : Nat} {f : Nat → Option Nat} (hb : ∀ i, i < 16 → f i = some (1100 + 4 * (((if i < k then i + 1 else i) + s) % 16))) (h1 : g1 1070 = some (.inl (4, 16, .inr (.inr (.inr (.inr (va_up f k (some (1100 + 4 * ((k + 1 + s) % 16)))))))))) : pMv g1 s (k + 1) := by
  refine ⟨_, h1, fun i hi => ?_⟩
  unfold va_up
  split
  · rename_i h9
    rw [if_pos (by omega), h9]
  · rw [hb i hi]
    by_cases h9 : i < k
    · rw [if_pos h9, if_pos (by omega)]
    · rw [if_neg h9, if_neg (by omega)]
def pMk (g : gWM) (bb : Nat) (B : gBar) (M : zHi) (mm : Nat) : Prop :=
  (∃ f, g 1071 = some (.inl (4, 3, .inr (.inr (.inr (.inr f))))) ∧ ∀ i, i < 3 → f i = some (1200 + 4 * i)) ∧ (∀ i, i < 3 → pLs g (1200 + 4 * i)) ∧ (∀ k, k < mm → k < 3 → pLd g (1200 + 4 * k) (.ref bb) B (M k).1 (M k).2)
theorem pMk.fr {g g1 : gWM} {bb : Nat} {B : gBar} {M : zHi} {mm : Nat} (h : pMk g bb B M mm) (hf : ∀ j, (j = 1071 ∨ 1200 ≤ j) → j < 1212 → g1 j = g j) : pMk g1 bb B M mm := by
  obtain ⟨⟨f, a, b⟩, c, d⟩ := h
  exact ⟨⟨f, (hf _ (by omega) (by omega)).trans a, b⟩, fun i hi => (c i hi).fr (fun j _ _ => hf j (by omega) (by omega)), fun k hk hk2 => (d k hk hk2).fr (fun j _ _ => hf j (by omega) (by omega))⟩
theorem pMk.put {g g1 : gWM} {bb : Nat} {B : gBar} {M : zHi} {mm : Nat} {R : Nat → Int32} {d : Int32} (h : pMk g bb B M mm) (hu : mm < 3) (hx : pLd g1 (1200 + 4 * mm) (.ref bb) B R d) (hf : ∀ j, 1001 ≤ j → (j < 1200 + 4 * mm ∨ 1200 + 4 * mm + 4 ≤ j) → g1 j = g j) : pMk g1 bb B (fun k => if k = mm then (R, d) else M k) (mm + 1) := by
  obtain ⟨⟨f, a, b⟩, c, e⟩ := h
  refine ⟨⟨f, (hf _ (by omega) (by omega)).trans a, b⟩, fun i hi => ?_, fun k hk hk2 => ?_⟩
  · by_cases h9 : i = mm
    · rw [h9]
      exact hx.ls
    · exact (c i hi).fr (fun j _ _ => hf j (by omega) (by omega))
  · by_cases h9 : k = mm
    · subst h9
      simpa using hx
    · simp only [h9, if_false]
      exact (e k (by omega) hk2).fr (fun j _ _ => hf j (by omega) (by omega))
theorem zb_inj {a b : Bool} : zb a = zb b ↔ a = b := by cases a <;> cases b <;> simp [zb]
/-! acts: the trouble then; how all is, if there is none -/
def sEat (B : gBar) (R : Nat → Int32) (p : Int32) : Int32 := match qI (B 0 3) p with
  | none => 1
  | some j => if R j = 0 then (if R (8 + B 14 j) = 0 then 5 else 0) else 5
def zEat (B : gBar) (R : Nat → Int32) (p : Int32) : Nat → Int32 := match qI (B 0 3) p with
  | none => R
  | some j => upd (upd R j 1) (8 + B 14 j) (upd R j 1 (8 + B 14 j) - 1)
def sHid (B : gBar) (R : Nat → Int32) (p : Int32) (b : Bool) : Int32 := match qI (B 0 3) p with
  | none => 1
  | some j => if R j = 0 then (if zBit (R 16) j = b then 5 else 0) else 5
def zHdn (B : gBar) (R : Nat → Int32) (p : Int32) : Nat → Int32 := match qI (B 0 3) p with
  | none => R
  | some j => upd R 16 (R 16 ^^^ (1 <<< (nI j &&& 31)))
def sCrs (B : gBar) (R : Nat → Int32) (p q : Int32) : Int32 := match qI (B 0 1) p, qI (B 0 2) q with
  | some t, some _ => if zHas B R t = 0 then 5 else 0
  | _, _ => 1
def aCrs (B : gBar) (R : Nat → Int32) (d p q : Int32) : Int32 := match qI (B 0 1) p, qI (B 0 2) q with
  | some t, some k => zAsk B R t (zFou B R t k d 0) 1 d
  | _, _ => 0
def zCrs (B : gBar) (R : Nat → Int32) (d p q : Int32) : Nat → Int32 := match qI (B 0 1) p, qI (B 0 2) q with
  | some t, some k => zCro B R t (zFou B R t k d 0) (zAsk B R t (zFou B R t k d 0) 1 d)
  | _, _ => R
def sDay (tl : Bool) (d n : Int32) : Int32 := if !tl then 1 else if zIn n 1 60 then (if d + n ≤ 300 then 0 else 3) else 2
/-- an act was tried: how all is then -/
def pAc (g : gWM) (bb : Nat) (B : gBar) (tp : Nat) (fa : Int32) (mm : Nat) (tr : Int32) (R : Nat → Int32) (d : Int32) (um : Nat) (U : zHi) (R1 : Nat → Int32) (d1 : Int32) : Prop :=
  pSo g (.ref bb) tp tr fa (-1) mm (if tr = 0 then zUm um else um) ∧ pLd g 1010 (.ref bb) B (if tr = 0 then R1 else R) (if tr = 0 then d1 else d) ∧ pLs g 1014 ∧ ∃ s1, pUn g s1 bb B (if tr = 0 then zUh um U R d else U) (if tr = 0 then zUm um else um)
theorem pAc.no {g : gWM} {bb : Nat} {B : gBar} {tp : Nat} {fa : Int32} {mm : Nat} {tr : Int32} {R R1 : Nat → Int32} {d d1 : Int32} {um s : Nat} {U : zHi} (h : tr ≠ 0) (h1 : pSo g (.ref bb) tp tr fa (-1) mm um) (h2 : pLd g 1010 (.ref bb) B R d) (h3 : pLs g 1014) (h4 : pUn g s bb B U um) : pAc g bb B tp fa mm tr R d um U R1 d1 := by
  unfold pAc
  rw [if_neg h, if_neg h, if_neg h, if_neg h]
  exact ⟨h1, h2, h3, s, h4⟩
theorem pAc.yes {g : gWM} {bb : Nat} {B : gBar} {tp : Nat} {fa : Int32} {mm : Nat} {R R1 : Nat → Int32} {d d1 : Int32} {um s : Nat} {U : zHi} (h1 : pSo g (.ref bb) tp 0 fa (-1) mm (zUm um)) (h2 : pLd g 1010 (.ref bb) B R1 d1) (h3 : pLs g 1014) (h4 : pUn g s bb B (zUh um U R d) (zUm um)) : pAc g bb B tp fa mm 0 R d um U R1 d1 := by
  unfold pAc
  rw [if_pos rfl, if_pos rfl, if_pos rfl, if_pos rfl]
  exact ⟨h1, h2, h3, s, h4⟩
