/-! THE MODEL, plain laws: what is told -/
set_option maxRecDepth 100000
/-- the p-th turned good: of so many from g on, n of them turned before -/
def zLe (B : gBar) (d p : Int32) : Nat → Nat → Nat → Option Nat
  | 0, _, _ => none
  | f + 1, g, n => if zTur B g d then (if nI n = p then some g else zLe B d p f (g + 1) (n + 1)) else zLe B d p f (g + 1) n
theorem zLe_t {B : gBar} {d p : Int32} {N g n : Nat} (hg : g < N) (h : zTur B g d = true) (h2 : nI n = p) : zLe B d p (N - g) g n = some g := by
  obtain ⟨m, hm⟩ : ∃ m, N - g = m + 1 := ⟨N - g - 1, by omega⟩
  rw [hm]
  simp [zLe, h, h2]
theorem zLe_n {B : gBar} {d p : Int32} {N g n : Nat} (hg : g < N) (h : zTur B g d = true) (h2 : ¬ nI n = p) : zLe B d p (N - g) g n = zLe B d p (N - (g + 1)) (g + 1) (n + 1) := by
  obtain ⟨m, hm⟩ : ∃ m, N - g = m + 1 := ⟨N - g - 1, by omega⟩
  rw [hm, show N - (g + 1) = m by omega]
  simp [zLe, h, h2]
theorem zLe_f {B : gBar} {d p : Int32} {N g n : Nat} (hg : g < N) (h : zTur B g d = false) : zLe B d p (N - g) g n = zLe B d p (N - (g + 1)) (g + 1) n := by
  obtain ⟨m, hm⟩ : ∃ m, N - g = m + 1 := ⟨N - g - 1, by omega⟩
  rw [hm, show N - (g + 1) = m by omega]
  simp [zLe, h]
def sLed (B : gBar) (d p : Int32) : Option Nat := zLe B d p (B 0 3) 0 0
def oV (o : Option Nat) : Int32 := match o with
  | none => 0
  | some g => nI g
def oT (o : Option Nat) : Int32 := match o with
  | none => 1
  | some _ => 0
theorem gPj.k9 {z : gZ} {kc ks q : Nat} {lo : List (Option Value)} {st : List Value} {w : Int64} {P : gWM → Prop} (k : ∀ g1, P g1 → gV z g1 kc ks q lo (.long w :: st)) : ∀ v g1, gPj w P v g1 → gV z g1 kc ks q lo (v.toList ++ st) := by
  rintro v g1 ⟨rfl, h⟩
  exact k g1 h
theorem gcd_s {x y a b : Nat} (h : Nat.gcd x y = Nat.gcd a b) : Nat.gcd y (x % y) = Nat.gcd a b := by
  rw [← h, Nat.gcd_comm x y, Nat.gcd_rec y x, Nat.gcd_comm]
/-- the model, just made -/
def pM0 (g : gWM) : Prop := pMq g .null 0 0 (-1) 0 0 0 0 [] ∧ (∃ f, g 2001 = some (.inl (1, 1100, .inl f))) ∧ (∃ f, g 2002 = some (.inl (0, 18, .inl f)) ∧ ∀ i, f i = 0) ∧ pIx g 2003 18 ∧ pIx g 2004 288 ∧ pIx g 2005 54 ∧ pIx g 2006 6 ∧ pIx g 2007 5 ∧ pIx g 2008 5
