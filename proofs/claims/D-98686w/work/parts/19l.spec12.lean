/-! THE PLAIN SIDE, twelfth: the reader's cells; how the system begins -/
set_option maxRecDepth 100000
def pRd (g : gWM) : Prop := (∃ F, g 1002 = some (.inr (1, F)) ∧ F 0 = .ref 1003 ∧ F 1 = .ref 1001 ∧ F 2 = .ref 1004) ∧ (∃ F, g 1003 = some (.inr (2, F))) ∧ ∃ f, g 1004 = some (.inl (2, 9, .inl f))
theorem pRd.fr {g g1 : gWM} (h : pRd g) (hf : ∀ j, 1002 ≤ j → j < 1005 → g1 j = g j) : pRd g1 := by
  obtain ⟨⟨F, a, b⟩, ⟨F1, c⟩, f, d⟩ := h
  exact ⟨⟨F, (hf _ (by omega) (by omega)).trans a, b⟩, ⟨F1, (hf _ (by omega) (by omega)).trans c⟩, f, (hf _ (by omega) (by omega)).trans d⟩
theorem vaU {f : Nat → Option Nat} {b k : Nat} (h : ∀ i, i < k → f i = some (b + 4 * i)) : ∀ i, i < k + 1 → va_up f k (some (b + 4 * k)) i = some (b + 4 * i) := by
  intro i hi
  unfold va_up
  split
  · rename_i h9; rw [h9]
  · exact h i (by omega)
/-- the system, just made -/
def pS0 (g : gWM) : Prop :=
  pSo g .null 0 0 0 (-1) 0 0 ∧ pRd g ∧ (∃ f, g 1001 = some (.inl (1, 1100, .inl f))) ∧ pLs g 1010 ∧ pLs g 1014 ∧ pLw g 1005 1 ∧ pLw g 1006 2 ∧ pCs g 1020 ∧ pCs g 1030 ∧ pCq g ∧ pCk g 8 1050 ∧ pCk g 9 1060 ∧ ((∃ f, g 1070 = some (.inl (4, 16, .inr (.inr (.inr (.inr f))))) ∧ ∀ i, i < 16 → f i = some (1100 + 4 * i)) ∧ ∀ i, i < 16 → pLs g (1100 + 4 * i)) ∧ (∃ f, g 1071 = some (.inl (4, 3, .inr (.inr (.inr (.inr f))))) ∧ ∀ i, i < 3 → f i = some (1200 + 4 * i)) ∧ ∀ i, i < 3 → pLs g (1200 + 4 * i)
theorem by16 {P : Nat → Prop} (h0 : P 0) (h1 : P 1) (h2 : P 2) (h3 : P 3) (h4 : P 4) (h5 : P 5) (h6 : P 6) (h7 : P 7) (h8 : P 8) (h9 : P 9) (h10 : P 10) (h11 : P 11) (h12 : P 12) (h13 : P 13) (h14 : P 14) (h15 : P 15) : ∀ i, i < 16 → P i
  | 0, _ => h0 | 1, _ => h1 | 2, _ => h2 | 3, _ => h3 | 4, _ => h4 | 5, _ => h5 | 6, _ => h6 | 7, _ => h7 | 8, _ => h8 | 9, _ => h9 | 10, _ => h10 | 11, _ => h11 | 12, _ => h12 | 13, _ => h13 | 14, _ => h14 | 15, _ => h15
  | n + 16, h => absurd h (by omega)
theorem by3 {P : Nat → Prop} (h0 : P 0) (h1 : P 1) (h2 : P 2) : ∀ i, i < 3 → P i
  | 0, _ => h0 | 1, _ => h1 | 2, _ => h2
  | n + 3, h => absurd h (by omega)
