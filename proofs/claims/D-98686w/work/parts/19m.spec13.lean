/-! THE PLAIN SIDE, thirteenth: the reader -/
set_option maxRecDepth 100000
/-- the reader's object: how many bytes, the end, the token, where it stands, the number, the word, the barrier -/
def pRe (g : gWM) (n en : Nat) (tk : Int32) (at9 wh : Nat) (wd bar : Value) : Prop :=
  ∃ F, g 1002 = some (.inr (1, F)) ∧ F 0 = .ref 1003 ∧ F 1 = .ref 1001 ∧ F 2 = .ref 1004 ∧ F 3 = .int (nI n) ∧ F 4 = .int (nI en) ∧ F 5 = .int tk ∧ F 6 = .int (nI at9) ∧ F 7 = .int (nI wh) ∧ F 8 = wd ∧ F 9 = bar
theorem pRe.fr {g g1 : gWM} {n en : Nat} {tk : Int32} {at9 wh : Nat} {wd bar : Value} (h : pRe g n en tk at9 wh wd bar) (hf : ∀ j, 1002 ≤ j → j < 1003 → g1 j = g j) : pRe g1 n en tk at9 wh wd bar := by
  obtain ⟨F, h1, h2⟩ := h
  exact ⟨F, (hf _ (by omega) (by omega)).trans h1, h2⟩
/-- the byte at k, or -1 behind the end -/
def zSee (T : Nat → Int32) (n k : Nat) : Int32 := if k < n then T k &&& 255 else -1
