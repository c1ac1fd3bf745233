/-! THE PLAIN SIDE, eleventh: the tape -/
set_option maxRecDepth 100000
def zPt (T : Nat → Int32) (tp : Nat) (v : Int32) : Nat → Int32 := fun i => if i = tp then v else T i
theorem updT {f T : Nat → Int32} {tp : Nat} {v : Int32} (h : ∀ i, i < tp → f i = T i) : ∀ i, i < tp + 1 → upd f tp v i = zPt T tp v i := by
  intro i hi
  unfold upd zPt
  split
  · rfl
  · exact h i (by omega)
def zB8 (w k : Int32) : Int32 := vp_nar .byte (w >>> (k &&& 31)).toInt8.toInt32
def zPut (T : Nat → Int32) (tp : Nat) (w : Int32) : Nat → Int32 := zPt (zPt (zPt (zPt T tp (zB8 w 24)) (tp + 1) (zB8 w 16)) (tp + 1 + 1) (zB8 w 8)) (tp + 1 + 1 + 1) (zB8 w 0)
def zFed (T : Nat → Int32) (tp : Nat) (a b c d e : Int32) : Nat → Int32 := zPut (zPut (zPut (zPut (zPut T tp a) (tp + 4) b) (tp + 8) c) (tp + 12) d) (tp + 16) e
def pTp (g : gWM) (tk : Nat) (T : Nat → Int32) (tp : Nat) : Prop := ∃ f, g tk = some (.inl (1, 1100, .inl f)) ∧ ∀ i, i < tp → f i = T i
theorem pTp.fr {g g1 : gWM} {tk : Nat} {T : Nat → Int32} {tp : Nat} (h : pTp g tk T tp) (hf : ∀ j, tk ≤ j → j < tk + 1 → g1 j = g j) : pTp g1 tk T tp := by
  obtain ⟨f, h1, h2⟩ := h
  exact ⟨f, (hf _ (by omega) (by omega)).trans h1, h2⟩
