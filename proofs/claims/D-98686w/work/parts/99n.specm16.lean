/-! THE MODEL's PLAIN SIDE, sixteenth: what is hidden -/
set_option maxRecDepth 100000
theorem zHid_bit {B : gBar} (hn : B 0 3 ≤ 8) {j : Nat} (hj : j < B 0 3) : zBit (zHid B) j = decide (B 18 j = 1) := by
  unfold zHid
  rw [zBit_orTo (by omega) (by omega)]
  simp [hj]
theorem zHid_H {B : gBar} (hn : B 0 3 ≤ 8) {j : Nat} (hj : j < B 0 3) : zHid (bs B 18 j 1) = zHid B ||| (1 : Int32) <<< (nI j &&& 31) := by
  apply b_ext
  intro i hi
  rw [b_or, b_shl j (by omega) 1 hi, ← zBit_bt hi, ← zBit_bt hi]
  unfold zHid
  rw [zBit_orTo (show bs B 18 j 1 0 3 ≤ 32 by show B 0 3 ≤ 32; omega) hi, zBit_orTo (by omega) hi]
  have h1 : ∀ m, m < 32 → bt 1 m = decide (m = 0) := by decide +kernel
  rw [h1 _ (by omega)]
  show (decide (i < B 0 3) && decide (bs B 18 j 1 18 i = 1)) = _
  by_cases h : i = j
  · subst h
    simp [bs, hj]
  · simp only [bs, h, and_false, if_false]
    have : ¬ (j ≤ i ∧ i - j = 0) := by omega
    by_cases h2 : j ≤ i
    · have h3 : ¬ i - j = 0 := by omega
      simp [h2, h3]
    · simp [h2]
