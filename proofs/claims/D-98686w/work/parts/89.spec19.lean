/-! THE PLAIN SIDE, nineteenth: which line it is; line by line -/
set_option maxRecDepth 100000
def zLws : List (List Int32) := [gByt "barrier", gByt "means", gByt "traveller", gByt "gate", gByt "good", gByt "hides", gByt "crosses", gByt "price", gByt "crumb"]
theorem lws_no {w v : List Int32} {c : Int32} (h : zHs w = c) (hv : ∀ u ∈ zLws, zHs u = c → u = v) (hne : ¬ w = v) : w ∉ zLws := fun hm => hne (hv w hm h)
theorem lws_h : ∀ u ∈ zLws, zHs u = -333143113 ∨ zHs u = 3165387 ∨ zHs u = 3178685 ∨ zHs u = 94940667 ∨ zHs u = 99273585 ∨ zHs u = 103769422 ∨ zHs u = 106934601 ∨ zHs u = 1038324974 ∨ zHs u = 1268946111 := by decide +kernel
section
variable {T : Nat → Int32} {n : Nat} {P : zPs}
theorem zLn_n (h : ¬ P.1.2.1 = 2) : zLn T n P = .inl (1, P.1.2.2.1) := by
  unfold zLn
  rw [if_neg h]
theorem zLn_x (h : P.1.2.1 = 2) (hm : P.1.2.2.2.2 ∉ zLws) : zLn T n P = .inl (1, P.1.2.2.1) := by
  unfold zLws at hm
  simp only [List.mem_cons, List.not_mem_nil, or_false, not_or] at hm
  obtain ⟨h1, h2, h3, h4, h5, h6, h7, h8, h9⟩ := hm
  unfold zLn
  rw [if_pos h, if_neg h1, if_neg h2, if_neg h3, if_neg h4, if_neg h5, if_neg h6, if_neg h7, if_neg h8, if_neg h9]
theorem zLn_0 (h : P.1.2.1 = 2) (hw : P.1.2.2.2.2 = gByt "barrier") : zLn T n P = zLB T n P := by
  unfold zLn
  rw [if_pos h, if_pos hw]
theorem zLn_1 (h : P.1.2.1 = 2) (hw : P.1.2.2.2.2 = gByt "means") : zLn T n P = zLM T n P := by
  unfold zLn
  rw [if_pos h, hw, if_neg (by decide +kernel), if_pos rfl]
theorem zLn_2 (h : P.1.2.1 = 2) (hw : P.1.2.2.2.2 = gByt "traveller") : zLn T n P = zLT T n P := by
  unfold zLn
  rw [if_pos h, hw, if_neg (by decide +kernel), if_neg (by decide +kernel), if_pos rfl]
theorem zLn_3 (h : P.1.2.1 = 2) (hw : P.1.2.2.2.2 = gByt "gate") : zLn T n P = zLG T n P := by
  unfold zLn
  rw [if_pos h, hw, if_neg (by decide +kernel), if_neg (by decide +kernel), if_neg (by decide +kernel), if_pos rfl]
theorem zLn_4 (h : P.1.2.1 = 2) (hw : P.1.2.2.2.2 = gByt "good") : zLn T n P = zLO T n P := by
  unfold zLn
  rw [if_pos h, hw, if_neg (by decide +kernel), if_neg (by decide +kernel), if_neg (by decide +kernel), if_neg (by decide +kernel), if_pos rfl]
theorem zLn_5 (h : P.1.2.1 = 2) (hw : P.1.2.2.2.2 = gByt "hides") : zLn T n P = zLH T n P := by
  unfold zLn
  rw [if_pos h, hw, if_neg (by decide +kernel), if_neg (by decide +kernel), if_neg (by decide +kernel), if_neg (by decide +kernel), if_neg (by decide +kernel), if_pos rfl]
theorem zLn_6 (h : P.1.2.1 = 2) (hw : P.1.2.2.2.2 = gByt "crosses") : zLn T n P = zLC T n P := by
  unfold zLn
  rw [if_pos h, hw, if_neg (by decide +kernel), if_neg (by decide +kernel), if_neg (by decide +kernel), if_neg (by decide +kernel), if_neg (by decide +kernel), if_neg (by decide +kernel), if_pos rfl]
theorem zLn_7 (h : P.1.2.1 = 2) (hw : P.1.2.2.2.2 = gByt "price") : zLn T n P = zLP T n P := by
  unfold zLn
  rw [if_pos h, hw, if_neg (by decide +kernel), if_neg (by decide +kernel), if_neg (by decide +kernel), if_neg (by decide +kernel), if_neg (by decide +kernel), if_neg (by decide +kernel), if_neg (by decide +kernel), if_pos rfl]
theorem zLn_8 (h : P.1.2.1 = 2) (hw : P.1.2.2.2.2 = gByt "crumb") : zLn T n P = zLK T n P := by
  unfold zLn
  rw [if_pos h, hw, if_neg (by decide +kernel), if_neg (by decide +kernel), if_neg (by decide +kernel), if_neg (by decide +kernel), if_neg (by decide +kernel), if_neg (by decide +kernel), if_neg (by decide +kernel), if_neg (by decide +kernel), if_pos rfl]
/-- the end of what is read -/
def zFn (P : zPs) : zEr (gBar × zNm) := if P.1.2.1 = 0 then (if P.2.1 0 9 = 1 ∧ P.2.1 0 1 ≠ 0 ∧ P.2.1 0 2 ≠ 0 then .inr P.2 else .inl (6, P.1.2.2.1)) else .inl (1, P.1.2.2.1)
theorem zRead_eq : zRead T n = zBd (zLn T n (zTn T n 0, zB0, fun _ _ => [])) fun P => zBd (zLs T n (n + 1) P) zFn := rfl
theorem zLs_s {f : Nat} (h : ¬ P.1.2.1 = 59) : zLs T n f P = .inr P := by
  cases f with
  | zero => rfl
  | succ f =>
    show (if P.1.2.1 = 59 then _ else _) = _
    rw [if_neg h]
theorem zLs_t {f : Nat} (hf : 0 < f) (h : P.1.2.1 = 59) : zLs T n f P = zBd (zLn T n (zTn T n P.1.1, P.2)) (zLs T n (f - 1)) := by
  cases f with
  | zero => omega
  | succ f =>
    show (if P.1.2.1 = 59 then _ else _) = _
    rw [if_pos h]
    rfl
end
