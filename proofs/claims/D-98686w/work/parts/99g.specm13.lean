/-! THE MODEL's PLAIN SIDE, thirteenth: one name more -/
set_option maxRecDepth 100000
section
variable {B B1 : gBar} {Nm : zNm} {nl : List (Nat × Nat)} {w : List Int32} {s9 : Nat}
theorem getD_app_l {q : Nat × Nat} {i : Nat} (h : i < nl.length) : (nl ++ [q]).getD i (0, 0) = nl.getD i (0, 0) := by
  rw [List.getD_eq_getElem?_getD, List.getD_eq_getElem?_getD, List.getElem?_append_left h]
theorem getD_app_r {q : Nat × Nat} : (nl ++ [q]).getD nl.length (0, 0) = q := by
  rw [List.getD_eq_getElem?_getD, List.getElem?_append_right (Nat.le_refl _), Nat.sub_self]
  rfl
/-- an old name is as it was -/
theorem ns_old (h : zNk B Nm nl) {q : Nat × Nat} (hq : q ∈ nl) : ns Nm s9 (B 0 s9) w q.1 q.2 = Nm q.1 q.2 := by
  unfold ns
  refine if_neg (fun h9 => ?_)
  have h1 := (h.1 q hq).2
  rw [h9.1, h9.2] at h1
  exact Nat.lt_irrefl _ h1
theorem ns_new : ns Nm s9 (B 0 s9) w s9 (B 0 s9) = w := if_pos ⟨rfl, rfl⟩
theorem zNk_n (h : zNk B Nm nl) (hs : s9 < 4) (hc : ∀ s, s < 4 → B1 0 s = if s = s9 then B 0 s + 1 else B 0 s) (hw : zWo w) (hf : zFind B Nm w = none) : zNk B1 (ns Nm s9 (B 0 s9) w) (nl ++ [(s9, B 0 s9)]) := by
  have h0 := h
  obtain ⟨h1, h2, h3, h4, h5⟩ := h
  have hnf : ∀ s k, s < 4 → k < B 0 s → ¬ Nm s k = w := by
    intro s k hs hk hn
    have hz := hf
    unfold zFind at hz
    split at hz
    · cases hz
    · rename_i g0
      split at hz
      · cases hz
      · rename_i g1
        split at hz
        · cases hz
        · rename_i g2
          split at hz
          · cases hz
          · rename_i g3
            rcases (show s = 0 ∨ s = 1 ∨ s = 2 ∨ s = 3 by omega) with rfl | rfl | rfl | rfl
            · exact zFi_yes g0 hk hn
            · exact zFi_yes g1 hk hn
            · exact zFi_yes g2 hk hn
            · exact zFi_yes g3 hk hn
  have hin : ∀ q, q ∈ nl ++ [(s9, B 0 s9)] → q ∈ nl ∨ q = (s9, B 0 s9) := fun q hq => by
    rcases List.mem_append.mp hq with h | h
    · exact .inl h
    · exact .inr (List.mem_singleton.mp h)
  have hnm : ∀ q, q ∈ nl → ns Nm s9 (B 0 s9) w q.1 q.2 = Nm q.1 q.2 := fun q hq => ns_old h0 hq
  refine ⟨fun q hq => ?_, fun s k hs2 hk => ?_, fun s k hs2 hk => ?_, fun q r hq hr he => ?_, ?_⟩
  · rcases hin q hq with h | rfl
    · have h6 := h1 q h
      refine ⟨h6.1, ?_⟩
      rw [hc _ h6.1]
      split <;> omega
    · refine ⟨hs, ?_⟩
      show B 0 s9 < B1 0 s9
      rw [hc _ hs, if_pos rfl]
      omega
  · rw [hc _ hs2] at hk
    by_cases h6 : s = s9 ∧ k = B 0 s
    · refine List.mem_append.mpr (.inr (List.mem_singleton.mpr ?_))
      rw [h6.2, h6.1]
    · refine List.mem_append.mpr (.inl (h2 s k hs2 ?_))
      split at hk
      · rename_i h7
        have : ¬ k = B 0 s := fun h8 => h6 ⟨h7, h8⟩
        omega
      · exact hk
  · rw [hc _ hs2] at hk
    unfold ns
    split
    · exact hw
    · rename_i h6
      refine h3 s k hs2 ?_
      split at hk
      · rename_i h7
        subst h7
        have : ¬ k = B 0 s := fun h8 => h6 ⟨rfl, h8⟩
        omega
      · exact hk
  · rcases hin q hq with h | rfl
    · rcases hin r hr with h' | rfl
      · rw [hnm q h, hnm r h'] at he
        exact h4 q r h h' he
      · rw [hnm q h] at he
        have he : Nm q.1 q.2 = w := he.trans ns_new
        exact absurd he (hnf _ _ (h1 q h).1 (h1 q h).2)
    · rcases hin r hr with h' | rfl
      · rw [hnm r h'] at he
        have he : w = Nm r.1 r.2 := ns_new.symm.trans he
        exact absurd he.symm (hnf _ _ (h1 r h').1 (h1 r h').2)
      · rfl
  · rw [List.length_append, h5, hc 0 (by decide), hc 1 (by decide), hc 2 (by decide), hc 3 (by decide)]
    rcases (show s9 = 0 ∨ s9 = 1 ∨ s9 = 2 ∨ s9 = 3 by omega) with rfl | rfl | rfl | rfl <;> simp <;> omega
theorem zNk_o (h : zNk B Nm nl) (hc : ∀ s, s < 4 → B1 0 s = B 0 s) : zNk B1 Nm nl := by
  obtain ⟨h1, h2, h3, h4, h5⟩ := h
  refine ⟨fun q hq => ⟨(h1 q hq).1, by rw [hc _ (h1 q hq).1]; exact (h1 q hq).2⟩, fun s k hs hk => h2 s k hs (by rw [← hc s hs]; exact hk), fun s k hs hk => h3 s k hs (by rw [← hc s hs]; exact hk), h4, ?_⟩
  rw [h5, hc 0 (by decide), hc 1 (by decide), hc 2 (by decide), hc 3 (by decide)]
/-- the names' arrays, one name more -/
theorem pNl_n {g g1 : gWM} {mb : Nat} (h : pNl g mb Nm nl) (hk : zNk B Nm nl) {f22 : Nat → Int64} {f23 f24 : Nat → Int32}
    (b1 : ∀ i, i < nl.length → f22 i = pk (Nm (nl.getD i (0, 0)).1 (nl.getD i (0, 0)).2)) (b2 : ∀ i, i < nl.length → f23 i = nI (nl.getD i (0, 0)).1) (b3 : ∀ i, i < nl.length → f24 i = nI (nl.getD i (0, 0)).2)
    (a1 : g1 (mb + 22) = some (.inl (3, 19, .inr (.inl (vp_updL f22 nl.length (pk w)))))) (a2 : g1 (mb + 23) = some (.inl (0, 19, .inl (upd f23 nl.length (nI s9))))) (a3 : g1 (mb + 24) = some (.inl (0, 19, .inl (upd f24 nl.length (nI (B 0 s9)))))) : pNl g1 mb (ns Nm s9 (B 0 s9) w) (nl ++ [(s9, B 0 s9)]) := by
  have hl : (nl ++ [(s9, B 0 s9)]).length = nl.length + 1 := by rw [List.length_append]; rfl
  refine ⟨⟨_, a1, fun i hi => ?_⟩, ⟨_, a2, fun i hi => ?_⟩, ⟨_, a3, fun i hi => ?_⟩⟩
  · rw [hl] at hi
    by_cases h9 : i = nl.length
    · rw [h9, getD_app_r]
      show (if nl.length = nl.length then _ else _) = _
      rw [if_pos rfl]
      exact congrArg pk ns_new.symm
    · rw [getD_app_l (by omega)]
      show (if i = nl.length then _ else _) = _
      rw [if_neg h9, b1 i (by omega), ns_old hk (getD_mem (by omega))]
  · rw [hl] at hi
    by_cases h9 : i = nl.length
    · show upd f23 nl.length (nI s9) i = nI ((nl ++ [(s9, B 0 s9)]).getD i (0, 0)).1
      rw [h9, getD_app_r]
      exact if_pos rfl
    · show upd f23 nl.length (nI s9) i = nI ((nl ++ [(s9, B 0 s9)]).getD i (0, 0)).1
      rw [getD_app_l (by omega), ← b2 i (by omega)]
      exact if_neg h9
  · rw [hl] at hi
    by_cases h9 : i = nl.length
    · show upd f24 nl.length (nI (B 0 s9)) i = nI ((nl ++ [(s9, B 0 s9)]).getD i (0, 0)).2
      rw [h9, getD_app_r]
      exact if_pos rfl
    · show upd f24 nl.length (nI (B 0 s9)) i = nI ((nl ++ [(s9, B 0 s9)]).getD i (0, 0)).2
      rw [getD_app_l (by omega), ← b3 i (by omega)]
      exact if_neg h9
end
