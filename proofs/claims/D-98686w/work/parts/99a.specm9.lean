/-! THE MODEL's PLAIN SIDE, ninth: names; kinds of tokens -/
set_option maxRecDepth 100000
/-- the names as the model keeps them: in the order in which they are told -/
def zNk (B : gBar) (Nm : zNm) (nl : List (Nat × Nat)) : Prop := (∀ q ∈ nl, q.1 < 4 ∧ q.2 < B 0 q.1) ∧ (∀ s k, s < 4 → k < B 0 s → (s, k) ∈ nl) ∧ (∀ s k, s < 4 → k < B 0 s → zWo (Nm s k)) ∧ (∀ q r, q ∈ nl → r ∈ nl → Nm q.1 q.2 = Nm r.1 r.2 → q = r) ∧ nl.length = B 0 0 + B 0 1 + B 0 2 + B 0 3
def zFx (nl : List (Nat × Nat)) (Nm : zNm) (w : Int64) : Nat → Nat → Int32
  | 0, _ => -1
  | f + 1, k => if pk (Nm (nl.getD k (0, 0)).1 (nl.getD k (0, 0)).2) = w then nI k else zFx nl Nm w f (k + 1)
theorem zFx_t {nl : List (Nat × Nat)} {Nm : zNm} {w : Int64} {n k : Nat} (hk : k < n) (h : pk (Nm (nl.getD k (0, 0)).1 (nl.getD k (0, 0)).2) = w) : zFx nl Nm w (n - k) k = nI k := by
  obtain ⟨m, hm⟩ : ∃ m, n - k = m + 1 := ⟨n - k - 1, by omega⟩
  rw [hm]
  exact if_pos h
theorem zFx_f {nl : List (Nat × Nat)} {Nm : zNm} {w : Int64} {n k : Nat} (hk : k < n) (h : ¬ pk (Nm (nl.getD k (0, 0)).1 (nl.getD k (0, 0)).2) = w) : zFx nl Nm w (n - k) k = zFx nl Nm w (n - (k + 1)) (k + 1) := by
  obtain ⟨m, hm⟩ : ∃ m, n - k = m + 1 := ⟨n - k - 1, by omega⟩
  rw [hm, show n - (k + 1) = m by omega]
  exact if_neg h
theorem zFi_yes {Nm : zNm} {w : List Int32} {s : Nat} : ∀ {n k : Nat}, zFi Nm w s n = none → k < n → Nm s k = w → False
  | 0, k, _, hk, _ => Nat.not_lt_zero _ hk
  | n + 1, k, h, hk, hw => by
    unfold zFi at h
    cases hz : zFi Nm w s n with
    | some j => rw [hz] at h; cases h
    | none =>
      rw [hz] at h
      simp only at h
      split at h
      · cases h
      · rename_i h1
        by_cases hk2 : k = n
        · subst hk2; exact h1 hw
        · exact zFi_yes hz (by omega) hw
/-- found, or not -/
theorem zFx_or {nl : List (Nat × Nat)} {Nm : zNm} {w : Int64} : ∀ (f k : Nat), (zFx nl Nm w f k = -1 ∧ ∀ i, k ≤ i → i < k + f → ¬ pk (Nm (nl.getD i (0, 0)).1 (nl.getD i (0, 0)).2) = w) ∨ ∃ i, k ≤ i ∧ i < k + f ∧ zFx nl Nm w f k = nI i ∧ pk (Nm (nl.getD i (0, 0)).1 (nl.getD i (0, 0)).2) = w
  | 0, k => .inl ⟨rfl, fun i h1 h2 => by omega⟩
  | f + 1, k => by
    by_cases h : pk (Nm (nl.getD k (0, 0)).1 (nl.getD k (0, 0)).2) = w
    · exact .inr ⟨k, Nat.le_refl _, by omega, if_pos h, h⟩
    · have e : zFx nl Nm w (f + 1) k = zFx nl Nm w f (k + 1) := if_neg h
      rcases zFx_or (nl := nl) (Nm := Nm) (w := w) f (k + 1) with ⟨h1, h2⟩ | ⟨i, h1, h2, h3, h4⟩
      · refine .inl ⟨e.trans h1, fun i a b => ?_⟩
        by_cases hi : i = k
        · rw [hi]; exact h
        · exact h2 i (by omega) (by omega)
      · exact .inr ⟨i, by omega, by omega, e.trans h3, h4⟩
theorem zFi_none {Nm : zNm} {w : List Int32} {s : Nat} : ∀ {n : Nat}, (∀ k, k < n → ¬ Nm s k = w) → zFi Nm w s n = none
  | 0, _ => rfl
  | n + 1, h => zFi_n (zFi_none (fun k hk => h k (by omega))) (h n (by omega))
theorem zFi_w {Nm : zNm} {w : List Int32} {s : Nat} : ∀ {n i : Nat}, zFi Nm w s n = some i → Nm s i = w
  | 0, i, h => by cases h
  | n + 1, i, h => by
    unfold zFi at h
    cases hz : zFi Nm w s n with
    | some j =>
      rw [hz] at h
      cases h
      exact zFi_w hz
    | none =>
      rw [hz] at h
      simp only at h
      split at h
      · rename_i h1; cases h; exact h1
      · cases h
theorem zFind_w {B : gBar} {Nm : zNm} {w : List Int32} {q : Nat × Nat} (h : zFind B Nm w = some q) : Nm q.1 q.2 = w := by
  unfold zFind at h
  split at h
  · rename_i h1; cases h; exact zFi_w h1
  · split at h
    · rename_i h1; cases h; exact zFi_w h1
    · split at h
      · rename_i h1; cases h; exact zFi_w h1
      · split at h
        · rename_i h1; cases h; exact zFi_w h1
        · cases h
theorem zFind_no {B : gBar} {Nm : zNm} {w : List Int32} (h : ∀ s k, s < 4 → k < B 0 s → ¬ Nm s k = w) : zFind B Nm w = none :=
  zFind_n (zFi_none (fun k hk => h 0 k (by decide) hk)) (zFi_none (fun k hk => h 1 k (by decide) hk)) (zFi_none (fun k hk => h 2 k (by decide) hk)) (zFi_none (fun k hk => h 3 k (by decide) hk))
theorem getD_mem {nl : List (Nat × Nat)} {i : Nat} (h : i < nl.length) : nl.getD i (0, 0) ∈ nl := by
  rw [List.getD_eq_getElem?_getD, List.getElem?_eq_getElem h]
  exact List.getElem_mem h
/-- a word is found by the model just where it is found by the system -/
theorem zFx_y {B : gBar} {Nm : zNm} {nl : List (Nat × Nat)} {w : List Int32} (h : zNk B Nm nl) (hw : zWo w) {q : Nat × Nat} (hq : zFind B Nm w = some q) : ∃ i, i < nl.length ∧ zFx nl Nm (pk w) nl.length 0 = nI i ∧ nl.getD i (0, 0) = q := by
  obtain ⟨h1, h2, h3, h4, h5⟩ := h
  have hl := zFind_lt hq
  have hw2 := zFind_w hq
  have hm := h2 q.1 q.2 hl.1 hl.2
  rcases zFx_or (nl := nl) (Nm := Nm) (w := pk w) nl.length 0 with ⟨e, h6⟩ | ⟨i, -, h7, e, h8⟩
  · obtain ⟨i, hi, e2⟩ := List.mem_iff_getElem.mp hm
    have := h6 i (Nat.zero_le _) (by omega)
    rw [List.getD_eq_getElem?_getD, List.getElem?_eq_getElem hi, e2] at this
    exact absurd (congrArg pk hw2) this
  · have hi : i < nl.length := by omega
    have hmi := getD_mem hi
    have hmi2 := h1 _ hmi
    refine ⟨i, hi, e, h4 _ q hmi hm ?_⟩
    rw [hw2]
    exact pk_inj (h3 _ _ hmi2.1 hmi2.2) hw h8
theorem zFx_n {B : gBar} {Nm : zNm} {nl : List (Nat × Nat)} {w : List Int32} (h : zNk B Nm nl) (hw : zWo w) (hq : zFind B Nm w = none) : zFx nl Nm (pk w) nl.length 0 = -1 := by
  obtain ⟨h1, h2, h3, h4, h5⟩ := h
  rcases zFx_or (nl := nl) (Nm := Nm) (w := pk w) nl.length 0 with ⟨e, -⟩ | ⟨i, -, h7, e, h8⟩
  · exact e
  · have hi : i < nl.length := by omega
    have hmi := h1 _ (getD_mem hi)
    have hn := pk_inj (h3 _ _ hmi.1 hmi.2) hw h8
    -- then it would be found
    exfalso
    have : ∀ s k, s < 4 → k < B 0 s → Nm s k = w → zFind B Nm w = none → False := by
      intro s k hs hk hnw hz
      unfold zFind at hz
      split at hz
      · cases hz
      · rename_i g0
        split at hz
        · cases hz
        · rename_i g1
          split at hz
          · cases hz
          · rename_i g2
            split at hz
            · cases hz
            · rename_i g3
              rcases (show s = 0 ∨ s = 1 ∨ s = 2 ∨ s = 3 by omega) with rfl | rfl | rfl | rfl
              · exact zFi_yes g0 hk hnw
              · exact zFi_yes g1 hk hnw
              · exact zFi_yes g2 hk hnw
              · exact zFi_yes g3 hk hnw
    exact this _ _ hmi.1 hmi.2 hn hq
/-- kinds of tokens -/
def zKi (t : zTk) : Prop := t.2.1 = 0 ∨ t.2.1 = 1 ∨ t.2.1 = 2 ∨ t.2.1 = 3 ∨ t.2.1 = 59
theorem zTn_ki {T : Nat → Int32} {n en : Nat} : zKi (zTn T n en) := by
  unfold zTn zTq
  repeat' split
  · exact .inl rfl
  · exact .inr (.inl rfl)
  · exact .inr (.inr (.inl rfl))
  · exact .inr (.inl rfl)
  · exact .inr (.inr (.inr (.inl rfl)))
  · exact .inr (.inr (.inr (.inr rfl)))
  · exact .inr (.inl rfl)
def xSg (x : zEr zTk) : Bool := match x with
  | .inl _ => false
  | .inr t => decide (t.2.1 = 59)
def xNm (x : zEr zTk) : Bool := match x with
  | .inl _ => false
  | .inr t => decide (t.2.1 = 2 ∧ t.2.2.2.2 ∉ zRsv)
theorem zSo_4 {t : zTk} (h : zKi t) : zSo t.2.1 = 4 ↔ t.2.1 = 59 := by
  rcases h with h | h | h | h | h <;> rw [h] <;> decide
