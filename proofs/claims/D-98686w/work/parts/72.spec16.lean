/-! THE PLAIN SIDE, sixteenth: a barrier being told -/
set_option maxRecDepth 100000
/-- the number of what is named: its sort, its place -/
def zNo (bb : Nat) (q : Nat × Nat) : Nat := bb + 10 * (q.1 + 1) + q.2
def zCi (B : gBar) (s k : Nat) : Nat := if s = 0 then 12 else if s = 1 then 13 else if s = 2 then 14 else 15 + B 12 k
def zNf (s : Nat) : Nat := if s = 3 then 5 else 0
/-- the names -/
def pNs (g : gWM) (bb : Nat) (B : gBar) (Nm : zNm) (M : Nat) : Prop := ∀ s k, s < 4 → k < B 0 s → ∃ (F : Nat → Value) (sw : Nat), g (bb + 10 * (s + 1) + k) = some (.inr (zCi B s k, F)) ∧ F (zNf s) = .ref sw ∧ pSt g sw (Nm s k) ∧ bb + 100 ≤ sw ∧ sw + 2 ≤ M
/-- what isn't told yet is free -/
def pSl (g : gWM) (bb : Nat) (B : gBar) : Prop := ∀ k, k < 10 → (B 0 0 ≤ k → g (bb + 10 + k) = none) ∧ (B 0 1 ≤ k → g (bb + 20 + k) = none) ∧ (B 0 2 ≤ k → g (bb + 30 + k) = none) ∧ (B 0 3 ≤ k → g (bb + 40 + k) = none) ∧ (B 0 4 ≤ k → g (bb + 50 + k) = none)
def pTd (g : gWM) (bb : Nat) (B : gBar) : Prop := ∃ F, g bb = some (.inr (11, F)) ∧ F 16 = .int (nI (B 0 9))
/-- all that is told -/
def pBq (g : gWM) (bb : Nat) (B : gBar) (Nm : zNm) (M : Nat) : Prop := pBr g bb B ∧ pTd g bb B ∧ pNs g bb B Nm M
theorem pNs.fr {g g1 : gWM} {bb : Nat} {B : gBar} {Nm : zNm} {M : Nat} (hw : wfB B) (h : pNs g bb B Nm M) (hf : ∀ j, bb ≤ j → j < M → g1 j = g j) (hM : bb + 100 ≤ M) : pNs g1 bb B Nm M := by
  have hn := hw.1
  intro s k hs hk
  obtain ⟨F, sw, h1, h2, h3, h4, h5⟩ := h s k hs hk
  have h6 : B 0 s ≤ 8 := by
    rcases (show s = 0 ∨ s = 1 ∨ s = 2 ∨ s = 3 by omega) with rfl | rfl | rfl | rfl <;> omega
  exact ⟨F, sw, (hf _ (by omega) (by omega)).trans h1, h2, h3.fr (fun j a b => hf j (by omega) (by omega)), h4, h5⟩
theorem pNs.mono {g : gWM} {bb : Nat} {B : gBar} {Nm : zNm} {M M1 : Nat} (h : pNs g bb B Nm M) (hM : M ≤ M1) : pNs g bb B Nm M1 := by
  intro s k hs hk
  obtain ⟨F, sw, h1, h2, h3, h4, h5⟩ := h s k hs hk
  exact ⟨F, sw, h1, h2, h3, h4, by omega⟩
theorem pBq.fr {g g1 : gWM} {bb : Nat} {B : gBar} {Nm : zNm} {M : Nat} (hw : wfB B) (hM : bb + 100 ≤ M) (h : pBq g bb B Nm M) (hf : ∀ j, bb ≤ j → j < M → g1 j = g j) : pBq g1 bb B Nm M := by
  obtain ⟨h1, ⟨F, h2, h3⟩, h4⟩ := h
  exact ⟨h1.fr hw (fun j a b => hf j a (by omega)), ⟨F, (hf _ (by omega) (by omega)).trans h2, h3⟩, h4.fr hw hf hM⟩
theorem pBq.mono {g : gWM} {bb : Nat} {B : gBar} {Nm : zNm} {M M1 : Nat} (h : pBq g bb B Nm M) (hM : M ≤ M1) : pBq g bb B Nm M1 := ⟨h.1, h.2.1, h.2.2.mono hM⟩
theorem pSl.fr {g g1 : gWM} {bb : Nat} {B : gBar} (h : pSl g bb B) (hf : ∀ j, bb ≤ j → j < bb + 100 → g1 j = g j) : pSl g1 bb B := fun k hk => by
  obtain ⟨a, b, c, d, e⟩ := h k hk
  exact ⟨fun x => (hf _ (by omega) (by omega)).trans (a x), fun x => (hf _ (by omega) (by omega)).trans (b x), fun x => (hf _ (by omega) (by omega)).trans (c x), fun x => (hf _ (by omega) (by omega)).trans (d x), fun x => (hf _ (by omega) (by omega)).trans (e x)⟩
theorem pBr.frn {g g1 : gWM} {bb k9 : Nat} {B : gBar} (h : pBr g bb B) (h9 : g k9 = none) (hf : ∀ j, bb ≤ j → j < bb + 100 → j ≠ k9 → g1 j = g j) (hw : wfB B) : pBr g1 bb B := by
  have up : ∀ j c, bb ≤ j → j < bb + 100 → g j = some c → g1 j = some c := fun j c a b e => (hf j a b (fun e9 => by rw [e9, h9] at e; cases e)).trans e
  obtain ⟨⟨F, h1, h2⟩, ⟨f1, a1, b1⟩, ⟨f2, a2, b2⟩, ⟨f3, a3, b3⟩, ⟨f4, a4, b4⟩, ⟨f5, a5, b5⟩, ⟨f6, a6, b6⟩, ⟨f7, a7, b7⟩, c1, c2, c3, c4, c5⟩ := h
  have hn := hw.1
  refine ⟨⟨F, up _ _ (by omega) (by omega) h1, h2⟩, ⟨f1, up _ _ (by omega) (by omega) a1, b1⟩, ⟨f2, up _ _ (by omega) (by omega) a2, b2⟩, ⟨f3, up _ _ (by omega) (by omega) a3, b3⟩, ⟨f4, up _ _ (by omega) (by omega) a4, b4⟩, ⟨f5, up _ _ (by omega) (by omega) a5, b5⟩, ⟨f6, up _ _ (by omega) (by omega) a6, b6⟩, ⟨f7, up _ _ (by omega) (by omega) a7, b7⟩, fun k hk => ?_, fun k hk => ?_, fun k hk => ?_, fun k hk => ?_, fun k hk => ?_⟩
  · obtain ⟨F, e1, e2⟩ := c1 k hk
    exact ⟨F, up _ _ (by omega) (by omega) e1, e2⟩
  · obtain ⟨F, e1, e2⟩ := c2 k hk
    exact ⟨F, up _ _ (by omega) (by omega) e1, e2⟩
  · obtain ⟨F, e1, e2⟩ := c3 k hk
    exact ⟨F, up _ _ (by omega) (by omega) e1, e2⟩
  · obtain ⟨F, e1, e2⟩ := c4 k hk
    exact ⟨F, up _ _ (by omega) (by omega) e1, e2⟩
  · obtain ⟨F, e1, e2⟩ := c5 k hk
    exact ⟨F, up _ _ (by omega) (by omega) e1, e2⟩
theorem pBq.frn {g g1 : gWM} {bb k9 : Nat} {B : gBar} {Nm : zNm} {M : Nat} (hw : wfB B) (hM : bb + 100 ≤ M) (h : pBq g bb B Nm M) (h9 : g k9 = none) (hk9 : k9 < bb + 100) (hf : ∀ j, bb ≤ j → j < M → j ≠ k9 → g1 j = g j) : pBq g1 bb B Nm M := by
  have up : ∀ j c, bb ≤ j → j < M → g j = some c → g1 j = some c := fun j c a b e => (hf j a b (fun e9 => by rw [e9, h9] at e; cases e)).trans e
  have hn := hw.1
  obtain ⟨h1, ⟨F, h2, h3⟩, h4⟩ := h
  refine ⟨h1.frn h9 (fun j a b c => hf j a (by omega) c) hw, ⟨F, up _ _ (by omega) (by omega) h2, h3⟩, fun s k hs hk => ?_⟩
  obtain ⟨F, sw, h1, h2, h3, h4, h5⟩ := h4 s k hs hk
  have h6 : B 0 s ≤ 8 := by
    rcases (show s = 0 ∨ s = 1 ∨ s = 2 ∨ s = 3 by omega) with rfl | rfl | rfl | rfl <;> omega
  exact ⟨F, sw, up _ _ (by omega) (by omega) h1, h2, h3.fr (fun j a b => hf j (by omega) (by omega) (by omega)), h4, h5⟩
/-! finding -/
theorem zFi_lt {Nm : zNm} {w : List Int32} {s : Nat} : ∀ {n i : Nat}, zFi Nm w s n = some i → i < n
  | 0, i, h => by cases h
  | n + 1, i, h => by
    unfold zFi at h
    cases hz : zFi Nm w s n with
    | some j =>
      rw [hz] at h
      have := zFi_lt hz
      cases h
      omega
    | none =>
      rw [hz] at h
      simp only at h
      split at h
      · cases h; omega
      · cases h
theorem zFi_m {Nm : zNm} {w : List Int32} {s i : Nat} : ∀ {m n : Nat}, zFi Nm w s n = some i → n ≤ m → zFi Nm w s m = some i
  | 0, n, h, hm => by rw [show (0 : Nat) = n by omega]; exact h
  | m + 1, n, h, hm => by
    by_cases h1 : n = m + 1
    · rw [← h1]; exact h
    · have h2 := zFi_m (m := m) h (by omega)
      unfold zFi
      rw [h2]
theorem zFi_n {Nm : zNm} {w : List Int32} {s k : Nat} (h : zFi Nm w s k = none) (h2 : ¬ Nm s k = w) : zFi Nm w s (k + 1) = none := by
  unfold zFi
  rw [h]
  exact if_neg h2
theorem zFi_y {Nm : zNm} {w : List Int32} {s k n : Nat} (h : zFi Nm w s k = none) (h2 : Nm s k = w) (hk : k < n) : zFi Nm w s n = some k := by
  refine zFi_m (n := k + 1) ?_ hk
  unfold zFi
  rw [h]
  exact if_pos h2
theorem zFind_lt {B : gBar} {Nm : zNm} {w : List Int32} {q : Nat × Nat} (h : zFind B Nm w = some q) : q.1 < 4 ∧ q.2 < B 0 q.1 := by
  unfold zFind at h
  split at h
  · rename_i h1; cases h; exact ⟨show (0 : Nat) < 4 by decide, zFi_lt h1⟩
  · split at h
    · rename_i h1; cases h; exact ⟨show (1 : Nat) < 4 by decide, zFi_lt h1⟩
    · split at h
      · rename_i h1; cases h; exact ⟨show (2 : Nat) < 4 by decide, zFi_lt h1⟩
      · split at h
        · rename_i h1; cases h; exact ⟨show (3 : Nat) < 4 by decide, zFi_lt h1⟩
        · cases h
section
variable {B : gBar} {Nm : zNm} {w : List Int32} {k : Nat}
theorem zFind_0 (h : zFi Nm w 0 (B 0 0) = some k) : zFind B Nm w = some (0, k) := by unfold zFind; rw [h]
theorem zFind_1 (h0 : zFi Nm w 0 (B 0 0) = none) (h : zFi Nm w 1 (B 0 1) = some k) : zFind B Nm w = some (1, k) := by unfold zFind; rw [h0, h]
theorem zFind_2 (h0 : zFi Nm w 0 (B 0 0) = none) (h1 : zFi Nm w 1 (B 0 1) = none) (h : zFi Nm w 2 (B 0 2) = some k) : zFind B Nm w = some (2, k) := by unfold zFind; rw [h0, h1, h]
theorem zFind_3 (h0 : zFi Nm w 0 (B 0 0) = none) (h1 : zFi Nm w 1 (B 0 1) = none) (h2 : zFi Nm w 2 (B 0 2) = none) (h : zFi Nm w 3 (B 0 3) = some k) : zFind B Nm w = some (3, k) := by unfold zFind; rw [h0, h1, h2, h]
theorem zFind_n (h0 : zFi Nm w 0 (B 0 0) = none) (h1 : zFi Nm w 1 (B 0 1) = none) (h2 : zFi Nm w 2 (B 0 2) = none) (h : zFi Nm w 3 (B 0 3) = none) : zFind B Nm w = none := by unfold zFind; rw [h0, h1, h2, h]
end
def oN (bb : Nat) (o : Option (Nat × Nat)) : Option Nat := o.map (zNo bb)
/-! words that name nothing, by their hashes -/
theorem rsv_no {w v : List Int32} {c : Int32} (h : zHs w = c) (hv : ∀ u ∈ zRsv, zHs u = c → u = v) (hne : ¬ w = v) : w ∉ zRsv := fun hm => hne (hv w hm h)
theorem rsv_h : ∀ u ∈ zRsv, zHs u = -333143113 ∨ zHs u = 3159 ∨ zHs u = 3165387 ∨ zHs u = 3178685 ∨ zHs u = 94940667 ∨ zHs u = 97696046 ∨ zHs u = 99273585 ∨ zHs u = 103769422 ∨ zHs u = 106934601 ∨ zHs u = 1038324974 ∨ zHs u = 1268946111 := by decide +kernel
theorem zMn_n {t : zTk} (h : ¬ t.2.1 = 2) : zMn t = .inl (1, t.2.2.1) := if_neg (fun h9 => h h9.1)
theorem zMn_r {t : zTk} {v : List Int32} (h : t.2.2.2.2 = v) (hm : v ∈ zRsv) : zMn t = .inl (1, t.2.2.1) := if_neg (fun h9 => h9.2 (h ▸ hm))
theorem zMn_y {t : zTk} (h : t.2.1 = 2) (hm : t.2.2.2.2 ∉ zRsv) : zMn t = .inr () := if_pos ⟨h, hm⟩
theorem zMn_2 {t : zTk} {u : Unit} (h : zMn t = .inr u) : t.2.1 = 2 := by
  unfold zMn at h
  split at h
  · rename_i h1; exact h1.1
  · cases h
theorem zKn_lt {B : gBar} {Nm : zNm} {t : zTk} {q : Nat × Nat} (h : zKn B Nm t = .inr q) : q.1 < 4 ∧ q.2 < B 0 q.1 := by
  unfold zKn zBd at h
  split at h
  · cases h
  · split at h
    · cases h
    · rename_i h1; cases h; exact zFind_lt h1
theorem g_asr {z : gZ} {g : gWM} {kc ks pc : Nat} {lo : List (Option Value)} {st : List Value} {a b : Nat} (h : a = b) (k : gV z g kc ks pc lo (.ref b :: st)) : gV z g kc ks pc lo (.ref a :: st) := h ▸ k
section
variable {T : Nat → Int32} {n : Nat} {B : gBar} {Nm : zNm} {t : zTk}
theorem zKs_lt {s k : Nat} (h : zKs s B Nm t = .inr k) : k < B 0 s := by
  unfold zKs zBd at h
  split at h
  · cases h
  · rename_i q h1
    have h : (if q.1 = s then (.inr q.2 : zEr Nat) else .inl (2, t.2.2.1)) = .inr k := h
    split at h
    · rename_i h2; cases h; rw [← h2]; exact (zKn_lt h1).2
    · cases h
theorem zKx_ok {s : Nat} {a : Nat × zTk} (h : zOk n t) (he : zKx T n s B Nm t = .inr a) : zOk n a.2 ∧ a.1 < B 0 s := by
  unfold zKx zBd at he
  split at he
  · cases he
  · rename_i k h1; cases he; exact ⟨zTn_ok h.1, zKs_lt h1⟩
theorem zNw_ok {a : List Int32 × zTk} (h : zOk n t) (he : zNw T n B Nm t = .inr a) : zOk n a.2 ∧ zWo a.1 := by
  unfold zNw zBd at he
  split at he
  · cases he
  · rename_i u h1
    split at he
    · cases he; exact ⟨zTn_ok h.1, h.2.2.2.1 (zMn_2 h1)⟩
    · cases he
theorem zBg_ok {can : Bool} {a : zTk} (h : zOk n t) (he : zBg T n B can t = .inr a) : zOk n a ∧ can = true ∧ B 0 9 = 1 := by
  unfold zBg at he
  split at he
  · rename_i h1
    split at he
    · rename_i h2; cases he; exact ⟨zTn_ok h.1, h1, h2⟩
    · cases he
  · cases he
end
