/-! THE PLAIN SIDE, ninth: crumbs -/
set_option maxRecDepth 100000
theorem wfB.crumb {B : gBar} (h : wfB B) {c : Nat} (hc : c < B 0 6) : B 23 c < B 0 0 ∧ B 24 c ≤ 60 := h.2.2.2.2.2.2 c hc
/-- how many rows, who could, who always -/
abbrev zCS : Type := Int32 × (Nat → Int32) × (Nat → Int32)
def zDif (B : gBar) (w : Nat → Nat) (c t : Nat) : Nat → Bool
  | 0 => true
  | i + 1 => zDif B w c t i && !(decide (w i = t) && decide (B 24 i = B 24 c))
theorem zDif_le {B : gBar} {w : Nat → Nat} {c t m : Nat} : ∀ {n : Nat}, m ≤ n → zDif B w c t n = true → zDif B w c t m = true := by
  intro n
  induction n with
  | zero => intro h1 h2; rw [show m = 0 by omega]; exact h2
  | succ n ih =>
    intro h1 h2
    by_cases h3 : m = n + 1
    · rw [h3]; exact h2
    · have h4 : (zDif B w c t n && !(decide (w n = t) && decide (B 24 n = B 24 c))) = true := h2
      exact ih (by omega) ((Bool.and_eq_true_iff).mp h4).1
theorem zDif_no {B : gBar} {w : Nat → Nat} {c t k n : Nat} (hk : k < n) (h1 : w k = t) (h2 : B 24 k = B 24 c) : zDif B w c t n = false := by
  cases h : zDif B w c t n with
  | false => rfl
  | true =>
    have h3 := zDif_le (m := k + 1) (by omega) h
    have h4 : (zDif B w c t k && !(decide (w k = t) && decide (B 24 k = B 24 c))) = true := h3
    rw [h1, h2] at h4
    simp at h4
def zGd (B : gBar) (c t j : Nat) : Bool := decide (B 14 j = t) && (decide (B 12 j ≠ 0) && (decide (B 13 j = B 23 c) && !zTur B j (nI (B 24 c))))
def zAny (p : Nat → Bool) : Nat → Bool
  | 0 => false
  | n + 1 => zAny p n || p n
theorem zAny_of {p : Nat → Bool} {k : Nat} : ∀ {n : Nat}, k < n → p k = true → zAny p n = true := by
  intro n
  induction n with
  | zero => intro h1; omega
  | succ n ih =>
    intro h1 h2
    unfold zAny
    by_cases h3 : k = n
    · rw [← h3, h2, Bool.or_true]
    · rw [ih (by omega) h2, Bool.true_or]
def zCan (B : gBar) (w : Nat → Nat) (c t : Nat) : Bool := zDif B w c t c && zAny (zGd B c t) (B 0 3)
def zLf (w : Nat → Nat) (n : Nat) (S : zCS) : zCS := (S.1 + 1, (fun i => if i < n then S.2.1 i ||| ((1 : Int32) <<< (nI (w i) &&& 31)) else S.2.1 i), fun i => if i < n then S.2.2 i &&& ((1 : Int32) <<< (nI (w i) &&& 31)) else S.2.2 i)
def zFo {α : Type} (f : α → Nat → α) : Nat → α → α
  | 0, S => S
  | n + 1, S => f (zFo f n S) n
def zTr (B : gBar) : Nat → (Nat → Nat) → Nat → zCS → zCS
  | 0, w, c, S => zLf w c S
  | k + 1, w, c, S => zFo (fun S t => if zCan B w c t then zTr B k (fun i => if i = c then t else w i) (c + 1) S else S) (B 0 1) S
def zSk (B : gBar) : zCS := zTr B (B 0 6) (fun _ => 0) 0 (0, (fun _ => 0), fun _ => 15)
/-- the crumbs' cells, a row of c -/
def pCr (g : gWM) (bb : Nat) (w : Nat → Nat) (c : Nat) (S : zCS) : Prop :=
  (∃ F, g 1040 = some (.inr (7, F)) ∧ F 0 = .ref 1041 ∧ F 1 = .ref 1042 ∧ F 2 = .ref 1043 ∧ F 3 = .ref bb ∧ F 4 = .int S.1) ∧
  (∃ f, g 1041 = some (.inl (0, 5, .inl f)) ∧ ∀ i, i < c → f i = nI (w i)) ∧ (∃ f, g 1042 = some (.inl (0, 5, .inl f)) ∧ ∀ i, i < 5 → f i = S.2.1 i) ∧ ∃ f, g 1043 = some (.inl (0, 5, .inl f)) ∧ ∀ i, i < 5 → f i = S.2.2 i
theorem pCr.fr {g g1 : gWM} {bb : Nat} {w : Nat → Nat} {c : Nat} {S : zCS} (h : pCr g bb w c S) (hf : ∀ j, 1040 ≤ j → j < 1044 → g1 j = g j) : pCr g1 bb w c S := by
  obtain ⟨⟨F, h1, h2⟩, ⟨f1, a1, b1⟩, ⟨f2, a2, b2⟩, f3, a3, b3⟩ := h
  exact ⟨⟨F, (hf _ (by omega) (by omega)).trans h1, h2⟩, ⟨f1, (hf _ (by omega) (by omega)).trans a1, b1⟩, ⟨f2, (hf _ (by omega) (by omega)).trans a2, b2⟩, f3, (hf _ (by omega) (by omega)).trans a3, b3⟩
/-- .. whatever they hold -/
def pCq (g : gWM) : Prop := (∃ F, g 1040 = some (.inr (7, F)) ∧ F 0 = .ref 1041 ∧ F 1 = .ref 1042 ∧ F 2 = .ref 1043) ∧ (∃ f, g 1041 = some (.inl (0, 5, .inl f))) ∧ (∃ f, g 1042 = some (.inl (0, 5, .inl f))) ∧ ∃ f, g 1043 = some (.inl (0, 5, .inl f))
theorem pCq.fr {g g1 : gWM} (h : pCq g) (hf : ∀ j, 1040 ≤ j → j < 1044 → g1 j = g j) : pCq g1 := by
  obtain ⟨⟨F, h1, h2⟩, ⟨f1, a1⟩, ⟨f2, a2⟩, f3, a3⟩ := h
  exact ⟨⟨F, (hf _ (by omega) (by omega)).trans h1, h2⟩, ⟨f1, (hf _ (by omega) (by omega)).trans a1⟩, ⟨f2, (hf _ (by omega) (by omega)).trans a2⟩, f3, (hf _ (by omega) (by omega)).trans a3⟩
theorem pCr.q {g : gWM} {bb : Nat} {w : Nat → Nat} {c : Nat} {S : zCS} (h : pCr g bb w c S) : pCq g := by
  obtain ⟨⟨F, h1, h2, h3, h4, -⟩, ⟨f1, a1, -⟩, ⟨f2, a2, -⟩, f3, a3, -⟩ := h
  exact ⟨⟨F, h1, h2, h3, h4⟩, ⟨f1, a1⟩, ⟨f2, a2⟩, f3, a3⟩
theorem pCr.less {g : gWM} {bb : Nat} {w : Nat → Nat} {c t : Nat} {S : zCS} (h : pCr g bb (fun i => if i = c then t else w i) (c + 1) S) : pCr g bb w c S := by
  obtain ⟨h1, ⟨f1, a1, b1⟩, h2⟩ := h
  exact ⟨h1, ⟨f1, a1, fun i hi => by rw [b1 i (by omega)]; show nI (if _ then _ else _) = _; rw [if_neg (by omega)]⟩, h2⟩
theorem updW {f : Nat → Int32} {w : Nat → Nat} {c t : Nat} (h : ∀ i, i < c → f i = nI (w i)) : ∀ i, i < c + 1 → upd f c (nI t) i = nI (if i = c then t else w i) := by
  intro i hi
  unfold upd
  split
  · rfl
  · exact h i (by omega)
theorem updLo {f : Nat → Int32} {w : Nat → Nat} {k : Nat} {S : zCS} (h : ∀ i, i < 5 → f i = (zLf w k S).2.1 i) : ∀ i, i < 5 → upd f k (S.2.1 k ||| ((1 : Int32) <<< (nI (w k) &&& 31))) i = (zLf w (k + 1) S).2.1 i := by
  intro i hi
  unfold upd
  split
  · rename_i h9
    subst h9
    show _ = if _ then _ else _
    rw [if_pos (by omega)]
  · rename_i h9
    rw [h i hi]
    show (if _ then _ else _) = if _ then _ else _
    by_cases h8 : i < k
    · rw [if_pos h8, if_pos (by omega)]
    · rw [if_neg h8, if_neg (by omega)]
theorem updLa {f : Nat → Int32} {w : Nat → Nat} {k : Nat} {S : zCS} (h : ∀ i, i < 5 → f i = (zLf w k S).2.2 i) : ∀ i, i < 5 → upd f k (S.2.2 k &&& ((1 : Int32) <<< (nI (w k) &&& 31))) i = (zLf w (k + 1) S).2.2 i := by
  intro i hi
  unfold upd
  split
  · rename_i h9
    subst h9
    show _ = if _ then _ else _
    rw [if_pos (by omega)]
  · rename_i h9
    rw [h i hi]
    show (if _ then _ else _) = if _ then _ else _
    by_cases h8 : i < k
    · rw [if_pos h8, if_pos (by omega)]
    · rw [if_neg h8, if_neg (by omega)]
theorem zLf_o {w : Nat → Nat} {k : Nat} {S : zCS} : (zLf w k S).2.1 k = S.2.1 k := if_neg (Nat.lt_irrefl _)
theorem zLf_a {w : Nat → Nat} {k : Nat} {S : zCS} : (zLf w k S).2.2 k = S.2.2 k := if_neg (Nat.lt_irrefl _)
theorem updC {f : Nat → Int32} {k : Nat} {v : Int32} (h : ∀ i, i < k → f i = v) : ∀ i, i < k + 1 → upd f k v i = v := by
  intro i hi
  unfold upd
  split
  · rfl
  · exact h i (by omega)
def zSu (B : gBar) (S : zCS) (c : Nat) : Nat → Nat → Int32
  | 0, _ => -2
  | n + 1, t => if zBit (S.2.2 c) t then nI t else zSu B S c n (t + 1)
theorem zSu_t {B : gBar} {S : zCS} {c k : Nat} (hk : k < B 0 1) (h : zBit (S.2.2 c) k = true) : zSu B S c (B 0 1 - k) k = nI k := by
  obtain ⟨n, hn⟩ : ∃ n, B 0 1 - k = n + 1 := ⟨B 0 1 - k - 1, by omega⟩
  rw [hn]
  simp [zSu, h]
theorem zSu_f {B : gBar} {S : zCS} {c k : Nat} (hk : k < B 0 1) (h : zBit (S.2.2 c) k = false) : zSu B S c (B 0 1 - k) k = zSu B S c (B 0 1 - (k + 1)) (k + 1) := by
  obtain ⟨n, hn⟩ : ∃ n, B 0 1 - k = n + 1 := ⟨B 0 1 - k - 1, by omega⟩
  rw [hn, show B 0 1 - (k + 1) = n by omega]
  simp [zSu, h]
def zSur (B : gBar) (S : zCS) (c : Nat) : Int32 := if 0 < S.1 then zSu B S c (B 0 1) 0 else -2
def sFit (tl : Bool) (B : gBar) : Int32 × Int32 := if !tl then (-1, 1) else if B 0 6 = 0 then (-1, 6) else ((zSk B).1, 0)
def sCou (B : gBar) (p : Int32) : Int32 × Int32 := match qI (B 0 6) p with
  | none => (-1, 1)
  | some c => ((zSk B).2.1 c, 0)
def sSur (B : gBar) (p : Int32) : Int32 × Int32 := match qI (B 0 6) p with
  | none => (-1, 1)
  | some c => (zSur B (zSk B) c, 0)
theorem zLf_z {w : Nat → Nat} {S : zCS} {i : Nat} : (zLf w 0 S).2.1 i = S.2.1 i := by simp [zLf]
theorem zLf_y {w : Nat → Nat} {S : zCS} {i : Nat} : (zLf w 0 S).2.2 i = S.2.2 i := by simp [zLf]
