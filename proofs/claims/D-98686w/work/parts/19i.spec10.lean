/-! THE PLAIN SIDE, tenth: sets that are best -/
set_option maxRecDepth 100000
theorem zOn_le : ∀ a, a < 256 → zOn a ≤ 8 := by decide +kernel
/-- all, a set eaten of the first k goods -/
def zRk (R : Nat → Int32) (s k : Nat) : Nat → Int32 := fun i => if decide (i < k) && zBit (nI s) i then 1 else R i
theorem zRk_0 {R : Nat → Int32} {s : Nat} : zRk R s 0 = R := by
  funext i
  simp [zRk]
theorem zRk_t {R : Nat → Int32} {s k : Nat} (h : zBit (nI s) k = true) : zRk R s (k + 1) = upd (zRk R s k) k 1 := by
  funext i
  unfold zRk upd
  by_cases hi : i = k
  · subst hi
    simp [h]
  · have : (i < k + 1) ↔ i < k := by omega
    simp [this, hi]
theorem zRk_f {R : Nat → Int32} {s k : Nat} (h : zBit (nI s) k = false) : zRk R s (k + 1) = zRk R s k := by
  funext i
  unfold zRk
  by_cases hi : i = k
  · subst hi
    simp [h]
  · have : (i < k + 1) ↔ i < k := by omega
    simp [this]
/-- all, with a set: eaten (m), or hidden -/
def zRw (m : Bool) (B : gBar) (R : Nat → Int32) (t s : Nat) : Nat → Int32 := if m then zRk R s (B 0 3) else upd R 16 ((R 16 &&& (zHas B R t ^^^ (-1))) ||| nI s)
def zMay (m : Bool) (B : gBar) (R : Nat → Int32) (t k : Nat) (e : Int32) (s : Nat) : Bool := if m then !decide (R (8 + t) < nI (zOn s)) else decide (zFou B (zRw false B R t s) t k e 0 = 0)
def zChA (m : Bool) (B : gBar) (R : Nat → Int32) (t k : Nat) (e : Int32) (s : Nat) : Int32 := zAsk B (zRw m B R t s) t (zFou B (zRw m B R t s) t k e 0) 1 e
def zChS (m : Bool) (B : gBar) (R : Nat → Int32) (t k : Nat) (e : Int32) (S : Nat × Int32) (s : Nat) : Nat × Int32 :=
  if nI s &&& (zHas B R t ^^^ (-1)) = 0 then (if zMay m B R t k e s then (if ¬ S.2 = -1 ∧ (S.2 < zChA m B R t k e s ∨ (zChA m B R t k e s = S.2 ∧ zOn S.1 ≤ zOn s)) then S else (s, zChA m B R t k e s)) else S) else S
def zChs (m : Bool) (B : gBar) (R : Nat → Int32) (t k : Nat) (e : Int32) (n : Nat) : Nat × Int32 := zFo (zChS m B R t k e) n (0, -1)
theorem zChs_le {m : Bool} {B : gBar} {R : Nat → Int32} {t k : Nat} {e : Int32} : ∀ n, (zChs m B R t k e n).1 ≤ n
  | 0 => Nat.le_refl _
  | n + 1 => by
    have h := zChs_le (m := m) (B := B) (R := R) (t := t) (k := k) (e := e) n
    show (zChS m B R t k e (zChs m B R t k e n) n).1 ≤ n + 1
    unfold zChS
    split
    · split
      · split
        · omega
        · exact Nat.le_succ n
      · omega
    · omega
def sCh (m : Bool) (B : gBar) (R : Nat → Int32) (d p q dy : Int32) (f : Nat × Int32 → Int32) : Int32 × Int32 := sX B p q dy (fun t k => f (zChs m B R t k (d + dy) (2 ^ B 0 3)))
/-- a choice's cells -/
def pCh (g : gWM) (ci ch bb best : Nat) (least : Int32) : Prop := ∃ F, g ch = some (.inr (ci, F)) ∧ F 0 = .ref (ch + 1) ∧ F 1 = .ref bb ∧ F 2 = .int (nI best) ∧ F 3 = .int least
theorem pCh.fr {g g1 : gWM} {ci ch bb best : Nat} {least : Int32} (h : pCh g ci ch bb best least) (hf : ∀ j, ch ≤ j → j < ch + 1 → g1 j = g j) : pCh g1 ci ch bb best least := by
  obtain ⟨F, h1, h2⟩ := h
  exact ⟨F, (hf _ (by omega) (by omega)).trans h1, h2⟩
def pCk (g : gWM) (ci ch : Nat) : Prop := (∃ F, g ch = some (.inr (ci, F)) ∧ F 0 = .ref (ch + 1)) ∧ pLs g (ch + 1)
theorem pCk.fr {g g1 : gWM} {ci ch : Nat} (h : pCk g ci ch) (hf : ∀ j, ch ≤ j → j < ch + 5 → g1 j = g j) : pCk g1 ci ch := by
  obtain ⟨⟨F, h1, h2⟩, h3⟩ := h
  exact ⟨⟨F, (hf _ (by omega) (by omega)).trans h1, h2⟩, h3.fr (fun j a b => hf j (by omega) (by omega))⟩
theorem pCh.k {g : gWM} {ci ch bb best : Nat} {least : Int32} (h : pCh g ci ch bb best least) (h2 : pLs g (ch + 1)) : pCk g ci ch := by
  obtain ⟨F, a, b, -⟩ := h
  exact ⟨⟨F, a, b⟩, h2⟩
section
variable {m : Bool} {B : gBar} {R : Nat → Int32} {t k : Nat} {e : Int32} {S : Nat × Int32} {s : Nat}
theorem zChS_1 (h : ¬ nI s &&& (zHas B R t ^^^ (-1)) = 0) : zChS m B R t k e S s = S := if_neg h
theorem zChS_y (h : nI s &&& (zHas B R t ^^^ (-1)) = 0) (h2 : zMay m B R t k e s = true) : zChS m B R t k e S s = (if ¬ S.2 = -1 ∧ (S.2 < zChA m B R t k e s ∨ (zChA m B R t k e s = S.2 ∧ zOn S.1 ≤ zOn s)) then S else (s, zChA m B R t k e s)) := by
  unfold zChS
  rw [if_pos h, if_pos h2]
theorem zChS_2 (h : nI s &&& (zHas B R t ^^^ (-1)) = 0) (h2 : zMay m B R t k e s = false) : zChS m B R t k e S s = S := by
  unfold zChS
  rw [if_pos h, if_neg (by rw [h2]; exact Bool.false_ne_true)]
theorem zChS_3 (h : nI s &&& (zHas B R t ^^^ (-1)) = 0) (h2 : zMay m B R t k e s = true) (h3 : ¬ S.2 = -1) (h4 : S.2 < zChA m B R t k e s) : zChS m B R t k e S s = S := by rw [zChS_y h h2, if_pos ⟨h3, .inl h4⟩]
theorem zChS_4 (h : nI s &&& (zHas B R t ^^^ (-1)) = 0) (h2 : zMay m B R t k e s = true) (h3 : ¬ S.2 = -1) (h4 : zChA m B R t k e s = S.2) (h5 : zOn S.1 ≤ zOn s) : zChS m B R t k e S s = S := by rw [zChS_y h h2, if_pos ⟨h3, .inr ⟨h4, h5⟩⟩]
theorem zChS_5 (h : nI s &&& (zHas B R t ^^^ (-1)) = 0) (h2 : zMay m B R t k e s = true) (h3 : S.2 = -1) : zChS m B R t k e S s = (s, zChA m B R t k e s) := by rw [zChS_y h h2, if_neg (fun h9 => h9.1 h3)]
theorem zChS_6 (h : nI s &&& (zHas B R t ^^^ (-1)) = 0) (h2 : zMay m B R t k e s = true) (h4 : ¬ S.2 < zChA m B R t k e s) (h5 : ¬ zChA m B R t k e s = S.2) : zChS m B R t k e S s = (s, zChA m B R t k e s) := by rw [zChS_y h h2, if_neg (fun h9 => h9.2.elim h4 (fun h8 => h5 h8.1))]
theorem zChS_7 (h : nI s &&& (zHas B R t ^^^ (-1)) = 0) (h2 : zMay m B R t k e s = true) (h4 : ¬ S.2 < zChA m B R t k e s) (h5 : ¬ zOn S.1 ≤ zOn s) : zChS m B R t k e S s = (s, zChA m B R t k e s) := by rw [zChS_y h h2, if_neg (fun h9 => h9.2.elim h4 (fun h8 => h5 h8.2))]
end
