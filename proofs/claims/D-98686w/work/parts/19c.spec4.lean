/-! THE PLAIN SIDE, fourth: the plan and the draws -/
set_option maxRecDepth 100000
def zNx (a : Nat) : Nat := (75 * a + 74) % 65537
/-- what is found by draws among the first goods, and the seed then -/
def zDr (B : gBar) (R : Nat → Int32) (t : Nat) (d : Int32) (sd : Nat) : Nat → Int32 × Nat
  | 0 => (0, sd)
  | k + 1 => if zHp B R t k && zBit (R 16) k then ((zDr B R t d sd k).1 ||| (if zSme B R k d 0 ≤ nI (zNx (zDr B R t d sd k).2 % 100) then 0 else (1 : Int32) <<< (nI k &&& 31)), zNx (zDr B R t d sd k).2) else zDr B R t d sd k
theorem zDr_lt {B : gBar} {R : Nat → Int32} {t : Nat} {d : Int32} {sd : Nat} (h : sd < 65537) : ∀ k, (zDr B R t d sd k).2 < 65537
  | 0 => h
  | k + 1 => by
    unfold zDr
    split
    · exact Nat.mod_lt _ (by decide)
    · exact zDr_lt h k
def zOp (B : gBar) (c : Nat) : Bool := zIn (nI (B 22 c)) (nI (B 10 (B 20 c))) (nI (B 11 (B 20 c)))
def zFd (B : gBar) (dr : Bool) (R : Nat → Int32) (sd c : Nat) : Int32 × Nat := if dr then zDr B R (B 19 c) (nI (B 21 c)) sd (B 0 3) else (zFou B R (B 19 c) (B 20 c) (nI (B 21 c)) 0, sd)
/-- one crossing of the plan: what is asked, the seed, all then -/
def zRr (B : gBar) (dr : Bool) (R : Nat → Int32) (sd c : Nat) : Int32 := if zOp B c then zAsk B R (B 19 c) (zFd B dr R sd c).1 1 (nI (B 21 c)) else -2
def zRd (B : gBar) (dr : Bool) (R : Nat → Int32) (sd c : Nat) : Nat := if zOp B c then (zFd B dr R sd c).2 else sd
def zRn (B : gBar) (dr : Bool) (R : Nat → Int32) (sd c : Nat) : Nat → Int32 := if zOp B c then zCro B R (B 19 c) (zFd B dr R sd c).1 (zAsk B R (B 19 c) (zFd B dr R sd c).1 1 (nI (B 21 c))) else R
theorem zRd_lt {B : gBar} {dr : Bool} {R : Nat → Int32} {sd c : Nat} (h : sd < 65537) : zRd B dr R sd c < 65537 := by
  unfold zRd zFd
  split
  · split
    · exact zDr_lt h _
    · exact h
  · exact h
/-- the plan's first crossings: all, the seed, the sum -/
def zPl (B : gBar) (dr : Bool) (sd : Nat) : Nat → (Nat → Int32) × Nat × Int32
  | 0 => (zR0 B, sd, 0)
  | k + 1 => (zRn B dr (zPl B dr sd k).1 (zPl B dr sd k).2.1 k, zRd B dr (zPl B dr sd k).1 (zPl B dr sd k).2.1 k, (zPl B dr sd k).2.2 + zPos (zRr B dr (zPl B dr sd k).1 (zPl B dr sd k).2.1 k))
theorem zPl_lt {B : gBar} {dr : Bool} {sd : Nat} (h : sd < 65537) : ∀ k, (zPl B dr sd k).2.1 < 65537
  | 0 => h
  | k + 1 => zRd_lt (zPl_lt h k)
def zRs (B : gBar) (dr : Bool) (sd k : Nat) : Int32 := zRr B dr (zPl B dr sd k).1 (zPl B dr sd k).2.1 k
/-- a course's object -/
def pCo (g : gWM) (co : Nat) (bar law : Nat) (dr : Bool) (sd : Nat) (sm : Int32) : Prop :=
  ∃ F, g co = some (.inr (6, F)) ∧ F 0 = .ref (co + 2) ∧ F 1 = .ref (co + 1) ∧ F 2 = .ref bar ∧ F 3 = .ref law ∧ F 4 = .int (nI sd) ∧ F 5 = .int sm ∧ F 6 = .int (zb dr)
theorem pCo.fr {g g1 : gWM} {co bar law : Nat} {dr : Bool} {sd : Nat} {sm : Int32} (h : pCo g co bar law dr sd sm) (hf : ∀ j, co ≤ j → j < co + 1 → g1 j = g j) : pCo g1 co bar law dr sd sm := by
  obtain ⟨F, h1, h2⟩ := h
  exact ⟨F, (hf _ (by omega) (by omega)).trans h1, h2⟩
/-- .. whatever it holds -/
def pCs (g : gWM) (co : Nat) : Prop := (∃ F, g co = some (.inr (6, F)) ∧ F 0 = .ref (co + 2) ∧ F 1 = .ref (co + 1)) ∧ (∃ f, g (co + 1) = some (.inl (0, 6, .inl f))) ∧ pLs g (co + 2)
theorem pCs.fr {g g1 : gWM} {co : Nat} (h : pCs g co) (hf : ∀ j, co ≤ j → j < co + 6 → g1 j = g j) : pCs g1 co := by
  obtain ⟨⟨F, h1, h2⟩, ⟨f, h3⟩, h4⟩ := h
  exact ⟨⟨F, (hf _ (by omega) (by omega)).trans h1, h2⟩, ⟨f, (hf _ (by omega) (by omega)).trans h3⟩, h4.fr (fun j a b => hf j (by omega) (by omega))⟩
/-- the results of the first k crossings -/
def pAr (g : gWM) (ca : Nat) (B : gBar) (dr : Bool) (sd k : Nat) : Prop := ∃ f, g ca = some (.inl (0, 6, .inl f)) ∧ ∀ i, i < k → f i = zRs B dr sd i
theorem pAr.fr {g g1 : gWM} {ca : Nat} {B : gBar} {dr : Bool} {sd k : Nat} (h : pAr g ca B dr sd k) (hf : ∀ j, ca ≤ j → j < ca + 1 → g1 j = g j) : pAr g1 ca B dr sd k := by
  obtain ⟨f, h1, h2⟩ := h
  exact ⟨f, (hf _ (by omega) (by omega)).trans h1, h2⟩
def pCx (g : gWM) (n : Nat) (B : gBar) (k : Nat) : Prop := ∃ F, g n = some (.inr (20, F)) ∧ F 0 = .int (nI (B 19 k)) ∧ F 1 = .int (nI (B 20 k)) ∧ F 2 = .int (nI (B 21 k)) ∧ F 3 = .int (nI (B 22 k))
theorem wfB.cross {B : gBar} (h : wfB B) {c : Nat} (hc : c < B 0 4) : B 19 c < B 0 1 ∧ B 20 c < B 0 2 ∧ B 21 c ≤ 60 ∧ B 22 c ≤ 23 := h.2.2.2.2.2.1 c hc
theorem pAr.up {g1 : gWM} {ca : Nat} {B : gBar} {dr : Bool} {sd k : Nat} {f : Nat → Int32} (h2 : ∀ i, i < k → f i = zRs B dr sd i) (h1 : g1 ca = some (.inl (0, 6, .inl (upd f k (zRs B dr sd k))))) : pAr g1 ca B dr sd (k + 1) := by
  refine ⟨_, h1, fun i hi => ?_⟩
  unfold upd
  split
  · rename_i h; rw [h]
  · exact h2 i (by omega)
