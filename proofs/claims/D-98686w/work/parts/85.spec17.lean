/-! THE PLAIN SIDE, seventeenth: what a line tells -/
set_option maxRecDepth 100000
def zXs (B : gBar) : Prop := (∀ k, B 0 0 ≤ k → B 4 k = 0 ∧ B 5 k = 0 ∧ B 6 k = 0) ∧ (∀ j, B 0 3 ≤ j → B 18 j = 0) ∧ B 0 9 ≤ 1
def zNl (B : gBar) (Nm : zNm) : Prop := ∀ s k, s < 4 → k < B 0 s → (Nm s k).length < 1000
/-- what holds while a barrier is told -/
def zPk (n : Nat) (P : zPs) : Prop := zOk n P.1 ∧ wfB P.2.1 ∧ zXs P.2.1 ∧ zNl P.2.1 P.2.2
theorem zBd_inr {α β : Type} {x : zEr α} {f : α → zEr β} {b : β} (h : zBd x f = .inr b) : ∃ a, x = .inr a ∧ f a = .inr b := by
  cases x with
  | inl e => cases h
  | inr a => exact ⟨a, rfl, h⟩
/-- the barrier itself: its numbers are v -/
def pB0 (g : gWM) (bb : Nat) (v : Nat → Nat) : Prop := ∃ F, g bb = some (.inr (11, F)) ∧ F 0 = .ref (bb + 1) ∧ F 1 = .ref (bb + 2) ∧ F 2 = .ref (bb + 3) ∧ F 3 = .ref (bb + 4) ∧ F 4 = .ref (bb + 5) ∧ F 5 = .ref (bb + 6) ∧ F 6 = .ref (bb + 7) ∧ F 7 = .int (nI (v 7)) ∧ F 8 = .int (nI (v 8)) ∧ F 9 = .int (nI (v 0)) ∧ F 10 = .int (nI (v 1)) ∧ F 11 = .int (nI (v 2)) ∧ F 12 = .int (nI (v 3)) ∧ F 13 = .int (nI (v 4)) ∧ F 14 = .int (nI (v 5)) ∧ F 15 = .int (nI (v 6)) ∧ F 16 = .int (nI (v 9))
/-- an array of references: so many, from a base on -/
def pRa (g : gWM) (k t N m : Nat) (base : Nat) : Prop := ∃ f, g k = some (.inl (t, N, .inr (.inr (.inr (.inr f))))) ∧ ∀ i, i < m → f i = some (base + i)
theorem raS {f : Nat → Option Nat} {m base : Nat} (h : ∀ i, i < m → f i = some (base + i)) : ∀ i, i < m + 1 → va_up f m (some (base + m)) i = some (base + i) := by
  intro i hi
  unfold va_up
  split
  · rename_i e; rw [e]
  · exact h i (by omega)
def pLl (g1 g : gWM) (n bb : Nat) (P : zPs) (M : Nat) (T : Nat → Int32) : Prop := ∃ M1 N1, M ≤ M1 ∧ M1 ≤ N1 ∧ pTk g1 n bb P.1 M1 N1 T ∧ pBq g1 bb P.2.1 P.2.2 M1 ∧ pSl g1 bb P.2.1 ∧ ∀ j, (j ≠ 1002 ∧ j ≠ 1004 ∧ j < bb) → g1 j = g j
theorem wfB_B {B : gBar} {a b : Nat} (hw : wfB B) (hx : zXs B) (ha : a ≤ 9) (hb9 : b ≤ 50) : wfB (bs (bs (bs B 0 7 a) 0 8 b) 0 9 1) := by
  obtain ⟨h0, h1, h2, h3, h4, h5, h6⟩ := hw
  refine ⟨?_, fun k hk => ?_, fun k hk => ?_, fun k hk => ?_, fun k hk => ?_, fun k hk => ?_, fun k hk => ?_⟩
  · (try simp [bs]) <;> omega
  · have h9 := h1 k
    have h8 := hx.1 k
    have h7 := hx.2.1 k
    (try simp [bs] at hk)
    (try simp [bs])
    all_goals by_cases hk0 : k = 0
    all_goals (first | (simp only [if_pos hk0]; omega) | (simp only [if_neg hk0]; omega) | omega)
  · have h9 := h2 k
    have h8 := hx.1 k
    have h7 := hx.2.1 k
    (try simp [bs] at hk)
    (try simp [bs])
    all_goals by_cases hk0 : k = 0
    all_goals (first | (simp only [if_pos hk0]; omega) | (simp only [if_neg hk0]; omega) | omega)
  · have h9 := h3 k
    have h8 := hx.1 k
    have h7 := hx.2.1 k
    (try simp [bs] at hk)
    (try simp [bs])
    all_goals by_cases hk0 : k = 0
    all_goals (first | (simp only [if_pos hk0]; omega) | (simp only [if_neg hk0]; omega) | omega)
  · have h9 := h4 k
    have h8 := hx.1 k
    have h7 := hx.2.1 k
    (try simp [bs] at hk)
    (try simp [bs])
    all_goals by_cases hk0 : k = 0
    all_goals (first | (simp only [if_pos hk0]; omega) | (simp only [if_neg hk0]; omega) | omega)
  · have h9 := h5 k
    have h8 := hx.1 k
    have h7 := hx.2.1 k
    (try simp [bs] at hk)
    (try simp [bs])
    all_goals by_cases hk0 : k = 0
    all_goals (first | (simp only [if_pos hk0]; omega) | (simp only [if_neg hk0]; omega) | omega)
  · have h9 := h6 k
    have h8 := hx.1 k
    have h7 := hx.2.1 k
    (try simp [bs] at hk)
    (try simp [bs])
    all_goals by_cases hk0 : k = 0
    all_goals (first | (simp only [if_pos hk0]; omega) | (simp only [if_neg hk0]; omega) | omega)
theorem zXs_B {B : gBar} {a b : Nat} (hw : wfB B) (hx : zXs B) (ha : a ≤ 9) (hb9 : b ≤ 50) : zXs (bs (bs (bs B 0 7 a) 0 8 b) 0 9 1) := by
  obtain ⟨h1, h2, h3⟩ := hx
  refine ⟨fun k hk => ?_, fun k hk => ?_, ?_⟩
  · have h9 := h1 k
    (try simp [bs] at hk)
    (try simp [bs])
    all_goals by_cases hk0 : k = 0
    all_goals (first | (simp only [if_pos hk0]; omega) | (simp only [if_neg hk0]; omega) | omega)
  · have h9 := h2 k
    (try simp [bs] at hk)
    (try simp [bs])
    all_goals by_cases hk0 : k = 0
    all_goals (first | (simp only [if_pos hk0]; omega) | (simp only [if_neg hk0]; omega) | omega)
  · (try simp [bs]) <;> omega
set_option maxHeartbeats 2000000 in
theorem pBq_B {g g1 : gWM} {bb M M1 : Nat} {B : gBar} {Nm : zNm} {a b : Nat} (hw : wfB B) (hx : zXs B) (hQ : pBq g bb B Nm M) (hM : bb + 100 ≤ M) (hMM : M ≤ M1) (ha : a ≤ 9) (hb9 : b ≤ 50) (hb : pB0 g1 bb ((bs (bs (bs B 0 7 a) 0 8 b) 0 9 1) 0)) (hf : ∀ j, bb ≤ j → j < M → j ≠ bb → g1 j = g j) : pBq g1 bb (bs (bs (bs B 0 7 a) 0 8 b) 0 9 1) (Nm) M1 := by
  have hn := hw.1
  have hfz := hf
  obtain ⟨⟨-, ⟨f1, a1, b1⟩, ⟨f2, a2, b2⟩, ⟨f3, a3, b3⟩, ⟨f4, a4, b4⟩, ⟨f5, a5, b5⟩, ⟨f6, a6, b6⟩, ⟨f7, a7, b7⟩, c1, c2, c3, c4, c5⟩, -, hN⟩ := hQ
  obtain ⟨F, p, p0, p1, p2, p3, p4, p5, p6, p7, p8, p9, p10, p11, p12, p13, p14, p15, p16⟩ := hb
  refine ⟨⟨⟨F, p, p0, p1, p2, p3, p4, p5, p6, p7, p8, p9, p10, p11, p12, p13, p14, p15⟩, ⟨f1, (hf _ (by omega) (by omega) (by omega)).trans a1, b1⟩, ⟨f2, (hf _ (by omega) (by omega) (by omega)).trans a2, b2⟩, ⟨f3, (hf _ (by omega) (by omega) (by omega)).trans a3, b3⟩, ⟨f4, (hf _ (by omega) (by omega) (by omega)).trans a4, b4⟩, ⟨f5, (hf _ (by omega) (by omega) (by omega)).trans a5, b5⟩, ⟨f6, (hf _ (by omega) (by omega) (by omega)).trans a6, b6⟩, ⟨f7, (hf _ (by omega) (by omega) (by omega)).trans a7, b7⟩, fun k hk => ?_, fun k hk => ?_, fun k hk => ?_, fun k hk => ?_, fun k hk => ?_⟩, ⟨F, p, p16⟩, ?_⟩
  · have hk : k < B 0 0 := hk
    obtain ⟨F9, e0, e1⟩ := c1 k hk
    exact ⟨F9, (hf _ (by omega) (by omega) (by omega)).trans e0, e1⟩
  · have hk : k < B 0 1 := hk
    obtain ⟨F9, e0, e1⟩ := c2 k hk
    exact ⟨F9, (hf _ (by omega) (by omega) (by omega)).trans e0, e1⟩
  · have hk : k < B 0 2 := hk
    obtain ⟨F9, e0, e1⟩ := c3 k hk
    exact ⟨F9, (hf _ (by omega) (by omega) (by omega)).trans e0, e1⟩
  · have hk : k < B 0 3 := hk
    obtain ⟨F9, e0, e1⟩ := c4 k hk
    exact ⟨F9, (hf _ (by omega) (by omega) (by omega)).trans e0, e1⟩
  · have hk : k < B 0 4 := hk
    obtain ⟨F9, e0, e1⟩ := c5 k hk
    exact ⟨F9, (hf _ (by omega) (by omega) (by omega)).trans e0, e1⟩
  · intro s k hs hk
    rcases (show s = 0 ∨ s = 1 ∨ s = 2 ∨ s = 3 by omega) with rfl | rfl | rfl | rfl
    · have hk : k < B 0 0 := hk
      obtain ⟨F9, s9, e0, e1, e2, e3, e4⟩ := hN 0 k hs hk
      exact ⟨F9, s9, (hf _ (by omega) (by omega) (by omega)).trans e0, e1, e2.fr (fun j x y => hf j (by omega) (by omega) (by omega)), e3, by omega⟩
    · have hk : k < B 0 1 := hk
      obtain ⟨F9, s9, e0, e1, e2, e3, e4⟩ := hN 1 k hs hk
      exact ⟨F9, s9, (hf _ (by omega) (by omega) (by omega)).trans e0, e1, e2.fr (fun j x y => hf j (by omega) (by omega) (by omega)), e3, by omega⟩
    · have hk : k < B 0 2 := hk
      obtain ⟨F9, s9, e0, e1, e2, e3, e4⟩ := hN 2 k hs hk
      exact ⟨F9, s9, (hf _ (by omega) (by omega) (by omega)).trans e0, e1, e2.fr (fun j x y => hf j (by omega) (by omega) (by omega)), e3, by omega⟩
    · have hk : k < B 0 3 := hk
      obtain ⟨F9, s9, e0, e1, e2, e3, e4⟩ := hN 3 k hs hk
      exact ⟨F9, s9, (hf _ (by omega) (by omega) (by omega)).trans e0, e1, e2.fr (fun j x y => hf j (by omega) (by omega) (by omega)), e3, by omega⟩
theorem pSl_B {g g1 : gWM} {bb : Nat} {B : gBar} {a b : Nat} (hw : wfB B) (hS : pSl g bb B) (ha : a ≤ 9) (hb9 : b ≤ 50) (hf : ∀ j, bb ≤ j → j < bb + 100 → j ≠ bb → g1 j = g j) : pSl g1 bb (bs (bs (bs B 0 7 a) 0 8 b) 0 9 1) := by
  have hn := hw.1
  intro k hk
  obtain ⟨a1, a2, a3, a4, a5⟩ := hS k hk
  refine ⟨fun x => ?_, fun x => ?_, fun x => ?_, fun x => ?_, fun x => ?_⟩
  · have x : B 0 0 ≤ k := x
    exact (hf _ (by omega) (by omega) (by omega)).trans (a1 (by omega))
  · have x : B 0 1 ≤ k := x
    exact (hf _ (by omega) (by omega) (by omega)).trans (a2 (by omega))
  · have x : B 0 2 ≤ k := x
    exact (hf _ (by omega) (by omega) (by omega)).trans (a3 (by omega))
  · have x : B 0 3 ≤ k := x
    exact (hf _ (by omega) (by omega) (by omega)).trans (a4 (by omega))
  · have x : B 0 4 ≤ k := x
    exact (hf _ (by omega) (by omega) (by omega)).trans (a5 (by omega))
theorem wfB_M {B : gBar} {a b c : Nat} (hw : wfB B) (hx : zXs B) (hc4 : B 0 0 < 4) (ha : a ≤ 9) (hb9 : b ≤ 9) (hc : c ≤ 300) : wfB (bs (bs (bs (bs B 1 (B 0 0) a) 2 (B 0 0) b) 3 (B 0 0) c) 0 0 (B 0 0 + 1)) := by
  obtain ⟨h0, h1, h2, h3, h4, h5, h6⟩ := hw
  refine ⟨?_, fun k hk => ?_, fun k hk => ?_, fun k hk => ?_, fun k hk => ?_, fun k hk => ?_, fun k hk => ?_⟩
  · (try simp [bs]) <;> omega
  · have h9 := h1 k
    have h8 := hx.1 k
    have h7 := hx.2.1 k
    (try simp [bs] at hk)
    (try simp [bs])
    all_goals by_cases hk0 : k = B 0 0
    all_goals (first | (simp only [if_pos hk0]; omega) | (simp only [if_neg hk0]; omega) | omega)
  · have h9 := h2 k
    have h8 := hx.1 k
    have h7 := hx.2.1 k
    (try simp [bs] at hk)
    (try simp [bs])
    all_goals by_cases hk0 : k = B 0 0
    all_goals (first | (simp only [if_pos hk0]; omega) | (simp only [if_neg hk0]; omega) | omega)
  · have h9 := h3 k
    have h8 := hx.1 k
    have h7 := hx.2.1 k
    (try simp [bs] at hk)
    (try simp [bs])
    all_goals by_cases hk0 : k = B 0 0
    all_goals (first | (simp only [if_pos hk0]; omega) | (simp only [if_neg hk0]; omega) | omega)
  · have h9 := h4 k
    have h8 := hx.1 k
    have h7 := hx.2.1 k
    (try simp [bs] at hk)
    (try simp [bs])
    all_goals by_cases hk0 : k = B 0 0
    all_goals (first | (simp only [if_pos hk0]; omega) | (simp only [if_neg hk0]; omega) | omega)
  · have h9 := h5 k
    have h8 := hx.1 k
    have h7 := hx.2.1 k
    (try simp [bs] at hk)
    (try simp [bs])
    all_goals by_cases hk0 : k = B 0 0
    all_goals (first | (simp only [if_pos hk0]; omega) | (simp only [if_neg hk0]; omega) | omega)
  · have h9 := h6 k
    have h8 := hx.1 k
    have h7 := hx.2.1 k
    (try simp [bs] at hk)
    (try simp [bs])
    all_goals by_cases hk0 : k = B 0 0
    all_goals (first | (simp only [if_pos hk0]; omega) | (simp only [if_neg hk0]; omega) | omega)
theorem zXs_M {B : gBar} {a b c : Nat} (hw : wfB B) (hx : zXs B) (hc4 : B 0 0 < 4) (ha : a ≤ 9) (hb9 : b ≤ 9) (hc : c ≤ 300) : zXs (bs (bs (bs (bs B 1 (B 0 0) a) 2 (B 0 0) b) 3 (B 0 0) c) 0 0 (B 0 0 + 1)) := by
  obtain ⟨h1, h2, h3⟩ := hx
  refine ⟨fun k hk => ?_, fun k hk => ?_, ?_⟩
  · have h9 := h1 k
    (try simp [bs] at hk)
    (try simp [bs])
    all_goals by_cases hk0 : k = B 0 0
    all_goals (first | (simp only [if_pos hk0]; omega) | (simp only [if_neg hk0]; omega) | omega)
  · have h9 := h2 k
    (try simp [bs] at hk)
    (try simp [bs])
    all_goals by_cases hk0 : k = B 0 0
    all_goals (first | (simp only [if_pos hk0]; omega) | (simp only [if_neg hk0]; omega) | omega)
  · (try simp [bs]) <;> omega
set_option maxHeartbeats 2000000 in
theorem pBq_M {g g1 : gWM} {bb M M1 : Nat} {B : gBar} {Nm : zNm} {a b c : Nat} {sw : Nat} {w : List Int32} (hw : wfB B) (hx : zXs B) (hQ : pBq g bb B Nm M) (hM : bb + 100 ≤ M) (hMM : M ≤ M1) (hc4 : B 0 0 < 4) (ha : a ≤ 9) (hb9 : b ≤ 9) (hc : c ≤ 300) (hb : pB0 g1 bb ((bs (bs (bs (bs B 1 (B 0 0) a) 2 (B 0 0) b) 3 (B 0 0) c) 0 0 (B 0 0 + 1)) 0)) (hA : pRa g1 (bb + 1) 5 4 (B 0 0 + 1) (bb + 10)) (hO : ∃ F, g1 (bb + 10 + B 0 0) = some (.inr (12, F)) ∧ F 0 = .ref sw ∧ F 1 = .int (nI (B 0 0)) ∧ F 2 = .int (nI a) ∧ F 3 = .int (nI b) ∧ F 4 = .int (nI c) ∧ F 5 = .int 0 ∧ F 6 = .int 0 ∧ F 7 = .int 0) (hst : pSt g1 sw w) (hs1 : bb + 100 ≤ sw) (hs2 : sw + 2 ≤ M1) (hf : ∀ j, bb ≤ j → j < M → j ≠ bb → j ≠ bb + 1 → j ≠ bb + 10 + B 0 0 → g1 j = g j) : pBq g1 bb (bs (bs (bs (bs B 1 (B 0 0) a) 2 (B 0 0) b) 3 (B 0 0) c) 0 0 (B 0 0 + 1)) (ns Nm 0 (B 0 0) w) M1 := by
  have hn := hw.1
  have hfz := hf
  obtain ⟨⟨-, ⟨f1, a1, b1⟩, ⟨f2, a2, b2⟩, ⟨f3, a3, b3⟩, ⟨f4, a4, b4⟩, ⟨f5, a5, b5⟩, ⟨f6, a6, b6⟩, ⟨f7, a7, b7⟩, c1, c2, c3, c4, c5⟩, -, hN⟩ := hQ
  obtain ⟨F, p, p0, p1, p2, p3, p4, p5, p6, p7, p8, p9, p10, p11, p12, p13, p14, p15, p16⟩ := hb
  obtain ⟨fA, A1, A2⟩ := hA
  obtain ⟨Fo, o0, o1, o2, o3, o4, o5, o6, o7, o8⟩ := hO
  refine ⟨⟨⟨F, p, p0, p1, p2, p3, p4, p5, p6, p7, p8, p9, p10, p11, p12, p13, p14, p15⟩, ⟨fA, A1, A2⟩, ⟨f2, (hf _ (by omega) (by omega) (by omega) (by omega) (by omega)).trans a2, b2⟩, ⟨f3, (hf _ (by omega) (by omega) (by omega) (by omega) (by omega)).trans a3, b3⟩, ⟨f4, (hf _ (by omega) (by omega) (by omega) (by omega) (by omega)).trans a4, b4⟩, ⟨f5, (hf _ (by omega) (by omega) (by omega) (by omega) (by omega)).trans a5, b5⟩, ⟨f6, (hf _ (by omega) (by omega) (by omega) (by omega) (by omega)).trans a6, b6⟩, ⟨f7, (hf _ (by omega) (by omega) (by omega) (by omega) (by omega)).trans a7, b7⟩, fun k hk => ?_, fun k hk => ?_, fun k hk => ?_, fun k hk => ?_, fun k hk => ?_⟩, ⟨F, p, p16⟩, ?_⟩
  · by_cases hk0 : k = B 0 0
    · subst hk0
      exact ⟨Fo, o0, o2, by simp [bs, o3], by simp [bs, o4], by simp [bs, o5], by rw [o6]; simp [bs, (hx.1 _ (Nat.le_refl _)).1]; rfl, by rw [o7]; simp [bs, (hx.1 _ (Nat.le_refl _)).2.1]; rfl, by rw [o8]; simp [bs, (hx.1 _ (Nat.le_refl _)).2.2]; rfl⟩
    · have hk : k < B 0 0 + 1 := hk
      obtain ⟨F9, e0, e1, e2, e3, e4, e5, e6, e7⟩ := c1 k (by omega)
      exact ⟨F9, (hf _ (by omega) (by omega) (by omega) (by omega) (by omega)).trans e0, e1, by simp [bs, hk0, e2], by simp [bs, hk0, e3], by simp [bs, hk0, e4], by simp [bs, hk0, e5], by simp [bs, hk0, e6], by simp [bs, hk0, e7]⟩
  · have hk : k < B 0 1 := hk
    obtain ⟨F9, e0, e1⟩ := c2 k hk
    exact ⟨F9, (hf _ (by omega) (by omega) (by omega) (by omega) (by omega)).trans e0, e1⟩
  · have hk : k < B 0 2 := hk
    obtain ⟨F9, e0, e1⟩ := c3 k hk
    exact ⟨F9, (hf _ (by omega) (by omega) (by omega) (by omega) (by omega)).trans e0, e1⟩
  · have hk : k < B 0 3 := hk
    obtain ⟨F9, e0, e1⟩ := c4 k hk
    exact ⟨F9, (hf _ (by omega) (by omega) (by omega) (by omega) (by omega)).trans e0, e1⟩
  · have hk : k < B 0 4 := hk
    obtain ⟨F9, e0, e1⟩ := c5 k hk
    exact ⟨F9, (hf _ (by omega) (by omega) (by omega) (by omega) (by omega)).trans e0, e1⟩
  · intro s k hs hk
    rcases (show s = 0 ∨ s = 1 ∨ s = 2 ∨ s = 3 by omega) with rfl | rfl | rfl | rfl
    · by_cases hk0 : k = B 0 0
      · subst hk0
        exact ⟨Fo, sw, o0, o1, by simpa [ns] using hst, hs1, hs2⟩
      · have hk : k < B 0 0 + 1 := hk
        obtain ⟨F9, s9, e0, e1, e2, e3, e4⟩ := hN 0 k hs (by omega)
        exact ⟨F9, s9, (hf _ (by omega) (by omega) (by omega) (by omega) (by omega)).trans e0, e1, by simpa [ns, hk0] using e2.fr (fun j x y => hf j (by omega) (by omega) (by omega) (by omega) (by omega)), e3, by omega⟩
    · have hk : k < B 0 1 := hk
      obtain ⟨F9, s9, e0, e1, e2, e3, e4⟩ := hN 1 k hs hk
      exact ⟨F9, s9, (hf _ (by omega) (by omega) (by omega) (by omega) (by omega)).trans e0, e1, by simpa [ns] using e2.fr (fun j x y => hf j (by omega) (by omega) (by omega) (by omega) (by omega)), e3, by omega⟩
    · have hk : k < B 0 2 := hk
      obtain ⟨F9, s9, e0, e1, e2, e3, e4⟩ := hN 2 k hs hk
      exact ⟨F9, s9, (hf _ (by omega) (by omega) (by omega) (by omega) (by omega)).trans e0, e1, by simpa [ns] using e2.fr (fun j x y => hf j (by omega) (by omega) (by omega) (by omega) (by omega)), e3, by omega⟩
    · have hk : k < B 0 3 := hk
      obtain ⟨F9, s9, e0, e1, e2, e3, e4⟩ := hN 3 k hs hk
      exact ⟨F9, s9, (hf _ (by omega) (by omega) (by omega) (by omega) (by omega)).trans e0, e1, by simpa [ns] using e2.fr (fun j x y => hf j (by omega) (by omega) (by omega) (by omega) (by omega)), e3, by omega⟩
theorem pSl_M {g g1 : gWM} {bb : Nat} {B : gBar} {a b c : Nat} (hw : wfB B) (hS : pSl g bb B) (hc4 : B 0 0 < 4) (ha : a ≤ 9) (hb9 : b ≤ 9) (hc : c ≤ 300) (hf : ∀ j, bb ≤ j → j < bb + 100 → j ≠ bb → j ≠ bb + 1 → j ≠ bb + 10 + B 0 0 → g1 j = g j) : pSl g1 bb (bs (bs (bs (bs B 1 (B 0 0) a) 2 (B 0 0) b) 3 (B 0 0) c) 0 0 (B 0 0 + 1)) := by
  have hn := hw.1
  intro k hk
  obtain ⟨a1, a2, a3, a4, a5⟩ := hS k hk
  refine ⟨fun x => ?_, fun x => ?_, fun x => ?_, fun x => ?_, fun x => ?_⟩
  · have x : B 0 0 + 1 ≤ k := x
    exact (hf _ (by omega) (by omega) (by omega) (by omega) (by omega)).trans (a1 (by omega))
  · have x : B 0 1 ≤ k := x
    exact (hf _ (by omega) (by omega) (by omega) (by omega) (by omega)).trans (a2 (by omega))
  · have x : B 0 2 ≤ k := x
    exact (hf _ (by omega) (by omega) (by omega) (by omega) (by omega)).trans (a3 (by omega))
  · have x : B 0 3 ≤ k := x
    exact (hf _ (by omega) (by omega) (by omega) (by omega) (by omega)).trans (a4 (by omega))
  · have x : B 0 4 ≤ k := x
    exact (hf _ (by omega) (by omega) (by omega) (by omega) (by omega)).trans (a5 (by omega))
theorem wfB_T {B : gBar} {a b : Nat} (hw : wfB B) (hx : zXs B) (hc4 : B 0 1 < 4) (ha : a ≤ 99) (hb9 : b ≤ 3) : wfB (bs (bs (bs B 7 (B 0 1) a) 8 (B 0 1) b) 0 1 (B 0 1 + 1)) := by
  obtain ⟨h0, h1, h2, h3, h4, h5, h6⟩ := hw
  refine ⟨?_, fun k hk => ?_, fun k hk => ?_, fun k hk => ?_, fun k hk => ?_, fun k hk => ?_, fun k hk => ?_⟩
  · (try simp [bs]) <;> omega
  · have h9 := h1 k
    have h8 := hx.1 k
    have h7 := hx.2.1 k
    (try simp [bs] at hk)
    (try simp [bs])
    all_goals by_cases hk0 : k = B 0 1
    all_goals (first | (simp only [if_pos hk0]; omega) | (simp only [if_neg hk0]; omega) | omega)
  · have h9 := h2 k
    have h8 := hx.1 k
    have h7 := hx.2.1 k
    (try simp [bs] at hk)
    (try simp [bs])
    all_goals by_cases hk0 : k = B 0 1
    all_goals (first | (simp only [if_pos hk0]; omega) | (simp only [if_neg hk0]; omega) | omega)
  · have h9 := h3 k
    have h8 := hx.1 k
    have h7 := hx.2.1 k
    (try simp [bs] at hk)
    (try simp [bs])
    all_goals by_cases hk0 : k = B 0 1
    all_goals (first | (simp only [if_pos hk0]; omega) | (simp only [if_neg hk0]; omega) | omega)
  · have h9 := h4 k
    have h8 := hx.1 k
    have h7 := hx.2.1 k
    (try simp [bs] at hk)
    (try simp [bs])
    all_goals by_cases hk0 : k = B 0 1
    all_goals (first | (simp only [if_pos hk0]; omega) | (simp only [if_neg hk0]; omega) | omega)
  · have h9 := h5 k
    have h8 := hx.1 k
    have h7 := hx.2.1 k
    (try simp [bs] at hk)
    (try simp [bs])
    all_goals by_cases hk0 : k = B 0 1
    all_goals (first | (simp only [if_pos hk0]; omega) | (simp only [if_neg hk0]; omega) | omega)
  · have h9 := h6 k
    have h8 := hx.1 k
    have h7 := hx.2.1 k
    (try simp [bs] at hk)
    (try simp [bs])
    all_goals by_cases hk0 : k = B 0 1
    all_goals (first | (simp only [if_pos hk0]; omega) | (simp only [if_neg hk0]; omega) | omega)
theorem zXs_T {B : gBar} {a b : Nat} (hw : wfB B) (hx : zXs B) (hc4 : B 0 1 < 4) (ha : a ≤ 99) (hb9 : b ≤ 3) : zXs (bs (bs (bs B 7 (B 0 1) a) 8 (B 0 1) b) 0 1 (B 0 1 + 1)) := by
  obtain ⟨h1, h2, h3⟩ := hx
  refine ⟨fun k hk => ?_, fun k hk => ?_, ?_⟩
  · have h9 := h1 k
    (try simp [bs] at hk)
    (try simp [bs])
    all_goals by_cases hk0 : k = B 0 1
    all_goals (first | (simp only [if_pos hk0]; omega) | (simp only [if_neg hk0]; omega) | omega)
  · have h9 := h2 k
    (try simp [bs] at hk)
    (try simp [bs])
    all_goals by_cases hk0 : k = B 0 1
    all_goals (first | (simp only [if_pos hk0]; omega) | (simp only [if_neg hk0]; omega) | omega)
  · (try simp [bs]) <;> omega
set_option maxHeartbeats 2000000 in
theorem pBq_T {g g1 : gWM} {bb M M1 : Nat} {B : gBar} {Nm : zNm} {a b : Nat} {sw : Nat} {w : List Int32} (hw : wfB B) (hx : zXs B) (hQ : pBq g bb B Nm M) (hM : bb + 100 ≤ M) (hMM : M ≤ M1) (hc4 : B 0 1 < 4) (ha : a ≤ 99) (hb9 : b ≤ 3) (hb : pB0 g1 bb ((bs (bs (bs B 7 (B 0 1) a) 8 (B 0 1) b) 0 1 (B 0 1 + 1)) 0)) (hA : pRa g1 (bb + 2) 6 4 (B 0 1 + 1) (bb + 20)) (hO : ∃ F, g1 (bb + 20 + B 0 1) = some (.inr (13, F)) ∧ F 0 = .ref sw ∧ F 1 = .int (nI (B 0 1)) ∧ F 2 = .int (nI a) ∧ F 3 = .int (nI b)) (hst : pSt g1 sw w) (hs1 : bb + 100 ≤ sw) (hs2 : sw + 2 ≤ M1) (hf : ∀ j, bb ≤ j → j < M → j ≠ bb → j ≠ bb + 2 → j ≠ bb + 20 + B 0 1 → g1 j = g j) : pBq g1 bb (bs (bs (bs B 7 (B 0 1) a) 8 (B 0 1) b) 0 1 (B 0 1 + 1)) (ns Nm 1 (B 0 1) w) M1 := by
  have hn := hw.1
  have hfz := hf
  obtain ⟨⟨-, ⟨f1, a1, b1⟩, ⟨f2, a2, b2⟩, ⟨f3, a3, b3⟩, ⟨f4, a4, b4⟩, ⟨f5, a5, b5⟩, ⟨f6, a6, b6⟩, ⟨f7, a7, b7⟩, c1, c2, c3, c4, c5⟩, -, hN⟩ := hQ
  obtain ⟨F, p, p0, p1, p2, p3, p4, p5, p6, p7, p8, p9, p10, p11, p12, p13, p14, p15, p16⟩ := hb
  obtain ⟨fA, A1, A2⟩ := hA
  obtain ⟨Fo, o0, o1, o2, o3, o4⟩ := hO
  refine ⟨⟨⟨F, p, p0, p1, p2, p3, p4, p5, p6, p7, p8, p9, p10, p11, p12, p13, p14, p15⟩, ⟨f1, (hf _ (by omega) (by omega) (by omega) (by omega) (by omega)).trans a1, b1⟩, ⟨fA, A1, A2⟩, ⟨f3, (hf _ (by omega) (by omega) (by omega) (by omega) (by omega)).trans a3, b3⟩, ⟨f4, (hf _ (by omega) (by omega) (by omega) (by omega) (by omega)).trans a4, b4⟩, ⟨f5, (hf _ (by omega) (by omega) (by omega) (by omega) (by omega)).trans a5, b5⟩, ⟨f6, (hf _ (by omega) (by omega) (by omega) (by omega) (by omega)).trans a6, b6⟩, ⟨f7, (hf _ (by omega) (by omega) (by omega) (by omega) (by omega)).trans a7, b7⟩, fun k hk => ?_, fun k hk => ?_, fun k hk => ?_, fun k hk => ?_, fun k hk => ?_⟩, ⟨F, p, p16⟩, ?_⟩
  · have hk : k < B 0 0 := hk
    obtain ⟨F9, e0, e1⟩ := c1 k hk
    exact ⟨F9, (hf _ (by omega) (by omega) (by omega) (by omega) (by omega)).trans e0, e1⟩
  · by_cases hk0 : k = B 0 1
    · subst hk0
      exact ⟨Fo, o0, o2, by simp [bs, o3], by simp [bs, o4]⟩
    · have hk : k < B 0 1 + 1 := hk
      obtain ⟨F9, e0, e1, e2, e3⟩ := c2 k (by omega)
      exact ⟨F9, (hf _ (by omega) (by omega) (by omega) (by omega) (by omega)).trans e0, e1, by simp [bs, hk0, e2], by simp [bs, hk0, e3]⟩
  · have hk : k < B 0 2 := hk
    obtain ⟨F9, e0, e1⟩ := c3 k hk
    exact ⟨F9, (hf _ (by omega) (by omega) (by omega) (by omega) (by omega)).trans e0, e1⟩
  · have hk : k < B 0 3 := hk
    obtain ⟨F9, e0, e1⟩ := c4 k hk
    exact ⟨F9, (hf _ (by omega) (by omega) (by omega) (by omega) (by omega)).trans e0, e1⟩
  · have hk : k < B 0 4 := hk
    obtain ⟨F9, e0, e1⟩ := c5 k hk
    exact ⟨F9, (hf _ (by omega) (by omega) (by omega) (by omega) (by omega)).trans e0, e1⟩
  · intro s k hs hk
    rcases (show s = 0 ∨ s = 1 ∨ s = 2 ∨ s = 3 by omega) with rfl | rfl | rfl | rfl
    · have hk : k < B 0 0 := hk
      obtain ⟨F9, s9, e0, e1, e2, e3, e4⟩ := hN 0 k hs hk
      exact ⟨F9, s9, (hf _ (by omega) (by omega) (by omega) (by omega) (by omega)).trans e0, e1, by simpa [ns] using e2.fr (fun j x y => hf j (by omega) (by omega) (by omega) (by omega) (by omega)), e3, by omega⟩
    · by_cases hk0 : k = B 0 1
      · subst hk0
        exact ⟨Fo, sw, o0, o1, by simpa [ns] using hst, hs1, hs2⟩
      · have hk : k < B 0 1 + 1 := hk
        obtain ⟨F9, s9, e0, e1, e2, e3, e4⟩ := hN 1 k hs (by omega)
        exact ⟨F9, s9, (hf _ (by omega) (by omega) (by omega) (by omega) (by omega)).trans e0, e1, by simpa [ns, hk0] using e2.fr (fun j x y => hf j (by omega) (by omega) (by omega) (by omega) (by omega)), e3, by omega⟩
    · have hk : k < B 0 2 := hk
      obtain ⟨F9, s9, e0, e1, e2, e3, e4⟩ := hN 2 k hs hk
      exact ⟨F9, s9, (hf _ (by omega) (by omega) (by omega) (by omega) (by omega)).trans e0, e1, by simpa [ns] using e2.fr (fun j x y => hf j (by omega) (by omega) (by omega) (by omega) (by omega)), e3, by omega⟩
    · have hk : k < B 0 3 := hk
      obtain ⟨F9, s9, e0, e1, e2, e3, e4⟩ := hN 3 k hs hk
      exact ⟨F9, s9, (hf _ (by omega) (by omega) (by omega) (by omega) (by omega)).trans e0, e1, by simpa [ns] using e2.fr (fun j x y => hf j (by omega) (by omega) (by omega) (by omega) (by omega)), e3, by omega⟩
theorem pSl_T {g g1 : gWM} {bb : Nat} {B : gBar} {a b : Nat} (hw : wfB B) (hS : pSl g bb B) (hc4 : B 0 1 < 4) (ha : a ≤ 99) (hb9 : b ≤ 3) (hf : ∀ j, bb ≤ j → j < bb + 100 → j ≠ bb → j ≠ bb + 2 → j ≠ bb + 20 + B 0 1 → g1 j = g j) : pSl g1 bb (bs (bs (bs B 7 (B 0 1) a) 8 (B 0 1) b) 0 1 (B 0 1 + 1)) := by
  have hn := hw.1
  intro k hk
  obtain ⟨a1, a2, a3, a4, a5⟩ := hS k hk
  refine ⟨fun x => ?_, fun x => ?_, fun x => ?_, fun x => ?_, fun x => ?_⟩
  · have x : B 0 0 ≤ k := x
    exact (hf _ (by omega) (by omega) (by omega) (by omega) (by omega)).trans (a1 (by omega))
  · have x : B 0 1 + 1 ≤ k := x
    exact (hf _ (by omega) (by omega) (by omega) (by omega) (by omega)).trans (a2 (by omega))
  · have x : B 0 2 ≤ k := x
    exact (hf _ (by omega) (by omega) (by omega) (by omega) (by omega)).trans (a3 (by omega))
  · have x : B 0 3 ≤ k := x
    exact (hf _ (by omega) (by omega) (by omega) (by omega) (by omega)).trans (a4 (by omega))
  · have x : B 0 4 ≤ k := x
    exact (hf _ (by omega) (by omega) (by omega) (by omega) (by omega)).trans (a5 (by omega))
theorem wfB_G {B : gBar} {a b c : Nat} (hw : wfB B) (hx : zXs B) (hc4 : B 0 2 < 3) (ha1 : 1 ≤ a) (ha : a ≤ 99) (hb9 : b ≤ 23) (hc : c ≤ 23) : wfB (bs (bs (bs (bs B 9 (B 0 2) a) 10 (B 0 2) b) 11 (B 0 2) c) 0 2 (B 0 2 + 1)) := by
  obtain ⟨h0, h1, h2, h3, h4, h5, h6⟩ := hw
  refine ⟨?_, fun k hk => ?_, fun k hk => ?_, fun k hk => ?_, fun k hk => ?_, fun k hk => ?_, fun k hk => ?_⟩
  · (try simp [bs]) <;> omega
  · have h9 := h1 k
    have h8 := hx.1 k
    have h7 := hx.2.1 k
    (try simp [bs] at hk)
    (try simp [bs])
    all_goals by_cases hk0 : k = B 0 2
    all_goals (first | (simp only [if_pos hk0]; omega) | (simp only [if_neg hk0]; omega) | omega)
  · have h9 := h2 k
    have h8 := hx.1 k
    have h7 := hx.2.1 k
    (try simp [bs] at hk)
    (try simp [bs])
    all_goals by_cases hk0 : k = B 0 2
    all_goals (first | (simp only [if_pos hk0]; omega) | (simp only [if_neg hk0]; omega) | omega)
  · have h9 := h3 k
    have h8 := hx.1 k
    have h7 := hx.2.1 k
    (try simp [bs] at hk)
    (try simp [bs])
    all_goals by_cases hk0 : k = B 0 2
    all_goals (first | (simp only [if_pos hk0]; omega) | (simp only [if_neg hk0]; omega) | omega)
  · have h9 := h4 k
    have h8 := hx.1 k
    have h7 := hx.2.1 k
    (try simp [bs] at hk)
    (try simp [bs])
    all_goals by_cases hk0 : k = B 0 2
    all_goals (first | (simp only [if_pos hk0]; omega) | (simp only [if_neg hk0]; omega) | omega)
  · have h9 := h5 k
    have h8 := hx.1 k
    have h7 := hx.2.1 k
    (try simp [bs] at hk)
    (try simp [bs])
    all_goals by_cases hk0 : k = B 0 2
    all_goals (first | (simp only [if_pos hk0]; omega) | (simp only [if_neg hk0]; omega) | omega)
  · have h9 := h6 k
    have h8 := hx.1 k
    have h7 := hx.2.1 k
    (try simp [bs] at hk)
    (try simp [bs])
    all_goals by_cases hk0 : k = B 0 2
    all_goals (first | (simp only [if_pos hk0]; omega) | (simp only [if_neg hk0]; omega) | omega)
theorem zXs_G {B : gBar} {a b c : Nat} (hw : wfB B) (hx : zXs B) (hc4 : B 0 2 < 3) (ha1 : 1 ≤ a) (ha : a ≤ 99) (hb9 : b ≤ 23) (hc : c ≤ 23) : zXs (bs (bs (bs (bs B 9 (B 0 2) a) 10 (B 0 2) b) 11 (B 0 2) c) 0 2 (B 0 2 + 1)) := by
  obtain ⟨h1, h2, h3⟩ := hx
  refine ⟨fun k hk => ?_, fun k hk => ?_, ?_⟩
  · have h9 := h1 k
    (try simp [bs] at hk)
    (try simp [bs])
    all_goals by_cases hk0 : k = B 0 2
    all_goals (first | (simp only [if_pos hk0]; omega) | (simp only [if_neg hk0]; omega) | omega)
  · have h9 := h2 k
    (try simp [bs] at hk)
    (try simp [bs])
    all_goals by_cases hk0 : k = B 0 2
    all_goals (first | (simp only [if_pos hk0]; omega) | (simp only [if_neg hk0]; omega) | omega)
  · (try simp [bs]) <;> omega
set_option maxHeartbeats 2000000 in
theorem pBq_G {g g1 : gWM} {bb M M1 : Nat} {B : gBar} {Nm : zNm} {a b c : Nat} {sw : Nat} {w : List Int32} (hw : wfB B) (hx : zXs B) (hQ : pBq g bb B Nm M) (hM : bb + 100 ≤ M) (hMM : M ≤ M1) (hc4 : B 0 2 < 3) (ha1 : 1 ≤ a) (ha : a ≤ 99) (hb9 : b ≤ 23) (hc : c ≤ 23) (hb : pB0 g1 bb ((bs (bs (bs (bs B 9 (B 0 2) a) 10 (B 0 2) b) 11 (B 0 2) c) 0 2 (B 0 2 + 1)) 0)) (hA : pRa g1 (bb + 3) 7 3 (B 0 2 + 1) (bb + 30)) (hO : ∃ F, g1 (bb + 30 + B 0 2) = some (.inr (14, F)) ∧ F 0 = .ref sw ∧ F 1 = .int (nI (B 0 2)) ∧ F 2 = .int (nI a) ∧ F 3 = .int (nI b) ∧ F 4 = .int (nI c)) (hst : pSt g1 sw w) (hs1 : bb + 100 ≤ sw) (hs2 : sw + 2 ≤ M1) (hf : ∀ j, bb ≤ j → j < M → j ≠ bb → j ≠ bb + 3 → j ≠ bb + 30 + B 0 2 → g1 j = g j) : pBq g1 bb (bs (bs (bs (bs B 9 (B 0 2) a) 10 (B 0 2) b) 11 (B 0 2) c) 0 2 (B 0 2 + 1)) (ns Nm 2 (B 0 2) w) M1 := by
  have hn := hw.1
  have hfz := hf
  obtain ⟨⟨-, ⟨f1, a1, b1⟩, ⟨f2, a2, b2⟩, ⟨f3, a3, b3⟩, ⟨f4, a4, b4⟩, ⟨f5, a5, b5⟩, ⟨f6, a6, b6⟩, ⟨f7, a7, b7⟩, c1, c2, c3, c4, c5⟩, -, hN⟩ := hQ
  obtain ⟨F, p, p0, p1, p2, p3, p4, p5, p6, p7, p8, p9, p10, p11, p12, p13, p14, p15, p16⟩ := hb
  obtain ⟨fA, A1, A2⟩ := hA
  obtain ⟨Fo, o0, o1, o2, o3, o4, o5⟩ := hO
  refine ⟨⟨⟨F, p, p0, p1, p2, p3, p4, p5, p6, p7, p8, p9, p10, p11, p12, p13, p14, p15⟩, ⟨f1, (hf _ (by omega) (by omega) (by omega) (by omega) (by omega)).trans a1, b1⟩, ⟨f2, (hf _ (by omega) (by omega) (by omega) (by omega) (by omega)).trans a2, b2⟩, ⟨fA, A1, A2⟩, ⟨f4, (hf _ (by omega) (by omega) (by omega) (by omega) (by omega)).trans a4, b4⟩, ⟨f5, (hf _ (by omega) (by omega) (by omega) (by omega) (by omega)).trans a5, b5⟩, ⟨f6, (hf _ (by omega) (by omega) (by omega) (by omega) (by omega)).trans a6, b6⟩, ⟨f7, (hf _ (by omega) (by omega) (by omega) (by omega) (by omega)).trans a7, b7⟩, fun k hk => ?_, fun k hk => ?_, fun k hk => ?_, fun k hk => ?_, fun k hk => ?_⟩, ⟨F, p, p16⟩, ?_⟩
  · have hk : k < B 0 0 := hk
    obtain ⟨F9, e0, e1⟩ := c1 k hk
    exact ⟨F9, (hf _ (by omega) (by omega) (by omega) (by omega) (by omega)).trans e0, e1⟩
  · have hk : k < B 0 1 := hk
    obtain ⟨F9, e0, e1⟩ := c2 k hk
    exact ⟨F9, (hf _ (by omega) (by omega) (by omega) (by omega) (by omega)).trans e0, e1⟩
  · by_cases hk0 : k = B 0 2
    · subst hk0
      exact ⟨Fo, o0, o2, by simp [bs, o3], by simp [bs, o4], by simp [bs, o5]⟩
    · have hk : k < B 0 2 + 1 := hk
      obtain ⟨F9, e0, e1, e2, e3, e4⟩ := c3 k (by omega)
      exact ⟨F9, (hf _ (by omega) (by omega) (by omega) (by omega) (by omega)).trans e0, e1, by simp [bs, hk0, e2], by simp [bs, hk0, e3], by simp [bs, hk0, e4]⟩
  · have hk : k < B 0 3 := hk
    obtain ⟨F9, e0, e1⟩ := c4 k hk
    exact ⟨F9, (hf _ (by omega) (by omega) (by omega) (by omega) (by omega)).trans e0, e1⟩
  · have hk : k < B 0 4 := hk
    obtain ⟨F9, e0, e1⟩ := c5 k hk
    exact ⟨F9, (hf _ (by omega) (by omega) (by omega) (by omega) (by omega)).trans e0, e1⟩
  · intro s k hs hk
    rcases (show s = 0 ∨ s = 1 ∨ s = 2 ∨ s = 3 by omega) with rfl | rfl | rfl | rfl
    · have hk : k < B 0 0 := hk
      obtain ⟨F9, s9, e0, e1, e2, e3, e4⟩ := hN 0 k hs hk
      exact ⟨F9, s9, (hf _ (by omega) (by omega) (by omega) (by omega) (by omega)).trans e0, e1, by simpa [ns] using e2.fr (fun j x y => hf j (by omega) (by omega) (by omega) (by omega) (by omega)), e3, by omega⟩
    · have hk : k < B 0 1 := hk
      obtain ⟨F9, s9, e0, e1, e2, e3, e4⟩ := hN 1 k hs hk
      exact ⟨F9, s9, (hf _ (by omega) (by omega) (by omega) (by omega) (by omega)).trans e0, e1, by simpa [ns] using e2.fr (fun j x y => hf j (by omega) (by omega) (by omega) (by omega) (by omega)), e3, by omega⟩
    · by_cases hk0 : k = B 0 2
      · subst hk0
        exact ⟨Fo, sw, o0, o1, by simpa [ns] using hst, hs1, hs2⟩
      · have hk : k < B 0 2 + 1 := hk
        obtain ⟨F9, s9, e0, e1, e2, e3, e4⟩ := hN 2 k hs (by omega)
        exact ⟨F9, s9, (hf _ (by omega) (by omega) (by omega) (by omega) (by omega)).trans e0, e1, by simpa [ns, hk0] using e2.fr (fun j x y => hf j (by omega) (by omega) (by omega) (by omega) (by omega)), e3, by omega⟩
    · have hk : k < B 0 3 := hk
      obtain ⟨F9, s9, e0, e1, e2, e3, e4⟩ := hN 3 k hs hk
      exact ⟨F9, s9, (hf _ (by omega) (by omega) (by omega) (by omega) (by omega)).trans e0, e1, by simpa [ns] using e2.fr (fun j x y => hf j (by omega) (by omega) (by omega) (by omega) (by omega)), e3, by omega⟩
theorem pSl_G {g g1 : gWM} {bb : Nat} {B : gBar} {a b c : Nat} (hw : wfB B) (hS : pSl g bb B) (hc4 : B 0 2 < 3) (ha1 : 1 ≤ a) (ha : a ≤ 99) (hb9 : b ≤ 23) (hc : c ≤ 23) (hf : ∀ j, bb ≤ j → j < bb + 100 → j ≠ bb → j ≠ bb + 3 → j ≠ bb + 30 + B 0 2 → g1 j = g j) : pSl g1 bb (bs (bs (bs (bs B 9 (B 0 2) a) 10 (B 0 2) b) 11 (B 0 2) c) 0 2 (B 0 2 + 1)) := by
  have hn := hw.1
  intro k hk
  obtain ⟨a1, a2, a3, a4, a5⟩ := hS k hk
  refine ⟨fun x => ?_, fun x => ?_, fun x => ?_, fun x => ?_, fun x => ?_⟩
  · have x : B 0 0 ≤ k := x
    exact (hf _ (by omega) (by omega) (by omega) (by omega) (by omega)).trans (a1 (by omega))
  · have x : B 0 1 ≤ k := x
    exact (hf _ (by omega) (by omega) (by omega) (by omega) (by omega)).trans (a2 (by omega))
  · have x : B 0 2 + 1 ≤ k := x
    exact (hf _ (by omega) (by omega) (by omega) (by omega) (by omega)).trans (a3 (by omega))
  · have x : B 0 3 ≤ k := x
    exact (hf _ (by omega) (by omega) (by omega) (by omega) (by omega)).trans (a4 (by omega))
  · have x : B 0 4 ≤ k := x
    exact (hf _ (by omega) (by omega) (by omega) (by omega) (by omega)).trans (a5 (by omega))
theorem wfB_O {B : gBar} {kd o9 mi a b c : Nat} (hw : wfB B) (hx : zXs B) (hc4 : B 0 3 < 8) (hkd : kd ≤ 4) (ho9 : o9 < B 0 1) (hmi : kd ≠ 0 → mi < B 0 0) (ha : a ≤ 300) (hb9 : b ≤ 9) (hc : c ≤ 99) : wfB (bs (bs (bs (bs (bs (bs (bs B 12 (B 0 3) kd) 14 (B 0 3) o9) 13 (B 0 3) mi) 15 (B 0 3) a) 16 (B 0 3) b) 17 (B 0 3) c) 0 3 (B 0 3 + 1)) := by
  obtain ⟨h0, h1, h2, h3, h4, h5, h6⟩ := hw
  refine ⟨?_, fun k hk => ?_, fun k hk => ?_, fun k hk => ?_, fun k hk => ?_, fun k hk => ?_, fun k hk => ?_⟩
  · (try simp [bs]) <;> omega
  · have h9 := h1 k
    have h8 := hx.1 k
    have h7 := hx.2.1 k
    (try simp [bs] at hk)
    (try simp [bs])
    all_goals by_cases hk0 : k = B 0 3
    all_goals (first | (simp only [if_pos hk0]; omega) | (simp only [if_neg hk0]; omega) | omega)
  · have h9 := h2 k
    have h8 := hx.1 k
    have h7 := hx.2.1 k
    (try simp [bs] at hk)
    (try simp [bs])
    all_goals by_cases hk0 : k = B 0 3
    all_goals (first | (simp only [if_pos hk0]; omega) | (simp only [if_neg hk0]; omega) | omega)
  · have h9 := h3 k
    have h8 := hx.1 k
    have h7 := hx.2.1 k
    (try simp [bs] at hk)
    (try simp [bs])
    all_goals by_cases hk0 : k = B 0 3
    all_goals (first | (simp only [if_pos hk0]; omega) | (simp only [if_neg hk0]; omega) | omega)
  · have h9 := h4 k
    have h8 := hx.1 k
    have h7 := hx.2.1 k
    (try simp [bs] at hk)
    (try simp [bs])
    all_goals by_cases hk0 : k = B 0 3
    all_goals (first | (simp only [if_pos hk0]; omega) | (simp only [if_neg hk0]; omega) | omega)
  · have h9 := h5 k
    have h8 := hx.1 k
    have h7 := hx.2.1 k
    (try simp [bs] at hk)
    (try simp [bs])
    all_goals by_cases hk0 : k = B 0 3
    all_goals (first | (simp only [if_pos hk0]; omega) | (simp only [if_neg hk0]; omega) | omega)
  · have h9 := h6 k
    have h8 := hx.1 k
    have h7 := hx.2.1 k
    (try simp [bs] at hk)
    (try simp [bs])
    all_goals by_cases hk0 : k = B 0 3
    all_goals (first | (simp only [if_pos hk0]; omega) | (simp only [if_neg hk0]; omega) | omega)
theorem zXs_O {B : gBar} {kd o9 mi a b c : Nat} (hw : wfB B) (hx : zXs B) (hc4 : B 0 3 < 8) (hkd : kd ≤ 4) (ho9 : o9 < B 0 1) (hmi : kd ≠ 0 → mi < B 0 0) (ha : a ≤ 300) (hb9 : b ≤ 9) (hc : c ≤ 99) : zXs (bs (bs (bs (bs (bs (bs (bs B 12 (B 0 3) kd) 14 (B 0 3) o9) 13 (B 0 3) mi) 15 (B 0 3) a) 16 (B 0 3) b) 17 (B 0 3) c) 0 3 (B 0 3 + 1)) := by
  obtain ⟨h1, h2, h3⟩ := hx
  refine ⟨fun k hk => ?_, fun k hk => ?_, ?_⟩
  · have h9 := h1 k
    (try simp [bs] at hk)
    (try simp [bs])
    all_goals by_cases hk0 : k = B 0 3
    all_goals (first | (simp only [if_pos hk0]; omega) | (simp only [if_neg hk0]; omega) | omega)
  · have h9 := h2 k
    (try simp [bs] at hk)
    (try simp [bs])
    all_goals by_cases hk0 : k = B 0 3
    all_goals (first | (simp only [if_pos hk0]; omega) | (simp only [if_neg hk0]; omega) | omega)
  · (try simp [bs]) <;> omega
set_option maxHeartbeats 2000000 in
theorem pBq_O {g g1 : gWM} {bb M M1 : Nat} {B : gBar} {Nm : zNm} {kd o9 mi a b c : Nat} {sw : Nat} {w : List Int32} (hw : wfB B) (hx : zXs B) (hQ : pBq g bb B Nm M) (hM : bb + 100 ≤ M) (hMM : M ≤ M1) (hc4 : B 0 3 < 8) (hkd : kd ≤ 4) (ho9 : o9 < B 0 1) (hmi : kd ≠ 0 → mi < B 0 0) (ha : a ≤ 300) (hb9 : b ≤ 9) (hc : c ≤ 99) (hb : pB0 g1 bb ((bs (bs (bs (bs (bs (bs (bs B 12 (B 0 3) kd) 14 (B 0 3) o9) 13 (B 0 3) mi) 15 (B 0 3) a) 16 (B 0 3) b) 17 (B 0 3) c) 0 3 (B 0 3 + 1)) 0)) (hA : pRa g1 (bb + 4) 8 8 (B 0 3 + 1) (bb + 40)) (hO : ∃ F, g1 (bb + 40 + B 0 3) = some (.inr (15 + kd, F)) ∧ F 5 = .ref sw ∧ F 0 = .int (nI o9) ∧ F 1 = .int (nI a) ∧ F 2 = .int (nI b) ∧ F 3 = .int (nI c) ∧ F 4 = .int 0 ∧ (kd ≠ 0 → F 7 = .ref (bb + 10 + mi))) (hst : pSt g1 sw w) (hs1 : bb + 100 ≤ sw) (hs2 : sw + 2 ≤ M1) (hf : ∀ j, bb ≤ j → j < M → j ≠ bb → j ≠ bb + 4 → j ≠ bb + 40 + B 0 3 → g1 j = g j) : pBq g1 bb (bs (bs (bs (bs (bs (bs (bs B 12 (B 0 3) kd) 14 (B 0 3) o9) 13 (B 0 3) mi) 15 (B 0 3) a) 16 (B 0 3) b) 17 (B 0 3) c) 0 3 (B 0 3 + 1)) (ns Nm 3 (B 0 3) w) M1 := by
  have hn := hw.1
  have hfz := hf
  obtain ⟨⟨-, ⟨f1, a1, b1⟩, ⟨f2, a2, b2⟩, ⟨f3, a3, b3⟩, ⟨f4, a4, b4⟩, ⟨f5, a5, b5⟩, ⟨f6, a6, b6⟩, ⟨f7, a7, b7⟩, c1, c2, c3, c4, c5⟩, -, hN⟩ := hQ
  obtain ⟨F, p, p0, p1, p2, p3, p4, p5, p6, p7, p8, p9, p10, p11, p12, p13, p14, p15, p16⟩ := hb
  obtain ⟨fA, A1, A2⟩ := hA
  obtain ⟨Fo, o0, o1, o2, o3, o4, o5, o6, o7⟩ := hO
  refine ⟨⟨⟨F, p, p0, p1, p2, p3, p4, p5, p6, p7, p8, p9, p10, p11, p12, p13, p14, p15⟩, ⟨f1, (hf _ (by omega) (by omega) (by omega) (by omega) (by omega)).trans a1, b1⟩, ⟨f2, (hf _ (by omega) (by omega) (by omega) (by omega) (by omega)).trans a2, b2⟩, ⟨f3, (hf _ (by omega) (by omega) (by omega) (by omega) (by omega)).trans a3, b3⟩, ⟨fA, A1, A2⟩, ⟨f5, (hf _ (by omega) (by omega) (by omega) (by omega) (by omega)).trans a5, b5⟩, ⟨f6, (hf _ (by omega) (by omega) (by omega) (by omega) (by omega)).trans a6, b6⟩, ⟨f7, (hf _ (by omega) (by omega) (by omega) (by omega) (by omega)).trans a7, b7⟩, fun k hk => ?_, fun k hk => ?_, fun k hk => ?_, fun k hk => ?_, fun k hk => ?_⟩, ⟨F, p, p16⟩, ?_⟩
  · have hk : k < B 0 0 := hk
    obtain ⟨F9, e0, e1⟩ := c1 k hk
    exact ⟨F9, (hf _ (by omega) (by omega) (by omega) (by omega) (by omega)).trans e0, e1⟩
  · have hk : k < B 0 1 := hk
    obtain ⟨F9, e0, e1⟩ := c2 k hk
    exact ⟨F9, (hf _ (by omega) (by omega) (by omega) (by omega) (by omega)).trans e0, e1⟩
  · have hk : k < B 0 2 := hk
    obtain ⟨F9, e0, e1⟩ := c3 k hk
    exact ⟨F9, (hf _ (by omega) (by omega) (by omega) (by omega) (by omega)).trans e0, e1⟩
  · by_cases hk0 : k = B 0 3
    · subst hk0
      exact ⟨Fo, by simpa [bs] using o0, by simp [bs, o2], by simp [bs, o3], by simp [bs, o4], by simp [bs, o5], by rw [o6]; simp [bs, hx.2.1 _ (Nat.le_refl _)]; rfl, by simpa [bs] using o7⟩
    · have hk : k < B 0 3 + 1 := hk
      obtain ⟨F9, e0, e1, e2, e3, e4, e5, e6⟩ := c4 k (by omega)
      exact ⟨F9, by simpa [bs, hk0] using (hf _ (by omega) (by omega) (by omega) (by omega) (by omega)).trans e0, by simp [bs, hk0, e1], by simp [bs, hk0, e2], by simp [bs, hk0, e3], by simp [bs, hk0, e4], by simp [bs, hk0, e5], by simpa [bs, hk0] using e6⟩
  · have hk : k < B 0 4 := hk
    obtain ⟨F9, e0, e1⟩ := c5 k hk
    exact ⟨F9, (hf _ (by omega) (by omega) (by omega) (by omega) (by omega)).trans e0, e1⟩
  · intro s k hs hk
    rcases (show s = 0 ∨ s = 1 ∨ s = 2 ∨ s = 3 by omega) with rfl | rfl | rfl | rfl
    · have hk : k < B 0 0 := hk
      obtain ⟨F9, s9, e0, e1, e2, e3, e4⟩ := hN 0 k hs hk
      exact ⟨F9, s9, (hf _ (by omega) (by omega) (by omega) (by omega) (by omega)).trans e0, e1, by simpa [ns] using e2.fr (fun j x y => hf j (by omega) (by omega) (by omega) (by omega) (by omega)), e3, by omega⟩
    · have hk : k < B 0 1 := hk
      obtain ⟨F9, s9, e0, e1, e2, e3, e4⟩ := hN 1 k hs hk
      exact ⟨F9, s9, (hf _ (by omega) (by omega) (by omega) (by omega) (by omega)).trans e0, e1, by simpa [ns] using e2.fr (fun j x y => hf j (by omega) (by omega) (by omega) (by omega) (by omega)), e3, by omega⟩
    · have hk : k < B 0 2 := hk
      obtain ⟨F9, s9, e0, e1, e2, e3, e4⟩ := hN 2 k hs hk
      exact ⟨F9, s9, (hf _ (by omega) (by omega) (by omega) (by omega) (by omega)).trans e0, e1, by simpa [ns] using e2.fr (fun j x y => hf j (by omega) (by omega) (by omega) (by omega) (by omega)), e3, by omega⟩
    · by_cases hk0 : k = B 0 3
      · subst hk0
        exact ⟨Fo, sw, by simpa [bs, zCi] using o0, o1, by simpa [ns] using hst, hs1, hs2⟩
      · have hk : k < B 0 3 + 1 := hk
        obtain ⟨F9, s9, e0, e1, e2, e3, e4⟩ := hN 3 k hs (by omega)
        exact ⟨F9, s9, (hf _ (by omega) (by omega) (by omega) (by omega) (by omega)).trans (by simpa [bs, hk0, zCi] using e0), e1, by simpa [ns, hk0] using e2.fr (fun j x y => hf j (by omega) (by omega) (by omega) (by omega) (by omega)), e3, by omega⟩
theorem pSl_O {g g1 : gWM} {bb : Nat} {B : gBar} {kd o9 mi a b c : Nat} (hw : wfB B) (hS : pSl g bb B) (hc4 : B 0 3 < 8) (hkd : kd ≤ 4) (ho9 : o9 < B 0 1) (hmi : kd ≠ 0 → mi < B 0 0) (ha : a ≤ 300) (hb9 : b ≤ 9) (hc : c ≤ 99) (hf : ∀ j, bb ≤ j → j < bb + 100 → j ≠ bb → j ≠ bb + 4 → j ≠ bb + 40 + B 0 3 → g1 j = g j) : pSl g1 bb (bs (bs (bs (bs (bs (bs (bs B 12 (B 0 3) kd) 14 (B 0 3) o9) 13 (B 0 3) mi) 15 (B 0 3) a) 16 (B 0 3) b) 17 (B 0 3) c) 0 3 (B 0 3 + 1)) := by
  have hn := hw.1
  intro k hk
  obtain ⟨a1, a2, a3, a4, a5⟩ := hS k hk
  refine ⟨fun x => ?_, fun x => ?_, fun x => ?_, fun x => ?_, fun x => ?_⟩
  · have x : B 0 0 ≤ k := x
    exact (hf _ (by omega) (by omega) (by omega) (by omega) (by omega)).trans (a1 (by omega))
  · have x : B 0 1 ≤ k := x
    exact (hf _ (by omega) (by omega) (by omega) (by omega) (by omega)).trans (a2 (by omega))
  · have x : B 0 2 ≤ k := x
    exact (hf _ (by omega) (by omega) (by omega) (by omega) (by omega)).trans (a3 (by omega))
  · have x : B 0 3 + 1 ≤ k := x
    exact (hf _ (by omega) (by omega) (by omega) (by omega) (by omega)).trans (a4 (by omega))
  · have x : B 0 4 ≤ k := x
    exact (hf _ (by omega) (by omega) (by omega) (by omega) (by omega)).trans (a5 (by omega))
theorem wfB_H {B : gBar} {j9 : Nat} (hw : wfB B) (hx : zXs B) (hj9 : j9 < B 0 3) : wfB (bs B 18 j9 1) := by
  obtain ⟨h0, h1, h2, h3, h4, h5, h6⟩ := hw
  refine ⟨?_, fun k hk => ?_, fun k hk => ?_, fun k hk => ?_, fun k hk => ?_, fun k hk => ?_, fun k hk => ?_⟩
  · (try simp [bs]) <;> omega
  · have h9 := h1 k
    have h8 := hx.1 k
    have h7 := hx.2.1 k
    (try simp [bs] at hk)
    (try simp [bs])
    all_goals by_cases hk0 : k = j9
    all_goals (first | (simp only [if_pos hk0]; omega) | (simp only [if_neg hk0]; omega) | omega)
  · have h9 := h2 k
    have h8 := hx.1 k
    have h7 := hx.2.1 k
    (try simp [bs] at hk)
    (try simp [bs])
    all_goals by_cases hk0 : k = j9
    all_goals (first | (simp only [if_pos hk0]; omega) | (simp only [if_neg hk0]; omega) | omega)
  · have h9 := h3 k
    have h8 := hx.1 k
    have h7 := hx.2.1 k
    (try simp [bs] at hk)
    (try simp [bs])
    all_goals by_cases hk0 : k = j9
    all_goals (first | (simp only [if_pos hk0]; omega) | (simp only [if_neg hk0]; omega) | omega)
  · have h9 := h4 k
    have h8 := hx.1 k
    have h7 := hx.2.1 k
    (try simp [bs] at hk)
    (try simp [bs])
    all_goals by_cases hk0 : k = j9
    all_goals (first | (simp only [if_pos hk0]; omega) | (simp only [if_neg hk0]; omega) | omega)
  · have h9 := h5 k
    have h8 := hx.1 k
    have h7 := hx.2.1 k
    (try simp [bs] at hk)
    (try simp [bs])
    all_goals by_cases hk0 : k = j9
    all_goals (first | (simp only [if_pos hk0]; omega) | (simp only [if_neg hk0]; omega) | omega)
  · have h9 := h6 k
    have h8 := hx.1 k
    have h7 := hx.2.1 k
    (try simp [bs] at hk)
    (try simp [bs])
    all_goals by_cases hk0 : k = j9
    all_goals (first | (simp only [if_pos hk0]; omega) | (simp only [if_neg hk0]; omega) | omega)
theorem zXs_H {B : gBar} {j9 : Nat} (hw : wfB B) (hx : zXs B) (hj9 : j9 < B 0 3) : zXs (bs B 18 j9 1) := by
  obtain ⟨h1, h2, h3⟩ := hx
  refine ⟨fun k hk => ?_, fun k hk => ?_, ?_⟩
  · have h9 := h1 k
    (try simp [bs] at hk)
    (try simp [bs])
    all_goals by_cases hk0 : k = j9
    all_goals (first | (simp only [if_pos hk0]; omega) | (simp only [if_neg hk0]; omega) | omega)
  · have h9 := h2 k
    (try simp [bs] at hk)
    (try simp [bs])
    all_goals by_cases hk0 : k = j9
    all_goals (first | (simp only [if_pos hk0]; omega) | (simp only [if_neg hk0]; omega) | omega)
  · (try simp [bs]) <;> omega
set_option maxHeartbeats 2000000 in
theorem pBq_H {g g1 : gWM} {bb M M1 : Nat} {B : gBar} {Nm : zNm} {j9 : Nat} (hw : wfB B) (hx : zXs B) (hQ : pBq g bb B Nm M) (hM : bb + 100 ≤ M) (hMM : M ≤ M1) (hj9 : j9 < B 0 3) (hb : pB0 g1 bb ((bs B 18 j9 1) 0)) (hO : ∃ F F0, g1 (bb + 40 + j9) = some (.inr (15 + B 12 j9, F)) ∧ g (bb + 40 + j9) = some (.inr (15 + B 12 j9, F0)) ∧ (∀ i, i ≠ 4 → F i = F0 i) ∧ F 4 = .int 1) (hf : ∀ j, bb ≤ j → j < M → j ≠ bb → j ≠ bb + 40 + j9 → g1 j = g j) : pBq g1 bb (bs B 18 j9 1) (Nm) M1 := by
  have hn := hw.1
  have hfz := hf
  obtain ⟨⟨-, ⟨f1, a1, b1⟩, ⟨f2, a2, b2⟩, ⟨f3, a3, b3⟩, ⟨f4, a4, b4⟩, ⟨f5, a5, b5⟩, ⟨f6, a6, b6⟩, ⟨f7, a7, b7⟩, c1, c2, c3, c4, c5⟩, -, hN⟩ := hQ
  obtain ⟨F, p, p0, p1, p2, p3, p4, p5, p6, p7, p8, p9, p10, p11, p12, p13, p14, p15, p16⟩ := hb
  obtain ⟨Fo, F0, o0, o1, o2, o3⟩ := hO
  refine ⟨⟨⟨F, p, p0, p1, p2, p3, p4, p5, p6, p7, p8, p9, p10, p11, p12, p13, p14, p15⟩, ⟨f1, (hf _ (by omega) (by omega) (by omega) (by omega)).trans a1, b1⟩, ⟨f2, (hf _ (by omega) (by omega) (by omega) (by omega)).trans a2, b2⟩, ⟨f3, (hf _ (by omega) (by omega) (by omega) (by omega)).trans a3, b3⟩, ⟨f4, (hf _ (by omega) (by omega) (by omega) (by omega)).trans a4, b4⟩, ⟨f5, (hf _ (by omega) (by omega) (by omega) (by omega)).trans a5, b5⟩, ⟨f6, (hf _ (by omega) (by omega) (by omega) (by omega)).trans a6, b6⟩, ⟨f7, (hf _ (by omega) (by omega) (by omega) (by omega)).trans a7, b7⟩, fun k hk => ?_, fun k hk => ?_, fun k hk => ?_, fun k hk => ?_, fun k hk => ?_⟩, ⟨F, p, p16⟩, ?_⟩
  · have hk : k < B 0 0 := hk
    obtain ⟨F9, e0, e1⟩ := c1 k hk
    exact ⟨F9, (hf _ (by omega) (by omega) (by omega) (by omega)).trans e0, e1⟩
  · have hk : k < B 0 1 := hk
    obtain ⟨F9, e0, e1⟩ := c2 k hk
    exact ⟨F9, (hf _ (by omega) (by omega) (by omega) (by omega)).trans e0, e1⟩
  · have hk : k < B 0 2 := hk
    obtain ⟨F9, e0, e1⟩ := c3 k hk
    exact ⟨F9, (hf _ (by omega) (by omega) (by omega) (by omega)).trans e0, e1⟩
  · by_cases hk0 : k = j9
    · subst hk0
      obtain ⟨F9, e0, e1, e2, e3, e4, e5, e6⟩ := c4 k hk
      rw [o1] at e0
      cases e0
      exact ⟨Fo, o0, (o2 0 (by decide)).trans e1, (o2 1 (by decide)).trans e2, (o2 2 (by decide)).trans e3, (o2 3 (by decide)).trans e4, (by rw [o3]; simp [bs]; rfl), (fun h9 => (o2 7 (by decide)).trans (e6 h9))⟩
    · have hk : k < B 0 3 := hk
      obtain ⟨F9, e0, e1, e2, e3, e4, e5, e6⟩ := c4 k (by omega)
      exact ⟨F9, by simpa [bs, hk0] using (hf _ (by omega) (by omega) (by omega) (by omega)).trans e0, by simp [bs, hk0, e1], by simp [bs, hk0, e2], by simp [bs, hk0, e3], by simp [bs, hk0, e4], by simp [bs, hk0, e5], by simpa [bs, hk0] using e6⟩
  · have hk : k < B 0 4 := hk
    obtain ⟨F9, e0, e1⟩ := c5 k hk
    exact ⟨F9, (hf _ (by omega) (by omega) (by omega) (by omega)).trans e0, e1⟩
  · intro s k hs hk
    rcases (show s = 0 ∨ s = 1 ∨ s = 2 ∨ s = 3 by omega) with rfl | rfl | rfl | rfl
    · have hk : k < B 0 0 := hk
      obtain ⟨F9, s9, e0, e1, e2, e3, e4⟩ := hN 0 k hs hk
      exact ⟨F9, s9, (hf _ (by omega) (by omega) (by omega) (by omega)).trans e0, e1, e2.fr (fun j x y => hf j (by omega) (by omega) (by omega) (by omega)), e3, by omega⟩
    · have hk : k < B 0 1 := hk
      obtain ⟨F9, s9, e0, e1, e2, e3, e4⟩ := hN 1 k hs hk
      exact ⟨F9, s9, (hf _ (by omega) (by omega) (by omega) (by omega)).trans e0, e1, e2.fr (fun j x y => hf j (by omega) (by omega) (by omega) (by omega)), e3, by omega⟩
    · have hk : k < B 0 2 := hk
      obtain ⟨F9, s9, e0, e1, e2, e3, e4⟩ := hN 2 k hs hk
      exact ⟨F9, s9, (hf _ (by omega) (by omega) (by omega) (by omega)).trans e0, e1, e2.fr (fun j x y => hf j (by omega) (by omega) (by omega) (by omega)), e3, by omega⟩
    · have hk : k < B 0 3 := hk
      obtain ⟨F9, s9, e0, e1, e2, e3, e4⟩ := hN 3 k hs hk
      by_cases hk0 : k = j9
      · subst hk0
        have e0 : g (bb + 40 + k) = some (.inr (15 + B 12 k, F9)) := e0
        rw [o1] at e0
        cases e0
        exact ⟨Fo, s9, o0, (o2 5 (by decide)).trans e1, e2.fr (fun j x y => hf j (by omega) (by omega) (by omega) (by omega)), e3, by omega⟩
      · exact ⟨F9, s9, (hf _ (by omega) (by omega) (by omega) (by omega)).trans e0, e1, e2.fr (fun j x y => hf j (by omega) (by omega) (by omega) (by omega)), e3, by omega⟩
theorem pSl_H {g g1 : gWM} {bb : Nat} {B : gBar} {j9 : Nat} (hw : wfB B) (hS : pSl g bb B) (hj9 : j9 < B 0 3) (hf : ∀ j, bb ≤ j → j < bb + 100 → j ≠ bb → j ≠ bb + 40 + j9 → g1 j = g j) : pSl g1 bb (bs B 18 j9 1) := by
  have hn := hw.1
  intro k hk
  obtain ⟨a1, a2, a3, a4, a5⟩ := hS k hk
  refine ⟨fun x => ?_, fun x => ?_, fun x => ?_, fun x => ?_, fun x => ?_⟩
  · have x : B 0 0 ≤ k := x
    exact (hf _ (by omega) (by omega) (by omega) (by omega)).trans (a1 (by omega))
  · have x : B 0 1 ≤ k := x
    exact (hf _ (by omega) (by omega) (by omega) (by omega)).trans (a2 (by omega))
  · have x : B 0 2 ≤ k := x
    exact (hf _ (by omega) (by omega) (by omega) (by omega)).trans (a3 (by omega))
  · have x : B 0 3 ≤ k := x
    exact (hf _ (by omega) (by omega) (by omega) (by omega)).trans (a4 (by omega))
  · have x : B 0 4 ≤ k := x
    exact (hf _ (by omega) (by omega) (by omega) (by omega)).trans (a5 (by omega))
theorem wfB_C {B : gBar} {o9 k9 a b : Nat} (hw : wfB B) (hx : zXs B) (hc4 : B 0 4 < 6) (ho9 : o9 < B 0 1) (hk9 : k9 < B 0 2) (ha : a ≤ 60) (hb9 : b ≤ 23) : wfB (bs (bs (bs (bs (bs B 19 (B 0 4) o9) 20 (B 0 4) k9) 21 (B 0 4) a) 22 (B 0 4) b) 0 4 (B 0 4 + 1)) := by
  obtain ⟨h0, h1, h2, h3, h4, h5, h6⟩ := hw
  refine ⟨?_, fun k hk => ?_, fun k hk => ?_, fun k hk => ?_, fun k hk => ?_, fun k hk => ?_, fun k hk => ?_⟩
  · (try simp [bs]) <;> omega
  · have h9 := h1 k
    have h8 := hx.1 k
    have h7 := hx.2.1 k
    (try simp [bs] at hk)
    (try simp [bs])
    all_goals by_cases hk0 : k = B 0 4
    all_goals (first | (simp only [if_pos hk0]; omega) | (simp only [if_neg hk0]; omega) | omega)
  · have h9 := h2 k
    have h8 := hx.1 k
    have h7 := hx.2.1 k
    (try simp [bs] at hk)
    (try simp [bs])
    all_goals by_cases hk0 : k = B 0 4
    all_goals (first | (simp only [if_pos hk0]; omega) | (simp only [if_neg hk0]; omega) | omega)
  · have h9 := h3 k
    have h8 := hx.1 k
    have h7 := hx.2.1 k
    (try simp [bs] at hk)
    (try simp [bs])
    all_goals by_cases hk0 : k = B 0 4
    all_goals (first | (simp only [if_pos hk0]; omega) | (simp only [if_neg hk0]; omega) | omega)
  · have h9 := h4 k
    have h8 := hx.1 k
    have h7 := hx.2.1 k
    (try simp [bs] at hk)
    (try simp [bs])
    all_goals by_cases hk0 : k = B 0 4
    all_goals (first | (simp only [if_pos hk0]; omega) | (simp only [if_neg hk0]; omega) | omega)
  · have h9 := h5 k
    have h8 := hx.1 k
    have h7 := hx.2.1 k
    (try simp [bs] at hk)
    (try simp [bs])
    all_goals by_cases hk0 : k = B 0 4
    all_goals (first | (simp only [if_pos hk0]; omega) | (simp only [if_neg hk0]; omega) | omega)
  · have h9 := h6 k
    have h8 := hx.1 k
    have h7 := hx.2.1 k
    (try simp [bs] at hk)
    (try simp [bs])
    all_goals by_cases hk0 : k = B 0 4
    all_goals (first | (simp only [if_pos hk0]; omega) | (simp only [if_neg hk0]; omega) | omega)
theorem zXs_C {B : gBar} {o9 k9 a b : Nat} (hw : wfB B) (hx : zXs B) (hc4 : B 0 4 < 6) (ho9 : o9 < B 0 1) (hk9 : k9 < B 0 2) (ha : a ≤ 60) (hb9 : b ≤ 23) : zXs (bs (bs (bs (bs (bs B 19 (B 0 4) o9) 20 (B 0 4) k9) 21 (B 0 4) a) 22 (B 0 4) b) 0 4 (B 0 4 + 1)) := by
  obtain ⟨h1, h2, h3⟩ := hx
  refine ⟨fun k hk => ?_, fun k hk => ?_, ?_⟩
  · have h9 := h1 k
    (try simp [bs] at hk)
    (try simp [bs])
    all_goals by_cases hk0 : k = B 0 4
    all_goals (first | (simp only [if_pos hk0]; omega) | (simp only [if_neg hk0]; omega) | omega)
  · have h9 := h2 k
    (try simp [bs] at hk)
    (try simp [bs])
    all_goals by_cases hk0 : k = B 0 4
    all_goals (first | (simp only [if_pos hk0]; omega) | (simp only [if_neg hk0]; omega) | omega)
  · (try simp [bs]) <;> omega
set_option maxHeartbeats 2000000 in
theorem pBq_C {g g1 : gWM} {bb M M1 : Nat} {B : gBar} {Nm : zNm} {o9 k9 a b : Nat} (hw : wfB B) (hx : zXs B) (hQ : pBq g bb B Nm M) (hM : bb + 100 ≤ M) (hMM : M ≤ M1) (hc4 : B 0 4 < 6) (ho9 : o9 < B 0 1) (hk9 : k9 < B 0 2) (ha : a ≤ 60) (hb9 : b ≤ 23) (hb : pB0 g1 bb ((bs (bs (bs (bs (bs B 19 (B 0 4) o9) 20 (B 0 4) k9) 21 (B 0 4) a) 22 (B 0 4) b) 0 4 (B 0 4 + 1)) 0)) (hA : pRa g1 (bb + 5) 9 6 (B 0 4 + 1) (bb + 50)) (hO : ∃ F, g1 (bb + 50 + B 0 4) = some (.inr (20, F)) ∧ F 0 = .int (nI o9) ∧ F 1 = .int (nI k9) ∧ F 2 = .int (nI a) ∧ F 3 = .int (nI b)) (hf : ∀ j, bb ≤ j → j < M → j ≠ bb → j ≠ bb + 5 → j ≠ bb + 50 + B 0 4 → g1 j = g j) : pBq g1 bb (bs (bs (bs (bs (bs B 19 (B 0 4) o9) 20 (B 0 4) k9) 21 (B 0 4) a) 22 (B 0 4) b) 0 4 (B 0 4 + 1)) (Nm) M1 := by
  have hn := hw.1
  have hfz := hf
  obtain ⟨⟨-, ⟨f1, a1, b1⟩, ⟨f2, a2, b2⟩, ⟨f3, a3, b3⟩, ⟨f4, a4, b4⟩, ⟨f5, a5, b5⟩, ⟨f6, a6, b6⟩, ⟨f7, a7, b7⟩, c1, c2, c3, c4, c5⟩, -, hN⟩ := hQ
  obtain ⟨F, p, p0, p1, p2, p3, p4, p5, p6, p7, p8, p9, p10, p11, p12, p13, p14, p15, p16⟩ := hb
  obtain ⟨fA, A1, A2⟩ := hA
  obtain ⟨Fo, o0, o1, o2, o3, o4⟩ := hO
  refine ⟨⟨⟨F, p, p0, p1, p2, p3, p4, p5, p6, p7, p8, p9, p10, p11, p12, p13, p14, p15⟩, ⟨f1, (hf _ (by omega) (by omega) (by omega) (by omega) (by omega)).trans a1, b1⟩, ⟨f2, (hf _ (by omega) (by omega) (by omega) (by omega) (by omega)).trans a2, b2⟩, ⟨f3, (hf _ (by omega) (by omega) (by omega) (by omega) (by omega)).trans a3, b3⟩, ⟨f4, (hf _ (by omega) (by omega) (by omega) (by omega) (by omega)).trans a4, b4⟩, ⟨fA, A1, A2⟩, ⟨f6, (hf _ (by omega) (by omega) (by omega) (by omega) (by omega)).trans a6, b6⟩, ⟨f7, (hf _ (by omega) (by omega) (by omega) (by omega) (by omega)).trans a7, b7⟩, fun k hk => ?_, fun k hk => ?_, fun k hk => ?_, fun k hk => ?_, fun k hk => ?_⟩, ⟨F, p, p16⟩, ?_⟩
  · have hk : k < B 0 0 := hk
    obtain ⟨F9, e0, e1⟩ := c1 k hk
    exact ⟨F9, (hf _ (by omega) (by omega) (by omega) (by omega) (by omega)).trans e0, e1⟩
  · have hk : k < B 0 1 := hk
    obtain ⟨F9, e0, e1⟩ := c2 k hk
    exact ⟨F9, (hf _ (by omega) (by omega) (by omega) (by omega) (by omega)).trans e0, e1⟩
  · have hk : k < B 0 2 := hk
    obtain ⟨F9, e0, e1⟩ := c3 k hk
    exact ⟨F9, (hf _ (by omega) (by omega) (by omega) (by omega) (by omega)).trans e0, e1⟩
  · have hk : k < B 0 3 := hk
    obtain ⟨F9, e0, e1⟩ := c4 k hk
    exact ⟨F9, (hf _ (by omega) (by omega) (by omega) (by omega) (by omega)).trans e0, e1⟩
  · by_cases hk0 : k = B 0 4
    · subst hk0
      exact ⟨Fo, o0, by simp [bs, o1], by simp [bs, o2], by simp [bs, o3], by simp [bs, o4]⟩
    · have hk : k < B 0 4 + 1 := hk
      obtain ⟨F9, e0, e1, e2, e3, e4⟩ := c5 k (by omega)
      exact ⟨F9, (hf _ (by omega) (by omega) (by omega) (by omega) (by omega)).trans e0, by simp [bs, hk0, e1], by simp [bs, hk0, e2], by simp [bs, hk0, e3], by simp [bs, hk0, e4]⟩
  · intro s k hs hk
    rcases (show s = 0 ∨ s = 1 ∨ s = 2 ∨ s = 3 by omega) with rfl | rfl | rfl | rfl
    · have hk : k < B 0 0 := hk
      obtain ⟨F9, s9, e0, e1, e2, e3, e4⟩ := hN 0 k hs hk
      exact ⟨F9, s9, (hf _ (by omega) (by omega) (by omega) (by omega) (by omega)).trans e0, e1, e2.fr (fun j x y => hf j (by omega) (by omega) (by omega) (by omega) (by omega)), e3, by omega⟩
    · have hk : k < B 0 1 := hk
      obtain ⟨F9, s9, e0, e1, e2, e3, e4⟩ := hN 1 k hs hk
      exact ⟨F9, s9, (hf _ (by omega) (by omega) (by omega) (by omega) (by omega)).trans e0, e1, e2.fr (fun j x y => hf j (by omega) (by omega) (by omega) (by omega) (by omega)), e3, by omega⟩
    · have hk : k < B 0 2 := hk
      obtain ⟨F9, s9, e0, e1, e2, e3, e4⟩ := hN 2 k hs hk
      exact ⟨F9, s9, (hf _ (by omega) (by omega) (by omega) (by omega) (by omega)).trans e0, e1, e2.fr (fun j x y => hf j (by omega) (by omega) (by omega) (by omega) (by omega)), e3, by omega⟩
    · have hk : k < B 0 3 := hk
      obtain ⟨F9, s9, e0, e1, e2, e3, e4⟩ := hN 3 k hs hk
      exact ⟨F9, s9, (hf _ (by omega) (by omega) (by omega) (by omega) (by omega)).trans e0, e1, e2.fr (fun j x y => hf j (by omega) (by omega) (by omega) (by omega) (by omega)), e3, by omega⟩
theorem pSl_C {g g1 : gWM} {bb : Nat} {B : gBar} {o9 k9 a b : Nat} (hw : wfB B) (hS : pSl g bb B) (hc4 : B 0 4 < 6) (ho9 : o9 < B 0 1) (hk9 : k9 < B 0 2) (ha : a ≤ 60) (hb9 : b ≤ 23) (hf : ∀ j, bb ≤ j → j < bb + 100 → j ≠ bb → j ≠ bb + 5 → j ≠ bb + 50 + B 0 4 → g1 j = g j) : pSl g1 bb (bs (bs (bs (bs (bs B 19 (B 0 4) o9) 20 (B 0 4) k9) 21 (B 0 4) a) 22 (B 0 4) b) 0 4 (B 0 4 + 1)) := by
  have hn := hw.1
  intro k hk
  obtain ⟨a1, a2, a3, a4, a5⟩ := hS k hk
  refine ⟨fun x => ?_, fun x => ?_, fun x => ?_, fun x => ?_, fun x => ?_⟩
  · have x : B 0 0 ≤ k := x
    exact (hf _ (by omega) (by omega) (by omega) (by omega) (by omega)).trans (a1 (by omega))
  · have x : B 0 1 ≤ k := x
    exact (hf _ (by omega) (by omega) (by omega) (by omega) (by omega)).trans (a2 (by omega))
  · have x : B 0 2 ≤ k := x
    exact (hf _ (by omega) (by omega) (by omega) (by omega) (by omega)).trans (a3 (by omega))
  · have x : B 0 3 ≤ k := x
    exact (hf _ (by omega) (by omega) (by omega) (by omega) (by omega)).trans (a4 (by omega))
  · have x : B 0 4 + 1 ≤ k := x
    exact (hf _ (by omega) (by omega) (by omega) (by omega) (by omega)).trans (a5 (by omega))
theorem wfB_P {B : gBar} {i9 a b : Nat} (hw : wfB B) (hx : zXs B) (hi9 : i9 < B 0 0) (ha : a ≤ 99) (hb9 : b ≤ 99) : wfB (bs (bs (bs (bs B 4 i9 a) 5 i9 b) 6 i9 1) 0 5 (B 0 5 + 1)) := by
  obtain ⟨h0, h1, h2, h3, h4, h5, h6⟩ := hw
  refine ⟨?_, fun k hk => ?_, fun k hk => ?_, fun k hk => ?_, fun k hk => ?_, fun k hk => ?_, fun k hk => ?_⟩
  · (try simp [bs]) <;> omega
  · have h9 := h1 k
    have h8 := hx.1 k
    have h7 := hx.2.1 k
    (try simp [bs] at hk)
    (try simp [bs])
    all_goals by_cases hk0 : k = i9
    all_goals (first | (simp only [if_pos hk0]; omega) | (simp only [if_neg hk0]; omega) | omega)
  · have h9 := h2 k
    have h8 := hx.1 k
    have h7 := hx.2.1 k
    (try simp [bs] at hk)
    (try simp [bs])
    all_goals by_cases hk0 : k = i9
    all_goals (first | (simp only [if_pos hk0]; omega) | (simp only [if_neg hk0]; omega) | omega)
  · have h9 := h3 k
    have h8 := hx.1 k
    have h7 := hx.2.1 k
    (try simp [bs] at hk)
    (try simp [bs])
    all_goals by_cases hk0 : k = i9
    all_goals (first | (simp only [if_pos hk0]; omega) | (simp only [if_neg hk0]; omega) | omega)
  · have h9 := h4 k
    have h8 := hx.1 k
    have h7 := hx.2.1 k
    (try simp [bs] at hk)
    (try simp [bs])
    all_goals by_cases hk0 : k = i9
    all_goals (first | (simp only [if_pos hk0]; omega) | (simp only [if_neg hk0]; omega) | omega)
  · have h9 := h5 k
    have h8 := hx.1 k
    have h7 := hx.2.1 k
    (try simp [bs] at hk)
    (try simp [bs])
    all_goals by_cases hk0 : k = i9
    all_goals (first | (simp only [if_pos hk0]; omega) | (simp only [if_neg hk0]; omega) | omega)
  · have h9 := h6 k
    have h8 := hx.1 k
    have h7 := hx.2.1 k
    (try simp [bs] at hk)
    (try simp [bs])
    all_goals by_cases hk0 : k = i9
    all_goals (first | (simp only [if_pos hk0]; omega) | (simp only [if_neg hk0]; omega) | omega)
theorem zXs_P {B : gBar} {i9 a b : Nat} (hw : wfB B) (hx : zXs B) (hi9 : i9 < B 0 0) (ha : a ≤ 99) (hb9 : b ≤ 99) : zXs (bs (bs (bs (bs B 4 i9 a) 5 i9 b) 6 i9 1) 0 5 (B 0 5 + 1)) := by
  obtain ⟨h1, h2, h3⟩ := hx
  refine ⟨fun k hk => ?_, fun k hk => ?_, ?_⟩
  · have h9 := h1 k
    (try simp [bs] at hk)
    (try simp [bs])
    all_goals by_cases hk0 : k = i9
    all_goals (first | (simp only [if_pos hk0]; omega) | (simp only [if_neg hk0]; omega) | omega)
  · have h9 := h2 k
    (try simp [bs] at hk)
    (try simp [bs])
    all_goals by_cases hk0 : k = i9
    all_goals (first | (simp only [if_pos hk0]; omega) | (simp only [if_neg hk0]; omega) | omega)
  · (try simp [bs]) <;> omega
set_option maxHeartbeats 2000000 in
theorem pBq_P {g g1 : gWM} {bb M M1 : Nat} {B : gBar} {Nm : zNm} {i9 a b : Nat} (hw : wfB B) (hx : zXs B) (hQ : pBq g bb B Nm M) (hM : bb + 100 ≤ M) (hMM : M ≤ M1) (hi9 : i9 < B 0 0) (ha : a ≤ 99) (hb9 : b ≤ 99) (hb : pB0 g1 bb ((bs (bs (bs (bs B 4 i9 a) 5 i9 b) 6 i9 1) 0 5 (B 0 5 + 1)) 0)) (hO : ∃ F F0, g1 (bb + 10 + i9) = some (.inr (12, F)) ∧ g (bb + 10 + i9) = some (.inr (12, F0)) ∧ (∀ i, i < 5 → F i = F0 i) ∧ F 5 = .int (nI a) ∧ F 6 = .int (nI b) ∧ F 7 = .int 1) (hf : ∀ j, bb ≤ j → j < M → j ≠ bb → j ≠ bb + 10 + i9 → g1 j = g j) : pBq g1 bb (bs (bs (bs (bs B 4 i9 a) 5 i9 b) 6 i9 1) 0 5 (B 0 5 + 1)) (Nm) M1 := by
  have hn := hw.1
  have hfz := hf
  obtain ⟨⟨-, ⟨f1, a1, b1⟩, ⟨f2, a2, b2⟩, ⟨f3, a3, b3⟩, ⟨f4, a4, b4⟩, ⟨f5, a5, b5⟩, ⟨f6, a6, b6⟩, ⟨f7, a7, b7⟩, c1, c2, c3, c4, c5⟩, -, hN⟩ := hQ
  obtain ⟨F, p, p0, p1, p2, p3, p4, p5, p6, p7, p8, p9, p10, p11, p12, p13, p14, p15, p16⟩ := hb
  obtain ⟨Fo, F0, o0, o1, o2, o3, o4, o5⟩ := hO
  refine ⟨⟨⟨F, p, p0, p1, p2, p3, p4, p5, p6, p7, p8, p9, p10, p11, p12, p13, p14, p15⟩, ⟨f1, (hf _ (by omega) (by omega) (by omega) (by omega)).trans a1, b1⟩, ⟨f2, (hf _ (by omega) (by omega) (by omega) (by omega)).trans a2, b2⟩, ⟨f3, (hf _ (by omega) (by omega) (by omega) (by omega)).trans a3, b3⟩, ⟨f4, (hf _ (by omega) (by omega) (by omega) (by omega)).trans a4, b4⟩, ⟨f5, (hf _ (by omega) (by omega) (by omega) (by omega)).trans a5, b5⟩, ⟨f6, (hf _ (by omega) (by omega) (by omega) (by omega)).trans a6, b6⟩, ⟨f7, (hf _ (by omega) (by omega) (by omega) (by omega)).trans a7, b7⟩, fun k hk => ?_, fun k hk => ?_, fun k hk => ?_, fun k hk => ?_, fun k hk => ?_⟩, ⟨F, p, p16⟩, ?_⟩
  · by_cases hk0 : k = i9
    · subst hk0
      obtain ⟨F9, e0, e1, e2, e3, e4, e5, e6, e7⟩ := c1 k hk
      rw [o1] at e0
      cases e0
      exact ⟨Fo, o0, (o2 1 (by decide)).trans e1, (by simp [bs, o2 2 (by decide), e2]), (by simp [bs, o2 3 (by decide), e3]), (by simp [bs, o2 4 (by decide), e4]), (by simp [bs, o3]), (by simp [bs, o4]), (by rw [o5]; simp [bs]; rfl)⟩
    · have hk : k < B 0 0 := hk
      obtain ⟨F9, e0, e1, e2, e3, e4, e5, e6, e7⟩ := c1 k (by omega)
      exact ⟨F9, (hf _ (by omega) (by omega) (by omega) (by omega)).trans e0, e1, by simp [bs, hk0, e2], by simp [bs, hk0, e3], by simp [bs, hk0, e4], by simp [bs, hk0, e5], by simp [bs, hk0, e6], by simp [bs, hk0, e7]⟩
  · have hk : k < B 0 1 := hk
    obtain ⟨F9, e0, e1⟩ := c2 k hk
    exact ⟨F9, (hf _ (by omega) (by omega) (by omega) (by omega)).trans e0, e1⟩
  · have hk : k < B 0 2 := hk
    obtain ⟨F9, e0, e1⟩ := c3 k hk
    exact ⟨F9, (hf _ (by omega) (by omega) (by omega) (by omega)).trans e0, e1⟩
  · have hk : k < B 0 3 := hk
    obtain ⟨F9, e0, e1⟩ := c4 k hk
    exact ⟨F9, (hf _ (by omega) (by omega) (by omega) (by omega)).trans e0, e1⟩
  · have hk : k < B 0 4 := hk
    obtain ⟨F9, e0, e1⟩ := c5 k hk
    exact ⟨F9, (hf _ (by omega) (by omega) (by omega) (by omega)).trans e0, e1⟩
  · intro s k hs hk
    rcases (show s = 0 ∨ s = 1 ∨ s = 2 ∨ s = 3 by omega) with rfl | rfl | rfl | rfl
    · have hk : k < B 0 0 := hk
      obtain ⟨F9, s9, e0, e1, e2, e3, e4⟩ := hN 0 k hs hk
      by_cases hk0 : k = i9
      · subst hk0
        have e0 : g (bb + 10 + k) = some (.inr (12, F9)) := e0
        rw [o1] at e0
        cases e0
        exact ⟨Fo, s9, o0, (o2 0 (by decide)).trans e1, e2.fr (fun j x y => hf j (by omega) (by omega) (by omega) (by omega)), e3, by omega⟩
      · exact ⟨F9, s9, (hf _ (by omega) (by omega) (by omega) (by omega)).trans e0, e1, e2.fr (fun j x y => hf j (by omega) (by omega) (by omega) (by omega)), e3, by omega⟩
    · have hk : k < B 0 1 := hk
      obtain ⟨F9, s9, e0, e1, e2, e3, e4⟩ := hN 1 k hs hk
      exact ⟨F9, s9, (hf _ (by omega) (by omega) (by omega) (by omega)).trans e0, e1, e2.fr (fun j x y => hf j (by omega) (by omega) (by omega) (by omega)), e3, by omega⟩
    · have hk : k < B 0 2 := hk
      obtain ⟨F9, s9, e0, e1, e2, e3, e4⟩ := hN 2 k hs hk
      exact ⟨F9, s9, (hf _ (by omega) (by omega) (by omega) (by omega)).trans e0, e1, e2.fr (fun j x y => hf j (by omega) (by omega) (by omega) (by omega)), e3, by omega⟩
    · have hk : k < B 0 3 := hk
      obtain ⟨F9, s9, e0, e1, e2, e3, e4⟩ := hN 3 k hs hk
      exact ⟨F9, s9, (hf _ (by omega) (by omega) (by omega) (by omega)).trans e0, e1, e2.fr (fun j x y => hf j (by omega) (by omega) (by omega) (by omega)), e3, by omega⟩
theorem pSl_P {g g1 : gWM} {bb : Nat} {B : gBar} {i9 a b : Nat} (hw : wfB B) (hS : pSl g bb B) (hi9 : i9 < B 0 0) (ha : a ≤ 99) (hb9 : b ≤ 99) (hf : ∀ j, bb ≤ j → j < bb + 100 → j ≠ bb → j ≠ bb + 10 + i9 → g1 j = g j) : pSl g1 bb (bs (bs (bs (bs B 4 i9 a) 5 i9 b) 6 i9 1) 0 5 (B 0 5 + 1)) := by
  have hn := hw.1
  intro k hk
  obtain ⟨a1, a2, a3, a4, a5⟩ := hS k hk
  refine ⟨fun x => ?_, fun x => ?_, fun x => ?_, fun x => ?_, fun x => ?_⟩
  · have x : B 0 0 ≤ k := x
    exact (hf _ (by omega) (by omega) (by omega) (by omega)).trans (a1 (by omega))
  · have x : B 0 1 ≤ k := x
    exact (hf _ (by omega) (by omega) (by omega) (by omega)).trans (a2 (by omega))
  · have x : B 0 2 ≤ k := x
    exact (hf _ (by omega) (by omega) (by omega) (by omega)).trans (a3 (by omega))
  · have x : B 0 3 ≤ k := x
    exact (hf _ (by omega) (by omega) (by omega) (by omega)).trans (a4 (by omega))
  · have x : B 0 4 ≤ k := x
    exact (hf _ (by omega) (by omega) (by omega) (by omega)).trans (a5 (by omega))
theorem wfB_K {B : gBar} {a mi : Nat} (hw : wfB B) (hx : zXs B) (hc4 : B 0 6 < 5) (hmi : mi < B 0 0) (ha : a ≤ 60) : wfB (bs (bs (bs B 24 (B 0 6) a) 23 (B 0 6) mi) 0 6 (B 0 6 + 1)) := by
  obtain ⟨h0, h1, h2, h3, h4, h5, h6⟩ := hw
  refine ⟨?_, fun k hk => ?_, fun k hk => ?_, fun k hk => ?_, fun k hk => ?_, fun k hk => ?_, fun k hk => ?_⟩
  · (try simp [bs]) <;> omega
  · have h9 := h1 k
    have h8 := hx.1 k
    have h7 := hx.2.1 k
    (try simp [bs] at hk)
    (try simp [bs])
    all_goals by_cases hk0 : k = B 0 6
    all_goals (first | (simp only [if_pos hk0]; omega) | (simp only [if_neg hk0]; omega) | omega)
  · have h9 := h2 k
    have h8 := hx.1 k
    have h7 := hx.2.1 k
    (try simp [bs] at hk)
    (try simp [bs])
    all_goals by_cases hk0 : k = B 0 6
    all_goals (first | (simp only [if_pos hk0]; omega) | (simp only [if_neg hk0]; omega) | omega)
  · have h9 := h3 k
    have h8 := hx.1 k
    have h7 := hx.2.1 k
    (try simp [bs] at hk)
    (try simp [bs])
    all_goals by_cases hk0 : k = B 0 6
    all_goals (first | (simp only [if_pos hk0]; omega) | (simp only [if_neg hk0]; omega) | omega)
  · have h9 := h4 k
    have h8 := hx.1 k
    have h7 := hx.2.1 k
    (try simp [bs] at hk)
    (try simp [bs])
    all_goals by_cases hk0 : k = B 0 6
    all_goals (first | (simp only [if_pos hk0]; omega) | (simp only [if_neg hk0]; omega) | omega)
  · have h9 := h5 k
    have h8 := hx.1 k
    have h7 := hx.2.1 k
    (try simp [bs] at hk)
    (try simp [bs])
    all_goals by_cases hk0 : k = B 0 6
    all_goals (first | (simp only [if_pos hk0]; omega) | (simp only [if_neg hk0]; omega) | omega)
  · have h9 := h6 k
    have h8 := hx.1 k
    have h7 := hx.2.1 k
    (try simp [bs] at hk)
    (try simp [bs])
    all_goals by_cases hk0 : k = B 0 6
    all_goals (first | (simp only [if_pos hk0]; omega) | (simp only [if_neg hk0]; omega) | omega)
theorem zXs_K {B : gBar} {a mi : Nat} (hw : wfB B) (hx : zXs B) (hc4 : B 0 6 < 5) (hmi : mi < B 0 0) (ha : a ≤ 60) : zXs (bs (bs (bs B 24 (B 0 6) a) 23 (B 0 6) mi) 0 6 (B 0 6 + 1)) := by
  obtain ⟨h1, h2, h3⟩ := hx
  refine ⟨fun k hk => ?_, fun k hk => ?_, ?_⟩
  · have h9 := h1 k
    (try simp [bs] at hk)
    (try simp [bs])
    all_goals by_cases hk0 : k = B 0 6
    all_goals (first | (simp only [if_pos hk0]; omega) | (simp only [if_neg hk0]; omega) | omega)
  · have h9 := h2 k
    (try simp [bs] at hk)
    (try simp [bs])
    all_goals by_cases hk0 : k = B 0 6
    all_goals (first | (simp only [if_pos hk0]; omega) | (simp only [if_neg hk0]; omega) | omega)
  · (try simp [bs]) <;> omega
set_option maxHeartbeats 2000000 in
theorem pBq_K {g g1 : gWM} {bb M M1 : Nat} {B : gBar} {Nm : zNm} {a mi : Nat} (hw : wfB B) (hx : zXs B) (hQ : pBq g bb B Nm M) (hM : bb + 100 ≤ M) (hMM : M ≤ M1) (hc4 : B 0 6 < 5) (hmi : mi < B 0 0) (ha : a ≤ 60) (hb : pB0 g1 bb ((bs (bs (bs B 24 (B 0 6) a) 23 (B 0 6) mi) 0 6 (B 0 6 + 1)) 0)) (hA : ∃ f, g1 (bb + 6) = some (.inl (0, 5, .inl f)) ∧ ∀ i, i < B 0 6 + 1 → f i = if i = B 0 6 then nI mi else nI (B 23 i)) (hA2 : ∃ f, g1 (bb + 7) = some (.inl (0, 5, .inl f)) ∧ ∀ i, i < B 0 6 + 1 → f i = if i = B 0 6 then nI a else nI (B 24 i)) (hf : ∀ j, bb ≤ j → j < M → j ≠ bb → j ≠ bb + 6 → j ≠ bb + 7 → g1 j = g j) : pBq g1 bb (bs (bs (bs B 24 (B 0 6) a) 23 (B 0 6) mi) 0 6 (B 0 6 + 1)) (Nm) M1 := by
  have hn := hw.1
  have hfz := hf
  obtain ⟨⟨-, ⟨f1, a1, b1⟩, ⟨f2, a2, b2⟩, ⟨f3, a3, b3⟩, ⟨f4, a4, b4⟩, ⟨f5, a5, b5⟩, ⟨f6, a6, b6⟩, ⟨f7, a7, b7⟩, c1, c2, c3, c4, c5⟩, -, hN⟩ := hQ
  obtain ⟨F, p, p0, p1, p2, p3, p4, p5, p6, p7, p8, p9, p10, p11, p12, p13, p14, p15, p16⟩ := hb
  obtain ⟨fA, A1, A2⟩ := hA
  obtain ⟨fB, B1, B2⟩ := hA2
  refine ⟨⟨⟨F, p, p0, p1, p2, p3, p4, p5, p6, p7, p8, p9, p10, p11, p12, p13, p14, p15⟩, ⟨f1, (hf _ (by omega) (by omega) (by omega) (by omega) (by omega)).trans a1, b1⟩, ⟨f2, (hf _ (by omega) (by omega) (by omega) (by omega) (by omega)).trans a2, b2⟩, ⟨f3, (hf _ (by omega) (by omega) (by omega) (by omega) (by omega)).trans a3, b3⟩, ⟨f4, (hf _ (by omega) (by omega) (by omega) (by omega) (by omega)).trans a4, b4⟩, ⟨f5, (hf _ (by omega) (by omega) (by omega) (by omega) (by omega)).trans a5, b5⟩, ⟨fA, A1, fun k hk => (A2 k hk).trans (by simp only [bs]; by_cases h9 : k = B 0 6 <;> simp [h9])⟩, ⟨fB, B1, fun k hk => (B2 k hk).trans (by simp only [bs]; by_cases h9 : k = B 0 6 <;> simp [h9])⟩, fun k hk => ?_, fun k hk => ?_, fun k hk => ?_, fun k hk => ?_, fun k hk => ?_⟩, ⟨F, p, p16⟩, ?_⟩
  · have hk : k < B 0 0 := hk
    obtain ⟨F9, e0, e1⟩ := c1 k hk
    exact ⟨F9, (hf _ (by omega) (by omega) (by omega) (by omega) (by omega)).trans e0, e1⟩
  · have hk : k < B 0 1 := hk
    obtain ⟨F9, e0, e1⟩ := c2 k hk
    exact ⟨F9, (hf _ (by omega) (by omega) (by omega) (by omega) (by omega)).trans e0, e1⟩
  · have hk : k < B 0 2 := hk
    obtain ⟨F9, e0, e1⟩ := c3 k hk
    exact ⟨F9, (hf _ (by omega) (by omega) (by omega) (by omega) (by omega)).trans e0, e1⟩
  · have hk : k < B 0 3 := hk
    obtain ⟨F9, e0, e1⟩ := c4 k hk
    exact ⟨F9, (hf _ (by omega) (by omega) (by omega) (by omega) (by omega)).trans e0, e1⟩
  · have hk : k < B 0 4 := hk
    obtain ⟨F9, e0, e1⟩ := c5 k hk
    exact ⟨F9, (hf _ (by omega) (by omega) (by omega) (by omega) (by omega)).trans e0, e1⟩
  · intro s k hs hk
    rcases (show s = 0 ∨ s = 1 ∨ s = 2 ∨ s = 3 by omega) with rfl | rfl | rfl | rfl
    · have hk : k < B 0 0 := hk
      obtain ⟨F9, s9, e0, e1, e2, e3, e4⟩ := hN 0 k hs hk
      exact ⟨F9, s9, (hf _ (by omega) (by omega) (by omega) (by omega) (by omega)).trans e0, e1, e2.fr (fun j x y => hf j (by omega) (by omega) (by omega) (by omega) (by omega)), e3, by omega⟩
    · have hk : k < B 0 1 := hk
      obtain ⟨F9, s9, e0, e1, e2, e3, e4⟩ := hN 1 k hs hk
      exact ⟨F9, s9, (hf _ (by omega) (by omega) (by omega) (by omega) (by omega)).trans e0, e1, e2.fr (fun j x y => hf j (by omega) (by omega) (by omega) (by omega) (by omega)), e3, by omega⟩
    · have hk : k < B 0 2 := hk
      obtain ⟨F9, s9, e0, e1, e2, e3, e4⟩ := hN 2 k hs hk
      exact ⟨F9, s9, (hf _ (by omega) (by omega) (by omega) (by omega) (by omega)).trans e0, e1, e2.fr (fun j x y => hf j (by omega) (by omega) (by omega) (by omega) (by omega)), e3, by omega⟩
    · have hk : k < B 0 3 := hk
      obtain ⟨F9, s9, e0, e1, e2, e3, e4⟩ := hN 3 k hs hk
      exact ⟨F9, s9, (hf _ (by omega) (by omega) (by omega) (by omega) (by omega)).trans e0, e1, e2.fr (fun j x y => hf j (by omega) (by omega) (by omega) (by omega) (by omega)), e3, by omega⟩
theorem pSl_K {g g1 : gWM} {bb : Nat} {B : gBar} {a mi : Nat} (hw : wfB B) (hS : pSl g bb B) (hc4 : B 0 6 < 5) (hmi : mi < B 0 0) (ha : a ≤ 60) (hf : ∀ j, bb ≤ j → j < bb + 100 → j ≠ bb → j ≠ bb + 6 → j ≠ bb + 7 → g1 j = g j) : pSl g1 bb (bs (bs (bs B 24 (B 0 6) a) 23 (B 0 6) mi) 0 6 (B 0 6 + 1)) := by
  have hn := hw.1
  intro k hk
  obtain ⟨a1, a2, a3, a4, a5⟩ := hS k hk
  refine ⟨fun x => ?_, fun x => ?_, fun x => ?_, fun x => ?_, fun x => ?_⟩
  · have x : B 0 0 ≤ k := x
    exact (hf _ (by omega) (by omega) (by omega) (by omega) (by omega)).trans (a1 (by omega))
  · have x : B 0 1 ≤ k := x
    exact (hf _ (by omega) (by omega) (by omega) (by omega) (by omega)).trans (a2 (by omega))
  · have x : B 0 2 ≤ k := x
    exact (hf _ (by omega) (by omega) (by omega) (by omega) (by omega)).trans (a3 (by omega))
  · have x : B 0 3 ≤ k := x
    exact (hf _ (by omega) (by omega) (by omega) (by omega) (by omega)).trans (a4 (by omega))
  · have x : B 0 4 ≤ k := x
    exact (hf _ (by omega) (by omega) (by omega) (by omega) (by omega)).trans (a5 (by omega))
