/-! THE MODEL's PLAIN SIDE, fourteenth: what a line does to the barrier -/
set_option maxRecDepth 100000
set_option maxHeartbeats 1000000 in
theorem pMt_B {g g1 : gWM} {mb : Nat} {B : gBar} {Nm : zNm} {nl : List (Nat × Nat)} {a b : Nat} (hQ : pMt g mb B Nm nl) (hb : pMo g1 mb (bs (bs (bs B 0 7 a) 0 8 b) 0 9 1) nl) (hf : ∀ j, mb ≤ j → j < mb + 25 → j ≠ mb → g1 j = g j) : pMt g1 mb (bs (bs (bs B 0 7 a) 0 8 b) 0 9 1) Nm nl := by
  obtain ⟨-, ⟨⟨f1, p1, q1⟩, ⟨f2, p2, q2⟩, ⟨f3, p3, q3⟩, ⟨f4, p4, q4⟩, ⟨f5, p5, q5⟩, ⟨f6, p6, q6⟩, ⟨f7, p7, q7⟩, ⟨f8, p8, q8⟩, ⟨f9, p9, q9⟩, ⟨f10, p10, q10⟩, ⟨f11, p11, q11⟩, ⟨f12, p12, q12⟩, ⟨f13, p13, q13⟩, ⟨f14, p14, q14⟩, ⟨f15, p15, q15⟩, ⟨f16, p16, q16⟩, ⟨f17, p17, q17⟩, ⟨f18, p18, q18⟩, ⟨f19, p19, q19⟩, ⟨f20, p20, q20⟩, ⟨f21, p21, q21⟩⟩, hN0⟩ := hQ
  refine ⟨hb, ⟨⟨f1, (hf _ (by omega) (by omega) (by omega)).trans p1, q1⟩, ⟨f2, (hf _ (by omega) (by omega) (by omega)).trans p2, q2⟩, ⟨f3, (hf _ (by omega) (by omega) (by omega)).trans p3, q3⟩, ⟨f4, (hf _ (by omega) (by omega) (by omega)).trans p4, q4⟩, ⟨f5, (hf _ (by omega) (by omega) (by omega)).trans p5, q5⟩, ⟨f6, (hf _ (by omega) (by omega) (by omega)).trans p6, q6⟩, ⟨f7, (hf _ (by omega) (by omega) (by omega)).trans p7, q7⟩, ⟨f8, (hf _ (by omega) (by omega) (by omega)).trans p8, q8⟩, ⟨f9, (hf _ (by omega) (by omega) (by omega)).trans p9, q9⟩, ⟨f10, (hf _ (by omega) (by omega) (by omega)).trans p10, q10⟩, ⟨f11, (hf _ (by omega) (by omega) (by omega)).trans p11, q11⟩, ⟨f12, (hf _ (by omega) (by omega) (by omega)).trans p12, q12⟩, ⟨f13, (hf _ (by omega) (by omega) (by omega)).trans p13, q13⟩, ⟨f14, (hf _ (by omega) (by omega) (by omega)).trans p14, q14⟩, ⟨f15, (hf _ (by omega) (by omega) (by omega)).trans p15, q15⟩, ⟨f16, (hf _ (by omega) (by omega) (by omega)).trans p16, q16⟩, ⟨f17, (hf _ (by omega) (by omega) (by omega)).trans p17, q17⟩, ⟨f18, (hf _ (by omega) (by omega) (by omega)).trans p18, q18⟩, ⟨f19, (hf _ (by omega) (by omega) (by omega)).trans p19, q19⟩, ⟨f20, (hf _ (by omega) (by omega) (by omega)).trans p20, q20⟩, ⟨f21, (hf _ (by omega) (by omega) (by omega)).trans p21, q21⟩⟩, ?_⟩
  · obtain ⟨⟨f22, b1, b2⟩, ⟨f23, b3, b4⟩, f24, b5, b6⟩ := hN0
    exact ⟨⟨f22, (hf _ (by omega) (by omega) (by omega)).trans b1, b2⟩, ⟨f23, (hf _ (by omega) (by omega) (by omega)).trans b3, b4⟩, f24, (hf _ (by omega) (by omega) (by omega)).trans b5, b6⟩
set_option maxHeartbeats 1000000 in
theorem pMt_M {g g1 : gWM} {mb : Nat} {B : gBar} {Nm : zNm} {nl : List (Nat × Nat)} {Nm1 : zNm} {nl1 : List (Nat × Nat)} {a b c : Nat} (hQ : pMt g mb B Nm nl) (h6 : B 6 (B 0 0) = 0) (hb : pMo g1 mb (bs (bs (bs (bs B 1 (B 0 0) a) 2 (B 0 0) b) 3 (B 0 0) c) 0 0 (B 0 0 + 1)) nl1) (hN : pNl g1 mb Nm1 nl1) (hA1 : ∃ f, g1 (mb + 1) = some (.inl (0, 8, .inl f)) ∧ f (B 0 0) = nI a ∧ f (4 + B 0 0) = nI b ∧ ∀ k, k < B 0 0 → f k = nI (B 1 k) ∧ f (4 + k) = nI (B 2 k)) (hA2 : ∃ f, g1 (mb + 2) = some (.inl (0, 4, .inl f)) ∧ f (B 0 0) = (nI c) ∧ ∀ k, k < B 0 0 → f k = (nI (B 3 k))) (hA3 : ∃ f, g1 (mb + 3) = some (.inl (0, 4, .inl f)) ∧ f (B 0 0) = (-1) ∧ ∀ k, k < B 0 0 → f k = (if B 6 k = 0 then -1 else nI (B 4 k))) (hf : ∀ j, mb ≤ j → j < mb + 25 → j ≠ mb → j ≠ mb + 1 → j ≠ mb + 2 → j ≠ mb + 3 → j ≠ mb + 22 → j ≠ mb + 23 → j ≠ mb + 24 → g1 j = g j) : pMt g1 mb (bs (bs (bs (bs B 1 (B 0 0) a) 2 (B 0 0) b) 3 (B 0 0) c) 0 0 (B 0 0 + 1)) Nm1 nl1 := by
  obtain ⟨-, ⟨⟨f1, p1, q1⟩, ⟨f2, p2, q2⟩, ⟨f3, p3, q3⟩, ⟨f4, p4, q4⟩, ⟨f5, p5, q5⟩, ⟨f6, p6, q6⟩, ⟨f7, p7, q7⟩, ⟨f8, p8, q8⟩, ⟨f9, p9, q9⟩, ⟨f10, p10, q10⟩, ⟨f11, p11, q11⟩, ⟨f12, p12, q12⟩, ⟨f13, p13, q13⟩, ⟨f14, p14, q14⟩, ⟨f15, p15, q15⟩, ⟨f16, p16, q16⟩, ⟨f17, p17, q17⟩, ⟨f18, p18, q18⟩, ⟨f19, p19, q19⟩, ⟨f20, p20, q20⟩, ⟨f21, p21, q21⟩⟩, hN0⟩ := hQ
  obtain ⟨fA1, A1, A1b, A1c, A1d⟩ := hA1
  obtain ⟨fA2, A2, A2b, A2c⟩ := hA2
  obtain ⟨fA3, A3, A3b, A3c⟩ := hA3
  refine ⟨hb, ⟨⟨fA1, A1, fun k hk => ?_⟩, ⟨fA2, A2, fun k hk => ?_⟩, ⟨fA3, A3, fun k hk => ?_⟩, ⟨f4, (hf _ (by omega) (by omega) (by omega) (by omega) (by omega) (by omega) (by omega) (by omega) (by omega)).trans p4, q4⟩, ⟨f5, (hf _ (by omega) (by omega) (by omega) (by omega) (by omega) (by omega) (by omega) (by omega) (by omega)).trans p5, q5⟩, ⟨f6, (hf _ (by omega) (by omega) (by omega) (by omega) (by omega) (by omega) (by omega) (by omega) (by omega)).trans p6, q6⟩, ⟨f7, (hf _ (by omega) (by omega) (by omega) (by omega) (by omega) (by omega) (by omega) (by omega) (by omega)).trans p7, q7⟩, ⟨f8, (hf _ (by omega) (by omega) (by omega) (by omega) (by omega) (by omega) (by omega) (by omega) (by omega)).trans p8, q8⟩, ⟨f9, (hf _ (by omega) (by omega) (by omega) (by omega) (by omega) (by omega) (by omega) (by omega) (by omega)).trans p9, q9⟩, ⟨f10, (hf _ (by omega) (by omega) (by omega) (by omega) (by omega) (by omega) (by omega) (by omega) (by omega)).trans p10, q10⟩, ⟨f11, (hf _ (by omega) (by omega) (by omega) (by omega) (by omega) (by omega) (by omega) (by omega) (by omega)).trans p11, q11⟩, ⟨f12, (hf _ (by omega) (by omega) (by omega) (by omega) (by omega) (by omega) (by omega) (by omega) (by omega)).trans p12, q12⟩, ⟨f13, (hf _ (by omega) (by omega) (by omega) (by omega) (by omega) (by omega) (by omega) (by omega) (by omega)).trans p13, q13⟩, ⟨f14, (hf _ (by omega) (by omega) (by omega) (by omega) (by omega) (by omega) (by omega) (by omega) (by omega)).trans p14, q14⟩, ⟨f15, (hf _ (by omega) (by omega) (by omega) (by omega) (by omega) (by omega) (by omega) (by omega) (by omega)).trans p15, q15⟩, ⟨f16, (hf _ (by omega) (by omega) (by omega) (by omega) (by omega) (by omega) (by omega) (by omega) (by omega)).trans p16, q16⟩, ⟨f17, (hf _ (by omega) (by omega) (by omega) (by omega) (by omega) (by omega) (by omega) (by omega) (by omega)).trans p17, q17⟩, ⟨f18, (hf _ (by omega) (by omega) (by omega) (by omega) (by omega) (by omega) (by omega) (by omega) (by omega)).trans p18, q18⟩, ⟨f19, (hf _ (by omega) (by omega) (by omega) (by omega) (by omega) (by omega) (by omega) (by omega) (by omega)).trans p19, q19⟩, ⟨f20, (hf _ (by omega) (by omega) (by omega) (by omega) (by omega) (by omega) (by omega) (by omega) (by omega)).trans p20, q20⟩, ⟨f21, (hf _ (by omega) (by omega) (by omega) (by omega) (by omega) (by omega) (by omega) (by omega) (by omega)).trans p21, q21⟩⟩, hN⟩
  · by_cases hk0 : k = B 0 0
    · subst hk0
      exact ⟨A1b.trans (by simp [bs]), A1c.trans (by simp [bs])⟩
    · have hk : k < B 0 0 + 1 := hk
      obtain ⟨u, v⟩ := A1d k (by omega)
      exact ⟨u.trans (by simp [bs, hk0]), v.trans (by simp [bs, hk0])⟩
  · by_cases hk0 : k = B 0 0
    · subst hk0
      exact A2b.trans (by simp [bs])
    · have hk : k < B 0 0 + 1 := hk
      exact (A2c k (by omega)).trans (by simp [bs, hk0])
  · by_cases hk0 : k = B 0 0
    · subst hk0
      exact A3b.trans (by simp [bs, h6])
    · have hk : k < B 0 0 + 1 := hk
      exact (A3c k (by omega)).trans (by simp [bs, hk0])
set_option maxHeartbeats 1000000 in
theorem pMt_T {g g1 : gWM} {mb : Nat} {B : gBar} {Nm : zNm} {nl : List (Nat × Nat)} {Nm1 : zNm} {nl1 : List (Nat × Nat)} {a b : Nat} (hQ : pMt g mb B Nm nl) (hb : pMo g1 mb (bs (bs (bs B 7 (B 0 1) a) 8 (B 0 1) b) 0 1 (B 0 1 + 1)) nl1) (hN : pNl g1 mb Nm1 nl1) (hA5 : ∃ f, g1 (mb + 5) = some (.inl (0, 4, .inl f)) ∧ f (B 0 1) = (nI a) ∧ ∀ k, k < B 0 1 → f k = (nI (B 7 k))) (hA6 : ∃ f, g1 (mb + 6) = some (.inl (0, 4, .inl f)) ∧ f (B 0 1) = (nI b) ∧ ∀ k, k < B 0 1 → f k = (nI (B 8 k))) (hf : ∀ j, mb ≤ j → j < mb + 25 → j ≠ mb → j ≠ mb + 5 → j ≠ mb + 6 → j ≠ mb + 22 → j ≠ mb + 23 → j ≠ mb + 24 → g1 j = g j) : pMt g1 mb (bs (bs (bs B 7 (B 0 1) a) 8 (B 0 1) b) 0 1 (B 0 1 + 1)) Nm1 nl1 := by
  obtain ⟨-, ⟨⟨f1, p1, q1⟩, ⟨f2, p2, q2⟩, ⟨f3, p3, q3⟩, ⟨f4, p4, q4⟩, ⟨f5, p5, q5⟩, ⟨f6, p6, q6⟩, ⟨f7, p7, q7⟩, ⟨f8, p8, q8⟩, ⟨f9, p9, q9⟩, ⟨f10, p10, q10⟩, ⟨f11, p11, q11⟩, ⟨f12, p12, q12⟩, ⟨f13, p13, q13⟩, ⟨f14, p14, q14⟩, ⟨f15, p15, q15⟩, ⟨f16, p16, q16⟩, ⟨f17, p17, q17⟩, ⟨f18, p18, q18⟩, ⟨f19, p19, q19⟩, ⟨f20, p20, q20⟩, ⟨f21, p21, q21⟩⟩, hN0⟩ := hQ
  obtain ⟨fA5, A5, A5b, A5c⟩ := hA5
  obtain ⟨fA6, A6, A6b, A6c⟩ := hA6
  refine ⟨hb, ⟨⟨f1, (hf _ (by omega) (by omega) (by omega) (by omega) (by omega) (by omega) (by omega) (by omega)).trans p1, q1⟩, ⟨f2, (hf _ (by omega) (by omega) (by omega) (by omega) (by omega) (by omega) (by omega) (by omega)).trans p2, q2⟩, ⟨f3, (hf _ (by omega) (by omega) (by omega) (by omega) (by omega) (by omega) (by omega) (by omega)).trans p3, q3⟩, ⟨f4, (hf _ (by omega) (by omega) (by omega) (by omega) (by omega) (by omega) (by omega) (by omega)).trans p4, q4⟩, ⟨fA5, A5, fun k hk => ?_⟩, ⟨fA6, A6, fun k hk => ?_⟩, ⟨f7, (hf _ (by omega) (by omega) (by omega) (by omega) (by omega) (by omega) (by omega) (by omega)).trans p7, q7⟩, ⟨f8, (hf _ (by omega) (by omega) (by omega) (by omega) (by omega) (by omega) (by omega) (by omega)).trans p8, q8⟩, ⟨f9, (hf _ (by omega) (by omega) (by omega) (by omega) (by omega) (by omega) (by omega) (by omega)).trans p9, q9⟩, ⟨f10, (hf _ (by omega) (by omega) (by omega) (by omega) (by omega) (by omega) (by omega) (by omega)).trans p10, q10⟩, ⟨f11, (hf _ (by omega) (by omega) (by omega) (by omega) (by omega) (by omega) (by omega) (by omega)).trans p11, q11⟩, ⟨f12, (hf _ (by omega) (by omega) (by omega) (by omega) (by omega) (by omega) (by omega) (by omega)).trans p12, q12⟩, ⟨f13, (hf _ (by omega) (by omega) (by omega) (by omega) (by omega) (by omega) (by omega) (by omega)).trans p13, q13⟩, ⟨f14, (hf _ (by omega) (by omega) (by omega) (by omega) (by omega) (by omega) (by omega) (by omega)).trans p14, q14⟩, ⟨f15, (hf _ (by omega) (by omega) (by omega) (by omega) (by omega) (by omega) (by omega) (by omega)).trans p15, q15⟩, ⟨f16, (hf _ (by omega) (by omega) (by omega) (by omega) (by omega) (by omega) (by omega) (by omega)).trans p16, q16⟩, ⟨f17, (hf _ (by omega) (by omega) (by omega) (by omega) (by omega) (by omega) (by omega) (by omega)).trans p17, q17⟩, ⟨f18, (hf _ (by omega) (by omega) (by omega) (by omega) (by omega) (by omega) (by omega) (by omega)).trans p18, q18⟩, ⟨f19, (hf _ (by omega) (by omega) (by omega) (by omega) (by omega) (by omega) (by omega) (by omega)).trans p19, q19⟩, ⟨f20, (hf _ (by omega) (by omega) (by omega) (by omega) (by omega) (by omega) (by omega) (by omega)).trans p20, q20⟩, ⟨f21, (hf _ (by omega) (by omega) (by omega) (by omega) (by omega) (by omega) (by omega) (by omega)).trans p21, q21⟩⟩, hN⟩
  · by_cases hk0 : k = B 0 1
    · subst hk0
      exact A5b.trans (by simp [bs])
    · have hk : k < B 0 1 + 1 := hk
      exact (A5c k (by omega)).trans (by simp [bs, hk0])
  · by_cases hk0 : k = B 0 1
    · subst hk0
      exact A6b.trans (by simp [bs])
    · have hk : k < B 0 1 + 1 := hk
      exact (A6c k (by omega)).trans (by simp [bs, hk0])
set_option maxHeartbeats 1000000 in
theorem pMt_G {g g1 : gWM} {mb : Nat} {B : gBar} {Nm : zNm} {nl : List (Nat × Nat)} {Nm1 : zNm} {nl1 : List (Nat × Nat)} {a b c : Nat} (hQ : pMt g mb B Nm nl) (hb : pMo g1 mb (bs (bs (bs (bs B 9 (B 0 2) a) 10 (B 0 2) b) 11 (B 0 2) c) 0 2 (B 0 2 + 1)) nl1) (hN : pNl g1 mb Nm1 nl1) (hA7 : ∃ f, g1 (mb + 7) = some (.inl (0, 3, .inl f)) ∧ f (B 0 2) = (nI a) ∧ ∀ k, k < B 0 2 → f k = (nI (B 9 k))) (hA8 : ∃ f, g1 (mb + 8) = some (.inl (0, 3, .inl f)) ∧ f (B 0 2) = (nI b) ∧ ∀ k, k < B 0 2 → f k = (nI (B 10 k))) (hA9 : ∃ f, g1 (mb + 9) = some (.inl (0, 3, .inl f)) ∧ f (B 0 2) = (nI c) ∧ ∀ k, k < B 0 2 → f k = (nI (B 11 k))) (hf : ∀ j, mb ≤ j → j < mb + 25 → j ≠ mb → j ≠ mb + 7 → j ≠ mb + 8 → j ≠ mb + 9 → j ≠ mb + 22 → j ≠ mb + 23 → j ≠ mb + 24 → g1 j = g j) : pMt g1 mb (bs (bs (bs (bs B 9 (B 0 2) a) 10 (B 0 2) b) 11 (B 0 2) c) 0 2 (B 0 2 + 1)) Nm1 nl1 := by
  obtain ⟨-, ⟨⟨f1, p1, q1⟩, ⟨f2, p2, q2⟩, ⟨f3, p3, q3⟩, ⟨f4, p4, q4⟩, ⟨f5, p5, q5⟩, ⟨f6, p6, q6⟩, ⟨f7, p7, q7⟩, ⟨f8, p8, q8⟩, ⟨f9, p9, q9⟩, ⟨f10, p10, q10⟩, ⟨f11, p11, q11⟩, ⟨f12, p12, q12⟩, ⟨f13, p13, q13⟩, ⟨f14, p14, q14⟩, ⟨f15, p15, q15⟩, ⟨f16, p16, q16⟩, ⟨f17, p17, q17⟩, ⟨f18, p18, q18⟩, ⟨f19, p19, q19⟩, ⟨f20, p20, q20⟩, ⟨f21, p21, q21⟩⟩, hN0⟩ := hQ
  obtain ⟨fA7, A7, A7b, A7c⟩ := hA7
  obtain ⟨fA8, A8, A8b, A8c⟩ := hA8
  obtain ⟨fA9, A9, A9b, A9c⟩ := hA9
  refine ⟨hb, ⟨⟨f1, (hf _ (by omega) (by omega) (by omega) (by omega) (by omega) (by omega) (by omega) (by omega) (by omega)).trans p1, q1⟩, ⟨f2, (hf _ (by omega) (by omega) (by omega) (by omega) (by omega) (by omega) (by omega) (by omega) (by omega)).trans p2, q2⟩, ⟨f3, (hf _ (by omega) (by omega) (by omega) (by omega) (by omega) (by omega) (by omega) (by omega) (by omega)).trans p3, q3⟩, ⟨f4, (hf _ (by omega) (by omega) (by omega) (by omega) (by omega) (by omega) (by omega) (by omega) (by omega)).trans p4, q4⟩, ⟨f5, (hf _ (by omega) (by omega) (by omega) (by omega) (by omega) (by omega) (by omega) (by omega) (by omega)).trans p5, q5⟩, ⟨f6, (hf _ (by omega) (by omega) (by omega) (by omega) (by omega) (by omega) (by omega) (by omega) (by omega)).trans p6, q6⟩, ⟨fA7, A7, fun k hk => ?_⟩, ⟨fA8, A8, fun k hk => ?_⟩, ⟨fA9, A9, fun k hk => ?_⟩, ⟨f10, (hf _ (by omega) (by omega) (by omega) (by omega) (by omega) (by omega) (by omega) (by omega) (by omega)).trans p10, q10⟩, ⟨f11, (hf _ (by omega) (by omega) (by omega) (by omega) (by omega) (by omega) (by omega) (by omega) (by omega)).trans p11, q11⟩, ⟨f12, (hf _ (by omega) (by omega) (by omega) (by omega) (by omega) (by omega) (by omega) (by omega) (by omega)).trans p12, q12⟩, ⟨f13, (hf _ (by omega) (by omega) (by omega) (by omega) (by omega) (by omega) (by omega) (by omega) (by omega)).trans p13, q13⟩, ⟨f14, (hf _ (by omega) (by omega) (by omega) (by omega) (by omega) (by omega) (by omega) (by omega) (by omega)).trans p14, q14⟩, ⟨f15, (hf _ (by omega) (by omega) (by omega) (by omega) (by omega) (by omega) (by omega) (by omega) (by omega)).trans p15, q15⟩, ⟨f16, (hf _ (by omega) (by omega) (by omega) (by omega) (by omega) (by omega) (by omega) (by omega) (by omega)).trans p16, q16⟩, ⟨f17, (hf _ (by omega) (by omega) (by omega) (by omega) (by omega) (by omega) (by omega) (by omega) (by omega)).trans p17, q17⟩, ⟨f18, (hf _ (by omega) (by omega) (by omega) (by omega) (by omega) (by omega) (by omega) (by omega) (by omega)).trans p18, q18⟩, ⟨f19, (hf _ (by omega) (by omega) (by omega) (by omega) (by omega) (by omega) (by omega) (by omega) (by omega)).trans p19, q19⟩, ⟨f20, (hf _ (by omega) (by omega) (by omega) (by omega) (by omega) (by omega) (by omega) (by omega) (by omega)).trans p20, q20⟩, ⟨f21, (hf _ (by omega) (by omega) (by omega) (by omega) (by omega) (by omega) (by omega) (by omega) (by omega)).trans p21, q21⟩⟩, hN⟩
  · by_cases hk0 : k = B 0 2
    · subst hk0
      exact A7b.trans (by simp [bs])
    · have hk : k < B 0 2 + 1 := hk
      exact (A7c k (by omega)).trans (by simp [bs, hk0])
  · by_cases hk0 : k = B 0 2
    · subst hk0
      exact A8b.trans (by simp [bs])
    · have hk : k < B 0 2 + 1 := hk
      exact (A8c k (by omega)).trans (by simp [bs, hk0])
  · by_cases hk0 : k = B 0 2
    · subst hk0
      exact A9b.trans (by simp [bs])
    · have hk : k < B 0 2 + 1 := hk
      exact (A9c k (by omega)).trans (by simp [bs, hk0])
set_option maxHeartbeats 1000000 in
theorem pMt_O {g g1 : gWM} {mb : Nat} {B : gBar} {Nm : zNm} {nl : List (Nat × Nat)} {Nm1 : zNm} {nl1 : List (Nat × Nat)} {kd o9 mi a b c : Nat} (hQ : pMt g mb B Nm nl) (hb : pMo g1 mb (bs (bs (bs (bs (bs (bs (bs B 12 (B 0 3) kd) 14 (B 0 3) o9) 13 (B 0 3) mi) 15 (B 0 3) a) 16 (B 0 3) b) 17 (B 0 3) c) 0 3 (B 0 3 + 1)) nl1) (hN : pNl g1 mb Nm1 nl1) (hA10 : ∃ f, g1 (mb + 10) = some (.inl (0, 8, .inl f)) ∧ f (B 0 3) = (nI kd) ∧ ∀ k, k < B 0 3 → f k = (nI (B 12 k))) (hA11 : ∃ f, g1 (mb + 11) = some (.inl (0, 8, .inl f)) ∧ f (B 0 3) = (if kd = 0 then -2 else nI mi) ∧ ∀ k, k < B 0 3 → f k = (if B 12 k = 0 then -2 else nI (B 13 k))) (hA12 : ∃ f, g1 (mb + 12) = some (.inl (0, 8, .inl f)) ∧ f (B 0 3) = (nI o9) ∧ ∀ k, k < B 0 3 → f k = (nI (B 14 k))) (hA13 : ∃ f, g1 (mb + 13) = some (.inl (0, 8, .inl f)) ∧ f (B 0 3) = (nI a) ∧ ∀ k, k < B 0 3 → f k = (nI (B 15 k))) (hA14 : ∃ f, g1 (mb + 14) = some (.inl (0, 8, .inl f)) ∧ f (B 0 3) = (nI b) ∧ ∀ k, k < B 0 3 → f k = (nI (B 16 k))) (hA15 : ∃ f, g1 (mb + 15) = some (.inl (0, 8, .inl f)) ∧ f (B 0 3) = (nI c) ∧ ∀ k, k < B 0 3 → f k = (nI (B 17 k))) (hf : ∀ j, mb ≤ j → j < mb + 25 → j ≠ mb → j ≠ mb + 10 → j ≠ mb + 11 → j ≠ mb + 12 → j ≠ mb + 13 → j ≠ mb + 14 → j ≠ mb + 15 → j ≠ mb + 22 → j ≠ mb + 23 → j ≠ mb + 24 → g1 j = g j) : pMt g1 mb (bs (bs (bs (bs (bs (bs (bs B 12 (B 0 3) kd) 14 (B 0 3) o9) 13 (B 0 3) mi) 15 (B 0 3) a) 16 (B 0 3) b) 17 (B 0 3) c) 0 3 (B 0 3 + 1)) Nm1 nl1 := by
  obtain ⟨-, ⟨⟨f1, p1, q1⟩, ⟨f2, p2, q2⟩, ⟨f3, p3, q3⟩, ⟨f4, p4, q4⟩, ⟨f5, p5, q5⟩, ⟨f6, p6, q6⟩, ⟨f7, p7, q7⟩, ⟨f8, p8, q8⟩, ⟨f9, p9, q9⟩, ⟨f10, p10, q10⟩, ⟨f11, p11, q11⟩, ⟨f12, p12, q12⟩, ⟨f13, p13, q13⟩, ⟨f14, p14, q14⟩, ⟨f15, p15, q15⟩, ⟨f16, p16, q16⟩, ⟨f17, p17, q17⟩, ⟨f18, p18, q18⟩, ⟨f19, p19, q19⟩, ⟨f20, p20, q20⟩, ⟨f21, p21, q21⟩⟩, hN0⟩ := hQ
  obtain ⟨fA10, A10, A10b, A10c⟩ := hA10
  obtain ⟨fA11, A11, A11b, A11c⟩ := hA11
  obtain ⟨fA12, A12, A12b, A12c⟩ := hA12
  obtain ⟨fA13, A13, A13b, A13c⟩ := hA13
  obtain ⟨fA14, A14, A14b, A14c⟩ := hA14
  obtain ⟨fA15, A15, A15b, A15c⟩ := hA15
  refine ⟨hb, ⟨⟨f1, (hf _ (by omega) (by omega) (by omega) (by omega) (by omega) (by omega) (by omega) (by omega) (by omega) (by omega) (by omega) (by omega)).trans p1, q1⟩, ⟨f2, (hf _ (by omega) (by omega) (by omega) (by omega) (by omega) (by omega) (by omega) (by omega) (by omega) (by omega) (by omega) (by omega)).trans p2, q2⟩, ⟨f3, (hf _ (by omega) (by omega) (by omega) (by omega) (by omega) (by omega) (by omega) (by omega) (by omega) (by omega) (by omega) (by omega)).trans p3, q3⟩, ⟨f4, (hf _ (by omega) (by omega) (by omega) (by omega) (by omega) (by omega) (by omega) (by omega) (by omega) (by omega) (by omega) (by omega)).trans p4, q4⟩, ⟨f5, (hf _ (by omega) (by omega) (by omega) (by omega) (by omega) (by omega) (by omega) (by omega) (by omega) (by omega) (by omega) (by omega)).trans p5, q5⟩, ⟨f6, (hf _ (by omega) (by omega) (by omega) (by omega) (by omega) (by omega) (by omega) (by omega) (by omega) (by omega) (by omega) (by omega)).trans p6, q6⟩, ⟨f7, (hf _ (by omega) (by omega) (by omega) (by omega) (by omega) (by omega) (by omega) (by omega) (by omega) (by omega) (by omega) (by omega)).trans p7, q7⟩, ⟨f8, (hf _ (by omega) (by omega) (by omega) (by omega) (by omega) (by omega) (by omega) (by omega) (by omega) (by omega) (by omega) (by omega)).trans p8, q8⟩, ⟨f9, (hf _ (by omega) (by omega) (by omega) (by omega) (by omega) (by omega) (by omega) (by omega) (by omega) (by omega) (by omega) (by omega)).trans p9, q9⟩, ⟨fA10, A10, fun k hk => ?_⟩, ⟨fA11, A11, fun k hk => ?_⟩, ⟨fA12, A12, fun k hk => ?_⟩, ⟨fA13, A13, fun k hk => ?_⟩, ⟨fA14, A14, fun k hk => ?_⟩, ⟨fA15, A15, fun k hk => ?_⟩, ⟨f16, (hf _ (by omega) (by omega) (by omega) (by omega) (by omega) (by omega) (by omega) (by omega) (by omega) (by omega) (by omega) (by omega)).trans p16, q16⟩, ⟨f17, (hf _ (by omega) (by omega) (by omega) (by omega) (by omega) (by omega) (by omega) (by omega) (by omega) (by omega) (by omega) (by omega)).trans p17, q17⟩, ⟨f18, (hf _ (by omega) (by omega) (by omega) (by omega) (by omega) (by omega) (by omega) (by omega) (by omega) (by omega) (by omega) (by omega)).trans p18, q18⟩, ⟨f19, (hf _ (by omega) (by omega) (by omega) (by omega) (by omega) (by omega) (by omega) (by omega) (by omega) (by omega) (by omega) (by omega)).trans p19, q19⟩, ⟨f20, (hf _ (by omega) (by omega) (by omega) (by omega) (by omega) (by omega) (by omega) (by omega) (by omega) (by omega) (by omega) (by omega)).trans p20, q20⟩, ⟨f21, (hf _ (by omega) (by omega) (by omega) (by omega) (by omega) (by omega) (by omega) (by omega) (by omega) (by omega) (by omega) (by omega)).trans p21, q21⟩⟩, hN⟩
  · by_cases hk0 : k = B 0 3
    · subst hk0
      exact A10b.trans (by simp [bs])
    · have hk : k < B 0 3 + 1 := hk
      exact (A10c k (by omega)).trans (by simp [bs, hk0])
  · by_cases hk0 : k = B 0 3
    · subst hk0
      exact A11b.trans (by simp [bs])
    · have hk : k < B 0 3 + 1 := hk
      exact (A11c k (by omega)).trans (by simp [bs, hk0])
  · by_cases hk0 : k = B 0 3
    · subst hk0
      exact A12b.trans (by simp [bs])
    · have hk : k < B 0 3 + 1 := hk
      exact (A12c k (by omega)).trans (by simp [bs, hk0])
  · by_cases hk0 : k = B 0 3
    · subst hk0
      exact A13b.trans (by simp [bs])
    · have hk : k < B 0 3 + 1 := hk
      exact (A13c k (by omega)).trans (by simp [bs, hk0])
  · by_cases hk0 : k = B 0 3
    · subst hk0
      exact A14b.trans (by simp [bs])
    · have hk : k < B 0 3 + 1 := hk
      exact (A14c k (by omega)).trans (by simp [bs, hk0])
  · by_cases hk0 : k = B 0 3
    · subst hk0
      exact A15b.trans (by simp [bs])
    · have hk : k < B 0 3 + 1 := hk
      exact (A15c k (by omega)).trans (by simp [bs, hk0])
set_option maxHeartbeats 1000000 in
theorem pMt_H {g g1 : gWM} {mb : Nat} {B : gBar} {Nm : zNm} {nl : List (Nat × Nat)} {j9 : Nat} (hQ : pMt g mb B Nm nl) (hb : pMo g1 mb (bs B 18 j9 1) nl) (hf : ∀ j, mb ≤ j → j < mb + 25 → j ≠ mb → g1 j = g j) : pMt g1 mb (bs B 18 j9 1) Nm nl := by
  obtain ⟨-, ⟨⟨f1, p1, q1⟩, ⟨f2, p2, q2⟩, ⟨f3, p3, q3⟩, ⟨f4, p4, q4⟩, ⟨f5, p5, q5⟩, ⟨f6, p6, q6⟩, ⟨f7, p7, q7⟩, ⟨f8, p8, q8⟩, ⟨f9, p9, q9⟩, ⟨f10, p10, q10⟩, ⟨f11, p11, q11⟩, ⟨f12, p12, q12⟩, ⟨f13, p13, q13⟩, ⟨f14, p14, q14⟩, ⟨f15, p15, q15⟩, ⟨f16, p16, q16⟩, ⟨f17, p17, q17⟩, ⟨f18, p18, q18⟩, ⟨f19, p19, q19⟩, ⟨f20, p20, q20⟩, ⟨f21, p21, q21⟩⟩, hN0⟩ := hQ
  refine ⟨hb, ⟨⟨f1, (hf _ (by omega) (by omega) (by omega)).trans p1, q1⟩, ⟨f2, (hf _ (by omega) (by omega) (by omega)).trans p2, q2⟩, ⟨f3, (hf _ (by omega) (by omega) (by omega)).trans p3, q3⟩, ⟨f4, (hf _ (by omega) (by omega) (by omega)).trans p4, q4⟩, ⟨f5, (hf _ (by omega) (by omega) (by omega)).trans p5, q5⟩, ⟨f6, (hf _ (by omega) (by omega) (by omega)).trans p6, q6⟩, ⟨f7, (hf _ (by omega) (by omega) (by omega)).trans p7, q7⟩, ⟨f8, (hf _ (by omega) (by omega) (by omega)).trans p8, q8⟩, ⟨f9, (hf _ (by omega) (by omega) (by omega)).trans p9, q9⟩, ⟨f10, (hf _ (by omega) (by omega) (by omega)).trans p10, q10⟩, ⟨f11, (hf _ (by omega) (by omega) (by omega)).trans p11, q11⟩, ⟨f12, (hf _ (by omega) (by omega) (by omega)).trans p12, q12⟩, ⟨f13, (hf _ (by omega) (by omega) (by omega)).trans p13, q13⟩, ⟨f14, (hf _ (by omega) (by omega) (by omega)).trans p14, q14⟩, ⟨f15, (hf _ (by omega) (by omega) (by omega)).trans p15, q15⟩, ⟨f16, (hf _ (by omega) (by omega) (by omega)).trans p16, q16⟩, ⟨f17, (hf _ (by omega) (by omega) (by omega)).trans p17, q17⟩, ⟨f18, (hf _ (by omega) (by omega) (by omega)).trans p18, q18⟩, ⟨f19, (hf _ (by omega) (by omega) (by omega)).trans p19, q19⟩, ⟨f20, (hf _ (by omega) (by omega) (by omega)).trans p20, q20⟩, ⟨f21, (hf _ (by omega) (by omega) (by omega)).trans p21, q21⟩⟩, ?_⟩
  · obtain ⟨⟨f22, b1, b2⟩, ⟨f23, b3, b4⟩, f24, b5, b6⟩ := hN0
    exact ⟨⟨f22, (hf _ (by omega) (by omega) (by omega)).trans b1, b2⟩, ⟨f23, (hf _ (by omega) (by omega) (by omega)).trans b3, b4⟩, f24, (hf _ (by omega) (by omega) (by omega)).trans b5, b6⟩
set_option maxHeartbeats 1000000 in
theorem pMt_C {g g1 : gWM} {mb : Nat} {B : gBar} {Nm : zNm} {nl : List (Nat × Nat)} {o9 k9 a b : Nat} (hQ : pMt g mb B Nm nl) (hb : pMo g1 mb (bs (bs (bs (bs (bs B 19 (B 0 4) o9) 20 (B 0 4) k9) 21 (B 0 4) a) 22 (B 0 4) b) 0 4 (B 0 4 + 1)) nl) (hA16 : ∃ f, g1 (mb + 16) = some (.inl (0, 6, .inl f)) ∧ f (B 0 4) = (nI o9) ∧ ∀ k, k < B 0 4 → f k = (nI (B 19 k))) (hA17 : ∃ f, g1 (mb + 17) = some (.inl (0, 6, .inl f)) ∧ f (B 0 4) = (nI k9) ∧ ∀ k, k < B 0 4 → f k = (nI (B 20 k))) (hA18 : ∃ f, g1 (mb + 18) = some (.inl (0, 6, .inl f)) ∧ f (B 0 4) = (nI a) ∧ ∀ k, k < B 0 4 → f k = (nI (B 21 k))) (hA19 : ∃ f, g1 (mb + 19) = some (.inl (0, 6, .inl f)) ∧ f (B 0 4) = (nI b) ∧ ∀ k, k < B 0 4 → f k = (nI (B 22 k))) (hf : ∀ j, mb ≤ j → j < mb + 25 → j ≠ mb → j ≠ mb + 16 → j ≠ mb + 17 → j ≠ mb + 18 → j ≠ mb + 19 → g1 j = g j) : pMt g1 mb (bs (bs (bs (bs (bs B 19 (B 0 4) o9) 20 (B 0 4) k9) 21 (B 0 4) a) 22 (B 0 4) b) 0 4 (B 0 4 + 1)) Nm nl := by
  obtain ⟨-, ⟨⟨f1, p1, q1⟩, ⟨f2, p2, q2⟩, ⟨f3, p3, q3⟩, ⟨f4, p4, q4⟩, ⟨f5, p5, q5⟩, ⟨f6, p6, q6⟩, ⟨f7, p7, q7⟩, ⟨f8, p8, q8⟩, ⟨f9, p9, q9⟩, ⟨f10, p10, q10⟩, ⟨f11, p11, q11⟩, ⟨f12, p12, q12⟩, ⟨f13, p13, q13⟩, ⟨f14, p14, q14⟩, ⟨f15, p15, q15⟩, ⟨f16, p16, q16⟩, ⟨f17, p17, q17⟩, ⟨f18, p18, q18⟩, ⟨f19, p19, q19⟩, ⟨f20, p20, q20⟩, ⟨f21, p21, q21⟩⟩, hN0⟩ := hQ
  obtain ⟨fA16, A16, A16b, A16c⟩ := hA16
  obtain ⟨fA17, A17, A17b, A17c⟩ := hA17
  obtain ⟨fA18, A18, A18b, A18c⟩ := hA18
  obtain ⟨fA19, A19, A19b, A19c⟩ := hA19
  refine ⟨hb, ⟨⟨f1, (hf _ (by omega) (by omega) (by omega) (by omega) (by omega) (by omega) (by omega)).trans p1, q1⟩, ⟨f2, (hf _ (by omega) (by omega) (by omega) (by omega) (by omega) (by omega) (by omega)).trans p2, q2⟩, ⟨f3, (hf _ (by omega) (by omega) (by omega) (by omega) (by omega) (by omega) (by omega)).trans p3, q3⟩, ⟨f4, (hf _ (by omega) (by omega) (by omega) (by omega) (by omega) (by omega) (by omega)).trans p4, q4⟩, ⟨f5, (hf _ (by omega) (by omega) (by omega) (by omega) (by omega) (by omega) (by omega)).trans p5, q5⟩, ⟨f6, (hf _ (by omega) (by omega) (by omega) (by omega) (by omega) (by omega) (by omega)).trans p6, q6⟩, ⟨f7, (hf _ (by omega) (by omega) (by omega) (by omega) (by omega) (by omega) (by omega)).trans p7, q7⟩, ⟨f8, (hf _ (by omega) (by omega) (by omega) (by omega) (by omega) (by omega) (by omega)).trans p8, q8⟩, ⟨f9, (hf _ (by omega) (by omega) (by omega) (by omega) (by omega) (by omega) (by omega)).trans p9, q9⟩, ⟨f10, (hf _ (by omega) (by omega) (by omega) (by omega) (by omega) (by omega) (by omega)).trans p10, q10⟩, ⟨f11, (hf _ (by omega) (by omega) (by omega) (by omega) (by omega) (by omega) (by omega)).trans p11, q11⟩, ⟨f12, (hf _ (by omega) (by omega) (by omega) (by omega) (by omega) (by omega) (by omega)).trans p12, q12⟩, ⟨f13, (hf _ (by omega) (by omega) (by omega) (by omega) (by omega) (by omega) (by omega)).trans p13, q13⟩, ⟨f14, (hf _ (by omega) (by omega) (by omega) (by omega) (by omega) (by omega) (by omega)).trans p14, q14⟩, ⟨f15, (hf _ (by omega) (by omega) (by omega) (by omega) (by omega) (by omega) (by omega)).trans p15, q15⟩, ⟨fA16, A16, fun k hk => ?_⟩, ⟨fA17, A17, fun k hk => ?_⟩, ⟨fA18, A18, fun k hk => ?_⟩, ⟨fA19, A19, fun k hk => ?_⟩, ⟨f20, (hf _ (by omega) (by omega) (by omega) (by omega) (by omega) (by omega) (by omega)).trans p20, q20⟩, ⟨f21, (hf _ (by omega) (by omega) (by omega) (by omega) (by omega) (by omega) (by omega)).trans p21, q21⟩⟩, ?_⟩
  · by_cases hk0 : k = B 0 4
    · subst hk0
      exact A16b.trans (by simp [bs])
    · have hk : k < B 0 4 + 1 := hk
      exact (A16c k (by omega)).trans (by simp [bs, hk0])
  · by_cases hk0 : k = B 0 4
    · subst hk0
      exact A17b.trans (by simp [bs])
    · have hk : k < B 0 4 + 1 := hk
      exact (A17c k (by omega)).trans (by simp [bs, hk0])
  · by_cases hk0 : k = B 0 4
    · subst hk0
      exact A18b.trans (by simp [bs])
    · have hk : k < B 0 4 + 1 := hk
      exact (A18c k (by omega)).trans (by simp [bs, hk0])
  · by_cases hk0 : k = B 0 4
    · subst hk0
      exact A19b.trans (by simp [bs])
    · have hk : k < B 0 4 + 1 := hk
      exact (A19c k (by omega)).trans (by simp [bs, hk0])
  · obtain ⟨⟨f22, b1, b2⟩, ⟨f23, b3, b4⟩, f24, b5, b6⟩ := hN0
    exact ⟨⟨f22, (hf _ (by omega) (by omega) (by omega) (by omega) (by omega) (by omega) (by omega)).trans b1, b2⟩, ⟨f23, (hf _ (by omega) (by omega) (by omega) (by omega) (by omega) (by omega) (by omega)).trans b3, b4⟩, f24, (hf _ (by omega) (by omega) (by omega) (by omega) (by omega) (by omega) (by omega)).trans b5, b6⟩
set_option maxHeartbeats 1000000 in
theorem pMt_P {g g1 : gWM} {mb : Nat} {B : gBar} {Nm : zNm} {nl : List (Nat × Nat)} {i9 a b : Nat} (hQ : pMt g mb B Nm nl) (hb : pMo g1 mb (bs (bs (bs (bs B 4 i9 a) 5 i9 b) 6 i9 1) 0 5 (B 0 5 + 1)) nl) (hA3 : ∃ f, g1 (mb + 3) = some (.inl (0, 4, .inl f)) ∧ f (i9) = (nI a) ∧ ∀ k, k < B 0 0 → k ≠ i9 → f k = (if B 6 k = 0 then -1 else nI (B 4 k))) (hA4 : ∃ f, g1 (mb + 4) = some (.inl (0, 4, .inl f)) ∧ f (i9) = (nI b) ∧ ∀ k, k < 4 → k ≠ i9 → f k = (nI (B 5 k))) (hf : ∀ j, mb ≤ j → j < mb + 25 → j ≠ mb → j ≠ mb + 3 → j ≠ mb + 4 → g1 j = g j) : pMt g1 mb (bs (bs (bs (bs B 4 i9 a) 5 i9 b) 6 i9 1) 0 5 (B 0 5 + 1)) Nm nl := by
  obtain ⟨-, ⟨⟨f1, p1, q1⟩, ⟨f2, p2, q2⟩, ⟨f3, p3, q3⟩, ⟨f4, p4, q4⟩, ⟨f5, p5, q5⟩, ⟨f6, p6, q6⟩, ⟨f7, p7, q7⟩, ⟨f8, p8, q8⟩, ⟨f9, p9, q9⟩, ⟨f10, p10, q10⟩, ⟨f11, p11, q11⟩, ⟨f12, p12, q12⟩, ⟨f13, p13, q13⟩, ⟨f14, p14, q14⟩, ⟨f15, p15, q15⟩, ⟨f16, p16, q16⟩, ⟨f17, p17, q17⟩, ⟨f18, p18, q18⟩, ⟨f19, p19, q19⟩, ⟨f20, p20, q20⟩, ⟨f21, p21, q21⟩⟩, hN0⟩ := hQ
  obtain ⟨fA3, A3, A3b, A3c⟩ := hA3
  obtain ⟨fA4, A4, A4b, A4c⟩ := hA4
  refine ⟨hb, ⟨⟨f1, (hf _ (by omega) (by omega) (by omega) (by omega) (by omega)).trans p1, q1⟩, ⟨f2, (hf _ (by omega) (by omega) (by omega) (by omega) (by omega)).trans p2, q2⟩, ⟨fA3, A3, fun k hk => ?_⟩, ⟨fA4, A4, fun k hk => ?_⟩, ⟨f5, (hf _ (by omega) (by omega) (by omega) (by omega) (by omega)).trans p5, q5⟩, ⟨f6, (hf _ (by omega) (by omega) (by omega) (by omega) (by omega)).trans p6, q6⟩, ⟨f7, (hf _ (by omega) (by omega) (by omega) (by omega) (by omega)).trans p7, q7⟩, ⟨f8, (hf _ (by omega) (by omega) (by omega) (by omega) (by omega)).trans p8, q8⟩, ⟨f9, (hf _ (by omega) (by omega) (by omega) (by omega) (by omega)).trans p9, q9⟩, ⟨f10, (hf _ (by omega) (by omega) (by omega) (by omega) (by omega)).trans p10, q10⟩, ⟨f11, (hf _ (by omega) (by omega) (by omega) (by omega) (by omega)).trans p11, q11⟩, ⟨f12, (hf _ (by omega) (by omega) (by omega) (by omega) (by omega)).trans p12, q12⟩, ⟨f13, (hf _ (by omega) (by omega) (by omega) (by omega) (by omega)).trans p13, q13⟩, ⟨f14, (hf _ (by omega) (by omega) (by omega) (by omega) (by omega)).trans p14, q14⟩, ⟨f15, (hf _ (by omega) (by omega) (by omega) (by omega) (by omega)).trans p15, q15⟩, ⟨f16, (hf _ (by omega) (by omega) (by omega) (by omega) (by omega)).trans p16, q16⟩, ⟨f17, (hf _ (by omega) (by omega) (by omega) (by omega) (by omega)).trans p17, q17⟩, ⟨f18, (hf _ (by omega) (by omega) (by omega) (by omega) (by omega)).trans p18, q18⟩, ⟨f19, (hf _ (by omega) (by omega) (by omega) (by omega) (by omega)).trans p19, q19⟩, ⟨f20, (hf _ (by omega) (by omega) (by omega) (by omega) (by omega)).trans p20, q20⟩, ⟨f21, (hf _ (by omega) (by omega) (by omega) (by omega) (by omega)).trans p21, q21⟩⟩, ?_⟩
  · by_cases hk0 : k = i9
    · subst hk0
      exact A3b.trans (by simp [bs])
    · exact (A3c k hk hk0).trans (by simp [bs, hk0])
  · by_cases hk0 : k = i9
    · subst hk0
      exact A4b.trans (by simp [bs])
    · exact (A4c k hk hk0).trans (by simp [bs, hk0])
  · obtain ⟨⟨f22, b1, b2⟩, ⟨f23, b3, b4⟩, f24, b5, b6⟩ := hN0
    exact ⟨⟨f22, (hf _ (by omega) (by omega) (by omega) (by omega) (by omega)).trans b1, b2⟩, ⟨f23, (hf _ (by omega) (by omega) (by omega) (by omega) (by omega)).trans b3, b4⟩, f24, (hf _ (by omega) (by omega) (by omega) (by omega) (by omega)).trans b5, b6⟩
set_option maxHeartbeats 1000000 in
theorem pMt_K {g g1 : gWM} {mb : Nat} {B : gBar} {Nm : zNm} {nl : List (Nat × Nat)} {a mi : Nat} (hQ : pMt g mb B Nm nl) (hb : pMo g1 mb (bs (bs (bs B 24 (B 0 6) a) 23 (B 0 6) mi) 0 6 (B 0 6 + 1)) nl) (hA20 : ∃ f, g1 (mb + 20) = some (.inl (0, 5, .inl f)) ∧ f (B 0 6) = (nI mi) ∧ ∀ k, k < B 0 6 → f k = (nI (B 23 k))) (hA21 : ∃ f, g1 (mb + 21) = some (.inl (0, 5, .inl f)) ∧ f (B 0 6) = (nI a) ∧ ∀ k, k < B 0 6 → f k = (nI (B 24 k))) (hf : ∀ j, mb ≤ j → j < mb + 25 → j ≠ mb → j ≠ mb + 20 → j ≠ mb + 21 → g1 j = g j) : pMt g1 mb (bs (bs (bs B 24 (B 0 6) a) 23 (B 0 6) mi) 0 6 (B 0 6 + 1)) Nm nl := by
  obtain ⟨-, ⟨⟨f1, p1, q1⟩, ⟨f2, p2, q2⟩, ⟨f3, p3, q3⟩, ⟨f4, p4, q4⟩, ⟨f5, p5, q5⟩, ⟨f6, p6, q6⟩, ⟨f7, p7, q7⟩, ⟨f8, p8, q8⟩, ⟨f9, p9, q9⟩, ⟨f10, p10, q10⟩, ⟨f11, p11, q11⟩, ⟨f12, p12, q12⟩, ⟨f13, p13, q13⟩, ⟨f14, p14, q14⟩, ⟨f15, p15, q15⟩, ⟨f16, p16, q16⟩, ⟨f17, p17, q17⟩, ⟨f18, p18, q18⟩, ⟨f19, p19, q19⟩, ⟨f20, p20, q20⟩, ⟨f21, p21, q21⟩⟩, hN0⟩ := hQ
  obtain ⟨fA20, A20, A20b, A20c⟩ := hA20
  obtain ⟨fA21, A21, A21b, A21c⟩ := hA21
  refine ⟨hb, ⟨⟨f1, (hf _ (by omega) (by omega) (by omega) (by omega) (by omega)).trans p1, q1⟩, ⟨f2, (hf _ (by omega) (by omega) (by omega) (by omega) (by omega)).trans p2, q2⟩, ⟨f3, (hf _ (by omega) (by omega) (by omega) (by omega) (by omega)).trans p3, q3⟩, ⟨f4, (hf _ (by omega) (by omega) (by omega) (by omega) (by omega)).trans p4, q4⟩, ⟨f5, (hf _ (by omega) (by omega) (by omega) (by omega) (by omega)).trans p5, q5⟩, ⟨f6, (hf _ (by omega) (by omega) (by omega) (by omega) (by omega)).trans p6, q6⟩, ⟨f7, (hf _ (by omega) (by omega) (by omega) (by omega) (by omega)).trans p7, q7⟩, ⟨f8, (hf _ (by omega) (by omega) (by omega) (by omega) (by omega)).trans p8, q8⟩, ⟨f9, (hf _ (by omega) (by omega) (by omega) (by omega) (by omega)).trans p9, q9⟩, ⟨f10, (hf _ (by omega) (by omega) (by omega) (by omega) (by omega)).trans p10, q10⟩, ⟨f11, (hf _ (by omega) (by omega) (by omega) (by omega) (by omega)).trans p11, q11⟩, ⟨f12, (hf _ (by omega) (by omega) (by omega) (by omega) (by omega)).trans p12, q12⟩, ⟨f13, (hf _ (by omega) (by omega) (by omega) (by omega) (by omega)).trans p13, q13⟩, ⟨f14, (hf _ (by omega) (by omega) (by omega) (by omega) (by omega)).trans p14, q14⟩, ⟨f15, (hf _ (by omega) (by omega) (by omega) (by omega) (by omega)).trans p15, q15⟩, ⟨f16, (hf _ (by omega) (by omega) (by omega) (by omega) (by omega)).trans p16, q16⟩, ⟨f17, (hf _ (by omega) (by omega) (by omega) (by omega) (by omega)).trans p17, q17⟩, ⟨f18, (hf _ (by omega) (by omega) (by omega) (by omega) (by omega)).trans p18, q18⟩, ⟨f19, (hf _ (by omega) (by omega) (by omega) (by omega) (by omega)).trans p19, q19⟩, ⟨fA20, A20, fun k hk => ?_⟩, ⟨fA21, A21, fun k hk => ?_⟩⟩, ?_⟩
  · by_cases hk0 : k = B 0 6
    · subst hk0
      exact A20b.trans (by simp [bs])
    · have hk : k < B 0 6 + 1 := hk
      exact (A20c k (by omega)).trans (by simp [bs, hk0])
  · by_cases hk0 : k = B 0 6
    · subst hk0
      exact A21b.trans (by simp [bs])
    · have hk : k < B 0 6 + 1 := hk
      exact (A21c k (by omega)).trans (by simp [bs, hk0])
  · obtain ⟨⟨f22, b1, b2⟩, ⟨f23, b3, b4⟩, f24, b5, b6⟩ := hN0
    exact ⟨⟨f22, (hf _ (by omega) (by omega) (by omega) (by omega) (by omega)).trans b1, b2⟩, ⟨f23, (hf _ (by omega) (by omega) (by omega) (by omega) (by omega)).trans b3, b4⟩, f24, (hf _ (by omega) (by omega) (by omega) (by omega) (by omega)).trans b5, b6⟩
