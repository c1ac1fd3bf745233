/-! THE MODEL's PLAIN SIDE, twelfth: a line's reads, folded -/
set_option maxRecDepth 100000
theorem zSt_inr {α : Type} {y : zEr (α × zTk)} {t : zTk} (h : zSt y = .inr t) : ∃ a, y = .inr a ∧ a.2 = t := by
  cases y with
  | inl e => cases h
  | inr a => exact ⟨a, rfl, Sum.inr.inj h⟩
theorem zSt_r {α : Type} {y : zEr (α × zTk)} {a : α × zTk} (h : y = .inr a) : zSt y = .inr a.2 := by rw [h]; rfl
theorem zSt_l {α : Type} {y : zEr (α × zTk)} {e : Nat × Nat} (h : y = .inl e) : zSt y = .inl e := by rw [h]; rfl
section
variable {T : Nat → Int32} {n : Nat} {B : gBar} {Nm : zNm} {x : zEr zTk}
/-- the barrier's own line: is it told again? -/
def zF1 (T : Nat → Int32) (n : Nat) (B : gBar) (t : zTk) : zEr zTk := if B 0 9 = 1 then .inl (3, t.2.2.1) else .inr (zTn T n t.1)
theorem zF1_y (h : B 0 9 = 1) : xGo T n (xFl 3 x) = zBd x (zF1 T n B) := by
  cases x with
  | inl e => rfl
  | inr t => exact (if_pos h).symm
theorem zF1_n (h : ¬ B 0 9 = 1) : xGo T n x = zBd x (zF1 T n B) := by
  cases x with
  | inl e => rfl
  | inr t => exact (if_neg h).symm
theorem zLB_9 {t : zTk} : zLB T n (t, B, Nm) = zBd (zF1 T n B t) fun t1 => zBd (zAf T n (gByt "fee") 0 9 t1) fun a => zBd (zAf T n (gByt "interest") 0 50 a.2) fun b => .inr (b.2, bs (bs (bs B 0 7 a.1) 0 8 b.1) 0 9 1, Nm) := by
  unfold zLB zF1
  by_cases h : B 0 9 = 1
  · rw [if_pos h, if_pos h]; rfl
  · rw [if_neg h, if_neg h]; rfl
theorem fold_M_l {x1 : zEr zTk} {x2 : zEr zTk} {x3 : zEr zTk} {x4 : zEr zTk} {x5 : zEr zTk} {y2 : zEr (List Int32 × zTk)} {y3 : zEr (Nat × zTk)} {y4 : zEr (Nat × zTk)} {y5 : zEr (Nat × zTk)} (h1 : x1 = zBd x (zBg T n B (decide (B 0 0 < 4)))) (h2 : y2 = zBd x1 (zNw T n B Nm)) (g2 : x2 = zSt y2) (h3 : y3 = zBd x2 (zAf T n (gByt "rate") 0 9)) (g3 : x3 = zSt y3) (h4 : y4 = zBd x3 (zAf T n (gByt "or") 0 9)) (g4 : x4 = zSt y4) (h5 : y5 = zBd x4 (zAf T n (gByt "keeps") 1 300)) (g5 : x5 = zSt y5) {e : Nat × Nat} (he : x5 = .inl e) : (zBd x fun t => zLM T n (t, B, Nm)) = .inl e := by
  cases x with
  | inl e0 =>
    have p : (.inl e0 : zEr zTk) = .inl e0 := rfl
    have p : x1 = .inl e0 := by rw [h1, p]; rfl
    have p : y2 = .inl e0 := by rw [h2, p]; rfl
    have p : x2 = .inl e0 := by rw [g2]; exact zSt_l p
    have p : y3 = .inl e0 := by rw [h3, p]; rfl
    have p : x3 = .inl e0 := by rw [g3]; exact zSt_l p
    have p : y4 = .inl e0 := by rw [h4, p]; rfl
    have p : x4 = .inl e0 := by rw [g4]; exact zSt_l p
    have p : y5 = .inl e0 := by rw [h5, p]; rfl
    have p : x5 = .inl e0 := by rw [g5]; exact zSt_l p
    rw [p] at he
    cases he
    rfl
  | inr t0 =>
    cases e1 : zBg T n B (decide (B 0 0 < 4)) t0 with
    | inl e9 =>
      have p : x1 = .inl e9 := by rw [h1]; exact e1
      have p : y2 = .inl e9 := by rw [h2, p]; rfl
      have p : x2 = .inl e9 := by rw [g2]; exact zSt_l p
      have p : y3 = .inl e9 := by rw [h3, p]; rfl
      have p : x3 = .inl e9 := by rw [g3]; exact zSt_l p
      have p : y4 = .inl e9 := by rw [h4, p]; rfl
      have p : x4 = .inl e9 := by rw [g4]; exact zSt_l p
      have p : y5 = .inl e9 := by rw [h5, p]; rfl
      have p : x5 = .inl e9 := by rw [g5]; exact zSt_l p
      rw [p] at he
      cases he
      show zLM T n (t0, B, Nm) = _
      unfold zLM
      rw [zBd_l e1]
    | inr a1 =>
      have q1 : x1 = .inr a1 := by rw [h1]; exact e1
      cases e2 : zNw T n B Nm a1 with
      | inl e9 =>
        have p : y2 = .inl e9 := by rw [h2, q1]; exact e2
        have p : x2 = .inl e9 := by rw [g2]; exact zSt_l p
        have p : y3 = .inl e9 := by rw [h3, p]; rfl
        have p : x3 = .inl e9 := by rw [g3]; exact zSt_l p
        have p : y4 = .inl e9 := by rw [h4, p]; rfl
        have p : x4 = .inl e9 := by rw [g4]; exact zSt_l p
        have p : y5 = .inl e9 := by rw [h5, p]; rfl
        have p : x5 = .inl e9 := by rw [g5]; exact zSt_l p
        rw [p] at he
        cases he
        show zLM T n (t0, B, Nm) = _
        unfold zLM
        rw [zBd_r e1, zBd_l e2]
      | inr a2 =>
        have r2 : y2 = .inr a2 := by rw [h2, q1]; exact e2
        have q2 : x2 = .inr a2.2 := by rw [g2]; exact zSt_r r2
        cases e3 : zAf T n (gByt "rate") 0 9 a2.2 with
        | inl e9 =>
          have p : y3 = .inl e9 := by rw [h3, q2]; exact e3
          have p : x3 = .inl e9 := by rw [g3]; exact zSt_l p
          have p : y4 = .inl e9 := by rw [h4, p]; rfl
          have p : x4 = .inl e9 := by rw [g4]; exact zSt_l p
          have p : y5 = .inl e9 := by rw [h5, p]; rfl
          have p : x5 = .inl e9 := by rw [g5]; exact zSt_l p
          rw [p] at he
          cases he
          show zLM T n (t0, B, Nm) = _
          unfold zLM
          rw [zBd_r e1, zBd_r e2, zBd_l e3]
        | inr a3 =>
          have r3 : y3 = .inr a3 := by rw [h3, q2]; exact e3
          have q3 : x3 = .inr a3.2 := by rw [g3]; exact zSt_r r3
          cases e4 : zAf T n (gByt "or") 0 9 a3.2 with
          | inl e9 =>
            have p : y4 = .inl e9 := by rw [h4, q3]; exact e4
            have p : x4 = .inl e9 := by rw [g4]; exact zSt_l p
            have p : y5 = .inl e9 := by rw [h5, p]; rfl
            have p : x5 = .inl e9 := by rw [g5]; exact zSt_l p
            rw [p] at he
            cases he
            show zLM T n (t0, B, Nm) = _
            unfold zLM
            rw [zBd_r e1, zBd_r e2, zBd_r e3, zBd_l e4]
          | inr a4 =>
            have r4 : y4 = .inr a4 := by rw [h4, q3]; exact e4
            have q4 : x4 = .inr a4.2 := by rw [g4]; exact zSt_r r4
            cases e5 : zAf T n (gByt "keeps") 1 300 a4.2 with
            | inl e9 =>
              have p : y5 = .inl e9 := by rw [h5, q4]; exact e5
              have p : x5 = .inl e9 := by rw [g5]; exact zSt_l p
              rw [p] at he
              cases he
              show zLM T n (t0, B, Nm) = _
              unfold zLM
              rw [zBd_r e1, zBd_r e2, zBd_r e3, zBd_r e4, zBd_l e5]
            | inr a5 =>
              have r5 : y5 = .inr a5 := by rw [h5, q4]; exact e5
              have q5 : x5 = .inr a5.2 := by rw [g5]; exact zSt_r r5
              rw [q5] at he
              cases he
theorem fold_M_r {x1 : zEr zTk} {x2 : zEr zTk} {x3 : zEr zTk} {x4 : zEr zTk} {x5 : zEr zTk} {y2 : zEr (List Int32 × zTk)} {y3 : zEr (Nat × zTk)} {y4 : zEr (Nat × zTk)} {y5 : zEr (Nat × zTk)} (h1 : x1 = zBd x (zBg T n B (decide (B 0 0 < 4)))) (h2 : y2 = zBd x1 (zNw T n B Nm)) (g2 : x2 = zSt y2) (h3 : y3 = zBd x2 (zAf T n (gByt "rate") 0 9)) (g3 : x3 = zSt y3) (h4 : y4 = zBd x3 (zAf T n (gByt "or") 0 9)) (g4 : x4 = zSt y4) (h5 : y5 = zBd x4 (zAf T n (gByt "keeps") 1 300)) (g5 : x5 = zSt y5) {t9 : zTk} (he : x5 = .inr t9) : ∃ (a2 : List Int32 × zTk) (a3 : Nat × zTk) (a4 : Nat × zTk) (a5 : Nat × zTk), y2 = .inr a2 ∧ y3 = .inr a3 ∧ y4 = .inr a4 ∧ (zBd x fun t => zLM T n (t, B, Nm)) = .inr (t9, bs (bs (bs (bs B 1 (B 0 0) a3.1) 2 (B 0 0) a4.1) 3 (B 0 0) a5.1) 0 0 (B 0 0 + 1), ns Nm 0 (B 0 0) a2.1) ∧ y5 = .inr a5 := by
  obtain ⟨a5, r5, rfl⟩ := zSt_inr (g5.symm.trans he)
  obtain ⟨t5, s5, e5⟩ := zBd_inr (h5.symm.trans r5)
  obtain ⟨a4, r4, rfl⟩ := zSt_inr (g4.symm.trans s5)
  obtain ⟨t4, s4, e4⟩ := zBd_inr (h4.symm.trans r4)
  obtain ⟨a3, r3, rfl⟩ := zSt_inr (g3.symm.trans s4)
  obtain ⟨t3, s3, e3⟩ := zBd_inr (h3.symm.trans r3)
  obtain ⟨a2, r2, rfl⟩ := zSt_inr (g2.symm.trans s3)
  obtain ⟨t2, s2, e2⟩ := zBd_inr (h2.symm.trans r2)
  obtain ⟨t1, s1, e1⟩ := zBd_inr (h1.symm.trans s2)
  refine ⟨a2, a3, a4, a5, r2, r3, r4, ?_, r5⟩
  rw [s1]
  show zLM T n (t1, B, Nm) = _
  unfold zLM
  rw [zBd_r e1, zBd_r e2, zBd_r e3, zBd_r e4, zBd_r e5]
theorem fold_T_l {x1 : zEr zTk} {x2 : zEr zTk} {x3 : zEr zTk} {x4 : zEr zTk} {y2 : zEr (List Int32 × zTk)} {y3 : zEr (Nat × zTk)} {y4 : zEr (Nat × zTk)} (h1 : x1 = zBd x (zBg T n B (decide (B 0 1 < 4)))) (h2 : y2 = zBd x1 (zNw T n B Nm)) (g2 : x2 = zSt y2) (h3 : y3 = zBd x2 (zAf T n (gByt "allow") 0 99)) (g3 : x3 = zSt y3) (h4 : y4 = zBd x3 (zAf T n (gByt "hunger") 0 3)) (g4 : x4 = zSt y4) {e : Nat × Nat} (he : x4 = .inl e) : (zBd x fun t => zLT T n (t, B, Nm)) = .inl e := by
  cases x with
  | inl e0 =>
    have p : (.inl e0 : zEr zTk) = .inl e0 := rfl
    have p : x1 = .inl e0 := by rw [h1, p]; rfl
    have p : y2 = .inl e0 := by rw [h2, p]; rfl
    have p : x2 = .inl e0 := by rw [g2]; exact zSt_l p
    have p : y3 = .inl e0 := by rw [h3, p]; rfl
    have p : x3 = .inl e0 := by rw [g3]; exact zSt_l p
    have p : y4 = .inl e0 := by rw [h4, p]; rfl
    have p : x4 = .inl e0 := by rw [g4]; exact zSt_l p
    rw [p] at he
    cases he
    rfl
  | inr t0 =>
    cases e1 : zBg T n B (decide (B 0 1 < 4)) t0 with
    | inl e9 =>
      have p : x1 = .inl e9 := by rw [h1]; exact e1
      have p : y2 = .inl e9 := by rw [h2, p]; rfl
      have p : x2 = .inl e9 := by rw [g2]; exact zSt_l p
      have p : y3 = .inl e9 := by rw [h3, p]; rfl
      have p : x3 = .inl e9 := by rw [g3]; exact zSt_l p
      have p : y4 = .inl e9 := by rw [h4, p]; rfl
      have p : x4 = .inl e9 := by rw [g4]; exact zSt_l p
      rw [p] at he
      cases he
      show zLT T n (t0, B, Nm) = _
      unfold zLT
      rw [zBd_l e1]
    | inr a1 =>
      have q1 : x1 = .inr a1 := by rw [h1]; exact e1
      cases e2 : zNw T n B Nm a1 with
      | inl e9 =>
        have p : y2 = .inl e9 := by rw [h2, q1]; exact e2
        have p : x2 = .inl e9 := by rw [g2]; exact zSt_l p
        have p : y3 = .inl e9 := by rw [h3, p]; rfl
        have p : x3 = .inl e9 := by rw [g3]; exact zSt_l p
        have p : y4 = .inl e9 := by rw [h4, p]; rfl
        have p : x4 = .inl e9 := by rw [g4]; exact zSt_l p
        rw [p] at he
        cases he
        show zLT T n (t0, B, Nm) = _
        unfold zLT
        rw [zBd_r e1, zBd_l e2]
      | inr a2 =>
        have r2 : y2 = .inr a2 := by rw [h2, q1]; exact e2
        have q2 : x2 = .inr a2.2 := by rw [g2]; exact zSt_r r2
        cases e3 : zAf T n (gByt "allow") 0 99 a2.2 with
        | inl e9 =>
          have p : y3 = .inl e9 := by rw [h3, q2]; exact e3
          have p : x3 = .inl e9 := by rw [g3]; exact zSt_l p
          have p : y4 = .inl e9 := by rw [h4, p]; rfl
          have p : x4 = .inl e9 := by rw [g4]; exact zSt_l p
          rw [p] at he
          cases he
          show zLT T n (t0, B, Nm) = _
          unfold zLT
          rw [zBd_r e1, zBd_r e2, zBd_l e3]
        | inr a3 =>
          have r3 : y3 = .inr a3 := by rw [h3, q2]; exact e3
          have q3 : x3 = .inr a3.2 := by rw [g3]; exact zSt_r r3
          cases e4 : zAf T n (gByt "hunger") 0 3 a3.2 with
          | inl e9 =>
            have p : y4 = .inl e9 := by rw [h4, q3]; exact e4
            have p : x4 = .inl e9 := by rw [g4]; exact zSt_l p
            rw [p] at he
            cases he
            show zLT T n (t0, B, Nm) = _
            unfold zLT
            rw [zBd_r e1, zBd_r e2, zBd_r e3, zBd_l e4]
          | inr a4 =>
            have r4 : y4 = .inr a4 := by rw [h4, q3]; exact e4
            have q4 : x4 = .inr a4.2 := by rw [g4]; exact zSt_r r4
            rw [q4] at he
            cases he
theorem fold_T_r {x1 : zEr zTk} {x2 : zEr zTk} {x3 : zEr zTk} {x4 : zEr zTk} {y2 : zEr (List Int32 × zTk)} {y3 : zEr (Nat × zTk)} {y4 : zEr (Nat × zTk)} (h1 : x1 = zBd x (zBg T n B (decide (B 0 1 < 4)))) (h2 : y2 = zBd x1 (zNw T n B Nm)) (g2 : x2 = zSt y2) (h3 : y3 = zBd x2 (zAf T n (gByt "allow") 0 99)) (g3 : x3 = zSt y3) (h4 : y4 = zBd x3 (zAf T n (gByt "hunger") 0 3)) (g4 : x4 = zSt y4) {t9 : zTk} (he : x4 = .inr t9) : ∃ (a2 : List Int32 × zTk) (a3 : Nat × zTk) (a4 : Nat × zTk), y2 = .inr a2 ∧ y3 = .inr a3 ∧ (zBd x fun t => zLT T n (t, B, Nm)) = .inr (t9, bs (bs (bs B 7 (B 0 1) a3.1) 8 (B 0 1) a4.1) 0 1 (B 0 1 + 1), ns Nm 1 (B 0 1) a2.1) ∧ y4 = .inr a4 := by
  obtain ⟨a4, r4, rfl⟩ := zSt_inr (g4.symm.trans he)
  obtain ⟨t4, s4, e4⟩ := zBd_inr (h4.symm.trans r4)
  obtain ⟨a3, r3, rfl⟩ := zSt_inr (g3.symm.trans s4)
  obtain ⟨t3, s3, e3⟩ := zBd_inr (h3.symm.trans r3)
  obtain ⟨a2, r2, rfl⟩ := zSt_inr (g2.symm.trans s3)
  obtain ⟨t2, s2, e2⟩ := zBd_inr (h2.symm.trans r2)
  obtain ⟨t1, s1, e1⟩ := zBd_inr (h1.symm.trans s2)
  refine ⟨a2, a3, a4, r2, r3, ?_, r4⟩
  rw [s1]
  show zLT T n (t1, B, Nm) = _
  unfold zLT
  rw [zBd_r e1, zBd_r e2, zBd_r e3, zBd_r e4]
theorem fold_K_l {x1 : zEr zTk} {x2 : zEr zTk} {x3 : zEr zTk} {y2 : zEr (Nat × zTk)} {y3 : zEr (Nat × zTk)} (h1 : x1 = zBd x (zBg T n B (decide (B 0 6 < 5)))) (h2 : y2 = zBd x1 (zKx T n 0 B Nm)) (g2 : x2 = zSt y2) (h3 : y3 = zBd x2 (zAf T n (gByt "day") 0 60)) (g3 : x3 = zSt y3) {e : Nat × Nat} (he : x3 = .inl e) : (zBd x fun t => zLK T n (t, B, Nm)) = .inl e := by
  cases x with
  | inl e0 =>
    have p : (.inl e0 : zEr zTk) = .inl e0 := rfl
    have p : x1 = .inl e0 := by rw [h1, p]; rfl
    have p : y2 = .inl e0 := by rw [h2, p]; rfl
    have p : x2 = .inl e0 := by rw [g2]; exact zSt_l p
    have p : y3 = .inl e0 := by rw [h3, p]; rfl
    have p : x3 = .inl e0 := by rw [g3]; exact zSt_l p
    rw [p] at he
    cases he
    rfl
  | inr t0 =>
    cases e1 : zBg T n B (decide (B 0 6 < 5)) t0 with
    | inl e9 =>
      have p : x1 = .inl e9 := by rw [h1]; exact e1
      have p : y2 = .inl e9 := by rw [h2, p]; rfl
      have p : x2 = .inl e9 := by rw [g2]; exact zSt_l p
      have p : y3 = .inl e9 := by rw [h3, p]; rfl
      have p : x3 = .inl e9 := by rw [g3]; exact zSt_l p
      rw [p] at he
      cases he
      show zLK T n (t0, B, Nm) = _
      unfold zLK
      rw [zBd_l e1]
    | inr a1 =>
      have q1 : x1 = .inr a1 := by rw [h1]; exact e1
      cases e2 : zKx T n 0 B Nm a1 with
      | inl e9 =>
        have p : y2 = .inl e9 := by rw [h2, q1]; exact e2
        have p : x2 = .inl e9 := by rw [g2]; exact zSt_l p
        have p : y3 = .inl e9 := by rw [h3, p]; rfl
        have p : x3 = .inl e9 := by rw [g3]; exact zSt_l p
        rw [p] at he
        cases he
        show zLK T n (t0, B, Nm) = _
        unfold zLK
        rw [zBd_r e1, zBd_l e2]
      | inr a2 =>
        have r2 : y2 = .inr a2 := by rw [h2, q1]; exact e2
        have q2 : x2 = .inr a2.2 := by rw [g2]; exact zSt_r r2
        cases e3 : zAf T n (gByt "day") 0 60 a2.2 with
        | inl e9 =>
          have p : y3 = .inl e9 := by rw [h3, q2]; exact e3
          have p : x3 = .inl e9 := by rw [g3]; exact zSt_l p
          rw [p] at he
          cases he
          show zLK T n (t0, B, Nm) = _
          unfold zLK
          rw [zBd_r e1, zBd_r e2, zBd_l e3]
        | inr a3 =>
          have r3 : y3 = .inr a3 := by rw [h3, q2]; exact e3
          have q3 : x3 = .inr a3.2 := by rw [g3]; exact zSt_r r3
          rw [q3] at he
          cases he
theorem fold_K_r {x1 : zEr zTk} {x2 : zEr zTk} {x3 : zEr zTk} {y2 : zEr (Nat × zTk)} {y3 : zEr (Nat × zTk)} (h1 : x1 = zBd x (zBg T n B (decide (B 0 6 < 5)))) (h2 : y2 = zBd x1 (zKx T n 0 B Nm)) (g2 : x2 = zSt y2) (h3 : y3 = zBd x2 (zAf T n (gByt "day") 0 60)) (g3 : x3 = zSt y3) {t9 : zTk} (he : x3 = .inr t9) : ∃ (a2 : Nat × zTk) (a3 : Nat × zTk), y2 = .inr a2 ∧ (zBd x fun t => zLK T n (t, B, Nm)) = .inr (t9, bs (bs (bs B 24 (B 0 6) a3.1) 23 (B 0 6) a2.1) 0 6 (B 0 6 + 1), Nm) ∧ y3 = .inr a3 := by
  obtain ⟨a3, r3, rfl⟩ := zSt_inr (g3.symm.trans he)
  obtain ⟨t3, s3, e3⟩ := zBd_inr (h3.symm.trans r3)
  obtain ⟨a2, r2, rfl⟩ := zSt_inr (g2.symm.trans s3)
  obtain ⟨t2, s2, e2⟩ := zBd_inr (h2.symm.trans r2)
  obtain ⟨t1, s1, e1⟩ := zBd_inr (h1.symm.trans s2)
  refine ⟨a2, a3, r2, ?_, r3⟩
  rw [s1]
  show zLK T n (t1, B, Nm) = _
  unfold zLK
  rw [zBd_r e1, zBd_r e2, zBd_r e3]
theorem fold_G_l {x1 : zEr zTk} {x2 : zEr zTk} {x3 : zEr zTk} {x4 : zEr zTk} {x5 : zEr zTk} {y2 : zEr (List Int32 × zTk)} {y3 : zEr (Nat × zTk)} {y4 : zEr (Nat × zTk)} {y5 : zEr (Nat × zTk)} (h1 : x1 = zBd x (zBg T n B (decide (B 0 2 < 3)))) (h2 : y2 = zBd x1 (zNw T n B Nm)) (g2 : x2 = zSt y2) (h3 : y3 = zBd x2 (zAf T n (gByt "nose") 1 99)) (g3 : x3 = zSt y3) (h4 : y4 = zBd x3 (zAf T n (gByt "opens") 0 23)) (g4 : x4 = zSt y4) (h5 : y5 = zBd x4 (zAf T n (gByt "shuts") (zVl 0 y4) 23)) (g5 : x5 = zSt y5) {e : Nat × Nat} (he : x5 = .inl e) : (zBd x fun t => zLG T n (t, B, Nm)) = .inl e := by
  cases x with
  | inl e0 =>
    have p : (.inl e0 : zEr zTk) = .inl e0 := rfl
    have p : x1 = .inl e0 := by rw [h1, p]; rfl
    have p : y2 = .inl e0 := by rw [h2, p]; rfl
    have p : x2 = .inl e0 := by rw [g2]; exact zSt_l p
    have p : y3 = .inl e0 := by rw [h3, p]; rfl
    have p : x3 = .inl e0 := by rw [g3]; exact zSt_l p
    have p : y4 = .inl e0 := by rw [h4, p]; rfl
    have p : x4 = .inl e0 := by rw [g4]; exact zSt_l p
    have p : y5 = .inl e0 := by rw [h5, p]; rfl
    have p : x5 = .inl e0 := by rw [g5]; exact zSt_l p
    rw [p] at he
    cases he
    rfl
  | inr t0 =>
    cases e1 : zBg T n B (decide (B 0 2 < 3)) t0 with
    | inl e9 =>
      have p : x1 = .inl e9 := by rw [h1]; exact e1
      have p : y2 = .inl e9 := by rw [h2, p]; rfl
      have p : x2 = .inl e9 := by rw [g2]; exact zSt_l p
      have p : y3 = .inl e9 := by rw [h3, p]; rfl
      have p : x3 = .inl e9 := by rw [g3]; exact zSt_l p
      have p : y4 = .inl e9 := by rw [h4, p]; rfl
      have p : x4 = .inl e9 := by rw [g4]; exact zSt_l p
      have p : y5 = .inl e9 := by rw [h5, p]; rfl
      have p : x5 = .inl e9 := by rw [g5]; exact zSt_l p
      rw [p] at he
      cases he
      show zLG T n (t0, B, Nm) = _
      unfold zLG
      rw [zBd_l e1]
    | inr a1 =>
      have q1 : x1 = .inr a1 := by rw [h1]; exact e1
      cases e2 : zNw T n B Nm a1 with
      | inl e9 =>
        have p : y2 = .inl e9 := by rw [h2, q1]; exact e2
        have p : x2 = .inl e9 := by rw [g2]; exact zSt_l p
        have p : y3 = .inl e9 := by rw [h3, p]; rfl
        have p : x3 = .inl e9 := by rw [g3]; exact zSt_l p
        have p : y4 = .inl e9 := by rw [h4, p]; rfl
        have p : x4 = .inl e9 := by rw [g4]; exact zSt_l p
        have p : y5 = .inl e9 := by rw [h5, p]; rfl
        have p : x5 = .inl e9 := by rw [g5]; exact zSt_l p
        rw [p] at he
        cases he
        show zLG T n (t0, B, Nm) = _
        unfold zLG
        rw [zBd_r e1, zBd_l e2]
      | inr a2 =>
        have r2 : y2 = .inr a2 := by rw [h2, q1]; exact e2
        have q2 : x2 = .inr a2.2 := by rw [g2]; exact zSt_r r2
        cases e3 : zAf T n (gByt "nose") 1 99 a2.2 with
        | inl e9 =>
          have p : y3 = .inl e9 := by rw [h3, q2]; exact e3
          have p : x3 = .inl e9 := by rw [g3]; exact zSt_l p
          have p : y4 = .inl e9 := by rw [h4, p]; rfl
          have p : x4 = .inl e9 := by rw [g4]; exact zSt_l p
          have p : y5 = .inl e9 := by rw [h5, p]; rfl
          have p : x5 = .inl e9 := by rw [g5]; exact zSt_l p
          rw [p] at he
          cases he
          show zLG T n (t0, B, Nm) = _
          unfold zLG
          rw [zBd_r e1, zBd_r e2, zBd_l e3]
        | inr a3 =>
          have r3 : y3 = .inr a3 := by rw [h3, q2]; exact e3
          have q3 : x3 = .inr a3.2 := by rw [g3]; exact zSt_r r3
          cases e4 : zAf T n (gByt "opens") 0 23 a3.2 with
          | inl e9 =>
            have p : y4 = .inl e9 := by rw [h4, q3]; exact e4
            have p : x4 = .inl e9 := by rw [g4]; exact zSt_l p
            have p : y5 = .inl e9 := by rw [h5, p]; rfl
            have p : x5 = .inl e9 := by rw [g5]; exact zSt_l p
            rw [p] at he
            cases he
            show zLG T n (t0, B, Nm) = _
            unfold zLG
            rw [zBd_r e1, zBd_r e2, zBd_r e3, zBd_l e4]
          | inr a4 =>
            have r4 : y4 = .inr a4 := by rw [h4, q3]; exact e4
            have q4 : x4 = .inr a4.2 := by rw [g4]; exact zSt_r r4
            cases e5 : zAf T n (gByt "shuts") (zVl 0 y4) 23 a4.2 with
            | inl e9 =>
              have e5b : zAf T n (gByt "shuts") a4.1 23 a4.2 = .inl e9 := by have h := e5; rw [r4] at h; exact h
              have p : y5 = .inl e9 := by rw [h5, q4]; exact e5
              have p : x5 = .inl e9 := by rw [g5]; exact zSt_l p
              rw [p] at he
              cases he
              show zLG T n (t0, B, Nm) = _
              unfold zLG
              rw [zBd_r e1, zBd_r e2, zBd_r e3, zBd_r e4, zBd_l e5b]
            | inr a5 =>
              have r5 : y5 = .inr a5 := by rw [h5, q4]; exact e5
              have q5 : x5 = .inr a5.2 := by rw [g5]; exact zSt_r r5
              have e5b : zAf T n (gByt "shuts") a4.1 23 a4.2 = .inr a5 := by have h := e5; rw [r4] at h; exact h
              rw [q5] at he
              cases he
theorem fold_G_r {x1 : zEr zTk} {x2 : zEr zTk} {x3 : zEr zTk} {x4 : zEr zTk} {x5 : zEr zTk} {y2 : zEr (List Int32 × zTk)} {y3 : zEr (Nat × zTk)} {y4 : zEr (Nat × zTk)} {y5 : zEr (Nat × zTk)} (h1 : x1 = zBd x (zBg T n B (decide (B 0 2 < 3)))) (h2 : y2 = zBd x1 (zNw T n B Nm)) (g2 : x2 = zSt y2) (h3 : y3 = zBd x2 (zAf T n (gByt "nose") 1 99)) (g3 : x3 = zSt y3) (h4 : y4 = zBd x3 (zAf T n (gByt "opens") 0 23)) (g4 : x4 = zSt y4) (h5 : y5 = zBd x4 (zAf T n (gByt "shuts") (zVl 0 y4) 23)) (g5 : x5 = zSt y5) {t9 : zTk} (he : x5 = .inr t9) : ∃ (a2 : List Int32 × zTk) (a3 : Nat × zTk) (a4 : Nat × zTk) (a5 : Nat × zTk), y2 = .inr a2 ∧ y3 = .inr a3 ∧ y4 = .inr a4 ∧ (zBd x fun t => zLG T n (t, B, Nm)) = .inr (t9, bs (bs (bs (bs B 9 (B 0 2) a3.1) 10 (B 0 2) a4.1) 11 (B 0 2) a5.1) 0 2 (B 0 2 + 1), ns Nm 2 (B 0 2) a2.1) ∧ y5 = .inr a5 := by
  obtain ⟨a5, r5, rfl⟩ := zSt_inr (g5.symm.trans he)
  obtain ⟨t5, s5, e5⟩ := zBd_inr (h5.symm.trans r5)
  obtain ⟨a4, r4, rfl⟩ := zSt_inr (g4.symm.trans s5)
  obtain ⟨t4, s4, e4⟩ := zBd_inr (h4.symm.trans r4)
  obtain ⟨a3, r3, rfl⟩ := zSt_inr (g3.symm.trans s4)
  obtain ⟨t3, s3, e3⟩ := zBd_inr (h3.symm.trans r3)
  obtain ⟨a2, r2, rfl⟩ := zSt_inr (g2.symm.trans s3)
  obtain ⟨t2, s2, e2⟩ := zBd_inr (h2.symm.trans r2)
  obtain ⟨t1, s1, e1⟩ := zBd_inr (h1.symm.trans s2)
  refine ⟨a2, a3, a4, a5, r2, r3, r4, ?_, r5⟩
  have e5b : zAf T n (gByt "shuts") a4.1 23 a4.2 = .inr a5 := by have h := e5; rw [r4] at h; exact h
  rw [s1]
  show zLG T n (t1, B, Nm) = _
  unfold zLG
  rw [zBd_r e1, zBd_r e2, zBd_r e3, zBd_r e4, zBd_r e5b]
theorem fold_B_l {x1 : zEr zTk} {x2 : zEr zTk} {x3 : zEr zTk} {y2 : zEr (Nat × zTk)} {y3 : zEr (Nat × zTk)} (h1 : x1 = zBd x (zF1 T n B)) (h2 : y2 = zBd x1 (zAf T n (gByt "fee") 0 9)) (g2 : x2 = zSt y2) (h3 : y3 = zBd x2 (zAf T n (gByt "interest") 0 50)) (g3 : x3 = zSt y3) {e : Nat × Nat} (he : x3 = .inl e) : (zBd x fun t => zLB T n (t, B, Nm)) = .inl e := by
  cases x with
  | inl e0 =>
    have p : (.inl e0 : zEr zTk) = .inl e0 := rfl
    have p : x1 = .inl e0 := by rw [h1, p]; rfl
    have p : y2 = .inl e0 := by rw [h2, p]; rfl
    have p : x2 = .inl e0 := by rw [g2]; exact zSt_l p
    have p : y3 = .inl e0 := by rw [h3, p]; rfl
    have p : x3 = .inl e0 := by rw [g3]; exact zSt_l p
    rw [p] at he
    cases he
    rfl
  | inr t0 =>
    cases e1 : zF1 T n B t0 with
    | inl e9 =>
      have p : x1 = .inl e9 := by rw [h1]; exact e1
      have p : y2 = .inl e9 := by rw [h2, p]; rfl
      have p : x2 = .inl e9 := by rw [g2]; exact zSt_l p
      have p : y3 = .inl e9 := by rw [h3, p]; rfl
      have p : x3 = .inl e9 := by rw [g3]; exact zSt_l p
      rw [p] at he
      cases he
      show zLB T n (t0, B, Nm) = _
      rw [zLB_9]
      rw [zBd_l e1]
    | inr a1 =>
      have q1 : x1 = .inr a1 := by rw [h1]; exact e1
      cases e2 : zAf T n (gByt "fee") 0 9 a1 with
      | inl e9 =>
        have p : y2 = .inl e9 := by rw [h2, q1]; exact e2
        have p : x2 = .inl e9 := by rw [g2]; exact zSt_l p
        have p : y3 = .inl e9 := by rw [h3, p]; rfl
        have p : x3 = .inl e9 := by rw [g3]; exact zSt_l p
        rw [p] at he
        cases he
        show zLB T n (t0, B, Nm) = _
        rw [zLB_9]
        rw [zBd_r e1, zBd_l e2]
      | inr a2 =>
        have r2 : y2 = .inr a2 := by rw [h2, q1]; exact e2
        have q2 : x2 = .inr a2.2 := by rw [g2]; exact zSt_r r2
        cases e3 : zAf T n (gByt "interest") 0 50 a2.2 with
        | inl e9 =>
          have p : y3 = .inl e9 := by rw [h3, q2]; exact e3
          have p : x3 = .inl e9 := by rw [g3]; exact zSt_l p
          rw [p] at he
          cases he
          show zLB T n (t0, B, Nm) = _
          rw [zLB_9]
          rw [zBd_r e1, zBd_r e2, zBd_l e3]
        | inr a3 =>
          have r3 : y3 = .inr a3 := by rw [h3, q2]; exact e3
          have q3 : x3 = .inr a3.2 := by rw [g3]; exact zSt_r r3
          rw [q3] at he
          cases he
theorem fold_B_r {x1 : zEr zTk} {x2 : zEr zTk} {x3 : zEr zTk} {y2 : zEr (Nat × zTk)} {y3 : zEr (Nat × zTk)} (h1 : x1 = zBd x (zF1 T n B)) (h2 : y2 = zBd x1 (zAf T n (gByt "fee") 0 9)) (g2 : x2 = zSt y2) (h3 : y3 = zBd x2 (zAf T n (gByt "interest") 0 50)) (g3 : x3 = zSt y3) {t9 : zTk} (he : x3 = .inr t9) : ∃ (a2 : Nat × zTk) (a3 : Nat × zTk), y2 = .inr a2 ∧ (zBd x fun t => zLB T n (t, B, Nm)) = .inr (t9, bs (bs (bs B 0 7 a2.1) 0 8 a3.1) 0 9 1, Nm) ∧ y3 = .inr a3 := by
  obtain ⟨a3, r3, rfl⟩ := zSt_inr (g3.symm.trans he)
  obtain ⟨t3, s3, e3⟩ := zBd_inr (h3.symm.trans r3)
  obtain ⟨a2, r2, rfl⟩ := zSt_inr (g2.symm.trans s3)
  obtain ⟨t2, s2, e2⟩ := zBd_inr (h2.symm.trans r2)
  obtain ⟨t1, s1, e1⟩ := zBd_inr (h1.symm.trans s2)
  refine ⟨a2, a3, r2, ?_, r3⟩
  rw [s1]
  show zLB T n (t1, B, Nm) = _
  rw [zLB_9]
  rw [zBd_r e1, zBd_r e2, zBd_r e3]
theorem fold_C_l {x1 : zEr zTk} {x2 : zEr zTk} {x3 : zEr zTk} {x4 : zEr zTk} {x5 : zEr zTk} {y2 : zEr (Nat × zTk)} {y3 : zEr (Nat × zTk)} {y4 : zEr (Nat × zTk)} {y5 : zEr (Nat × zTk)} (h1 : x1 = zBd x (zBg T n B (decide (B 0 4 < 6)))) (h2 : y2 = zBd x1 (zKx T n 1 B Nm)) (g2 : x2 = zSt y2) (h3 : y3 = zBd x2 (zKx T n 2 B Nm)) (g3 : x3 = zSt y3) (h4 : y4 = zBd x3 (zAf T n (gByt "day") (if B 0 4 = 0 then 0 else B 21 (B 0 4 - 1)) 60)) (g4 : x4 = zSt y4) (h5 : y5 = zBd x4 (zAf T n (gByt "hour") 0 23)) (g5 : x5 = zSt y5) {e : Nat × Nat} (he : x5 = .inl e) : (zBd x fun t => zLC T n (t, B, Nm)) = .inl e := by
  cases x with
  | inl e0 =>
    have p : (.inl e0 : zEr zTk) = .inl e0 := rfl
    have p : x1 = .inl e0 := by rw [h1, p]; rfl
    have p : y2 = .inl e0 := by rw [h2, p]; rfl
    have p : x2 = .inl e0 := by rw [g2]; exact zSt_l p
    have p : y3 = .inl e0 := by rw [h3, p]; rfl
    have p : x3 = .inl e0 := by rw [g3]; exact zSt_l p
    have p : y4 = .inl e0 := by rw [h4, p]; rfl
    have p : x4 = .inl e0 := by rw [g4]; exact zSt_l p
    have p : y5 = .inl e0 := by rw [h5, p]; rfl
    have p : x5 = .inl e0 := by rw [g5]; exact zSt_l p
    rw [p] at he
    cases he
    rfl
  | inr t0 =>
    cases e1 : zBg T n B (decide (B 0 4 < 6)) t0 with
    | inl e9 =>
      have p : x1 = .inl e9 := by rw [h1]; exact e1
      have p : y2 = .inl e9 := by rw [h2, p]; rfl
      have p : x2 = .inl e9 := by rw [g2]; exact zSt_l p
      have p : y3 = .inl e9 := by rw [h3, p]; rfl
      have p : x3 = .inl e9 := by rw [g3]; exact zSt_l p
      have p : y4 = .inl e9 := by rw [h4, p]; rfl
      have p : x4 = .inl e9 := by rw [g4]; exact zSt_l p
      have p : y5 = .inl e9 := by rw [h5, p]; rfl
      have p : x5 = .inl e9 := by rw [g5]; exact zSt_l p
      rw [p] at he
      cases he
      show zLC T n (t0, B, Nm) = _
      unfold zLC
      rw [zBd_l e1]
    | inr a1 =>
      have q1 : x1 = .inr a1 := by rw [h1]; exact e1
      cases e2 : zKx T n 1 B Nm a1 with
      | inl e9 =>
        have p : y2 = .inl e9 := by rw [h2, q1]; exact e2
        have p : x2 = .inl e9 := by rw [g2]; exact zSt_l p
        have p : y3 = .inl e9 := by rw [h3, p]; rfl
        have p : x3 = .inl e9 := by rw [g3]; exact zSt_l p
        have p : y4 = .inl e9 := by rw [h4, p]; rfl
        have p : x4 = .inl e9 := by rw [g4]; exact zSt_l p
        have p : y5 = .inl e9 := by rw [h5, p]; rfl
        have p : x5 = .inl e9 := by rw [g5]; exact zSt_l p
        rw [p] at he
        cases he
        show zLC T n (t0, B, Nm) = _
        unfold zLC
        rw [zBd_r e1, zBd_l e2]
      | inr a2 =>
        have r2 : y2 = .inr a2 := by rw [h2, q1]; exact e2
        have q2 : x2 = .inr a2.2 := by rw [g2]; exact zSt_r r2
        cases e3 : zKx T n 2 B Nm a2.2 with
        | inl e9 =>
          have p : y3 = .inl e9 := by rw [h3, q2]; exact e3
          have p : x3 = .inl e9 := by rw [g3]; exact zSt_l p
          have p : y4 = .inl e9 := by rw [h4, p]; rfl
          have p : x4 = .inl e9 := by rw [g4]; exact zSt_l p
          have p : y5 = .inl e9 := by rw [h5, p]; rfl
          have p : x5 = .inl e9 := by rw [g5]; exact zSt_l p
          rw [p] at he
          cases he
          show zLC T n (t0, B, Nm) = _
          unfold zLC
          rw [zBd_r e1, zBd_r e2, zBd_l e3]
        | inr a3 =>
          have r3 : y3 = .inr a3 := by rw [h3, q2]; exact e3
          have q3 : x3 = .inr a3.2 := by rw [g3]; exact zSt_r r3
          cases e4 : zAf T n (gByt "day") (if B 0 4 = 0 then 0 else B 21 (B 0 4 - 1)) 60 a3.2 with
          | inl e9 =>
            have p : y4 = .inl e9 := by rw [h4, q3]; exact e4
            have p : x4 = .inl e9 := by rw [g4]; exact zSt_l p
            have p : y5 = .inl e9 := by rw [h5, p]; rfl
            have p : x5 = .inl e9 := by rw [g5]; exact zSt_l p
            rw [p] at he
            cases he
            show zLC T n (t0, B, Nm) = _
            unfold zLC
            rw [zBd_r e1, zBd_r e2, zBd_r e3, zBd_l e4]
          | inr a4 =>
            have r4 : y4 = .inr a4 := by rw [h4, q3]; exact e4
            have q4 : x4 = .inr a4.2 := by rw [g4]; exact zSt_r r4
            cases e5 : zAf T n (gByt "hour") 0 23 a4.2 with
            | inl e9 =>
              have p : y5 = .inl e9 := by rw [h5, q4]; exact e5
              have p : x5 = .inl e9 := by rw [g5]; exact zSt_l p
              rw [p] at he
              cases he
              show zLC T n (t0, B, Nm) = _
              unfold zLC
              rw [zBd_r e1, zBd_r e2, zBd_r e3, zBd_r e4, zBd_l e5]
            | inr a5 =>
              have r5 : y5 = .inr a5 := by rw [h5, q4]; exact e5
              have q5 : x5 = .inr a5.2 := by rw [g5]; exact zSt_r r5
              rw [q5] at he
              cases he
theorem fold_C_r {x1 : zEr zTk} {x2 : zEr zTk} {x3 : zEr zTk} {x4 : zEr zTk} {x5 : zEr zTk} {y2 : zEr (Nat × zTk)} {y3 : zEr (Nat × zTk)} {y4 : zEr (Nat × zTk)} {y5 : zEr (Nat × zTk)} (h1 : x1 = zBd x (zBg T n B (decide (B 0 4 < 6)))) (h2 : y2 = zBd x1 (zKx T n 1 B Nm)) (g2 : x2 = zSt y2) (h3 : y3 = zBd x2 (zKx T n 2 B Nm)) (g3 : x3 = zSt y3) (h4 : y4 = zBd x3 (zAf T n (gByt "day") (if B 0 4 = 0 then 0 else B 21 (B 0 4 - 1)) 60)) (g4 : x4 = zSt y4) (h5 : y5 = zBd x4 (zAf T n (gByt "hour") 0 23)) (g5 : x5 = zSt y5) {t9 : zTk} (he : x5 = .inr t9) : ∃ (a2 : Nat × zTk) (a3 : Nat × zTk) (a4 : Nat × zTk) (a5 : Nat × zTk), y2 = .inr a2 ∧ y3 = .inr a3 ∧ y4 = .inr a4 ∧ (zBd x fun t => zLC T n (t, B, Nm)) = .inr (t9, bs (bs (bs (bs (bs B 19 (B 0 4) a2.1) 20 (B 0 4) a3.1) 21 (B 0 4) a4.1) 22 (B 0 4) a5.1) 0 4 (B 0 4 + 1), Nm) ∧ y5 = .inr a5 := by
  obtain ⟨a5, r5, rfl⟩ := zSt_inr (g5.symm.trans he)
  obtain ⟨t5, s5, e5⟩ := zBd_inr (h5.symm.trans r5)
  obtain ⟨a4, r4, rfl⟩ := zSt_inr (g4.symm.trans s5)
  obtain ⟨t4, s4, e4⟩ := zBd_inr (h4.symm.trans r4)
  obtain ⟨a3, r3, rfl⟩ := zSt_inr (g3.symm.trans s4)
  obtain ⟨t3, s3, e3⟩ := zBd_inr (h3.symm.trans r3)
  obtain ⟨a2, r2, rfl⟩ := zSt_inr (g2.symm.trans s3)
  obtain ⟨t2, s2, e2⟩ := zBd_inr (h2.symm.trans r2)
  obtain ⟨t1, s1, e1⟩ := zBd_inr (h1.symm.trans s2)
  refine ⟨a2, a3, a4, a5, r2, r3, r4, ?_, r5⟩
  rw [s1]
  show zLC T n (t1, B, Nm) = _
  unfold zLC
  rw [zBd_r e1, zBd_r e2, zBd_r e3, zBd_r e4, zBd_r e5]
end
