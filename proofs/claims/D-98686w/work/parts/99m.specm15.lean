/-! THE MODEL's PLAIN SIDE, fifteenth: hides and prices, folded -/
set_option maxRecDepth 100000
section
variable {T : Nat → Int32} {n : Nat} {B : gBar} {Nm : zNm} {x : zEr zTk}
def zF3 (T : Nat → Int32) (n : Nat) (B : gBar) (Nm : zNm) (t : zTk) : zEr (Nat × zTk) := zBd (zKs 3 B Nm t) fun j => if B 18 j = 1 then .inl (3, t.2.2.1) else .inr (j, zTn T n t.1)
def zF4 (T : Nat → Int32) (n : Nat) (B : gBar) (Nm : zNm) (t : zTk) : zEr (Nat × zTk) := zBd (zKs 0 B Nm t) fun i => if B 6 i = 1 then .inl (3, t.2.2.1) else .inr (i, zTn T n t.1)
theorem zLH_9 {t : zTk} : zLH T n (t, B, Nm) = zBd (zBg T n B true t) fun t => zBd (zF3 T n B Nm t) fun j => .inr (j.2, bs B 18 j.1 1, Nm) := by
  unfold zLH zF3
  cases zBg T n B true t with
  | inl e => rfl
  | inr u =>
    show zBd (zKs 3 B Nm u) _ = zBd (zBd (zKs 3 B Nm u) _) _
    cases zKs 3 B Nm u with
    | inl e => rfl
    | inr j =>
      show (if B 18 j = 1 then _ else _) = zBd (if B 18 j = 1 then _ else _) _
      by_cases h : B 18 j = 1
      · rw [if_pos h, if_pos h]; rfl
      · rw [if_neg h, if_neg h]; rfl
theorem zLP_9 {t : zTk} : zLP T n (t, B, Nm) = zBd (zBg T n B true t) fun t => zBd (zF4 T n B Nm t) fun i => zBd (zAf T n (gByt "here") 0 99 i.2) fun a => zBd (zAf T n (gByt "there") 0 99 a.2) fun b => .inr (b.2, bs (bs (bs (bs B 4 i.1 a.1) 5 i.1 b.1) 6 i.1 1) 0 5 (B 0 5 + 1), Nm) := by
  unfold zLP zF4
  cases zBg T n B true t with
  | inl e => rfl
  | inr u =>
    show zBd (zKs 0 B Nm u) _ = zBd (zBd (zKs 0 B Nm u) _) _
    cases zKs 0 B Nm u with
    | inl e => rfl
    | inr j =>
      show (if B 6 j = 1 then _ else _) = zBd (if B 6 j = 1 then _ else _) _
      by_cases h : B 6 j = 1
      · rw [if_pos h, if_pos h]; rfl
      · rw [if_neg h, if_neg h]; rfl
theorem fold_H_l {x1 : zEr zTk} {x2 : zEr zTk} {y2 : zEr (Nat × zTk)} (h1 : x1 = zBd x (zBg T n B true)) (h2 : y2 = zBd x1 (zF3 T n B Nm)) (g2 : x2 = zSt y2) {e : Nat × Nat} (he : x2 = .inl e) : (zBd x fun t => zLH T n (t, B, Nm)) = .inl e := by
  cases x with
  | inl e0 =>
    have p : (.inl e0 : zEr zTk) = .inl e0 := rfl
    have p : x1 = .inl e0 := by rw [h1, p]; rfl
    have p : y2 = .inl e0 := by rw [h2, p]; rfl
    have p : x2 = .inl e0 := by rw [g2]; exact zSt_l p
    rw [p] at he
    cases he
    rfl
  | inr t0 =>
    cases e1 : zBg T n B true t0 with
    | inl e9 =>
      have p : x1 = .inl e9 := by rw [h1]; exact e1
      have p : y2 = .inl e9 := by rw [h2, p]; rfl
      have p : x2 = .inl e9 := by rw [g2]; exact zSt_l p
      rw [p] at he
      cases he
      show zLH T n (t0, B, Nm) = _
      rw [zLH_9]
      rw [zBd_l e1]
    | inr a1 =>
      have q1 : x1 = .inr a1 := by rw [h1]; exact e1
      cases e2 : zF3 T n B Nm a1 with
      | inl e9 =>
        have p : y2 = .inl e9 := by rw [h2, q1]; exact e2
        have p : x2 = .inl e9 := by rw [g2]; exact zSt_l p
        rw [p] at he
        cases he
        show zLH T n (t0, B, Nm) = _
        rw [zLH_9]
        rw [zBd_r e1, zBd_l e2]
      | inr a2 =>
        have r2 : y2 = .inr a2 := by rw [h2, q1]; exact e2
        have q2 : x2 = .inr a2.2 := by rw [g2]; exact zSt_r r2
        rw [q2] at he
        cases he
theorem fold_H_r {x1 : zEr zTk} {x2 : zEr zTk} {y2 : zEr (Nat × zTk)} (h1 : x1 = zBd x (zBg T n B true)) (h2 : y2 = zBd x1 (zF3 T n B Nm)) (g2 : x2 = zSt y2) {t9 : zTk} (he : x2 = .inr t9) : ∃  (a2 : Nat × zTk), (zBd x fun t => zLH T n (t, B, Nm)) = .inr (t9, bs B 18 a2.1 1, Nm) ∧ y2 = .inr a2 := by
  obtain ⟨a2, r2, rfl⟩ := zSt_inr (g2.symm.trans he)
  obtain ⟨t2, s2, e2⟩ := zBd_inr (h2.symm.trans r2)
  obtain ⟨t1, s1, e1⟩ := zBd_inr (h1.symm.trans s2)
  refine ⟨a2, ?_, r2⟩
  rw [s1]
  show zLH T n (t1, B, Nm) = _
  rw [zLH_9]
  rw [zBd_r e1, zBd_r e2]
theorem fold_P_l {x1 : zEr zTk} {x2 : zEr zTk} {x3 : zEr zTk} {x4 : zEr zTk} {y2 : zEr (Nat × zTk)} {y3 : zEr (Nat × zTk)} {y4 : zEr (Nat × zTk)} (h1 : x1 = zBd x (zBg T n B true)) (h2 : y2 = zBd x1 (zF4 T n B Nm)) (g2 : x2 = zSt y2) (h3 : y3 = zBd x2 (zAf T n (gByt "here") 0 99)) (g3 : x3 = zSt y3) (h4 : y4 = zBd x3 (zAf T n (gByt "there") 0 99)) (g4 : x4 = zSt y4) {e : Nat × Nat} (he : x4 = .inl e) : (zBd x fun t => zLP T n (t, B, Nm)) = .inl e := by
  cases x with
  | inl e0 =>
    have p : (.inl e0 : zEr zTk) = .inl e0 := rfl
    have p : x1 = .inl e0 := by rw [h1, p]; rfl
    have p : y2 = .inl e0 := by rw [h2, p]; rfl
    have p : x2 = .inl e0 := by rw [g2]; exact zSt_l p
    have p : y3 = .inl e0 := by rw [h3, p]; rfl
    have p : x3 = .inl e0 := by rw [g3]; exact zSt_l p
    have p : y4 = .inl e0 := by rw [h4, p]; rfl
    have p : x4 = .inl e0 := by rw [g4]; exact zSt_l p
    rw [p] at he
    cases he
    rfl
  | inr t0 =>
    cases e1 : zBg T n B true t0 with
    | inl e9 =>
      have p : x1 = .inl e9 := by rw [h1]; exact e1
      have p : y2 = .inl e9 := by rw [h2, p]; rfl
      have p : x2 = .inl e9 := by rw [g2]; exact zSt_l p
      have p : y3 = .inl e9 := by rw [h3, p]; rfl
      have p : x3 = .inl e9 := by rw [g3]; exact zSt_l p
      have p : y4 = .inl e9 := by rw [h4, p]; rfl
      have p : x4 = .inl e9 := by rw [g4]; exact zSt_l p
      rw [p] at he
      cases he
      show zLP T n (t0, B, Nm) = _
      rw [zLP_9]
      rw [zBd_l e1]
    | inr a1 =>
      have q1 : x1 = .inr a1 := by rw [h1]; exact e1
      cases e2 : zF4 T n B Nm a1 with
      | inl e9 =>
        have p : y2 = .inl e9 := by rw [h2, q1]; exact e2
        have p : x2 = .inl e9 := by rw [g2]; exact zSt_l p
        have p : y3 = .inl e9 := by rw [h3, p]; rfl
        have p : x3 = .inl e9 := by rw [g3]; exact zSt_l p
        have p : y4 = .inl e9 := by rw [h4, p]; rfl
        have p : x4 = .inl e9 := by rw [g4]; exact zSt_l p
        rw [p] at he
        cases he
        show zLP T n (t0, B, Nm) = _
        rw [zLP_9]
        rw [zBd_r e1, zBd_l e2]
      | inr a2 =>
        have r2 : y2 = .inr a2 := by rw [h2, q1]; exact e2
        have q2 : x2 = .inr a2.2 := by rw [g2]; exact zSt_r r2
        cases e3 : zAf T n (gByt "here") 0 99 a2.2 with
        | inl e9 =>
          have p : y3 = .inl e9 := by rw [h3, q2]; exact e3
          have p : x3 = .inl e9 := by rw [g3]; exact zSt_l p
          have p : y4 = .inl e9 := by rw [h4, p]; rfl
          have p : x4 = .inl e9 := by rw [g4]; exact zSt_l p
          rw [p] at he
          cases he
          show zLP T n (t0, B, Nm) = _
          rw [zLP_9]
          rw [zBd_r e1, zBd_r e2, zBd_l e3]
        | inr a3 =>
          have r3 : y3 = .inr a3 := by rw [h3, q2]; exact e3
          have q3 : x3 = .inr a3.2 := by rw [g3]; exact zSt_r r3
          cases e4 : zAf T n (gByt "there") 0 99 a3.2 with
          | inl e9 =>
            have p : y4 = .inl e9 := by rw [h4, q3]; exact e4
            have p : x4 = .inl e9 := by rw [g4]; exact zSt_l p
            rw [p] at he
            cases he
            show zLP T n (t0, B, Nm) = _
            rw [zLP_9]
            rw [zBd_r e1, zBd_r e2, zBd_r e3, zBd_l e4]
          | inr a4 =>
            have r4 : y4 = .inr a4 := by rw [h4, q3]; exact e4
            have q4 : x4 = .inr a4.2 := by rw [g4]; exact zSt_r r4
            rw [q4] at he
            cases he
theorem fold_P_r {x1 : zEr zTk} {x2 : zEr zTk} {x3 : zEr zTk} {x4 : zEr zTk} {y2 : zEr (Nat × zTk)} {y3 : zEr (Nat × zTk)} {y4 : zEr (Nat × zTk)} (h1 : x1 = zBd x (zBg T n B true)) (h2 : y2 = zBd x1 (zF4 T n B Nm)) (g2 : x2 = zSt y2) (h3 : y3 = zBd x2 (zAf T n (gByt "here") 0 99)) (g3 : x3 = zSt y3) (h4 : y4 = zBd x3 (zAf T n (gByt "there") 0 99)) (g4 : x4 = zSt y4) {t9 : zTk} (he : x4 = .inr t9) : ∃ (a2 : Nat × zTk) (a3 : Nat × zTk) (a4 : Nat × zTk), y2 = .inr a2 ∧ y3 = .inr a3 ∧ (zBd x fun t => zLP T n (t, B, Nm)) = .inr (t9, bs (bs (bs (bs B 4 a2.1 a3.1) 5 a2.1 a4.1) 6 a2.1 1) 0 5 (B 0 5 + 1), Nm) ∧ y4 = .inr a4 := by
  obtain ⟨a4, r4, rfl⟩ := zSt_inr (g4.symm.trans he)
  obtain ⟨t4, s4, e4⟩ := zBd_inr (h4.symm.trans r4)
  obtain ⟨a3, r3, rfl⟩ := zSt_inr (g3.symm.trans s4)
  obtain ⟨t3, s3, e3⟩ := zBd_inr (h3.symm.trans r3)
  obtain ⟨a2, r2, rfl⟩ := zSt_inr (g2.symm.trans s3)
  obtain ⟨t2, s2, e2⟩ := zBd_inr (h2.symm.trans r2)
  obtain ⟨t1, s1, e1⟩ := zBd_inr (h1.symm.trans s2)
  refine ⟨a2, a3, a4, r2, r3, ?_, r4⟩
  rw [s1]
  show zLP T n (t1, B, Nm) = _
  rw [zLP_9]
  rw [zBd_r e1, zBd_r e2, zBd_r e3, zBd_r e4]
end
