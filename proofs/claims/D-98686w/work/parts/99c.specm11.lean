/-! THE MODEL's PLAIN SIDE, eleventh: names that are read -/
set_option maxRecDepth 100000
section
variable {T : Nat → Int32} {n : Nat} {x : zEr zTk} {B : gBar} {Nm : zNm} {nl : List (Nat × Nat)}
theorem xFl_ok {k : Nat} : xOk n (xFl k x) := by cases x <;> trivial
theorem xFl_nb {k : Nat} : xNb (xFl k x) := by cases x <;> trivial
theorem xNm_nb (h : xNm x = true) : xNb x := by
  cases x with
  | inl e => trivial
  | inr t =>
    have h := of_decide_eq_true h
    show t.2.1 ≠ 1
    rw [h.1]
    decide
/-- a line begins -/
theorem bg_x {can : Bool} (h9 : B 0 9 ≤ 1) : xGo T n (if B 0 9 = 1 then (if can then x else xFl 5 x) else xFl 6 (if can then x else xFl 5 x)) = zBd x (zBg T n B can) := by
  cases x with
  | inl e => cases can <;> (by_cases h : B 0 9 = 1) <;> simp [h, xGo, xFl, zBd]
  | inr t => cases can <;> (by_cases h : B 0 9 = 1) <;> simp [h, xGo, xFl, zBd, zBg]
theorem zBg_x {can : Bool} (h : xOk n x) : xOk n (zBd x (zBg T n B can)) := by
  cases x with
  | inl e => trivial
  | inr t =>
    cases he : zBg T n B can t with
    | inl e => show xOk n (zBg T n B can t); rw [he]; trivial
    | inr a => show xOk n (zBg T n B can t); rw [he]; exact (zBg_ok h he).1
theorem zNw_x (h : xOk n x) : xOk n (zSt (zBd x (zNw T n B Nm))) := by
  cases x with
  | inl e => trivial
  | inr t =>
    cases he : zNw T n B Nm t with
    | inl e => show xOk n (zSt (zNw T n B Nm t)); rw [he]; trivial
    | inr a => show xOk n (zSt (zNw T n B Nm t)); rw [he]; exact (zNw_ok h he).1
theorem zAf_x2 {v : List Int32} {lo hi : Nat} (h : xOk n x) : xOk n (zSt (zBd x (zAf T n v lo hi))) := by
  rw [← zAf_x]
  exact zNu_x (zMu_x h)
theorem zKx_x {s : Nat} (h : xOk n x) : xOk n (zSt (zBd x (zKx T n s B Nm))) := by
  cases x with
  | inl e => trivial
  | inr t =>
    cases he : zKx T n s B Nm t with
    | inl e => show xOk n (zSt (zKx T n s B Nm t)); rw [he]; trivial
    | inr a => show xOk n (zSt (zKx T n s B Nm t)); rw [he]; exact (zKx_ok h he).1
theorem zVl_le {v : List Int32} {lo hi d : Nat} (h1 : lo ≤ d) (h2 : hi ≤ d) : zVl lo (zBd x (zAf T n v lo hi)) ≤ d := by
  cases x with
  | inl e => exact h1
  | inr t =>
    cases he : zAf T n v lo hi t with
    | inl e => show zVl lo (zAf T n v lo hi t) ≤ d; rw [he]; exact h1
    | inr a => show zVl lo (zAf T n v lo hi t) ≤ d; rw [he]; exact Nat.le_trans (zAf_in he).2 h2
/-- the state behind a name known, that isn't gone over -/
def zSk9 (s : Nat) (B : gBar) (Nm : zNm) (x : zEr zTk) : zEr zTk := zBd x fun t => zBd (zKs s B Nm t) fun _ => .inr t
def zVk (s : Nat) (B : gBar) (Nm : zNm) (x : zEr zTk) : Nat := match zBd x (zKs s B Nm) with
  | .inl _ => 0
  | .inr k => k
theorem zSk9_ok {s : Nat} (h : xOk n x) : xOk n (zSk9 s B Nm x) := by
  cases x with
  | inl e => trivial
  | inr t =>
    cases he : zKs s B Nm t with
    | inl e => show xOk n (zBd (zKs s B Nm t) _); rw [he]; trivial
    | inr a => show xOk n (zBd (zKs s B Nm t) _); rw [he]; exact h
theorem zSk9_nb {s : Nat} : xNb (zSk9 s B Nm x) := by
  cases x with
  | inl e => trivial
  | inr t =>
    cases he : zKs s B Nm t with
    | inl e => show xNb (zBd (zKs s B Nm t) _); rw [he]; trivial
    | inr a =>
      show xNb (zBd (zKs s B Nm t) _)
      rw [he]
      show t.2.1 ≠ 1
      unfold zKs at he
      obtain ⟨q, e1, -⟩ := zBd_inr he
      unfold zKn at e1
      obtain ⟨u, e2, -⟩ := zBd_inr e1
      rw [zMn_2 e2]
      decide
theorem zKx_go {s : Nat} : xGo T n (zSk9 s B Nm x) = zSt (zBd x (zKx T n s B Nm)) := by
  cases x with
  | inl e => rfl
  | inr t =>
    show xGo T n (zBd (zKs s B Nm t) _) = zSt (zBd (zKs s B Nm t) _)
    cases zKs s B Nm t with
    | inl e => rfl
    | inr k => rfl
theorem zKx_vl {s : Nat} : zVk s B Nm x = zVl 0 (zBd x (zKx T n s B Nm)) := by
  cases x with
  | inl e => rfl
  | inr t =>
    show (match zKs s B Nm t with
      | .inl _ => 0
      | .inr k => k) = zVl 0 (zBd (zKs s B Nm t) _)
    cases zKs s B Nm t with
    | inl e => rfl
    | inr k => rfl
end
section
variable {T : Nat → Int32} {n : Nat} {t : zTk} {B : gBar} {Nm : zNm} {nl : List (Nat × Nat)}
theorem rsv_in {w : List Int32} (h : w = gByt "barrier" ∨ w = gByt "means" ∨ w = gByt "traveller" ∨ w = gByt "gate" ∨ w = gByt "good" ∨ w = gByt "hides" ∨ w = gByt "crosses" ∨ w = gByt "price" ∨ w = gByt "crumb" ∨ w = gByt "fresh" ∨ w = gByt "by") : w ∈ zRsv := by
  unfold zRsv
  simp only [List.mem_cons, List.not_mem_nil, or_false]
  exact h
theorem rsv_out {w : List Int32} (h : w ∈ zRsv) : w = gByt "barrier" ∨ w = gByt "means" ∨ w = gByt "traveller" ∨ w = gByt "gate" ∨ w = gByt "good" ∨ w = gByt "hides" ∨ w = gByt "crosses" ∨ w = gByt "price" ∨ w = gByt "crumb" ∨ w = gByt "fresh" ∨ w = gByt "by" := by
  unfold zRsv at h
  simp only [List.mem_cons, List.not_mem_nil, or_false] at h
  exact h
theorem xNm_mn (h : xNm (.inr t) = true) : zMn t = .inr () := if_pos (of_decide_eq_true h)
theorem xNm_mf (h : xNm (.inr t) = false) : zMn t = .inl (1, t.2.2.1) := if_neg (of_decide_eq_false h)
theorem zKs_1 {s : Nat} (h : xNm (.inr t) = false) : zKs s B Nm t = .inl (1, t.2.2.1) := by
  unfold zKs zKn
  rw [xNm_mf h]
  rfl
theorem zKs_2 {s : Nat} (h : xNm (.inr t) = true) (hq : zFind B Nm t.2.2.2.2 = none) : zKs s B Nm t = .inl (2, t.2.2.1) := by
  unfold zKs zKn
  rw [xNm_mn h]
  show zBd (match zFind B Nm t.2.2.2.2 with
    | none => _
    | some q => _) _ = _
  rw [hq]
  rfl
theorem zKs_3 {s : Nat} {q : Nat × Nat} (h : xNm (.inr t) = true) (hq : zFind B Nm t.2.2.2.2 = some q) : zKs s B Nm t = if q.1 = s then .inr q.2 else .inl (2, t.2.2.1) := by
  unfold zKs zKn
  rw [xNm_mn h]
  show zBd (match zFind B Nm t.2.2.2.2 with
    | none => _
    | some q => _) _ = _
  rw [hq]
  rfl
theorem zNw_1 (h : xNm (.inr t) = false) : zNw T n B Nm t = .inl (1, t.2.2.1) := by
  unfold zNw
  rw [xNm_mf h]
  rfl
theorem zNw_2 (h : xNm (.inr t) = true) (hq : zFind B Nm t.2.2.2.2 = none) : zNw T n B Nm t = .inr (t.2.2.2.2, zTn T n t.1) := by
  unfold zNw
  rw [xNm_mn h]
  show (match zFind B Nm t.2.2.2.2 with
    | none => _
    | some q => _) = _
  rw [hq]
theorem zNw_3 {q : Nat × Nat} (h : xNm (.inr t) = true) (hq : zFind B Nm t.2.2.2.2 = some q) : zNw T n B Nm t = .inl (3, t.2.2.1) := by
  unfold zNw
  rw [xNm_mn h]
  show (match zFind B Nm t.2.2.2.2 with
    | none => _
    | some q => _) = _
  rw [hq]
end
