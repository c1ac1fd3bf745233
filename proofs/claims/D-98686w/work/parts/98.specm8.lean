/-! THE MODEL's PLAIN SIDE, eighth: states -/
set_option maxRecDepth 100000
def xNb (x : zEr zTk) : Prop := match x with
  | .inl _ => True
  | .inr t => t.2.1 ≠ 1
def zSt {α : Type} (y : zEr (α × zTk)) : zEr zTk := zBd y fun a => .inr a.2
def zVl (d : Nat) (y : zEr (Nat × zTk)) : Nat := match y with
  | .inl _ => d
  | .inr a => a.1
theorem pMr.go {g : gWM} {F0 : Nat → Value} {kw : Bool} {t : zTk} (h : pMr g F0 kw (.inr t)) (ht : t.2.1 ≠ 1) : pYo g F0 kw (zSo t.2.1) t.1 := by
  obtain ⟨F, h1, h2, a, b, c, d, e, f, k⟩ := h
  exact ⟨F, h1, h2, a, b, c ht, k⟩
section
variable {T : Nat → Int32} {n : Nat} {x : zEr zTk} {v : List Int32}
theorem wIs_nb (h : wIs x v = true) : xNb x := by
  cases x with
  | inl e => trivial
  | inr t =>
    have h := of_decide_eq_true h
    show t.2.1 ≠ 1
    rw [h.1]
    decide
theorem mu_y (h : wIs x v = true) : xGo T n x = zBd x (zMu T n v) := by
  cases x with
  | inl e => rfl
  | inr t =>
    have h := of_decide_eq_true h
    exact (if_pos h).symm
theorem mu_n (h : wIs x v = false) : xGo T n (xFl 1 x) = zBd x (zMu T n v) := by
  cases x with
  | inl e => rfl
  | inr t =>
    have h := of_decide_eq_false h
    exact (if_neg h).symm
theorem xGo_ok (h : xOk n x) : xOk n (xGo T n x) := by
  cases x with
  | inl e => trivial
  | inr t => exact zTn_ok h.1
theorem zMu_x (h : xOk n x) : xOk n (zBd x (zMu T n v)) := by
  cases x with
  | inl e => trivial
  | inr t =>
    cases he : zMu T n v t with
    | inl e =>
      show xOk n (zMu T n v t)
      rw [he]
      trivial
    | inr a =>
      show xOk n (zMu T n v t)
      rw [he]
      exact zMu_ok h he
theorem zNu_x {lo hi : Nat} (h : xOk n x) : xOk n (zSt (zBd x (zNu T n lo hi))) := by
  cases x with
  | inl e => trivial
  | inr t =>
    cases he : zNu T n lo hi t with
    | inl e =>
      show xOk n (zSt (zNu T n lo hi t))
      rw [he]
      trivial
    | inr a =>
      show xOk n (zSt (zNu T n lo hi t))
      rw [he]
      exact zNu_ok h he
theorem zBd_as {α β γ : Type} {y : zEr α} {f : α → zEr β} {h : β → zEr γ} : zBd (zBd y f) h = zBd y fun a => zBd (f a) h := by
  cases y <;> rfl
theorem zAf_x {lo hi : Nat} : zBd (zBd x (zMu T n v)) (zNu T n lo hi) = zBd x (zAf T n v lo hi) := zBd_as
end
