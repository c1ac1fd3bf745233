/-! THE PLAIN SIDE, second: what is asked of the system, and its main object -/
set_option maxRecDepth 100000
def zIn (v lo hi : Int32) : Bool := !decide (v < lo) && !decide (hi < v)
/-- a place among n, if p is one -/
def qI (n : Nat) (p : Int32) : Option Nat := if zIn p 0 (nI n - 1) then some p.toNatClampNeg else none
theorem qI_some {n j : Nat} {p : Int32} (hn : n < 2 ^ 30) (h : qI n p = some j) : p = nI j ∧ j < n := by
  unfold qI at h
  split at h
  · rename_i h1
    simp only [zIn, Bool.and_eq_true, Bool.not_eq_true', decide_eq_false_iff_not] at h1
    obtain ⟨h2, h3⟩ := h1
    obtain ⟨i, hi, rfl⟩ := nI_of h2
    rw [nI_clamp hi] at h
    cases h
    refine ⟨rfl, ?_⟩
    rw [Int32.lt_iff_toInt_lt, nI_toInt hi, show (1 : Int32) = nI 1 from rfl, pk_sub_toInt hn (by decide)] at h3
    omega
  · cases h
theorem qI_0 (p : Int32) : qI 0 p = none := by
  cases h : qI 0 p with
  | none => rfl
  | some j => exact absurd (qI_some (by decide) h).2 (Nat.not_lt_zero j)
theorem qI_of {n j : Nat} (hn : n < 2 ^ 30) (hj : j < n) : qI n (nI j) = some j := by
  have h1 : zIn (nI j) 0 (nI n - 1) = true := by
    simp only [zIn, Bool.and_eq_true, Bool.not_eq_true', decide_eq_false_iff_not]
    refine ⟨nI_pos (by omega), ?_⟩
    rw [Int32.lt_iff_toInt_lt, nI_toInt (by omega), show (1 : Int32) = nI 1 from rfl, pk_sub_toInt hn (by decide)]
    omega
  unfold qI
  rw [if_pos h1, nI_clamp (by omega)]
theorem qI_none {n : Nat} {p : Int32} (hn : n < 2 ^ 30) (h : qI n p = none) : ∀ j, j < n → p ≠ nI j := fun j hj e => by
  subst e
  rw [qI_of hn hj] at h
  cases h
def qWy (ok : Bool) (dy : Int32) : Int32 := if ok then (if zIn dy 0 60 then 0 else 2) else 1
theorem qWy_0 {ok : Bool} {dy : Int32} : qWy ok dy = 0 ↔ ok = true ∧ zIn dy 0 60 = true := by
  unfold qWy
  cases ok <;> cases zIn dy 0 60 <;> simp
/-- the system's main object: barrier, taped, trouble, fault, where, marks, acts -/
def pSo (g : gWM) (bar : Value) (tp : Nat) (tr fa wh : Int32) (mm um : Nat) : Prop :=
  ∃ F, g 1000 = some (.inr (0, F)) ∧ F 0 = .ref 1001 ∧ F 1 = .int (nI tp) ∧ F 2 = .ref 1002 ∧ F 3 = bar ∧ F 4 = .int tr ∧ F 5 = .int fa ∧ F 6 = .int wh ∧ F 7 = .int (nI mm) ∧ F 8 = .int (nI um) ∧ F 9 = .ref 1010 ∧ F 10 = .ref 1014 ∧ F 11 = .ref 1005 ∧ F 12 = .ref 1006 ∧ F 13 = .ref 1020 ∧ F 14 = .ref 1030 ∧ F 15 = .ref 1040 ∧ F 16 = .ref 1050 ∧ F 17 = .ref 1060 ∧ F 18 = .ref 1070 ∧ F 19 = .ref 1071
theorem pSo.fr {g g1 : gWM} {bar : Value} {tp : Nat} {tr fa wh : Int32} {mm um : Nat} (h : pSo g bar tp tr fa wh mm um) (hf : ∀ j, 1000 ≤ j → j < 1001 → g1 j = g j) : pSo g1 bar tp tr fa wh mm um := by
  obtain ⟨F, h1, h2⟩ := h
  exact ⟨F, (hf _ (by omega) (by omega)).trans h1, h2⟩
/-! questions: an answer and the trouble then -/
def sGood (B : gBar) (R : Nat → Int32) (p w : Int32) : Int32 × Int32 := match qI (B 0 3) p with
  | none => (-1, 1)
  | some j => if w = 0 then (nI (B 12 j), 0) else if w = 1 then (if B 12 j = 0 then -2 else nI (B 13 j), 0) else if w = 2 then (nI (B 14 j), 0) else if w = 3 then (nI (B 16 j), 0) else if w = 4 then (R j, 0) else if w = 5 then (zb (zBit (R 16) j), 0) else (-1, 1)
def sTrav (B : gBar) (R : Nat → Int32) (p w : Int32) : Int32 × Int32 := match qI (B 0 1) p with
  | none => (-1, 1)
  | some t => if w = 0 then (nI (B 7 t), 0) else if w = 1 then (R (8 + t), 0) else if w = 2 then (R (12 + t), 0) else if w = 3 then (zHas B R t, 0) else (-1, 1)
def sGate (B : gBar) (p w : Int32) : Int32 × Int32 := match qI (B 0 2) p with
  | none => (-1, 1)
  | some k => if w = 0 then (nI (B 9 k), 0) else if w = 1 then (nI (B 10 k), 0) else if w = 2 then (nI (B 11 k), 0) else (-1, 1)
/-- what is asked of good p so many days on -/
def sG (B : gBar) (p dy : Int32) (f : Nat → Int32) : Int32 × Int32 := if qWy (qI (B 0 3) p).isSome dy = 0 then (f ((qI (B 0 3) p).getD 0), 0) else (-1, qWy (qI (B 0 3) p).isSome dy)
def sAge (B : gBar) (d p dy : Int32) : Int32 × Int32 := sG B p dy (fun j => zAge B j (d + dy))
def sWor (B : gBar) (d p dy : Int32) : Int32 × Int32 := sG B p dy (fun j => zWor B j (d + dy))
def sDut (B : gBar) (d p dy : Int32) : Int32 × Int32 := sG B p dy (fun j => zDut B 1 j (d + dy))
def sSme (B : gBar) (R : Nat → Int32) (d p dy : Int32) : Int32 × Int32 := sG B p dy (fun j => zSme B R j (d + dy) 0)
/-- .. of traveller p at gate q -/
def sX (B : gBar) (p q dy : Int32) (f : Nat → Nat → Int32) : Int32 × Int32 := if qWy ((qI (B 0 1) p).isSome && (qI (B 0 2) q).isSome) dy = 0 then (f ((qI (B 0 1) p).getD 0) ((qI (B 0 2) q).getD 0), 0) else (-1, qWy ((qI (B 0 1) p).isSome && (qI (B 0 2) q).isSome) dy)
/-- what is asked at a gate, by the law r, so many days on -/
def zAo (B : gBar) (R : Nat → Int32) (t k r : Nat) (d : Int32) : Int32 := zAsk B R t (zFou B R t k d 0) r d
def sAsk (B : gBar) (R : Nat → Int32) (d p q dy : Int32) : Int32 × Int32 := sX B p q dy (fun t k => zAo B R t k 1 (d + dy))
def sOth (B : gBar) (R : Nat → Int32) (d p q dy : Int32) : Int32 × Int32 := sX B p q dy (fun t k => zAo B R t k 2 (d + dy))
def sFou (B : gBar) (R : Nat → Int32) (d p q dy : Int32) : Int32 × Int32 := sX B p q dy (fun t k => zFou B R t k (d + dy) 0)
/-- .. of traveller p -/
def sT (B : gBar) (p dy : Int32) (f : Nat → Int32) : Int32 × Int32 := if qWy (qI (B 0 1) p).isSome dy = 0 then (f ((qI (B 0 1) p).getD 0), 0) else (-1, qWy (qI (B 0 1) p).isSome dy)
def zCar (B : gBar) (R : Nat → Int32) (d : Int32) (t : Nat) (j : Nat) : Int32 := if zHp B R t j then zWor B j d else 0
def sCar (B : gBar) (R : Nat → Int32) (d p dy : Int32) : Int32 × Int32 := sT B p dy (fun t => sumTo (zCar B R (d + dy) t) (B 0 3))
/-- the first turned day, of so many tried -/
def zTd (B : gBar) (j : Nat) (d : Int32) : Nat → Nat → Int32
  | 0, _ => -2
  | n + 1, k => if zTur B j (d + nI k) then nI k else zTd B j d n (k + 1)
def sTur (B : gBar) (d p : Int32) : Int32 × Int32 := match qI (B 0 3) p with
  | none => (-1, 1)
  | some j => (zTd B j d 302 0, 0)
/-- the place of the least of f over 1 .. n against 0 -/
def zLst (f : Nat → Int32) : Nat → Nat
  | 0 => 0
  | n + 1 => if f (n + 1) < f (zLst f n) then n + 1 else zLst f n
theorem zLst_le (f : Nat → Int32) : ∀ n, zLst f n ≤ n
  | 0 => Nat.le_refl _
  | n + 1 => by
    unfold zLst
    split
    · exact Nat.le_refl _
    · exact Nat.le_succ_of_le (zLst_le f n)
def sBga (B : gBar) (R : Nat → Int32) (d p dy : Int32) : Int32 × Int32 := sT B p dy (fun t => nI (zLst (fun k => zAo B R t k 1 (d + dy)) (B 0 2 - 1)))
def zChe (B : gBar) (R : Nat → Int32) (d : Int32) (t k : Nat) : Nat := zLst (fun n => zAo B R t k 1 (d + nI n)) 60
def sChd (B : gBar) (R : Nat → Int32) (d p q : Int32) : Int32 × Int32 := match qI (B 0 1) p, qI (B 0 2) q with
  | some t, some k => (nI (zChe B R d t k), 0)
  | _, _ => (-1, 1)
def sChe (B : gBar) (R : Nat → Int32) (d p q : Int32) : Int32 × Int32 := match qI (B 0 1) p, qI (B 0 2) q with
  | some t, some k => (zAo B R t k 1 (d + nI (zChe B R d t k)), 0)
  | _, _ => (-1, 1)
/-- no barrier -/
def zB0 : gBar := fun _ _ => 0
theorem qI_z (a b : Nat) (p : Int32) : qI (zB0 a b) p = none := qI_0 p
theorem isSome_of {α : Type} {x : Option α} (h : x.isSome = true) : ∃ j, x = some j := Option.isSome_iff_exists.mp h
theorem isNone_of {α : Type} {x : Option α} (h : x.isSome = false) : x = none := by cases x with
  | none => rfl
  | some _ => cases h
