/-! THE PLAIN SIDE, fifth: the plan's questions, seasons -/
set_option maxRecDepth 100000
theorem zIn_nI {p : Int32} {a m : Nat} (ha : a < 2 ^ 30) (hm : m < 2 ^ 30) (h : zIn p (nI a) (nI m) = true) : ∃ n, p = nI n ∧ (a ≤ n ∧ n ≤ m) ∧ p.toNatClampNeg = n := by
  simp only [zIn, Bool.and_eq_true, Bool.not_eq_true', decide_eq_false_iff_not] at h
  obtain ⟨h2, h3⟩ := h
  have h0 : ¬ p < 0 := by
    intro h9
    apply h2
    rw [Int32.lt_iff_toInt_lt] at h9 ⊢
    rw [nI_toInt (by omega)]
    have : (0 : Int32).toInt = 0 := rfl
    omega
  obtain ⟨i, hi, rfl⟩ := nI_of h0
  rw [Int32.lt_iff_toInt_lt, nI_toInt hi, nI_toInt (by omega)] at h2 h3
  exact ⟨i, rfl, by omega, nI_clamp hi⟩
theorem pCs.of {g : gWM} {co bar law : Nat} {dr : Bool} {sd : Nat} {sm : Int32} {B : gBar} {b2 : Value} {R : Nat → Int32} {d : Int32} {dr2 : Bool} {sd2 k : Nat} (h1 : pCo g co bar law dr sd sm) (h2 : pLd g (co + 2) b2 B R d) (h3 : pAr g (co + 1) B dr2 sd2 k) : pCs g co := by
  obtain ⟨F, a, b, c, -⟩ := h1
  obtain ⟨f, d1, -⟩ := h3
  exact ⟨⟨F, a, b, c⟩, ⟨f, d1⟩, h2.ls⟩
/-- what became of all by the plan -/
def zRP (B : gBar) : Nat → Int32 := (zPl B false 0 (B 0 4)).1
def sPla (B : gBar) (p : Int32) : Int32 × Int32 := match qI (B 0 4) p with
  | none => (-1, 1)
  | some c => (zRs B false 0 c, 0)
def zJu (B : gBar) : Nat → Nat → Int32
  | 0, _ => -2
  | n + 1, k => if zRs B false 0 k = -2 then nI k else zJu B n (k + 1)
theorem zJu_t {B : gBar} {k : Nat} (hk : k < B 0 4) (h : zRs B false 0 k = -2) : zJu B (B 0 4 - k) k = nI k := by
  obtain ⟨n, hn⟩ : ∃ n, B 0 4 - k = n + 1 := ⟨B 0 4 - k - 1, by omega⟩
  rw [hn]
  simp [zJu, h]
theorem zJu_f {B : gBar} {k : Nat} (hk : k < B 0 4) (h : ¬ zRs B false 0 k = -2) : zJu B (B 0 4 - k) k = zJu B (B 0 4 - (k + 1)) (k + 1) := by
  obtain ⟨n, hn⟩ : ∃ n, B 0 4 - k = n + 1 := ⟨B 0 4 - k - 1, by omega⟩
  rw [hn, show B 0 4 - (k + 1) = n by omega]
  simp [zJu, h]
def sJud (tl : Bool) (B : gBar) : Int32 × Int32 := if tl then (zJu B (B 0 4) 0, 0) else (-1, 1)
def sPlo (tl : Bool) (B : gBar) (b : Bool) : Int32 × Int32 := if tl then (zAll B (zRP B) (if b then 3 else 2), 0) else (-1, 1)
def sSsn (tl : Bool) (B : gBar) (p : Int32) : Int32 × Int32 := if tl then (if zIn p 0 65536 then ((zPl B true p.toNatClampNeg (B 0 4)).2.2, 0) else (-1, 2)) else (-1, 1)
/-- seasons: the seed then, in how many of them good j was seized -/
def zSz (B : gBar) (j sd : Nat) : Nat → Nat × Int32
  | 0 => (sd, 0)
  | k + 1 => ((zPl B true (zSz B j sd k).1 (B 0 4)).2.1, (zSz B j sd k).2 + (if zBit (zAll B (zPl B true (zSz B j sd k).1 (B 0 4)).1 3) j then 1 else 0))
theorem zSz_lt {B : gBar} {j sd : Nat} (h : sd < 65537) : ∀ k, (zSz B j sd k).1 < 65537
  | 0 => h
  | k + 1 => zPl_lt (zSz_lt h k) _
def sSzd (B : gBar) (p s n : Int32) : Int32 × Int32 := match qI (B 0 3) p with
  | none => (-1, 1)
  | some j => if zIn s 0 65536 && zIn n 1 50 then ((zSz B j s.toNatClampNeg n.toNatClampNeg).2, 0) else (-1, 2)
def sWhe (tr wh : Int32) : Int32 := if tr = 4 then wh else -1
def sSiz (tl : Bool) (B : gBar) (d : Int32) (tp um mm : Nat) (w : Int32) : Int32 := if w = 12 then nI tp else if !tl then (if zIn w 0 11 then 0 else -1) else if w = 0 then nI (B 0 7) else if w = 1 then nI (B 0 8) else if w = 2 then nI (B 0 0) else if w = 3 then nI (B 0 1) else if w = 4 then nI (B 0 2) else if w = 5 then nI (B 0 3) else if w = 6 then nI (B 0 4) else if w = 7 then nI (B 0 5) else if w = 8 then nI (B 0 6) else if w = 9 then d else if w = 10 then nI um else if w = 11 then nI mm else -1
