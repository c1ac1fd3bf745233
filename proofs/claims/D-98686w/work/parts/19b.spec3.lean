/-! THE PLAIN SIDE, third: more questions -/
set_option maxRecDepth 100000
theorem zTd_t {B : gBar} {j k : Nat} {d : Int32} (hk : k < 302) (h : zTur B j (d + nI k) = true) : zTd B j d (302 - k) k = nI k := by
  obtain ⟨n, hn⟩ : ∃ n, 302 - k = n + 1 := ⟨301 - k, by omega⟩
  rw [hn]
  simp [zTd, h]
theorem zTd_f {B : gBar} {j k : Nat} {d : Int32} (hk : k < 302) (h : zTur B j (d + nI k) = false) : zTd B j d (302 - k) k = zTd B j d (302 - (k + 1)) (k + 1) := by
  obtain ⟨n, hn⟩ : ∃ n, 302 - k = n + 1 := ⟨301 - k, by omega⟩
  rw [hn, show 302 - (k + 1) = n by omega]
  simp [zTd, h]
/-- duties by the means i -/
def zDb (B : gBar) (R : Nat → Int32) (d : Int32) (i j : Nat) : Int32 := if decide (R j = 0) && (decide (B 12 j ≠ 0) && decide (B 13 j = i)) then zDut B 1 j d else 0
def sDby (B : gBar) (R : Nat → Int32) (d p dy : Int32) : Int32 × Int32 := if qWy (qI (B 0 0) p).isSome dy = 0 then (sumTo (zDb B R (d + dy) ((qI (B 0 0) p).getD 0)) (B 0 3), 0) else (-1, qWy (qI (B 0 0) p).isSome dy)
theorem zLst_t {f : Nat → Int32} {n : Nat} (h : ¬ f (zLst f n) ≤ f (n + 1)) : zLst f (n + 1) = n + 1 := by
  show (if _ then _ else _) = _
  rw [if_pos (Int32.not_le.mp h)]
theorem zLst_f {f : Nat → Int32} {n : Nat} (h : f (zLst f n) ≤ f (n + 1)) : zLst f (n + 1) = zLst f n := by
  show (if _ then _ else _) = _
  rw [if_neg (Int32.not_lt.mpr h)]
/-- the place of the greatest of f over 1 .. n against 0 -/
def zMst (f : Nat → Int32) : Nat → Nat
  | 0 => 0
  | n + 1 => if f (zMst f n) < f (n + 1) then n + 1 else zMst f n
theorem zMst_le (f : Nat → Int32) : ∀ n, zMst f n ≤ n
  | 0 => Nat.le_refl _
  | n + 1 => by
    unfold zMst
    split
    · exact Nat.le_refl _
    · exact Nat.le_succ_of_le (zMst_le f n)
theorem zMst_t {f : Nat → Int32} {n : Nat} (h : ¬ f (n + 1) ≤ f (zMst f n)) : zMst f (n + 1) = n + 1 := by
  show (if _ then _ else _) = _
  rw [if_pos (Int32.not_le.mp h)]
theorem zMst_f {f : Nat → Int32} {n : Nat} (h : f (n + 1) ≤ f (zMst f n)) : zMst f (n + 1) = zMst f n := by
  show (if _ then _ else _) = _
  rw [if_neg (Int32.not_lt.mpr h)]
/-- what is had by holding -/
def zHo (B : gBar) (d : Int32) (j n : Nat) : Int32 := zWor B j (d + nI n) - zDut B 1 j (d + nI n) - nI (B 0 7) * nI n
def zBh (B : gBar) (d : Int32) (j : Nat) : Nat := zMst (zHo B d j) 60
def sHol (B : gBar) (d p : Int32) : Int32 × Int32 := match qI (B 0 3) p with
  | none => (-1, 1)
  | some j => (nI (zBh B d j), 0)
def sHog (B : gBar) (d p : Int32) : Int32 × Int32 := match qI (B 0 3) p with
  | none => (-10000, 1)
  | some j => (zHo B d j (zBh B d j), 0)
def sGai (B : gBar) (d p dy : Int32) : Int32 × Int32 := if qWy (qI (B 0 3) p).isSome dy = 0 then (zGai B ((qI (B 0 3) p).getD 0) (d + dy), 0) else (-10000, qWy (qI (B 0 3) p).isSome dy)
/-- the best good to go with: what is best so far, how much -/
def zBs (B : gBar) (d : Int32) (s : Int32 × Int32) (j n : Nat) : Int32 × Int32 := if ¬ s.1 = -2 ∧ ¬ s.2 < zGai B j (d + nI n) then s else (100 * nI j + nI n, zGai B j (d + nI n))
def zBi (B : gBar) (d : Int32) (s : Int32 × Int32) (j : Nat) : Nat → Int32 × Int32
  | 0 => s
  | n + 1 => zBs B d (zBi B d s j n) j n
def zBo (B : gBar) (R : Nat → Int32) (d : Int32) : Nat → Int32 × Int32
  | 0 => (-2, 0)
  | j + 1 => if R j = 0 then zBi B d (zBo B R d j) j 61 else zBo B R d j
def sBgo (tl : Bool) (B : gBar) (R : Nat → Int32) (d : Int32) : Int32 × Int32 := if tl then ((zBo B R d (B 0 3)).1, 0) else (-1, 1)
/-- worth that is hidden by the people of a set -/
def zHv (B : gBar) (R : Nat → Int32) (d s : Int32) (j : Nat) : Int32 := if decide (R j = 0) && (zBit (R 16) j && zBit s (B 14 j)) then zWor B j d else 0
def zHw (B : gBar) (R : Nat → Int32) (d s : Int32) : Int32 := sumTo (zHv B R d s) (B 0 3)
def zSe (B : gBar) (R : Nat → Int32) (d m : Int32) : Nat → Int32
  | 0 => -1
  | s + 1 => if nI (zOn s) = m ∧ (zSe B R d m s = -1 ∨ ¬ zHw B R d (nI s) ≤ zHw B R d (zSe B R d m s)) then nI s else zSe B R d m s
def zMin (x y : Int32) : Int32 := if y < x then y else x
def sSea (tl : Bool) (B : gBar) (R : Nat → Int32) (d p : Int32) : Int32 × Int32 := if !tl then (-1, 1) else if zIn p 0 4 then (zSe B R d (zMin p (nI (B 0 1))) (2 ^ B 0 1), 0) else (-1, 2)
theorem shl1 {n : Nat} (h : n ≤ 8) : (1 : Int32) <<< (nI n &&& 31) = nI (2 ^ n) := by
  have : ∀ n, n ≤ 8 → (1 : Int32) <<< (nI n &&& 31) = nI (2 ^ n) := by decide +kernel
  exact this n h
theorem pow8 {n : Nat} (h : n ≤ 8) : 2 ^ n ≤ 256 := by
  have : ∀ n, n ≤ 8 → 2 ^ n ≤ 256 := by decide +kernel
  exact this n h
theorem pow4 {n : Nat} (h : n ≤ 4) : 2 ^ n ≤ 16 := by
  have : ∀ n, n ≤ 4 → 2 ^ n ≤ 16 := by decide +kernel
  exact this n h
theorem qI_in (n : Nat) (p : Int32) : (qI n p).isSome = zIn p 0 (nI n - 1) := by
  unfold qI
  cases zIn p 0 (nI n - 1) <;> simp
/-- hidden, and not found -/
def zSf (B : gBar) (R : Nat → Int32) (t k : Nat) (d : Int32) (j : Nat) : Bool := zHp B R t j && zBit (R 16) j && !zFp B R t k d 0 j
def zNe (B : gBar) (R : Nat → Int32) (t k : Nat) (d : Int32) : Nat → Option Nat
  | 0 => none
  | j + 1 => if zSf B R t k d j then (match zNe B R t k d j with
    | none => some j
    | some i => if zSme B R j d 0 ≤ zSme B R i d 0 then some i else some j) else zNe B R t k d j
def oI (o : Option Nat) : Int32 := match o with
  | none => -2
  | some i => nI i
theorem zNe_lt {B : gBar} {R : Nat → Int32} {t k : Nat} {d : Int32} : ∀ {n i : Nat}, zNe B R t k d n = some i → i < n := by
  intro n
  induction n with
  | zero => intro i h; cases h
  | succ n ih =>
    intro i h
    unfold zNe at h
    split at h
    · cases hz : zNe B R t k d n with
      | none => rw [hz] at h; cases h; omega
      | some i2 =>
        rw [hz] at h
        have := ih hz
        simp only at h
        split at h <;> cases h <;> omega
    · exact Nat.lt_succ_of_lt (ih h)
theorem oI_none {o : Option Nat} {n : Nat} (hn : n < 1000) (h : ∀ i, o = some i → i < n) (e : oI o = -2) : o = none := by
  cases o with
  | none => rfl
  | some i =>
    have h1 := h i rfl
    have e : nI i = -2 := e
    have h2 := nI_toInt (n := i) (by omega)
    rw [e] at h2
    have h3 : (-2 : Int32).toInt = -2 := rfl
    omega
theorem oI_some {o : Option Nat} (e : ¬ oI o = -2) : ∃ i, o = some i := by
  cases o with
  | none => exact absurd rfl e
  | some i => exact ⟨i, rfl⟩
theorem zBit_fou {B : gBar} {R : Nat → Int32} {t k j : Nat} {d m : Int32} (hn : B 0 3 ≤ 8) (hj : j < B 0 3) : zBit (zFou B R t k d m) j = zFp B R t k d m j := by
  unfold zFou
  rw [zBit_orTo (by omega) (by omega)]
  simp [hj]
def sNea (B : gBar) (R : Nat → Int32) (d p q dy : Int32) : Int32 × Int32 := sX B p q dy (fun t k => oI (zNe B R t k (d + dy) (B 0 3)))
theorem zBo_y {B : gBar} {R : Nat → Int32} {d : Int32} {k : Nat} (h : R k = 0) : zBo B R d (k + 1) = zBi B d (zBo B R d k) k 61 := by
  show (if _ then _ else _) = _
  rw [if_pos h]
theorem zBo_n {B : gBar} {R : Nat → Int32} {d : Int32} {k : Nat} (h : ¬ R k = 0) : zBo B R d (k + 1) = zBo B R d k := by
  show (if _ then _ else _) = _
  rw [if_neg h]
