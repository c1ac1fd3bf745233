/-! THE PLAIN SIDE, seventh: sums that are owed; covers -/
set_option maxRecDepth 100000
theorem lg_cmp_0 {x y : Int64} : lg_cmp x y = 0 ↔ x = y := by
  unfold lg_cmp
  constructor
  · intro h
    split at h
    · exact absurd h (by decide)
    · split at h
      · assumption
      · exact absurd h (by decide)
  · intro h
    subst h
    rw [if_neg Int64.lt_irrefl, if_pos rfl]
/-- how far two numbers are from what divides both -/
def zGm (a b : Nat) : Nat := if b ≤ a then a * b else 2 * (a * b) + 1
theorem zGm_0 {a b : Nat} (h : zGm a b < 2 ^ 0) : b = 0 := by
  unfold zGm at h
  split at h
  · rename_i h1
    have h2 : a * b = 0 := by omega
    rcases Nat.mul_eq_zero.mp h2 with h3 | h3 <;> omega
  · omega
theorem zGm_s {a b n : Nat} (h : zGm a b < 2 ^ (n + 1)) (hb : 0 < b) : zGm b (a % b) < 2 ^ n := by
  have h1 : a % b < b := Nat.mod_lt _ hb
  unfold zGm
  rw [if_pos (by omega)]
  unfold zGm at h
  rw [Nat.pow_succ] at h
  split at h
  · rename_i h2
    have h3 : 2 * (a % b) < a := by
      have h4 := Nat.mod_add_div a b
      have h5 : 1 ≤ a / b := Nat.div_pos h2 hb
      have h6 : b * 1 ≤ b * (a / b) := Nat.mul_le_mul_left b h5
      omega
    have h7 : b * (2 * (a % b)) < b * a := Nat.mul_lt_mul_of_pos_left h3 hb
    have h8 : b * (2 * (a % b)) = 2 * (b * (a % b)) := by rw [Nat.mul_left_comm]
    have h9 : b * a = a * b := Nat.mul_comm _ _
    omega
  · rename_i h2
    rw [Nat.mod_eq_of_lt (by omega), Nat.mul_comm b a]
    omega
theorem zGm_le {a b : Nat} (ha : a ≤ 10 ^ 10) (hb : b ≤ 10 ^ 14) : zGm a b < 2 ^ 81 := by
  have h : a * b ≤ 10 ^ 10 * 10 ^ 14 := Nat.mul_le_mul ha hb
  unfold zGm
  split <;> omega
/-- a long answer, and a world -/
def gPj (w : Int64) (P : gWM → Prop) : Option Value → gWM → Prop := fun v g1 => v = some (.long w) ∧ P g1
def zUp (B : gBar) (s k : Nat) : Nat := s * (100 + B 0 8) ^ k
theorem zUp_le {B : gBar} {s k : Nat} (hs : s ≤ 999) (hB : B 0 8 ≤ 50) (hk : k ≤ 5) : zUp B s k ≤ 10 ^ 14 := by
  unfold zUp
  have h1 : (100 + B 0 8) ^ k ≤ 150 ^ k := Nat.pow_le_pow_left (by omega) k
  have h2 : 150 ^ k ≤ 150 ^ 5 := Nat.pow_le_pow_right (by omega) hk
  have h3 : s * (100 + B 0 8) ^ k ≤ 999 * 150 ^ 5 := Nat.mul_le_mul hs (Nat.le_trans h1 h2)
  omega
theorem z100_le {k : Nat} (hk : k ≤ 5) : 100 ^ k ≤ 10 ^ 10 := by
  have h2 : 100 ^ k ≤ 100 ^ 5 := Nat.pow_le_pow_right (by omega) hk
  omega
def zOw (B : gBar) (b : Bool) (s k : Nat) : Nat := (if b then 100 ^ k else zUp B s k) / Nat.gcd (100 ^ k) (zUp B s k)
def sOwe (tl : Bool) (B : gBar) (s t : Int32) (b : Bool) : Int64 × Int32 := if !tl then (-1, 1) else if zIn s 0 999 && zIn t 0 5 then (lN (zOw B b s.toNatClampNeg t.toNatClampNeg), 0) else (-1, 2)
