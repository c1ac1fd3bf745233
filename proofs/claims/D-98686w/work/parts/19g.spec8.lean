/-! THE PLAIN SIDE, eighth: smells as plain numbers; covers -/
set_option maxRecDepth 100000
def zSmN (B : gBar) (j dn : Nat) : Nat := if B 12 j = 3 then 2 * (B 16 j + (B 15 j + dn) / 10) else B 16 j + (B 15 j + dn) / 10
theorem zSmN_le {B : gBar} (hw : wfB B) {j dn : Nat} (hj : j < B 0 3) (hd : dn ≤ 400) : zSmN B j dn ≤ 200 := by
  have h := hw.goods hj
  unfold zSmN
  split <;> omega
theorem zSmb_nI {B : gBar} (hw : wfB B) {j dn : Nat} (hj : j < B 0 3) (hd : dn ≤ 400) : zSmb B j (nI dn) = nI (zSmN B j dn) := by
  have h := hw.goods hj
  have h1 : zAge B j (nI dn) / 10 = nI ((B 15 j + dn) / 10) := by
    unfold zAge
    rw [nI_add, show (10 : Int32) = nI 10 from rfl, pk_div (by omega) (by decide) (by decide)]
  unfold zSmb zSmN
  rw [h1]
  split
  · rw [nI_add, show (2 : Int32) = nI 2 from rfl, pk_mul]
  · rw [nI_add]
def zCnt (p : Nat → Bool) : Nat → Nat
  | 0 => 0
  | n + 1 => zCnt p n + (if p n then 1 else 0)
theorem zCnt_le (p : Nat → Bool) : ∀ n, zCnt p n ≤ n
  | 0 => Nat.le_refl _
  | n + 1 => by
    have := zCnt_le p n
    unfold zCnt
    split <;> omega
theorem zFre_nI {B : gBar} {R : Nat → Int32} {j : Nat} {d : Int32} : ∀ n, zFre B R j d n = nI (zCnt (zCov B R j d) n)
  | 0 => rfl
  | n + 1 => by
    have h1 : zFre B R j d (n + 1) = zFre B R j d n + (if zCov B R j d n then (1 : Int32) else 0) := rfl
    have h2 : zCnt (zCov B R j d) (n + 1) = zCnt (zCov B R j d) n + (if zCov B R j d n then 1 else 0) := rfl
    rw [h1, h2, zFre_nI n]
    cases zCov B R j d n
    · simp
    · simp only [if_true]
      rw [nI_succ]
theorem zPos_sub {a b : Nat} (ha : a < 2 ^ 30) (hb : b < 2 ^ 30) : zPos (nI a - nI b) = nI (a - b) := by
  have h := pk_sub_toInt ha hb
  unfold zPos
  by_cases h1 : (0 : Int32) < nI a - nI b
  · rw [if_pos h1]
    rw [Int32.lt_iff_toInt_lt, h] at h1
    have h0 : (0 : Int32).toInt = 0 := rfl
    rw [← Int32.toInt_inj, h, nI_toInt (by omega)]
    omega
  · rw [if_neg h1]
    rw [Int32.lt_iff_toInt_lt, h] at h1
    have h0 : (0 : Int32).toInt = 0 := rfl
    rw [show a - b = 0 by omega]
    rfl
/-- how strongly good j smells, with so many more fresh ones -/
def zSn (B : gBar) (R : Nat → Int32) (j dn m : Nat) : Nat := zSmN B j dn - 2 * (zCnt (zCov B R j (nI dn)) (B 0 3) + m)
theorem zSme_nI {B : gBar} (hw : wfB B) {R : Nat → Int32} {j dn m : Nat} (hj : j < B 0 3) (hd : dn ≤ 400) (hm : m ≤ 100) : zSme B R j (nI dn) (nI m) = nI (zSn B R j dn m) := by
  have h1 := zSmN_le hw hj hd
  have h2 := zCnt_le (zCov B R j (nI dn)) (B 0 3)
  have hn := hw.1
  unfold zSme zSn
  rw [zSmb_nI hw hj hd, zFre_nI, nI_add, show (2 : Int32) = nI 2 from rfl, pk_mul, zPos_sub (by omega) (by omega)]
theorem zSn_le {B : gBar} (hw : wfB B) {R : Nat → Int32} {j dn m : Nat} (hj : j < B 0 3) (hd : dn ≤ 400) : zSn B R j dn m ≤ 200 := by
  have := zSmN_le hw hj hd
  unfold zSn
  omega
/-- the strongest that is hidden -/
def zMo (B : gBar) (R : Nat → Int32) (t dn : Nat) : Nat → Nat
  | 0 => 0
  | j + 1 => if zHp B R t j && zBit (R 16) j then max (zMo B R t dn j) (zSn B R j dn 0) else zMo B R t dn j
theorem zMo_le {B : gBar} (hw : wfB B) {R : Nat → Int32} {t dn : Nat} (hd : dn ≤ 400) : ∀ {n : Nat}, n ≤ B 0 3 → zMo B R t dn n ≤ 200
  | 0, _ => Nat.zero_le _
  | n + 1, h => by
    have h1 := zMo_le hw (R := R) (t := t) hd (n := n) (by omega)
    have h2 := zSn_le hw (R := R) (m := 0) (show n < B 0 3 by omega) hd
    unfold zMo
    split <;> omega
theorem zMo_t {B : gBar} {R : Nat → Int32} {t dn k : Nat} (hk : k < B 0 3) (hn : B 0 3 ≤ 8) (hw : wfB B) (hd : dn ≤ 400) (h : (zHp B R t k && zBit (R 16) k) = true) : (if nI (zMo B R t dn k) < zSme B R k (nI dn) 0 then zSme B R k (nI dn) 0 else nI (zMo B R t dn k)) = nI (zMo B R t dn (k + 1)) := by
  have h1 := zMo_le hw (R := R) (t := t) hd (n := k) (by omega)
  have h2 := zSn_le hw (R := R) (m := 0) hk hd
  have h3 := zSme_nI hw (R := R) hk hd (m := 0) (by omega)
  rw [show (0 : Int32) = nI 0 from rfl, h3]
  show _ = nI (if _ then _ else _)
  rw [if_pos h]
  by_cases h9 : zMo B R t dn k < zSn B R k dn 0
  · rw [if_pos ((nI_ltI (by omega) (by omega)).mpr h9), Nat.max_eq_right (by omega)]
  · rw [if_neg (mt (nI_ltI (by omega) (by omega)).mp h9), Nat.max_eq_left (by omega)]
def zCv (m nose : Nat) : Nat := if m < nose then 0 else (m - nose) / 2 + 1
def sCov (B : gBar) (R : Nat → Int32) (d p q dy : Int32) : Int32 × Int32 := sX B p q dy (fun t k => if zCv (zMo B R t (d + dy).toNatClampNeg (B 0 3)) (B 9 k) ≤ 30 then nI (zCv (zMo B R t (d + dy).toNatClampNeg (B 0 3)) (B 9 k)) else -2)
theorem wfB.gate {B : gBar} (h : wfB B) {k : Nat} (hk : k < B 0 2) : 1 ≤ B 9 k ∧ B 9 k ≤ 99 ∧ B 10 k ≤ 23 ∧ B 11 k ≤ 23 := h.2.2.2.1 k hk
