/-! bits of ints: first the family of kit/laws/BITS, pasted; then ours -/
set_option maxRecDepth 100000
def bt (x : Int32) (i : Nat) : Bool := x.toBitVec.getLsbD i
theorem b_ext {x y : Int32} (h : ∀ i, i < 32 → bt x i = bt y i) : x = y := Int32.toBitVec_inj.mp (BitVec.eq_of_getLsbD_eq (fun i hi => h i hi))
theorem b_or (x y : Int32) (i : Nat) : bt (x ||| y) i = (bt x i || bt y i) := by unfold bt; rw [Int32.toBitVec_or, BitVec.getLsbD_or]
theorem b_and (x y : Int32) (i : Nat) : bt (x &&& y) i = (bt x i && bt y i) := by unfold bt; rw [Int32.toBitVec_and, BitVec.getLsbD_and]
theorem b_xor (x y : Int32) (i : Nat) : bt (x ^^^ y) i = (bt x i ^^ bt y i) := by unfold bt; rw [Int32.toBitVec_xor, BitVec.getLsbD_xor]
theorem b_big {x : Int32} {i : Nat} (h : 32 ≤ i) : bt x i = false := BitVec.getLsbD_of_ge _ _ h
theorem b_255 (i : Nat) : bt 255 i = decide (i < 8) := by
  rcases Nat.lt_or_ge i 32 with h | h
  · exact (by decide +kernel : ∀ i, i < 32 → bt 255 i = decide (i < 8)) i h
  · rw [b_big h, decide_eq_false (by omega)]
theorem b_65535 (i : Nat) : bt 65535 i = decide (i < 16) := by
  rcases Nat.lt_or_ge i 32 with h | h
  · exact (by decide +kernel : ∀ i, i < 32 → bt 65535 i = decide (i < 16)) i h
  · rw [b_big h, decide_eq_false (by omega)]
theorem b_m1 : ∀ i, i < 32 → bt (-1) i = true := by decide +kernel
theorem b_0 (i : Nat) : bt 0 i = false := BitVec.getLsbD_zero
theorem s_l : ∀ n, n < 32 → ((nI n &&& 31).toBitVec.smod 32).toNat = n := by decide +kernel
theorem s_u : ∀ n, n < 32 → (((nI n).toUInt32 &&& Int32.toUInt32 31).toBitVec % 32).toNat = n := by decide +kernel
theorem b_shl (n : Nat) (hn : n < 32) (x : Int32) {i : Nat} (hi : i < 32) : bt (x <<< (nI n &&& 31)) i = (decide (n ≤ i) && bt x (i - n)) := by
  unfold bt
  rw [Int32.toBitVec_shiftLeft]
  show (x.toBitVec <<< ((nI n &&& 31).toBitVec.smod 32).toNat).getLsbD i = _
  rw [s_l n hn, BitVec.getLsbD_shiftLeft]
  rcases Nat.lt_or_ge i n with h | h
  · simp [h, Nat.not_le.mpr h]
  · simp [hi, h, Nat.not_lt.mpr h]
theorem b_ushr (n : Nat) (hn : n < 32) (x : Int32) (i : Nat) : bt ((x.toUInt32 >>> ((nI n).toUInt32 &&& Int32.toUInt32 31)).toInt32) i = bt x (n + i) := by
  show (x.toUInt32 >>> ((nI n).toUInt32 &&& Int32.toUInt32 31)).toBitVec.getLsbD i = x.toUInt32.toBitVec.getLsbD (n + i)
  rw [UInt32.toBitVec_shiftRight]
  show (x.toUInt32.toBitVec >>> (((nI n).toUInt32 &&& Int32.toUInt32 31).toBitVec % 32).toNat).getLsbD i = _
  rw [s_u n hn, BitVec.getLsbD_ushiftRight]
theorem b_sshr (n : Nat) (hn : n < 32) (x : Int32) {i : Nat} (hi : i < 32) : bt (x >>> (nI n &&& 31)) i = if n + i < 32 then bt x (n + i) else bt x 31 := by
  unfold bt
  rw [Int32.toBitVec_shiftRight]
  show (x.toBitVec.sshiftRight ((nI n &&& 31).toBitVec.smod 32).toNat).getLsbD i = _
  rw [s_l n hn, BitVec.getLsbD_sshiftRight, BitVec.msb_eq_getLsbD_last]
  simp [hi]
theorem b_shl8 (x : Int32) {i : Nat} (hi : i < 32) : bt (x <<< ((8 : Int32) &&& 31)) i = (decide (8 ≤ i) && bt x (i - 8)) := b_shl 8 (by omega) x hi
theorem b_shl16 (x : Int32) {i : Nat} (hi : i < 32) : bt (x <<< ((16 : Int32) &&& 31)) i = (decide (16 ≤ i) && bt x (i - 16)) := b_shl 16 (by omega) x hi
theorem b_shl24 (x : Int32) {i : Nat} (hi : i < 32) : bt (x <<< ((24 : Int32) &&& 31)) i = (decide (24 ≤ i) && bt x (i - 24)) := b_shl 24 (by omega) x hi
theorem b_sshr8 (x : Int32) {i : Nat} (hi : i < 32) : bt (x >>> ((8 : Int32) &&& 31)) i = if 8 + i < 32 then bt x (8 + i) else bt x 31 := b_sshr 8 (by omega) x hi
/-! ===== nI under and, xor, >>>, one bit, 65535 ===== -/
theorem nx_and (a b : Nat) : nI a &&& nI b = nI (a &&& b) := by
  apply Int32.toBitVec_inj.1
  show BitVec.ofNat 32 a &&& BitVec.ofNat 32 b = BitVec.ofNat 32 (a &&& b)
  apply BitVec.eq_of_getLsbD_eq
  intro i hi
  simp [hi]
theorem nx_xor (a b : Nat) : nI a ^^^ nI b = nI (a ^^^ b) := by
  apply Int32.toBitVec_inj.1
  show BitVec.ofNat 32 a ^^^ BitVec.ofNat 32 b = BitVec.ofNat 32 (a ^^^ b)
  apply BitVec.eq_of_getLsbD_eq
  intro i hi
  simp [hi]

theorem b_1 (i : Nat) : bt 1 i = decide (i = 0) := by
  rcases Nat.lt_or_ge i 32 with h | h
  · exact (by decide +kernel : ∀ i, i < 32 → bt 1 i = decide (i = 0)) i h
  · rw [b_big h, decide_eq_false (by omega)]
theorem b_low (x : Int32) : x &&& 1 = 1 ↔ bt x 0 = true := by
  constructor
  · intro h
    have h1 : bt (x &&& 1) 0 = bt 1 0 := by rw [h]
    rw [b_and] at h1
    simpa [b_1] using h1
  · intro h
    refine b_ext fun i hi => ?_
    rw [b_and, b_1]
    by_cases h0 : i = 0
    · subst h0; simp [h]
    · simp [h0]
theorem zBit_bt {s : Int32} {k : Nat} (h : k < 32) : zBit s k = bt s k := by
  unfold zBit
  have h1 : bt (s >>> (nI k &&& 31)) 0 = bt s k := by rw [b_sshr k h s (by omega)]; simp [h]
  rw [← h1]
  cases hb : bt (s >>> (nI k &&& 31)) 0 with
  | true => exact decide_eq_true ((b_low _).mpr hb)
  | false => exact decide_eq_false fun h2 => by rw [(b_low _).mp h2] at hb; cases hb
theorem zBit_and {a b : Int32} {k : Nat} (h : k < 32) : zBit (a &&& b) k = (zBit a k && zBit b k) := by rw [zBit_bt h, zBit_bt h, zBit_bt h, b_and]
theorem zBit_or {a b : Int32} {k : Nat} (h : k < 32) : zBit (a ||| b) k = (zBit a k || zBit b k) := by rw [zBit_bt h, zBit_bt h, zBit_bt h, b_or]
theorem zBit_xor {a b : Int32} {k : Nat} (h : k < 32) : zBit (a ^^^ b) k = (zBit a k ^^ zBit b k) := by rw [zBit_bt h, zBit_bt h, zBit_bt h, b_xor]
theorem zBit_not {a : Int32} {k : Nat} (h : k < 32) : zBit (a ^^^ (-1)) k = !zBit a k := by rw [zBit_xor h, zBit_bt (s := -1) h, b_m1 k h]; simp
theorem zBit_one {n k : Nat} (hn : n < 32) (hk : k < 32) : zBit ((1 : Int32) <<< (nI n &&& 31)) k = decide (k = n) := by
  rw [zBit_bt hk, b_shl n hn 1 hk, b_1]
  by_cases h : k = n
  · subst h; simp
  · have : ¬ (n ≤ k ∧ k - n = 0) := by omega
    simp only [h, decide_false]
    by_cases h2 : n ≤ k
    · simp [h2]; omega
    · simp [h2]
theorem zBit_0 {k : Nat} (h : k < 32) : zBit 0 k = false := by rw [zBit_bt h, b_0]
theorem zBit_orTo {p : Nat → Bool} {n k : Nat} (hn : n ≤ 32) (hk : k < 32) : zBit (orTo p n) k = (decide (k < n) && p k) := by
  induction n with
  | zero =>
    rw [show orTo p 0 = 0 from rfl, zBit_0 hk]
    simp
  | succ n ih =>
    rw [show orTo p (n + 1) = orTo p n ||| (if p n then (1 : Int32) <<< (nI n &&& 31) else 0) from rfl, zBit_or hk, ih (by omega)]
    by_cases hp : p n = true
    · rw [if_pos hp, zBit_one (by omega) hk]
      by_cases h : k = n
      · subst h; simp [hp]
      · have : (k < n + 1) ↔ k < n := by omega
        simp [h, this]
    · rw [if_neg hp, zBit_0 hk]
      by_cases h : k = n
      · subst h; simp at hp; simp [hp]
      · have : (k < n + 1) ↔ k < n := by omega
        simp [this]
theorem zBit_has {B : gBar} {R : Nat → Int32} {t k : Nat} (hn : B 0 3 ≤ 8) (hk : k < B 0 3) : zBit (zHas B R t) k = zHp B R t k := by
  unfold zHas
  rw [zBit_orTo (by omega) (by omega)]
  simp [hk]
/-- how many ones -/
def zOf : Nat → Nat → Nat
  | 0, _ => 0
  | f + 1, a => a % 2 + zOf f (a / 2)
def zOn (a : Nat) : Nat := zOf 8 a
theorem zOn_step : ∀ a, a < 256 → 0 < a → zOn (a &&& (a - 1)) + 1 = zOn a ∧ a &&& (a - 1) < a ∧ zOn a ≤ 8 := by decide +kernel
theorem zOn_0 : zOn 0 = 0 := rfl
theorem zOn_and {a : Nat} (h : 0 < a) : nI a &&& (nI a - 1) = nI (a &&& (a - 1)) := by
  rw [show nI a - 1 = nI (a - 1) by rw [show (1 : Int32) = nI 1 from rfl, pk_sub (by omega)], nx_and]
