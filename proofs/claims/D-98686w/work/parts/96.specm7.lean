/-! THE MODEL's PLAIN SIDE, seventh: how it reads -/
set_option maxRecDepth 100000
def zSo (k : Nat) : Int32 := if k = 0 then 1 else if k = 1 then 0 else if k = 2 then 2 else if k = 3 then 3 else 4
theorem zSo_5 (k : Nat) : ¬ zSo k = 5 := by
  unfold zSo
  repeat' split
  all_goals decide
theorem zSo_2 {k : Nat} : zSo k = 2 ↔ k = 2 := by
  unfold zSo
  by_cases h0 : k = 0
  · simp [h0]
  · by_cases h1 : k = 1
    · simp [h1]
    · by_cases h2 : k = 2
      · simp [h2]
      · by_cases h3 : k = 3
        · simp [h3]
        · simp [h0, h1, h2, h3]
theorem zSo_3 {k : Nat} : zSo k = 3 ↔ k = 3 := by
  unfold zSo
  by_cases h0 : k = 0
  · simp [h0]
  · by_cases h1 : k = 1
    · simp [h1]
    · by_cases h2 : k = 2
      · simp [h2]
      · by_cases h3 : k = 3
        · simp [h3]
        · simp [h0, h1, h2, h3]
theorem zSo_1 {k : Nat} : zSo k = 1 ↔ k = 0 := by
  unfold zSo
  by_cases h0 : k = 0
  · simp [h0]
  · by_cases h1 : k = 1
    · simp [h1]
    · by_cases h2 : k = 2
      · simp [h2]
      · by_cases h3 : k = 3
        · simp [h3]
        · simp [h0, h1, h2, h3]
/-- a word, packed -/
def pkx (f : Nat → Int32) : Nat → Int64
  | 0 => 0
  | m + 1 => 32 * pkx f m + (f m - 97 + 1).toInt64
def pk (w : List Int32) : Int64 := pkx (fun i => w.getD i 0) w.length
def pkN (q : Nat → Nat) : Nat → Nat
  | 0 => 0
  | m + 1 => 32 * pkN q m + (q m - 96)
theorem pkN_inj : ∀ {m k : Nat} {q r : Nat → Nat}, (∀ i, i < m → 97 ≤ q i ∧ q i ≤ 122) → (∀ i, i < k → 97 ≤ r i ∧ r i ≤ 122) → pkN q m = pkN r k → m = k ∧ ∀ i, i < m → q i = r i
  | 0, 0, q, r, _, _, _ => ⟨rfl, fun i h => absurd h (Nat.not_lt_zero i)⟩
  | 0, k + 1, q, r, _, h2, h => by
    have h3 := h2 k (by omega)
    have h : 0 = 32 * pkN r k + (r k - 96) := h
    omega
  | m + 1, 0, q, r, h1, _, h => by
    have h3 := h1 m (by omega)
    have h : 32 * pkN q m + (q m - 96) = 0 := h
    omega
  | m + 1, k + 1, q, r, h1, h2, h => by
    have h3 := h1 m (by omega)
    have h4 := h2 k (by omega)
    have h : 32 * pkN q m + (q m - 96) = 32 * pkN r k + (r k - 96) := h
    have h5 := pkN_inj (m := m) (k := k) (fun i hi => h1 i (by omega)) (fun i hi => h2 i (by omega)) (by omega)
    obtain ⟨rfl, h6⟩ := h5
    refine ⟨rfl, fun i hi => ?_⟩
    by_cases h7 : i = m
    · rw [h7]; omega
    · exact h6 i (by omega)
theorem nI_64 {x : Nat} (h : x < 2 ^ 31) : (nI x).toInt64 = Int64.ofNat x := by
  apply Int64.toInt_inj.mp
  rw [Int32.toInt_toInt64, nI_toInt (by omega), Int64.toInt_ofNat_of_lt (by omega)]
theorem pkx_N {f : Nat → Int32} {q : Nat → Nat} : ∀ {m : Nat}, m ≤ 9 → (∀ i, i < m → f i = nI (q i) ∧ 97 ≤ q i ∧ q i ≤ 122) → pkx f m = Int64.ofNat (pkN q m) ∧ pkN q m < 32 ^ m
  | 0, _, _ => ⟨rfl, Nat.zero_lt_one⟩
  | m + 1, hm, h => by
    obtain ⟨h1, h2⟩ := pkx_N (m := m) (by omega) (fun i hi => h i (by omega))
    obtain ⟨h3, h4, h5⟩ := h m (by omega)
    have h6 : 32 ^ m ≤ 32 ^ 8 := Nat.pow_le_pow_right (by decide) (by omega)
    refine ⟨?_, ?_⟩
    · show 32 * pkx f m + (f m - 97 + 1).toInt64 = Int64.ofNat (32 * pkN q m + (q m - 96))
      rw [h1, h3, show (97 : Int32) = nI 97 from rfl, pk_sub (by omega), show nI (q m - 97) + 1 = nI (q m - 97 + 1) from (nI_succ _).symm, show q m - 97 + 1 = q m - 96 by omega, nI_64 (by omega)]
      apply Int64.toBitVec_inj.mp
      show BitVec.ofNat 64 32 * BitVec.ofNat 64 (pkN q m) + BitVec.ofNat 64 (q m - 96) = BitVec.ofNat 64 (32 * pkN q m + (q m - 96))
      rw [BitVec.ofNat_add, BitVec.ofNat_mul]
    · show 32 * pkN q m + (q m - 96) < _
      rw [Nat.pow_succ]
      omega
theorem wo_n {w : List Int32} (h : zWo w) {i : Nat} (hi : i < w.length) : w.getD i 0 = nI (w.getD i 0).toNatClampNeg ∧ 97 ≤ (w.getD i 0).toNatClampNeg ∧ (w.getD i 0).toNatClampNeg ≤ 122 := by
  obtain ⟨q, h1, h2, h3⟩ := zIn_nI (a := 97) (m := 122) (by decide) (by decide) (h.2.2 i hi)
  rw [h3]
  exact ⟨h1, h2⟩
theorem pk_inj {w v : List Int32} (h1 : zWo w) (h2 : zWo v) (h : pk w = pk v) : w = v := by
  obtain ⟨a1, a2⟩ := pkx_N (f := fun i => w.getD i 0) (q := fun i => (w.getD i 0).toNatClampNeg) h1.2.1 (fun i hi => wo_n h1 hi)
  obtain ⟨b1, b2⟩ := pkx_N (f := fun i => v.getD i 0) (q := fun i => (v.getD i 0).toNatClampNeg) h2.2.1 (fun i hi => wo_n h2 hi)
  unfold pk at h
  rw [a1, b1] at h
  have p1 : 32 ^ w.length ≤ 32 ^ 9 := Nat.pow_le_pow_right (by decide) h1.2.1
  have p2 : 32 ^ v.length ≤ 32 ^ 9 := Nat.pow_le_pow_right (by decide) h2.2.1
  have h3 : pkN (fun i => (w.getD i 0).toNatClampNeg) w.length = pkN (fun i => (v.getD i 0).toNatClampNeg) v.length := by
    have h4 := congrArg Int64.toInt h
    rw [Int64.toInt_ofNat_of_lt (by omega), Int64.toInt_ofNat_of_lt (by omega)] at h4
    omega
  obtain ⟨h5, h6⟩ := pkN_inj (fun i hi => (wo_n h1 hi).2) (fun i hi => (wo_n h2 hi).2) h3
  exact lst_eq h5 (fun i hi => by rw [(wo_n h1 hi).1, (wo_n h2 (h5 ▸ hi)).1, h6 i hi])
/-! the model's cells while it reads: F0 all else, kw: a word was read; x: over (with its fault), or at a token -/
def rS (F : Nat → Value) (kw : Bool) (x : zEr zTk) : Prop := match x with
  | .inl e => F 9 = .int 5 ∧ F 12 = .int (nI e.1) ∧ F 13 = .int (nI e.2) ∧ (kw = true → ∃ a, F 14 = .long a)
  | .inr t => F 9 = .int (zSo t.2.1) ∧ F 12 = .int 0 ∧ (t.2.1 ≠ 1 → F 8 = .int (nI t.1)) ∧ F 10 = .int (nI t.2.2.1) ∧ (t.2.1 = 3 → F 11 = .int (nI t.2.2.2.1)) ∧ (t.2.1 = 2 → F 14 = .long (pk t.2.2.2.2)) ∧ (kw = true → ∃ a, F 14 = .long a)
def rF (F F0 : Nat → Value) : Prop := ∀ i, (i < 8 ∨ 14 < i) → F i = F0 i
def pF0 (F0 : Nat → Value) (mb n : Nat) : Prop := F0 4 = .ref mb ∧ F0 5 = .ref 2001 ∧ F0 7 = .int (nI n)
def pMr (g : gWM) (F0 : Nat → Value) (kw : Bool) (x : zEr zTk) : Prop := ∃ F, g 2000 = some (.inr (10, F)) ∧ rF F F0 ∧ rS F kw x
theorem pMr.fr {g g1 : gWM} {F0 : Nat → Value} {kw : Bool} {x : zEr zTk} (h : pMr g F0 kw x) (hf : ∀ j, 2000 ≤ j → j < 2001 → g1 j = g j) : pMr g1 F0 kw x := by
  obtain ⟨F, h1, h2⟩ := h
  exact ⟨F, (hf _ (by omega) (by omega)).trans h1, h2⟩
theorem pMr.kw {g : gWM} {F0 : Nat → Value} {kw : Bool} {t : zTk} (h : pMr g F0 kw (.inr t)) (ht : t.2.1 = 2) : pMr g F0 true (.inr t) := by
  obtain ⟨F, h1, h2, a, b, c, d, e, f, -⟩ := h
  exact ⟨F, h1, h2, a, b, c, d, e, f, fun _ => ⟨_, f ht⟩⟩
theorem rF.u {F F0 : Nat → Value} {k : Nat} {v : Value} (h : rF F F0) (hk : 8 ≤ k ∧ k ≤ 14) : rF (va_up F k v) F0 := fun i hi => by
  unfold va_up
  rw [if_neg (by omega)]
  exact h i hi
/-- about to read on from en: not over -/
def pYo (g : gWM) (F0 : Nat → Value) (kw : Bool) (s : Int32) (en : Nat) : Prop := ∃ F, g 2000 = some (.inr (10, F)) ∧ rF F F0 ∧ F 9 = .int s ∧ F 12 = .int 0 ∧ F 8 = .int (nI en) ∧ (kw = true → ∃ a, F 14 = .long a)
/-- within a word -/
def pYw (g : gWM) (F0 : Nat → Value) (e K : Nat) (w : Int64) : Prop := ∃ F, g 2000 = some (.inr (10, F)) ∧ rF F F0 ∧ F 9 = .int 0 ∧ F 12 = .int 0 ∧ F 8 = .int (nI e) ∧ F 10 = .int (nI K) ∧ F 14 = .long w
/-- within a number -/
def pYd (g : gWM) (F0 : Nat → Value) (kw : Bool) (e K x : Nat) : Prop := ∃ F, g 2000 = some (.inr (10, F)) ∧ rF F F0 ∧ F 9 = .int 0 ∧ F 12 = .int 0 ∧ F 8 = .int (nI e) ∧ F 10 = .int (nI K) ∧ F 11 = .int (nI x) ∧ (kw = true → ∃ a, F 14 = .long a)
/-- what holds of a state -/
def xOk (n : Nat) (x : zEr zTk) : Prop := match x with
  | .inl _ => True
  | .inr t => zOk n t
def xGo (T : Nat → Int32) (n : Nat) (x : zEr zTk) : zEr zTk := zBd x fun t => .inr (zTn T n t.1)
def xFl (k : Nat) (x : zEr zTk) : zEr zTk := zBd x fun t => .inl (k, t.2.2.1)
def wIs (x : zEr zTk) (v : List Int32) : Bool := match x with
  | .inl _ => false
  | .inr t => decide (t.2.1 = 2 ∧ t.2.2.2.2 = v)
theorem zWd_pk {T : Nat → Int32} {n k m : Nat} : pk (zWd T n k m) = pkx (fun i => zSee T n (k + i)) m := by
  have h : ∀ j, j ≤ m → pkx (fun i => (zWd T n k m).getD i 0) j = pkx (fun i => zSee T n (k + i)) j := by
    intro j
    induction j with
    | zero => exact fun _ => rfl
    | succ j ih =>
      intro hj
      show 32 * _ + ((zWd T n k m).getD j 0 - 97 + 1).toInt64 = 32 * _ + (zSee T n (k + j) - 97 + 1).toInt64
      rw [ih (by omega), zWd_at (by omega)]
  unfold pk
  rw [zWd_len]
  exact h m (Nat.le_refl _)
theorem zCh_wo {v : List Int32} (h : zWo v) {i : Nat} (hi : i < v.length) : zCh (v.getD i 0) = v.getD i 0 := by
  obtain ⟨q, h1, h2, h3⟩ := wo_q h hi
  rw [h1]
  exact (by decide +kernel : ∀ q, q < 128 → zCh (nI q) = nI q) q (by omega)
