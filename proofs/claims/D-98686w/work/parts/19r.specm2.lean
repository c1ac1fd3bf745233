/-! THE MODEL, plain laws: what is asked is no -1; sets -/
set_option maxRecDepth 100000
theorem sumTo_b {f : Nat → Int32} {M : Nat} : ∀ {n : Nat}, (∀ j, j < n → ∃ a, a ≤ M ∧ f j = nI a) → ∃ a, a ≤ n * M ∧ sumTo f n = nI a
  | 0, _ => ⟨0, Nat.zero_le _, rfl⟩
  | n + 1, h => by
    obtain ⟨a, ha, e⟩ := sumTo_b (n := n) (fun j hj => h j (by omega))
    obtain ⟨b, hb, e2⟩ := h n (by omega)
    refine ⟨a + b, ?_, ?_⟩
    · rw [Nat.add_mul, Nat.one_mul]; omega
    · show sumTo f n + f n = _
      rw [e, e2, nI_add]
theorem zDut_b {B : gBar} (hw : wfB B) {r j dn : Nat} (hr : r = 1 ∨ r = 2) (hj : j < B 0 3) (hd : dn ≤ 400) : ∃ a, a ≤ 6000 ∧ zDut B r j (nI dn) = nI a := by
  have h := hw.goods hj
  unfold zDut
  split
  · exact ⟨0, Nat.zero_le _, rfl⟩
  · rename_i h1
    split
    · exact ⟨0, Nat.zero_le _, rfl⟩
    · have h2 := hw.2.1 (B 13 j) (h.2.1 h1)
      have h3 : B r (B 13 j) ≤ 9 := by rcases hr with rfl | rfl <;> omega
      refine ⟨B 16 j * B r (B 13 j) * ((B 15 j + dn) / 10), ?_, ?_⟩
      · have h4 : B 16 j * B r (B 13 j) ≤ 9 * 9 := Nat.mul_le_mul (by omega) h3
        have h5 : B 16 j * B r (B 13 j) * ((B 15 j + dn) / 10) ≤ (9 * 9) * 70 := Nat.mul_le_mul h4 (by omega)
        omega
      · unfold zAge
        rw [nI_add, show (10 : Int32) = nI 10 from rfl, pk_div (by omega) (by decide) (by decide), pk_mul, pk_mul]
theorem zAsk_b {B : gBar} (hw : wfB B) {R : Nat → Int32} {t r dn : Nat} {f : Int32} (hr : r = 1 ∨ r = 2) (ht : t < B 0 1) (hd : dn ≤ 400) : ∃ a, a ≤ 200000 ∧ zAsk B R t f r (nI dn) = nI a := by
  have hn := hw.1
  have hp := (hw.2.2.1 t ht).1
  obtain ⟨a, ha, e1⟩ := sumTo_b (f := zOpn B R t r (nI dn)) (M := 6000) (n := B 0 3) (fun j hj => by
    unfold zOpn
    split
    · exact zDut_b hw hr hj hd
    · exact ⟨0, Nat.zero_le _, rfl⟩)
  obtain ⟨b, hb, e2⟩ := sumTo_b (f := zFin B f r (nI dn)) (M := 18000) (n := B 0 3) (fun j hj => by
    unfold zFin
    split
    · obtain ⟨q, hq, e⟩ := zDut_b hw hr hj hd
      exact ⟨3 * q, by omega, by rw [e, show (3 : Int32) = nI 3 from rfl, pk_mul]⟩
    · exact ⟨0, Nat.zero_le _, rfl⟩)
  have h1 : B 0 3 * 6000 ≤ 8 * 6000 := Nat.mul_le_mul_right _ (by omega)
  have h2 : B 0 3 * 18000 ≤ 8 * 18000 := Nat.mul_le_mul_right _ (by omega)
  refine ⟨(a - B 7 t) + b, by omega, ?_⟩
  unfold zAsk
  rw [e1, e2, zPos_sub (by omega) (by omega), nI_add]
theorem nI_nm1 {a : Nat} (h : a < 2 ^ 30) : ¬ nI a = -1 := by
  intro e
  have h1 := nI_toInt (n := a) (by omega)
  rw [e] at h1
  have h3 : (-1 : Int32).toInt = -1 := rfl
  omega
theorem zAo_nm1 {B : gBar} (hw : wfB B) {R : Nat → Int32} {t k dn n : Nat} (ht : t < B 0 1) (hd : dn ≤ 300) (hn : n ≤ 60) : ¬ zAo B R t k 1 (nI dn + nI n) = -1 := by
  rw [nI_add]
  obtain ⟨a, ha, e⟩ := zAsk_b hw (R := R) (f := zFou B R t k (nI (dn + n)) 0) (.inl rfl) ht (show dn + n ≤ 400 by omega)
  unfold zAo
  rw [e]
  exact nI_nm1 (by omega)
/-! sets as numbers -/
def orN (p : Nat → Bool) : Nat → Nat
  | 0 => 0
  | n + 1 => orN p n + (if p n then 2 ^ n else 0)
theorem orN_lt (p : Nat → Bool) : ∀ n, orN p n < 2 ^ n
  | 0 => Nat.zero_lt_one
  | n + 1 => by
    have := orN_lt p n
    unfold orN
    rw [Nat.pow_succ]
    split <;> omega
theorem orN_bit {p : Nat → Bool} {n k : Nat} (h : k < n) : (orN p n).testBit k = p k := by
  induction n with
  | zero => omega
  | succ n ih =>
    have hl := orN_lt p n
    unfold orN
    by_cases hk : k = n
    · subst hk
      cases hp : p k with
      | true =>
        simp only [if_true]
        rw [Nat.add_comm, Nat.testBit_two_pow_add_eq, Nat.testBit_lt_two_pow hl]
        rfl
      | false =>
        simp only [Bool.false_eq_true, if_false, Nat.add_zero]
        exact Nat.testBit_lt_two_pow hl
    · have h1 := ih (by omega)
      cases hp : p n with
      | true =>
        simp only [if_true]
        rw [Nat.add_comm, Nat.testBit_two_pow_add_gt (by omega)]
        exact h1
      | false =>
        simp only [Bool.false_eq_true, if_false, Nat.add_zero]
        exact h1
theorem orN_hi {p : Nat → Bool} {n k : Nat} (h : n ≤ k) : (orN p n).testBit k = false := Nat.testBit_lt_two_pow (Nat.lt_of_lt_of_le (orN_lt p n) (Nat.pow_le_pow_right (by decide) h))
theorem bt_nI {a i : Nat} (h : i < 32) : bt (nI a) i = a.testBit i := by
  unfold bt
  show (BitVec.ofNat 32 a).getLsbD i = _
  rw [BitVec.getLsbD_ofNat]
  simp [h]
theorem orTo_N {p : Nat → Bool} {n : Nat} (hn : n ≤ 32) : orTo p n = nI (orN p n) := b_ext fun i hi => by
  rw [← zBit_bt hi, zBit_orTo hn hi, bt_nI hi]
  by_cases h : i < n
  · simp [h, orN_bit h]
  · simp [h, orN_hi (p := p) (n := n) (k := i) (by omega)]
theorem sub_le {s a : Nat} {x : Int32} (hs : s < 2 ^ 31) (hx : x = nI a) (h : nI s &&& (x ^^^ (-1)) = 0) : s ≤ a := by
  subst hx
  have h1 : s &&& a = s := by
    apply Nat.eq_of_testBit_eq
    intro i
    rw [Nat.testBit_and]
    cases hb : s.testBit i with
    | false => rfl
    | true =>
      have hi : i < 32 := by
        by_cases hi : i < 32
        · exact hi
        · rw [Nat.testBit_lt_two_pow (Nat.lt_of_lt_of_le hs (Nat.pow_le_pow_right (by decide) (by omega)))] at hb
          cases hb
      have h2 : bt (nI s &&& (nI a ^^^ (-1))) i = bt 0 i := by rw [h]
      rw [b_and, b_xor, b_m1 i hi, bt_nI hi, bt_nI hi, b_0, hb] at h2
      simpa using h2
  rw [← h1]
  exact Nat.and_le_right
theorem zHas_N {B : gBar} (hw : wfB B) {R : Nat → Int32} {t : Nat} : ∃ a, zHas B R t = nI a ∧ a < 256 ∧ a < 2 ^ B 0 3 := by
  have hn := hw.1
  have h1 := orN_lt (zHp B R t) (B 0 3)
  have h2 := pow8 (n := B 0 3) (by omega)
  exact ⟨_, orTo_N (by omega), by omega, h1⟩
theorem zChs_top {m : Bool} {B : gBar} {R : Nat → Int32} {t k a : Nat} {e : Int32} (ha : zHas B R t = nI a) : ∀ n, a < n → n < 2 ^ 31 → zChs m B R t k e n = zChs m B R t k e (a + 1)
  | 0, h, _ => absurd h (Nat.not_lt_zero a)
  | n + 1, h, h2 => by
    by_cases h1 : a = n
    · rw [h1]
    · have h3 := zChs_top (m := m) (k := k) (e := e) ha n (by omega) (by omega)
      show zChS m B R t k e (zChs m B R t k e n) n = _
      rw [zChS_1 (fun h4 => by have := sub_le (by omega) ha h4; omega), h3]
theorem sumTo_cg {f g : Nat → Int32} : ∀ {n : Nat}, (∀ k, k < n → f k = g k) → sumTo f n = sumTo g n
  | 0, _ => rfl
  | n + 1, h => by
    show sumTo f n + f n = sumTo g n + g n
    rw [sumTo_cg (fun k hk => h k (by omega)), h n (by omega)]
theorem orTo_cg {p q : Nat → Bool} : ∀ {n : Nat}, (∀ k, k < n → p k = q k) → orTo p n = orTo q n
  | 0, _ => rfl
  | n + 1, h => by
    show orTo p n ||| (if p n then _ else _) = orTo q n ||| (if q n then _ else _)
    rw [orTo_cg (fun k hk => h k (by omega)), h n (by omega)]
theorem zHp_16 {B : gBar} {R : Nat → Int32} {t j : Nat} {x : Int32} (hj : j < 16) : zHp B (upd R 16 x) t j = zHp B R t j := by
  unfold zHp
  rw [upd_o (by omega)]
theorem zSme_16 {B : gBar} (hw : wfB B) {R : Nat → Int32} {j : Nat} {x d m : Int32} : zSme B (upd R 16 x) j d m = zSme B R j d m := by
  have hn := hw.1
  unfold zSme zFre
  rw [sumTo_cg (g := fun k => if zCov B R j d k then (1 : Int32) else 0) (fun k hk => by
    show (if zCov B (upd R 16 x) j d k then (1 : Int32) else 0) = _
    unfold zCov
    rw [upd_o (by omega)])]
theorem zFou_16 {B : gBar} (hw : wfB B) {R : Nat → Int32} {t k : Nat} {x y d m : Int32} (h : ∀ j, j < B 0 3 → zHp B R t j = true → zBit x j = zBit y j) : zFou B (upd R 16 x) t k d m = zFou B (upd R 16 y) t k d m := by
  have hn := hw.1
  refine orTo_cg fun j hj => ?_
  unfold zFp
  rw [zHp_16 (by omega), zHp_16 (by omega), zSme_16 hw, zSme_16 hw, upd_s, upd_s]
  cases hp : zHp B R t j with
  | false => simp only [Bool.false_and]
  | true => rw [h j hj hp]
theorem zAsk_16 {B : gBar} (hw : wfB B) {R : Nat → Int32} {t r : Nat} {x y d f : Int32} (h : ∀ j, j < B 0 3 → zHp B R t j = true → zBit x j = zBit y j) : zAsk B (upd R 16 x) t f r d = zAsk B (upd R 16 y) t f r d := by
  have hn := hw.1
  unfold zAsk
  rw [sumTo_cg (f := zOpn B (upd R 16 x) t r d) (g := zOpn B (upd R 16 y) t r d) (fun j hj => by
    unfold zOpn
    rw [zHp_16 (by omega), zHp_16 (by omega), upd_s, upd_s]
    cases hp : zHp B R t j with
    | false => simp only [Bool.false_and]
    | true => rw [h j hj hp])]
theorem hid_bit {B : gBar} (hw : wfB B) {R : Nat → Int32} {t s : Nat} : ∀ j, j < B 0 3 → zHp B R t j = true → zBit (nI s) j = zBit ((R 16 &&& (zHas B R t ^^^ (-1))) ||| nI s) j := by
  intro j hj h
  have hn := hw.1
  rw [zBit_or (by omega), zBit_and (by omega), zBit_not (by omega), zBit_has (by omega) hj, h]
  simp
theorem hid_fou {B : gBar} (hw : wfB B) {R : Nat → Int32} {t k s : Nat} {e : Int32} : zFou B (upd R 16 (nI s)) t k e 0 = zFou B (zRw false B R t s) t k e 0 := zFou_16 hw (hid_bit hw)
theorem hid_ask {B : gBar} (hw : wfB B) {R : Nat → Int32} {t k s : Nat} {e : Int32} : zAo B (upd R 16 (nI s)) t k 1 e = zChA false B R t k e s := by
  unfold zAo zChA
  rw [hid_fou hw]
  exact zAsk_16 hw (hid_bit hw)
/-- a set is taken, if it is better -/
def zTks (S : Nat × Int32) (s : Nat) (a : Int32) : Nat × Int32 := if ¬ S.2 = -1 ∧ (S.2 < a ∨ (a = S.2 ∧ zOn S.1 ≤ zOn s)) then S else (s, a)
theorem zTks_t {m : Bool} {B : gBar} {R : Nat → Int32} {t k s : Nat} {e : Int32} (h : nI s &&& (zHas B R t ^^^ (-1)) = 0) (h2 : zMay m B R t k e s = true) : zChs m B R t k e (s + 1) = zTks (zChs m B R t k e s) s (zChA m B R t k e s) := zChS_y h h2
theorem zTks_1 {m : Bool} {B : gBar} {R : Nat → Int32} {t k s : Nat} {e : Int32} (h : ¬ nI s &&& (zHas B R t ^^^ (-1)) = 0) : zChs m B R t k e (s + 1) = zChs m B R t k e s := zChS_1 h
theorem zTks_2 {m : Bool} {B : gBar} {R : Nat → Int32} {t k s : Nat} {e : Int32} (h : nI s &&& (zHas B R t ^^^ (-1)) = 0) (h2 : zMay m B R t k e s = false) : zChs m B R t k e (s + 1) = zChs m B R t k e s := zChS_2 h h2
theorem z0_and {x : Int32} : (0 : Int32) &&& x = 0 := b_ext fun i _ => by rw [b_and, b_0]; rfl
theorem zChs_1 {m : Bool} {B : gBar} {R : Nat → Int32} {t k : Nat} {e : Int32} (h2 : zMay m B R t k e 0 = true) : zChs m B R t k e 1 = (0, zChA m B R t k e 0) := by
  show zChS m B R t k e (0, -1) 0 = _
  exact zChS_5 (show nI 0 &&& _ = 0 from z0_and) h2 rfl
/-- nobody's hunger left is below none -/
def zHok (B : gBar) (R : Nat → Int32) : Prop := ∀ t, t < B 0 1 → ∃ h, h ≤ 3 ∧ R (8 + t) = nI h
theorem zMay_0 {B : gBar} {R : Nat → Int32} {t k : Nat} {e : Int32} (h : zHok B R) (ht : t < B 0 1) : zMay true B R t k e 0 = true := by
  obtain ⟨a, ha, e1⟩ := h t ht
  have h1 : ¬ nI a < nI (zOn 0) := by rw [zOn_0]; exact nI_pos (by omega)
  unfold zMay
  rw [if_pos rfl, e1]
  simp [h1]
theorem zFou_z {B : gBar} (hw : wfB B) {R : Nat → Int32} {t k : Nat} {e : Int32} : zFou B (upd R 16 (nI 0)) t k e 0 = 0 := by
  have hn := hw.1
  refine b_ext fun i hi => ?_
  rw [← zBit_bt hi, ← zBit_bt (s := 0) hi, zBit_0 hi]
  unfold zFou
  rw [zBit_orTo (by omega) hi]
  by_cases h : i < B 0 3
  · unfold zFp
    rw [upd_s, show (nI 0 : Int32) = 0 from rfl, zBit_0 hi]
    simp
  · simp [h]
theorem zMay_h0 {B : gBar} (hw : wfB B) {R : Nat → Int32} {t k : Nat} {e : Int32} : zMay false B R t k e 0 = true := by
  unfold zMay
  rw [if_neg (by decide), ← hid_fou hw, zFou_z hw]
  rfl
/-! covers -/
theorem orTo_z {p : Nat → Bool} {n : Nat} (hn : n ≤ 32) : orTo p n = 0 ↔ ∀ j, j < n → p j = false := by
  constructor
  · intro h j hj
    have h1 := zBit_orTo (p := p) hn (k := j) (by omega)
    rw [h, zBit_0 (by omega)] at h1
    simpa [hj] using h1.symm
  · intro h
    refine b_ext fun i hi => ?_
    rw [← zBit_bt hi, zBit_orTo hn hi, b_0]
    by_cases h1 : i < n
    · simp [h i h1]
    · simp [h1]
theorem zMo_lt {B : gBar} {R : Nat → Int32} {t dn x : Nat} (hx : 0 < x) : ∀ n, zMo B R t dn n < x ↔ ∀ j, j < n → (zHp B R t j && zBit (R 16) j) = true → zSn B R j dn 0 < x
  | 0 => ⟨fun _ j hj => absurd hj (Nat.not_lt_zero j), fun _ => hx⟩
  | n + 1 => by
    have ih := zMo_lt (B := B) (R := R) (t := t) (dn := dn) hx n
    have hs : zMo B R t dn (n + 1) = if (zHp B R t n && zBit (R 16) n) = true then max (zMo B R t dn n) (zSn B R n dn 0) else zMo B R t dn n := rfl
    rw [hs]
    by_cases h : (zHp B R t n && zBit (R 16) n) = true
    · rw [if_pos h, Nat.max_lt, ih]
      constructor
      · rintro ⟨h1, h2⟩ j hj hp
        by_cases hjn : j = n
        · rw [hjn]; exact h2
        · exact h1 j (by omega) hp
      · intro h1
        exact ⟨fun j hj => h1 j (by omega), h1 n (by omega) h⟩
    · rw [if_neg h, ih]
      constructor
      · intro h1 j hj hp
        by_cases hjn : j = n
        · rw [hjn] at hp; exact absurd hp h
        · exact h1 j (by omega) hp
      · intro h1 j hj
        exact h1 j (by omega)
theorem zFou_cv {B : gBar} (hw : wfB B) {R : Nat → Int32} {t k dn n : Nat} (hd : dn ≤ 400) (hn : n ≤ 31) (hk : k < B 0 2) : zFou B R t k (nI dn) (nI n) = 0 ↔ zCv (zMo B R t dn (B 0 3)) (B 9 k) ≤ n := by
  have hw1 := hw.1
  have hg := hw.gate hk
  have h2 : zCv (zMo B R t dn (B 0 3)) (B 9 k) ≤ n ↔ zMo B R t dn (B 0 3) < B 9 k + 2 * n := by
    unfold zCv
    split <;> omega
  rw [h2, zMo_lt (by omega)]
  unfold zFou
  rw [orTo_z (by omega)]
  constructor
  · intro h j hj hp
    have h3 := h j hj
    have h4 := zSn_le hw (R := R) (m := n) hj hd
    unfold zFp at h3
    rw [hp, zSme_nI hw hj hd (by omega)] at h3
    simp only [Bool.true_and, Bool.not_eq_false', decide_eq_true_eq] at h3
    rw [nI_ltI (by omega) (by omega)] at h3
    unfold zSn at h3 ⊢
    omega
  · intro h j hj
    have h4 := zSn_le hw (R := R) (m := n) hj hd
    unfold zFp
    cases hp : (zHp B R t j && zBit (R 16) j) with
    | false => rfl
    | true =>
      have h3 := h j hj hp
      rw [zSme_nI hw hj hd (by omega)]
      simp only [Bool.true_and, Bool.not_eq_false', decide_eq_true_eq]
      rw [nI_ltI (by omega) (by omega)]
      unfold zSn at h3 ⊢
      omega
theorem zMin_ge {p y : Int32} (h : y ≤ p) : y = zMin p y := by
  unfold zMin
  split
  · rfl
  · rename_i h1
    exact Int32.le_antisymm h (Int32.not_lt.mp h1)
theorem zMin_lt {p y : Int32} (h : ¬ y ≤ p) : p = zMin p y := by
  unfold zMin
  rw [if_neg (fun h1 => h (Int32.le_of_lt h1))]
