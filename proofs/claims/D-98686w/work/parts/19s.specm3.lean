/-! THE MODEL, plain laws: the plan -/
set_option maxRecDepth 100000
theorem zDr_bit {B : gBar} {R : Nat → Int32} {t : Nat} {d : Int32} {sd : Nat} : ∀ (n j : Nat), n ≤ 8 → zBit (zDr B R t d sd n).1 j = true → j < 32 → j < n ∧ zHp B R t j = true ∧ zBit (R 16) j = true
  | 0, j, _, h, hj => by
    have h1 : zBit (0 : Int32) j = true := h
    rw [zBit_0 hj] at h1
    cases h1
  | n + 1, j, hn, h, hj => by
    have ih := zDr_bit (B := B) (R := R) (t := t) (d := d) (sd := sd) n j (by omega)
    unfold zDr at h
    split at h
    · rename_i hp
      simp only [Bool.and_eq_true] at hp
      by_cases hjn : j = n
      · subst hjn
        exact ⟨by omega, hp⟩
      · rw [zBit_or hj] at h
        have h2 : zBit (if zSme B R n d 0 ≤ nI (zNx (zDr B R t d sd n).2 % 100) then 0 else (1 : Int32) <<< (nI n &&& 31)) j = false := by
          split
          · exact zBit_0 hj
          · rw [zBit_one (by omega) hj]
            exact decide_eq_false hjn
        rw [h2, Bool.or_false] at h
        obtain ⟨a, b⟩ := ih h hj
        exact ⟨by omega, b⟩
    · obtain ⟨a, b⟩ := ih h hj
      exact ⟨by omega, b⟩
theorem zFok_dr {B : gBar} (hw : wfB B) {R : Nat → Int32} {t : Nat} {d : Int32} {sd : Nat} : zFok B R t (zDr B R t d sd (B 0 3)).1 := by
  have hn := hw.1
  intro j hj h
  exact (zDr_bit _ j (by omega) h (by omega)).2
theorem zDr_t {B : gBar} {R : Nat → Int32} {t k : Nat} {d : Int32} {sd : Nat} (h1 : zHp B R t k = true) (h2 : zBit (R 16) k = true) : zDr B R t d sd (k + 1) = ((zDr B R t d sd k).1 ||| (if zSme B R k d 0 ≤ nI (zNx (zDr B R t d sd k).2 % 100) then 0 else (1 : Int32) <<< (nI k &&& 31)), zNx (zDr B R t d sd k).2) := by
  show (if zHp B R t k && zBit (R 16) k then _ else _) = _
  rw [if_pos (by rw [h1, h2]; rfl)]
theorem zDr_f {B : gBar} {R : Nat → Int32} {t k : Nat} {d : Int32} {sd : Nat} (h : (zHp B R t k && zBit (R 16) k) = false) : zDr B R t d sd (k + 1) = zDr B R t d sd k := by
  show (if zHp B R t k && zBit (R 16) k then _ else _) = _
  rw [if_neg (by rw [h]; exact Bool.false_ne_true)]
theorem zNx_l {s : Nat} (hs : s < 65537) : lN (75 * s + 74) - lN (75 * s + 74) / 65537 * 65537 = lN (zNx s) := pk_lRem (a := 75 * s + 74) (b := 65537) (by omega) (by decide) (by decide)
/-- what a crossing of the plan asks is not negative -/
theorem zRr_pos {B : gBar} (hw : wfB B) {dr : Bool} {R : Nat → Int32} {sd c : Nat} (hc : c < B 0 4) (h : zOp B c = true) : zPos (zRr B dr R sd c) = zRr B dr R sd c ∧ ¬ zRr B dr R sd c = -2 := by
  have h1 := hw.cross hc
  obtain ⟨a, ha, e⟩ := zAsk_b hw (R := R) (f := (zFd B dr R sd c).1) (.inl rfl) h1.1 (show B 21 c ≤ 400 by omega)
  unfold zRr
  rw [if_pos h, e]
  refine ⟨?_, ?_⟩
  · have := zPos_sub (a := a) (b := 0) (by omega) (by decide)
    rw [show nI a - nI 0 = nI a from Int32.sub_zero _, Nat.sub_zero] at this
    exact this
  · intro e2
    have h2 := nI_toInt (n := a) (by omega)
    rw [e2] at h2
    have h3 : (-2 : Int32).toInt = -2 := rfl
    omega
theorem zRr_no {B : gBar} {dr : Bool} {R : Nat → Int32} {sd c : Nat} (h : zOp B c = false) : zRr B dr R sd c = -2 := if_neg (by rw [h]; exact Bool.false_ne_true)
theorem zRn_no {B : gBar} {dr : Bool} {R : Nat → Int32} {sd c : Nat} (h : zOp B c = false) : zRn B dr R sd c = R := if_neg (by rw [h]; exact Bool.false_ne_true)
theorem zRd_no {B : gBar} {dr : Bool} {R : Nat → Int32} {sd c : Nat} (h : zOp B c = false) : zRd B dr R sd c = sd := if_neg (by rw [h]; exact Bool.false_ne_true)
theorem zPl_n {B : gBar} {dr : Bool} {sd k : Nat} (h : zOp B k = false) : zPl B dr sd (k + 1) = zPl B dr sd k := by
  show (zRn B dr _ _ k, zRd B dr _ _ k, _ + zPos (zRr B dr _ _ k)) = _
  rw [zRn_no h, zRd_no h, zRr_no h, show zPos (-2) = 0 from rfl, Int32.add_zero]
theorem zPl_y {B : gBar} (hw : wfB B) {dr : Bool} {sd k : Nat} (hk : k < B 0 4) (h : zOp B k = true) : zPl B dr sd (k + 1) = (zCro B (zPl B dr sd k).1 (B 19 k) (zFd B dr (zPl B dr sd k).1 (zPl B dr sd k).2.1 k).1 (zAsk B (zPl B dr sd k).1 (B 19 k) (zFd B dr (zPl B dr sd k).1 (zPl B dr sd k).2.1 k).1 1 (nI (B 21 k))), (zFd B dr (zPl B dr sd k).1 (zPl B dr sd k).2.1 k).2, (zPl B dr sd k).2.2 + zAsk B (zPl B dr sd k).1 (B 19 k) (zFd B dr (zPl B dr sd k).1 (zPl B dr sd k).2.1 k).1 1 (nI (B 21 k))) := by
  show (zRn B dr _ _ k, zRd B dr _ _ k, _ + zPos (zRr B dr _ _ k)) = _
  rw [(zRr_pos hw hk h).1]
  unfold zRn zRd zRr
  rw [if_pos h, if_pos h, if_pos h]
theorem zRs_y {B : gBar} {dr : Bool} {sd k : Nat} (h : zOp B k = true) : zAsk B (zPl B dr sd k).1 (B 19 k) (zFd B dr (zPl B dr sd k).1 (zPl B dr sd k).2.1 k).1 1 (nI (B 21 k)) = zRs B dr sd k := by
  unfold zRs zRr
  rw [if_pos h]
theorem zRs_n {B : gBar} {dr : Bool} {sd k : Nat} (h : zOp B k = false) : -2 = zRs B dr sd k := (zRr_no h).symm
theorem updS {f : Nat → Int32} {B : gBar} {dr : Bool} {sd k : Nat} {v : Int32} (h : ∀ i, i < k → f i = zRs B dr sd i) (e : v = zRs B dr sd k) : ∀ i, i < k + 1 → upd f k v i = zRs B dr sd i := by
  intro i hi
  unfold upd
  split
  · rename_i h9; rw [e, h9]
  · exact h i (by omega)
theorem zRs_op {B : gBar} (hw : wfB B) {k : Nat} (hk : k < B 0 4) : zRs B false 0 k = -2 ↔ zOp B k = false := by
  constructor
  · intro h
    cases ho : zOp B k with
    | false => rfl
    | true => exact absurd h (zRr_pos hw hk ho).2
  · intro h
    exact (zRs_n h).symm
theorem zSz_all {B : gBar} (hw : wfB B) {R : Nat → Int32} {j : Nat} (hj : j < B 0 3) : zBit (zAll B R 3) j = decide (R j = 3) := by
  have hn := hw.1
  unfold zAll
  rw [zBit_orTo (by omega) (by omega)]
  simp [hj]
