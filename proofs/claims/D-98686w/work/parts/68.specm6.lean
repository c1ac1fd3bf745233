/-! THE MODEL, plain laws: rows of crumbs -/
set_option maxRecDepth 100000
def pRo (g : gWM) (w : Nat → Nat) (c : Nat) (x : Int32) : Prop := ∃ f, g 2007 = some (.inl (0, 5, .inl f)) ∧ (∀ i, i < c → f i = nI (w i)) ∧ f c = x
def pRq (g : gWM) (w : Nat → Nat) (c : Nat) : Prop := ∃ f, g 2007 = some (.inl (0, 5, .inl f)) ∧ ∀ i, i < c → f i = nI (w i)
def pCd (g : gWM) (S : zCS) : Prop := pIa g 2008 5 5 S.2.1
theorem pCd.fr {g g1 : gWM} {S : zCS} (h : pCd g S) (hf : ∀ j, 2008 ≤ j → j < 2009 → g1 j = g j) : pCd g1 S := pIa.fr h hf
theorem pRo.fr {g g1 : gWM} {w : Nat → Nat} {c : Nat} {x : Int32} (h : pRo g w c x) (hf : ∀ j, 2007 ≤ j → j < 2008 → g1 j = g j) : pRo g1 w c x := by
  obtain ⟨f, h1, h2⟩ := h
  exact ⟨f, (hf _ (by omega) (by omega)).trans h1, h2⟩
/-- one traveller is tried at the crumb c -/
def zStp (B : gBar) (n : Nat) (w : Nat → Nat) (c : Nat) (S : zCS) (t : Nat) : zCS := if zCan B w c t then zTr B n (fun i => if i = c then t else w i) (c + 1) S else S
def zFr (B : gBar) (n : Nat) (w : Nat → Nat) (c : Nat) : Nat → Nat → zCS → zCS
  | 0, _, S => S
  | m + 1, t, S => zFr B n w c m (t + 1) (zStp B n w c S t)
theorem zFr_o {B : gBar} {n : Nat} {w : Nat → Nat} {c : Nat} {S : zCS} : ∀ m t, zFr B n w c m t (zFo (zStp B n w c) t S) = zFo (zStp B n w c) (t + m) S
  | 0, t => rfl
  | m + 1, t => by
    show zFr B n w c m (t + 1) (zFo (zStp B n w c) (t + 1) S) = _
    rw [zFr_o m (t + 1), show t + 1 + m = t + (m + 1) by omega]
theorem zTr_r {B : gBar} {n : Nat} {w : Nat → Nat} {c : Nat} {S : zCS} : zTr B (n + 1) w c S = zFr B n w c (B 0 1) 0 S := by
  have h := zFr_o (B := B) (n := n) (w := w) (c := c) (S := S) (B 0 1) 0
  rw [Nat.zero_add] at h
  exact h.symm
theorem zStp_n {B : gBar} {n : Nat} {w : Nat → Nat} {c t : Nat} {S : zCS} (h : zCan B w c t = false) : zStp B n w c S t = S := if_neg (by rw [h]; exact Bool.false_ne_true)
theorem zStp_0 {B : gBar} {w : Nat → Nat} {c t : Nat} {S : zCS} (h : zCan B w c t = true) : zStp B 0 w c S t = zLf (fun i => if i = c then t else w i) (c + 1) S := if_pos h
theorem zStp_s {B : gBar} {n : Nat} {w : Nat → Nat} {c t : Nat} {S : zCS} (h : zCan B w c t = true) : zStp B (n + 1) w c S t = zFr B n (fun i => if i = c then t else w i) (c + 1) (B 0 1) 0 S := (if_pos h).trans zTr_r
theorem rowS {f : Nat → Int32} {w : Nat → Nat} {c t : Nat} (h1 : ∀ i, i < c → f i = nI (w i)) (h2 : f c = nI t) : ∀ i, i < c + 1 → f i = nI (if i = c then t else w i) := by
  intro i hi
  by_cases h : i = c
  · rw [if_pos h, h]; exact h2
  · rw [if_neg h]; exact h1 i (by omega)
theorem rowU {f : Nat → Int32} {w : Nat → Nat} {c n : Nat} {x : Int32} (h1 : ∀ i, i < c → f i = nI (w i)) (hn : c ≤ n) : ∀ i, i < c → upd f n x i = nI (w i) := by
  intro i hi
  unfold upd
  rw [if_neg (by omega)]
  exact h1 i hi
theorem wlS {w : Nat → Nat} {c t : Nat} (h : ∀ i, i < c → w i < 4) (ht : t < 4) : ∀ i, i < c + 1 → (if i = c then t else w i) < 4 := by
  intro i hi
  split
  · exact ht
  · exact h i (by omega)
/-! who surely left a crumb: by those who could -/
def okxy (x y : Nat) : Bool := (decide (x < 16) && decide (y < 16)) && ((decide (x = 1) && decide (y = 1)) || (decide (x = 2) && decide (y = 2)) || (decide (x = 4) && decide (y = 4)) || (decide (x = 8) && decide (y = 8)) || (decide (y = 0) && (!decide (x = 0) && !decide (x = 1) && !decide (x = 2) && !decide (x = 4) && !decide (x = 8))))
theorem okxy_s : ∀ x, x < 16 → ∀ y, y < 16 → okxy x y = true → ∀ t, t < 4 → okxy (x ||| 2 ^ t) (y &&& 2 ^ t) = true := by decide +kernel
theorem okxy_0 : ∀ t, t < 4 → okxy (0 ||| 2 ^ t) (15 &&& 2 ^ t) = true := by decide +kernel
theorem okxy_t : ∀ x, x < 16 → ∀ y, y < 16 → okxy x y = true → ∀ t, t < 4 → decide (x = 2 ^ t) = y.testBit t := by decide +kernel
theorem okxy_l {x y : Nat} (h : okxy x y = true) : x < 16 ∧ y < 16 := by
  simp only [okxy, Bool.and_eq_true, decide_eq_true_eq] at h
  exact h.1
def zJ (S : zCS) (c r : Nat) : Prop := S.1 = nI r ∧ ((r = 0 ∧ S.2.1 c = 0 ∧ S.2.2 c = 15) ∨ (0 < r ∧ ∃ x y, S.2.1 c = nI x ∧ S.2.2 c = nI y ∧ okxy x y = true))
theorem nx_or (a b : Nat) : nI a ||| nI b = nI (a ||| b) := by
  apply Int32.toBitVec_inj.1
  show BitVec.ofNat 32 a ||| BitVec.ofNat 32 b = BitVec.ofNat 32 (a ||| b)
  apply BitVec.eq_of_getLsbD_eq
  intro i hi
  simp [hi]
theorem zJ_lf {S : zCS} {c r n : Nat} {w : Nat → Nat} (hc : c < n) (hw : w c < 4) (h : zJ S c r) : zJ (zLf w n S) c (r + 1) := by
  obtain ⟨h1, h2⟩ := h
  have e1 : (zLf w n S).2.1 c = S.2.1 c ||| nI (2 ^ w c) := by
    show (if c < n then _ else _) = _
    rw [if_pos hc, shl1 (by omega)]
  have e2 : (zLf w n S).2.2 c = S.2.2 c &&& nI (2 ^ w c) := by
    show (if c < n then _ else _) = _
    rw [if_pos hc, shl1 (by omega)]
  refine ⟨?_, .inr ⟨by omega, ?_⟩⟩
  · show S.1 + 1 = _
    rw [h1, nI_succ]
  · rcases h2 with ⟨-, h3, h4⟩ | ⟨-, x, y, h3, h4, h5⟩
    · refine ⟨0 ||| 2 ^ w c, 15 &&& 2 ^ w c, ?_, ?_, okxy_0 _ hw⟩
      · rw [e1, h3, show (0 : Int32) = nI 0 from rfl, nx_or]
      · rw [e2, h4, show (15 : Int32) = nI 15 from rfl, nx_and]
    · obtain ⟨hx, hy⟩ := okxy_l h5
      refine ⟨x ||| 2 ^ w c, y &&& 2 ^ w c, ?_, ?_, okxy_s x hx y hy h5 _ hw⟩
      · rw [e1, h3, nx_or]
      · rw [e2, h4, nx_and]
theorem zJ_tr {B : gBar} {q : Nat} (hq : q < B 0 6) (hT : B 0 1 ≤ 4) : ∀ (k : Nat) (w : Nat → Nat) (c : Nat) (S : zCS) (r : Nat), c + k = B 0 6 → (∀ i, i < c → w i < 4) → zJ S q r → ∃ r', r' ≤ r + 4 ^ k ∧ zJ (zTr B k w c S) q r'
  | 0, w, c, S, r, hc, hw, h => ⟨r + 1, by simp, zJ_lf (by omega) (hw q (by omega)) h⟩
  | k + 1, w, c, S, r, hc, hw, h => by
    have key : ∀ t, t ≤ B 0 1 → ∃ r', r' ≤ r + t * 4 ^ k ∧ zJ (zFo (zStp B k w c) t S) q r' := by
      intro t
      induction t with
      | zero => exact fun _ => ⟨r, by omega, h⟩
      | succ t ih =>
        intro ht
        obtain ⟨r1, h1, h2⟩ := ih (by omega)
        show ∃ r', _ ∧ zJ (zStp B k w c (zFo (zStp B k w c) t S) t) q r'
        cases hz : zCan B w c t with
        | false => rw [zStp_n hz]; exact ⟨r1, Nat.le_trans h1 (Nat.add_le_add_left (by rw [Nat.succ_mul]; exact Nat.le_add_right _ _) _), h2⟩
        | true =>
          obtain ⟨r2, h3, h4⟩ := zJ_tr hq hT k (fun i => if i = c then t else w i) (c + 1) _ r1 (by omega) (wlS hw (by omega)) h2
          rw [show zStp B k w c (zFo (zStp B k w c) t S) t = zTr B k (fun i => if i = c then t else w i) (c + 1) (zFo (zStp B k w c) t S) from if_pos hz]
          exact ⟨r2, by rw [Nat.succ_mul, ← Nat.add_assoc]; exact Nat.le_trans h3 (Nat.add_le_add_right h1 _), h4⟩
    obtain ⟨r', h1, h2⟩ := key (B 0 1) (Nat.le_refl _)
    refine ⟨r', ?_, h2⟩
    have h3 : B 0 1 * 4 ^ k ≤ 4 * 4 ^ k := Nat.mul_le_mul_right _ hT
    rw [Nat.pow_succ, Nat.mul_comm (4 ^ k)]
    exact Nat.le_trans h1 (Nat.add_le_add_left h3 _)
def zSv (S : zCS) (c : Nat) : Nat → Nat → Int32
  | 0, _ => -2
  | n + 1, t => if S.2.1 c = (1 : Int32) <<< (nI t &&& 31) then nI t else zSv S c n (t + 1)
theorem zSv_t {B : gBar} {S : zCS} {c k : Nat} (hk : k < B 0 1) (h : S.2.1 c = (1 : Int32) <<< (nI k &&& 31)) : zSv S c (B 0 1 - k) k = nI k := by
  obtain ⟨n, hn⟩ : ∃ n, B 0 1 - k = n + 1 := ⟨B 0 1 - k - 1, by omega⟩
  rw [hn]
  exact if_pos h
theorem zSv_f {B : gBar} {S : zCS} {c k : Nat} (hk : k < B 0 1) (h : ¬ S.2.1 c = (1 : Int32) <<< (nI k &&& 31)) : zSv S c (B 0 1 - k) k = zSv S c (B 0 1 - (k + 1)) (k + 1) := by
  obtain ⟨n, hn⟩ : ∃ n, B 0 1 - k = n + 1 := ⟨B 0 1 - k - 1, by omega⟩
  rw [hn, show B 0 1 - (k + 1) = n by omega]
  exact if_neg h
theorem zSur_v {B : gBar} (hw : wfB B) {c : Nat} (hc : c < B 0 6) : zSur B (zSk B) c = zSv (zSk B) c (B 0 1) 0 := by
  have hn := hw.1
  obtain ⟨r, hr, h1, h2⟩ := zJ_tr (q := c) hc (by omega) (B 0 6) (fun _ => 0) 0 (0, (fun _ => 0), fun _ => 15) 0 (by omega) (fun i hi => absurd hi (Nat.not_lt_zero i)) ⟨rfl, .inl ⟨rfl, rfl, rfl⟩⟩
  have h1 : (zSk B).1 = nI r := h1
  have h4 : 4 ^ B 0 6 ≤ 4 ^ 5 := Nat.pow_le_pow_right (by decide) (by omega)
  have hr2 : r < 2 ^ 20 := by omega
  unfold zSur
  rcases h2 with ⟨h5, h6, h7⟩ | ⟨h5, x, y, h6, h7, h8⟩
  · rw [h1, h5, if_neg (show ¬ (0 : Int32) < nI 0 by decide)]
    have h6 : (zSk B).2.1 c = 0 := h6
    have key : ∀ n t, t + n ≤ 4 → zSv (zSk B) c n t = -2 := by
      intro n
      induction n with
      | zero => intro t _; rfl
      | succ n ih =>
        intro t ht
        show (if _ then _ else _) = _
        rw [h6, shl1 (by omega), if_neg, ih (t + 1) (by omega)]
        intro e
        have h9 : t = 0 ∨ t = 1 ∨ t = 2 ∨ t = 3 := by omega
        rcases h9 with rfl | rfl | rfl | rfl <;> exact absurd e (by decide)
    exact (key _ 0 (by omega)).symm
  · have h6 : (zSk B).2.1 c = nI x := h6
    have h7 : (zSk B).2.2 c = nI y := h7
    have hxy := okxy_l h8
    rw [h1, if_pos (show (0 : Int32) < nI r from (nI_ltI (a := 0) (b := r) (by decide) (by omega)).mpr h5)]
    have key : ∀ n t, t + n ≤ 4 → zSu B (zSk B) c n t = zSv (zSk B) c n t := by
      intro n
      induction n with
      | zero => intro t _; rfl
      | succ n ih =>
        intro t ht
        show (if zBit ((zSk B).2.2 c) t then nI t else zSu B (zSk B) c n (t + 1)) = (if (zSk B).2.1 c = (1 : Int32) <<< (nI t &&& 31) then nI t else zSv (zSk B) c n (t + 1))
        have h9 := okxy_t x hxy.1 y hxy.2 h8 t (by omega)
        have h10 : zBit ((zSk B).2.2 c) t = y.testBit t := by rw [h7, zBit_bt (by omega), bt_nI (by omega)]
        have hp : 2 ^ t ≤ 2 ^ 3 := Nat.pow_le_pow_right (by decide) (by omega)
        rw [h10, ← h9, h6, shl1 (by omega), ih (t + 1) (by omega)]
        by_cases h11 : x = 2 ^ t
        · rw [if_pos (decide_eq_true h11), if_pos (by rw [h11])]
        · rw [if_neg (by rw [decide_eq_false h11]; exact Bool.false_ne_true), if_neg (fun e => h11 ((nI_eq (by omega) (by omega)).mp e))]
    exact key _ 0 (by omega)
theorem zGd_1 {B : gBar} {c t k : Nat} (h : ¬ B 14 k = t) : zGd B c t k = false := by simp [zGd, h]
theorem zGd_2 {B : gBar} {c t k : Nat} (h : ¬ (B 12 k ≠ 0 ∧ B 13 k = B 23 c)) : zGd B c t k = false := by
  cases hz : zGd B c t k with
  | false => rfl
  | true =>
    simp only [zGd, Bool.and_eq_true, decide_eq_true_eq] at hz
    exact absurd ⟨hz.2.1, hz.2.2.1⟩ h
theorem zGd_3 {B : gBar} {c t k : Nat} (h : zTa B k (zAge B k (nI (B 24 c))) = true) : zGd B c t k = false := by
  have h : zTur B k (nI (B 24 c)) = true := h
  simp [zGd, h]
theorem zGd_y {B : gBar} {c t k : Nat} (h1 : B 14 k = t) (h2 : B 12 k ≠ 0 ∧ B 13 k = B 23 c) (h : zTa B k (zAge B k (nI (B 24 c))) = false) : zGd B c t k = true := by
  have h : zTur B k (nI (B 24 c)) = false := h
  simp [zGd, h, h1, h2]
