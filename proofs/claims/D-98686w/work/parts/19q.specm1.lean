/-! THE MODEL, its cells: the object 2000, tape 2001, v 2002, x 2003, past 2004, kept 2005, result 2006, row 2007, could 2008; a barrier at mb: its arrays mb + 1 .. mb + 24 -/
set_option maxRecDepth 100000
def pIa (g : gWM) (k n m : Nat) (e : Nat → Int32) : Prop := ∃ f, g k = some (.inl (0, n, .inl f)) ∧ ∀ i, i < m → f i = e i
theorem pIa.fr {g g1 : gWM} {k n m : Nat} {e : Nat → Int32} (h : pIa g k n m e) (hf : ∀ j, k ≤ j → j < k + 1 → g1 j = g j) : pIa g1 k n m e := by
  obtain ⟨f, h1, h2⟩ := h
  exact ⟨f, (hf _ (by omega) (by omega)).trans h1, h2⟩
/-- .. whatever it holds -/
def pIx (g : gWM) (k n : Nat) : Prop := ∃ f, g k = some (.inl (0, n, .inl f))
theorem pIx.fr {g g1 : gWM} {k n : Nat} (h : pIx g k n) (hf : ∀ j, k ≤ j → j < k + 1 → g1 j = g j) : pIx g1 k n := by
  obtain ⟨f, h1⟩ := h
  exact ⟨f, (hf _ (by omega) (by omega)).trans h1⟩
/-- the places of a row that count -/
def zRel (B : gBar) (i : Nat) : Prop := i < B 0 3 ∨ (8 ≤ i ∧ i < 8 + B 0 1) ∨ (12 ≤ i ∧ i < 12 + B 0 1) ∨ i = 16
theorem zRel.lt {B : gBar} {i : Nat} (hw : wfB B) (h : zRel B i) : i < 17 := by
  have hn := hw.1
  unfold zRel at h
  omega
/-- a row: state, hunger left, paid, hidden, the day -/
def pRw (g : gWM) (k : Nat) (B : gBar) (R : Nat → Int32) (d : Int32) : Prop := ∃ f, g k = some (.inl (0, 18, .inl f)) ∧ (∀ i, zRel B i → f i = R i) ∧ f 17 = d
theorem pRw.fr {g g1 : gWM} {k : Nat} {B : gBar} {R : Nat → Int32} {d : Int32} (h : pRw g k B R d) (hf : ∀ j, k ≤ j → j < k + 1 → g1 j = g j) : pRw g1 k B R d := by
  obtain ⟨f, h1, h2⟩ := h
  exact ⟨f, (hf _ (by omega) (by omega)).trans h1, h2⟩
theorem pRw.x {g : gWM} {k : Nat} {B : gBar} {R : Nat → Int32} {d : Int32} (h : pRw g k B R d) : pIx g k 18 := by
  obtain ⟨f, h1, -⟩ := h
  exact ⟨f, h1⟩
theorem updR {B : gBar} {f R : Nat → Int32} {d v : Int32} {k : Nat} (h : (∀ i, zRel B i → f i = R i) ∧ f 17 = d) (hk : k < 17) : (∀ i, zRel B i → upd f k v i = upd R k v i) ∧ upd f k v 17 = d := by
  refine ⟨fun i hi => ?_, ?_⟩
  · unfold upd
    split
    · rfl
    · exact h.1 i hi
  · unfold upd
    rw [if_neg (by omega)]
    exact h.2
theorem updD {B : gBar} {f R : Nat → Int32} {d v : Int32} (hw : wfB B) (h : (∀ i, zRel B i → f i = R i) ∧ f 17 = d) : (∀ i, zRel B i → upd f 17 v i = R i) ∧ upd f 17 v 17 = v := by
  refine ⟨fun i hi => ?_, ?_⟩
  · have := hi.lt hw
    unfold upd
    rw [if_neg (by omega)]
    exact h.1 i hi
  · unfold upd
    rw [if_pos rfl]
/-- fields that hold ints, listed -/
def gxs (F : Nat → Value) : List (Nat × Int32) → Prop
  | [] => True
  | q :: t => F q.1 = .int q.2 ∧ gxs F t
/-- the model's object -/
def pMq (g : gWM) (bar : Value) (th tr wh : Int32) (tp : Nat) (fa : Int32) (ac mk : Nat) (xs : List (Nat × Int32)) : Prop :=
  ∃ F, g 2000 = some (.inr (10, F)) ∧ F 0 = .int th ∧ F 1 = .int tr ∧ F 2 = .int wh ∧ F 3 = bar ∧ F 5 = .ref 2001 ∧ F 6 = .int (nI tp) ∧ F 12 = .int fa ∧ F 15 = .ref 2002 ∧ F 16 = .ref 2003 ∧ F 17 = .ref 2004 ∧ F 18 = .ref 2005 ∧ F 19 = .int (nI ac) ∧ F 20 = .int (nI mk) ∧ F 26 = .ref 2006 ∧ F 28 = .ref 2007 ∧ F 29 = .ref 2008 ∧ gxs F xs
theorem pMq.fr {g g1 : gWM} {bar : Value} {th tr wh : Int32} {tp : Nat} {fa : Int32} {ac mk : Nat} {xs : List (Nat × Int32)} (h : pMq g bar th tr wh tp fa ac mk xs) (hf : ∀ j, 2000 ≤ j → j < 2001 → g1 j = g j) : pMq g1 bar th tr wh tp fa ac mk xs := by
  obtain ⟨F, h1, h2⟩ := h
  exact ⟨F, (hf _ (by omega) (by omega)).trans h1, h2⟩
theorem pMq.n {g : gWM} {bar : Value} {th tr wh : Int32} {tp : Nat} {fa : Int32} {ac mk : Nat} {xs : List (Nat × Int32)} (h : pMq g bar th tr wh tp fa ac mk xs) : pMq g bar th tr wh tp fa ac mk [] := by
  obtain ⟨F, h1, h2, h3, h4, h5, h6, h7, h8, h9, h10, h11, h12, h13, h14, h15, h16, h17, -⟩ := h
  exact ⟨F, h1, h2, h3, h4, h5, h6, h7, h8, h9, h10, h11, h12, h13, h14, h15, h16, h17, trivial⟩
/-- the model's barrier -/
def pMb (g : gWM) (mb : Nat) (B : gBar) : Prop :=
  (∃ F, g mb = some (.inr (21, F)) ∧ F 0 = .int (nI (B 0 7)) ∧ F 1 = .int (nI (B 0 8)) ∧ F 2 = .int (nI (B 0 0)) ∧ F 3 = .int (nI (B 0 1)) ∧ F 4 = .int (nI (B 0 2)) ∧ F 5 = .int (nI (B 0 3)) ∧ F 6 = .int (nI (B 0 4)) ∧ F 7 = .int (nI (B 0 5)) ∧ F 8 = .int (nI (B 0 6)) ∧ F 9 = .int (zHid B) ∧ F 11 = .ref (mb + 1) ∧ F 12 = .ref (mb + 2) ∧ F 13 = .ref (mb + 3) ∧ F 14 = .ref (mb + 4) ∧ F 15 = .ref (mb + 5) ∧ F 16 = .ref (mb + 6) ∧ F 17 = .ref (mb + 7) ∧ F 18 = .ref (mb + 8) ∧ F 19 = .ref (mb + 9) ∧ F 20 = .ref (mb + 10) ∧ F 21 = .ref (mb + 11) ∧ F 22 = .ref (mb + 12) ∧ F 23 = .ref (mb + 13) ∧ F 24 = .ref (mb + 14) ∧ F 25 = .ref (mb + 15) ∧ F 26 = .ref (mb + 16) ∧ F 27 = .ref (mb + 17) ∧ F 28 = .ref (mb + 18) ∧ F 29 = .ref (mb + 19) ∧ F 30 = .ref (mb + 20) ∧ F 31 = .ref (mb + 21)) ∧
  (∃ f, g (mb + 1) = some (.inl (0, 8, .inl f)) ∧ ∀ k, k < B 0 0 → f k = nI (B 1 k) ∧ f (4 + k) = nI (B 2 k)) ∧
  pIa g (mb + 2) 4 (B 0 0) (fun k => nI (B 3 k)) ∧ pIa g (mb + 3) 4 (B 0 0) (fun k => if B 6 k = 0 then -1 else nI (B 4 k)) ∧ pIa g (mb + 4) 4 (B 0 0) (fun k => nI (B 5 k)) ∧
  pIa g (mb + 5) 4 (B 0 1) (fun k => nI (B 7 k)) ∧ pIa g (mb + 6) 4 (B 0 1) (fun k => nI (B 8 k)) ∧
  pIa g (mb + 7) 3 (B 0 2) (fun k => nI (B 9 k)) ∧ pIa g (mb + 8) 3 (B 0 2) (fun k => nI (B 10 k)) ∧ pIa g (mb + 9) 3 (B 0 2) (fun k => nI (B 11 k)) ∧
  pIa g (mb + 10) 8 (B 0 3) (fun k => nI (B 12 k)) ∧ pIa g (mb + 11) 8 (B 0 3) (fun k => if B 12 k = 0 then -2 else nI (B 13 k)) ∧ pIa g (mb + 12) 8 (B 0 3) (fun k => nI (B 14 k)) ∧ pIa g (mb + 13) 8 (B 0 3) (fun k => nI (B 15 k)) ∧ pIa g (mb + 14) 8 (B 0 3) (fun k => nI (B 16 k)) ∧ pIa g (mb + 15) 8 (B 0 3) (fun k => nI (B 17 k)) ∧
  pIa g (mb + 16) 6 (B 0 4) (fun k => nI (B 19 k)) ∧ pIa g (mb + 17) 6 (B 0 4) (fun k => nI (B 20 k)) ∧ pIa g (mb + 18) 6 (B 0 4) (fun k => nI (B 21 k)) ∧ pIa g (mb + 19) 6 (B 0 4) (fun k => nI (B 22 k)) ∧
  pIa g (mb + 20) 5 (B 0 6) (fun k => nI (B 23 k)) ∧ pIa g (mb + 21) 5 (B 0 6) (fun k => nI (B 24 k))
theorem pMb.fr {g g1 : gWM} {mb : Nat} {B : gBar} (h : pMb g mb B) (hf : ∀ j, mb ≤ j → j < mb + 25 → g1 j = g j) : pMb g1 mb B := by
  obtain ⟨⟨F, h1, h2⟩, ⟨f, h3, h4⟩, a2, a3, a4, a5, a6, a7, a8, a9, a10, a11, a12, a13, a14, a15, a16, a17, a18, a19, a20, a21⟩ := h
  have q : ∀ c, c < 25 → ∀ j, mb + c ≤ j → j < mb + c + 1 → g1 j = g j := fun c hc j h8 h9 => hf j (by omega) (by omega)
  exact ⟨⟨F, (hf _ (by omega) (by omega)).trans h1, h2⟩, ⟨f, (hf _ (by omega) (by omega)).trans h3, h4⟩, a2.fr (q 2 (by decide)), a3.fr (q 3 (by decide)), a4.fr (q 4 (by decide)), a5.fr (q 5 (by decide)), a6.fr (q 6 (by decide)), a7.fr (q 7 (by decide)), a8.fr (q 8 (by decide)), a9.fr (q 9 (by decide)), a10.fr (q 10 (by decide)), a11.fr (q 11 (by decide)), a12.fr (q 12 (by decide)), a13.fr (q 13 (by decide)), a14.fr (q 14 (by decide)), a15.fr (q 15 (by decide)), a16.fr (q 16 (by decide)), a17.fr (q 17 (by decide)), a18.fr (q 18 (by decide)), a19.fr (q 19 (by decide)), a20.fr (q 20 (by decide)), a21.fr (q 21 (by decide))⟩
/-! places -/
theorem qI_neg {n : Nat} {p : Int32} (h : p < 0) : (qI n p).isSome = false := by
  rw [qI_in]
  simp [zIn, h]
theorem qI_ok {n : Nat} {p : Int32} (hn : n < 2 ^ 30) (h1 : ¬ p < 0) (h2 : ¬ nI n ≤ p) : (qI n p).isSome = true := by
  obtain ⟨i, hi, rfl⟩ := nI_of h1
  rw [nI_leI (by omega) hi] at h2
  rw [qI_of hn (by omega)]
  rfl
theorem qI_ge {n : Nat} {p : Int32} (hn : n < 2 ^ 30) (h : nI n ≤ p) : (qI n p).isSome = false := by
  cases he : qI n p with
  | none => rfl
  | some j =>
    obtain ⟨rfl, hj⟩ := qI_some hn he
    rw [nI_leI (by omega) (by omega)] at h
    omega
theorem qWy_le {b : Bool} {dy : Int32} (h : qWy b dy ≤ 0) : qWy b dy = 0 := by
  unfold qWy at *
  cases b <;> cases hz : zIn dy 0 60 <;> simp [hz] at h ⊢
theorem qWy_gt {b : Bool} {dy : Int32} (h : ¬ qWy b dy ≤ 0) : ¬ qWy b dy = 0 := fun e => h (by rw [e]; decide)
theorem zIn_60 {n : Nat} (h : n ≤ 60) : zIn (nI n) 0 60 = true := by
  have h1 : ¬ nI n < 0 := nI_pos (by omega)
  have h2 : ¬ (60 : Int32) < nI n := by
    rw [show (60 : Int32) = nI 60 from rfl, nI_ltI (by decide) (by omega)]
    omega
  simp [zIn, h1, h2]
theorem qWy_60 {n : Nat} (h : n ≤ 60) : qWy true (nI n) = 0 := by simp [qWy, zIn_60 h]
/-! goods by their age -/
def zTa (B : gBar) (j : Nat) (a : Int32) : Bool := if B 12 j = 4 then false else if B 12 j = 0 then decide ((3 : Int32) < a) else decide (nI (B 3 (B 13 j)) < a)
theorem zTa_z {B : gBar} {j : Nat} {d : Int32} : zTa B j (zAge B j d) = zTur B j d := rfl
/-- what a found set has to be for a question of the model's: of what one has and hides -/
def zFok (B : gBar) (R : Nat → Int32) (t : Nat) (f : Int32) : Prop := ∀ j, j < B 0 3 → zBit f j = true → zHp B R t j = true ∧ zBit (R 16) j = true
theorem zFok_fou {B : gBar} {R : Nat → Int32} {t k : Nat} {d m : Int32} (hw : wfB B) : zFok B R t (zFou B R t k d m) := by
  intro j hj h
  have hn := hw.1
  rw [zBit_fou (by omega) hj] at h
  simp only [zFp, Bool.and_eq_true] at h
  exact h.1
theorem zSmb_2 {B : gBar} {j : Nat} {d : Int32} (h : B 12 j = 3) : (nI (B 16 j) + zAge B j d / 10) * 2 = zSmb B j d := by
  unfold zSmb
  rw [if_pos h, Int32.mul_comm]
theorem zSmb_1 {B : gBar} {j : Nat} {d : Int32} (h : ¬ B 12 j = 3) : nI (B 16 j) + zAge B j d / 10 = zSmb B j d := by
  unfold zSmb
  rw [if_neg h]
theorem zFre_1 {B : gBar} {R : Nat → Int32} {j k : Nat} {d : Int32} (h : zCov B R j d k = true) : zFre B R j d k + 1 = zFre B R j d (k + 1) := by
  show _ = zFre B R j d k + (if zCov B R j d k then (1 : Int32) else 0)
  rw [if_pos h]
theorem zFre_0 {B : gBar} {R : Nat → Int32} {j k : Nat} {d : Int32} (h : zCov B R j d k = false) : zFre B R j d k + 0 = zFre B R j d (k + 1) := by
  rw [zFre_f h, Int32.add_zero]
theorem zPos_if {x : Int32} (h : ¬ x ≤ 0) : zPos x = x := if_pos (Int32.not_le.mp h)
theorem zPos_el {x : Int32} (h : x ≤ 0) : zPos x = 0 := if_neg (Int32.not_lt.mpr h)
theorem sumTo_0 {f : Nat → Int32} {k : Nat} (h : f k = 0) : sumTo f (k + 1) = sumTo f k := by
  show sumTo f k + f k = _
  rw [h, Int32.add_zero]
theorem upd_o {f : Nat → Int32} {k j : Nat} {v : Int32} (h : j ≠ k) : upd f k v j = f j := if_neg h
theorem upd_s {f : Nat → Int32} {k : Nat} {v : Int32} : upd f k v k = v := if_pos rfl
theorem rate_at {f : Nat → Int32} {B : gBar} {lw k : Nat} (hl : lw ≤ 1) (h : ∀ k, k < B 0 0 → f k = nI (B 1 k) ∧ f (4 + k) = nI (B 2 k)) (hk : k < B 0 0) : f (4 * lw + k) = nI (B (lw + 1) k) := by
  have h1 := h k hk
  rcases (show lw = 0 ∨ lw = 1 by omega) with rfl | rfl
  · rw [show 4 * 0 + k = k by omega]; exact h1.1
  · exact h1.2
theorem pri_t {B : gBar} {k : Nat} (h : ¬ (if B 6 k = 0 then (-1 : Int32) else nI (B 4 k)) = -1) : 1 = zb (decide (B 6 k ≠ 0)) := by
  by_cases h9 : B 6 k = 0
  · rw [if_pos h9] at h; exact absurd rfl h
  · rw [decide_eq_true h9]; rfl
theorem pri_f {B : gBar} {k : Nat} (h : (if B 6 k = 0 then (-1 : Int32) else nI (B 4 k)) = -1) (hw : wfB B := by assumption) (hk : k < B 0 0 := by assumption) : 0 = zb (decide (B 6 k ≠ 0)) := by
  by_cases h9 : B 6 k = 0
  · rw [h9]; rfl
  · rw [if_neg h9] at h
    have h1 := nI_toInt (n := B 4 k) (by have := hw.2.1 k hk; omega)
    rw [h] at h1
    have h3 : (-1 : Int32).toInt = -1 := rfl
    omega
theorem zCov_hp {B : gBar} {R : Nat → Int32} {j k : Nat} {d : Int32} : zCov B R j d k = (decide (k ≠ j) && (zHp B R (B 14 j) k && (decide (B 12 k = 0) && !zTur B k d))) := by
  unfold zCov zHp
  rw [Bool.and_assoc]
/-- a row being begun: the first k hungers -/
def zHg (B : gBar) (k i : Nat) : Int32 := if 8 ≤ i ∧ i < 8 + k then nI (B 8 (i - 8)) else 0
theorem zHg_s {B : gBar} {k : Nat} {f : Nat → Int32} (h : ∀ i, i < 18 → f i = zHg B k i) (hk : k < 4) : ∀ i, i < 18 → upd f (8 + k) (nI (B 8 k)) i = zHg B (k + 1) i := by
  intro i hi
  unfold upd
  split
  · rename_i h9
    subst h9
    unfold zHg
    rw [if_pos (by omega), show 8 + k - 8 = k by omega]
  · rename_i h9
    rw [h i hi]
    unfold zHg
    by_cases h8 : 8 ≤ i ∧ i < 8 + k
    · rw [if_pos h8, if_pos (by omega)]
    · rw [if_neg h8, if_neg (by omega)]
theorem zHg_R {B : gBar} {f : Nat → Int32} (hw : wfB B) (h : ∀ i, i < 18 → f i = zHg B (B 0 1) i) : (∀ i, zRel B i → upd f 16 (zHid B) i = zR0 B i) ∧ upd f 16 (zHid B) 17 = 0 := by
  have hn := hw.1
  refine ⟨fun i hi => ?_, ?_⟩
  · have h17 := hi.lt hw
    unfold upd
    split
    · rename_i h9
      subst h9
      rfl
    · rename_i h9
      rw [h i (by omega)]
      unfold zHg zR0 
      unfold zRel at hi
      by_cases h8 : i < 8
      · rw [if_neg (by omega), if_pos h8]
      · by_cases h7 : i < 12
        · rw [if_pos (by omega), if_neg h8, if_pos h7]
        · rw [if_neg (by omega), if_neg h8, if_neg h7, if_neg h9]
  · unfold upd
    rw [if_neg (by omega), h 17 (by omega)]
    unfold zHg
    rw [if_neg (by omega)]
theorem updE {f e : Nat → Int32} {k : Nat} (h : ∀ i, i < k → f i = e i) : ∀ i, i < k + 1 → upd f k (e k) i = e i := by
  intro i hi
  unfold upd
  split
  · rename_i h9; rw [h9]
  · exact h i (by omega)
theorem zIn_cs {w : Int32} {n : Nat} (hn : n < 2 ^ 30) (h : zIn w 0 (nI n) = true) : ∃ i, w = nI i ∧ i ≤ n := by
  obtain ⟨i, h1, h2, -⟩ := zIn_nI (a := 0) (m := n) (by decide) hn h
  exact ⟨i, h1, h2.2⟩
theorem zIn5 {w : Int32} (h : zIn w 0 5 = true) (h1 : w.toInt < (0 : Int) ∨ (0 : Int) + (5 : Nat) ≤ w.toInt) : w = 5 := by
  obtain ⟨i, rfl, hi⟩ := zIn_cs (n := 5) (by decide) h
  rw [nI_toInt (by omega)] at h1
  obtain rfl : i = 5 := by omega
  rfl
theorem zIn3 {w : Int32} (h : zIn w 0 3 = true) (h0 : ¬ w = 0) (h1 : ¬ w = 1) (h2 : ¬ w = 2) : w = 3 := by
  obtain ⟨i, rfl, hi⟩ := zIn_cs (n := 3) (by decide) h
  match i, hi, h0, h1, h2 with
  | 0, _, h0, _, _ => exact absurd rfl h0
  | 1, _, _, h1, _ => exact absurd rfl h1
  | 2, _, _, _, h2 => exact absurd rfl h2
  | 3, _, _, _, _ => rfl
  | n + 4, hi, _, _, _ => exact absurd hi (by omega)
theorem zIn2 {w : Int32} (h : zIn w 0 2 = true) (h0 : ¬ w = 0) (h1 : ¬ w = 1) : w = 2 := by
  obtain ⟨i, rfl, hi⟩ := zIn_cs (n := 2) (by decide) h
  match i, hi, h0, h1 with
  | 0, _, h0, _ => exact absurd rfl h0
  | 1, _, _, h1 => exact absurd rfl h1
  | 2, _, _, _ => rfl
  | n + 3, hi, _, _ => exact absurd hi (by omega)
theorem zAge_add {B : gBar} {j : Nat} {d n : Int32} : zAge B j d + n = zAge B j (d + n) := by
  unfold zAge
  rw [Int32.add_assoc]
theorem by_no {B : gBar} {k i : Nat} (h : ¬ (if B 12 k = 0 then (-2 : Int32) else nI (B 13 k)) = nI i) (hi : i < 100) : ¬ (B 12 k ≠ 0 ∧ B 13 k = i) := by
  rintro ⟨h1, h2⟩
  rw [if_neg h1, h2] at h
  exact h rfl
theorem by_yes {B : gBar} {k i : Nat} (h : (if B 12 k = 0 then (-2 : Int32) else nI (B 13 k)) = nI i) (hb : B 12 k = 0 ∨ B 13 k < 100) (hi : i < 100) : B 12 k ≠ 0 ∧ B 13 k = i := by
  by_cases h1 : B 12 k = 0
  · rw [if_pos h1] at h
    have h2 := nI_toInt (n := i) (by omega)
    rw [← h] at h2
    have h3 : (-2 : Int32).toInt = -2 := rfl
    omega
  · rw [if_neg h1, nI_eq (by omega) (by omega)] at h
    exact ⟨h1, h⟩
theorem zDb_n {B : gBar} {R : Nat → Int32} {d : Int32} {i k : Nat} (h : ¬ (B 12 k ≠ 0 ∧ B 13 k = i)) : zDb B R d i k = 0 := by
  unfold zDb
  rw [if_neg]
  intro h1
  simp only [Bool.and_eq_true, decide_eq_true_eq] at h1
  exact h h1.2
theorem zDb_y {B : gBar} {R : Nat → Int32} {d : Int32} {i k : Nat} (h : B 12 k ≠ 0 ∧ B 13 k = i) (h1 : R k = 0) : zDb B R d i k = zDut B 1 k d := by
  unfold zDb
  rw [if_pos]
  simp only [Bool.and_eq_true, decide_eq_true_eq]
  exact ⟨h1, h⟩
theorem zDb_z {B : gBar} {R : Nat → Int32} {d : Int32} {i k : Nat} (h1 : ¬ R k = 0) : zDb B R d i k = 0 := by
  unfold zDb
  rw [if_neg]
  intro h2
  simp only [Bool.and_eq_true, decide_eq_true_eq] at h2
  exact h1 h2.1
theorem by_z {B : gBar} {j : Nat} (h : (if B 12 j = 0 then (-2 : Int32) else nI (B 13 j)) = -2) (hb : B 12 j = 0 ∨ B 13 j < 100) : B 12 j = 0 := by
  by_cases h1 : B 12 j = 0
  · exact h1
  · rw [if_neg h1] at h
    have h2 := nI_toInt (n := B 13 j) (by omega)
    rw [h] at h2
    have h3 : (-2 : Int32).toInt = -2 := rfl
    omega
theorem zIn11 {w : Int32} (h : zIn w 0 11 = true) (h1 : w.toInt < (0 : Int) ∨ (0 : Int) + (11 : Nat) ≤ w.toInt) : w = 11 := by
  obtain ⟨i, rfl, hi⟩ := zIn_cs (n := 11) (by decide) h
  rw [nI_toInt (by omega)] at h1
  obtain rfl : i = 11 := by omega
  rfl
