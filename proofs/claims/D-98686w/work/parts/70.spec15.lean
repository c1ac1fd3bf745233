/-! THE PLAIN SIDE, fifteenth: the reader's cells -/
set_option maxRecDepth 100000
section
variable {T : Nat → Int32} {n en K : Nat}
theorem zTn_end (hK : zEn (zSpc T n) n en = K) (h : zSee T n K = -1) : zTn T n en = (K, 0, K, 0, []) := by
  unfold zTn zTq
  rw [hK, if_pos h]
theorem zTn_bw (hK : zEn (zSpc T n) n en = K) (h : ¬ zSee T n K = -1) (h2 : zIn (zSee T n K) 97 122 = true) {E : Nat} (hE : zEn (zLtr T n) n K = E) (h3 : 9 < E - K) : zTn T n en = (E, 1, K, 0, []) := by
  unfold zTn zTq
  rw [hK, if_neg h, if_pos (show zLtr T n K = true from h2), hE, if_pos h3]
theorem zTn_w (hK : zEn (zSpc T n) n en = K) (h : ¬ zSee T n K = -1) (h2 : zIn (zSee T n K) 97 122 = true) {E : Nat} (hE : zEn (zLtr T n) n K = E) (h3 : ¬ 9 < E - K) : zTn T n en = (E, 2, K, 0, zWd T n K (E - K)) := by
  unfold zTn zTq
  rw [hK, if_neg h, if_pos (show zLtr T n K = true from h2), hE, if_neg h3]
theorem zTn_bd (hK : zEn (zSpc T n) n en = K) (h : ¬ zSee T n K = -1) (h2 : zIn (zSee T n K) 97 122 = false) (h4 : zIn (zSee T n K) 48 57 = true) {E : Nat} (hE : zEn (zDgt T n) n K = E) (h3 : 3 < E - K) : zTn T n en = (E, 1, K, 0, []) := by
  unfold zTn zTq
  rw [hK, if_neg h, if_neg (by unfold zLtr; rw [h2]; exact Bool.false_ne_true), if_pos (show zDgt T n K = true from h4), hE, if_pos h3]
theorem zTn_d (hK : zEn (zSpc T n) n en = K) (h : ¬ zSee T n K = -1) (h2 : zIn (zSee T n K) 97 122 = false) (h4 : zIn (zSee T n K) 48 57 = true) {E : Nat} (hE : zEn (zDgt T n) n K = E) (h3 : ¬ 3 < E - K) : zTn T n en = (E, 3, K, zDg T n K (E - K), []) := by
  unfold zTn zTq
  rw [hK, if_neg h, if_neg (by unfold zLtr; rw [h2]; exact Bool.false_ne_true), if_pos (show zDgt T n K = true from h4), hE, if_neg h3]
theorem zTn_s (hK : zEn (zSpc T n) n en = K) (h : ¬ zSee T n K = -1) (h2 : zIn (zSee T n K) 97 122 = false) (h4 : zIn (zSee T n K) 48 57 = false) (h3 : zSee T n K = 59) : zTn T n en = (K + 1, 59, K, 0, []) := by
  unfold zTn zTq
  rw [hK, if_neg h, if_neg (by unfold zLtr; rw [h2]; exact Bool.false_ne_true), if_neg (by unfold zDgt; rw [h4]; exact Bool.false_ne_true), if_pos h3]
theorem zTn_b (hK : zEn (zSpc T n) n en = K) (h : ¬ zSee T n K = -1) (h2 : zIn (zSee T n K) 97 122 = false) (h4 : zIn (zSee T n K) 48 57 = false) (h3 : ¬ zSee T n K = 59) : zTn T n en = (K + 1, 1, K, 0, []) := by
  unfold zTn zTq
  rw [hK, if_neg h, if_neg (by unfold zLtr; rw [h2]; exact Bool.false_ne_true), if_neg (by unfold zDgt; rw [h4]; exact Bool.false_ne_true), if_neg h3]
theorem zDg_le : ∀ {m : Nat}, (∀ i, i < m → zIn (zSee T n (K + i)) 48 57 = true) → zDg T n K m < 10 ^ m
  | 0, _ => Nat.zero_lt_one
  | m + 1, h => by
    have h1 := zDg_le (m := m) (fun i hi => h i (by omega))
    obtain ⟨q, e, h2, h3⟩ := zIn_nI (a := 48) (m := 57) (by decide) (by decide) (h m (by omega))
    show 10 * zDg T n K m + ((zSee T n (K + m)).toNatClampNeg - 48) < _
    rw [h3, Nat.pow_succ]
    omega
/-- what holds of a token -/
def zOk (n : Nat) (t : zTk) : Prop := t.1 ≤ n ∧ t.2.2.1 ≤ n ∧ t.2.1 ≤ 59 ∧ (t.2.1 = 2 → zWo t.2.2.2.2) ∧ (t.2.1 = 3 → t.2.2.2.1 ≤ 999)
theorem zTn_ok (h : en ≤ n) : zOk n (zTn T n en) := by
  have h0 := zTn_le (T := T) h
  refine ⟨h0.1, h0.2, ?_, zTn_wo h, ?_⟩
  · unfold zTn zTq
    repeat' split
    all_goals first | exact (by decide : (0 : Nat) ≤ 59) | exact (by decide : (1 : Nat) ≤ 59) | exact (by decide : (2 : Nat) ≤ 59) | exact (by decide : (3 : Nat) ≤ 59) | exact (by decide : (59 : Nat) ≤ 59)
  · have h1 := zEn_le (P := zSpc T n) h
    generalize hK : zEn (zSpc T n) n en = K at h1
    by_cases c1 : zSee T n K = -1
    · rw [zTn_end hK c1]; intro h9; cases h9
    · cases c2 : zIn (zSee T n K) 97 122 with
      | true =>
        by_cases c3 : 9 < zEn (zLtr T n) n K - K
        · rw [zTn_bw hK c1 c2 rfl c3]; intro h9; cases h9
        · rw [zTn_w hK c1 c2 rfl c3]; intro h9; cases h9
      | false =>
        cases c4 : zIn (zSee T n K) 48 57 with
        | true =>
          by_cases c3 : 3 < zEn (zDgt T n) n K - K
          · rw [zTn_bd hK c1 c2 c4 rfl c3]; intro h9; cases h9
          · rw [zTn_d hK c1 c2 c4 rfl c3]
            intro _
            have h5 := zDg_le (T := T) (n := n) (K := K) (m := zEn (zDgt T n) n K - K) (fun i hi => zEn_all (P := zDgt T n) (n := n) (k := K) (by omega) (by omega))
            have h6 : 10 ^ (zEn (zDgt T n) n K - K) ≤ 10 ^ 3 := Nat.pow_le_pow_right (by decide) (by omega)
            show zDg T n K (zEn (zDgt T n) n K - K) ≤ 999
            omega
        | false =>
          by_cases c3 : zSee T n K = 59
          · rw [zTn_s hK c1 c2 c4 c3]; intro h9; cases h9
          · rw [zTn_b hK c1 c2 c4 c3]; intro h9; cases h9
/-- one digit more -/
theorem zDg_s {e : Nat} (h1 : K ≤ e) (h2 : zIn (zSee T n e) 48 57 = true) : (10 : Int32) * nI (zDg T n K (e - K)) + zSee T n e - 48 = nI (zDg T n K (e + 1 - K)) := by
  obtain ⟨q, e1, h3, h4⟩ := zIn_nI (a := 48) (m := 57) (by decide) (by decide) h2
  rw [show e + 1 - K = e - K + 1 by omega]
  show _ = nI (10 * zDg T n K (e - K) + ((zSee T n (K + (e - K))).toNatClampNeg - 48))
  rw [show K + (e - K) = e by omega, h4, e1, show (10 : Int32) = nI 10 from rfl, show (48 : Int32) = nI 48 from rfl, pk_mul, nI_add, pk_sub (by omega)]
  exact congrArg nI (by omega)
theorem zSee_q {e : Nat} (h2 : zIn (zSee T n e) 97 122 = true) : ∃ q, zSee T n e = nI q ∧ 97 ≤ q ∧ q ≤ 122 := by
  obtain ⟨q, h1, h3, -⟩ := zIn_nI (a := 97) (m := 122) (by decide) (by decide) h2
  exact ⟨q, h1, h3.1, h3.2⟩
theorem i2c_l {e : Nat} (h2 : zIn (zSee T n e) 97 122 = true) : ((zSee T n e).toUInt32 % 65536).toInt32 = zSee T n e := by
  obtain ⟨q, h1, h3, h4⟩ := zSee_q h2
  rw [h1, u16 (by omega)]
theorem nar_l {e : Nat} (h2 : zIn (zSee T n e) 97 122 = true) : vp_nar .char (zSee T n e) = zSee T n e := by
  obtain ⟨q, h1, h3, h4⟩ := zSee_q h2
  rw [h1]
  exact (by decide +kernel : ∀ q, q < 128 → vp_nar .char (nI q) = nI q) q (by omega)
theorem updC9 {f : Nat → Int32} {e : Nat} (h1 : K ≤ e) (h2 : zIn (zSee T n e) 97 122 = true) (hf : ∀ i, i < e - K → i < 9 → f i = zSee T n (K + i)) : ∀ i, i < e + 1 - K → i < 9 → upd f (e - K) (vp_nar .char (zSee T n e)) i = zSee T n (K + i) := by
  intro i h3 h4
  unfold upd
  split
  · rename_i h9
    rw [nar_l h2, h9, show K + (e - K) = e by omega]
  · exact hf i (by omega) h4
end
/-! cells -/
def pTs (g : gWM) (n : Nat) : Prop := ∃ F, g 1002 = some (.inr (1, F)) ∧ F 1 = .ref 1001 ∧ F 3 = .int (nI n)
def pTq (g : gWM) (n bb en N : Nat) (T : Nat → Int32) : Prop :=
  (∃ F, g 1002 = some (.inr (1, F)) ∧ F 0 = .ref 1003 ∧ F 1 = .ref 1001 ∧ F 2 = .ref 1004 ∧ F 3 = .int (nI n) ∧ F 4 = .int (nI en) ∧ F 9 = .ref bb) ∧ (∃ F, g 1003 = some (.inr (2, F))) ∧ (∃ f, g 1004 = some (.inl (2, 9, .inl f))) ∧ pTp g 1001 T n ∧ ∀ j, N ≤ j → g j = none
/-- within a token that begins at K: read up to e -/
def pNx (g : gWM) (n bb e K : Nat) : Prop := ∃ F, g 1002 = some (.inr (1, F)) ∧ F 0 = .ref 1003 ∧ F 1 = .ref 1001 ∧ F 2 = .ref 1004 ∧ F 3 = .int (nI n) ∧ F 4 = .int (nI e) ∧ F 6 = .int (nI K) ∧ F 9 = .ref bb
def pNd (g : gWM) (n bb e K wh : Nat) : Prop := ∃ F, g 1002 = some (.inr (1, F)) ∧ F 0 = .ref 1003 ∧ F 1 = .ref 1001 ∧ F 2 = .ref 1004 ∧ F 3 = .int (nI n) ∧ F 4 = .int (nI e) ∧ F 6 = .int (nI K) ∧ F 7 = .int (nI wh) ∧ F 9 = .ref bb
/-- the reader at the token t; own Strings lie below M, but for the word (at M); N and all behind is free -/
def pTk (g : gWM) (n bb : Nat) (t : zTk) (M N : Nat) (T : Nat → Int32) : Prop :=
  (∃ F, g 1002 = some (.inr (1, F)) ∧ F 0 = .ref 1003 ∧ F 1 = .ref 1001 ∧ F 2 = .ref 1004 ∧ F 3 = .int (nI n) ∧ F 4 = .int (nI t.1) ∧ F 5 = .int (nI t.2.1) ∧ F 6 = .int (nI t.2.2.1) ∧ (t.2.1 = 3 → F 7 = .int (nI t.2.2.2.1)) ∧ (t.2.1 = 2 → F 8 = .ref M) ∧ F 9 = .ref bb) ∧ (t.2.1 = 2 → pSt g M t.2.2.2.2 ∧ M + 2 ≤ N) ∧ (∃ F, g 1003 = some (.inr (2, F))) ∧ (∃ f, g 1004 = some (.inl (2, 9, .inl f))) ∧ pTp g 1001 T n ∧ ∀ j, N ≤ j → g j = none
theorem pTk.q {g : gWM} {n bb : Nat} {t : zTk} {M N : Nat} {T : Nat → Int32} (h : pTk g n bb t M N T) : pTq g n bb t.1 N T := by
  obtain ⟨⟨F, h1, h2, h3, h4, h5, h6, -, -, -, -, h7⟩, -, h8, h9, h10, h11⟩ := h
  exact ⟨⟨F, h1, h2, h3, h4, h5, h6, h7⟩, h8, h9, h10, h11⟩
theorem pTk.fr {g g1 : gWM} {n bb : Nat} {t : zTk} {M N : Nat} {T : Nat → Int32} (hM : 1005 ≤ M) (h : pTk g n bb t M N T) (hf : ∀ j, (1001 ≤ j ∧ j < 1005) ∨ M ≤ j → g1 j = g j) (hN : M ≤ N) : pTk g1 n bb t M N T := by
  obtain ⟨⟨F, h1, h2⟩, h3, ⟨F2, h4⟩, ⟨f, h5⟩, h6, h7⟩ := h
  exact ⟨⟨F, (hf _ (by omega)).trans h1, h2⟩, fun h8 => ⟨(h3 h8).1.fr (fun j a b => hf j (by omega)), (h3 h8).2⟩, ⟨F2, (hf _ (by omega)).trans h4⟩, ⟨f, (hf _ (by omega)).trans h5⟩, h6.fr (fun j a b => hf j (by omega)), fun j hj => (hf j (by omega)).trans (h7 j hj)⟩
/-- on to the token t: what lies below M is as it was -/
def pSp (g1 g : gWM) (n bb : Nat) (t : zTk) (M N : Nat) (T : Nat → Int32) : Prop := ∃ M1 N1, N ≤ M1 ∧ M1 ≤ N1 ∧ pTk g1 n bb t M1 N1 T ∧ ∀ j, (j ≠ 1002 ∧ j ≠ 1004 ∧ j < M) → g1 j = g j
/-- refused: e -/
def pXx (g1 g : gWM) (bb : Nat) (e : Nat × Nat) : Prop := (∃ F, g1 1003 = some (.inr (2, F)) ∧ F 6 = .int (nI e.1) ∧ F 7 = .int (nI e.2)) ∧ (∃ F, g1 1002 = some (.inr (1, F)) ∧ F 0 = .ref 1003 ∧ F 1 = .ref 1001 ∧ F 2 = .ref 1004) ∧ (∃ f, g1 1004 = some (.inl (2, 9, .inl f))) ∧ (∃ N1, bb + 100 ≤ N1 ∧ ∀ j, N1 ≤ j → g1 j = none) ∧ ∀ j, (j < 1002 ∨ (1005 ≤ j ∧ j < bb)) → g1 j = g j
theorem pXx.tr {g2 g1 g : gWM} {bb : Nat} {e : Nat × Nat} (h : pXx g2 g1 bb e) (hf : ∀ j, (j < 1002 ∨ (1005 ≤ j ∧ j < bb)) → g1 j = g j) : pXx g2 g bb e := by
  obtain ⟨h1, h2, h3, h4, h5⟩ := h
  exact ⟨h1, h2, h3, h4, fun j hj => (h5 j hj).trans (hf j hj)⟩
/-- an answer that is so, by what is read -/
def gPe {α : Type} (s : zEr α) (vf : α → Option Value) (P : α → gWM → Prop) : Option Value → gWM → Prop := fun v g1 => ∃ a, s = .inr a ∧ v = vf a ∧ P a g1
section
variable {z : gZ} {kc ks q : Nat} {lo : List (Option Value)} {st : List Value} {α : Type} {s : zEr α} {P : α → gWM → Prop}
theorem gPe.kn (k : ∀ a g1, s = .inr a → P a g1 → gV z g1 kc ks q lo st) : ∀ v g1, gPe s (fun _ => none) P v g1 → gV z g1 kc ks q lo (v.toList ++ st) := by
  rintro v g1 ⟨a, h1, rfl, h2⟩
  exact k a g1 h1 h2
theorem gPe.ki {f : α → Int32} (k : ∀ a g1, s = .inr a → P a g1 → gV z g1 kc ks q lo (.int (f a) :: st)) : ∀ v g1, gPe s (fun a => some (.int (f a))) P v g1 → gV z g1 kc ks q lo (v.toList ++ st) := by
  rintro v g1 ⟨a, h1, rfl, h2⟩
  exact k a g1 h1 h2
theorem gPe.kr {f : α → Nat} (k : ∀ a g1, s = .inr a → P a g1 → gV z g1 kc ks q lo (.ref (f a) :: st)) : ∀ v g1, gPe s (fun a => some (.ref (f a))) P v g1 → gV z g1 kc ks q lo (v.toList ++ st) := by
  rintro v g1 ⟨a, h1, rfl, h2⟩
  exact k a g1 h1 h2
end
theorem zBd_l {α β : Type} {x : zEr α} {f : α → zEr β} {e : Nat × Nat} (h : x = .inl e) : zBd x f = .inl e := by rw [h]; rfl
theorem zBd_r {α β : Type} {x : zEr α} {f : α → zEr β} {a : α} (h : x = .inr a) : zBd x f = f a := by rw [h]; rfl
/-- a reference, and a world -/
def gPr (w : Nat) (P : gWM → Prop) : Option Value → gWM → Prop := fun v g1 => v = some (.ref w) ∧ P g1
theorem gPr.k {z : gZ} {kc ks q w : Nat} {lo : List (Option Value)} {st : List Value} {P : gWM → Prop} (k : ∀ g1, P g1 → gV z g1 kc ks q lo (.ref w :: st)) : ∀ v g1, gPr w P v g1 → gV z g1 kc ks q lo (v.toList ++ st) := by
  rintro v g1 ⟨rfl, h⟩
  exact k g1 h
section
variable {T : Nat → Int32} {n : Nat}
theorem zMu_ok {w : List Int32} {t a : zTk} (h : zOk n t) (he : zMu T n w t = .inr a) : zOk n a := by
  unfold zMu at he
  split at he
  · cases he; exact zTn_ok h.1
  · cases he
theorem zNu_ok {lo hi : Nat} {t : zTk} {a : Nat × zTk} (h : zOk n t) (he : zNu T n lo hi t = .inr a) : zOk n a.2 := by
  unfold zNu at he
  split at he
  · split at he
    · cases he; exact zTn_ok h.1
    · cases he
  · cases he
theorem zNu_in {lo hi : Nat} {t : zTk} {a : Nat × zTk} (he : zNu T n lo hi t = .inr a) : lo ≤ a.1 ∧ a.1 ≤ hi := by
  unfold zNu at he
  split at he
  · split at he
    · rename_i h; cases he; exact h
    · cases he
  · cases he
theorem zAf_ok {w : List Int32} {lo hi : Nat} {t : zTk} {a : Nat × zTk} (h : zOk n t) (he : zAf T n w lo hi t = .inr a) : zOk n a.2 := by
  unfold zAf zBd at he
  split at he
  · cases he
  · rename_i h1; exact zNu_ok (zMu_ok h h1) he
theorem zAf_in {w : List Int32} {lo hi : Nat} {t : zTk} {a : Nat × zTk} (he : zAf T n w lo hi t = .inr a) : lo ≤ a.1 ∧ a.1 ≤ hi := by
  unfold zAf zBd at he
  split at he
  · cases he
  · exact zNu_in he
theorem zNu_y {lo hi : Nat} {t : zTk} (h : t.2.1 = 3) (h1 : lo ≤ t.2.2.2.1) (h2 : t.2.2.2.1 ≤ hi) : zNu T n lo hi t = .inr (t.2.2.2.1, zTn T n t.1) := by
  unfold zNu
  rw [if_pos h, if_pos ⟨h1, h2⟩]
theorem zNu_n {lo hi : Nat} {t : zTk} (h : ¬ t.2.1 = 3) : zNu T n lo hi t = .inl (1, t.2.2.1) := if_neg h
theorem zNu_b {lo hi : Nat} {t : zTk} (h : t.2.1 = 3) (h1 : ¬ (lo ≤ t.2.2.2.1 ∧ t.2.2.2.1 ≤ hi)) : zNu T n lo hi t = .inl (4, t.2.2.1) := by
  unfold zNu
  rw [if_pos h, if_neg h1]
end
theorem zIn_N {a lo hi : Nat} (ha : a < 2 ^ 30) (hl : lo < 2 ^ 30) (hh : hi < 2 ^ 30) (h : zIn (nI a) (nI lo) (nI hi) = true) : lo ≤ a ∧ a ≤ hi := by
  simp only [zIn, Bool.and_eq_true, Bool.not_eq_true', decide_eq_false_iff_not] at h
  rw [nI_ltI (by omega) (by omega), nI_ltI (by omega) (by omega)] at h
  omega
theorem zIn_Nf {a lo hi : Nat} (ha : a < 2 ^ 30) (hl : lo < 2 ^ 30) (hh : hi < 2 ^ 30) (h : zIn (nI a) (nI lo) (nI hi) = false) : ¬ (lo ≤ a ∧ a ≤ hi) := by
  intro h1
  have h2 : zIn (nI a) (nI lo) (nI hi) = true := by
    simp only [zIn, Bool.and_eq_true, Bool.not_eq_true', decide_eq_false_iff_not]
    rw [nI_ltI (by omega) (by omega), nI_ltI (by omega) (by omega)]
    omega
  rw [h2] at h
  cases h
