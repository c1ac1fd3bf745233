/-! THE PLAIN SIDE, fourteenth: words, tokens, lines -/
set_option maxRecDepth 100000
/-- the hash of a word -/
def zHx (f : Nat → Int32) : Nat → Int32
  | 0 => 0
  | k + 1 => 31 * zHx f k + (f k &&& 255)
def zHs (w : List Int32) : Int32 := zHx (fun i => w.getD i 0) w.length
theorem zHs_1 {w : List Int32} (h : w.length = 1) : w.getD 0 0 &&& 255 = zHs w := by
  unfold zHs
  rw [h]
  show _ = 31 * 0 + (w.getD 0 0 &&& 255)
  rw [Int32.mul_zero, Int32.zero_add]
theorem zHs_0 {w : List Int32} (h : w.length = 0) : 0 = zHs w := by
  unfold zHs
  rw [h]
  rfl
theorem lst_eq {a b : List Int32} (h1 : a.length = b.length) (h2 : ∀ i, i < a.length → a.getD i 0 = b.getD i 0) : a = b := by
  apply List.ext_getElem? 
  intro i
  by_cases hi : i < a.length
  · have h3 := h2 i hi
    rw [List.getD_eq_getElem?_getD, List.getD_eq_getElem?_getD] at h3
    rw [List.getElem?_eq_getElem hi, List.getElem?_eq_getElem (show i < b.length by omega)] at h3 ⊢
    exact congrArg some h3
  · rw [List.getElem?_eq_none (by omega), List.getElem?_eq_none (by omega)]
theorem zbT {P : Prop} [Decidable P] (h : P) : 1 = zb (decide P) := by rw [decide_eq_true h]; rfl
theorem zbF {P : Prop} [Decidable P] (h : ¬ P) : 0 = zb (decide P) := by rw [decide_eq_false h]; rfl
theorem gS_len : ∀ q ∈ gSites, (gByt q.2.2).length ≤ 9 := by decide +kernel
theorem gS_l {j : Nat} {q : String × Nat × String} (h : gSites[j]? = some q) : (gByt q.2.2).length ≤ 9 := gS_len q (List.mem_of_getElem? h)
/-- an own String: its number, what it says -/
def pSt (g : gWM) (k : Nat) (w : List Int32) : Prop :=
  ∃ F h iz, g k = some (.inr (22, F)) ∧ F 0 = .ref (k + 1) ∧ F 1 = .int 0 ∧ F 2 = .int h ∧ F 3 = .int iz ∧ (h = 0 ∨ h = zHs w) ∧ (iz = 0 ∨ zHs w = 0) ∧ ∃ f, g (k + 1) = some (.inl (1, w.length, .inl f)) ∧ ∀ i, i < w.length → f i = w.getD i 0
theorem pSt.fr {g g1 : gWM} {k : Nat} {w : List Int32} (h : pSt g k w) (hf : ∀ j, k ≤ j → j < k + 2 → g1 j = g j) : pSt g1 k w := by
  obtain ⟨F, h9, iz, h1, h2, h3, h4, h5, h6, h7, f, h8, h10⟩ := h
  exact ⟨F, h9, iz, (hf _ (by omega) (by omega)).trans h1, h2, h3, h4, h5, h6, h7, f, (hf _ (by omega) (by omega)).trans h8, h10⟩
/-- a word: letters, nine at the most -/
def zWo (w : List Int32) : Prop := 1 ≤ w.length ∧ w.length ≤ 9 ∧ ∀ i, i < w.length → zIn (w.getD i 0) 97 122 = true
theorem pSt.inj {g : gWM} {k k2 : Nat} {w v : List Int32} (h1 : pSt g k w) (h2 : pSt g k2 v) (h : k = k2) : w = v := by
  subst h
  obtain ⟨F, -, -, -, -, -, -, -, -, -, f, a, b⟩ := h1
  obtain ⟨F2, -, -, -, -, -, -, -, -, -, f2, a2, b2⟩ := h2
  rw [a] at a2
  injection a2 with a2
  injection a2 with a2
  injection a2 with _ a2
  injection a2 with a3 a2
  injection a2 with a2
  subst a2
  exact lst_eq a3 (fun i hi => (b i hi).symm.trans (b2 i (by omega)))
theorem u16 {q : Nat} (h : q < 65536) : ((nI q).toUInt32 % 65536).toInt32 = nI q := by
  apply Int32.toBitVec_inj.mp
  apply BitVec.eq_of_toNat_eq
  show ((nI q).toUInt32 % 65536).toNat = q % 2 ^ 32
  rw [UInt32.toNat_mod]
  show q % 2 ^ 32 % 65536 = q % 2 ^ 32
  omega
/-- a byte as a char -/
def zCh (b : Int32) : Int32 := ((b &&& 255).toUInt32 % 65536).toInt32
theorem zCh_nI (b : Int32) : ∃ q, q < 256 ∧ zCh b = nI q := by
  obtain ⟨q, hq, e⟩ := pk_andE b (m := 255) 8 (by decide)
  refine ⟨q, hq, ?_⟩
  unfold zCh
  rw [e, u16 (by omega)]
theorem nar_ch (b : Int32) : narrow .char (.int (zCh b)) = .int (zCh b) := by
  obtain ⟨q, hq, e⟩ := zCh_nI b
  rw [e]
  exact (pk_charN (by omega)).1
theorem shr0 (x : Int32) : x >>> ((0 : Int32) &&& 31) = x := by
  apply Int32.toInt_inj.mp
  rw [pk_shr x _ 0 (by decide)]
  simp
/-! the first place where something ends -/
def zEd (P : Nat → Bool) : Nat → Nat → Nat
  | 0, k => k
  | f + 1, k => if P k then zEd P f (k + 1) else k
def zEn (P : Nat → Bool) (n k : Nat) : Nat := zEd P (n - k) k
theorem zEn_t {P : Nat → Bool} {n k : Nat} (hk : k < n) (h : P k = true) : zEn P n k = zEn P n (k + 1) := by
  unfold zEn
  obtain ⟨m, hm⟩ : ∃ m, n - k = m + 1 := ⟨n - k - 1, by omega⟩
  rw [hm, show n - (k + 1) = m by omega]
  show (if P k then _ else _) = _
  rw [if_pos h]
theorem zEn_f {P : Nat → Bool} {n k : Nat} (h : P k = false) : zEn P n k = k := by
  unfold zEn
  cases n - k with
  | zero => rfl
  | succ m =>
    show (if P k then _ else _) = _
    rw [if_neg (by rw [h]; exact Bool.false_ne_true)]
theorem zEd_le {P : Nat → Bool} : ∀ (f k : Nat), k ≤ zEd P f k ∧ zEd P f k ≤ k + f
  | 0, k => ⟨Nat.le_refl _, Nat.le_refl _⟩
  | f + 1, k => by
    have := zEd_le (P := P) f (k + 1)
    unfold zEd
    split <;> omega
theorem zEn_le {P : Nat → Bool} {n k : Nat} (h : k ≤ n) : k ≤ zEn P n k ∧ zEn P n k ≤ n := by
  have := zEd_le (P := P) (n - k) k
  unfold zEn
  omega
theorem zEd_all {P : Nat → Bool} : ∀ (f k i : Nat), k ≤ i → i < zEd P f k → P i = true
  | 0, k, i, h1, h2 => by
    have h2 : i < k := h2
    omega
  | f + 1, k, i, h1, h2 => by
    unfold zEd at h2
    split at h2
    · rename_i hp
      by_cases hi : i = k
      · rw [hi]; exact hp
      · exact zEd_all f (k + 1) i (by omega) h2
    · omega
theorem zEn_all {P : Nat → Bool} {n k i : Nat} (h1 : k ≤ i) (h2 : i < zEn P n k) : P i = true := zEd_all _ _ _ h1 h2
def zSpc (T : Nat → Int32) (n k : Nat) : Bool := decide (zSee T n k = 32)
def zLtr (T : Nat → Int32) (n k : Nat) : Bool := zIn (zSee T n k) 97 122
def zDgt (T : Nat → Int32) (n k : Nat) : Bool := zIn (zSee T n k) 48 57
theorem zSee_hi {T : Nat → Int32} {n k : Nat} (h : n ≤ k) : zSee T n k = -1 := by
  unfold zSee
  rw [if_neg (by omega)]
theorem zSpc_lt {T : Nat → Int32} {n k : Nat} (h : zSee T n k = 32) : k < n := by
  by_cases h1 : k < n
  · exact h1
  · rw [zSee_hi (by omega)] at h
    exact absurd h (by decide)
theorem zLtr_lt {T : Nat → Int32} {n k : Nat} (h : zIn (zSee T n k) 97 122 = true) : k < n := by
  by_cases h1 : k < n
  · exact h1
  · rw [zSee_hi (by omega)] at h
    exact absurd h (by decide)
theorem zDgt_lt {T : Nat → Int32} {n k : Nat} (h : zIn (zSee T n k) 48 57 = true) : k < n := by
  by_cases h1 : k < n
  · exact h1
  · rw [zSee_hi (by omega)] at h
    exact absurd h (by decide)
theorem zSee_lt {T : Nat → Int32} {n k : Nat} (h : ¬ zSee T n k = -1) : k < n := by
  by_cases h1 : k < n
  · exact h1
  · exact absurd (zSee_hi (by omega)) h
/-- a token: the end, its sort (0 the end, 1 bad, 2 a word, 3 a number, 59 the sign), where it stands, the number, the word -/
abbrev zTk : Type := Nat × Nat × Nat × Nat × List Int32
def zWd (T : Nat → Int32) (n k m : Nat) : List Int32 := (List.range m).map (fun i => zSee T n (k + i))
def zDg (T : Nat → Int32) (n k : Nat) : Nat → Nat
  | 0 => 0
  | m + 1 => 10 * zDg T n k m + ((zSee T n (k + m)).toNatClampNeg - 48)
def zTq (T : Nat → Int32) (n k e d : Nat) : zTk :=
  if zSee T n k = -1 then (k, 0, k, 0, [])
  else if zLtr T n k then (if 9 < e - k then (e, 1, k, 0, []) else (e, 2, k, 0, zWd T n k (e - k)))
  else if zDgt T n k then (if 3 < d - k then (d, 1, k, 0, []) else (d, 3, k, zDg T n k (d - k), []))
  else if zSee T n k = 59 then (k + 1, 59, k, 0, []) else (k + 1, 1, k, 0, [])
/-- the next token from en on -/
def zTn (T : Nat → Int32) (n en : Nat) : zTk := zTq T n (zEn (zSpc T n) n en) (zEn (zLtr T n) n (zEn (zSpc T n) n en)) (zEn (zDgt T n) n (zEn (zSpc T n) n en))
theorem zWd_len {T : Nat → Int32} {n k m : Nat} : (zWd T n k m).length = m := by simp [zWd]
theorem zWd_at {T : Nat → Int32} {n k m i : Nat} (h : i < m) : (zWd T n k m).getD i 0 = zSee T n (k + i) := by
  unfold zWd
  rw [List.getD_eq_getElem?_getD, List.getElem?_map, List.getElem?_range h]
  rfl
theorem zTn_le {T : Nat → Int32} {n en : Nat} (h : en ≤ n) : (zTn T n en).1 ≤ n ∧ (zTn T n en).2.2.1 ≤ n := by
  have h1 := zEn_le (P := zSpc T n) h
  have h2 := zEn_le (P := zLtr T n) h1.2
  have h3 := zEn_le (P := zDgt T n) h1.2
  unfold zTn zTq
  split
  · exact ⟨h1.2, h1.2⟩
  · rename_i h4
    have h5 := zSee_lt h4
    split
    · split <;> exact ⟨h2.2, h1.2⟩
    · split
      · split <;> exact ⟨h3.2, h1.2⟩
      · split <;> exact ⟨h5, h1.2⟩
theorem zTn_wo {T : Nat → Int32} {n en : Nat} (h : en ≤ n) (h2 : (zTn T n en).2.1 = 2) : zWo (zTn T n en).2.2.2.2 := by
  have h1 := zEn_le (P := zSpc T n) h
  unfold zTn zTq at h2 ⊢
  split at h2
  · cases h2
  · rename_i h4
    rw [if_neg h4]
    split at h2
    · rename_i h5
      rw [if_pos h5]
      split at h2
      · cases h2
      · rename_i h6
        rw [if_neg h6]
        have h7 := zEn_t (P := zLtr T n) (zSee_lt h4) h5
        have h8 := zEn_le (P := zLtr T n) (n := n) (k := zEn (zSpc T n) n en + 1) (zSee_lt h4)
        refine ⟨by rw [zWd_len]; omega, by rw [zWd_len]; omega, fun i hi => ?_⟩
        have hi : i < zEn (zLtr T n) n (zEn (zSpc T n) n en) - zEn (zSpc T n) n en := by rw [zWd_len] at hi; exact hi
        show zIn ((zWd T n _ _).getD i 0) 97 122 = true
        rw [zWd_at hi]
        exact zEn_all (P := zLtr T n) (n := n) (k := zEn (zSpc T n) n en) (by omega) (by omega)
    · split at h2
      · split at h2 <;> cases h2
      · split at h2 <;> cases h2
/-! what is read: a fault and its place, or so -/
abbrev zEr (α : Type) : Type := (Nat × Nat) ⊕ α
def zBd {α β : Type} (x : zEr α) (f : α → zEr β) : zEr β := match x with
  | .inl e => .inl e
  | .inr a => f a
/-- the words that name nothing -/
def zRsv : List (List Int32) := [gByt "barrier", gByt "means", gByt "traveller", gByt "gate", gByt "good", gByt "hides", gByt "crosses", gByt "price", gByt "crumb", gByt "fresh", gByt "by"]
abbrev zNm : Type := Nat → Nat → List Int32
def zFi (Nm : zNm) (w : List Int32) (s : Nat) : Nat → Option Nat
  | 0 => none
  | k + 1 => match zFi Nm w s k with
    | some i => some i
    | none => if Nm s k = w then some k else none
def zFind (B : gBar) (Nm : zNm) (w : List Int32) : Option (Nat × Nat) := match zFi Nm w 0 (B 0 0) with
  | some k => some (0, k)
  | none => match zFi Nm w 1 (B 0 1) with
    | some k => some (1, k)
    | none => match zFi Nm w 2 (B 0 2) with
      | some k => some (2, k)
      | none => match zFi Nm w 3 (B 0 3) with
        | some k => some (3, k)
        | none => none
def bs (B : gBar) (a b v : Nat) : gBar := fun x y => if x = a ∧ y = b then v else B x y
def ns (Nm : zNm) (s k : Nat) (w : List Int32) : zNm := fun x y => if x = s ∧ y = k then w else Nm x y
section
variable (T : Nat → Int32) (n : Nat)
def zMu (w : List Int32) (t : zTk) : zEr zTk := if t.2.1 = 2 ∧ t.2.2.2.2 = w then .inr (zTn T n t.1) else .inl (1, t.2.2.1)
def zNu (lo hi : Nat) (t : zTk) : zEr (Nat × zTk) := if t.2.1 = 3 then (if lo ≤ t.2.2.2.1 ∧ t.2.2.2.1 ≤ hi then .inr (t.2.2.2.1, zTn T n t.1) else .inl (4, t.2.2.1)) else .inl (1, t.2.2.1)
def zAf (w : List Int32) (lo hi : Nat) (t : zTk) : zEr (Nat × zTk) := zBd (zMu T n w t) (zNu T n lo hi)
def zMn (t : zTk) : zEr Unit := if t.2.1 = 2 ∧ t.2.2.2.2 ∉ zRsv then .inr () else .inl (1, t.2.2.1)
def zNw (B : gBar) (Nm : zNm) (t : zTk) : zEr (List Int32 × zTk) := zBd (zMn t) (fun _ => match zFind B Nm t.2.2.2.2 with
  | none => .inr (t.2.2.2.2, zTn T n t.1)
  | some _ => .inl (3, t.2.2.1))
def zKn (B : gBar) (Nm : zNm) (t : zTk) : zEr (Nat × Nat) := zBd (zMn t) (fun _ => match zFind B Nm t.2.2.2.2 with
  | none => .inl (2, t.2.2.1)
  | some q => .inr q)
def zKs (s : Nat) (B : gBar) (Nm : zNm) (t : zTk) : zEr Nat := zBd (zKn B Nm t) (fun q => if q.1 = s then .inr q.2 else .inl (2, t.2.2.1))
def zKx (s : Nat) (B : gBar) (Nm : zNm) (t : zTk) : zEr (Nat × zTk) := zBd (zKs s B Nm t) (fun k => .inr (k, zTn T n t.1))
def zBg (B : gBar) (can : Bool) (t : zTk) : zEr zTk := if can then (if B 0 9 = 1 then .inr (zTn T n t.1) else .inl (6, t.2.2.1)) else .inl (5, t.2.2.1)
abbrev zPs : Type := zTk × gBar × zNm
def zLB (P : zPs) : zEr zPs := if P.2.1 0 9 = 1 then .inl (3, P.1.2.2.1) else
  zBd (zAf T n (gByt "fee") 0 9 (zTn T n P.1.1)) fun a => zBd (zAf T n (gByt "interest") 0 50 a.2) fun b => .inr (b.2, bs (bs (bs P.2.1 0 7 a.1) 0 8 b.1) 0 9 1, P.2.2)
def zLM (P : zPs) : zEr zPs := zBd (zBg T n P.2.1 (decide (P.2.1 0 0 < 4)) P.1) fun t => zBd (zNw T n P.2.1 P.2.2 t) fun w => zBd (zAf T n (gByt "rate") 0 9 w.2) fun a => zBd (zAf T n (gByt "or") 0 9 a.2) fun b => zBd (zAf T n (gByt "keeps") 1 300 b.2) fun c =>
  .inr (c.2, bs (bs (bs (bs P.2.1 1 (P.2.1 0 0) a.1) 2 (P.2.1 0 0) b.1) 3 (P.2.1 0 0) c.1) 0 0 (P.2.1 0 0 + 1), ns P.2.2 0 (P.2.1 0 0) w.1)
def zLT (P : zPs) : zEr zPs := zBd (zBg T n P.2.1 (decide (P.2.1 0 1 < 4)) P.1) fun t => zBd (zNw T n P.2.1 P.2.2 t) fun w => zBd (zAf T n (gByt "allow") 0 99 w.2) fun a => zBd (zAf T n (gByt "hunger") 0 3 a.2) fun b =>
  .inr (b.2, bs (bs (bs P.2.1 7 (P.2.1 0 1) a.1) 8 (P.2.1 0 1) b.1) 0 1 (P.2.1 0 1 + 1), ns P.2.2 1 (P.2.1 0 1) w.1)
def zLG (P : zPs) : zEr zPs := zBd (zBg T n P.2.1 (decide (P.2.1 0 2 < 3)) P.1) fun t => zBd (zNw T n P.2.1 P.2.2 t) fun w => zBd (zAf T n (gByt "nose") 1 99 w.2) fun a => zBd (zAf T n (gByt "opens") 0 23 a.2) fun b => zBd (zAf T n (gByt "shuts") b.1 23 b.2) fun c =>
  .inr (c.2, bs (bs (bs (bs P.2.1 9 (P.2.1 0 2) a.1) 10 (P.2.1 0 2) b.1) 11 (P.2.1 0 2) c.1) 0 2 (P.2.1 0 2 + 1), ns P.2.2 2 (P.2.1 0 2) w.1)
/-- the kind of a good: 0 fresh .. 4 oath; the word is gone over -/
def zKd (t : zTk) : zEr (Nat × zTk) := if t.2.1 = 2 ∧ t.2.2.2.2 = gByt "fresh" then .inr (0, zTn T n t.1) else if t.2.1 = 2 ∧ t.2.2.2.2 = gByt "plain" then .inr (1, zTn T n t.1) else if t.2.1 = 2 ∧ t.2.2.2.2 = gByt "wine" then .inr (2, zTn T n t.1) else if t.2.1 = 2 ∧ t.2.2.2.2 = gByt "old" then .inr (3, zTn T n t.1) else zBd (zMu T n (gByt "oath") t) fun u => .inr (4, u)
/-- whose a good is, by what it is kept -/
def zOb (B : gBar) (Nm : zNm) (kd : Nat) (t : zTk) : zEr (Nat × Nat × zTk) := zBd (zKx T n 1 B Nm t) fun o => if kd = 0 then .inr (o.1, 0, o.2) else zBd (zMu T n (gByt "by") o.2) fun u => zBd (zKx T n 0 B Nm u) fun m => .inr (o.1, m.1, m.2)
def zLO (P : zPs) : zEr zPs := zBd (zBg T n P.2.1 (decide (P.2.1 0 3 < 8)) P.1) fun t => zBd (zNw T n P.2.1 P.2.2 t) fun w => zBd (zKd T n w.2) fun kd => zBd (zOb T n P.2.1 P.2.2 kd.1 kd.2) fun o => zBd (zAf T n (gByt "age") 0 300 o.2.2) fun a => zBd (zAf T n (gByt "weighs") 1 9 a.2) fun b => zBd (zAf T n (gByt "worth") 0 99 b.2) fun c =>
  .inr (c.2, bs (bs (bs (bs (bs (bs (bs P.2.1 12 (P.2.1 0 3) kd.1) 14 (P.2.1 0 3) o.1) 13 (P.2.1 0 3) o.2.1) 15 (P.2.1 0 3) a.1) 16 (P.2.1 0 3) b.1) 17 (P.2.1 0 3) c.1) 0 3 (P.2.1 0 3 + 1), ns P.2.2 3 (P.2.1 0 3) w.1)
def zLH (P : zPs) : zEr zPs := zBd (zBg T n P.2.1 true P.1) fun t => zBd (zKs 3 P.2.1 P.2.2 t) fun j => if P.2.1 18 j = 1 then .inl (3, t.2.2.1) else .inr (zTn T n t.1, bs P.2.1 18 j 1, P.2.2)
def zLC (P : zPs) : zEr zPs := zBd (zBg T n P.2.1 (decide (P.2.1 0 4 < 6)) P.1) fun t => zBd (zKx T n 1 P.2.1 P.2.2 t) fun o => zBd (zKx T n 2 P.2.1 P.2.2 o.2) fun k => zBd (zAf T n (gByt "day") (if P.2.1 0 4 = 0 then 0 else P.2.1 21 (P.2.1 0 4 - 1)) 60 k.2) fun a => zBd (zAf T n (gByt "hour") 0 23 a.2) fun b =>
  .inr (b.2, bs (bs (bs (bs (bs P.2.1 19 (P.2.1 0 4) o.1) 20 (P.2.1 0 4) k.1) 21 (P.2.1 0 4) a.1) 22 (P.2.1 0 4) b.1) 0 4 (P.2.1 0 4 + 1), P.2.2)
def zLP (P : zPs) : zEr zPs := zBd (zBg T n P.2.1 true P.1) fun t => zBd (zKs 0 P.2.1 P.2.2 t) fun i => if P.2.1 6 i = 1 then .inl (3, t.2.2.1) else zBd (zAf T n (gByt "here") 0 99 (zTn T n t.1)) fun a => zBd (zAf T n (gByt "there") 0 99 a.2) fun b =>
  .inr (b.2, bs (bs (bs (bs P.2.1 4 i a.1) 5 i b.1) 6 i 1) 0 5 (P.2.1 0 5 + 1), P.2.2)
def zLK (P : zPs) : zEr zPs := zBd (zBg T n P.2.1 (decide (P.2.1 0 6 < 5)) P.1) fun t => zBd (zKx T n 0 P.2.1 P.2.2 t) fun i => zBd (zAf T n (gByt "day") 0 60 i.2) fun a =>
  .inr (a.2, bs (bs (bs P.2.1 24 (P.2.1 0 6) a.1) 23 (P.2.1 0 6) i.1) 0 6 (P.2.1 0 6 + 1), P.2.2)
def zLn (P : zPs) : zEr zPs := if P.1.2.1 = 2 then
    (if P.1.2.2.2.2 = gByt "barrier" then zLB T n P else if P.1.2.2.2.2 = gByt "means" then zLM T n P else if P.1.2.2.2.2 = gByt "traveller" then zLT T n P else if P.1.2.2.2.2 = gByt "gate" then zLG T n P else if P.1.2.2.2.2 = gByt "good" then zLO T n P else if P.1.2.2.2.2 = gByt "hides" then zLH T n P else if P.1.2.2.2.2 = gByt "crosses" then zLC T n P else if P.1.2.2.2.2 = gByt "price" then zLP T n P else if P.1.2.2.2.2 = gByt "crumb" then zLK T n P else .inl (1, P.1.2.2.1))
  else .inl (1, P.1.2.2.1)
def zLs : Nat → zPs → zEr zPs
  | 0, P => .inr P
  | f + 1, P => if P.1.2.1 = 59 then zBd (zLn T n (zTn T n P.1.1, P.2)) (zLs f) else .inr P
/-- a barrier as it is told -/
def zRead : zEr (gBar × zNm) := zBd (zLn T n (zTn T n 0, zB0, fun _ _ => [])) fun P => zBd (zLs T n (n + 1) P) fun P => if P.1.2.1 = 0 then (if P.2.1 0 9 = 1 ∧ P.2.1 0 1 ≠ 0 ∧ P.2.1 0 2 ≠ 0 then .inr P.2 else .inl (6, P.1.2.2.1)) else .inl (1, P.1.2.2.1)
end
theorem cfi : ∀ m, m ≤ 9 → ¬ ((9 : Int32) ||| 0) ||| nI m < 0 := by decide +kernel
theorem wo_q {w : List Int32} (h : zWo w) {i : Nat} (hi : i < w.length) : ∃ q, w.getD i 0 = nI q ∧ 97 ≤ q ∧ q ≤ 122 := by
  obtain ⟨q, h1, h2, -⟩ := zIn_nI (a := 97) (m := 122) (by decide) (by decide) (h.2.2 i hi)
  exact ⟨q, h1, h2.1, h2.2⟩
theorem wo_255 {w : List Int32} (h : zWo w) {i : Nat} (hi : i < w.length) : w.getD i 0 ≤ 255 := by
  obtain ⟨q, e, h1, h2⟩ := wo_q h hi
  rw [e]
  exact nI_le (b := 255) (by omega) (by decide)
theorem byt_q : ∀ q, q < 128 → vp_nar .byte (nI q).toInt8.toInt32 = nI q := by decide +kernel
theorem updB {w : List Int32} {f : Nat → Int32} {i : Nat} (h : zWo w) (hi : i < w.length) (hf : ∀ i2, i2 < i → f i2 = w.getD i2 0) : ∀ i2, i2 < i + 1 → upd f i (vp_nar .byte (w.getD i 0).toInt8.toInt32) i2 = w.getD i2 0 := by
  intro i2 h2
  unfold upd
  split
  · rename_i h9
    obtain ⟨q, e, h3, h4⟩ := wo_q h hi
    rw [h9, e, byt_q q (by omega)]
  · exact hf i2 (by omega)
