/-! THE CORE, sixth: helpers for walks -/
set_option maxRecDepth 100000
section GS
variable {z : gZ} {l : Launch} {cc : ByteArray} {nL : Nat} {own : String} {ret : Option FieldType} {fr mc ms lc : Nat} {g : gWM} {kc ks pc q : Nat} {lo : List (Option Value)} {st : List Value}
/-- a cell was written or made: the world behind it is a new one, known by this cell and by all the others -/
theorem g_upk {k : Nat} {e : gE} (h : ∀ g1 : gWM, g1 k = some e → (∀ j, j ≠ k → g1 j = g j) → gV z g1 kc ks pc lo st) : gV z (gup g k e) kc ks pc lo st := h _ gup_s (fun _ hj => gup_n hj)
theorem g_as {x y : Int32} (h : x = y) (k : gV z g kc ks pc lo (.int y :: st)) : gV z g kc ks pc lo (.int x :: st) := h ▸ k
theorem g_lo {lo1 : List (Option Value)} (h : lo = lo1) (k : gV z g kc ks pc lo1 st) : gV z g kc ks pc lo st := h ▸ k
theorem g_asl {x y : Int64} (h : x = y) (k : gV z g kc ks pc lo (.long y :: st)) : gV z g kc ks pc lo (.long x :: st) := h ▸ k
/-- fewer places told, by places -/
def gles : List (Option Value) → List (Option Value) → Prop
  | [], _ => True
  | none :: t, _ :: t1 => gles t t1
  | none :: t, [] => gles t []
  | some v :: t, w :: t1 => w = some v ∧ gles t t1
  | some _ :: _, [] => False
theorem gles.of : ∀ {lo1 lo : List (Option Value)}, gles lo1 lo → ∀ (i : Nat) (v : Value), lo1[i]? = some (some v) → lo[i]? = some (some v)
  | [], _, _, i, v, h => by cases i <;> cases h
  | none :: t, w :: t1, hl, i, v, h => by
    cases i with
    | zero => cases h
    | succ i => exact gles.of (lo1 := t) (lo := t1) hl i v (by simpa using h)
  | none :: t, [], hl, i, v, h => by
    cases i with
    | zero => cases h
    | succ i =>
      have h1 := gles.of (lo1 := t) (lo := []) hl i v (by simpa using h)
      cases i <;> cases h1
  | some u :: t, w :: t1, hl, i, v, h => by
    cases i with
    | zero =>
      cases h
      rw [hl.1]
      rfl
    | succ i => exact gles.of (lo1 := t) (lo := t1) hl.2 i v (by simpa using h)
theorem g_les {lo1 : List (Option Value)} (h : gles lo1 lo) (k : gV z g kc ks pc lo1 st) : gV z g kc ks pc lo st := g_less (gles.of h) k
/-- a field of a good, whose kind is kd -/
theorem g_getG (E : gEv z l cc nL own ret fr mc ms lc) {k idx kd : Nat} {nm ds ref ow : String} {fin : Bool} {F : Nat → Value} (d : decode cc pc = .ok (.getfield idx, 3)) (hk : g k = some (.inr (15 + kd, F))) (hkd : kd ≤ 4) (fi : Nat) (hfi : fi < 7) (t0 : TX20 fi = (ow, nm, ds, fin)) (t1 : TX22 fi = (ow, nm, ds, fin)) (t2 : TX23 fi = (ow, nm, ds, fin)) (t3 : TX24 fi = (ow, nm, ds, fin)) (t4 : TX25 fi = (ow, nm, ds, fin)) (hlink : Cond.fieldLink own idx ref nm ds ∈ lw_all) (hsame : ref = ow ∨ Cond.sameField ref ow nm ds ∈ lw_all) (v : Value) (hv : F fi = v) (hq : pc + 3 = q) (kk : gV z g kc ks q lo (v :: st)) : gV z g kc ks pc lo (.ref k :: st) := by
  match kd, hkd, hk with
  | 0, _, hk => exact g_getf E gciX20 (ref := ref) d hk fi rfl hfi (by rw [t0]; exact hlink) (by rw [t0]; exact hsame) v hv hq kk
  | 1, _, hk => exact g_getf E gciX22 (ref := ref) d hk fi rfl (by omega) (by rw [t1]; exact hlink) (by rw [t1]; exact hsame) v hv hq kk
  | 2, _, hk => exact g_getf E gciX23 (ref := ref) d hk fi rfl (by omega) (by rw [t2]; exact hlink) (by rw [t2]; exact hsame) v hv hq kk
  | 3, _, hk => exact g_getf E gciX24 (ref := ref) d hk fi rfl (by omega) (by rw [t3]; exact hlink) (by rw [t3]; exact hsame) v hv hq kk
  | 4, _, hk => exact g_getf E gciX25 (ref := ref) d hk fi rfl (by omega) (by rw [t4]; exact hlink) (by rw [t4]; exact hsame) v hv hq kk
/-- .. of a kept one -/
theorem g_getK (E : gEv z l cc nL own ret fr mc ms lc) {k idx kd : Nat} {nm ds ref ow : String} {fin : Bool} {F : Nat → Value} (d : decode cc pc = .ok (.getfield idx, 3)) (hk : g k = some (.inr (15 + kd, F))) (hkd : kd ≤ 4) (hk0 : kd ≠ 0) (fi : Nat) (hfi : fi < 8) (t1 : TX22 fi = (ow, nm, ds, fin)) (t2 : TX23 fi = (ow, nm, ds, fin)) (t3 : TX24 fi = (ow, nm, ds, fin)) (t4 : TX25 fi = (ow, nm, ds, fin)) (hlink : Cond.fieldLink own idx ref nm ds ∈ lw_all) (hsame : ref = ow ∨ Cond.sameField ref ow nm ds ∈ lw_all) (v : Value) (hv : F fi = v) (hq : pc + 3 = q) (kk : gV z g kc ks q lo (v :: st)) : gV z g kc ks pc lo (.ref k :: st) := by
  match kd, hkd, hk0, hk with
  | 0, _, h, hk => exact absurd rfl h
  | 1, _, _, hk => exact g_getf E gciX22 (ref := ref) d hk fi rfl (by omega) (by rw [t1]; exact hlink) (by rw [t1]; exact hsame) v hv hq kk
  | 2, _, _, hk => exact g_getf E gciX23 (ref := ref) d hk fi rfl (by omega) (by rw [t2]; exact hlink) (by rw [t2]; exact hsame) v hv hq kk
  | 3, _, _, hk => exact g_getf E gciX24 (ref := ref) d hk fi rfl (by omega) (by rw [t3]; exact hlink) (by rw [t3]; exact hsame) v hv hq kk
  | 4, _, _, hk => exact g_getf E gciX25 (ref := ref) d hk fi rfl (by omega) (by rw [t4]; exact hlink) (by rw [t4]; exact hsame) v hv hq kk
/-- answers that leave the world as it is -/
def gPu (w : Value) (g : gWM) : Option Value → gWM → Prop := fun v g1 => v = some w ∧ g1 = g
def gPv (g : gWM) : Option Value → gWM → Prop := fun v g1 => v = none ∧ g1 = g
theorem gPu.k {w : Value} (k : gV z g kc ks q lo (w :: st)) : ∀ v g1, gPu w g v g1 → gV z g1 kc ks q lo (v.toList ++ st) := by
  intro v g1 h
  obtain ⟨h1, h2⟩ := h
  subst h1
  rw [h2]
  exact k
theorem gPv.k (k : gV z g kc ks q lo st) : ∀ v g1, gPv g v g1 → gV z g1 kc ks q lo (v.toList ++ st) := by
  intro v g1 h
  obtain ⟨h1, h2⟩ := h
  subst h1
  rw [h2]
  exact k
/-- an int answer and a changed world -/
def gPi (w : Int32) (P : gWM → Prop) : Option Value → gWM → Prop := fun v g1 => v = some (.int w) ∧ P g1
theorem gPi.k {w : Int32} {P : gWM → Prop} (k : ∀ g1, P g1 → gV z g1 kc ks q lo (.int w :: st)) : ∀ v g1, gPi w P v g1 → gV z g1 kc ks q lo (v.toList ++ st) := by
  intro v g1 h
  obtain ⟨h1, h2⟩ := h
  subst h1
  exact k g1 h2
def gPn (P : gWM → Prop) : Option Value → gWM → Prop := fun v g1 => v = none ∧ P g1
theorem gPn.k {P : gWM → Prop} (k : ∀ g1, P g1 → gV z g1 kc ks q lo st) : ∀ v g1, gPn P v g1 → gV z g1 kc ks q lo (v.toList ++ st) := by
  intro v g1 h
  obtain ⟨h1, h2⟩ := h
  subst h1
  exact k g1 h2
end GS
/-- a truth as an int -/
def zb (b : Bool) : Int32 := if b then 1 else 0
theorem zb_t : zb true = 1 := rfl
theorem zb_f : zb false = 0 := rfl
theorem zb_0 {b : Bool} : zb b = 0 ↔ b = false := by cases b <;> simp [zb]
theorem zb_n0 {b : Bool} : ¬ zb b = 0 ↔ b = true := by cases b <;> simp [zb]
theorem zb_nar {b : Bool} : narrow .boolean (.int (zb b)) = .int (zb b) := by cases b <;> rfl
theorem zb_fit {b : Bool} : fits .boolean (.int (zb b)) = true := by cases b <;> rfl
theorem nI_c (n : Nat) : (nI n) + Int32.ofInt 1 = nI (n + 1) := (nI_succ n).symm
theorem nar01 {b : Int32} (h : b = 0 ∨ b = 1) : narrow .boolean (.int b) = .int b := by rcases h with rfl | rfl <;> rfl
/-- sums and sets over the first places -/
def sumTo (f : Nat → Int32) : Nat → Int32
  | 0 => 0
  | n + 1 => sumTo f n + f n
def orTo (p : Nat → Bool) : Nat → Int32
  | 0 => 0
  | n + 1 => orTo p n ||| (if p n then (1 : Int32) <<< (nI n &&& 31) else 0)
theorem orTo_t {p : Nat → Bool} {k : Nat} (h : p k = true) : orTo p k ||| ((1 : Int32) <<< (nI k &&& 31)) = orTo p (k + 1) := by
  show _ = orTo p k ||| (if p k then _ else _)
  rw [if_pos h]
theorem orTo_f {p : Nat → Bool} {k : Nat} (h : p k = false) : orTo p k ||| 0 = orTo p (k + 1) := by
  show _ = orTo p k ||| (if p k then _ else _)
  rw [if_neg (by rw [h]; exact Bool.false_ne_true)]
theorem sumTo_s {f : Nat → Int32} {k : Nat} {x : Int32} (h : f k = x) : sumTo f k + x = sumTo f (k + 1) := by rw [← h]; rfl
/-- an int is one of a, a + 1 .. or none of them -/
theorem g_cases (x : Int32) {a : Nat} {n : Nat} (h : a + n < 2 ^ 31) : (x.toInt < (a : Int) ∨ (a : Int) + n ≤ x.toInt) ∨ ∃ j, j < n ∧ x = nI (a + j) := by
  by_cases h1 : x.toInt < (a : Int)
  · exact .inl (.inl h1)
  · by_cases h2 : (a : Int) + n ≤ x.toInt
    · exact .inl (.inr h2)
    · refine .inr ⟨x.toInt.toNat - a, by omega, Int32.toInt_inj.mp ?_⟩
      rw [nI_toInt (by omega)]
      omega
