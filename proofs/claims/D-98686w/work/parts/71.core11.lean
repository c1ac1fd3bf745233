/-! THE JUDGEMENT, eleventh: goods of any kind, under instanceof and casts; one of many, or none -/
set_option maxRecDepth 100000
section GM
variable {z : gZ} {l : Launch} {cc : ByteArray} {nL : Nat} {own : String} {ret : Option FieldType} {fr mc ms lc : Nat} {g : gWM} {kc ks pc q : Nat} {lo : List (Option Value)} {st : List Value}
theorem g_instGY (E : gEv z l cc nL own ret fr mc ms lc) {idx k kd : Nat} {F : Nat → Value} (d : decode cc pc = .ok (.instanceof idx, 3)) (hk : g k = some (.inr (15 + kd, F))) (hkd : kd ≤ 4) (w1 : Cond.classLink own idx "SaltedGate$Good" ∈ lw_all) (hq : pc + 3 = q) (kk : gV z g kc ks q lo (.int 1 :: st)) : gV z g kc ks pc lo (.ref k :: st) := by
  match kd, hkd, hk with
  | 0, _, hk => exact g_instY (n9 := 0) E gciX20 d hk w1 (.inr q2555) hq kk
  | 1, _, hk => exact g_instY (n9 := 0) E gciX22 d hk w1 (.inr q2558) hq kk
  | 2, _, hk => exact g_instY (n9 := 0) E gciX23 d hk w1 (.inr q2559) hq kk
  | 3, _, hk => exact g_instY (n9 := 0) E gciX24 d hk w1 (.inr q2557) hq kk
  | 4, _, hk => exact g_instY (n9 := 0) E gciX25 d hk w1 (.inr q2556) hq kk
theorem g_castG (E : gEv z l cc nL own ret fr mc ms lc) {idx k kd : Nat} {F : Nat → Value} (d : decode cc pc = .ok (.checkcast idx, 3)) (hk : g k = some (.inr (15 + kd, F))) (hkd : kd ≤ 4) (w1 : Cond.classLink own idx "SaltedGate$Good" ∈ lw_all) (hq : pc + 3 = q) (kk : gV z g kc ks q lo (.ref k :: st)) : gV z g kc ks pc lo (.ref k :: st) := by
  match kd, hkd, hk with
  | 0, _, hk => exact g_cast1 (n9 := 0) E gciX20 d hk w1 (.inr q2555) hq kk
  | 1, _, hk => exact g_cast1 (n9 := 0) E gciX22 d hk w1 (.inr q2558) hq kk
  | 2, _, hk => exact g_cast1 (n9 := 0) E gciX23 d hk w1 (.inr q2559) hq kk
  | 3, _, hk => exact g_cast1 (n9 := 0) E gciX24 d hk w1 (.inr q2557) hq kk
  | 4, _, hk => exact g_cast1 (n9 := 0) E gciX25 d hk w1 (.inr q2556) hq kk
theorem g_instGN (E : gEv z l cc nL own ret fr mc ms lc) {idx k kd : Nat} {nm : String} {F : Nat → Value} (d : decode cc pc = .ok (.instanceof idx, 3)) (hk : g k = some (.inr (15 + kd, F))) (hkd : kd ≤ 4) (w1 : Cond.classLink own idx nm ∈ lw_all) (h0 : ("SaltedGate$Fresh", nm) ∈ gNo) (h1 : ("SaltedGate$Plain", nm) ∈ gNo) (h2 : ("SaltedGate$Wine", nm) ∈ gNo) (h3 : ("SaltedGate$Old", nm) ∈ gNo) (h4 : ("SaltedGate$Oath", nm) ∈ gNo) (hq : pc + 3 = q) (kk : gV z g kc ks q lo (.int 0 :: st)) : gV z g kc ks pc lo (.ref k :: st) := by
  match kd, hkd, hk with
  | 0, _, hk => exact g_instNo (n9 := 0) E gciX20 d hk w1 h0 hq kk
  | 1, _, hk => exact g_instNo (n9 := 0) E gciX22 d hk w1 h1 hq kk
  | 2, _, hk => exact g_instNo (n9 := 0) E gciX23 d hk w1 h2 hq kk
  | 3, _, hk => exact g_instNo (n9 := 0) E gciX24 d hk w1 h3 hq kk
  | 4, _, hk => exact g_instNo (n9 := 0) E gciX25 d hk w1 h4 hq kk
/-- one, or null -/
def gAm (o : Option Nat) (g : gWM) : Option Value → gWM → Prop := fun v g1 => v = (match o with
  | some k => some (.ref k)
  | none => some .null) ∧ g1 = g
theorem gAm.k {o : Option Nat} (k1 : ∀ k, o = some k → gV z g kc ks q lo (.ref k :: st)) (k0 : o = none → gV z g kc ks q lo (.null :: st)) : ∀ v g1, gAm o g v g1 → gV z g1 kc ks q lo (v.toList ++ st) := by
  rintro v g1 ⟨h1, h2⟩
  subst h2
  cases o with
  | none => subst h1; exact k0 rfl
  | some k => subst h1; exact k1 k rfl
/-- it is so, and the world is another; or not, and it is as it was -/
def gTk (C : Prop) (P : gWM → Prop) (g : gWM) : Option Value → gWM → Prop := fun v g1 => (C ∧ v = some (.int 1) ∧ P g1) ∨ (¬ C ∧ v = some (.int 0) ∧ g1 = g)
theorem gTk.k {C : Prop} {P : gWM → Prop} (k1 : ∀ g1, C → P g1 → gV z g1 kc ks q lo (.int 1 :: st)) (k0 : ¬ C → gV z g kc ks q lo (.int 0 :: st)) : ∀ v g1, gTk C P g v g1 → gV z g1 kc ks q lo (v.toList ++ st) := by
  rintro v g1 (⟨h1, rfl, h2⟩ | ⟨h1, rfl, rfl⟩)
  · exact k1 g1 h1 h2
  · exact k0 h1
end GM
