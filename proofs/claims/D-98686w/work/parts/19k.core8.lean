/-! THE JUDGEMENT, eighth: a contract of a constructor -/
set_option maxRecDepth 100000
theorem gCt.ofI {l : Launch} {y : MethodName} {cc : ByteArray} {nL : Nat} {ret : Option FieldType} {fr mc ms lc : Nat} {av : List Value} {g : gWM} {Qr : Option Value → gWM → Prop} (own : String) (hy : plainName y.cls = true) (hown : y.cls = own) {lo : List (Option Value)} (n : Nat) (hlo : lo = glo av ++ List.replicate n none) (hn : (av.map (fun v => v.category)).sum ≤ nL)
    (hin : y.name = "<init>") (k : ∀ z : gZ, gEv z l cc nL own ret fr mc ms lc → gRt z mc ms g Qr → gIn z → gV z g 0 0 0 lo []) : gCt l y cc nL ret fr mc ms lc av g Qr := by
  intro D dA xad ad sz
  refine Met.ofW (cc := cc) (maxL := nL) (ret := ret) hy rfl ?_
  intro p e s m args below meth c s₁ B hml hv
  obtain ⟨rfl, hsz, hav, hO, had, hF⟩ := hv
  subst hsz
  have hts := atoms_spec (ws := ws_ y cc nL ret) B.pre
  have hts : ∀ w ∈ lw_all, w.before _ s = true := fun w h => hts w (List.mem_cons_of_mem _ h)
  have hown2 : s.vm.findClass own = some m.cls := by rw [← hown]; exact findClass_of_methodNamed B.named
  have hz := k (p, l, e, _, s, m, _, below, meth, c, MQ below (gQc D dA xad ad g s.heap.size Qr) ((av.map (gmv ad)).toArray) s mc ms (gAs ad g s.heap.size), D, dA, xad, ad, g)
    ⟨rfl, B.exec, B.bytes, hml, hown2, hts, hF, B.returns, B.notSynchronized, rfl⟩ ⟨rfl, rfl⟩ (show meth.name = "<init>" from (name_of_methodNamed B.named B.method).1.trans hin)
  have hlen : (lg_sl (av.map (gmv ad))).length ≤ nL := by
    have : ∀ vs : List Value, (lg_sl (vs.map (gmv ad))).length = (vs.map (fun v => v.category)).sum := by
      intro vs
      induction vs with
      | nil => rfl
      | cons v t ih =>
        have e1 : lg_sl ((v :: t).map (gmv ad)) = (if (gmv ad v).category = 2 then [Slot.val (gmv ad v), .second] else [.val (gmv ad v)]) ++ lg_sl (t.map (gmv ad)) := by simp [lg_sl]
        rw [e1, List.length_append, ih, gmv_cat]
        cases v <;> rfl
    rw [this]
    exact hn
  have hl := lv_entry (av.map (gmv ad)) (n := nL) hlen
  rw [lg_entry_eq]
  refine hz trivial (glo_closed hav hlo) ad s.heap [] _ ⟨hO, va_S.rf, had, fun k hk => ⟨hk, rfl⟩⟩ ?_
  rw [hml]
  refine gLH.of hl fun i v hv => ?_
  have := glo_args ad av 0 i v (glo_sub hlo hv)
  rwa [Nat.zero_add] at this
section GY
variable {z : gZ} {l : Launch} {cc : ByteArray} {nL : Nat} {own : String} {ret : Option FieldType} {fr mc ms lc : Nat} {g : gWM} {kc ks pc q : Nat} {lo : List (Option Value)} {st : List Value}
/-- a static that holds 1 -/
theorem g_getsI (E : gEv z l cc nL own ret fr mc ms lc) {idx : Nat} {C n d9 : String} (h9 : (C = "java/lang/String" ∧ n = "COMPACT_STRINGS" ∧ d9 = "Z") ∨ (C = "java/lang/StringUTF16" ∧ n = "$assertionsDisabled" ∧ d9 = "Z")) (d : decode cc pc = .ok (.getstatic idx, 3)) (hlink : Cond.fieldLink own idx C n d9 ∈ lw_all) (hq : pc + 3 = q) (kk : gV z g kc ks q lo (.int 1 :: st)) : gV z g kc ks pc lo st := by
  obtain ⟨p, l', e, R, s, m, args, below, meth, c, Q, D, dA, xad, ad0, g0⟩ := z
  obtain ⟨rfl, hx, hb, hml, hown, hts, hF, hr, hlk, rfl⟩ := E
  subst hq
  intro hst hlo ad H locs ls hW hl
  have hS := hF.2.2.2.2.2
  rcases h9 with ⟨rfl, rfl, rfl⟩ | ⟨rfl, rfl, rfl⟩
  · exact va_gets hx hb hS.1 hW.2.1 hown (hts _ hlink) (fun x h => h) d (kk ⟨trivial, hst⟩ hlo ad H locs ls hW hl)
  · exact va_gets hx hb hS.2.1 hW.2.1 hown (hts _ hlink) (fun x h => h) d (kk ⟨trivial, hst⟩ hlo ad H locs ls hW hl)
/-- a static that holds null or a thing outside -/
theorem g_getsR (E : gEv z l cc nL own ret fr mc ms lc) {idx k : Nat} {C n d9 : String} (h9 : (C = "java/lang/Throwable" ∧ n = "UNASSIGNED_STACK" ∧ d9 = "[Ljava/lang/StackTraceElement;" ∧ k = 900) ∨ (C = "java/lang/Throwable" ∧ n = "SUPPRESSED_SENTINEL" ∧ d9 = "Ljava/util/List;" ∧ k = 901) ∨ (C = "jdk/internal/util/Preconditions" ∧ n = "SIOOBE_FORMATTER" ∧ d9 = "Ljava/util/function/BiFunction;" ∧ k = 902)) (d : decode cc pc = .ok (.getstatic idx, 3)) (hlink : Cond.fieldLink own idx C n d9 ∈ lw_all) (hq : pc + 3 = q) (kk : ∀ v : Value, v = .null ∨ v = .ref k → gV z g kc ks q lo (v :: st)) : gV z g kc ks pc lo st := by
  obtain ⟨p, l', e, R, s, m, args, below, meth, c, Q, D, dA, xad, ad0, g0⟩ := z
  obtain ⟨rfl, hx, hb, hml, hown, hts, hF, hr, hlk, rfl⟩ := E
  subst hq
  intro hst hlo ad H locs ls hW hl
  have hS := hF.2.2.2.2.2
  have hk : k < 1000 := by rcases h9 with ⟨-, -, -, rfl⟩ | ⟨-, -, -, rfl⟩ | ⟨-, -, -, rfl⟩ <;> decide
  have hZ : gZr C n d9 (xad k) (gAs ad0 g0 s.heap.size) s s.heap := by
    rcases h9 with ⟨rfl, rfl, rfl, rfl⟩ | ⟨rfl, rfl, rfl, rfl⟩ | ⟨rfl, rfl, rfl, rfl⟩
    · exact hS.2.2.1
    · exact hS.2.2.2.1
    · exact hS.2.2.2.2
  rcases hZ with hZ | hZ
  · exact va_gets hx hb hZ hW.2.1 hown (hts _ hlink) (fun x h => h) d (kk .null (.inl rfl) ⟨trivial, hst⟩ hlo ad H locs ls hW hl)
  · have h1 := kk (.ref k) (.inr rfl) ⟨.inl hk, hst⟩ hlo ad H locs ls hW hl
    have h2 : ad k = xad k := hW.2.2.1 k hk
    refine va_gets hx hb hZ hW.2.1 hown (hts _ hlink) (fun x h => h) d ?_
    rw [← h2]
    exact h1
end GY
