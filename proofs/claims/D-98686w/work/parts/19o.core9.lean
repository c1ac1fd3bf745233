/-! THE JUDGEMENT, ninth: methods that may throw the one object Refused (1003) -/
set_option maxRecDepth 100000
def gXc (D : va_G) (dA xad ad : Nat → Nat) (g : gWM) (sz : Nat) (Qx : gWM → Prop) : Addr → String → State → State → Prop := fun q E st t =>
  E = "SaltedGate$Refused" ∧ (∃ (g1 : gWM) (ad1 : Nat → Nat), q = ad1 1003 ∧ Qx g1 ∧ (∃ F, g1 1003 = some (.inr (2, F))) ∧ gOw D dA (gAs ad g sz) ad1 g1 t.heap ∧ (∀ k, k < 1000 → ad1 k = xad k) ∧ ∀ k, g k ≠ none → g1 k ≠ none ∧ ad1 k = ad k) ∧ va_F (gAs ad g sz) st t
/-- THE CONTRACT of a method that returns (Qr) or throws Refused (Qx: of the world then) -/
def gXt (l : Launch) (y : MethodName) (cc : ByteArray) (nL : Nat) (ret : Option FieldType) (fr mc ms lc : Nat) (av : List Value) (g : gWM) (Qr : Option Value → gWM → Prop) (Qx : gWM → Prop) : Prop :=
  ∀ (D : va_G) (dA xad ad : Nat → Nat) (sz : Nat), vy_Met l y (ws_ y cc nL ret) { frames := fr, cells := mc, slots := ms, locals := lc } (gPc D dA xad ad g sz av) (gQc D dA xad ad g sz Qr) (gXc D dA xad ad g sz Qx) mc ms (gAs ad g sz)
def gRx (z : gZ) (mc ms : Nat) (g : gWM) (Qr : Option Value → gWM → Prop) (Qx : gWM → Prop) : Prop := match z with
  | (_, _, _, _, s, _, args, below, _, c, Q, D, dA, xad, ad0, g0) => g0 = g ∧ Q = vy_MQ below (gQc D dA xad ad0 g0 s.heap.size Qr) (gXc D dA xad ad0 g0 s.heap.size Qx) args s mc ms (gAs ad0 g0 s.heap.size) ∧ ∀ x ∈ c.exceptionTable.toList, False
theorem gXt.of {l : Launch} {y : MethodName} {cc : ByteArray} {nL : Nat} {ret : Option FieldType} {fr mc ms lc : Nat} {av : List Value} {g : gWM} {Qr : Option Value → gWM → Prop} {Qx : gWM → Prop} (own : String) (hy : plainName y.cls = true) (hown : y.cls = own) {lo : List (Option Value)} (n : Nat) (hlo : lo = glo av ++ List.replicate n none) (hn : (av.map (fun v => v.category)).sum ≤ nL)
    (k : ∀ z : gZ, gEv z l cc nL own ret fr mc ms lc → gRx z mc ms g Qr Qx → gV z g 0 0 0 lo []) : gXt l y cc nL ret fr mc ms lc av g Qr Qx := by
  intro D dA xad ad sz
  refine vy_ofW (cc := cc) (maxL := nL) (ret := ret) hy rfl ?_
  intro p e s m args below meth c s₁ B hml hxt hv
  obtain ⟨rfl, hsz, hav, hO, had, hF⟩ := hv
  subst hsz
  have hts := atoms_spec (ws := ws_ y cc nL ret) B.pre
  have hts : ∀ w ∈ lw_all, w.before _ s = true := fun w h => hts w (List.mem_cons_of_mem _ h)
  have hown2 : s.vm.findClass own = some m.cls := by rw [← hown]; exact findClass_of_methodNamed B.named
  have hz := k (p, l, e, _, s, m, _, below, meth, c, vy_MQ below (gQc D dA xad ad g s.heap.size Qr) (gXc D dA xad ad g s.heap.size Qx) ((av.map (gmv ad)).toArray) s mc ms (gAs ad g s.heap.size), D, dA, xad, ad, g)
    ⟨rfl, B.exec, B.bytes, hml, hown2, hts, hF, B.returns, B.notSynchronized, rfl⟩ ⟨rfl, rfl, hxt⟩
  have hlen : (lg_sl (av.map (gmv ad))).length ≤ nL := by
    have : ∀ vs : List Value, (lg_sl (vs.map (gmv ad))).length = (vs.map (fun v => v.category)).sum := by
      intro vs
      induction vs with
      | nil => rfl
      | cons v t ih =>
        have e1 : lg_sl ((v :: t).map (gmv ad)) = (if (gmv ad v).category = 2 then [Slot.val (gmv ad v), .second] else [.val (gmv ad v)]) ++ lg_sl (t.map (gmv ad)) := by simp [lg_sl]
        rw [e1, List.length_append, ih, gmv_cat]
        cases v <;> rfl
    rw [this]
    exact hn
  have hl := lv_entry (av.map (gmv ad)) (n := nL) hlen
  rw [lg_entry_eq]
  refine hz trivial (glo_closed hav hlo) ad s.heap [] _ ⟨hO, va_S.rf, had, fun k hk => ⟨hk, rfl⟩⟩ ?_
  rw [hml]
  refine gLH.of hl fun i v hv => ?_
  have := glo_args ad av 0 i v (glo_sub hlo hv)
  rwa [Nat.zero_add] at this
section GZ
variable {p : Program} {l : Launch} {e : Env} {R : Room} {s : State} {m : MethodId} {args : Array Value} {below : List Frame} {meth : Method} {c : Code} {Q : State → Prop} {D : va_G} {dA xad ad0 ad : Nat → Nat} {g0 g : gWM} {H : Heap} {locs : List Loc}
/-- Refused is thrown, and leaves this method -/
theorem gLeave {Qr : Option Value → gWM → Prop} {Qx : gWM → Prop} {kc ks mc ms pc : Nat} {ls : Array Slot} {rest : List Value} {ad : Nat → Nat} {F : Nat → Value} (hF : gFx D dA xad (gAs ad0 g0 s.heap.size) s s.heap) (hlk : meth.locks = false) (hxt : ∀ x ∈ c.exceptionTable.toList, False) (hQ : Q = vy_MQ below (gQc D dA xad ad0 g0 s.heap.size Qr) (gXc D dA xad ad0 g0 s.heap.size Qx) args s mc ms (gAs ad0 g0 s.heap.size))
    (hW : gWd (p, l, e, R, s, m, args, below, meth, c, Q, D, dA, xad, ad0, g0) ad g H locs) (hk : g 1003 = some (.inr (2, F))) (h1 : kc ≤ mc) (h2 : ks ≤ ms) (hq : Qx g) : vy_W p l e R s m args below meth c H locs kc ks Q (F0 m pc ls rest) (ad 1003) := by
  subst hQ
  obtain ⟨hO, hS, hx1, hag⟩ := hW
  obtain ⟨ws, q0, hP, hat⟩ := hO.get hk
  obtain ⟨q', hq', cell, c1, c2, c3, -⟩ := hP q0 _ hat
  exact vy_out (fun x hx => (hxt x hx).elim) hlk c1 c3 (by rw [c2]; exact (hF.1.1 2 ("SaltedGate$Refused", TX3, 8) rfl).2.1) (fun t ht hA => ⟨rfl, ⟨g, ad, rfl, hq, ⟨F, hk⟩, by rw [ht]; exact hO, hx1, hag⟩, hS.F ht⟩) hS.2.2 h1 h2
/-- behind a call that may throw -/
theorem gBackX {Qr Qr1 : Option Value → gWM → Prop} {Qx Qx1 : gWM → Prop} {kc ks mc ms mc1 ms1 pc : Nat} {ls : Array Slot} {st0 st : List Value} {lo : List (Option Value)} {a : Array Value} (hF : gFx D dA xad (gAs ad0 g0 s.heap.size) s s.heap) (hlk : meth.locks = false) (hxt : ∀ x ∈ c.exceptionTable.toList, False) (hQ : Q = vy_MQ below (gQc D dA xad ad0 g0 s.heap.size Qr) (gXc D dA xad ad0 g0 s.heap.size Qx) args s mc ms (gAs ad0 g0 s.heap.size))
    (hW : gWd (p, l, e, R, s, m, args, below, meth, c, Q, D, dA, xad, ad0, g0) ad g H locs) (hlo : gcO g lo) (hst : gcL g st) (hl : gLH ls c.maxLocals ad lo) (h1 : kc + mc1 ≤ mc) (h2 : ks + ms1 ≤ ms)
    (hr : vy_Run p l e R s m args below meth c H locs kc ks mc1 ms1 (F0 m pc ls st0) (st.map (gmv ad)) (gQc D dA xad ad g H.size Qr1 a) (gXc D dA xad ad g H.size Qx1) (gAs ad g H.size)) (kx : ∀ g1, Qx1 g1 → Qx g1)
    (kk : ∀ v g1, Qr1 v g1 → gV (p, l, e, R, s, m, args, below, meth, c, Q, D, dA, xad, ad0, g0) g1 (kc + mc1) (ks + ms1) (pc + 3) lo (v.toList ++ st)) : W p l e R s m args below meth c H locs kc ks Q (F0 m pc ls st0) := by
  have hW0 := hW
  obtain ⟨hO, hS, hx1, hag⟩ := hW
  have hsub := gAs.sub hO hS (fun q h => Or.inr h)
  have keep : ∀ (st₀ t T' : State) (L : List Loc), st₀.heap = H → T'.heap = t.heap → (∀ q ∈ L, gAs ad g H.size q.base) → va_F (gAs ad g H.size) st₀ t → va_S (gAs ad0 g0 s.heap.size) s.heap T'.heap (locs ++ L) := by
    intro st₀ t T' L h0 e1 hL hz
    obtain ⟨hz, hk⟩ := hz
    rw [h0] at hz hk
    refine ⟨Nat.le_trans hS.1 (by rw [e1]; exact hz), fun q h1 h2 => ?_, fun q hq => ?_⟩
    · rw [e1, hk q (Nat.lt_of_lt_of_le h1 hS.1) (fun z => h2 (hsub q z))]
      exact hS.2.1 q h1 h2
    · rcases List.mem_append.mp hq with h | h
      · exact hS.2.2 q h
      · exact hsub _ (hL q h)
  intro T hT X
  rcases hr T hT X with ⟨v, st₀, t, T', L, h0, X', hL, e1, e2, ⟨⟨v1, g1, ad1, hv, hq, hc1, hO1, hx2, hag1⟩, hz⟩, stp⟩ | ⟨q, st₀, t, T', L, E, ce, h0, X', hL, e1, e2, ⟨hE, ⟨g1, ad1, hq9, hq, ⟨F, hk⟩, hO1, hx2, hag1⟩, hz⟩, hce, hcv, hcl, stp⟩
  · obtain rfl : v = v1.map (gmv ad1) := by injection hv
    have hmono : ∀ n, g n ≠ none → g1 n ≠ none := fun n hn => (hag1 n hn).1
    have hag2 : ∀ n, gok g n → ad1 n = ad n := fun n hn => by
      rcases hn with h | h
      · rw [hx2 n h, hx1 n h]
      · exact (hag1 n h).2
    have hO2 : gOw D dA (gAs ad0 g0 s.heap.size) ad1 g1 T'.heap := by
      rw [e1]
      exact hO1.weaken hsub
    have hS2 := keep st₀ t T' L h0 e1 hL hz
    have h9 := kk v1 g1 hq (gcL_app hc1 (gcL_mono hmono hst)) (gcO_mono hmono hlo) ad1 T'.heap (locs ++ L) ls ⟨hO2, hS2, hx2, fun k hk => ⟨hmono k (hag k hk).1, by rw [hag2 k (Or.inr (hag k hk).1)]; exact (hag k hk).2⟩⟩ (hl.ext hlo hag2)
    have hst2 : (v1.toList ++ st).map (gmv ad1) = (v1.map (gmv ad1)).toList ++ st.map (gmv ad) := by
      rw [List.map_append, gmvL_ext hag2 hst]
      cases v1 <;> rfl
    rw [hst2] at h9
    obtain ⟨t2, a1, b1⟩ := h9 T' rfl X'
    exact ⟨t2, stp t2 a1, b1⟩
  · subst hq9
    have hO2 : gOw D dA (gAs ad0 g0 s.heap.size) ad1 g1 T'.heap := by
      rw [e1]
      exact hO1.weaken hsub
    have hS2 := keep st₀ t T' L h0 e1 hL hz
    have h9 := gLeave (p := p) (l := l) (e := e) (R := R) (m := m) (rest := st.map (gmv ad)) (pc := pc) (ls := ls) hF hlk hxt hQ (ad := ad1) (g := g1) (H := T'.heap) (locs := locs ++ L) ⟨hO2, hS2, hx2, fun k hk => ⟨(hag1 k (hag k hk).1).1, by rw [(hag1 k (hag k hk).1).2]; exact (hag k hk).2⟩⟩ hk h1 h2 (kx g1 hq)
    obtain ⟨t2, a1, b1⟩ := h9 T' rfl X'
    exact ⟨t2, stp.trans a1, b1⟩
end GZ
section GZ2
variable {z : gZ} {l : Launch} {cc : ByteArray} {nL : Nat} {own : String} {ret : Option FieldType} {fr mc ms lc : Nat} {g : gWM} {kc ks pc q : Nat} {lo : List (Option Value)} {st : List Value}
theorem g_athrow (E : gEv z l cc nL own ret fr mc ms lc) {gq : gWM} {Qr : Option Value → gWM → Prop} {Qx : gWM → Prop} {F : Nat → Value} (Rx : gRx z mc ms gq Qr Qx) (d : decode cc pc = .ok (.athrow, 1)) (hk : g 1003 = some (.inr (2, F))) (h1 : kc ≤ mc) (h2 : ks ≤ ms) (hq : Qx g) : gV z g kc ks pc lo (.ref 1003 :: st) := by
  obtain ⟨p, l', e, R, s, m, args, below, meth, c, Q, D, dA, xad, ad0, g0⟩ := z
  obtain ⟨rfl, hx, hb, hml, hown, hts, hF, hr, hlk, rfl⟩ := E
  obtain ⟨rfl, hQ, hxt⟩ := Rx
  intro hst hlo ad H locs ls hW hl
  exact vx_athrow hx hb d (gLeave hF hlk hxt hQ hW hk h1 h2 hq)
theorem g_callVX (E : gEv z l cc nL own ret fr mc ms lc) {gq : gWM} {Qr Qr1 : Option Value → gWM → Prop} {Qx Qx1 : gWM → Prop} (Rx : gRx z mc ms gq Qr Qx) {y : MethodName} {cc1 : ByteArray} {nL1 : Nat} {ret1 : Option FieldType} {fr1 mc1 ms1 lc1 : Nat} {av : List Value} {n9 idx k ci N : Nat} {C : String} {T : u_T} {ty : Nat → FieldType} {F : Nat → Value} (hC : gXt l y cc1 nL1 ret1 fr1 mc1 ms1 lc1 (.ref k :: av) g Qr1 Qx1) (hci : gCI ci C T ty N) (d : decode cc pc = .ok (.invokevirtual idx, 3)) (hk : g k = some (.inr (ci, F))) (w1 : Cond.methodLink own idx y ∈ lw_all) (w2 : Cond.instanceMethod y ∈ lw_all) (w3 : Cond.selects C y y ∈ lw_all) (w4 : Cond.initialized C ∈ lw_all) (w5 : Cond.code y cc1 nL1 ret1 ∈ lw_all) (hd : y.cls = C ∧ y.cls ≠ "java/lang/invoke/MethodHandle" ∧ y.cls ≠ "java/lang/invoke/VarHandle" ∧ (parseMethodDescriptor y.desc).map (fun d => d.parameters.length) = some n9) (hn9 : av.length = n9) {st0 : List Value} (hs0 : st0 = av.reverse ++ .ref k :: st) (hR : fr1 + 1 ≤ fr ∧ 8 + (nL1 + 11) + lc1 ≤ lc) (hf : kc + mc1 ≤ mc ∧ ks + ms1 ≤ ms) (hroom : gcat st ≤ 8) (hq : pc + 3 = q) (kx : ∀ g1, Qx1 g1 → Qx g1) (kk : ∀ v g1, Qr1 v g1 → gV z g1 (kc + mc1) (ks + ms1) q lo (v.toList ++ st)) : gV z g kc ks pc lo st0 := by
  obtain ⟨p, l', e, R, s, m, args, below, meth, c, Q, D, dA, xad, ad0, g0⟩ := z
  obtain ⟨rfl, hx, hb, hml, hown, hts, hF, hr, hlk, rfl⟩ := E
  obtain ⟨rfl, hQ, hxt⟩ := Rx
  subst hq
  subst hs0
  subst hn9
  intro hst hlo ad H locs ls hW hl
  obtain ⟨hav, hst1⟩ := gcL_split hst
  refine gBackX (a := (Value.ref (ad k) :: av.map (gmv ad)).toArray) hF hlk hxt hQ hW hlo hst1 hl hf.1 hf.2 ?_ kx kk
  exact vy_runV (As := av.map (gmv ad)) (rest := st.map (gmv ad)) (nL := nL) ⟨hx, hb, hml, hown, hts⟩ (hC D dA xad ad H.size) (cwV av.length hts (lw_V w1 w2 w3 w4 w5) rfl rfl rfl hd hR) (gPreV hF hW hav hk hci) rfl (by rw [List.length_map]) (by rw [← hml]; exact hl.1) (gstk ad av (.ref k) st) (lv_room (by rw [gcat_map]; exact hroom)) d hf
/-- a return from a method that may throw: as from one that doesn't -/
theorem gRx_leave {mc ms : Nat} {gq : gWM} {Qr : Option Value → gWM → Prop} {Qx : gWM → Prop} (Rx : gRx z mc ms gq Qr Qx) (E : gEv z l cc nL own ret fr mc ms lc) : ∃ z9 : gZ, gRt z9 mc ms gq Qr ∧ gEv z9 l cc nL own ret fr mc ms lc ∧ ∀ (g : gWM) (kc ks pc : Nat) (lo : List (Option Value)) (st : List Value), gV z9 g kc ks pc lo st → gV z g kc ks pc lo st := by
  obtain ⟨p, l', e, R, s, m, args, below, meth, c, Q, D, dA, xad, ad0, g0⟩ := z
  obtain ⟨rfl, hQ, hxt⟩ := Rx
  refine ⟨(p, l', e, R, s, m, args, below, meth, c, MQ below (gQc D dA xad ad0 g0 s.heap.size Qr) args s mc ms (gAs ad0 g0 s.heap.size), D, dA, xad, ad0, g0), ⟨rfl, rfl⟩, E, ?_⟩
  intro g kc ks pc lo st h hst hlo ad H locs ls hW hl
  subst hQ
  exact vy_ret (h hst hlo ad H locs ls hW hl)
end GZ2
