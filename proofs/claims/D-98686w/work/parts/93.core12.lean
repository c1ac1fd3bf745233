/-! THE JUDGEMENT, twelfth: methods with handlers -/
set_option maxRecDepth 100000
/-- THE CONTRACT of a method with handlers -/
def gCtH (l : Launch) (y : MethodName) (cc : ByteArray) (nL : Nat) (ret : Option FieldType) (hh : List (Nat × Nat × Nat × Nat)) (fr mc ms lc : Nat) (av : List Value) (g : gWM) (Qr : Option Value → gWM → Prop) : Prop :=
  ∀ (D : va_G) (dA xad ad : Nat → Nat) (sz : Nat), Met l y (wsW_ y cc nL ret hh) { frames := fr, cells := mc, slots := ms, locals := lc } (gPc D dA xad ad g sz av) (gQc D dA xad ad g sz Qr) mc ms (gAs ad g sz)
/-- the handlers of the frame -/
def gTb (z : gZ) (hh : List (Nat × Nat × Nat × Nat)) : Prop := match z with
  | (_, _, _, _, _, _, _, _, _, c, _, _, _, _, _, _) => c.exceptionTable.toList = tableOf hh
theorem gMet_ofWH {l : Launch} {y : MethodName} {ws ws' : List Cond} {rm : Room} {Pc : Array Value → State → Prop} {Qc : Array Value → State → Outcome → State → Prop} {mc ms : Nat} {free : Addr → Prop} {cc : ByteArray} {maxL : Nat} {ret : Option FieldType} {hh : List (Nat × Nat × Nat × Nat)}
    (hy : plainName y.cls = true) (hw : ws = Cond.codeWith y cc maxL ret hh :: ws')
    (body : ∀ p e s m args below meth c s₁, BodyLoose p l y (headSpec ws rm) cc maxL ret e s m args below meth c s₁ → c.maxLocals = maxL → c.exceptionTable.toList = tableOf hh → Pc args s →
      W p l e (headSpec ws rm).room s m args below meth c s.heap [] 0 0 (MQ below Qc args s mc ms free) (entryFrame m args maxL)) : Met l y ws rm Pc Qc mc ms free := by
  refine MetFree.of_bodyS (code := cc) (maxLocals := maxL) (ret := ret) hy ?_ ?_
  · intro args s m h hn
    obtain ⟨m9, meth, c, hn9, h1, h2, h3, h4, -, h5, h6, -⟩ := Cond.codeWith_spec (atoms_spec (ws := ws) h _ (by rw [hw]; exact List.mem_cons_self))
    cases hn.symm.trans hn9
    exact ⟨meth, c, h1, h2, h3, h4, h5, h6⟩
  · intro p e s m args below meth c s₁ B hml hP _
    have hh0 : s₁.heap = s.heap := by rw [B.state]; rfl
    obtain ⟨t, a1, o, b1, b2, b3⟩ := body p e s m args below meth c s₁ B hml (vx_table (x := y) B (atoms_spec (ws := ws) B.pre _ (by rw [hw]; exact List.mem_cons_self))) hP s₁ hh0 (Stand.of_body B)
    exact ⟨t, o, a1, b1, b2, ⟨b3.1, b3.2⟩⟩
theorem gCtH.of {l : Launch} {y : MethodName} {cc : ByteArray} {nL : Nat} {ret : Option FieldType} {hh : List (Nat × Nat × Nat × Nat)} {fr mc ms lc : Nat} {av : List Value} {g : gWM} {Qr : Option Value → gWM → Prop} (own : String) (hy : plainName y.cls = true) (hown : y.cls = own) {lo : List (Option Value)} (n : Nat) (hlo : lo = glo av ++ List.replicate n none) (hn : (av.map (fun v => v.category)).sum ≤ nL)
    (k : ∀ z : gZ, gEv z l cc nL own ret fr mc ms lc → gRt z mc ms g Qr → gTb z hh → gV z g 0 0 0 lo []) : gCtH l y cc nL ret hh fr mc ms lc av g Qr := by
  intro D dA xad ad sz
  refine gMet_ofWH (cc := cc) (maxL := nL) (ret := ret) hy rfl ?_
  intro p e s m args below meth c s₁ B hml htb hv
  obtain ⟨rfl, hsz, hav, hO, had, hF⟩ := hv
  subst hsz
  have hts := atoms_spec (ws := wsW_ y cc nL ret hh) B.pre
  have hts : ∀ w ∈ lw_all, w.before _ s = true := fun w h => hts w (List.mem_cons_of_mem _ h)
  have hown2 : s.vm.findClass own = some m.cls := by rw [← hown]; exact findClass_of_methodNamed B.named
  have hz := k (p, l, e, _, s, m, _, below, meth, c, MQ below (gQc D dA xad ad g s.heap.size Qr) ((av.map (gmv ad)).toArray) s mc ms (gAs ad g s.heap.size), D, dA, xad, ad, g)
    ⟨rfl, B.exec, B.bytes, hml, hown2, hts, hF, B.returns, B.notSynchronized, rfl⟩ ⟨rfl, rfl⟩ htb
  have hlen : (lg_sl (av.map (gmv ad))).length ≤ nL := by
    have : ∀ vs : List Value, (lg_sl (vs.map (gmv ad))).length = (vs.map (fun v => v.category)).sum := by
      intro vs
      induction vs with
      | nil => rfl
      | cons v t ih =>
        have e1 : lg_sl ((v :: t).map (gmv ad)) = (if (gmv ad v).category = 2 then [Slot.val (gmv ad v), .second] else [.val (gmv ad v)]) ++ lg_sl (t.map (gmv ad)) := by simp [lg_sl]
        rw [e1, List.length_append, ih, gmv_cat]
        cases v <;> rfl
    rw [this]
    exact hn
  have hl := lv_entry (av.map (gmv ad)) (n := nL) hlen
  rw [lg_entry_eq]
  refine hz trivial (glo_closed hav hlo) ad s.heap [] _ ⟨hO, va_S.rf, had, fun k hk => ⟨hk, rfl⟩⟩ ?_
  rw [hml]
  refine gLH.of hl fun i v hv => ?_
  have := glo_args ad av 0 i v (glo_sub hlo hv)
  rwa [Nat.zero_add] at this
section GH
variable {z : gZ} {l : Launch} {cc : ByteArray} {nL : Nat} {own : String} {ret : Option FieldType} {fr mc ms lc : Nat} {g : gWM} {kc ks pc q : Nat} {lo : List (Option Value)} {st : List Value}
/-- a call of a method that may throw Refused, under a handler that takes it -/
theorem g_callVH (E : gEv z l cc nL own ret fr mc ms lc) {a9 b9 h9 c9 : Nat} (Tb : gTb z [(a9, b9, h9, c9)]) {Qr1 : Option Value → gWM → Prop} {Qx1 : gWM → Prop} {y : MethodName} {cc1 : ByteArray} {nL1 : Nat} {ret1 : Option FieldType} {fr1 mc1 ms1 lc1 : Nat} {av : List Value} {n9 idx k ci N : Nat} {C : String} {T : u_T} {ty : Nat → FieldType} {F : Nat → Value} (hC : gXt l y cc1 nL1 ret1 fr1 mc1 ms1 lc1 (.ref k :: av) g Qr1 Qx1) (hci : gCI ci C T ty N) (d : decode cc pc = .ok (.invokevirtual idx, 3)) (hk : g k = some (.inr (ci, F))) (w1 : Cond.methodLink own idx y ∈ lw_all) (w2 : Cond.instanceMethod y ∈ lw_all) (w3 : Cond.selects C y y ∈ lw_all) (w4 : Cond.initialized C ∈ lw_all) (w5 : Cond.code y cc1 nL1 ret1 ∈ lw_all) (hd : y.cls = C ∧ y.cls ≠ "java/lang/invoke/MethodHandle" ∧ y.cls ≠ "java/lang/invoke/VarHandle" ∧ (parseMethodDescriptor y.desc).map (fun d => d.parameters.length) = some n9) (hn9 : av.length = n9) {st0 : List Value} (hs0 : st0 = av.reverse ++ .ref k :: st) (hR : fr1 + 1 ≤ fr ∧ 8 + (nL1 + 11) + lc1 ≤ lc) (hf : kc + mc1 ≤ mc ∧ ks + ms1 ≤ ms) (hroom : gcat st ≤ 8) (hq : pc + 3 = q)
    (hcov : a9 ≤ pc ∧ pc < b9) (hc0 : c9 ≠ 0) (wl : Cond.classLink own c9 "SaltedGate$Refused" ∈ lw_all) (wc : Cond.castable "SaltedGate$Refused" "SaltedGate$Refused" ∈ lw_tbl)
    (kk : ∀ v g1, Qr1 v g1 → gV z g1 (kc + mc1) (ks + ms1) q lo (v.toList ++ st)) (kh : ∀ g1, Qx1 g1 → gV z g1 (kc + mc1) (ks + ms1) h9 lo [.ref 1003]) : gV z g kc ks pc lo st0 := by
  obtain ⟨p, l', e, R, s, m, args, below, meth, c, Q, D, dA, xad, ad0, g0⟩ := z
  obtain ⟨rfl, hx, hb, hml, hown, hts, hF, hr, hlk, rfl⟩ := E
  subst hq
  subst hs0
  subst hn9
  intro hst hlo ad H locs ls hW hl
  obtain ⟨hav, hst1⟩ := gcL_split hst
  have hrun : vy_Run p _ e { frames := fr, cells := mc, slots := ms, locals := lc } s m args below meth c H locs kc ks mc1 ms1 (F0 m pc ls ((av.reverse ++ .ref k :: st).map (gmv ad))) (st.map (gmv ad)) (gQc D dA xad ad g H.size Qr1 (Value.ref (ad k) :: av.map (gmv ad)).toArray) (gXc D dA xad ad g H.size Qx1) (gAs ad g H.size) := vy_runV (As := av.map (gmv ad)) (rest := st.map (gmv ad)) (nL := nL) ⟨hx, hb, hml, hown, hts⟩ (hC D dA xad ad H.size) (cwV av.length hts (lw_V w1 w2 w3 w4 w5) rfl rfl rfl hd hR) (gPreV hF hW hav hk hci) rfl (by rw [List.length_map]) (by rw [← hml]; exact hl.1) (gstk ad av (.ref k) st) (lv_room (by rw [gcat_map]; exact hroom)) d hf
  have hW0 := hW
  obtain ⟨hO, hS, hx1, hag⟩ := hW
  have hsub := gAs.sub hO hS (fun q h => Or.inr h)
  have keep : ∀ (st₀ t T' : State) (L : List Loc), st₀.heap = H → T'.heap = t.heap → (∀ q ∈ L, gAs ad g H.size q.base) → va_F (gAs ad g H.size) st₀ t → va_S (gAs ad0 g0 s.heap.size) s.heap T'.heap (locs ++ L) := by
    intro st₀ t T' L h0 e1 hL hz
    obtain ⟨hz, hk⟩ := hz
    rw [h0] at hz hk
    refine ⟨Nat.le_trans hS.1 (by rw [e1]; exact hz), fun q h1 h2 => ?_, fun q hq => ?_⟩
    · rw [e1, hk q (Nat.lt_of_lt_of_le h1 hS.1) (fun z => h2 (hsub q z))]
      exact hS.2.1 q h1 h2
    · rcases List.mem_append.mp hq with h | h
      · exact hS.2.2 q h
      · exact hsub _ (hL q h)
  intro T hT X
  rcases hrun T hT X with ⟨v, st₀, t, T', L, h0, X', hL, e1, e2, ⟨⟨v1, g1, ad1, hv, hq, hc1, hO1, hx2, hag1⟩, hz⟩, stp⟩ | ⟨q, st₀, t, T', L, E, ce, h0, X', hL, e1, e2, ⟨hE, ⟨g1, ad1, hq9, hq, ⟨F, hk⟩, hO1, hx2, hag1⟩, hz⟩, hce, hcv, hcl, stp⟩
  · obtain rfl : v = v1.map (gmv ad1) := by injection hv
    have hmono : ∀ n, g n ≠ none → g1 n ≠ none := fun n hn => (hag1 n hn).1
    have hag2 : ∀ n, gok g n → ad1 n = ad n := fun n hn => by
      rcases hn with h | h
      · rw [hx2 n h, hx1 n h]
      · exact (hag1 n h).2
    have hO2 : gOw D dA (gAs ad0 g0 s.heap.size) ad1 g1 T'.heap := by
      rw [e1]
      exact hO1.weaken hsub
    have hS2 := keep st₀ t T' L h0 e1 hL hz
    have h9 := kk v1 g1 hq (gcL_app hc1 (gcL_mono hmono hst1)) (gcO_mono hmono hlo) ad1 T'.heap (locs ++ L) ls ⟨hO2, hS2, hx2, fun k hk => ⟨hmono k (hag k hk).1, by rw [hag2 k (Or.inr (hag k hk).1)]; exact (hag k hk).2⟩⟩ (hl.ext hlo hag2)
    have hst2 : (v1.toList ++ st).map (gmv ad1) = (v1.map (gmv ad1)).toList ++ st.map (gmv ad) := by
      rw [List.map_append, gmvL_ext hag2 hst1]
      cases v1 <;> rfl
    rw [hst2] at h9
    obtain ⟨t2, a1, b1⟩ := h9 T' rfl X'
    exact ⟨t2, stp t2 a1, b1⟩
  · subst hq9
    subst hE
    have hmono : ∀ n, g n ≠ none → g1 n ≠ none := fun n hn => (hag1 n hn).1
    have hag2 : ∀ n, gok g n → ad1 n = ad n := fun n hn => by
      rcases hn with h | h
      · rw [hx2 n h, hx1 n h]
      · exact (hag1 n h).2
    have hO2 : gOw D dA (gAs ad0 g0 s.heap.size) ad1 g1 T'.heap := by
      rw [e1]
      exact hO1.weaken hsub
    have hS2 := keep st₀ t T' L h0 e1 hL hz
    have hH := kh g1 hq ⟨Or.inr (by rw [hk]; exact fun h => by cases h), trivial⟩ (gcO_mono hmono hlo) ad1 T'.heap (locs ++ L) ls ⟨hO2, hS2, hx2, fun k hk => ⟨hmono k (hag k hk).1, by rw [hag2 k (Or.inr (hag k hk).1)]; exact (hag k hk).2⟩⟩ (hl.ext hlo hag2)
    obtain ⟨t2, a1, b1⟩ := vy_catch (rest := st.map (gmv ad)) (pc := pc) (ls := ls) hown [] ⟨a9, b9, h9, c9⟩ [] (show c.exceptionTable.toList = _ from Tb) (fun z hz => by cases hz) (by unfold covers; simp [hcov.1, hcov.2]) hc0 (hts _ wl) (va_Nw.use rfl (hF.2.1 _ wc rfl)) (by rw [e1]; exact hce) hcv hcl hH T' rfl X'
    exact ⟨t2, stp.trans a1, b1⟩
/-- a call of a method with handlers -/
theorem g_callVW (E : gEv z l cc nL own ret fr mc ms lc) {y : MethodName} {cc1 : ByteArray} {nL1 : Nat} {ret1 : Option FieldType} {hh : List (Nat × Nat × Nat × Nat)} {fr1 mc1 ms1 lc1 : Nat} {av : List Value} {Qr : Option Value → gWM → Prop} {n9 idx k ci N : Nat} {C : String} {T : u_T} {ty : Nat → FieldType} {F : Nat → Value} (hC : gCtH l y cc1 nL1 ret1 hh fr1 mc1 ms1 lc1 (.ref k :: av) g Qr) (hci : gCI ci C T ty N) (d : decode cc pc = .ok (.invokevirtual idx, 3)) (hk : g k = some (.inr (ci, F))) (w1 : Cond.methodLink own idx y ∈ lw_all) (w2 : Cond.instanceMethod y ∈ lw_all) (w3 : Cond.selects C y y ∈ lw_all) (w4 : Cond.initialized C ∈ lw_all) (w5 : Cond.codeWith y cc1 nL1 ret1 hh ∈ lw_all) (hd : y.cls = C ∧ y.cls ≠ "java/lang/invoke/MethodHandle" ∧ y.cls ≠ "java/lang/invoke/VarHandle" ∧ (parseMethodDescriptor y.desc).map (fun d => d.parameters.length) = some n9) (hn9 : av.length = n9)  {st0 : List Value} (hs0 : st0 = av.reverse ++ .ref k :: st) (hR : fr1 + 1 ≤ fr ∧ 8 + (nL1 + 11) + lc1 ≤ lc) (hf : kc + mc1 ≤ mc ∧ ks + ms1 ≤ ms) (hroom : gcat st ≤ 8) (hq : pc + 3 = q) (kk : ∀ v g1, Qr v g1 → gV z g1 (kc + mc1) (ks + ms1) q lo (v.toList ++ st)) : gV z g kc ks pc lo st0 := by
  obtain ⟨p, l', e, R, s, m, args, below, meth, c, Q, D, dA, xad, ad0, g0⟩ := z
  obtain ⟨rfl, hx, hb, hml, hown, hts, hF, hr, hlk, rfl⟩ := E
  subst hq
  subst hs0
  subst hn9
  intro hst hlo ad H locs ls hW hl
  obtain ⟨hav, hst1⟩ := gcL_split hst
  refine gBack (a := (Value.ref (ad k) :: av.map (gmv ad)).toArray) hW hlo hst1 hl ?_ kk
  refine vx_runVW (As := av.map (gmv ad)) (rest := st.map (gmv ad)) (nL := nL) ⟨hx, hb, hml, hown, hts⟩ (hC D dA xad ad H.size) (vx_cwVW av.length hts (lw_VW w1 w2 w3 w4 w5) rfl rfl rfl hd hR) (gPreV hF hW hav hk hci) rfl (by rw [List.length_map]) (by rw [← hml]; exact hl.1) (gstk ad av (.ref k) st) (lv_room (by rw [gcat_map]; exact hroom)) d hf
end GH
