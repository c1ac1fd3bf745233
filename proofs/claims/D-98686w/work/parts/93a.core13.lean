/-! THE JUDGEMENT, thirteenth: NoSuchElementException, thrown anew; caught, and dropped -/
set_option maxRecDepth 100000
theorem nse_at : ∀ w ∈ vx_at0 "SaltedGate" 382 "java/util/NoSuchElementException" ["java/lang/RuntimeException", "java/lang/Exception"], w ∈ lw_all ∨ (w ∈ lw_tbl ∧ gnk w = true ∧ w.onTables = true) := by decide +kernel
theorem nse_ot : ∀ w ∈ Cond.classLink "SaltedGate" 380 "java/util/NoSuchElementException" :: Cond.initialized "java/util/NoSuchElementException" :: vx_at0 "SaltedGate" 382 "java/util/NoSuchElementException" ["java/lang/RuntimeException", "java/lang/Exception"], vx_ot w = true := by decide +kernel
/-- how two statics lie -/
def gLy (A : Nat → Prop) (U : State) (H : Heap) : Prop := vx_L "java/lang/Throwable" "UNASSIGNED_STACK" "[Ljava/lang/StackTraceElement;" A U H ∧ vx_L "java/lang/Throwable" "SUPPRESSED_SENTINEL" "Ljava/util/List;" A U H
theorem gLy.go {A B : Nat → Prop} {s U : State} {H H1 : Heap} (h : gLy A s H) (hW : s.WarmedH U.vm) (hq : ∀ a : Nat, a < H.size → ¬ A a → H1[a]? = H[a]?) (hAB : ∀ q, B q → A q) : gLy B U H1 :=
  ⟨((h.1.moved hW.alike).kept hq).narrow hAB, ((h.2.moved hW.alike).kept hq).narrow hAB⟩
theorem gOw.grow {D : va_G} {dA : Nat → ClassId} {A : Nat → Prop} {ad : Nat → Nat} {g : gWM} {H H1 : Heap} (h : gOw D dA A ad g H) (hq : ∀ q : Nat, q < H.size → H1[q]? = H[q]?) : gOw D dA A ad g H1 := by
  obtain ⟨Ls, G, h1, h2⟩ := h
  exact ⟨Ls, G, h1.kept (fun k q hk => hq _ (h1 k q hk).lt), h2⟩
def gXn (D : va_G) (dA xad ad : Nat → Nat) (g : gWM) (sz : Nat) (Px : Prop) : String → State → State → Prop := fun E st t =>
  E = "java/util/NoSuchElementException" ∧ Px ∧ (∃ ad1 : Nat → Nat, gOw D dA (gAs ad g sz) ad1 g t.heap ∧ (∀ k, k < 1000 → ad1 k = xad k) ∧ ∀ k, g k ≠ none → ad1 k = ad k) ∧ va_F (gAs ad g sz) st t
def gPn9 (D : va_G) (dA xad ad : Nat → Nat) (g : gWM) (sz : Nat) (av : List Value) : Array Value → State → Prop := fun a U => gPc D dA xad ad g sz av a U ∧ gLy (gAs ad g sz) U U.heap
/-- THE CONTRACT of a method that returns, or throws NoSuchElementException (then Px holds, and the world is as it was) -/
def gNt (l : Launch) (y : MethodName) (cc : ByteArray) (nL : Nat) (ret : Option FieldType) (fr mc ms lc : Nat) (av : List Value) (g : gWM) (Qr : Option Value → gWM → Prop) (Px : Prop) : Prop :=
  ∀ (D : va_G) (dA xad ad : Nat → Nat) (sz : Nat), vx_Met l y (ws_ y cc nL ret) { frames := fr, cells := mc, slots := ms, locals := lc } (gPn9 D dA xad ad g sz av) (gQc D dA xad ad g sz Qr) (gXn D dA xad ad g sz Px) mc ms (gAs ad g sz)
def gNx (z : gZ) (mc ms : Nat) (g : gWM) (Qr : Option Value → gWM → Prop) (Px : Prop) : Prop := match z with
  | (_, _, _, _, s, _, args, below, _, c, Q, D, dA, xad, ad0, g0) => g0 = g ∧ Q = vx_MQ below (gQc D dA xad ad0 g0 s.heap.size Qr) (gXn D dA xad ad0 g0 s.heap.size Px) args s mc ms (gAs ad0 g0 s.heap.size) ∧ ∀ x ∈ c.exceptionTable.toList, False
def gLz (z : gZ) : Prop := match z with
  | (_, _, _, _, s, _, _, _, _, _, _, _, _, _, ad0, g0) => gLy (gAs ad0 g0 s.heap.size) s s.heap
theorem gNt.of {l : Launch} {y : MethodName} {cc : ByteArray} {nL : Nat} {ret : Option FieldType} {fr mc ms lc : Nat} {av : List Value} {g : gWM} {Qr : Option Value → gWM → Prop} {Px : Prop} (own : String) (hy : plainName y.cls = true) (hown : y.cls = own) {lo : List (Option Value)} (n : Nat) (hlo : lo = glo av ++ List.replicate n none) (hn : (av.map (fun v => v.category)).sum ≤ nL)
    (k : ∀ z : gZ, gEv z l cc nL own ret fr mc ms lc → gNx z mc ms g Qr Px → gLz z → gV z g 0 0 0 lo []) : gNt l y cc nL ret fr mc ms lc av g Qr Px := by
  intro D dA xad ad sz
  refine vx_ofW (cc := cc) (maxL := nL) (ret := ret) hy rfl ?_
  intro p e s m args below meth c s₁ B hml hxt hv
  obtain ⟨⟨rfl, hsz, hav, hO, had, hF⟩, hLy⟩ := hv
  subst hsz
  have hts := atoms_spec (ws := ws_ y cc nL ret) B.pre
  have hts : ∀ w ∈ lw_all, w.before _ s = true := fun w h => hts w (List.mem_cons_of_mem _ h)
  have hown2 : s.vm.findClass own = some m.cls := by rw [← hown]; exact findClass_of_methodNamed B.named
  have hz := k (p, l, e, _, s, m, _, below, meth, c, vx_MQ below (gQc D dA xad ad g s.heap.size Qr) (gXn D dA xad ad g s.heap.size Px) ((av.map (gmv ad)).toArray) s mc ms (gAs ad g s.heap.size), D, dA, xad, ad, g)
    ⟨rfl, B.exec, B.bytes, hml, hown2, hts, hF, B.returns, B.notSynchronized, rfl⟩ ⟨rfl, rfl, hxt⟩ hLy
  have hlen : (lg_sl (av.map (gmv ad))).length ≤ nL := by
    have : ∀ vs : List Value, (lg_sl (vs.map (gmv ad))).length = (vs.map (fun v => v.category)).sum := by
      intro vs
      induction vs with
      | nil => rfl
      | cons v t ih =>
        have e1 : lg_sl ((v :: t).map (gmv ad)) = (if (gmv ad v).category = 2 then [Slot.val (gmv ad v), .second] else [.val (gmv ad v)]) ++ lg_sl (t.map (gmv ad)) := by simp [lg_sl]
        rw [e1, List.length_append, ih, gmv_cat]
        cases v <;> rfl
    rw [this]
    exact hn
  have hl := lv_entry (av.map (gmv ad)) (n := nL) hlen
  rw [lg_entry_eq]
  refine hz trivial (glo_closed hav hlo) ad s.heap [] _ ⟨hO, va_S.rf, had, fun k hk => ⟨hk, rfl⟩⟩ ?_
  rw [hml]
  refine gLH.of hl fun i v hv => ?_
  have := glo_args ad av 0 i v (glo_sub hlo hv)
  rwa [Nat.zero_add] at this
theorem gstN {ls' : Array Slot} {nL i q : Nat} {ad : Nat → Nat} {lo : List (Option Value)} (h : lv_has ls' nL ((i, Value.ref q) :: (gpr ad lo).filter (fun q => !(q.1 == i) && !(q.1 + 1 == i && q.2.category == 2)))) (h2 : gno2 lo i = true) : gLH ls' nL ad (lo.set i none) := by
  refine gLH.of h fun j v hv => ?_
  by_cases hj : i = j
  · subst hj
    rw [List.getElem?_set] at hv
    simp only [if_true] at hv
    split at hv
    · cases hv
    · cases hv
  · rw [List.getElem?_set_ne hj] at hv
    refine List.mem_cons_of_mem _ (List.mem_filter.mpr ⟨gpr_mem.mpr ⟨v, hv, rfl⟩, ?_⟩)
    have h3 : ¬ j = i := fun q => hj q.symm
    by_cases h4 : j + 1 = i
    · have h5 := gno2_spec h2 h4 hv
      simp [h3, h4, gmv_cat, h5]
    · simp [h3, h4]
section GN
variable {z : gZ} {l : Launch} {cc : ByteArray} {nL : Nat} {own : String} {ret : Option FieldType} {fr mc ms lc : Nat} {g : gWM} {kc ks pc q : Nat} {lo : List (Option Value)} {st : List Value}
theorem g_throwN (E : gEv z l cc nL "SaltedGate" ret fr mc ms lc) {Qr : Option Value → gWM → Prop} {Px : Prop} (Nx : gNx z mc ms g Qr Px) (Lz : gLz z) (hT : l.stackTraces = false)
    (d0 : decode cc pc = .ok (.new 380, 3)) (d3 : decode cc (pc + 3) = .ok (.dup, 1)) (d4 : decode cc (pc + 4) = .ok (.invokespecial 382, 3)) (d7 : decode cc (pc + 7) = .ok (.athrow, 1)) (w1 : Cond.classLink "SaltedGate" 380 "java/util/NoSuchElementException" ∈ lw_all) (w2 : Cond.initialized "java/util/NoSuchElementException" ∈ lw_all)
    (hpx : Px) (hfr : 5 < fr) (hlc : 81 ≤ lc) (hc : kc + 1 ≤ mc) (hs : ks + 6 ≤ ms) : gV z g kc ks pc lo [] := by
  obtain ⟨p, l', e, R, s, m, args, below, meth, c, Q, D, dA, xad, ad0, g0⟩ := z
  obtain ⟨rfl, hx, hb, hml, hown, hts, hF, hr, hlk, rfl⟩ := E
  obtain ⟨rfl, rfl, hxt⟩ := Nx
  intro hst hlo ad H locs ls hW hl
  obtain ⟨hO, hS, hx1, hag⟩ := hW
  have hF8 := hF.2.2.2.2.2.2.2.1
  have hF9 := hF.2.2.2.2.2.2.2.2.1
  exact vx_throw0 (A := gAs ad0 g0 s.heap.size) (names := ["java/lang/RuntimeException", "java/lang/Exception"]) (rest := []) hx hb hT hown (by decide +kernel) (by decide +kernel) (hts _ w1) (hts _ w2) (fun w h => (nse_at w h).elim (fun h1 => hts _ h1) (fun h1 => va_Nw.use h1.2.2 (hF.2.1 _ h1.1 h1.2.1))) nse_ot
    ⟨hF8.imp id (fun h => ⟨_, h⟩), Lz.1⟩ ⟨hF9.imp id (fun h => ⟨_, h⟩), Lz.2⟩ hS hl.1 d0 d3 d4 d7 (fun x hx => (hxt x hx).elim) hfr (by show 0 + (13 * 3 + 42) ≤ lc; omega) hc hs hlk
    (fun t _ h1 h2 => ⟨rfl, hpx, ⟨ad, hO.grow h2, hx1, fun k hk => (hag k hk).2⟩, Nat.le_trans hS.1 h1, fun q h3 h4 => (h2 q (Nat.lt_of_lt_of_le h3 hS.1)).trans (hS.2.1 q h3 h4)⟩) hS.2.2 hc hs
/-- a return from a method that may throw -/
theorem gNx_leave {mc ms : Nat} {gq : gWM} {Qr : Option Value → gWM → Prop} {Px : Prop} (Nx : gNx z mc ms gq Qr Px) (E : gEv z l cc nL own ret fr mc ms lc) : ∃ z9 : gZ, gRt z9 mc ms gq Qr ∧ gEv z9 l cc nL own ret fr mc ms lc ∧ ∀ (g : gWM) (kc ks pc : Nat) (lo : List (Option Value)) (st : List Value), gV z9 g kc ks pc lo st → gV z g kc ks pc lo st := by
  obtain ⟨p, l', e, R, s, m, args, below, meth, c, Q, D, dA, xad, ad0, g0⟩ := z
  obtain ⟨rfl, hQ, hxt⟩ := Nx
  refine ⟨(p, l', e, R, s, m, args, below, meth, c, MQ below (gQc D dA xad ad0 g0 s.heap.size Qr) args s mc ms (gAs ad0 g0 s.heap.size), D, dA, xad, ad0, g0), ⟨rfl, rfl⟩, E, ?_⟩
  intro g kc ks pc lo st h hst hlo ad H locs ls hW hl
  subst hQ
  exact vx_ret (h hst hlo ad H locs ls hW hl)
/-- the contract of a method with handlers, that asks how two statics lie -/
def gCtL (l : Launch) (y : MethodName) (cc : ByteArray) (nL : Nat) (ret : Option FieldType) (hh : List (Nat × Nat × Nat × Nat)) (fr mc ms lc : Nat) (av : List Value) (g : gWM) (Qr : Option Value → gWM → Prop) : Prop :=
  ∀ (D : va_G) (dA xad ad : Nat → Nat) (sz : Nat), Met l y (wsW_ y cc nL ret hh) { frames := fr, cells := mc, slots := ms, locals := lc } (gPn9 D dA xad ad g sz av) (gQc D dA xad ad g sz Qr) mc ms (gAs ad g sz)
theorem gCtL.of {l : Launch} {y : MethodName} {cc : ByteArray} {nL : Nat} {ret : Option FieldType} {hh : List (Nat × Nat × Nat × Nat)} {fr mc ms lc : Nat} {av : List Value} {g : gWM} {Qr : Option Value → gWM → Prop} (own : String) (hy : plainName y.cls = true) (hown : y.cls = own) {lo : List (Option Value)} (n : Nat) (hlo : lo = glo av ++ List.replicate n none) (hn : (av.map (fun v => v.category)).sum ≤ nL)
    (k : ∀ z : gZ, gEv z l cc nL own ret fr mc ms lc → gRt z mc ms g Qr → gTb z hh → gLz z → gV z g 0 0 0 lo []) : gCtL l y cc nL ret hh fr mc ms lc av g Qr := by
  intro D dA xad ad sz
  refine gMet_ofWH (cc := cc) (maxL := nL) (ret := ret) hy rfl ?_
  intro p e s m args below meth c s₁ B hml htb hv
  obtain ⟨⟨rfl, hsz, hav, hO, had, hF⟩, hLy⟩ := hv
  subst hsz
  have hts := atoms_spec (ws := wsW_ y cc nL ret hh) B.pre
  have hts : ∀ w ∈ lw_all, w.before _ s = true := fun w h => hts w (List.mem_cons_of_mem _ h)
  have hown2 : s.vm.findClass own = some m.cls := by rw [← hown]; exact findClass_of_methodNamed B.named
  have hz := k (p, l, e, _, s, m, _, below, meth, c, MQ below (gQc D dA xad ad g s.heap.size Qr) ((av.map (gmv ad)).toArray) s mc ms (gAs ad g s.heap.size), D, dA, xad, ad, g)
    ⟨rfl, B.exec, B.bytes, hml, hown2, hts, hF, B.returns, B.notSynchronized, rfl⟩ ⟨rfl, rfl⟩ htb hLy
  have hlen : (lg_sl (av.map (gmv ad))).length ≤ nL := by
    have : ∀ vs : List Value, (lg_sl (vs.map (gmv ad))).length = (vs.map (fun v => v.category)).sum := by
      intro vs
      induction vs with
      | nil => rfl
      | cons v t ih =>
        have e1 : lg_sl ((v :: t).map (gmv ad)) = (if (gmv ad v).category = 2 then [Slot.val (gmv ad v), .second] else [.val (gmv ad v)]) ++ lg_sl (t.map (gmv ad)) := by simp [lg_sl]
        rw [e1, List.length_append, ih, gmv_cat]
        cases v <;> rfl
    rw [this]
    exact hn
  have hl := lv_entry (av.map (gmv ad)) (n := nL) hlen
  rw [lg_entry_eq]
  refine hz trivial (glo_closed hav hlo) ad s.heap [] _ ⟨hO, va_S.rf, had, fun k hk => ⟨hk, rfl⟩⟩ ?_
  rw [hml]
  refine gLH.of hl fun i v hv => ?_
  have := glo_args ad av 0 i v (glo_sub hlo hv)
  rwa [Nat.zero_add] at this
/-- a call under a handler that takes NoSuchElementException, and drops it into a local -/
theorem g_callVE (E : gEv z l cc nL own ret fr mc ms lc) {a9 b9 h9 c9 : Nat} (Tb : gTb z [(a9, b9, h9, c9)]) (Lz : gLz z) {Qr1 : Option Value → gWM → Prop} {Px : Prop} {y : MethodName} {cc1 : ByteArray} {nL1 : Nat} {ret1 : Option FieldType} {fr1 mc1 ms1 lc1 : Nat} {av : List Value} {n9 idx k ci N : Nat} {C : String} {T : u_T} {ty : Nat → FieldType} {F : Nat → Value} (hC : gNt l y cc1 nL1 ret1 fr1 mc1 ms1 lc1 (.ref k :: av) g Qr1 Px) (hci : gCI ci C T ty N) (d : decode cc pc = .ok (.invokevirtual idx, 3)) (hk : g k = some (.inr (ci, F))) (w1 : Cond.methodLink own idx y ∈ lw_all) (w2 : Cond.instanceMethod y ∈ lw_all) (w3 : Cond.selects C y y ∈ lw_all) (w4 : Cond.initialized C ∈ lw_all) (w5 : Cond.code y cc1 nL1 ret1 ∈ lw_all) (hd : y.cls = C ∧ y.cls ≠ "java/lang/invoke/MethodHandle" ∧ y.cls ≠ "java/lang/invoke/VarHandle" ∧ (parseMethodDescriptor y.desc).map (fun d => d.parameters.length) = some n9) (hn9 : av.length = n9) {st0 : List Value} (hs0 : st0 = av.reverse ++ .ref k :: st) (hR : fr1 + 1 ≤ fr ∧ 8 + (nL1 + 11) + lc1 ≤ lc) (hf : kc + mc1 ≤ mc ∧ ks + ms1 ≤ ms) (hroom : gcat st ≤ 8) (hq : pc + 3 = q)
    (hcov : a9 ≤ pc ∧ pc < b9) (hc0 : c9 ≠ 0) (wl : Cond.classLink own c9 "java/util/NoSuchElementException" ∈ lw_all) (wc : Cond.castable "java/util/NoSuchElementException" "java/util/NoSuchElementException" ∈ lw_tbl)
    {k9 : Fin 4} {i : Nat} (dh : decode cc h9 = .ok (.astore_n k9, 1)) (hi : (k9 : Nat) = i) (hil : i < nL) (hi2 : gno2 lo i = true)
    (kk : ∀ v g1, Qr1 v g1 → gV z g1 (kc + mc1) (ks + ms1) q lo (v.toList ++ st)) (kh : Px → gV z g (kc + mc1) (ks + ms1) (h9 + 1) (lo.set i none) []) : gV z g kc ks pc lo st0 := by
  obtain ⟨p, l', e, R, s, m, args, below, meth, c, Q, D, dA, xad, ad0, g0⟩ := z
  obtain ⟨rfl, hx, hb, hml, hown, hts, hF, hr, hlk, rfl⟩ := E
  subst hq
  subst hs0
  subst hn9
  intro hst hlo ad H locs ls hW hl
  obtain ⟨hav, hst1⟩ := gcL_split hst
  have hpv := gPreV hF hW hav hk hci
  have hpv2 : PreV s H C (ad k) (gPn9 D dA xad ad g H.size (.ref k :: av)) (av.map (gmv ad)) := by
    refine ⟨?_, hpv.2.1, fun U hU hWm => ⟨hpv.2.2 U hU hWm, ?_⟩⟩
    · intro a U f mk h
      exact ⟨hpv.1 a U f mk h.1, h.2.go (State.WarmedH.refl U) (fun _ _ _ => rfl) (fun _ h => h)⟩
    · rw [hU]
      exact Lz.go hWm (fun a h1 h2 => hW.2.1.2.1 a h1 h2) (gAs.sub hW.1 hW.2.1 (fun q h => Or.inr h))
  have hrun : vx_Run p _ e { frames := fr, cells := mc, slots := ms, locals := lc } s m args below meth c H locs kc ks mc1 ms1 (F0 m pc ls ((av.reverse ++ .ref k :: st).map (gmv ad))) (st.map (gmv ad)) (gQc D dA xad ad g H.size Qr1 (Value.ref (ad k) :: av.map (gmv ad)).toArray) (gXn D dA xad ad g H.size Px) (gAs ad g H.size) := vx_runV (As := av.map (gmv ad)) (rest := st.map (gmv ad)) (nL := nL) ⟨hx, hb, hml, hown, hts⟩ (hC D dA xad ad H.size) (cwV av.length hts (lw_V w1 w2 w3 w4 w5) rfl rfl rfl hd hR) hpv2 rfl (by rw [List.length_map]) (by rw [← hml]; exact hl.1) (gstk ad av (.ref k) st) (lv_room (by rw [gcat_map]; exact hroom)) d hf
  obtain ⟨hO, hS, hx1, hag⟩ := hW
  have hsub := gAs.sub hO hS (fun q h => Or.inr h)
  have keep : ∀ (st₀ t T' : State) (L : List Loc), st₀.heap = H → T'.heap = t.heap → (∀ q ∈ L, gAs ad g H.size q.base) → va_F (gAs ad g H.size) st₀ t → va_S (gAs ad0 g0 s.heap.size) s.heap T'.heap (locs ++ L) := by
    intro st₀ t T' L h0 e1 hL hz
    obtain ⟨hz, hk⟩ := hz
    rw [h0] at hz hk
    refine ⟨Nat.le_trans hS.1 (by rw [e1]; exact hz), fun q h1 h2 => ?_, fun q hq => ?_⟩
    · rw [e1, hk q (Nat.lt_of_lt_of_le h1 hS.1) (fun z => h2 (hsub q z))]
      exact hS.2.1 q h1 h2
    · rcases List.mem_append.mp hq with h | h
      · exact hS.2.2 q h
      · exact hsub _ (hL q h)
  intro T hT X
  rcases hrun T hT X with ⟨v, st₀, t, T', L, h0, X', hL, e1, e2, ⟨⟨v1, g1, ad1, hv, hq, hc1, hO1, hx2, hag1⟩, hz⟩, stp⟩ | ⟨q, st₀, t, T', L, E, ce, h0, X', hL, e1, e2, ⟨hE, hpx, ⟨ad1, hO1, hx2, hag1⟩, hz⟩, hce, hcv, hcl, stp⟩
  · obtain rfl : v = v1.map (gmv ad1) := by injection hv
    have hmono : ∀ n, g n ≠ none → g1 n ≠ none := fun n hn => (hag1 n hn).1
    have hag2 : ∀ n, gok g n → ad1 n = ad n := fun n hn => by
      rcases hn with h | h
      · rw [hx2 n h, hx1 n h]
      · exact (hag1 n h).2
    have hO2 : gOw D dA (gAs ad0 g0 s.heap.size) ad1 g1 T'.heap := by
      rw [e1]
      exact hO1.weaken hsub
    have hS2 := keep st₀ t T' L h0 e1 hL hz
    have h9 := kk v1 g1 hq (gcL_app hc1 (gcL_mono hmono hst1)) (gcO_mono hmono hlo) ad1 T'.heap (locs ++ L) ls ⟨hO2, hS2, hx2, fun k hk => ⟨hmono k (hag k hk).1, by rw [hag2 k (Or.inr (hag k hk).1)]; exact (hag k hk).2⟩⟩ (hl.ext hlo hag2)
    have hst2 : (v1.toList ++ st).map (gmv ad1) = (v1.map (gmv ad1)).toList ++ st.map (gmv ad) := by
      rw [List.map_append, gmvL_ext hag2 hst1]
      cases v1 <;> rfl
    rw [hst2] at h9
    obtain ⟨t2, a1, b1⟩ := h9 T' rfl X'
    exact ⟨t2, stp t2 a1, b1⟩
  · subst hE
    have hag2 : ∀ n, gok g n → ad1 n = ad n := fun n hn => by
      rcases hn with h | h
      · rw [hx2 n h, hx1 n h]
      · exact hag1 n h
    have hO2 : gOw D dA (gAs ad0 g0 s.heap.size) ad1 g T'.heap := by
      rw [e1]
      exact hO1.weaken hsub
    have hS2 := keep st₀ t T' L h0 e1 hL hz
    have hW2 : gWd (p, l', e, { frames := fr, cells := mc, slots := ms, locals := lc }, s, m, args, below, meth, c, Q, D, dA, xad, ad0, g0) ad1 g T'.heap (locs ++ L) := ⟨hO2, hS2, hx2, fun k hk => ⟨(hag k hk).1, by rw [hag2 k (Or.inr (hag k hk).1)]; exact (hag k hk).2⟩⟩
    have hl2 := hl.ext hlo hag2
    have hstore : W p l' e { frames := fr, cells := mc, slots := ms, locals := lc } s m args below meth c T'.heap (locs ++ L) (kc + mc1) (ks + ms1) Q (F0 m h9 ls [.ref q]) := by
      refine lv_astore_n (nL := c.maxLocals) hx hb dh hi hl2.has (by rw [hml]; exact hil) rfl (fun ls1 hl1 => ?_)
      have hcl1 : gcO g (lo.set i none) := gcO_set hlo (fun v h => by cases h)
      exact kh hpx trivial hcl1 ad1 T'.heap (locs ++ L) ls1 hW2 (gstN hl1 hi2)
    obtain ⟨t2, a1, b1⟩ := vx_catch (rest := st.map (gmv ad)) (pc := pc) (ls := ls) hown [] ⟨a9, b9, h9, c9⟩ [] (show c.exceptionTable.toList = _ from Tb) (fun z hz => by cases hz) (by unfold covers; simp [hcov.1, hcov.2]) hc0 (hts _ wl) (va_Nw.use rfl (hF.2.1 _ wc rfl)) (by rw [e1]; exact hce) hcv hcl hstore T' rfl X'
    exact ⟨t2, stp.trans a1, b1⟩
end GN
