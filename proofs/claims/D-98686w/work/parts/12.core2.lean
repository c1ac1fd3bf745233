/-! THE CORE, second: what holds all through; the judgement gV; contracts gCt -/
set_option maxRecDepth 100000
/-- words that aren't in the one list, but hold all through: nest mates', castable, declares -/
def gnk (w : Cond) : Bool := match w with
  | .fieldLinkNest _ _ _ _ _ _ => true
  | .methodLinkNest _ _ _ _ => true
  | .castable _ _ => true
  | .declares _ => true
  | _ => false
def gNW (U : State) : Prop := ∀ w ∈ lw_tbl, gnk w = true → va_Nw w U
theorem gNW.of {U : State} {a : Array Value} (h : ∀ w ∈ lw_tbl, w.before a U = true) : gNW U := by
  intro w hw hk
  cases w <;> first | exact absurd hk Bool.false_ne_true | exact va_Nw.of rfl (h _ hw)
theorem gNW.warm {s U : State} (hW : s.WarmedH U.vm) (h : gNW s) : gNW U := by
  intro w hw hk
  have h1 := h w hw hk
  cases w <;> first | exact absurd hk Bool.false_ne_true | exact va_Nw.warmF hW h1 | exact va_Nw.warmM hW h1 | exact va_Nw.warmC hW h1 | exact va_Nw.warmD hW h1
theorem gNW.same {u U : State} (hv : u.vm = U.vm) (h : gNW u) : gNW U := by
  intro w hw hk
  have h1 := h w hw hk
  cases w <;> first | exact absurd hk Bool.false_ne_true | exact va_Nw.same rfl hv h1
def gAO (U : State) : Prop := ∀ C : String, Cond.arrayOver (.object C) ∈ lw_tbl → va_AO C U
theorem gAO.moved {u U : State} (hvm : u.vm.Alike U.vm) (h : gAO u) : gAO U := fun C hC => va_AO.moved hvm (h C hC)
/-- the pairs said not castable -/
def gNcs (U : State) : Prop := ∀ q ∈ gNo, va_Nc q.1 q.2 U
theorem gNcs.moved {u U : State} (hvm : u.vm.Alike U.vm) (h : gNcs u) : gNcs U := fun q hq => va_Nc.moved hvm (h q hq)
/-- the literals: site j is the String number 1 + 2 * j, its bytes the number 2 + 2 * j -/
def gByt (tx : String) : List Int32 := tx.toList.map (fun c => Int32.ofNat c.toNat)
def gLit (xad : Nat → Nat) (A : Nat → Prop) (U : State) (H : Heap) : Prop := ∀ (j : Nat) (q : String × Nat × String), gSites[j]? = some q → vk_R q.1 q.2.1 q.2.2 (xad (1 + 2 * j)) U ∧ vk_S 1 [(gByt q.2.2).length] [gByt q.2.2] (fun _ => xad (1 + 2 * j)) (fun _ => xad (2 + 2 * j)) A U H
/-- a static that holds null or the reference t -/
def gZr (C n d : String) (t : Nat) (A : Nat → Prop) (U : State) (H : Heap) : Prop := va_Z C n d .null A U H ∨ va_Z C n d (.ref t) A U H
theorem gZr.moved {C n d : String} {t : Nat} {A : Nat → Prop} {u U : State} {H : Heap} (hvm : u.vm.Alike U.vm) (h : gZr C n d t A u H) : gZr C n d t A U H := h.imp (va_Z.moved hvm) (va_Z.moved hvm)
theorem gZr.kept {C n d : String} {t : Nat} {A : Nat → Prop} {U : State} {H H1 : Heap} (h : gZr C n d t A U H) (hq : ∀ a : Nat, a < H.size → ¬ A a → H1[a]? = H[a]?) : gZr C n d t A U H1 := h.imp (fun h9 => h9.kept hq) (fun h9 => h9.kept hq)
theorem gZr.narrow {C n d : String} {t : Nat} {A B : Nat → Prop} {U : State} {H : Heap} (h : gZr C n d t A U H) (hAB : ∀ q, B q → A q) : gZr C n d t B U H := h.imp (fun h9 => h9.narrow hAB) (fun h9 => h9.narrow hAB)
/-- the statics -/
def gSta (xad : Nat → Nat) (A : Nat → Prop) (U : State) (H : Heap) : Prop :=
  va_Z "java/lang/String" "COMPACT_STRINGS" "Z" (.int 1) A U H ∧ va_Z "java/lang/StringUTF16" "$assertionsDisabled" "Z" (.int 1) A U H ∧ gZr "java/lang/Throwable" "UNASSIGNED_STACK" "[Ljava/lang/StackTraceElement;" (xad 900) A U H ∧ gZr "java/lang/Throwable" "SUPPRESSED_SENTINEL" "Ljava/util/List;" (xad 901) A U H ∧ gZr "jdk/internal/util/Preconditions" "SIOOBE_FORMATTER" "Ljava/util/function/BiFunction;" (xad 902) A U H
/-- what holds all through a run, at a state and its heap; A: what may change -/
def gFx (D : va_G) (dA xad : Nat → Nat) (A : Nat → Prop) (U : State) (H : Heap) : Prop :=
  va_K D gCl (gTys dA) U ∧ gNW U ∧ gAO U ∧ gNcs U ∧ gLit xad A U H ∧ gSta xad A U H
theorem gFx.go {D : va_G} {dA xad : Nat → Nat} {A B : Nat → Prop} {s U : State} {H H1 : Heap} (h : gFx D dA xad A s H) (hW : s.WarmedH U.vm) (hq : ∀ a : Nat, a < H.size → ¬ A a → H1[a]? = H[a]?) (hAB : ∀ q, B q → A q) : gFx D dA xad B U H1 := by
  obtain ⟨h1, h2, h3, h4, h5, h6, h7, h8, h9, h10⟩ := h
  have hv := hW.alike
  exact ⟨va_K.moved hv h1, h2.warm hW, h3.moved hv, h4.moved hv, fun j q hj => ⟨(h5 j q hj).1.warm hW, (((h5 j q hj).2.moved hv).kept hq).narrow hAB⟩,
    (((h6.moved hv).kept hq).narrow hAB), (((h7.moved hv).kept hq).narrow hAB), (((h8.moved hv).kept hq).narrow hAB), (((h9.moved hv).kept hq).narrow hAB), (((h10.moved hv).kept hq).narrow hAB)⟩
theorem gFx.same {D : va_G} {dA xad : Nat → Nat} {A : Nat → Prop} {u U : State} {H : Heap} (h : gFx D dA xad A u H) (hv : u.vm = U.vm) : gFx D dA xad A U H := by
  obtain ⟨h1, h2, h3, h4, h5, h6, h7, h8, h9, h10⟩ := h
  have hl : u.vm.Alike U.vm := by rw [← hv]; exact Vm.Alike.refl u.vm
  exact ⟨va_K.moved hl h1, h2.same hv, h3.moved hl, h4.moved hl, fun j q hj => ⟨(h5 j q hj).1.same hv.symm, (h5 j q hj).2.moved hl⟩, h6.moved hl, h7.moved hl, h8.moved hl, h9.moved hl, h10.moved hl⟩
/-- a world's cells, listed -/
def gwl (dA : Nat → ClassId) (ad : Nat → Nat) (Ls : List Nat) (G : Nat → gE) : va_W := Ls.map (fun k => (ad k, gme dA ad (G k)))
/-- which addresses a method may change -/
def gAs (ad : Nat → Nat) (g : gWM) (sz : Nat) : Nat → Prop := fun q => (∃ k, g k ≠ none ∧ ad k = q) ∨ sz ≤ q
/-- the heap holds the world g at the addresses ad -/
def gOw (D : va_G) (dA : Nat → ClassId) (A : Nat → Prop) (ad : Nat → Nat) (g : gWM) (H : Heap) : Prop :=
  ∃ (Ls : List Nat) (G : Nat → gE), va_P D gCl (gwl dA ad Ls G) H ∧ va_D A (gwl dA ad Ls G) ∧ (∀ k, (k ∈ Ls → g k = some (G k)) ∧ (k ∉ Ls → g k = none)) ∧ (∀ k, g k ≠ none → 1000 ≤ k) ∧ ∀ k e, g k = some e → gce g e
/-- what a method's frame is: all that stays the same while it runs -/
abbrev gZ : Type := Program × Launch × Env × Room × State × MethodId × Array Value × List Frame × Method × Code × (State → Prop) × va_G × (Nat → ClassId) × (Nat → Nat) × (Nat → Nat) × gWM
def gWd (z : gZ) (ad : Nat → Nat) (g : gWM) (H : Heap) (locs : List Loc) : Prop := match z with
  | (_, _, _, _, s, _, _, _, _, _, _, D, dA, xad, ad0, g0) =>
    gOw D dA (gAs ad0 g0 s.heap.size) ad g H ∧ va_S (gAs ad0 g0 s.heap.size) s.heap H locs ∧ (∀ k, k < 1000 → ad k = xad k) ∧ ∀ k, g0 k ≠ none → g k ≠ none ∧ ad k = ad0 k
/-- THE JUDGEMENT: from here the machine comes to a state with Q -/
def gV (z : gZ) (g : gWM) (kc ks pc : Nat) (lo : List (Option Value)) (st : List Value) : Prop := match z with
  | (p, l, e, R, s, m, args, below, meth, c, Q, _, _, _, _, _) =>
    gcL g st → gcO g lo → ∀ (ad : Nat → Nat) (H : Heap) (locs : List Loc) (ls : Array Slot), gWd z ad g H locs → gLH ls c.maxLocals ad lo →
      W p l e R s m args below meth c H locs kc ks Q (F0 m pc ls (st.map (gmv ad)))
/-- what is known of the frame -/
def gEv (z : gZ) (l : Launch) (cc : ByteArray) (nL : Nat) (own : String) (ret : Option FieldType) (fr mc ms lc : Nat) : Prop := match z with
  | (p, l', _, R, s, m, args, _, meth, c, _, D, dA, xad, ad0, g0) =>
    l' = l ∧ p.tables.exec = Jvm.exec ∧ c.code = cc ∧ c.maxLocals = nL ∧ s.vm.findClass own = some m.cls ∧ (∀ w ∈ lw_all, w.before args s = true) ∧ gFx D dA xad (gAs ad0 g0 s.heap.size) s s.heap ∧ meth.sig.returnType = ret ∧ meth.locks = false ∧ R = { frames := fr, cells := mc, slots := ms, locals := lc }
theorem gwl_at {dA : Nat → ClassId} {ad : Nat → Nat} {g : gWM} {Ls : List Nat} {G : Nat → gE} (hg : ∀ k, (k ∈ Ls → g k = some (G k)) ∧ (k ∉ Ls → g k = none)) {k : Nat} {e : gE} (hk : g k = some e) : ∃ i : Nat, (gwl dA ad Ls G)[i]? = some (ad k, gme dA ad e) := by
  have hm : k ∈ Ls := by
    by_cases hm : k ∈ Ls
    · exact hm
    · rw [(hg k).2 hm] at hk; cases hk
  obtain ⟨i, hi⟩ := List.getElem?_of_mem hm
  have he : G k = e := Option.some.inj (((hg k).1 hm).symm.trans hk)
  refine ⟨i, ?_⟩
  unfold gwl
  rw [List.getElem?_map, hi, ← he]
  rfl
theorem gOw.get {D : va_G} {dA : Nat → ClassId} {A : Nat → Prop} {ad : Nat → Nat} {g : gWM} {H : Heap} (h : gOw D dA A ad g H) {k : Nat} {e : gE} (hk : g k = some e) : ∃ (ws : va_W) (q0 : Nat), va_P D gCl ws H ∧ ws[q0]? = some (ad k, gme dA ad e) := by
  obtain ⟨Ls, G, hP, -, hg, -⟩ := h
  have hm : k ∈ Ls := by
    by_cases hm : k ∈ Ls
    · exact hm
    · rw [(hg k).2 hm] at hk; cases hk
  obtain ⟨i, hi⟩ := List.getElem?_of_mem hm
  have he : G k = e := Option.some.inj (((hg k).1 hm).symm.trans hk)
  refine ⟨_, i, hP, ?_⟩
  unfold gwl
  rw [List.getElem?_map, hi, ← he]
  rfl
theorem gOw.set {D : va_G} {dA : Nat → ClassId} {A : Nat → Prop} {ad : Nat → Nat} {g : gWM} {H : Heap} (h : gOw D dA A ad g H) {k : Nat} {e : gE} (hk : g k = some e) : ∃ (ws : va_W) (q0 : Nat), va_P D gCl ws H ∧ va_D A ws ∧ ws[q0]? = some (ad k, gme dA ad e) ∧ (∀ (b : Nat) (e2 : gE), g b = some e2 → ∃ i : Nat, ws[i]? = some (ad b, gme dA ad e2)) ∧ ∀ (e1 : gE) (H1 : Heap), gce g e1 → va_P D gCl (ws.set q0 (ad k, gme dA ad e1)) H1 → va_D A (ws.set q0 (ad k, gme dA ad e1)) → gOw D dA A ad (gup g k e1) H1 := by
  obtain ⟨Ls, G, hP, hD, hg, hz, hcl⟩ := h
  have hm : k ∈ Ls := by
    by_cases hm : k ∈ Ls
    · exact hm
    · rw [(hg k).2 hm] at hk; cases hk
  obtain ⟨i, hi⟩ := List.getElem?_of_mem hm
  have he : G k = e := Option.some.inj (((hg k).1 hm).symm.trans hk)
  have hat : (gwl dA ad Ls G)[i]? = some (ad k, gme dA ad e) := by
    unfold gwl
    rw [List.getElem?_map, hi, ← he]
    rfl
  refine ⟨_, i, hP, hD, hat, fun b e2 hb => gwl_at hg hb, fun e1 H1 hc1 hP1 hD1 => ?_⟩
  have hset : (gwl dA ad Ls G).set i (ad k, gme dA ad e1) = gwl dA ad Ls (va_up G k e1) := by
    apply List.ext_getElem?
    intro j
    by_cases hj : i = j
    · subst hj
      have hl : i < (gwl dA ad Ls G).length := (List.getElem?_eq_some_iff.mp hat).1
      rw [List.getElem?_set]
      simp only [if_true, hl]
      unfold gwl
      rw [List.getElem?_map, hi]
      simp [va_up]
    · rw [List.getElem?_set_ne hj]
      unfold gwl
      rw [List.getElem?_map, List.getElem?_map]
      cases hLj : Ls[j]? with
      | none => rfl
      | some y =>
        have hy : y ≠ k := by
          intro hyk
          subst hyk
          refine hj (hD.1 i j (ad y, gme dA ad e) (ad y, gme dA ad (G y)) hat ?_ rfl)
          unfold gwl
          rw [List.getElem?_map, hLj]
          rfl
        show some (ad y, gme dA ad (G y)) = some (ad y, gme dA ad (va_up G k e1 y))
        rw [show va_up G k e1 y = G y from if_neg hy]
  have hmono : ∀ n, g n ≠ none → gup g k e1 n ≠ none := fun n hn => gup_dom hn
  rw [hset] at hP1 hD1
  refine ⟨Ls, va_up G k e1, hP1, hD1, fun j => ⟨fun hj => ?_, fun hj => ?_⟩, fun j hj => ?_, fun j e2 hj => ?_⟩
  · by_cases hjk : j = k
    · subst hjk
      rw [gup_s, show va_up G j e1 j = e1 from if_pos rfl]
    · rw [gup_n hjk, (hg j).1 hj, show va_up G k e1 j = G j from if_neg hjk]
  · have hjk : j ≠ k := fun q => hj (q ▸ hm)
    rw [gup_n hjk]
    exact (hg j).2 hj
  · by_cases hjk : j = k
    · subst hjk
      exact hz j (by rw [hk]; exact fun q => by cases q)
    · rw [gup_n hjk] at hj
      exact hz j hj
  · by_cases hjk : j = k
    · subst hjk
      rw [gup_s] at hj
      cases hj
      exact gce_mono hmono hc1
    · rw [gup_n hjk] at hj
      exact gce_mono hmono (hcl j e2 hj)
theorem gOw.push {D : va_G} {dA : Nat → ClassId} {A : Nat → Prop} {ad : Nat → Nat} {g : gWM} {H : Heap} (h : gOw D dA A ad g H) {k : Nat} (hk : g k = none) (hk9 : 1000 ≤ k) : ∃ (ws : va_W), va_P D gCl ws H ∧ va_D A ws ∧ ∀ (e1 : gE) (q : Nat) (H1 : Heap), gce g e1 → va_P D gCl (ws ++ [(q, gme dA ad e1)]) H1 → va_D A (ws ++ [(q, gme dA ad e1)]) → gOw D dA A (va_up ad k q) (gup g k e1) H1 := by
  obtain ⟨Ls, G, hP, hD, hg, hz, hcl⟩ := h
  refine ⟨_, hP, hD, fun e1 q H1 hc1 hP1 hD1 => ?_⟩
  have hag : ∀ n, gok g n → va_up ad k q n = ad n := by
    intro n hn
    refine if_neg fun e => ?_
    subst e
    rcases hn with h1 | h1
    · omega
    · exact h1 hk
  have hm : k ∉ Ls := fun hm => by
    have h1 := (hg k).1 hm
    rw [hk] at h1
    cases h1
  have hmono : ∀ n, g n ≠ none → gup g k e1 n ≠ none := fun n hn => gup_dom hn
  have hset : gwl dA ad Ls G ++ [(q, gme dA ad e1)] = gwl dA (va_up ad k q) (Ls ++ [k]) (va_up G k e1) := by
    unfold gwl
    rw [List.map_append]
    congr 1
    · refine List.map_congr_left fun j hj => ?_
      have hjk : j ≠ k := fun e => hm (e ▸ hj)
      have hgj := (hg j).1 hj
      rw [show va_up ad k q j = ad j from if_neg hjk, show va_up G k e1 j = G j from if_neg hjk, gme_ext hag (hcl j _ hgj)]
    · show [(q, gme dA ad e1)] = [(va_up ad k q k, gme dA (va_up ad k q) (va_up G k e1 k))]
      rw [show va_up ad k q k = q from if_pos rfl, show va_up G k e1 k = e1 from if_pos rfl, gme_ext hag hc1]
  rw [hset] at hP1 hD1
  refine ⟨Ls ++ [k], va_up G k e1, hP1, hD1, fun j => ⟨fun hj => ?_, fun hj => ?_⟩, fun j hj => ?_, fun j e2 hj => ?_⟩
  · by_cases hjk : j = k
    · subst hjk
      rw [gup_s, show va_up G j e1 j = e1 from if_pos rfl]
    · rcases List.mem_append.mp hj with h1 | h1
      · rw [gup_n hjk, (hg j).1 h1, show va_up G k e1 j = G j from if_neg hjk]
      · exact absurd (List.mem_singleton.mp h1) hjk
  · have hjk : j ≠ k := fun e => hj (List.mem_append_right _ (List.mem_singleton.mpr e))
    rw [gup_n hjk]
    exact (hg j).2 fun h1 => hj (List.mem_append_left _ h1)
  · by_cases hjk : j = k
    · rw [hjk]; exact hk9
    · rw [gup_n hjk] at hj
      exact hz j hj
  · by_cases hjk : j = k
    · subst hjk
      rw [gup_s] at hj
      cases hj
      exact gce_mono hmono hc1
    · rw [gup_n hjk] at hj
      exact gce_mono hmono (hcl j e2 hj)
/-! contracts -/
def gPc (D : va_G) (dA xad ad : Nat → Nat) (g : gWM) (sz : Nat) (av : List Value) : Array Value → State → Prop := fun a U =>
  a = (av.map (gmv ad)).toArray ∧ U.heap.size = sz ∧ gcL g av ∧ gOw D dA (gAs ad g sz) ad g U.heap ∧ (∀ k, k < 1000 → ad k = xad k) ∧ gFx D dA xad (gAs ad g sz) U U.heap
def gQc (D : va_G) (dA xad ad : Nat → Nat) (g : gWM) (sz : Nat) (Qr : Option Value → gWM → Prop) : Array Value → State → Outcome → State → Prop := fun _ st o t =>
  (∃ (v : Option Value) (g1 : gWM) (ad1 : Nat → Nat), o = .returned (v.map (gmv ad1)) ∧ Qr v g1 ∧ gcL g1 v.toList ∧ gOw D dA (gAs ad g sz) ad1 g1 t.heap ∧ (∀ k, k < 1000 → ad1 k = xad k) ∧ ∀ k, g k ≠ none → g1 k ≠ none ∧ ad1 k = ad k) ∧ va_F (gAs ad g sz) st t
/-- THE CONTRACT of the method y at the launch l: from the world g, with the arguments av, it returns; its answer and the world then have Qr; fr, mc, ms, lc: its room -/
def gCt (l : Launch) (y : MethodName) (cc : ByteArray) (nL : Nat) (ret : Option FieldType) (fr mc ms lc : Nat) (av : List Value) (g : gWM) (Qr : Option Value → gWM → Prop) : Prop :=
  ∀ (D : va_G) (dA xad ad : Nat → Nat) (sz : Nat), Met l y (ws_ y cc nL ret) { frames := fr, cells := mc, slots := ms, locals := lc } (gPc D dA xad ad g sz av) (gQc D dA xad ad g sz Qr) mc ms (gAs ad g sz)
theorem gPc.blind {D : va_G} {dA xad ad : Nat → Nat} {g : gWM} {sz : Nat} {av : List Value} : FrameBlind (gPc D dA xad ad g sz av) := by
  intro a U f mk h
  obtain ⟨h1, h2, h3, h4, h5, h6⟩ := h
  exact ⟨h1, h2, h3, h4, h5, gFx.same (u := U) (U := U.calling f mk a) h6 rfl⟩
/-- the frame's end is a contract's -/
def gRt (z : gZ) (mc ms : Nat) (g : gWM) (Qr : Option Value → gWM → Prop) : Prop := match z with
  | (_, _, _, _, s, _, args, below, _, _, Q, D, dA, xad, ad0, g0) => g0 = g ∧ Q = MQ below (gQc D dA xad ad0 g0 s.heap.size Qr) args s mc ms (gAs ad0 g0 s.heap.size)
theorem gCt.of {l : Launch} {y : MethodName} {cc : ByteArray} {nL : Nat} {ret : Option FieldType} {fr mc ms lc : Nat} {av : List Value} {g : gWM} {Qr : Option Value → gWM → Prop} (own : String) (hy : plainName y.cls = true) (hown : y.cls = own) {lo : List (Option Value)} (n : Nat) (hlo : lo = glo av ++ List.replicate n none) (hn : (av.map (fun v => v.category)).sum ≤ nL)
    (k : ∀ z : gZ, gEv z l cc nL own ret fr mc ms lc → gRt z mc ms g Qr → gV z g 0 0 0 lo []) : gCt l y cc nL ret fr mc ms lc av g Qr := by
  intro D dA xad ad sz
  refine Met.ofW (cc := cc) (maxL := nL) (ret := ret) hy rfl ?_
  intro p e s m args below meth c s₁ B hml hv
  obtain ⟨rfl, hsz, hav, hO, had, hF⟩ := hv
  subst hsz
  have hts := atoms_spec (ws := ws_ y cc nL ret) B.pre
  have hts : ∀ w ∈ lw_all, w.before _ s = true := fun w h => hts w (List.mem_cons_of_mem _ h)
  have hown2 : s.vm.findClass own = some m.cls := by rw [← hown]; exact findClass_of_methodNamed B.named
  have hz := k (p, l, e, _, s, m, _, below, meth, c, MQ below (gQc D dA xad ad g s.heap.size Qr) ((av.map (gmv ad)).toArray) s mc ms (gAs ad g s.heap.size), D, dA, xad, ad, g)
    ⟨rfl, B.exec, B.bytes, hml, hown2, hts, hF, B.returns, B.notSynchronized, rfl⟩ ⟨rfl, rfl⟩
  have hlen : (lg_sl (av.map (gmv ad))).length ≤ nL := by
    have : ∀ vs : List Value, (lg_sl (vs.map (gmv ad))).length = (vs.map (fun v => v.category)).sum := by
      intro vs
      induction vs with
      | nil => rfl
      | cons v t ih =>
        have e1 : lg_sl ((v :: t).map (gmv ad)) = (if (gmv ad v).category = 2 then [Slot.val (gmv ad v), .second] else [.val (gmv ad v)]) ++ lg_sl (t.map (gmv ad)) := by simp [lg_sl]
        rw [e1, List.length_append, ih, gmv_cat]
        cases v <;> rfl
    rw [this]
    exact hn
  have hl := lv_entry (av.map (gmv ad)) (n := nL) hlen
  rw [lg_entry_eq]
  refine hz trivial (glo_closed hav hlo) ad s.heap [] _ ⟨hO, va_S.rf, had, fun k hk => ⟨hk, rfl⟩⟩ ?_
  rw [hml]
  refine gLH.of hl fun i v hv => ?_
  have := glo_args ad av 0 i v (glo_sub hlo hv)
  rwa [Nat.zero_add] at this
