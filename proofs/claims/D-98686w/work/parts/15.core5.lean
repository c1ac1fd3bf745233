/-! THE CORE, fifth: calls and ends -/
set_option maxRecDepth 100000
theorem gOw.weaken {D : va_G} {dA : Nat → ClassId} {A B : Nat → Prop} {ad : Nat → Nat} {g : gWM} {H : Heap} (h : gOw D dA A ad g H) (hAB : ∀ q, A q → B q) : gOw D dA B ad g H := by
  obtain ⟨Ls, G, hP, hD, hg⟩ := h
  exact ⟨Ls, G, hP, ⟨hD.1, fun k q hk => hAB _ (hD.2 k q hk)⟩, hg⟩
theorem gOw.self {D : va_G} {dA : Nat → ClassId} {A : Nat → Prop} {ad : Nat → Nat} {g : gWM} {H : Heap} (h : gOw D dA A ad g H) (sz : Nat) : gOw D dA (gAs ad g sz) ad g H := by
  obtain ⟨Ls, G, hP, hD, hg, h2⟩ := h
  refine ⟨Ls, G, hP, ⟨hD.1, fun i q hq => ?_⟩, hg, h2⟩
  unfold gwl at hq
  rw [List.getElem?_map] at hq
  cases hL : Ls[i]? with
  | none => rw [hL] at hq; cases hq
  | some k =>
    rw [hL] at hq
    cases hq
    exact Or.inl ⟨k, (by rw [(hg k).1 (List.mem_of_getElem? hL)]; exact (fun h => by cases h)), rfl⟩
theorem gOw.mem {D : va_G} {dA : Nat → ClassId} {A : Nat → Prop} {ad : Nat → Nat} {g : gWM} {H : Heap} (h : gOw D dA A ad g H) {k : Nat} (hk : g k ≠ none) : A (ad k) := by
  obtain ⟨Ls, G, hP, hD, hg, -⟩ := h
  cases hc : g k with
  | none => exact absurd hc hk
  | some e =>
    obtain ⟨i, hi⟩ := gwl_at (dA := dA) (ad := ad) hg hc
    exact hD.2 i _ hi
theorem gOw.inj {D : va_G} {dA : Nat → ClassId} {A : Nat → Prop} {ad : Nat → Nat} {g : gWM} {H : Heap} (h : gOw D dA A ad g H) {k j : Nat} (hk : g k ≠ none) (hj : g j ≠ none) (he : ad k = ad j) : k = j := by
  obtain ⟨Ls, G, hP, hD, hg, -⟩ := h
  have mem : ∀ k, g k ≠ none → k ∈ Ls := fun k hk => by
    by_cases hm : k ∈ Ls
    · exact hm
    · exact absurd ((hg k).2 hm) hk
  obtain ⟨i, hi⟩ := List.getElem?_of_mem (mem k hk)
  obtain ⟨i2, hi2⟩ := List.getElem?_of_mem (mem j hj)
  have h1 : (gwl dA ad Ls G)[i]? = some (ad k, gme dA ad (G k)) := by unfold gwl; rw [List.getElem?_map, hi]; rfl
  have h2 : (gwl dA ad Ls G)[i2]? = some (ad j, gme dA ad (G j)) := by unfold gwl; rw [List.getElem?_map, hi2]; rfl
  have := hD.1 i i2 _ _ h1 h2 he
  subst this
  exact Option.some.inj (hi.symm.trans hi2)
theorem gAs.sub {D : va_G} {dA : Nat → ClassId} {A : Nat → Prop} {ad : Nat → Nat} {g : gWM} {H H0 : Heap} {locs : List Loc} (h : gOw D dA A ad g H) (hS : va_S A H0 H locs) (hA : ∀ q, H0.size ≤ q → A q) : ∀ q, gAs ad g H.size q → A q := by
  intro q hq
  rcases hq with ⟨k, hk, rfl⟩ | hq
  · exact h.mem hk
  · exact hA q (Nat.le_trans hS.1 hq)
def gcat (st : List Value) : Nat := (st.map fun v => v.category).sum
theorem gcat_map (ad : Nat → Nat) (st : List Value) : ((st.map (gmv ad)).map fun v => v.category).sum = gcat st := by
  unfold gcat
  rw [List.map_map]
  congr 1
  exact List.map_congr_left fun v _ => gmv_cat ad v
section GC
variable {p : Program} {l : Launch} {e : Env} {R : Room} {s : State} {m : MethodId} {args : Array Value} {below : List Frame} {meth : Method} {c : Code} {Q : State → Prop} {D : va_G} {dA xad ad0 ad : Nat → Nat} {g0 g : gWM} {H : Heap} {locs : List Loc}
theorem gPreS (hF : gFx D dA xad (gAs ad0 g0 s.heap.size) s s.heap) (hW : gWd (p, l, e, R, s, m, args, below, meth, c, Q, D, dA, xad, ad0, g0) ad g H locs) {av : List Value} (hav : gcL g av) : PreS s H (gPc D dA xad ad g H.size av) (av.map (gmv ad)) := by
  obtain ⟨hO, hS, hx1, hag⟩ := hW
  refine ⟨gPc.blind, fun U hU hWm => ⟨rfl, by rw [hU], hav, by rw [hU]; exact hO.self _, hx1, ?_⟩⟩
  rw [hU]
  exact hF.go hWm (fun a h1 h2 => hS.2.1 a h1 h2) (gAs.sub hO hS (fun q h => Or.inr h))
theorem gPreV (hF : gFx D dA xad (gAs ad0 g0 s.heap.size) s s.heap) (hW : gWd (p, l, e, R, s, m, args, below, meth, c, Q, D, dA, xad, ad0, g0) ad g H locs) {av : List Value} {k ci N : Nat} {C : String} {T : u_T} {ty : Nat → FieldType} {F : Nat → Value} (hav : gcL g (.ref k :: av)) (hk : g k = some (.inr (ci, F))) (hci : gCI ci C T ty N) : PreV s H C (ad k) (gPc D dA xad ad g H.size (.ref k :: av)) (av.map (gmv ad)) := by
  have h1 := gPreS hF hW hav
  obtain ⟨ws, q0, hP, hat⟩ := hW.1.get hk
  exact ⟨h1.1, va_recv (q := (C, T, N)) hF.1 hP hci.1 hat, h1.2⟩
/-- behind a call -/
theorem gBack {Qr : Option Value → gWM → Prop} {kc ks mc1 ms1 pc : Nat} {ls : Array Slot} {st0 st : List Value} {lo : List (Option Value)} {a : Array Value} (hW : gWd (p, l, e, R, s, m, args, below, meth, c, Q, D, dA, xad, ad0, g0) ad g H locs) (hlo : gcO g lo) (hst : gcL g st) (hl : gLH ls c.maxLocals ad lo)
    (hr : va_Run p l e R s m args below meth c H locs kc ks mc1 ms1 (F0 m pc ls st0) (st.map (gmv ad)) (gQc D dA xad ad g H.size Qr a) (gAs ad g H.size))
    (kk : ∀ v g1, Qr v g1 → gV (p, l, e, R, s, m, args, below, meth, c, Q, D, dA, xad, ad0, g0) g1 (kc + mc1) (ks + ms1) (pc + 3) lo (v.toList ++ st)) : W p l e R s m args below meth c H locs kc ks Q (F0 m pc ls st0) := by
  obtain ⟨hO, hS, hx1, hag⟩ := hW
  have hsub := gAs.sub hO hS (fun q h => Or.inr h)
  intro T hT X
  obtain ⟨v, st₀, t, T', L, h0, X', hL, e1, e2, ⟨⟨v1, g1, ad1, hv, hq, hc1, hO1, hx2, hag1⟩, hz, hk⟩, stp⟩ := hr T hT X
  obtain rfl : v = v1.map (gmv ad1) := by injection hv
  rw [h0] at hz hk
  have hmono : ∀ n, g n ≠ none → g1 n ≠ none := fun n hn => (hag1 n hn).1
  have hag2 : ∀ n, gok g n → ad1 n = ad n := fun n hn => by
    rcases hn with h | h
    · rw [hx2 n h, hx1 n h]
    · exact (hag1 n h).2
  have hO2 : gOw D dA (gAs ad0 g0 s.heap.size) ad1 g1 T'.heap := by
    rw [e1]
    exact hO1.weaken hsub
  have hS2 : va_S (gAs ad0 g0 s.heap.size) s.heap T'.heap (locs ++ L) := by
    refine ⟨Nat.le_trans hS.1 (by rw [e1]; exact hz), fun q h1 h2 => ?_, fun q hq => ?_⟩
    · rw [e1, hk q (Nat.lt_of_lt_of_le h1 hS.1) (fun z => h2 (hsub q z))]
      exact hS.2.1 q h1 h2
    · rcases List.mem_append.mp hq with h | h
      · exact hS.2.2 q h
      · exact hsub _ (hL q h)
  have h9 := kk v1 g1 hq (gcL_app hc1 (gcL_mono hmono hst)) (gcO_mono hmono hlo) ad1 T'.heap (locs ++ L) ls ⟨hO2, hS2, hx2, fun k hk => ⟨hmono k (hag k hk).1, by rw [hag2 k (Or.inr (hag k hk).1)]; exact (hag k hk).2⟩⟩ (hl.ext hlo hag2)
  have hst2 : (v1.toList ++ st).map (gmv ad1) = (v1.map (gmv ad1)).toList ++ st.map (gmv ad) := by
    rw [List.map_append, gmvL_ext hag2 hst]
    cases v1 <;> rfl
  rw [hst2] at h9
  obtain ⟨t2, a1, b1⟩ := h9 T' rfl X'
  exact ⟨t2, stp t2 a1, b1⟩
end GC
section GD
variable {z : gZ} {l : Launch} {cc : ByteArray} {nL : Nat} {own : String} {ret : Option FieldType} {fr mc ms lc : Nat} {g : gWM} {kc ks pc q : Nat} {lo : List (Option Value)} {st : List Value}
variable {y : MethodName} {cc1 : ByteArray} {nL1 : Nat} {ret1 : Option FieldType} {fr1 mc1 ms1 lc1 : Nat} {av : List Value} {Qr : Option Value → gWM → Prop}
theorem gstk (ad : Nat → Nat) (av : List Value) (w : Value) (st : List Value) : (av.reverse ++ w :: st).map (gmv ad) = (av.map (gmv ad)).reverse ++ gmv ad w :: st.map (gmv ad) := by
  rw [List.map_append, List.map_reverse, List.map_cons]
theorem gstk0 (ad : Nat → Nat) (av : List Value) (st : List Value) : (av.reverse ++ st).map (gmv ad) = (av.map (gmv ad)).reverse ++ st.map (gmv ad) := by
  rw [List.map_append, List.map_reverse]
theorem gcL_split {av st : List Value} {w : Value} (h : gcL g (av.reverse ++ w :: st)) : gcL g (w :: av) ∧ gcL g st := by
  have hm : ∀ v ∈ av.reverse ++ w :: st, gcv g v := fun v hv => gcL_mem h hv
  refine ⟨gcL_of fun v hv => hm v ?_, gcL_of fun v hv => hm v ?_⟩
  · rcases List.mem_cons.mp hv with e | e
    · rw [e]; simp
    · exact List.mem_append_left _ (List.mem_reverse.mpr e)
  · exact List.mem_append_right _ (List.mem_cons_of_mem _ hv)
theorem gcL_split0 {av st : List Value} (h : gcL g (av.reverse ++ st)) : gcL g av ∧ gcL g st := by
  have hm : ∀ v ∈ av.reverse ++ st, gcv g v := fun v hv => gcL_mem h hv
  exact ⟨gcL_of fun v hv => hm v (List.mem_append_left _ (List.mem_reverse.mpr hv)), gcL_of fun v hv => hm v (List.mem_append_right _ hv)⟩
theorem g_callV (E : gEv z l cc nL own ret fr mc ms lc) {n9 idx k ci N : Nat} {C : String} {T : u_T} {ty : Nat → FieldType} {F : Nat → Value} (hC : gCt l y cc1 nL1 ret1 fr1 mc1 ms1 lc1 (.ref k :: av) g Qr) (hci : gCI ci C T ty N) (d : decode cc pc = .ok (.invokevirtual idx, 3)) (hk : g k = some (.inr (ci, F))) (w1 : Cond.methodLink own idx y ∈ lw_all) (w2 : Cond.instanceMethod y ∈ lw_all) (w3 : Cond.selects C y y ∈ lw_all) (w4 : Cond.initialized C ∈ lw_all) (w5 : Cond.code y cc1 nL1 ret1 ∈ lw_all) (hd : y.cls = C ∧ y.cls ≠ "java/lang/invoke/MethodHandle" ∧ y.cls ≠ "java/lang/invoke/VarHandle" ∧ (parseMethodDescriptor y.desc).map (fun d => d.parameters.length) = some n9) (hn9 : av.length = n9)  {st0 : List Value} (hs0 : st0 = av.reverse ++ .ref k :: st) (hR : fr1 + 1 ≤ fr ∧ 8 + (nL1 + 11) + lc1 ≤ lc) (hf : kc + mc1 ≤ mc ∧ ks + ms1 ≤ ms) (hroom : gcat st ≤ 8) (hq : pc + 3 = q) (kk : ∀ v g1, Qr v g1 → gV z g1 (kc + mc1) (ks + ms1) q lo (v.toList ++ st)) : gV z g kc ks pc lo st0 := by
  obtain ⟨p, l', e, R, s, m, args, below, meth, c, Q, D, dA, xad, ad0, g0⟩ := z
  obtain ⟨rfl, hx, hb, hml, hown, hts, hF, hr, hlk, rfl⟩ := E
  subst hq
  subst hs0
  subst hn9
  intro hst hlo ad H locs ls hW hl
  obtain ⟨hav, hst1⟩ := gcL_split hst
  refine gBack (a := (Value.ref (ad k) :: av.map (gmv ad)).toArray) hW hlo hst1 hl ?_ kk
  refine va_runV (As := av.map (gmv ad)) (rest := st.map (gmv ad)) (nL := nL) ⟨hx, hb, hml, hown, hts⟩ (hC D dA xad ad H.size) (cwV av.length hts (lw_V w1 w2 w3 w4 w5) rfl rfl rfl hd hR) (gPreV hF hW hav hk hci) rfl (by rw [List.length_map]) (by rw [← hml]; exact hl.1) (gstk ad av (.ref k) st) (lv_room (by rw [gcat_map]; exact hroom)) d hf
theorem g_callU (E : gEv z l cc nL own ret fr mc ms lc) {n9 idx k ci N : Nat} {C : String} {T : u_T} {ty : Nat → FieldType} {F : Nat → Value} {owner : String} {x : MethodName} (hC : gCt l y cc1 nL1 ret1 fr1 mc1 ms1 lc1 (.ref k :: av) g Qr) (hci : gCI ci C T ty N) (d : decode cc pc = .ok (.invokevirtual idx, 3)) (hk : g k = some (.inr (ci, F))) (w1 : Cond.methodLink own idx x ∈ lw_all) (w2 : Cond.sameMethod x.cls owner x.name x.desc ∈ lw_all) (w3 : Cond.selects C x y ∈ lw_all) (w4 : Cond.instanceMethod y ∈ lw_all) (w5 : Cond.initialized y.cls ∈ lw_all) (w6 : Cond.code y cc1 nL1 ret1 ∈ lw_all) (hyx : y = ⟨owner, x.name, x.desc⟩) (hd : owner ≠ "java/lang/invoke/MethodHandle" ∧ owner ≠ "java/lang/invoke/VarHandle" ∧ (parseMethodDescriptor x.desc).map (fun d => d.parameters.length) = some n9) (hn9 : av.length = n9)  {st0 : List Value} (hs0 : st0 = av.reverse ++ .ref k :: st) (hR : fr1 + 1 ≤ fr ∧ 8 + (nL1 + 11) + lc1 ≤ lc) (hf : kc + mc1 ≤ mc ∧ ks + ms1 ≤ ms) (hroom : gcat st ≤ 8) (hq : pc + 3 = q) (kk : ∀ v g1, Qr v g1 → gV z g1 (kc + mc1) (ks + ms1) q lo (v.toList ++ st)) : gV z g kc ks pc lo st0 := by
  obtain ⟨p, l', e, R, s, m, args, below, meth, c, Q, D, dA, xad, ad0, g0⟩ := z
  obtain ⟨rfl, hx, hb, hml, hown, hts, hF, hr, hlk, rfl⟩ := E
  subst hq
  subst hs0
  subst hn9
  intro hst hlo ad H locs ls hW hl
  obtain ⟨hav, hst1⟩ := gcL_split hst
  refine gBack (a := (Value.ref (ad k) :: av.map (gmv ad)).toArray) hW hlo hst1 hl ?_ kk
  refine va_runU (As := av.map (gmv ad)) (rest := st.map (gmv ad)) (nL := nL) ⟨hx, hb, hml, hown, hts⟩ (hC D dA xad ad H.size) (va_cwU (C := C) (owner := owner) (x := x) av.length hts (lw_app (fun w hw => by simp only [List.mem_cons, List.not_mem_nil, or_false] at hw; rcases hw with h | h | h | h | h <;> rw [h] <;> assumption) (lw_meth w6)) rfl rfl rfl hyx hd hR) (gPreV hF hW hav hk hci) rfl (by rw [List.length_map]) (by rw [← hml]; exact hl.1) (gstk ad av (.ref k) st) (lv_room (by rw [gcat_map]; exact hroom)) d hf
theorem g_callO (E : gEv z l cc nL own ret fr mc ms lc) {n9 idx k ci N : Nat} {C : String} {T : u_T} {ty : Nat → FieldType} {F : Nat → Value} {owner : String} {x : MethodName} (hC : gCt l y cc1 nL1 ret1 fr1 mc1 ms1 lc1 (.ref k :: av) g Qr) (hci : gCI ci C T ty N) (d : decode cc pc = .ok (.invokevirtual idx, 3)) (hk : g k = some (.inr (ci, F))) (w1 : Cond.methodLink own idx x ∈ lw_all) (w2 : Cond.sameMethod x.cls owner x.name x.desc ∈ lw_all) (w7 : Cond.instanceMethod ⟨owner, x.name, x.desc⟩ ∈ lw_all) (w3 : Cond.selects C x y ∈ lw_all) (w4 : Cond.instanceMethod y ∈ lw_all) (w5 : Cond.initialized y.cls ∈ lw_all) (w6 : Cond.code y cc1 nL1 ret1 ∈ lw_all) {b0 : ByteArray} {m0 : Nat} {r0 : Option FieldType} (w8 : Cond.code ⟨owner, x.name, x.desc⟩ b0 m0 r0 ∈ lw_all) (hd : owner ≠ "java/lang/invoke/MethodHandle" ∧ owner ≠ "java/lang/invoke/VarHandle" ∧ (parseMethodDescriptor x.desc).map (fun d => d.parameters.length) = some n9) (hn9 : av.length = n9)  {st0 : List Value} (hs0 : st0 = av.reverse ++ .ref k :: st) (hR : fr1 + 1 ≤ fr ∧ 8 + (nL1 + 11) + lc1 ≤ lc) (hf : kc + mc1 ≤ mc ∧ ks + ms1 ≤ ms) (hroom : gcat st ≤ 8) (hq : pc + 3 = q) (kk : ∀ v g1, Qr v g1 → gV z g1 (kc + mc1) (ks + ms1) q lo (v.toList ++ st)) : gV z g kc ks pc lo st0 := by
  obtain ⟨p, l', e, R, s, m, args, below, meth, c, Q, D, dA, xad, ad0, g0⟩ := z
  obtain ⟨rfl, hx, hb, hml, hown, hts, hF, hr, hlk, rfl⟩ := E
  subst hq
  subst hs0
  subst hn9
  intro hst hlo ad H locs ls hW hl
  obtain ⟨hav, hst1⟩ := gcL_split hst
  refine gBack (a := (Value.ref (ad k) :: av.map (gmv ad)).toArray) hW hlo hst1 hl ?_ kk
  refine va_runU (As := av.map (gmv ad)) (rest := st.map (gmv ad)) (nL := nL) ⟨hx, hb, hml, hown, hts⟩ (hC D dA xad ad H.size) (va_cwO (C := C) (owner := owner) (x := x) av.length hts (lw_app (fun w hw => by simp only [List.mem_cons, List.not_mem_nil, or_false] at hw; rcases hw with h | h | h | h | h | h <;> rw [h] <;> assumption) (lw_meth w6)) rfl rfl rfl w8 hd hR) (gPreV hF hW hav hk hci) rfl (by rw [List.length_map]) (by rw [← hml]; exact hl.1) (gstk ad av (.ref k) st) (lv_room (by rw [gcat_map]; exact hroom)) d hf
theorem g_callA (E : gEv z l cc nL own ret fr mc ms lc) {n9 idx k ci N : Nat} {C : String} {T : u_T} {ty : Nat → FieldType} {F : Nat → Value} {owner : String} {x : MethodName} (hC : gCt l y cc1 nL1 ret1 fr1 mc1 ms1 lc1 (.ref k :: av) g Qr) (hci : gCI ci C T ty N) (d : decode cc pc = .ok (.invokevirtual idx, 3)) (hk : g k = some (.inr (ci, F))) (w1 : Cond.methodLink own idx x ∈ lw_all) (w2 : Cond.sameMethod x.cls owner x.name x.desc ∈ lw_all) (w7 : Cond.declares ⟨owner, x.name, x.desc⟩ ∈ lw_tbl) (w3 : Cond.selects C x y ∈ lw_all) (w4 : Cond.instanceMethod y ∈ lw_all) (w5 : Cond.initialized y.cls ∈ lw_all) (w6 : Cond.code y cc1 nL1 ret1 ∈ lw_all) (hd : owner ≠ "java/lang/invoke/MethodHandle" ∧ owner ≠ "java/lang/invoke/VarHandle" ∧ (parseMethodDescriptor x.desc).map (fun d => d.parameters.length) = some n9) (hn9 : av.length = n9)  {st0 : List Value} (hs0 : st0 = av.reverse ++ .ref k :: st) (hR : fr1 + 1 ≤ fr ∧ 8 + (nL1 + 11) + lc1 ≤ lc) (hf : kc + mc1 ≤ mc ∧ ks + ms1 ≤ ms) (hroom : gcat st ≤ 8) (hq : pc + 3 = q) (kk : ∀ v g1, Qr v g1 → gV z g1 (kc + mc1) (ks + ms1) q lo (v.toList ++ st)) : gV z g kc ks pc lo st0 := by
  obtain ⟨p, l', e, R, s, m, args, below, meth, c, Q, D, dA, xad, ad0, g0⟩ := z
  obtain ⟨rfl, hx, hb, hml, hown, hts, hF, hr, hlk, rfl⟩ := E
  subst hq
  subst hs0
  subst hn9
  intro hst hlo ad H locs ls hW hl
  obtain ⟨hav, hst1⟩ := gcL_split hst
  refine gBack (a := (Value.ref (ad k) :: av.map (gmv ad)).toArray) hW hlo hst1 hl ?_ kk
  refine va_runU (As := av.map (gmv ad)) (rest := st.map (gmv ad)) (nL := nL) ⟨hx, hb, hml, hown, hts⟩ (hC D dA xad ad H.size) (va_cwA (C := C) (owner := owner) (x := x) av.length hts (lw_app (fun w hw => by simp only [List.mem_cons, List.not_mem_nil, or_false] at hw; rcases hw with h | h | h | h | h <;> rw [h] <;> assumption) (lw_meth w6)) rfl rfl rfl (hF.2.1 _ w7 rfl) hd hR) (gPreV hF hW hav hk hci) rfl (by rw [List.length_map]) (by rw [← hml]; exact hl.1) (gstk ad av (.ref k) st) (lv_room (by rw [gcat_map]; exact hroom)) d hf
theorem g_callI (E : gEv z l cc nL own ret fr mc ms lc) {n9 idx k ci N : Nat} {C : String} {T : u_T} {ty : Nat → FieldType} {F : Nat → Value} (hC : gCt l y cc1 nL1 none fr1 mc1 ms1 lc1 (.ref k :: av) g Qr) (hci : gCI ci C T ty N) (d : decode cc pc = .ok (.invokespecial idx, 3)) (hk : g k = some (.inr (ci, F))) (w1 : Cond.methodLink own idx y ∈ lw_all) (w2 : Cond.instanceMethod y ∈ lw_all) (w4 : Cond.initialized y.cls ∈ lw_all) (w5 : Cond.code y cc1 nL1 none ∈ lw_all) (hd : y.cls ≠ "java/lang/invoke/MethodHandle" ∧ y.cls ≠ "java/lang/invoke/VarHandle" ∧ (parseMethodDescriptor y.desc).map (fun d => d.parameters.length) = some n9) (hn9 : av.length = n9) (hy9 : y.name = "<init>")  {st0 : List Value} (hs0 : st0 = av.reverse ++ .ref k :: st) (hR : fr1 + 1 ≤ fr ∧ 8 + (nL1 + 11) + lc1 ≤ lc) (hf : kc + mc1 ≤ mc ∧ ks + ms1 ≤ ms) (hroom : gcat st ≤ 8) (hq : pc + 3 = q) (kk : ∀ v g1, Qr v g1 → gV z g1 (kc + mc1) (ks + ms1) q lo (v.toList ++ st)) : gV z g kc ks pc lo st0 := by
  obtain ⟨p, l', e, R, s, m, args, below, meth, c, Q, D, dA, xad, ad0, g0⟩ := z
  obtain ⟨rfl, hx, hb, hml, hown, hts, hF, hr, hlk, rfl⟩ := E
  subst hq
  subst hs0
  subst hn9
  intro hst hlo ad H locs ls hW hl
  obtain ⟨hav, hst1⟩ := gcL_split hst
  refine gBack (a := (Value.ref (ad k) :: av.map (gmv ad)).toArray) hW hlo hst1 hl ?_ kk
  refine va_runI (As := av.map (gmv ad)) (rest := st.map (gmv ad)) (nL := nL) ⟨hx, hb, hml, hown, hts⟩ (hC D dA xad ad H.size) (cwI av.length hts (lw_meth w5) rfl rfl rfl (hts _ w4) (hts _ w1) (hts _ w2) hy9 hd hR) (show PreS s H _ (.ref (ad k) :: av.map (gmv ad)) from gPreS (av := .ref k :: av) hF hW hav) rfl (by rw [List.length_map]) (by rw [← hml]; exact hl.1) (gstk ad av (.ref k) st) (lv_room (by rw [gcat_map]; exact hroom)) d hf
theorem g_callIN (E : gEv z l cc nL own ret fr mc ms lc) {n9 idx k ci N : Nat} {C : String} {T : u_T} {ty : Nat → FieldType} {F : Nat → Value} {host : String} (hC : gCt l y cc1 nL1 none fr1 mc1 ms1 lc1 (.ref k :: av) g Qr) (hci : gCI ci C T ty N) (d : decode cc pc = .ok (.invokespecial idx, 3)) (hk : g k = some (.inr (ci, F))) (w1 : Cond.methodLinkNest own idx y host ∈ lw_tbl) (w2 : Cond.instanceMethod y ∈ lw_all) (w4 : Cond.initialized y.cls ∈ lw_all) (w5 : Cond.code y cc1 nL1 none ∈ lw_all) (hd : y.cls ≠ "java/lang/invoke/MethodHandle" ∧ y.cls ≠ "java/lang/invoke/VarHandle" ∧ (parseMethodDescriptor y.desc).map (fun d => d.parameters.length) = some n9) (hn9 : av.length = n9) (hy9 : y.name = "<init>")  {st0 : List Value} (hs0 : st0 = av.reverse ++ .ref k :: st) (hR : fr1 + 1 ≤ fr ∧ 8 + (nL1 + 11) + lc1 ≤ lc) (hf : kc + mc1 ≤ mc ∧ ks + ms1 ≤ ms) (hroom : gcat st ≤ 8) (hq : pc + 3 = q) (kk : ∀ v g1, Qr v g1 → gV z g1 (kc + mc1) (ks + ms1) q lo (v.toList ++ st)) : gV z g kc ks pc lo st0 := by
  obtain ⟨p, l', e, R, s, m, args, below, meth, c, Q, D, dA, xad, ad0, g0⟩ := z
  obtain ⟨rfl, hx, hb, hml, hown, hts, hF, hr, hlk, rfl⟩ := E
  subst hq
  subst hs0
  subst hn9
  intro hst hlo ad H locs ls hW hl
  obtain ⟨hav, hst1⟩ := gcL_split hst
  refine gBack (a := (Value.ref (ad k) :: av.map (gmv ad)).toArray) hW hlo hst1 hl ?_ kk
  refine va_runIN (As := av.map (gmv ad)) (rest := st.map (gmv ad)) (nL := nL) ⟨hx, hb, hml, hown, hts⟩ (hC D dA xad ad H.size) ⟨va_cnB av.length hts (lw_meth w5) rfl rfl rfl (hF.2.1 _ w1 rfl) (hts _ w4) hd hR, hy9, hts _ w2⟩ (show PreS s H _ (.ref (ad k) :: av.map (gmv ad)) from gPreS (av := .ref k :: av) hF hW hav) rfl (by rw [List.length_map]) (by rw [← hml]; exact hl.1) (gstk ad av (.ref k) st) (lv_room (by rw [gcat_map]; exact hroom)) d hf
theorem g_callVN (E : gEv z l cc nL own ret fr mc ms lc) {n9 idx k ci N : Nat} {C : String} {T : u_T} {ty : Nat → FieldType} {F : Nat → Value} {host : String} (hC : gCt l y cc1 nL1 ret1 fr1 mc1 ms1 lc1 (.ref k :: av) g Qr) (hci : gCI ci C T ty N) (d : decode cc pc = .ok (.invokevirtual idx, 3)) (hk : g k = some (.inr (ci, F))) (w1 : Cond.methodLinkNest own idx y host ∈ lw_tbl) (w2 : Cond.instanceMethod y ∈ lw_all) (w3 : Cond.selects C y y ∈ lw_all) (w4 : Cond.initialized y.cls ∈ lw_all) (w5 : Cond.code y cc1 nL1 ret1 ∈ lw_all) (hd : y.cls ≠ "java/lang/invoke/MethodHandle" ∧ y.cls ≠ "java/lang/invoke/VarHandle" ∧ (parseMethodDescriptor y.desc).map (fun d => d.parameters.length) = some n9) (hn9 : av.length = n9)  {st0 : List Value} (hs0 : st0 = av.reverse ++ .ref k :: st) (hR : fr1 + 1 ≤ fr ∧ 8 + (nL1 + 11) + lc1 ≤ lc) (hf : kc + mc1 ≤ mc ∧ ks + ms1 ≤ ms) (hroom : gcat st ≤ 8) (hq : pc + 3 = q) (kk : ∀ v g1, Qr v g1 → gV z g1 (kc + mc1) (ks + ms1) q lo (v.toList ++ st)) : gV z g kc ks pc lo st0 := by
  obtain ⟨p, l', e, R, s, m, args, below, meth, c, Q, D, dA, xad, ad0, g0⟩ := z
  obtain ⟨rfl, hx, hb, hml, hown, hts, hF, hr, hlk, rfl⟩ := E
  subst hq
  subst hs0
  subst hn9
  intro hst hlo ad H locs ls hW hl
  obtain ⟨hav, hst1⟩ := gcL_split hst
  refine gBack (a := (Value.ref (ad k) :: av.map (gmv ad)).toArray) hW hlo hst1 hl ?_ kk
  refine va_runVN (As := av.map (gmv ad)) (rest := st.map (gmv ad)) (nL := nL) ⟨hx, hb, hml, hown, hts⟩ (hC D dA xad ad H.size) ⟨va_cnB av.length hts (lw_meth w5) rfl rfl rfl (hF.2.1 _ w1 rfl) (hts _ w4) hd hR, hts _ w2, hts _ w3⟩ (gPreV hF hW hav hk hci) rfl (by rw [List.length_map]) (by rw [← hml]; exact hl.1) (gstk ad av (.ref k) st) (lv_room (by rw [gcat_map]; exact hroom)) d hf
theorem g_callSU (E : gEv z l cc nL own ret fr mc ms lc) {n9 idx k ci N : Nat} {C : String} {T : u_T} {ty : Nat → FieldType} {F : Nat → Value} (hC : gCt l y cc1 nL1 ret1 fr1 mc1 ms1 lc1 (.ref k :: av) g Qr) (hci : gCI ci C T ty N) (d : decode cc pc = .ok (.invokespecial idx, 3)) (hk : g k = some (.inr (ci, F))) (w1 : Cond.methodLink own idx y ∈ lw_all) (w2 : Cond.sameMethod y.cls y.cls y.name y.desc ∈ lw_all) (w3 : Cond.superclass own y.cls ∈ lw_all) (w4 : Cond.instanceMethod y ∈ lw_all) (w5 : Cond.initialized y.cls ∈ lw_all) (w6 : Cond.code y cc1 nL1 ret1 ∈ lw_all) (hd : y.name ≠ "<init>" ∧ (parseMethodDescriptor y.desc).map (fun d => d.parameters.length) = some n9) (hn9 : av.length = n9)  {st0 : List Value} (hs0 : st0 = av.reverse ++ .ref k :: st) (hR : fr1 + 1 ≤ fr ∧ 8 + (nL1 + 11) + lc1 ≤ lc) (hf : kc + mc1 ≤ mc ∧ ks + ms1 ≤ ms) (hroom : gcat st ≤ 8) (hq : pc + 3 = q) (kk : ∀ v g1, Qr v g1 → gV z g1 (kc + mc1) (ks + ms1) q lo (v.toList ++ st)) : gV z g kc ks pc lo st0 := by
  obtain ⟨p, l', e, R, s, m, args, below, meth, c, Q, D, dA, xad, ad0, g0⟩ := z
  obtain ⟨rfl, hx, hb, hml, hown, hts, hF, hr, hlk, rfl⟩ := E
  subst hq
  subst hs0
  subst hn9
  intro hst hlo ad H locs ls hW hl
  obtain ⟨hav, hst1⟩ := gcL_split hst
  refine gBack (a := (Value.ref (ad k) :: av.map (gmv ad)).toArray) hW hlo hst1 hl ?_ kk
  refine va_runSU (C := C) (cC := D.1 ci) (hF.1.1 ci _ hci.1).2 (As := av.map (gmv ad)) (rest := st.map (gmv ad)) (nL := nL) ⟨hx, hb, hml, hown, hts⟩ (hC D dA xad ad H.size) (va_cwSU av.length hts (lw_app (fun w hw => by simp only [List.mem_cons, List.not_mem_nil, or_false] at hw; rcases hw with h | h | h | h | h <;> rw [h] <;> assumption) (lw_meth w6)) rfl rfl rfl hd hR) (gPreV hF hW hav hk hci) rfl (by rw [List.length_map]) (by rw [← hml]; exact hl.1) (gstk ad av (.ref k) st) (lv_room (by rw [gcat_map]; exact hroom)) d hf
theorem g_callS (E : gEv z l cc nL own ret fr mc ms lc) {n9 idx : Nat} (hC : gCt l y cc1 nL1 ret1 fr1 mc1 ms1 lc1 av g Qr) (d : decode cc pc = .ok (.invokestatic idx, 3)) (w1 : Cond.methodLink own idx y ∈ lw_all) (w2 : Cond.static y ∈ lw_all) (w3 : Cond.initialized y.cls ∈ lw_all) (w4 : Cond.code y cc1 nL1 ret1 ∈ lw_all) (hd : y.cls ≠ "java/lang/invoke/MethodHandle" ∧ y.cls ≠ "java/lang/invoke/VarHandle" ∧ (parseMethodDescriptor y.desc).map (fun d => d.parameters.length) = some n9) (hn9 : av.length = n9) {st0 : List Value} (hs0 : st0 = av.reverse ++ st) (hR : fr1 + 1 ≤ fr ∧ 8 + (nL1 + 11) + lc1 ≤ lc) (hf : kc + mc1 ≤ mc ∧ ks + ms1 ≤ ms) (hroom : gcat st ≤ 8) (hq : pc + 3 = q) (kk : ∀ v g1, Qr v g1 → gV z g1 (kc + mc1) (ks + ms1) q lo (v.toList ++ st)) : gV z g kc ks pc lo st0 := by
  obtain ⟨p, l', e, R, s, m, args, below, meth, c, Q, D, dA, xad, ad0, g0⟩ := z
  obtain ⟨rfl, hx, hb, hml, hown, hts, hF, hr, hlk, rfl⟩ := E
  subst hq
  subst hs0
  subst hn9
  intro hst hlo ad H locs ls hW hl
  obtain ⟨hav, hst1⟩ := gcL_split0 hst
  refine gBack (a := (av.map (gmv ad)).toArray) hW hlo hst1 hl ?_ kk
  exact va_runS (As := av.map (gmv ad)) (rest := st.map (gmv ad)) (nL := nL) ⟨hx, hb, hml, hown, hts⟩ (hC D dA xad ad H.size) (va_cwS av.length hts (lw_S w1 w2 w3 w4) rfl rfl rfl hd hR) (gPreS hF hW hav) rfl (by rw [List.length_map]) (by rw [← hml]; exact hl.1) (gstk0 ad av st) (lv_room (by rw [gcat_map]; exact hroom)) d hf
theorem g_callSN (E : gEv z l cc nL own ret fr mc ms lc) {n9 idx : Nat} {host : String} (hC : gCt l y cc1 nL1 ret1 fr1 mc1 ms1 lc1 av g Qr) (d : decode cc pc = .ok (.invokestatic idx, 3)) (w1 : Cond.methodLinkNest own idx y host ∈ lw_tbl) (w2 : Cond.static y ∈ lw_all) (w3 : Cond.initialized y.cls ∈ lw_all) (w4 : Cond.code y cc1 nL1 ret1 ∈ lw_all) (hd : y.cls ≠ "java/lang/invoke/MethodHandle" ∧ y.cls ≠ "java/lang/invoke/VarHandle" ∧ (parseMethodDescriptor y.desc).map (fun d => d.parameters.length) = some n9) (hn9 : av.length = n9) {st0 : List Value} (hs0 : st0 = av.reverse ++ st) (hR : fr1 + 1 ≤ fr ∧ 8 + (nL1 + 11) + lc1 ≤ lc) (hf : kc + mc1 ≤ mc ∧ ks + ms1 ≤ ms) (hroom : gcat st ≤ 8) (hq : pc + 3 = q) (kk : ∀ v g1, Qr v g1 → gV z g1 (kc + mc1) (ks + ms1) q lo (v.toList ++ st)) : gV z g kc ks pc lo st0 := by
  obtain ⟨p, l', e, R, s, m, args, below, meth, c, Q, D, dA, xad, ad0, g0⟩ := z
  obtain ⟨rfl, hx, hb, hml, hown, hts, hF, hr, hlk, rfl⟩ := E
  subst hq
  subst hs0
  subst hn9
  intro hst hlo ad H locs ls hW hl
  obtain ⟨hav, hst1⟩ := gcL_split0 hst
  refine gBack (a := (av.map (gmv ad)).toArray) hW hlo hst1 hl ?_ kk
  exact va_runSN (As := av.map (gmv ad)) (rest := st.map (gmv ad)) (nL := nL) ⟨hx, hb, hml, hown, hts⟩ (hC D dA xad ad H.size) ⟨va_cnB av.length hts (lw_meth w4) rfl rfl rfl (hF.2.1 _ w1 rfl) (hts _ w3) hd hR, hts _ w2, trivial⟩ (gPreS hF hW hav) rfl (by rw [List.length_map]) (by rw [← hml]; exact hl.1) (gstk0 ad av st) (lv_room (by rw [gcat_map]; exact hroom)) d hf
theorem g_iret (E : gEv z l cc nL own ret fr mc ms lc) {gq : gWM} (Rt : gRt z mc ms gq Qr) {v : Int32} (d : decode cc pc = .ok (.ireturn, 1)) (hret : ret = some .int)  (h1 : kc ≤ mc) (h2 : ks ≤ ms) (hQ : Qr (some (.int v)) g) : gV z g kc ks pc lo [.int v] := by
  obtain ⟨p, l', e, R, s, m, args, below, meth, c, Q, D, dA, xad, ad0, g0⟩ := z
  obtain ⟨rfl, hx, hb, hml, hown, hts, hF, hr, hlk, rfl⟩ := E
  obtain ⟨rfl, rfl⟩ := Rt
  intro hst hlo ad H locs ls hW hl
  obtain ⟨hO, hS, hx1, hag⟩ := hW
  refine W.widen h1 h2 ?_
  refine W.iret hx hb (hr.trans hret) (fun t ht hWm => ⟨⟨(some (.int v)), g, ad, rfl, hQ, hst, by rw [ht]; exact hO, hx1, hag⟩, hS.F ht⟩) hS.2.2 d hlk
theorem g_zret (E : gEv z l cc nL own ret fr mc ms lc) {gq : gWM} (Rt : gRt z mc ms gq Qr) {v : Int32} {ty9 : FieldType} (d : decode cc pc = .ok (.ireturn, 1)) (hret : ret = some ty9) (hn : narrow ty9 (.int v) = .int v) (h1 : kc ≤ mc) (h2 : ks ≤ ms) (hQ : Qr (some (.int v)) g) : gV z g kc ks pc lo [.int v] := by
  obtain ⟨p, l', e, R, s, m, args, below, meth, c, Q, D, dA, xad, ad0, g0⟩ := z
  obtain ⟨rfl, hx, hb, hml, hown, hts, hF, hr, hlk, rfl⟩ := E
  obtain ⟨rfl, rfl⟩ := Rt
  intro hst hlo ad H locs ls hW hl
  obtain ⟨hO, hS, hx1, hag⟩ := hW
  refine W.widen h1 h2 ?_
  refine W.zret hx hb (hr.trans hret) hn (fun t ht hWm => ⟨⟨(some (.int v)), g, ad, rfl, hQ, hst, by rw [ht]; exact hO, hx1, hag⟩, hS.F ht⟩) hS.2.2 d hlk
theorem g_lret (E : gEv z l cc nL own ret fr mc ms lc) {gq : gWM} (Rt : gRt z mc ms gq Qr) {v : Int64} (d : decode cc pc = .ok (.lreturn, 1)) (hret : ret = some .long)  (h1 : kc ≤ mc) (h2 : ks ≤ ms) (hQ : Qr (some (.long v)) g) : gV z g kc ks pc lo [.long v] := by
  obtain ⟨p, l', e, R, s, m, args, below, meth, c, Q, D, dA, xad, ad0, g0⟩ := z
  obtain ⟨rfl, hx, hb, hml, hown, hts, hF, hr, hlk, rfl⟩ := E
  obtain ⟨rfl, rfl⟩ := Rt
  intro hst hlo ad H locs ls hW hl
  obtain ⟨hO, hS, hx1, hag⟩ := hW
  refine W.widen h1 h2 ?_
  refine W.lret hx hb (hr.trans hret) (fun t ht hWm => ⟨⟨(some (.long v)), g, ad, rfl, hQ, hst, by rw [ht]; exact hO, hx1, hag⟩, hS.F ht⟩) hS.2.2 d hlk
theorem g_vret (E : gEv z l cc nL own ret fr mc ms lc) {gq : gWM} (Rt : gRt z mc ms gq Qr)  (d : decode cc pc = .ok (.return_, 1)) (hret : ret = none)  (h1 : kc ≤ mc) (h2 : ks ≤ ms) (hQ : Qr none g) : gV z g kc ks pc lo [] := by
  obtain ⟨p, l', e, R, s, m, args, below, meth, c, Q, D, dA, xad, ad0, g0⟩ := z
  obtain ⟨rfl, hx, hb, hml, hown, hts, hF, hr, hlk, rfl⟩ := E
  obtain ⟨rfl, rfl⟩ := Rt
  intro hst hlo ad H locs ls hW hl
  obtain ⟨hO, hS, hx1, hag⟩ := hW
  refine W.widen h1 h2 ?_
  refine W.vret hx hb (hr.trans hret) (fun t ht hWm => ⟨⟨none, g, ad, rfl, hQ, trivial, by rw [ht]; exact hO, hx1, hag⟩, hS.F ht⟩) hS.2.2 d hlk
theorem g_aret (E : gEv z l cc nL own ret fr mc ms lc) {gq : gWM} (Rt : gRt z mc ms gq Qr) {v : Nat} {ty9 : FieldType} (d : decode cc pc = .ok (.areturn, 1)) (hret : ret = some ty9) (hty : (∃ n, ty9 = .object n) ∨ ∃ t, ty9 = .array t) (h1 : kc ≤ mc) (h2 : ks ≤ ms) (hQ : Qr (some (.ref v)) g) : gV z g kc ks pc lo [.ref v] := by
  obtain ⟨p, l', e, R, s, m, args, below, meth, c, Q, D, dA, xad, ad0, g0⟩ := z
  obtain ⟨rfl, hx, hb, hml, hown, hts, hF, hr, hlk, rfl⟩ := E
  obtain ⟨rfl, rfl⟩ := Rt
  intro hst hlo ad H locs ls hW hl
  obtain ⟨hO, hS, hx1, hag⟩ := hW
  refine W.widen h1 h2 ?_
  refine W.aret hx hb (hr.trans hret) hty (Or.inr ⟨_, rfl⟩) (fun t ht hWm => ⟨⟨(some (.ref v)), g, ad, rfl, hQ, hst, by rw [ht]; exact hO, hx1, hag⟩, hS.F ht⟩) hS.2.2 d hlk
theorem g_aretN (E : gEv z l cc nL own ret fr mc ms lc) {gq : gWM} (Rt : gRt z mc ms gq Qr) {ty9 : FieldType} (d : decode cc pc = .ok (.areturn, 1)) (hret : ret = some ty9) (hty : (∃ n, ty9 = .object n) ∨ ∃ t, ty9 = .array t) (h1 : kc ≤ mc) (h2 : ks ≤ ms) (hQ : Qr (some .null) g) : gV z g kc ks pc lo [.null] := by
  obtain ⟨p, l', e, R, s, m, args, below, meth, c, Q, D, dA, xad, ad0, g0⟩ := z
  obtain ⟨rfl, hx, hb, hml, hown, hts, hF, hr, hlk, rfl⟩ := E
  obtain ⟨rfl, rfl⟩ := Rt
  intro hst hlo ad H locs ls hW hl
  obtain ⟨hO, hS, hx1, hag⟩ := hW
  refine W.widen h1 h2 ?_
  refine W.aret hx hb (hr.trans hret) hty (Or.inl rfl) (fun t ht hWm => ⟨⟨(some .null), g, ad, rfl, hQ, hst, by rw [ht]; exact hO, hx1, hag⟩, hS.F ht⟩) hS.2.2 d hlk
theorem g_objInit (E : gEv z l cc nL own ret fr mc ms lc) {idx k : Nat} (d : decode cc pc = .ok (.invokespecial idx, 3)) (w1 : Cond.methodLink own idx Lib.objectInit ∈ lw_all) (w2 : Cond.instanceMethod Lib.objectInit ∈ lw_all) (w3 : Cond.code Lib.objectInit ⟨#[0xb1]⟩ 1 none ∈ lw_all) (hR : 1 ≤ fr ∧ 20 ≤ lc) (hroom : gcat st ≤ 8) (hq : pc + 3 = q) (kk : gV z g kc ks q lo st) : gV z g kc ks pc lo (.ref k :: st) := by
  obtain ⟨p, l', e, R, s, m, args, below, meth, c, Q, D, dA, xad, ad0, g0⟩ := z
  obtain ⟨rfl, hx, hb, hml, hown, hts, hF, hr, hlk, rfl⟩ := E
  subst hq
  intro hst hlo ad H locs ls hW hl
  refine W.objInit hx hb hown (hts _ w1) (hts _ w2) (hts _ w3) (g := F0 m pc ls ((Value.ref k :: st).map (gmv ad))) (rest := st.map (gmv ad)) rfl hl.1 rfl d hR.1 ?_ ?_
  · have := lv_room (pc := pc) (m := m) (ls := ls) (rest := ((Value.ref k :: st).map (gmv ad))) (st := st.map (gmv ad)) (by rw [gcat_map]; exact hroom)
    have h2 := hR.2
    exact Nat.le_trans (Nat.add_le_add_right this 12) h2
  · exact kk hst.2 hlo ad H locs ls hW hl
theorem g_mmax (E : gEv z l cc nL own ret fr mc ms lc) {idx : Nat} {x y9 : Int32} (d : decode cc pc = .ok (.invokestatic idx, 3)) (w1 : Cond.methodLink own idx Lib.Math.max.name ∈ lw_all) (w2 : Cond.static Lib.Math.max.name ∈ lw_all) (w3 : Cond.initialized "java/lang/Math" ∈ lw_all) (w4 : Cond.code Lib.Math.max.name Lib.Math.max.code 2 (some .int) ∈ lw_all) (hR : 1 ≤ fr ∧ 24 ≤ lc) (h1 : kc ≤ mc) (h2 : ks ≤ ms) (hroom : gcat st ≤ 8) (hq : pc + 3 = q) (kk : gV z g kc ks q lo (.int (if x < y9 then y9 else x) :: st)) : gV z g kc ks pc lo (.int y9 :: .int x :: st) := by
  obtain ⟨p, l', e, R, s, m, args, below, meth, c, Q, D, dA, xad, ad0, g0⟩ := z
  obtain ⟨rfl, hx, hb, hml, hown, hts, hF, hr, hlk, rfl⟩ := E
  subst hq
  intro hst hlo ad H locs ls hW hl
  exact va_mmax hx hb hl.1.symm hown (hts _ w1) (hts _ w2) (hts _ w3) (hts _ w4) hR.1 (by rw [gcat_map]; have := hR.2; show gcat st + 13 ≤ lc; omega) h1 h2 d (kk ⟨trivial, hst.2.2⟩ hlo ad H locs ls hW hl)
theorem g_mmin (E : gEv z l cc nL own ret fr mc ms lc) {idx : Nat} {x y9 : Int32} (d : decode cc pc = .ok (.invokestatic idx, 3)) (w1 : Cond.methodLink own idx Lib.Math.min.name ∈ lw_all) (w2 : Cond.static Lib.Math.min.name ∈ lw_all) (w3 : Cond.initialized "java/lang/Math" ∈ lw_all) (w4 : Cond.code Lib.Math.min.name Lib.Math.min.code 2 (some .int) ∈ lw_all) (hR : 1 ≤ fr ∧ 24 ≤ lc) (h1 : kc ≤ mc) (h2 : ks ≤ ms) (hroom : gcat st ≤ 8) (hq : pc + 3 = q) (kk : gV z g kc ks q lo (.int (if y9 < x then y9 else x) :: st)) : gV z g kc ks pc lo (.int y9 :: .int x :: st) := by
  obtain ⟨p, l', e, R, s, m, args, below, meth, c, Q, D, dA, xad, ad0, g0⟩ := z
  obtain ⟨rfl, hx, hb, hml, hown, hts, hF, hr, hlk, rfl⟩ := E
  subst hq
  intro hst hlo ad H locs ls hW hl
  exact va_mmin hx hb hl.1.symm hown (hts _ w1) (hts _ w2) (hts _ w3) (hts _ w4) hR.1 (by rw [gcat_map]; have := hR.2; show gcat st + 13 ≤ lc; omega) h1 h2 d (kk ⟨trivial, hst.2.2⟩ hlo ad H locs ls hW hl)
theorem g_lcmp (E : gEv z l cc nL own ret fr mc ms lc) {x y9 : Int64} (d : decode cc pc = .ok (.lcmp, 1)) (hq : pc + 1 = q) (kk : gV z g kc ks q lo (.int (lg_cmp x y9) :: st)) : gV z g kc ks pc lo (.long y9 :: .long x :: st) := by
  obtain ⟨p, l', e, R, s, m, args, below, meth, c, Q, D, dA, xad, ad0, g0⟩ := z
  obtain ⟨rfl, hx, hb, hml, hown, hts, hF, hr, hlk, rfl⟩ := E
  subst hq
  intro hst hlo ad H locs ls hW hl
  exact W.lcmp hx hb d (kk ⟨trivial, hst.2.2⟩ hlo ad H locs ls hW hl)
theorem g_copyI (E : gEv z l cc nL own ret fr mc ms lc) {idx a b n0 n1 : Nat} {f f1 : Nat → Int32} {n : Int32} {j : Nat} (d : decode cc pc = .ok (.invokestatic idx, 3)) (w1 : Cond.methodLink own idx arraycopyName ∈ lw_all) (w2 : Cond.native arraycopyName ∈ lw_all) (w3 : Cond.static arraycopyName ∈ lw_all) (w4 : Cond.initialized "java/lang/System" ∈ lw_all) (hka : g a = some (.inl (0, n0, .inl f))) (hkb : g b = some (.inl (0, n1, .inl f1))) (hn : n = nI j) (hj : j < 65536) (h4 : j ≤ n0) (h5 : j ≤ n1) (hR : 1 ≤ fr ∧ 60 ≤ lc) (hroom : gcat st ≤ 8) (hq : pc + 3 = q) (kk : gV z (gup g b (.inl (0, n1, .inl (va_cpy f f1 0 0 j)))) kc ks q lo st) : gV z g kc ks pc lo (.int n :: .int 0 :: .ref b :: .int 0 :: .ref a :: st) := by
  obtain ⟨p, l', e, R, s, m, args, below, meth, c, Q, D, dA, xad, ad0, g0⟩ := z
  obtain ⟨rfl, hx, hb, hml, hown, hts, hF, hr, hlk, rfl⟩ := E
  subst hq
  subst hn
  intro hst hlo ad H locs ls hW hl
  obtain ⟨hO, hS, hx1, hag⟩ := hW
  obtain ⟨ws, q1, hP, hD, hat, hoth, hset⟩ := hO.set hkb
  obtain ⟨q0, hat0⟩ := hoth a _ hka
  have hmono : ∀ n9, g n9 ≠ none → gup g b (.inl (0, n1, .inl (va_cpy f f1 0 0 j))) n9 ≠ none := fun n9 h => gup_dom h
  have hc : (nI j).toNatClampNeg = j := nI_clamp (by omega)
  refine va_copyi (D := D) (cl := gCl) (tys := gTys dA) (ty := .int) hx hb hl.1.symm hown (hts _ w1) (hts _ w2) (hts _ w3) (hts _ w4) hF.1 hP hD hS q0 q1 0 0 hat0 hat rfl rfl rfl (by decide) (by decide) (nI_pos (by omega)) (by rw [hc]; exact (Nat.zero_add j).symm ▸ h4) (by rw [hc]; exact (Nat.zero_add j).symm ▸ h5) (fun i hi => rfl) hR.1 (by rw [gcat_map]; exact Nat.le_trans (Nat.add_le_add_right hroom _) (Nat.le_trans (by decide +kernel) hR.2)) d (fun H1 locs1 hP1 hD1 hS1 => ?_)
  rw [hc] at hP1 hD1
  exact kk (gcL_mono hmono hst.2.2.2.2.2) (gcO_mono hmono hlo) ad H1 locs1 ls ⟨hset _ H1 trivial hP1 hD1, hS1, hx1, gup_ne0 hag⟩ hl
theorem g_instY (E : gEv z l cc nL own ret fr mc ms lc) {n9 idx k ci N : Nat} {C nm : String} {T : u_T} {ty : Nat → FieldType} {F : Nat → Value} (hci : gCI ci C T ty N) (d : decode cc pc = .ok (.instanceof idx, 3)) (hk : g k = some (.inr (ci, F))) (w1 : Cond.classLink own idx nm ∈ lw_all) (hc : C = nm ∨ Cond.castable C nm ∈ lw_tbl) (hq : pc + 3 = q) (kk : gV z g kc ks q lo (.int 1 :: st)) : gV z g kc ks pc lo (.ref k :: st) := by
  obtain ⟨p, l', e, R, s, m, args, below, meth, c, Q, D, dA, xad, ad0, g0⟩ := z
  obtain ⟨rfl, hx, hb, hml, hown, hts, hF, hr, hlk, rfl⟩ := E
  subst hq
  intro hst hlo ad H locs ls hW hl
  obtain ⟨ws, q0, hP, hat⟩ := hW.1.get hk
  have hr9 := va_recv (q := (C, T, N)) hF.1 hP hci.1 hat
  rcases hc with h | h
  · subst h
    exact va_instE hx hb hown (hts _ w1) hr9 d (kk ⟨trivial, hst.2⟩ hlo ad H locs ls hW hl)
  · exact va_instY hx hb hown (hts _ w1) (hF.2.1 _ h rfl) hr9 d (kk ⟨trivial, hst.2⟩ hlo ad H locs ls hW hl)
theorem g_instNo (E : gEv z l cc nL own ret fr mc ms lc) {n9 idx k ci N : Nat} {C nm : String} {T : u_T} {ty : Nat → FieldType} {F : Nat → Value} (hci : gCI ci C T ty N) (d : decode cc pc = .ok (.instanceof idx, 3)) (hk : g k = some (.inr (ci, F))) (w1 : Cond.classLink own idx nm ∈ lw_all) (hc : (C, nm) ∈ gNo) (hq : pc + 3 = q) (kk : gV z g kc ks q lo (.int 0 :: st)) : gV z g kc ks pc lo (.ref k :: st) := by
  obtain ⟨p, l', e, R, s, m, args, below, meth, c, Q, D, dA, xad, ad0, g0⟩ := z
  obtain ⟨rfl, hx, hb, hml, hown, hts, hF, hr, hlk, rfl⟩ := E
  subst hq
  intro hst hlo ad H locs ls hW hl
  obtain ⟨ws, q0, hP, hat⟩ := hW.1.get hk
  have hr9 := va_recv (q := (C, T, N)) hF.1 hP hci.1 hat
  exact va_instNo hx hb hown (hts _ w1) (hF.2.2.2.1 _ hc) hr9 d (kk ⟨trivial, hst.2⟩ hlo ad H locs ls hW hl)
theorem g_cast1 (E : gEv z l cc nL own ret fr mc ms lc) {n9 idx k ci N : Nat} {C nm : String} {T : u_T} {ty : Nat → FieldType} {F : Nat → Value} (hci : gCI ci C T ty N) (d : decode cc pc = .ok (.checkcast idx, 3)) (hk : g k = some (.inr (ci, F))) (w1 : Cond.classLink own idx nm ∈ lw_all) (hc : C = nm ∨ Cond.castable C nm ∈ lw_tbl) (hq : pc + 3 = q) (kk : gV z g kc ks q lo (.ref k :: st)) : gV z g kc ks pc lo (.ref k :: st) := by
  obtain ⟨p, l', e, R, s, m, args, below, meth, c, Q, D, dA, xad, ad0, g0⟩ := z
  obtain ⟨rfl, hx, hb, hml, hown, hts, hF, hr, hlk, rfl⟩ := E
  subst hq
  intro hst hlo ad H locs ls hW hl
  obtain ⟨ws, q0, hP, hat⟩ := hW.1.get hk
  have hr9 := va_recv (q := (C, T, N)) hF.1 hP hci.1 hat
  rcases hc with h | h
  · subst h
    exact va_castE hx hb hown (hts _ w1) hr9 d (kk hst hlo ad H locs ls hW hl)
  · exact va_castY hx hb hown (hts _ w1) (hF.2.1 _ h rfl) hr9 d (kk hst hlo ad H locs ls hW hl)
theorem g_acmp_ne (E : gEv z l cc nL own ret fr mc ms lc) {a b : Nat} {off : Int} (d : decode cc pc = .ok (.if_acmp .ne off, 3)) {tgt : Nat} (ht : (pc : Int) + off = (tgt : Int)) (ha : g a ≠ none) (hb9 : g b ≠ none) (hq : pc + 3 = q) (kt : ¬ a = b → gV z g kc ks tgt lo st) (kf : a = b → gV z g kc ks q lo st) : gV z g kc ks pc lo (.ref b :: .ref a :: st) := by
  obtain ⟨p, l', e, R, s, m, args, below, meth, c, Q, D, dA, xad, ad0, g0⟩ := z
  obtain ⟨rfl, hx, hb, hml, hown, hts, hF, hr, hlk, rfl⟩ := E
  subst hq
  intro hst hlo ad H locs ls hW hl
  refine lv_acmp_ne (rx := some (ad a)) (ry := some (ad b)) hx hb d ht (fun h => kt (fun h9 => h (by rw [h9])) hst.2.2 hlo ad H locs ls hW hl) (fun h => kf (hW.1.inj ha hb9 (Option.some.inj h)) hst.2.2 hlo ad H locs ls hW hl)
theorem g_acmp_neN (E : gEv z l cc nL own ret fr mc ms lc) {b : Nat} {off : Int} (d : decode cc pc = .ok (.if_acmp .ne off, 3)) {tgt : Nat} (ht : (pc : Int) + off = (tgt : Int)) (k : gV z g kc ks tgt lo st) : gV z g kc ks pc lo (.ref b :: .null :: st) := by
  obtain ⟨p, l', e, R, s, m, args, below, meth, c, Q, D, dA, xad, ad0, g0⟩ := z
  obtain ⟨rfl, hx, hb, hml, hown, hts, hF, hr, hlk, rfl⟩ := E
  intro hst hlo ad H locs ls hW hl
  refine lv_acmp_ne (rx := none) (ry := some (ad b)) hx hb d ht (fun _ => k hst.2.2 hlo ad H locs ls hW hl) (fun h => by cases h)
end GD
