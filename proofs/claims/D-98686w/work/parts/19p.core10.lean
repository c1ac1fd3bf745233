/-! THE JUDGEMENT, tenth: literals (numbers 1 + 2 * j and, their bytes, 2 + 2 * j) -/
set_option maxRecDepth 100000
theorem gS_lt {j : Nat} {q : String × Nat × String} (h : gSites[j]? = some q) : j < 65 := by
  have h1 := (List.getElem?_eq_some_iff.mp h).1
  have h2 : gSites.length = 65 := rfl
  omega
theorem gOw.inA {D : va_G} {dA : Nat → ClassId} {A : Nat → Prop} {ad : Nat → Nat} {g : gWM} {H : Heap} (h : gOw D dA A ad g H) {k : Nat} (hk : g k ≠ none) : A (ad k) := by
  obtain ⟨Ls, G, hP, hD, hg, -⟩ := h
  cases he : g k with
  | none => exact absurd he hk
  | some e =>
    obtain ⟨i, hi⟩ := gwl_at (dA := dA) (ad := ad) hg he
    exact hD.2 i _ hi
section GL0
variable {p : Program} {l : Launch} {e : Env} {R : Room} {s : State} {m : MethodId} {args : Array Value} {below : List Frame} {meth : Method} {c : Code} {T : State} {locs : List Loc} {cells slots : Nat}
theorem su_ldcW (X : Stand p l e R s m args below meth c T locs cells slots) (hexec : p.tables.exec = Jvm.exec) {own text : String} {index : Nat} {a : Addr} (hown : s.vm.findClass own = some m.cls)
    (hconst : (Cond.stringRef own index text).before args s = true) (hev : (Term.string own index).eval args s none [] s = some (.ref a)) {g : JFrame} (hg : g.method = m) (hdg : decode c.code g.pc = .ok (.ldc_w index, 3)) :
    ∀ target, Steps p.tables e below (T.setTop { g with pc := g.pc + 3, stack := .ref a :: g.stack }) target → Steps p.tables e below (T.setTop g) target := by
  obtain ⟨k, cf, i, a', hk, hcf, hcp, -, hr, hev'⟩ := Cond.stringRef_spec hown hconst
  cases hev.symm.trans hev'
  obtain ⟨k', hk', he⟩ := X.warmed.alike.2.2 _ _ hk
  have hr' : k'.resolved[index]? = some (some (.string a)) := by
    rcases X.warmed.entry hk hk' index with h | ⟨h, -⟩
    · rw [h]; exact hr
    · rw [hr] at h; cases h
  intro target hrest
  subst hg
  jvm_step X.here [hexec, hdg, ldc_w.wp_string (e := e) (s := T) (f := g) X.here.top hk' (by rw [he]; exact hcf) hcp hr']
  exact hrest
variable {H : Heap} {Q : State → Prop} {cc : ByteArray} {pc : Nat} {ls : Array Slot} {rest : List Value}
theorem su_ldcwS (hexec : p.tables.exec = Jvm.exec) (hb : c.code = cc) {own tx : String} {index q : Nat} (hown : s.vm.findClass own = some m.cls) (hZ : vk_R own index tx q s) (hdg : decode cc pc = .ok (.ldc_w index, 3))
    (k : W p l e R s m args below meth c H locs cells slots Q (F0 m (pc + 3) ls (.ref q :: rest))) : W p l e R s m args below meth c H locs cells slots Q (F0 m pc ls rest) := by
  intro T hT X
  obtain ⟨t, a1, b1⟩ := k T hT X
  exact ⟨t, su_ldcW X hexec hown (text := tx) (a := q) hZ.1 hZ.2 (g := F0 m pc ls rest) rfl (by rw [hb]; exact hdg) t a1, b1⟩
end GL0
section GL
variable {z : gZ} {l : Launch} {cc : ByteArray} {nL : Nat} {own : String} {ret : Option FieldType} {fr mc ms lc : Nat} {g : gWM} {kc ks pc q : Nat} {lo : List (Option Value)} {st : List Value}
theorem g_ldcS (E : gEv z l cc nL own ret fr mc ms lc) {idx j : Nat} {tx : String} (hj : gSites[j]? = some (own, idx, tx)) (d : decode cc pc = .ok (.ldc idx, 2)) (hq : pc + 2 = q) (kk : gV z g kc ks q lo (.ref (1 + 2 * j) :: st)) : gV z g kc ks pc lo st := by
  obtain ⟨p, l', e, R, s, m, args, below, meth, c, Q, D, dA, xad, ad0, g0⟩ := z
  obtain ⟨rfl, hx, hb, hml, hown, hts, hF, hr, hlk, rfl⟩ := E
  subst hq
  intro hst hlo ad H locs ls hW hl
  have hj9 := gS_lt hj
  have h1 := kk ⟨.inl (by omega), hst⟩ hlo ad H locs ls hW hl
  have h2 : ad (1 + 2 * j) = xad (1 + 2 * j) := hW.2.2.1 _ (by omega)
  refine va_ldcS hx hb hown (q := xad (1 + 2 * j)) (hF.2.2.2.2.1 j _ hj).1 d ?_
  rw [← h2]
  exact h1
theorem g_ldcwS (E : gEv z l cc nL own ret fr mc ms lc) {idx j : Nat} {tx : String} (hj : gSites[j]? = some (own, idx, tx)) (d : decode cc pc = .ok (.ldc_w idx, 3)) (hq : pc + 3 = q) (kk : gV z g kc ks q lo (.ref (1 + 2 * j) :: st)) : gV z g kc ks pc lo st := by
  obtain ⟨p, l', e, R, s, m, args, below, meth, c, Q, D, dA, xad, ad0, g0⟩ := z
  obtain ⟨rfl, hx, hb, hml, hown, hts, hF, hr, hlk, rfl⟩ := E
  subst hq
  intro hst hlo ad H locs ls hW hl
  have hj9 := gS_lt hj
  have h1 := kk ⟨.inl (by omega), hst⟩ hlo ad H locs ls hW hl
  have h2 : ad (1 + 2 * j) = xad (1 + 2 * j) := hW.2.2.1 _ (by omega)
  refine su_ldcwS hx hb hown (q := xad (1 + 2 * j)) (hF.2.2.2.2.1 j _ hj).1 d ?_
  rw [← h2]
  exact h1
/-- a literal's coder -/
theorem g_getcL (E : gEv z l cc nL own ret fr mc ms lc) {idx j : Nat} {q9 : String × Nat × String} (hj : gSites[j]? = some q9) (d : decode cc pc = .ok (.getfield idx, 3)) (hlink : Cond.fieldLink own idx "java/lang/String" "coder" "B" ∈ lw_all) (hq : pc + 3 = q) (kk : gV z g kc ks q lo (.int 0 :: st)) : gV z g kc ks pc lo (.ref (1 + 2 * j) :: st) := by
  obtain ⟨p, l', e, R, s, m, args, below, meth, c, Q, D, dA, xad, ad0, g0⟩ := z
  obtain ⟨rfl, hx, hb, hml, hown, hts, hF, hr, hlk, rfl⟩ := E
  subst hq
  intro hst hlo ad H locs ls hW hl
  have hj9 := gS_lt hj
  have h1 := kk ⟨trivial, hst.2⟩ hlo ad H locs ls hW hl
  have h2 : ad (1 + 2 * j) = xad (1 + 2 * j) := hW.2.2.1 _ (by omega)
  have h3 := vk_getf (own := own) (ref := "java/lang/String") hx hb ((hF.2.2.2.2.1 j _ hj).2.1 0 (by decide)).2.1 hW.2.1 hown (hts _ hlink) (fun x h => h) d h1
  rw [← h2] at h3
  exact h3
/-- .. its bytes -/
theorem g_getvL (E : gEv z l cc nL own ret fr mc ms lc) {idx j : Nat} {q9 : String × Nat × String} (hj : gSites[j]? = some q9) (d : decode cc pc = .ok (.getfield idx, 3)) (hlink : Cond.fieldLink own idx "java/lang/String" "value" "[B" ∈ lw_all) (hq : pc + 3 = q) (kk : gV z g kc ks q lo (.ref (2 + 2 * j) :: st)) : gV z g kc ks pc lo (.ref (1 + 2 * j) :: st) := by
  obtain ⟨p, l', e, R, s, m, args, below, meth, c, Q, D, dA, xad, ad0, g0⟩ := z
  obtain ⟨rfl, hx, hb, hml, hown, hts, hF, hr, hlk, rfl⟩ := E
  subst hq
  intro hst hlo ad H locs ls hW hl
  have hj9 := gS_lt hj
  have h1 := kk ⟨.inl (by omega), hst.2⟩ hlo ad H locs ls hW hl
  have h2 : ad (1 + 2 * j) = xad (1 + 2 * j) := hW.2.2.1 _ (by omega)
  have h4 : ad (2 + 2 * j) = xad (2 + 2 * j) := hW.2.2.1 _ (by omega)
  have h1 : W p l' e { frames := fr, cells := mc, slots := ms, locals := lc } s m args below meth c H locs kc ks Q (F0 m (pc + 3) ls (.ref (ad (2 + 2 * j)) :: st.map (gmv ad))) := h1
  rw [h4] at h1
  have h3 := vk_getf (own := own) (ref := "java/lang/String") hx hb ((hF.2.2.2.2.1 j _ hj).2.1 0 (by decide)).2.2.1 hW.2.1 hown (hts _ hlink) (fun x h => h) d h1
  rw [← h2] at h3
  exact h3
theorem g_alenL (E : gEv z l cc nL own ret fr mc ms lc) {j : Nat} {q9 : String × Nat × String} (hj : gSites[j]? = some q9) (d : decode cc pc = .ok (.arraylength, 1)) (hq : pc + 1 = q) (kk : gV z g kc ks q lo (.int (nI (gByt q9.2.2).length) :: st)) : gV z g kc ks pc lo (.ref (2 + 2 * j) :: st) := by
  obtain ⟨p, l', e, R, s, m, args, below, meth, c, Q, D, dA, xad, ad0, g0⟩ := z
  obtain ⟨rfl, hx, hb, hml, hown, hts, hF, hr, hlk, rfl⟩ := E
  subst hq
  intro hst hlo ad H locs ls hW hl
  have hj9 := gS_lt hj
  have h1 := kk ⟨trivial, hst.2⟩ hlo ad H locs ls hW hl
  have h2 : ad (2 + 2 * j) = xad (2 + 2 * j) := hW.2.2.1 _ (by omega)
  have h3 := va_tlen (v := nI (gByt q9.2.2).length) hx hb ((hF.2.2.2.2.1 j _ hj).2.1 0 (by decide)).2.2.2 hW.2.1 rfl d h1
  rw [← h2] at h3
  exact h3
theorem g_baldL (E : gEv z l cc nL own ret fr mc ms lc) {j k : Nat} {i : Int32} {q9 : String × Nat × String} (hj : gSites[j]? = some q9) (d : decode cc pc = .ok (.baload, 1)) (hi : i = nI k) (hk : k < (gByt q9.2.2).length) (hn : (gByt q9.2.2).length < 2 ^ 31) (hq : pc + 1 = q) (kk : gV z g kc ks q lo (.int ((gByt q9.2.2).getD k 0) :: st)) : gV z g kc ks pc lo (.int i :: .ref (2 + 2 * j) :: st) := by
  obtain ⟨p, l', e, R, s, m, args, below, meth, c, Q, D, dA, xad, ad0, g0⟩ := z
  obtain ⟨rfl, hx, hb, hml, hown, hts, hF, hr, hlk, rfl⟩ := E
  subst hq
  subst hi
  intro hst hlo ad H locs ls hW hl
  have hj9 := gS_lt hj
  have h1 := kk ⟨trivial, hst.2.2⟩ hlo ad H locs ls hW hl
  have h2 : ad (2 + 2 * j) = xad (2 + 2 * j) := hW.2.2.1 _ (by omega)
  have h3 := va_tb (i := nI k) (v := .int ((gByt q9.2.2).getD k 0)) hx hb ((hF.2.2.2.2.1 j _ hj).2.1 0 (by decide)).2.2.2 hW.2.1 (vp_in_nI hk hn) (by rw [nI_clamp (by omega)]; rfl) d h1
  rw [← h2] at h3
  exact h3
theorem g_instL (E : gEv z l cc nL own ret fr mc ms lc) {idx j : Nat} {q9 : String × Nat × String} (hj : gSites[j]? = some q9) (d : decode cc pc = .ok (.instanceof idx, 3)) (w1 : Cond.classLink own idx "java/lang/String" ∈ lw_all) (hq : pc + 3 = q) (kk : gV z g kc ks q lo (.int 1 :: st)) : gV z g kc ks pc lo (.ref (1 + 2 * j) :: st) := by
  obtain ⟨p, l', e, R, s, m, args, below, meth, c, Q, D, dA, xad, ad0, g0⟩ := z
  obtain ⟨rfl, hx, hb, hml, hown, hts, hF, hr, hlk, rfl⟩ := E
  subst hq
  intro hst hlo ad H locs ls hW hl
  have hj9 := gS_lt hj
  have h1 := kk ⟨trivial, hst.2⟩ hlo ad H locs ls hW hl
  have h2 : ad (1 + 2 * j) = xad (1 + 2 * j) := hW.2.2.1 _ (by omega)
  have h3 := va_instE hx hb hown (hts _ w1) (vk_recv (hF.2.2.2.2.1 j _ hj).2 (i := 0) (by decide) hW.2.1) d h1
  rw [← h2] at h3
  exact h3
theorem g_castL (E : gEv z l cc nL own ret fr mc ms lc) {idx j : Nat} {q9 : String × Nat × String} (hj : gSites[j]? = some q9) (d : decode cc pc = .ok (.checkcast idx, 3)) (w1 : Cond.classLink own idx "java/lang/String" ∈ lw_all) (hq : pc + 3 = q) (kk : gV z g kc ks q lo (.ref (1 + 2 * j) :: st)) : gV z g kc ks pc lo (.ref (1 + 2 * j) :: st) := by
  obtain ⟨p, l', e, R, s, m, args, below, meth, c, Q, D, dA, xad, ad0, g0⟩ := z
  obtain ⟨rfl, hx, hb, hml, hown, hts, hF, hr, hlk, rfl⟩ := E
  subst hq
  intro hst hlo ad H locs ls hW hl
  have hj9 := gS_lt hj
  have h1 := kk hst hlo ad H locs ls hW hl
  have h2 : ad (1 + 2 * j) = xad (1 + 2 * j) := hW.2.2.1 _ (by omega)
  have h1 : W p l' e { frames := fr, cells := mc, slots := ms, locals := lc } s m args below meth c H locs kc ks Q (F0 m (pc + 3) ls (.ref (ad (1 + 2 * j)) :: st.map (gmv ad))) := h1
  rw [h2] at h1
  have h3 := va_castE hx hb hown (hts _ w1) (vk_recv (hF.2.2.2.2.1 j _ hj).2 (i := 0) (by decide) hW.2.1) d h1
  rw [← h2] at h3
  exact h3
/-- an own object is no literal -/
theorem g_acmpL (E : gEv z l cc nL own ret fr mc ms lc) {a j : Nat} {off : Int} {q9 : String × Nat × String} (hj : gSites[j]? = some q9) (d : decode cc pc = .ok (.if_acmp .ne off, 3)) {tgt : Nat} (ht : (pc : Int) + off = (tgt : Int)) (ha : g a ≠ none) (kt : gV z g kc ks tgt lo st) : gV z g kc ks pc lo (.ref (1 + 2 * j) :: .ref a :: st) := by
  obtain ⟨p, l', e, R, s, m, args, below, meth, c, Q, D, dA, xad, ad0, g0⟩ := z
  obtain ⟨rfl, hx, hb, hml, hown, hts, hF, hr, hlk, rfl⟩ := E
  intro hst hlo ad H locs ls hW hl
  have hj9 := gS_lt hj
  have h2 : ad (1 + 2 * j) = xad (1 + 2 * j) := hW.2.2.1 _ (by omega)
  obtain ⟨cell, -, -, -, h5⟩ := ((hF.2.2.2.2.1 j _ hj).2.1 0 (by decide)).1
  refine lv_acmp_ne (rx := some (ad a)) (ry := some (ad (1 + 2 * j))) hx hb d ht (fun h => kt hst.2.2 hlo ad H locs ls hW hl) (fun h => absurd (hW.1.inA ha) ?_)
  rw [Option.some.inj h, h2]
  exact h5
theorem gPreL {p : Program} {l : Launch} {e : Env} {R : Room} {s : State} {m : MethodId} {args : Array Value} {below : List Frame} {meth : Method} {c : Code} {Q : State → Prop} {D : va_G} {dA xad ad0 ad : Nat → Nat} {g0 g : gWM} {H : Heap} {locs : List Loc} (hF : gFx D dA xad (gAs ad0 g0 s.heap.size) s s.heap) (hW : gWd (p, l, e, R, s, m, args, below, meth, c, Q, D, dA, xad, ad0, g0) ad g H locs) {av : List Value} {j : Nat} {q9 : String × Nat × String} (hav : gcL g (.ref (1 + 2 * j) :: av)) (hj : gSites[j]? = some q9) : PreV s H "java/lang/String" (ad (1 + 2 * j)) (gPc D dA xad ad g H.size (.ref (1 + 2 * j) :: av)) (av.map (gmv ad)) := by
  have h1 := gPreS hF hW hav
  have hj9 := gS_lt hj
  have h2 : ad (1 + 2 * j) = xad (1 + 2 * j) := hW.2.2.1 _ (by omega)
  have h3 := vk_recv (hF.2.2.2.2.1 j _ hj).2 (i := 0) (by decide) hW.2.1
  rw [← h2] at h3
  exact ⟨h1.1, h3, h1.2⟩
variable {y : MethodName} {cc1 : ByteArray} {nL1 : Nat} {ret1 : Option FieldType} {fr1 mc1 ms1 lc1 : Nat} {av : List Value} {Qr : Option Value → gWM → Prop}
theorem g_callVL (E : gEv z l cc nL own ret fr mc ms lc) {n9 idx j : Nat} {q9 : String × Nat × String} (hC : gCt l y cc1 nL1 ret1 fr1 mc1 ms1 lc1 (.ref (1 + 2 * j) :: av) g Qr) (hj : gSites[j]? = some q9) (d : decode cc pc = .ok (.invokevirtual idx, 3)) (w1 : Cond.methodLink own idx y ∈ lw_all) (w2 : Cond.instanceMethod y ∈ lw_all) (w3 : Cond.selects "java/lang/String" y y ∈ lw_all) (w4 : Cond.initialized "java/lang/String" ∈ lw_all) (w5 : Cond.code y cc1 nL1 ret1 ∈ lw_all) (hd : y.cls = "java/lang/String" ∧ y.cls ≠ "java/lang/invoke/MethodHandle" ∧ y.cls ≠ "java/lang/invoke/VarHandle" ∧ (parseMethodDescriptor y.desc).map (fun d => d.parameters.length) = some n9) (hn9 : av.length = n9) {st0 : List Value} (hs0 : st0 = av.reverse ++ .ref (1 + 2 * j) :: st) (hR : fr1 + 1 ≤ fr ∧ 8 + (nL1 + 11) + lc1 ≤ lc) (hf : kc + mc1 ≤ mc ∧ ks + ms1 ≤ ms) (hroom : gcat st ≤ 8) (hq : pc + 3 = q) (kk : ∀ v g1, Qr v g1 → gV z g1 (kc + mc1) (ks + ms1) q lo (v.toList ++ st)) : gV z g kc ks pc lo st0 := by
  obtain ⟨p, l', e, R, s, m, args, below, meth, c, Q, D, dA, xad, ad0, g0⟩ := z
  obtain ⟨rfl, hx, hb, hml, hown, hts, hF, hr, hlk, rfl⟩ := E
  subst hq
  subst hs0
  subst hn9
  intro hst hlo ad H locs ls hW hl
  obtain ⟨hav, hst1⟩ := gcL_split hst
  refine gBack (a := (Value.ref (ad (1 + 2 * j)) :: av.map (gmv ad)).toArray) hW hlo hst1 hl ?_ kk
  exact va_runV (As := av.map (gmv ad)) (rest := st.map (gmv ad)) (nL := nL) ⟨hx, hb, hml, hown, hts⟩ (hC D dA xad ad H.size) (cwV av.length hts (lw_V w1 w2 w3 w4 w5) rfl rfl rfl hd hR) (gPreL hF hW hav hj) rfl (by rw [List.length_map]) (by rw [← hml]; exact hl.1) (gstk ad av (.ref (1 + 2 * j)) st) (lv_room (by rw [gcat_map]; exact hroom)) d hf
/-- a cast of an array of bytes -/
theorem g_castB (E : gEv z l cc nL own ret fr mc ms lc) {idx a : Nat} {x : vp_A} (d : decode cc pc = .ok (.checkcast idx, 3)) (hk : g a = some (.inl (1, x))) (w1 : Cond.classLink own idx "[B" ∈ lw_all) (hq : pc + 3 = q) (kk : gV z g kc ks q lo (.ref a :: st)) : gV z g kc ks pc lo (.ref a :: st) := by
  obtain ⟨p, l', e, R, s, m, args, below, meth, c, Q, D, dA, xad, ad0, g0⟩ := z
  obtain ⟨rfl, hx, hb, hml, hown, hts, hF, hr, hlk, rfl⟩ := E
  subst hq
  intro hst hlo ad H locs ls hW hl
  obtain ⟨ws, q0, hP, hat⟩ := hW.1.get hk
  exact va_castA hx hb hown (hts _ w1) hP q0 hat (hF.1.2 1 (dA 1, .byte) rfl).2 d (kk hst hlo ad H locs ls hW hl)
end GL
