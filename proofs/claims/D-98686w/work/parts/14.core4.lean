/-! THE CORE, fourth: fields, arrays, new cells -/
set_option maxRecDepth 100000
theorem gN_of {ci : Nat} {C : String} {T : u_T} {ty : Nat → FieldType} {N : Nat} (h : gCI ci C T ty N) : gN ci = N := by
  unfold gN
  rw [h.1]
  rfl
theorem gfs_at {ad : Nat → Nat} {N fi : Nat} {F : Nat → Value} (h : fi < N) : ((List.range N).map (fun k => gmv ad (F k)))[fi]? = some (gmv ad (F fi)) := by
  rw [List.getElem?_map, List.getElem?_range h]
  rfl
theorem gfs_set {ad : Nat → Nat} {N fi : Nat} {F : Nat → Value} {v : Value} : ((List.range N).map (fun k => gmv ad (F k))).set fi (gmv ad v) = (List.range N).map (fun k => gmv ad (va_up F fi v k)) := by
  apply List.ext_getElem?
  intro j
  by_cases hj : fi = j
  · subst hj
    rw [List.getElem?_set]
    simp only [if_true]
    by_cases hl : fi < N
    · rw [if_pos (by simpa using hl), List.getElem?_map, List.getElem?_range hl]
      show some (gmv ad v) = some (gmv ad (va_up F fi v fi))
      rw [show va_up F fi v fi = v from if_pos rfl]
    · rw [if_neg (by simpa using hl), List.getElem?_map, List.getElem?_eq_none (by simpa using hl)]
      rfl
  · rw [List.getElem?_set_ne hj, List.getElem?_map, List.getElem?_map]
    cases hr : (List.range N)[j]? with
    | none => rfl
    | some y =>
      have hy : y = j := by
        have h1 := List.getElem?_eq_some_iff.mp hr
        obtain ⟨h2, h3⟩ := h1
        rw [List.getElem_range] at h3
        exact h3.symm
      subst hy
      show some (gmv ad (F y)) = some (gmv ad (va_up F fi v y))
      rw [show va_up F fi v y = F y from if_neg (fun q => hj q.symm)]
theorem gcv_dflt {g : gWM} (ty : FieldType) : gcv g (defaultValue ty) := by cases ty <;> trivial
theorem gOw.cl {D : va_G} {dA : Nat → ClassId} {A : Nat → Prop} {ad : Nat → Nat} {g : gWM} {H : Heap} (h : gOw D dA A ad g H) {k : Nat} {e : gE} (hk : g k = some e) : gce g e := by
  obtain ⟨Ls, G, -, -, -, -, hcl⟩ := h
  exact hcl k e hk
theorem gup_ne0 {g g0 : gWM} {ad ad0 : Nat → Nat} {k : Nat} {e : gE} (h : ∀ k, g0 k ≠ none → g k ≠ none ∧ ad k = ad0 k) : ∀ j, g0 j ≠ none → gup g k e j ≠ none ∧ ad j = ad0 j := fun j hj => ⟨gup_dom (h j hj).1, (h j hj).2⟩
theorem gTys_any (dA : Nat → ClassId) {t : Nat} (h : t < 10) : ∃ ty, (gTys dA)[t]? = some (dA t, ty) := by
  match t, h with
  | 0, _ => exact ⟨_, rfl⟩
  | 1, _ => exact ⟨_, rfl⟩
  | 2, _ => exact ⟨_, rfl⟩
  | 3, _ => exact ⟨_, rfl⟩
  | 4, _ => exact ⟨_, rfl⟩
  | 5, _ => exact ⟨_, rfl⟩
  | 6, _ => exact ⟨_, rfl⟩
  | 7, _ => exact ⟨_, rfl⟩
  | 8, _ => exact ⟨_, rfl⟩
  | 9, _ => exact ⟨_, rfl⟩
theorem gTys_at {dA : Nat → ClassId} {t : Nat} {ty : FieldType} (h : ((gTys dA)[t]?).map (fun x => x.2) = some ty) : (gTys dA)[t]? = some (dA t, ty) := by
  have hl : t < 10 := by
    by_cases hl : t < 10
    · exact hl
    · rw [List.getElem?_eq_none (show (gTys dA).length ≤ t from Nat.le_of_not_lt hl)] at h
      cases h
  obtain ⟨ty1, h1⟩ := gTys_any dA hl
  rw [h1] at h
  cases h
  exact h1
section GH
variable {z : gZ} {l : Launch} {cc : ByteArray} {nL : Nat} {own : String} {ret : Option FieldType} {fr mc ms lc : Nat} {g : gWM} {kc ks pc q : Nat} {lo : List (Option Value)} {st : List Value}
theorem g_getf (E : gEv z l cc nL own ret fr mc ms lc) {k ci fi idx N : Nat} {C ref : String} {T : u_T} {ty : Nat → FieldType} {F : Nat → Value} (hci : gCI ci C T ty N) (d : decode cc pc = .ok (.getfield idx, 3)) (hk : g k = some (.inr (ci, F))) (fi' : Nat) (hfi : fi = fi') (hlt : fi < N) (hlink : Cond.fieldLink own idx ref (T fi).2.1 (T fi).2.2.1 ∈ lw_all) (hsame : ref = (T fi).1 ∨ Cond.sameField ref (T fi).1 (T fi).2.1 (T fi).2.2.1 ∈ lw_all) (v : Value) (hv : F fi = v) (hq : pc + 3 = q) (kk : gV z g kc ks q lo (v :: st)) : gV z g kc ks pc lo (.ref k :: st) := by
  obtain ⟨p, l', e, R, s, m, args, below, meth, c, Q, D, dA, xad, ad0, g0⟩ := z
  obtain ⟨rfl, hx, hb, hml, hown, hts, hF, hr, hlk, rfl⟩ := E
  subst hq
  subst hv
  intro hst hlo ad H locs ls hW hl
  obtain ⟨ws, q0, hP, hat⟩ := hW.1.get hk
  have hN := gN_of hci
  have hcl := hW.1.cl hk
  refine va_get (D := D) (cl := gCl) (tys := gTys dA) (ci := ci) (C := C) (T := T) (N := N) (ref := ref) (v := gmv ad (F fi)) hx hb hts hci.2.1 hown hF.1 hP q0 hat hci.1 fi hlt (hts _ hlink) (fun x hxx => ?_) (by rw [hN]; exact gfs_at hlt) d (kk ⟨hcl fi, hst.2⟩ hlo ad H locs ls hW hl)
  rcases hsame with h | h
  · rw [h]; exact hxx
  · exact u_same (hts _ h) x hxx
theorem g_getfN (E : gEv z l cc nL own ret fr mc ms lc) {k ci fi idx N : Nat} {C ref host : String} {T : u_T} {ty : Nat → FieldType} {F : Nat → Value} (hci : gCI ci C T ty N) (d : decode cc pc = .ok (.getfield idx, 3)) (hk : g k = some (.inr (ci, F))) (fi' : Nat) (hfi : fi = fi') (hlt : fi < N) (hlink : Cond.fieldLinkNest own idx ref (T fi).2.1 (T fi).2.2.1 host ∈ lw_tbl) (hsame : ref = (T fi).1 ∨ Cond.sameField ref (T fi).1 (T fi).2.1 (T fi).2.2.1 ∈ lw_all) (v : Value) (hv : F fi = v) (hq : pc + 3 = q) (kk : gV z g kc ks q lo (v :: st)) : gV z g kc ks pc lo (.ref k :: st) := by
  obtain ⟨p, l', e, R, s, m, args, below, meth, c, Q, D, dA, xad, ad0, g0⟩ := z
  obtain ⟨rfl, hx, hb, hml, hown, hts, hF, hr, hlk, rfl⟩ := E
  subst hq
  subst hv
  intro hst hlo ad H locs ls hW hl
  obtain ⟨ws, q0, hP, hat⟩ := hW.1.get hk
  have hN := gN_of hci
  have hcl := hW.1.cl hk
  refine va_getN (D := D) (cl := gCl) (tys := gTys dA) (ci := ci) (C := C) (T := T) (N := N) (ref := ref) (v := gmv ad (F fi)) hx hb hts hci.2.1 hown hF.1 hP q0 hat hci.1 fi hlt (va_Nw.use rfl (hF.2.1 _ hlink rfl)) (fun x hxx => ?_) (by rw [hN]; exact gfs_at hlt) d (kk ⟨hcl fi, hst.2⟩ hlo ad H locs ls hW hl)
  rcases hsame with h | h
  · rw [h]; exact hxx
  · exact u_same (hts _ h) x hxx
/-- the method is a constructor -/
def gIn (z : gZ) : Prop := match z with
  | (_, _, _, _, _, _, _, _, meth, _, _, _, _, _, _, _) => meth.name = "<init>"
theorem g_putf (E : gEv z l cc nL own ret fr mc ms lc) {k ci fi idx N : Nat} {C ref : String} {T : u_T} {ty : Nat → FieldType} {F : Nat → Value} {v : Value} (hci : gCI ci C T ty N) (d : decode cc pc = .ok (.putfield idx, 3)) (hk : g k = some (.inr (ci, F))) (fi' : Nat) (hfi : fi = fi') (hlt : fi < N) (hlink : Cond.fieldLink own idx ref (T fi).2.1 (T fi).2.2.1 ∈ lw_all) (hsame : ref = (T fi).1 ∨ Cond.sameField ref (T fi).1 (T fi).2.1 (T fi).2.2.1 ∈ lw_all) (hfin : (T fi).2.2.2 = false) (hn : ∀ ad, narrow (ty fi) (gmv ad v) = gmv ad v) (hfit : ∀ ad, fits (ty fi) (gmv ad v) = true) (hq : pc + 3 = q) (kk : gV z (gup g k (.inr (ci, va_up F fi v))) kc ks q lo st) : gV z g kc ks pc lo (v :: .ref k :: st) := by
  obtain ⟨p, l', e, R, s, m, args, below, meth, c, Q, D, dA, xad, ad0, g0⟩ := z
  obtain ⟨rfl, hx, hb, hml, hown, hts, hF, hr, hlk, rfl⟩ := E
  subst hq
  intro hst hlo ad H locs ls hW hl
  obtain ⟨hO, hS, hx1, hag⟩ := hW
  obtain ⟨ws, q0, hP, hD, hat, hoth, hset⟩ := hO.set hk
  have hN := gN_of hci
  have hcl := hO.cl hk
  have hmono : ∀ n, g n ≠ none → gup g k (.inr (ci, va_up F fi v)) n ≠ none := fun n h => gup_dom h
  refine va_put (D := D) (cl := gCl) (tys := gTys dA) (ci := ci) (C := C) (T := T) (N := N) (ref := ref) hx hb hts hci.2.1 ty hci.2.2.1 hci.2.2.2 hown hF.1 hP hD hS q0 hat hci.1 fi hlt (hts _ hlink) (fun x hxx => ?_) hfin (hci.2.2.1 fi hlt) (hn ad) (hfit ad) (by rw [List.length_map, List.length_range, hN]; exact hlt) d (fun H1 locs1 hP1 hD1 hS1 => ?_)
  · rcases hsame with h | h
    · rw [h]; exact hxx
    · exact u_same (hts _ h) x hxx
  · refine kk (gcL_mono hmono hst.2.2) (gcO_mono hmono hlo) ad H1 locs1 ls ⟨?_, hS1, hx1, gup_ne0 hag⟩ hl
    have he : ((ad k, .inr (ci, ((List.range (gN ci)).map (fun k => gmv ad (F k))).set fi (gmv ad v))) : Nat × va_E) = (ad k, gme dA ad (.inr (ci, va_up F fi v))) := by
      rw [gfs_set]
      rfl
    rw [he] at hP1 hD1
    refine hset _ H1 (fun j => ?_) hP1 hD1
    show gcv g (va_up F fi v j)
    unfold va_up
    split
    · exact hst.1
    · exact hcl j
theorem g_putfN (E : gEv z l cc nL own ret fr mc ms lc) {k ci fi idx N : Nat} {C ref host : String} {T : u_T} {ty : Nat → FieldType} {F : Nat → Value} {v : Value} (hci : gCI ci C T ty N) (d : decode cc pc = .ok (.putfield idx, 3)) (hk : g k = some (.inr (ci, F))) (fi' : Nat) (hfi : fi = fi') (hlt : fi < N) (hlink : Cond.fieldLinkNest own idx ref (T fi).2.1 (T fi).2.2.1 host ∈ lw_tbl) (hsame : ref = (T fi).1 ∨ Cond.sameField ref (T fi).1 (T fi).2.1 (T fi).2.2.1 ∈ lw_all) (hfin : (T fi).2.2.2 = false) (hn : ∀ ad, narrow (ty fi) (gmv ad v) = gmv ad v) (hfit : ∀ ad, fits (ty fi) (gmv ad v) = true) (hq : pc + 3 = q) (kk : gV z (gup g k (.inr (ci, va_up F fi v))) kc ks q lo st) : gV z g kc ks pc lo (v :: .ref k :: st) := by
  obtain ⟨p, l', e, R, s, m, args, below, meth, c, Q, D, dA, xad, ad0, g0⟩ := z
  obtain ⟨rfl, hx, hb, hml, hown, hts, hF, hr, hlk, rfl⟩ := E
  subst hq
  intro hst hlo ad H locs ls hW hl
  obtain ⟨hO, hS, hx1, hag⟩ := hW
  obtain ⟨ws, q0, hP, hD, hat, hoth, hset⟩ := hO.set hk
  have hN := gN_of hci
  have hcl := hO.cl hk
  have hmono : ∀ n, g n ≠ none → gup g k (.inr (ci, va_up F fi v)) n ≠ none := fun n h => gup_dom h
  refine va_putN (D := D) (cl := gCl) (tys := gTys dA) (ci := ci) (C := C) (T := T) (N := N) (ref := ref) hx hb hts hci.2.1 ty hci.2.2.1 hci.2.2.2 hown hF.1 hP hD hS q0 hat hci.1 fi hlt (va_Nw.use rfl (hF.2.1 _ hlink rfl)) (fun x hxx => ?_) hfin (hci.2.2.1 fi hlt) (hn ad) (hfit ad) (by rw [List.length_map, List.length_range, hN]; exact hlt) d (fun H1 locs1 hP1 hD1 hS1 => ?_)
  · rcases hsame with h | h
    · rw [h]; exact hxx
    · exact u_same (hts _ h) x hxx
  · refine kk (gcL_mono hmono hst.2.2) (gcO_mono hmono hlo) ad H1 locs1 ls ⟨?_, hS1, hx1, gup_ne0 hag⟩ hl
    have he : ((ad k, .inr (ci, ((List.range (gN ci)).map (fun k => gmv ad (F k))).set fi (gmv ad v))) : Nat × va_E) = (ad k, gme dA ad (.inr (ci, va_up F fi v))) := by
      rw [gfs_set]
      rfl
    rw [he] at hP1 hD1
    refine hset _ H1 (fun j => ?_) hP1 hD1
    show gcv g (va_up F fi v j)
    unfold va_up
    split
    · exact hst.1
    · exact hcl j
theorem g_putfF (E : gEv z l cc nL own ret fr mc ms lc) {k ci fi idx N : Nat} {C ref : String} {T : u_T} {ty : Nat → FieldType} {F : Nat → Value} {v : Value} (hci : gCI ci C T ty N) (d : decode cc pc = .ok (.putfield idx, 3)) (hk : g k = some (.inr (ci, F))) (fi' : Nat) (hfi : fi = fi') (hlt : fi < N) (hlink : Cond.fieldLink own idx ref (T fi).2.1 (T fi).2.2.1 ∈ lw_all) (hsame : ref = (T fi).1 ∨ Cond.sameField ref (T fi).1 (T fi).2.1 (T fi).2.2.1 ∈ lw_all) (hfin : (T fi).2.2.2 = true) (hin : gIn z) (hdecl : (T fi).1 = own) (hn : ∀ ad, narrow (ty fi) (gmv ad v) = gmv ad v) (hfit : ∀ ad, fits (ty fi) (gmv ad v) = true) (hq : pc + 3 = q) (kk : gV z (gup g k (.inr (ci, va_up F fi v))) kc ks q lo st) : gV z g kc ks pc lo (v :: .ref k :: st) := by
  obtain ⟨p, l', e, R, s, m, args, below, meth, c, Q, D, dA, xad, ad0, g0⟩ := z
  obtain ⟨rfl, hx, hb, hml, hown, hts, hF, hr, hlk, rfl⟩ := E
  subst hq
  intro hst hlo ad H locs ls hW hl
  obtain ⟨hO, hS, hx1, hag⟩ := hW
  obtain ⟨ws, q0, hP, hD, hat, hoth, hset⟩ := hO.set hk
  have hN := gN_of hci
  have hcl := hO.cl hk
  have hmono : ∀ n, g n ≠ none → gup g k (.inr (ci, va_up F fi v)) n ≠ none := fun n h => gup_dom h
  refine va_putF (D := D) (cl := gCl) (tys := gTys dA) (ci := ci) (C := C) (T := T) (N := N) (ref := ref) hx hb hts hci.2.1 ty hci.2.2.1 hci.2.2.2 hown hF.1 hP hD hS q0 hat hci.1 fi hlt (hts _ hlink) (fun x hxx => ?_) hfin hin hdecl (hci.2.2.1 fi hlt) (hn ad) (hfit ad) (by rw [List.length_map, List.length_range, hN]; exact hlt) d (fun H1 locs1 hP1 hD1 hS1 => ?_)
  · rcases hsame with h | h
    · rw [h]; exact hxx
    · exact u_same (hts _ h) x hxx
  · refine kk (gcL_mono hmono hst.2.2) (gcO_mono hmono hlo) ad H1 locs1 ls ⟨?_, hS1, hx1, gup_ne0 hag⟩ hl
    have he : ((ad k, .inr (ci, ((List.range (gN ci)).map (fun k => gmv ad (F k))).set fi (gmv ad v))) : Nat × va_E) = (ad k, gme dA ad (.inr (ci, va_up F fi v))) := by
      rw [gfs_set]
      rfl
    rw [he] at hP1 hD1
    refine hset _ H1 (fun j => ?_) hP1 hD1
    show gcv g (va_up F fi v j)
    unfold va_up
    split
    · exact hst.1
    · exact hcl j
theorem g_iald (E : gEv z l cc nL own ret fr mc ms lc) {a n j : Nat} {f : Nat → Int32} {i : Int32} (d : decode cc pc = .ok (.iaload, 1)) (hk : g a = some (.inl (0, n, .inl f))) (hi : i = nI j) (hj : j < n) (hn : n < 2 ^ 31) {v : Int32} (hv : f j = v) (hq : pc + 1 = q) (kk : gV z g kc ks q lo (.int v :: st)) : gV z g kc ks pc lo (.int i :: .ref a :: st) := by
  obtain ⟨p, l', e, R, s, m, args, below, meth, c, Q, D, dA, xad, ad0, g0⟩ := z
  obtain ⟨rfl, hx, hb, hml, hown, hts, hF, hr, hlk, rfl⟩ := E
  subst hq
  subst hi
  subst hv
  intro hst hlo ad H locs ls hW hl
  obtain ⟨ws, q0, hP, hat⟩ := hW.1.get hk
  refine va_iald (D := D) (cl := gCl) (tys := gTys dA) hx hb hF.1 hP q0 0 hat rfl (vp_in_nI hj hn) d ?_
  rw [nI_clamp (by omega)]
  exact kk ⟨trivial, hst.2.2⟩ hlo ad H locs ls hW hl
theorem g_bald (E : gEv z l cc nL own ret fr mc ms lc) {a n j : Nat} {f : Nat → Int32} {i : Int32} (d : decode cc pc = .ok (.baload, 1)) (hk : g a = some (.inl (1, n, .inl f))) (hi : i = nI j) (hj : j < n) (hn : n < 2 ^ 31) {v : Int32} (hv : f j = v) (hq : pc + 1 = q) (kk : gV z g kc ks q lo (.int v :: st)) : gV z g kc ks pc lo (.int i :: .ref a :: st) := by
  obtain ⟨p, l', e, R, s, m, args, below, meth, c, Q, D, dA, xad, ad0, g0⟩ := z
  obtain ⟨rfl, hx, hb, hml, hown, hts, hF, hr, hlk, rfl⟩ := E
  subst hq
  subst hi
  subst hv
  intro hst hlo ad H locs ls hW hl
  obtain ⟨ws, q0, hP, hat⟩ := hW.1.get hk
  refine va_bald (D := D) (cl := gCl) (tys := gTys dA) hx hb hF.1 hP q0 1 hat rfl (vp_in_nI hj hn) d ?_
  rw [nI_clamp (by omega)]
  exact kk ⟨trivial, hst.2.2⟩ hlo ad H locs ls hW hl
theorem g_cald (E : gEv z l cc nL own ret fr mc ms lc) {a n j : Nat} {f : Nat → Int32} {i : Int32} (d : decode cc pc = .ok (.caload, 1)) (hk : g a = some (.inl (2, n, .inl f))) (hi : i = nI j) (hj : j < n) (hn : n < 2 ^ 31) {v : Int32} (hv : f j = v) (hq : pc + 1 = q) (kk : gV z g kc ks q lo (.int v :: st)) : gV z g kc ks pc lo (.int i :: .ref a :: st) := by
  obtain ⟨p, l', e, R, s, m, args, below, meth, c, Q, D, dA, xad, ad0, g0⟩ := z
  obtain ⟨rfl, hx, hb, hml, hown, hts, hF, hr, hlk, rfl⟩ := E
  subst hq
  subst hi
  subst hv
  intro hst hlo ad H locs ls hW hl
  obtain ⟨ws, q0, hP, hat⟩ := hW.1.get hk
  refine va_cald (D := D) (cl := gCl) (tys := gTys dA) hx hb hF.1 hP q0 2 hat rfl (vp_in_nI hj hn) d ?_
  rw [nI_clamp (by omega)]
  exact kk ⟨trivial, hst.2.2⟩ hlo ad H locs ls hW hl
theorem g_lald (E : gEv z l cc nL own ret fr mc ms lc) {a n j : Nat} {f : Nat → Int64} {i : Int32} (d : decode cc pc = .ok (.laload, 1)) (hk : g a = some (.inl (3, n, .inr (.inl f)))) (hi : i = nI j) (hj : j < n) (hn : n < 2 ^ 31) {v : Int64} (hv : f j = v) (hq : pc + 1 = q) (kk : gV z g kc ks q lo (.long v :: st)) : gV z g kc ks pc lo (.int i :: .ref a :: st) := by
  obtain ⟨p, l', e, R, s, m, args, below, meth, c, Q, D, dA, xad, ad0, g0⟩ := z
  obtain ⟨rfl, hx, hb, hml, hown, hts, hF, hr, hlk, rfl⟩ := E
  subst hq
  subst hi
  subst hv
  intro hst hlo ad H locs ls hW hl
  obtain ⟨ws, q0, hP, hat⟩ := hW.1.get hk
  refine va_lald (D := D) (cl := gCl) (tys := gTys dA) hx hb hF.1 hP q0 3 hat rfl (vp_in_nI hj hn) d ?_
  rw [nI_clamp (by omega)]
  exact kk ⟨trivial, hst.2.2⟩ hlo ad H locs ls hW hl
theorem g_iast (E : gEv z l cc nL own ret fr mc ms lc) {a n j : Nat} {f : Nat → Int32} {i : Int32} {x : Int32} (d : decode cc pc = .ok (.iastore, 1)) (hk : g a = some (.inl (0, n, .inl f))) (hi : i = nI j) (hj : j < n) (hn : n < 2 ^ 31) (hq : pc + 1 = q) (kk : gV z (gup g a (.inl (0, n, .inl (upd f j x)))) kc ks q lo st) : gV z g kc ks pc lo (.int x :: .int i :: .ref a :: st) := by
  obtain ⟨p, l', e, R, s, m, args, below, meth, c, Q, D, dA, xad, ad0, g0⟩ := z
  obtain ⟨rfl, hx, hb, hml, hown, hts, hF, hr, hlk, rfl⟩ := E
  subst hq
  subst hi
  intro hst hlo ad H locs ls hW hl
  obtain ⟨hO, hS, hx1, hag⟩ := hW
  obtain ⟨ws, q0, hP, hD, hat, hoth, hset⟩ := hO.set hk
  have hmono : ∀ n9, g n9 ≠ none → gup g a (.inl (0, n, .inl (upd f j x))) n9 ≠ none := fun n9 h => gup_dom h
  have hc1 : (nI j).toNatClampNeg = j := nI_clamp (by omega)
  refine va_iast (D := D) (cl := gCl) (tys := gTys dA) hx hb hF.1 hP hD hS q0 0 hat rfl (vp_in_nI hj hn) d (fun H1 locs1 hP1 hD1 hS1 => ?_)
  rw [hc1] at hP1 hD1
  exact kk (gcL_mono hmono hst.2.2.2) (gcO_mono hmono hlo) ad H1 locs1 ls ⟨hset _ H1 trivial hP1 hD1, hS1, hx1, gup_ne0 hag⟩ hl
theorem g_bast (E : gEv z l cc nL own ret fr mc ms lc) {a n j : Nat} {f : Nat → Int32} {i : Int32} {x : Int32} (d : decode cc pc = .ok (.bastore, 1)) (hk : g a = some (.inl (1, n, .inl f))) (hi : i = nI j) (hj : j < n) (hn : n < 2 ^ 31) (hq : pc + 1 = q) (kk : gV z (gup g a (.inl (1, n, .inl (upd f j (vp_nar .byte x))))) kc ks q lo st) : gV z g kc ks pc lo (.int x :: .int i :: .ref a :: st) := by
  obtain ⟨p, l', e, R, s, m, args, below, meth, c, Q, D, dA, xad, ad0, g0⟩ := z
  obtain ⟨rfl, hx, hb, hml, hown, hts, hF, hr, hlk, rfl⟩ := E
  subst hq
  subst hi
  intro hst hlo ad H locs ls hW hl
  obtain ⟨hO, hS, hx1, hag⟩ := hW
  obtain ⟨ws, q0, hP, hD, hat, hoth, hset⟩ := hO.set hk
  have hmono : ∀ n9, g n9 ≠ none → gup g a (.inl (1, n, .inl (upd f j (vp_nar .byte x)))) n9 ≠ none := fun n9 h => gup_dom h
  have hc1 : (nI j).toNatClampNeg = j := nI_clamp (by omega)
  refine va_bast (D := D) (cl := gCl) (tys := gTys dA) hx hb hF.1 hP hD hS q0 1 hat rfl (vp_in_nI hj hn) d (fun H1 locs1 hP1 hD1 hS1 => ?_)
  rw [hc1] at hP1 hD1
  exact kk (gcL_mono hmono hst.2.2.2) (gcO_mono hmono hlo) ad H1 locs1 ls ⟨hset _ H1 trivial hP1 hD1, hS1, hx1, gup_ne0 hag⟩ hl
theorem g_cast (E : gEv z l cc nL own ret fr mc ms lc) {a n j : Nat} {f : Nat → Int32} {i : Int32} {x : Int32} (d : decode cc pc = .ok (.castore, 1)) (hk : g a = some (.inl (2, n, .inl f))) (hi : i = nI j) (hj : j < n) (hn : n < 2 ^ 31) (hq : pc + 1 = q) (kk : gV z (gup g a (.inl (2, n, .inl (upd f j (vp_nar .char x))))) kc ks q lo st) : gV z g kc ks pc lo (.int x :: .int i :: .ref a :: st) := by
  obtain ⟨p, l', e, R, s, m, args, below, meth, c, Q, D, dA, xad, ad0, g0⟩ := z
  obtain ⟨rfl, hx, hb, hml, hown, hts, hF, hr, hlk, rfl⟩ := E
  subst hq
  subst hi
  intro hst hlo ad H locs ls hW hl
  obtain ⟨hO, hS, hx1, hag⟩ := hW
  obtain ⟨ws, q0, hP, hD, hat, hoth, hset⟩ := hO.set hk
  have hmono : ∀ n9, g n9 ≠ none → gup g a (.inl (2, n, .inl (upd f j (vp_nar .char x)))) n9 ≠ none := fun n9 h => gup_dom h
  have hc1 : (nI j).toNatClampNeg = j := nI_clamp (by omega)
  refine va_cast (D := D) (cl := gCl) (tys := gTys dA) hx hb hF.1 hP hD hS q0 2 hat rfl (vp_in_nI hj hn) d (fun H1 locs1 hP1 hD1 hS1 => ?_)
  rw [hc1] at hP1 hD1
  exact kk (gcL_mono hmono hst.2.2.2) (gcO_mono hmono hlo) ad H1 locs1 ls ⟨hset _ H1 trivial hP1 hD1, hS1, hx1, gup_ne0 hag⟩ hl
theorem g_last (E : gEv z l cc nL own ret fr mc ms lc) {a n j : Nat} {f : Nat → Int64} {i : Int32} {x : Int64} (d : decode cc pc = .ok (.lastore, 1)) (hk : g a = some (.inl (3, n, .inr (.inl f)))) (hi : i = nI j) (hj : j < n) (hn : n < 2 ^ 31) (hq : pc + 1 = q) (kk : gV z (gup g a (.inl (3, n, .inr (.inl (vp_updL f j x))))) kc ks q lo st) : gV z g kc ks pc lo (.long x :: .int i :: .ref a :: st) := by
  obtain ⟨p, l', e, R, s, m, args, below, meth, c, Q, D, dA, xad, ad0, g0⟩ := z
  obtain ⟨rfl, hx, hb, hml, hown, hts, hF, hr, hlk, rfl⟩ := E
  subst hq
  subst hi
  intro hst hlo ad H locs ls hW hl
  obtain ⟨hO, hS, hx1, hag⟩ := hW
  obtain ⟨ws, q0, hP, hD, hat, hoth, hset⟩ := hO.set hk
  have hmono : ∀ n9, g n9 ≠ none → gup g a (.inl (3, n, .inr (.inl (vp_updL f j x)))) n9 ≠ none := fun n9 h => gup_dom h
  have hc1 : (nI j).toNatClampNeg = j := nI_clamp (by omega)
  refine va_last (D := D) (cl := gCl) (tys := gTys dA) hx hb hF.1 hP hD hS q0 3 hat rfl (vp_in_nI hj hn) d (fun H1 locs1 hP1 hD1 hS1 => ?_)
  rw [hc1] at hP1 hD1
  exact kk (gcL_mono hmono hst.2.2.2) (gcO_mono hmono hlo) ad H1 locs1 ls ⟨hset _ H1 trivial hP1 hD1, hS1, hx1, gup_ne0 hag⟩ hl
theorem g_aald (E : gEv z l cc nL own ret fr mc ms lc) {a n j t b : Nat} {C9 : String} {f : Nat → Option Nat} {i : Int32} (d : decode cc pc = .ok (.aaload, 1)) (hk : g a = some (.inl (t, n, .inr (.inr (.inr (.inr f)))))) (ht : ∀ dA, ((gTys dA)[t]?).map (fun x => x.2) = some (.object C9)) (hi : i = nI j) (hj : j < n) (hn : n < 2 ^ 31) (hv : f j = some b) (hq : pc + 1 = q) (kk : gV z g kc ks q lo (.ref b :: st)) : gV z g kc ks pc lo (.int i :: .ref a :: st) := by
  obtain ⟨p, l', e, R, s, m, args, below, meth, c, Q, D, dA, xad, ad0, g0⟩ := z
  obtain ⟨rfl, hx, hb, hml, hown, hts, hF, hr, hlk, rfl⟩ := E
  subst hq
  subst hi
  intro hst hlo ad H locs ls hW hl
  obtain ⟨ws, q0, hP, hat⟩ := hW.1.get hk
  have hcl := hW.1.cl hk
  have ht9 : (gTys dA)[t]? = some (dA t, .object C9) := gTys_at (ht dA)
  refine va_aldq (D := D) (cl := gCl) (tys := gTys dA) hx hb hF.1 hP q0 t hat ht9 (vp_in_nI hj hn) d ?_
  rw [nI_clamp (by omega), hv]
  exact kk ⟨hcl j b hv, hst.2.2⟩ hlo ad H locs ls hW hl
theorem g_aast (E : gEv z l cc nL own ret fr mc ms lc) {a n j t b ci N : Nat} {C C9 : String} {T : u_T} {ty : Nat → FieldType} {F : Nat → Value} {f : Nat → Option Nat} {i : Int32} (hci : gCI ci C T ty N) (d : decode cc pc = .ok (.aastore, 1)) (hk : g a = some (.inl (t, n, .inr (.inr (.inr (.inr f)))))) (ht : ∀ dA, ((gTys dA)[t]?).map (fun x => x.2) = some (.object C9)) (hb9 : g b = some (.inr (ci, F))) (hC : C = C9 ∨ Cond.castable C C9 ∈ lw_tbl) (hi : i = nI j) (hj : j < n) (hn : n < 2 ^ 31) (hq : pc + 1 = q) (kk : gV z (gup g a (.inl (t, n, .inr (.inr (.inr (.inr (va_up f j (some b)))))))) kc ks q lo st) : gV z g kc ks pc lo (.ref b :: .int i :: .ref a :: st) := by
  obtain ⟨p, l', e, R, s, m, args, below, meth, c, Q, D, dA, xad, ad0, g0⟩ := z
  obtain ⟨rfl, hx, hb, hml, hown, hts, hF, hr, hlk, rfl⟩ := E
  subst hq
  subst hi
  intro hst hlo ad H locs ls hW hl
  obtain ⟨hO, hS, hx1, hag⟩ := hW
  have hcl := hO.cl hk
  obtain ⟨ws, q0, hP, hD, hat, hoth, hset⟩ := hO.set hk
  have hmono : ∀ n9, g n9 ≠ none → gup g a (.inl (t, n, .inr (.inr (.inr (.inr (va_up f j (some b))))))) n9 ≠ none := fun n9 h => gup_dom h
  have hc1 : (nI j).toNatClampNeg = j := nI_clamp (by omega)
  have ht9 : (gTys dA)[t]? = some (dA t, .object C9) := gTys_at (ht dA)
  have fin : ∀ (H1 : Heap) (locs1 : List Loc), va_P D gCl (ws.set q0 (ad a, .inl (dA t, n, .inr (.inr (.inr (.inr (va_up (fun i => (f i).map ad) (nI j).toNatClampNeg (some (ad b))))))))) H1 → va_D (gAs ad0 g0 s.heap.size) (ws.set q0 (ad a, .inl (dA t, n, .inr (.inr (.inr (.inr (va_up (fun i => (f i).map ad) (nI j).toNatClampNeg (some (ad b))))))))) → va_S (gAs ad0 g0 s.heap.size) s.heap H1 locs1 → W p l' e { frames := fr, cells := mc, slots := ms, locals := lc } s m args below meth c H1 locs1 kc ks Q (F0 m (pc + 1) ls (st.map (gmv ad))) := by
    intro H1 locs1 hP1 hD1 hS1
    have hf : va_up (fun i => (f i).map ad) (nI j).toNatClampNeg (some (ad b)) = fun i => (va_up f j (some b) i).map ad := by
      rw [hc1]
      funext i
      unfold va_up
      split <;> rfl
    rw [hf] at hP1 hD1
    refine kk (gcL_mono hmono hst.2.2.2) (gcO_mono hmono hlo) ad H1 locs1 ls ⟨hset (.inl (t, n, .inr (.inr (.inr (.inr (va_up f j (some b))))))) H1 (fun i n9 h => ?_) hP1 hD1, hS1, hx1, gup_ne0 hag⟩ hl
    have h : va_up f j (some b) i = some n9 := h
    unfold va_up at h
    split at h
    · cases h
      exact hst.1
    · exact hcl i n9 h
  obtain ⟨qk, hqk⟩ := hoth b _ hb9
  rcases hC with h | h
  · subst h
    exact va_astq (D := D) (cl := gCl) (tys := gTys dA) hx hb hF.1 hP hD hS q0 t qk ci (r := (C, T, N)) hat ht9 hqk hci.1 (vp_in_nI hj hn) d fin
  · exact va_astqO (D := D) (cl := gCl) (tys := gTys dA) hx hb hF.1 hP hD hS q0 t qk ci (r := (C, T, N)) hat ht9 (hF.2.1 _ h rfl) hqk hci.1 (vp_in_nI hj hn) d fin
theorem g_alen (E : gEv z l cc nL own ret fr mc ms lc) {a t n : Nat} {x : (Nat → Int32) ⊕ (Nat → Int64) ⊕ (Nat → UInt32) ⊕ (Nat → UInt64) ⊕ (Nat → Option Nat)} (d : decode cc pc = .ok (.arraylength, 1)) (hk : g a = some (.inl (t, n, x))) (ht : t < 10) (v : Int32) (hv : Int32.ofNat n = v) (hq : pc + 1 = q) (kk : gV z g kc ks q lo (.int v :: st)) : gV z g kc ks pc lo (.ref a :: st) := by
  obtain ⟨p, l', e, R, s, m, args, below, meth, c, Q, D, dA, xad, ad0, g0⟩ := z
  obtain ⟨rfl, hx, hb, hml, hown, hts, hF, hr, hlk, rfl⟩ := E
  subst hq
  intro hst hlo ad H locs ls hW hl
  obtain ⟨ws, q0, hP, hat⟩ := hW.1.get hk
  obtain ⟨ty9, hty9⟩ := gTys_any dA ht
  exact va_alen (D := D) (cl := gCl) (tys := gTys dA) (x := gma ad (n, x)) hx hb hF.1 hP q0 t hat hty9 hv d (kk ⟨trivial, hst.2⟩ hlo ad H locs ls hW hl)
theorem g_new (E : gEv z l cc nL own ret fr mc ms lc) {ci idx N : Nat} {C : String} {T : u_T} {ty : Nat → FieldType} (hci : gCI ci C T ty N) (d : decode cc pc = .ok (.new idx, 3)) (hlink : Cond.classLink own idx C ∈ lw_all) (hinst : Cond.instantiable C N ∈ lw_all) (hini : Cond.initialized C ∈ lw_all) (b : Nat) (hb0 : g b = none) (hb9 : 1000 ≤ b) (h1 : kc + 1 ≤ mc) (h2 : ks + N ≤ ms) (hq : pc + 3 = q) (kk : gV z (gup g b (.inr (ci, fun j => defaultValue (ty j)))) (kc + 1) (ks + N) q lo (.ref b :: st)) : gV z g kc ks pc lo st := by
  obtain ⟨p, l', e, R, s, m, args, below, meth, c, Q, D, dA, xad, ad0, g0⟩ := z
  obtain ⟨rfl, hx, hb, hml, hown, hts, hF, hr, hlk, rfl⟩ := E
  subst hq
  intro hst hlo ad H locs ls hW hl
  obtain ⟨hO, hS, hx1, hag⟩ := hW
  obtain ⟨ws, hP, hD, hpush⟩ := hO.push hb0 hb9
  have hmono : ∀ n9, g n9 ≠ none → gup g b (.inr (ci, fun j => defaultValue (ty j))) n9 ≠ none := fun n9 h => gup_dom h
  have hdv : ∀ (a9 : Nat → Nat) (t9 : FieldType), gmv a9 (defaultValue t9) = defaultValue t9 := fun a9 t9 => by cases t9 <;> rfl
  refine va_new (D := D) (cl := gCl) (tys := gTys dA) (ci := ci) (C := C) (T := T) (N := N) (fs := (List.range (gN ci)).map (fun k => gmv ad (defaultValue (ty k)))) hx hb hts hci.2.1 ty hci.2.2.1 hown (hts _ hlink) (hts _ hinst) (hts _ hini) hF.1 hP hD hS (fun q h => Or.inr h) hci.1 (fun j hj => ?_) h1 h2 d (fun q9 H1 hP1 hD1 hS1 => ?_)
  · rw [gN_of hci]
    unfold vp_V
    rw [List.getD_eq_getElem?_getD, gfs_at (F := fun k => defaultValue (ty k)) hj]
    exact (hdv ad _).symm
  · have hag2 : ∀ n9, gok g n9 → va_up ad b q9 n9 = ad n9 := by
      intro n9 hn9
      refine if_neg fun e9 => ?_
      subst e9
      rcases hn9 with h | h
      · omega
      · exact h hb0
    have hO1 := hpush (.inr (ci, fun j => defaultValue (ty j))) q9 H1 (fun k => gcv_dflt (ty k)) hP1 hD1
    have h9 := kk ⟨Or.inr (by rw [gup_s]; exact fun h => by cases h), gcL_mono hmono hst⟩ (gcO_mono hmono hlo) (va_up ad b q9) H1 locs ls ⟨hO1, hS1, fun k hk => by rw [hag2 k (Or.inl hk)]; exact hx1 k hk, fun k hk => ⟨gup_dom (hag k hk).1, by rw [hag2 k (Or.inr (hag k hk).1)]; exact (hag k hk).2⟩⟩ (hl.ext hlo hag2)
    rw [List.map_cons, gmvL_ext hag2 hst, show gmv (va_up ad b q9) (.ref b) = .ref q9 from congrArg Value.ref (if_pos rfl)] at h9
    exact h9
theorem g_newaI (E : gEv z l cc nL own ret fr mc ms lc) {i : Int32} {n : Nat} (d : decode cc pc = .ok (.newarray .int, 2)) (hw : Cond.arrayClass .int ∈ lw_all) (hi : i = nI n) (hn : n < 65536) (b : Nat) (hb0 : g b = none) (hb9 : 1000 ≤ b) (h1 : kc + 1 ≤ mc) (h2 : ks + n ≤ ms) (hq : pc + 2 = q) (kk : gV z (gup g b (.inl (0, n, .inl (fun _ => 0)))) (kc + 1) (ks + n) q lo (.ref b :: st)) : gV z g kc ks pc lo (.int i :: st) := by
  obtain ⟨p, l', e, R, s, m, args, below, meth, c, Q, D, dA, xad, ad0, g0⟩ := z
  obtain ⟨rfl, hx, hb, hml, hown, hts, hF, hr, hlk, rfl⟩ := E
  subst hq
  subst hi
  intro hst hlo ad H locs ls hW hl
  obtain ⟨hO, hS, hx1, hag⟩ := hW
  obtain ⟨ws, hP, hD, hpush⟩ := hO.push hb0 hb9
  have hmono : ∀ n9, g n9 ≠ none → gup g b (.inl (0, n, .inl (fun _ => 0))) n9 ≠ none := fun n9 h => gup_dom h
  refine va_newa (D := D) (cl := gCl) (tys := gTys dA) (atype := .int) (ty := .int) (N' := n) (a0 := (n, .inl (fun _ => 0))) hx hb (hts _ hw) rfl hF.1 hP hD hS (fun q h => Or.inr h) (fun cA => rfl) (nI_pos (by omega)) (nI_clamp (by omega)) (by show n * _ ≤ _; simp only [componentBytes]; omega) h1 h2 d (fun q9 cA H1 hK1 hP1 hD1 hS1 => ?_)
  have hcA : cA = dA 0 := by
    have e1 := (hF.1.2 0 (dA 0, .int) rfl).2
    have e2 := (hK1.2 10 (cA, .int) rfl).2
    have e1 : s.vm.findClass ("[" ++ (FieldType.int).toString) = some (dA 0) := e1
    have e2 : s.vm.findClass ("[" ++ (FieldType.int).toString) = some cA := e2
    exact Option.some.inj (e2.symm.trans e1)
  subst hcA
  have hag2 : ∀ n9, gok g n9 → va_up ad b q9 n9 = ad n9 := by
    intro n9 hn9
    refine if_neg fun e9 => ?_
    subst e9
    rcases hn9 with h | h
    · omega
    · exact h hb0
  have hO1 := hpush (.inl (0, n, .inl (fun _ => 0))) q9 H1 trivial hP1 hD1
  have h9 := kk ⟨Or.inr (by rw [gup_s]; exact fun h => by cases h), gcL_mono hmono hst.2⟩ (gcO_mono hmono hlo) (va_up ad b q9) H1 locs ls ⟨hO1, hS1, fun k hk => by rw [hag2 k (Or.inl hk)]; exact hx1 k hk, fun k hk => ⟨gup_dom (hag k hk).1, by rw [hag2 k (Or.inr (hag k hk).1)]; exact (hag k hk).2⟩⟩ (hl.ext hlo hag2)
  rw [List.map_cons, gmvL_ext hag2 hst.2, show gmv (va_up ad b q9) (.ref b) = .ref q9 from congrArg Value.ref (if_pos rfl)] at h9
  exact h9
theorem g_newaB (E : gEv z l cc nL own ret fr mc ms lc) {i : Int32} {n : Nat} (d : decode cc pc = .ok (.newarray .byte, 2)) (hw : Cond.arrayClass .byte ∈ lw_all) (hi : i = nI n) (hn : n < 65536) (b : Nat) (hb0 : g b = none) (hb9 : 1000 ≤ b) (h1 : kc + 1 ≤ mc) (h2 : ks + n ≤ ms) (hq : pc + 2 = q) (kk : gV z (gup g b (.inl (1, n, .inl (fun _ => 0)))) (kc + 1) (ks + n) q lo (.ref b :: st)) : gV z g kc ks pc lo (.int i :: st) := by
  obtain ⟨p, l', e, R, s, m, args, below, meth, c, Q, D, dA, xad, ad0, g0⟩ := z
  obtain ⟨rfl, hx, hb, hml, hown, hts, hF, hr, hlk, rfl⟩ := E
  subst hq
  subst hi
  intro hst hlo ad H locs ls hW hl
  obtain ⟨hO, hS, hx1, hag⟩ := hW
  obtain ⟨ws, hP, hD, hpush⟩ := hO.push hb0 hb9
  have hmono : ∀ n9, g n9 ≠ none → gup g b (.inl (1, n, .inl (fun _ => 0))) n9 ≠ none := fun n9 h => gup_dom h
  refine va_newa (D := D) (cl := gCl) (tys := gTys dA) (atype := .byte) (ty := .byte) (N' := n) (a0 := (n, .inl (fun _ => 0))) hx hb (hts _ hw) rfl hF.1 hP hD hS (fun q h => Or.inr h) (fun cA => rfl) (nI_pos (by omega)) (nI_clamp (by omega)) (by show n * _ ≤ _; simp only [componentBytes]; omega) h1 h2 d (fun q9 cA H1 hK1 hP1 hD1 hS1 => ?_)
  have hcA : cA = dA 1 := by
    have e1 := (hF.1.2 1 (dA 1, .byte) rfl).2
    have e2 := (hK1.2 10 (cA, .byte) rfl).2
    have e1 : s.vm.findClass ("[" ++ (FieldType.byte).toString) = some (dA 1) := e1
    have e2 : s.vm.findClass ("[" ++ (FieldType.byte).toString) = some cA := e2
    exact Option.some.inj (e2.symm.trans e1)
  subst hcA
  have hag2 : ∀ n9, gok g n9 → va_up ad b q9 n9 = ad n9 := by
    intro n9 hn9
    refine if_neg fun e9 => ?_
    subst e9
    rcases hn9 with h | h
    · omega
    · exact h hb0
  have hO1 := hpush (.inl (1, n, .inl (fun _ => 0))) q9 H1 trivial hP1 hD1
  have h9 := kk ⟨Or.inr (by rw [gup_s]; exact fun h => by cases h), gcL_mono hmono hst.2⟩ (gcO_mono hmono hlo) (va_up ad b q9) H1 locs ls ⟨hO1, hS1, fun k hk => by rw [hag2 k (Or.inl hk)]; exact hx1 k hk, fun k hk => ⟨gup_dom (hag k hk).1, by rw [hag2 k (Or.inr (hag k hk).1)]; exact (hag k hk).2⟩⟩ (hl.ext hlo hag2)
  rw [List.map_cons, gmvL_ext hag2 hst.2, show gmv (va_up ad b q9) (.ref b) = .ref q9 from congrArg Value.ref (if_pos rfl)] at h9
  exact h9
theorem g_newaC (E : gEv z l cc nL own ret fr mc ms lc) {i : Int32} {n : Nat} (d : decode cc pc = .ok (.newarray .char, 2)) (hw : Cond.arrayClass .char ∈ lw_all) (hi : i = nI n) (hn : n < 65536) (b : Nat) (hb0 : g b = none) (hb9 : 1000 ≤ b) (h1 : kc + 1 ≤ mc) (h2 : ks + n ≤ ms) (hq : pc + 2 = q) (kk : gV z (gup g b (.inl (2, n, .inl (fun _ => 0)))) (kc + 1) (ks + n) q lo (.ref b :: st)) : gV z g kc ks pc lo (.int i :: st) := by
  obtain ⟨p, l', e, R, s, m, args, below, meth, c, Q, D, dA, xad, ad0, g0⟩ := z
  obtain ⟨rfl, hx, hb, hml, hown, hts, hF, hr, hlk, rfl⟩ := E
  subst hq
  subst hi
  intro hst hlo ad H locs ls hW hl
  obtain ⟨hO, hS, hx1, hag⟩ := hW
  obtain ⟨ws, hP, hD, hpush⟩ := hO.push hb0 hb9
  have hmono : ∀ n9, g n9 ≠ none → gup g b (.inl (2, n, .inl (fun _ => 0))) n9 ≠ none := fun n9 h => gup_dom h
  refine va_newa (D := D) (cl := gCl) (tys := gTys dA) (atype := .char) (ty := .char) (N' := n) (a0 := (n, .inl (fun _ => 0))) hx hb (hts _ hw) rfl hF.1 hP hD hS (fun q h => Or.inr h) (fun cA => rfl) (nI_pos (by omega)) (nI_clamp (by omega)) (by show n * _ ≤ _; simp only [componentBytes]; omega) h1 h2 d (fun q9 cA H1 hK1 hP1 hD1 hS1 => ?_)
  have hcA : cA = dA 2 := by
    have e1 := (hF.1.2 2 (dA 2, .char) rfl).2
    have e2 := (hK1.2 10 (cA, .char) rfl).2
    have e1 : s.vm.findClass ("[" ++ (FieldType.char).toString) = some (dA 2) := e1
    have e2 : s.vm.findClass ("[" ++ (FieldType.char).toString) = some cA := e2
    exact Option.some.inj (e2.symm.trans e1)
  subst hcA
  have hag2 : ∀ n9, gok g n9 → va_up ad b q9 n9 = ad n9 := by
    intro n9 hn9
    refine if_neg fun e9 => ?_
    subst e9
    rcases hn9 with h | h
    · omega
    · exact h hb0
  have hO1 := hpush (.inl (2, n, .inl (fun _ => 0))) q9 H1 trivial hP1 hD1
  have h9 := kk ⟨Or.inr (by rw [gup_s]; exact fun h => by cases h), gcL_mono hmono hst.2⟩ (gcO_mono hmono hlo) (va_up ad b q9) H1 locs ls ⟨hO1, hS1, fun k hk => by rw [hag2 k (Or.inl hk)]; exact hx1 k hk, fun k hk => ⟨gup_dom (hag k hk).1, by rw [hag2 k (Or.inr (hag k hk).1)]; exact (hag k hk).2⟩⟩ (hl.ext hlo hag2)
  rw [List.map_cons, gmvL_ext hag2 hst.2, show gmv (va_up ad b q9) (.ref b) = .ref q9 from congrArg Value.ref (if_pos rfl)] at h9
  exact h9
theorem g_newaL (E : gEv z l cc nL own ret fr mc ms lc) {i : Int32} {n : Nat} (d : decode cc pc = .ok (.newarray .long, 2)) (hw : Cond.arrayClass .long ∈ lw_all) (hi : i = nI n) (hn : n < 65536) (b : Nat) (hb0 : g b = none) (hb9 : 1000 ≤ b) (h1 : kc + 1 ≤ mc) (h2 : ks + n ≤ ms) (hq : pc + 2 = q) (kk : gV z (gup g b (.inl (3, n, .inr (.inl (fun _ => 0))))) (kc + 1) (ks + n) q lo (.ref b :: st)) : gV z g kc ks pc lo (.int i :: st) := by
  obtain ⟨p, l', e, R, s, m, args, below, meth, c, Q, D, dA, xad, ad0, g0⟩ := z
  obtain ⟨rfl, hx, hb, hml, hown, hts, hF, hr, hlk, rfl⟩ := E
  subst hq
  subst hi
  intro hst hlo ad H locs ls hW hl
  obtain ⟨hO, hS, hx1, hag⟩ := hW
  obtain ⟨ws, hP, hD, hpush⟩ := hO.push hb0 hb9
  have hmono : ∀ n9, g n9 ≠ none → gup g b (.inl (3, n, .inr (.inl (fun _ => 0)))) n9 ≠ none := fun n9 h => gup_dom h
  refine va_newa (D := D) (cl := gCl) (tys := gTys dA) (atype := .long) (ty := .long) (N' := n) (a0 := (n, .inr (.inl (fun _ => 0)))) hx hb (hts _ hw) rfl hF.1 hP hD hS (fun q h => Or.inr h) (fun cA => rfl) (nI_pos (by omega)) (nI_clamp (by omega)) (by show n * _ ≤ _; simp only [componentBytes]; omega) h1 h2 d (fun q9 cA H1 hK1 hP1 hD1 hS1 => ?_)
  have hcA : cA = dA 3 := by
    have e1 := (hF.1.2 3 (dA 3, .long) rfl).2
    have e2 := (hK1.2 10 (cA, .long) rfl).2
    have e1 : s.vm.findClass ("[" ++ (FieldType.long).toString) = some (dA 3) := e1
    have e2 : s.vm.findClass ("[" ++ (FieldType.long).toString) = some cA := e2
    exact Option.some.inj (e2.symm.trans e1)
  subst hcA
  have hag2 : ∀ n9, gok g n9 → va_up ad b q9 n9 = ad n9 := by
    intro n9 hn9
    refine if_neg fun e9 => ?_
    subst e9
    rcases hn9 with h | h
    · omega
    · exact h hb0
  have hO1 := hpush (.inl (3, n, .inr (.inl (fun _ => 0)))) q9 H1 trivial hP1 hD1
  have h9 := kk ⟨Or.inr (by rw [gup_s]; exact fun h => by cases h), gcL_mono hmono hst.2⟩ (gcO_mono hmono hlo) (va_up ad b q9) H1 locs ls ⟨hO1, hS1, fun k hk => by rw [hag2 k (Or.inl hk)]; exact hx1 k hk, fun k hk => ⟨gup_dom (hag k hk).1, by rw [hag2 k (Or.inr (hag k hk).1)]; exact (hag k hk).2⟩⟩ (hl.ext hlo hag2)
  rw [List.map_cons, gmvL_ext hag2 hst.2, show gmv (va_up ad b q9) (.ref b) = .ref q9 from congrArg Value.ref (if_pos rfl)] at h9
  exact h9
theorem g_newq (E : gEv z l cc nL own ret fr mc ms lc) {i : Int32} {n t idx : Nat} {C9 : String} (d : decode cc pc = .ok (.anewarray idx, 3)) (ht : ∀ dA, ((gTys dA)[t]?).map (fun x => x.2) = some (.object C9)) (hlink : Cond.classLink own idx C9 ∈ lw_all) (hw : Cond.arrayOver (.object C9) ∈ lw_tbl) (hi : i = nI n) (hn : n < 65536) (b : Nat) (hb0 : g b = none) (hb9 : 1000 ≤ b) (h1 : kc + 1 ≤ mc) (h2 : ks + n ≤ ms) (hq : pc + 3 = q) (kk : gV z (gup g b (.inl (t, n, .inr (.inr (.inr (.inr (fun _ => none))))))) (kc + 1) (ks + n) q lo (.ref b :: st)) : gV z g kc ks pc lo (.int i :: st) := by
  obtain ⟨p, l', e, R, s, m, args, below, meth, c, Q, D, dA, xad, ad0, g0⟩ := z
  obtain ⟨rfl, hx, hb, hml, hown, hts, hF, hr, hlk, rfl⟩ := E
  subst hq
  subst hi
  intro hst hlo ad H locs ls hW hl
  obtain ⟨hO, hS, hx1, hag⟩ := hW
  obtain ⟨ws, hP, hD, hpush⟩ := hO.push hb0 hb9
  have hmono : ∀ n9, g n9 ≠ none → gup g b (.inl (t, n, .inr (.inr (.inr (.inr (fun _ => none)))))) n9 ≠ none := fun n9 h => gup_dom h
  refine va_newq (D := D) (cl := gCl) (tys := gTys dA) (C := C9) (N' := n) hx hb hown (hts _ hlink) (hF.2.2.1 C9 hw) hF.1 hP hD hS (fun q h => Or.inr h) (nI_pos (by omega)) (nI_clamp (by omega)) (by omega) h1 h2 d (fun q9 cA H1 hK1 hP1 hD1 hS1 => ?_)
  have ht9 : (gTys dA)[t]? = some (dA t, .object C9) := gTys_at (ht dA)
  have hcA : cA = dA t := by
    obtain ⟨k1, c1, e1, e2, e3, e4⟩ := (hF.1.2 t (dA t, .object C9) ht9).2
    obtain ⟨k2, c2, f1, f2, f3, f4⟩ := (hK1.2 10 (cA, .object C9) rfl).2
    exact Option.some.inj (f4.symm.trans e4)
  subst hcA
  have hag2 : ∀ n9, gok g n9 → va_up ad b q9 n9 = ad n9 := by
    intro n9 hn9
    refine if_neg fun e9 => ?_
    subst e9
    rcases hn9 with h | h
    · omega
    · exact h hb0
  have hO1 := hpush (.inl (t, n, .inr (.inr (.inr (.inr (fun _ => none)))))) q9 H1 (fun i n9 h => by cases h) hP1 hD1
  have h9 := kk ⟨Or.inr (by rw [gup_s]; exact fun h => by cases h), gcL_mono hmono hst.2⟩ (gcO_mono hmono hlo) (va_up ad b q9) H1 locs ls ⟨hO1, hS1, fun k hk => by rw [hag2 k (Or.inl hk)]; exact hx1 k hk, fun k hk => ⟨gup_dom (hag k hk).1, by rw [hag2 k (Or.inr (hag k hk).1)]; exact (hag k hk).2⟩⟩ (hl.ext hlo hag2)
  rw [List.map_cons, gmvL_ext hag2 hst.2, show gmv (va_up ad b q9) (.ref b) = .ref q9 from congrArg Value.ref (if_pos rfl)] at h9
  exact h9
end GH
