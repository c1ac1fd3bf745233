/-! THE CORE, seventh: a call of a method of the direct superclass that it has from its own superclass -/
set_option maxRecDepth 100000
section GX
variable {p : Program} {l : Launch} {e : Env} {R : Room} {s : State} {m : MethodId} {args : Array Value} {below : List Frame} {meth : Method} {c : Code}
theorem su_call {T : State} {locs : List Loc} {cells slots : Nat} (X : Stand p l e R s m args below meth c T locs cells slots) (hexec : p.tables.exec = Jvm.exec) {own : String} {index : Nat} {x y : MethodName} {bytes : ByteArray} {maxL : Nat} {ret : Option FieldType}
    (hown : s.vm.findClass own = some m.cls) (hlink : (Cond.methodLink own index x).before args s = true) (hyx : y = ⟨y.cls, x.name, x.desc⟩) (hsame : (Cond.sameMethod x.cls y.cls x.name x.desc).before args s = true) (hsup : (Cond.superclass own x.cls).before args s = true) (hsup2 : (Cond.superclass x.cls y.cls).before args s = true)
    (hinst : (Cond.instanceMethod y).before args s = true) (hcode : (Cond.code y bytes maxL ret).before args s = true) (hno : x.name ≠ "<init>")
    {W : Nat} {Pre : Pt → Array Value → Prop} {Post : Pt → Array Value → Option Value → Pt → Prop} (hK : Back l R p e below s args y 3 W Pre Post)
    {b : Addr} {cellB : Cell} {kB : Class} (hcell : T.heap[b]? = some cellB) (hobj : cellB.vm.isStatics = false) (hkB : s.vm.classes[cellB.cls]? = some kB)
    {g : JFrame} (hg : g.method = m) (hsize : g.locals.size = c.maxLocals) {argsL rest : List Value} (hlen : ∀ sig, parseMethodDescriptor y.desc = some sig → argsL.length = sig.parameters.length)
    (hstack : g.stack = argsL.reverse ++ .ref b :: rest) (hW : 2 * g.monitorRoom + (rest.map fun v => v.category).sum ≤ W) (hdg : decode c.code g.pc = .ok (.invokespecial index, 3))
    (hpre : ∀ vm₁, s.WarmedH vm₁ → Pre ⟨T.setVm vm₁, locs, cells, slots⟩ (Value.ref b :: argsL).toArray) :
    ∃ (v : Option Value) (vm₁ : Vm) (B : Pt), s.WarmedH vm₁ ∧ Stand p l e R s m args below meth c B.U B.locs B.cells B.slots ∧ Post ⟨T.setVm vm₁, locs, cells, slots⟩ (Value.ref b :: argsL).toArray v B ∧
      ∀ target, Steps p.tables e below (B.U.setTop { g with pc := g.pc + 3, stack := v.toList ++ rest }) target → Steps p.tables e below (T.setTop g) target := by
  obtain ⟨mk, methM, hnamed, hmethM, hstM, habM⟩ := Cond.instanceMethod_spec hinst
  obtain ⟨methM', cM, hmethM', -, -, -, -, -, -, hsigM⟩ := Cond.code_spec hnamed hcode
  cases hmethM.symm.trans hmethM'
  obtain ⟨ps, dk, kp, hps, hdk, hkp, hsuper, -, -, hnid⟩ := Cond.superclass_spec hown hsup
  obtain ⟨ps2, kp', kp2, hps2, hkp', hkp2, hsuper2, -⟩ := Cond.superclass_spec hps hsup2
  cases hkp.symm.trans hkp'
  have hn : s.methodNamed? ⟨y.cls, x.name, x.desc⟩ = some mk := by rw [← hyx]; exact hnamed
  have hpm : ps2 = mk.cls := Option.some.inj (hps2.symm.trans (findClass_of_methodNamed hnamed))
  have hsub : s.vm.isSubclass ps mk.cls = true := by
    have hlt : ps < s.vm.classes.size := (Array.getElem?_eq_some_iff.mp hkp).1
    obtain ⟨n, hn⟩ : ∃ n, s.vm.classes.size = n + 1 := ⟨s.vm.classes.size - 1, (Nat.sub_add_cancel (Nat.succ_le_of_lt (Nat.lt_of_le_of_lt (Nat.zero_le _) hlt))).symm⟩
    rw [← hpm]
    simp [Vm.isSubclass, hn, Vm.isSubclassAux, hkp, hsuper2]
  obtain ⟨vm₁, X₁, hstep₁⟩ := X.invokespecialUp hexec hown hlink hsame hn hmethM hstM habM hno hdk hnid hps hsuper hsub (a := b) (cell := cellB) hcell
    (fun z h => by rw [h] at hobj; cases hobj) hkB (g := g) hg (argsL := argsL) (rest := rest) (hlen _ hsigM) hstack hdg
  obtain ⟨v, B, X', hpost, hsteps⟩ := hK m meth c ⟨T.setVm vm₁, locs, cells, slots⟩ { g with stack := rest } (.invokespecial index) mk (Value.ref b :: argsL).toArray X₁ hg hsize hdg hW (X₁.named hnamed) (hpre vm₁ X₁.warmed)
  exact ⟨v, vm₁, B, X₁.warmed, X', hpost, fun target h => hstep₁ _ (by rw [doInvoke_state]; exact hsteps.trans h)⟩
variable {H : Heap} {locs : List Loc} {cells slots : Nat}
theorem su_run {x y : MethodName} {bytes cc : ByteArray} {maxL nL mc ms n index : Nat} {ret : Option FieldType} {ws ws' : List Cond} {rm : Room} {Pc : Array Value → State → Prop} {Qc : Array Value → State → Outcome → State → Prop} {free : Addr → Prop} {Ts : List Cond} {own C : String} {cC : ClassId} {b : Addr} {As rest : List Value} {g : JFrame}
    (hat : ClassAt s C cC) (S : CallFix p m c cc nL s args Ts own) (hM : Met l y ws rm Pc Qc mc ms free) (hG : GoodIn Ts ws) (hw : ws = Cond.code y bytes maxL ret :: ws') (hrc : rm.cells = mc) (hrs : rm.slots = ms) (hR : rm.frames + 1 ≤ R.frames ∧ 8 + (maxL + 11) + rm.locals ≤ R.locals)
    (hyx : y = ⟨y.cls, x.name, x.desc⟩) (h1 : (Cond.methodLink own index x).before args s = true) (h2 : (Cond.sameMethod x.cls y.cls x.name x.desc).before args s = true) (h3 : (Cond.superclass own x.cls).before args s = true) (h3b : (Cond.superclass x.cls y.cls).before args s = true) (h4 : (Cond.instanceMethod y).before args s = true) (h5 : (Cond.initialized y.cls).before args s = true)
    (hd : x.name ≠ "<init>" ∧ (parseMethodDescriptor y.desc).map (fun d => d.parameters.length) = some n) (hp : PreV s H C b Pc As)
    (hg : g.method = m) (hn : As.length = n) (hsize : g.locals.size = nL) (hstack : g.stack = As.reverse ++ .ref b :: rest) (hW : 2 * g.monitorRoom + (rest.map fun v => v.category).sum ≤ 8) (hdg : decode cc g.pc = .ok (.invokespecial index, 3)) (hf : cells + mc ≤ R.cells ∧ slots + ms ≤ R.slots) :
    va_Run p l e R s m args below meth c H locs cells slots mc ms g rest (Qc (Value.ref b :: As).toArray) (free) := by
  obtain ⟨hx, hb, hml, ho, hT9⟩ := S
  have hc : Cond.code y bytes maxL ret ∈ ws := by rw [hw]; exact List.mem_cons_self
  have hcode : (Cond.code y bytes maxL ret).before args s = true := hT9 _ (hG _ hc).1
  have hK : Back l R p e below s args y 3 8 (PreOf R mc ms Pc) (PostOf Qc mc ms free) := back_of (bytes := bytes) (maxL := maxL) (ret := ret) hM hp.1 hrc hrs hR.1 hR.2 (pay_in hT9 hG) hc (fun a' U hW => word_at hW (Or.inl (by first | rfl | simp [Cond.onTables, Cond.keeps, Cond.steady])) h5)
  obtain ⟨-, ⟨cellB, hcB, hoB, hclB⟩, hPc⟩ := hp
  obtain ⟨hfc, kB, hkB, -⟩ := hat
  cases hfc.symm.trans hclB
  have hlen : ∀ sig, parseMethodDescriptor y.desc = some sig → n = sig.parameters.length := fun sig h => by
    have h2 := hd.2
    rw [h] at h2
    exact (Option.some.inj h2).symm
  intro T hT X
  obtain ⟨v, vm₁, ⟨U', l2, c2, s2⟩, hW₁, X', ⟨g', mk, t, L, e1, e2, hq, q1, hL, q2, q3⟩, st⟩ := su_call X hx (bytes := bytes) (maxL := maxL) (ret := ret) ho h1 hyx h2 h3 h3b h4 hcode hd.1 hK (by rw [hT]; exact hcB) hoB hkB hg (hsize.trans hml.symm) (argsL := As) (rest := rest) (fun sig h => hn.trans (hlen sig h)) hstack hW (by rw [hb]; exact hdg)
    (fun vm₁ hW₁ => ⟨hf.1, hf.2, hPc (T.setVm vm₁) hT hW₁⟩)
  dsimp only [Pt.U, Pt.locs, Pt.cells, Pt.slots] at X' e1 e2 q1 q2 q3 st
  subst q1; subst q2; subst q3
  exact ⟨v, (T.setVm vm₁).calling g' mk (Value.ref b :: As).toArray, t, U', L, hT, X', hL, e1, e2, hq, st⟩
end GX
section GX2
variable {z : gZ} {l : Launch} {cc : ByteArray} {nL : Nat} {own : String} {ret : Option FieldType} {fr mc ms lc : Nat} {g : gWM} {kc ks pc q : Nat} {lo : List (Option Value)} {st : List Value}
variable {x y : MethodName} {cc1 : ByteArray} {nL1 : Nat} {ret1 : Option FieldType} {fr1 mc1 ms1 lc1 : Nat} {av : List Value} {Qr : Option Value → gWM → Prop}
theorem g_callSX (E : gEv z l cc nL own ret fr mc ms lc) {n9 idx k ci N : Nat} {C : String} {T : u_T} {ty : Nat → FieldType} {F : Nat → Value} (hC : gCt l y cc1 nL1 ret1 fr1 mc1 ms1 lc1 (.ref k :: av) g Qr) (hci : gCI ci C T ty N) (d : decode cc pc = .ok (.invokespecial idx, 3)) (hk : g k = some (.inr (ci, F))) (hyx : y = ⟨y.cls, x.name, x.desc⟩) (w1 : Cond.methodLink own idx x ∈ lw_all) (w2 : Cond.sameMethod x.cls y.cls x.name x.desc ∈ lw_all) (w3 : Cond.superclass own x.cls ∈ lw_all) (w3b : Cond.superclass x.cls y.cls ∈ lw_all) (w4 : Cond.instanceMethod y ∈ lw_all) (w5 : Cond.initialized y.cls ∈ lw_all) (w6 : Cond.code y cc1 nL1 ret1 ∈ lw_all) (hd : x.name ≠ "<init>" ∧ (parseMethodDescriptor y.desc).map (fun d => d.parameters.length) = some n9) (hn9 : av.length = n9) {st0 : List Value} (hs0 : st0 = av.reverse ++ .ref k :: st) (hR : fr1 + 1 ≤ fr ∧ 8 + (nL1 + 11) + lc1 ≤ lc) (hf : kc + mc1 ≤ mc ∧ ks + ms1 ≤ ms) (hroom : gcat st ≤ 8) (hq : pc + 3 = q) (kk : ∀ v g1, Qr v g1 → gV z g1 (kc + mc1) (ks + ms1) q lo (v.toList ++ st)) : gV z g kc ks pc lo st0 := by
  obtain ⟨p, l', e, R, s, m, args, below, meth, c, Q, D, dA, xad, ad0, g0⟩ := z
  obtain ⟨rfl, hx, hb, hml, hown, hts, hF, hr, hlk, rfl⟩ := E
  subst hq
  subst hs0
  subst hn9
  intro hst hlo ad H locs ls hW hl
  obtain ⟨hav, hst1⟩ := gcL_split hst
  refine gBack (a := (Value.ref (ad k) :: av.map (gmv ad)).toArray) hW hlo hst1 hl ?_ kk
  exact su_run (C := C) (cC := D.1 ci) (hF.1.1 ci _ hci.1).2 (As := av.map (gmv ad)) (rest := st.map (gmv ad)) (nL := nL) ⟨hx, hb, hml, hown, hts⟩ (hC D dA xad ad H.size) (lw_meth w6) rfl rfl rfl hR hyx (hts _ w1) (hts _ w2) (hts _ w3) (hts _ w3b) (hts _ w4) (hts _ w5) hd (gPreV hF hW hav hk hci) rfl (by rw [List.length_map]) (by rw [← hml]; exact hl.1) (gstk ad av (.ref k) st) (lv_room (by rw [gcat_map]; exact hroom)) d hf
end GX2
